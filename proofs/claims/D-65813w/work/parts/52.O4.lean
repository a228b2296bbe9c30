/-! PatternPairs: first -/
/-- what holds while the pairs are gone through -/
def BI (d : Int → Int → Int) (s0 : Int) (P : List Int → Bool) (q c n : Int) (seen : Int → Bool) (queue before by_ : Int → Int) (we : Int → List Int) : Prop :=
  Bq d s0 n queue before by_ we ∧ Pd d 1 q c n queue we ∧ before 0 = -1 ∧ (∀ x, 0 ≤ x → x < 40401 → (seen x = true ↔ ∃ j, 1 ≤ j ∧ j < n ∧ queue j = x)) ∧ (∀ j, 1 ≤ j → j < n → P (we j) = false) ∧ (∀ i j, 1 ≤ i → i < n → 1 ≤ j → j < n → queue i = queue j → i = j) ∧ ∀ j, 0 ≤ j → j < n → 0 ≤ queue j ∧ queue j < 40401
section BFSI
variable {d : Int → Int → Int} {s0 : Int} {P : List Int → Bool} {q c n : Int} {seen : Int → Bool} {queue before by_ : Int → Int} {we : Int → List Int}
theorem BI.cnt (h : BI d s0 P q c n seen queue before by_ we) : 1 ≤ n ∧ n ≤ 40402 := by
  obtain ⟨h1, h2, h3, h4, h5, h6, h7⟩ := h
  have := inj_le (f := fun i => queue (i + 1)) (n := n - 1) (m := 40401) (by decide) (fun i i0 i1 => h7 (i + 1) (by omega) (by omega)) (fun i j i0 i1 j0 j1 e => by have := h6 (i + 1) (j + 1) (by omega) (by omega) (by omega) (by omega) e; omega)
  exact ⟨h1.1, by omega⟩
theorem BI.room (h : BI d s0 P q c n seen queue before by_ we) {x : Int} (x0 : 0 ≤ x) (x1 : x < 40401) (hx : seen x = false) : n < 40402 := by
  obtain ⟨h1, h2, h3, h4, h5, h6, h7⟩ := h
  have hn : ∀ j, 1 ≤ j → j < n → queue j ≠ x := fun j j0 j1 e => by
    have := (h4 x x0 x1).mpr ⟨j, j0, j1, e⟩
    rw [hx] at this; cases this
  have := inj_le (f := fun i => if i = n - 1 then x else queue (i + 1)) (n := n) (m := 40401) (by decide) (fun i i0 i1 => by
      show 0 ≤ (if i = n - 1 then x else queue (i + 1)) ∧ (if i = n - 1 then x else queue (i + 1)) < 40401
      split
      · exact ⟨x0, x1⟩
      · exact h7 (i + 1) (by omega) (by omega)) (fun i j i0 i1 j0 j1 e => by
      have e : (if i = n - 1 then x else queue (i + 1)) = (if j = n - 1 then x else queue (j + 1)) := e
      split at e
      · split at e
        · omega
        · exact absurd e.symm (hn (j + 1) (by omega) (by omega))
      · split at e
        · exact absurd e (hn (i + 1) (by omega) (by omega))
        · have := h6 (i + 1) (j + 1) (by omega) (by omega) (by omega) (by omega) e; omega)
  omega
theorem BI.old (h : BI d s0 P q c n seen queue before by_ we) (hq : q < n) (hx0 : 0 ≤ d (queue q) c) (hx1 : d (queue q) c < 40401) (hx : seen (d (queue q) c) = true) : BI d s0 P q (c + 1) n seen queue before by_ we := by
  obtain ⟨h1, h2, h3, h4, h5, h6, h7⟩ := h
  obtain ⟨i, i0, i1, i2⟩ := (h4 _ hx0 hx1).mp hx
  exact ⟨h1, h2.old h1 hq (by decide) i0 i1 i2, h3, h4, h5, h6, h7⟩
theorem BI.next (h : BI d s0 P q 128 n seen queue before by_ we) (q0 : 0 ≤ q) (hq : q < n) : BI d s0 P (q + 1) 0 n seen queue before by_ we := by
  obtain ⟨h1, h2, h3, h4, h5, h6, h7⟩ := h
  exact ⟨h1, h2.next h1 q0 hq, h3, h4, h5, h6, h7⟩
theorem BI.new (h : BI d s0 P q c n seen queue before by_ we) (q0 : 0 ≤ q) (hq : q < n) (c0 : 0 ≤ c) (c1 : c < 128) {x : Int} (hx : x = d (queue q) c) (x0 : 0 ≤ x) (x1 : x < 40401) (hs : seen x = false) (hP : P (c :: we q) = false) :
    BI d s0 P q (c + 1) (n + 1) (up seen x true) (up queue n x) (up before n q) (up by_ n c) (up we n (c :: we q)) := by
  obtain ⟨h1, h2, h3, h4, h5, h6, h7⟩ := h
  have hn1 := h1.1
  have hn : ∀ j, 1 ≤ j → j < n → queue j ≠ x := fun j j0 j1 e => by
    have := (h4 x x0 x1).mpr ⟨j, j0, j1, e⟩
    rw [hs] at this; cases this
  refine ⟨Bq.new h2 h1 q0 hq c0 c1 hx, h2.new h1 q0 hq (by decide) hx, by rw [up_ne _ _ (by omega)]; exact h3, fun y y0 y1 => ?_, fun j j0 j1 => ?_, fun i j i0 i1 j0 j1 e => ?_, fun j j0 j1 => ?_⟩
  · by_cases e : y = x
    · subst e
      rw [up_same]
      exact ⟨fun _ => ⟨n, by omega, by omega, up_same _ _ _⟩, fun _ => rfl⟩
    · rw [up_ne _ _ e, h4 y y0 y1]
      refine ⟨fun ⟨j, j0, j1, e2⟩ => ⟨j, j0, by omega, by rw [up_ne _ _ (by omega)]; exact e2⟩, fun ⟨j, j0, j1, e2⟩ => ?_⟩
      by_cases e3 : j = n
      · rw [e3, up_same] at e2; exact absurd e2.symm e
      · rw [up_ne _ _ e3] at e2
        exact ⟨j, j0, by omega, e2⟩
  · by_cases e : j = n
    · rw [e, up_same]; exact hP
    · rw [up_ne _ _ e]; exact h5 j j0 (by omega)
  · by_cases ei : i = n
    · by_cases ej : j = n
      · omega
      · rw [ei, up_same, up_ne _ _ ej] at e
        exact absurd e.symm (hn j j0 (by omega))
    · by_cases ej : j = n
      · rw [ej, up_same, up_ne _ _ ei] at e
        exact absurd e (hn i i0 (by omega))
      · rw [up_ne _ _ ei, up_ne _ _ ej] at e
        exact h6 i j i0 (by omega) j0 (by omega) e
  · by_cases e : j = n
    · rw [e, up_same]; exact ⟨x0, x1⟩
    · rw [up_ne _ _ e]; exact h7 j j0 (by omega)
theorem BI.ent (h : BI d s0 P q c n seen queue before by_ we) (q0 : 0 ≤ q) (hqn : q ≤ n) (c1 : c ≤ 128) (hP0 : P [] = false) (hPd : ∀ u v, u ≠ [] → v ≠ [] → Wd u → Wd v → dq d s0 u = dq d s0 v → P u = P v) {u : List Int} (hu : Wd u) (hf : q = n ∨ cr u < 128 * cr (we q) + c) : P u = false := by
  obtain ⟨h1, h2, h3, h4, h5, h6, h7⟩ := h
  by_cases e : u = []
  · rw [e]; exact hP0
  · obtain ⟨i, i0, i1, i2, i3⟩ := bfs_full h2 h1 q0 c1 (by decide) hqn u hu (fun h => absurd h e) hf
    have a := h1.2.2.1 i (by omega) i1
    have b := h1.2.2.2.1 i i0 i1
    rw [hPd u (we i) e (by rw [b.2.2]; exact List.cons_ne_nil _ _) hu a.2 (by rw [← i2, a.1])]
    exact h5 i i0 i1
theorem BI.found (h : BI d s0 P q c n seen queue before by_ we) (q0 : 0 ≤ q) (hq : q < n) (c0 : 0 ≤ c) (c1 : c < 128) (hP0 : P [] = false) (hPd : ∀ u v, u ≠ [] → v ≠ [] → Wd u → Wd v → dq d s0 u = dq d s0 v → P u = P v) (hP : P (c :: we q) = true) (text : Int → Int) (ht : seg text 0 (c :: we q).length = c :: we q) : FirstS P ((c :: we q).length : Int) text := by
  have hw := (h.1.2.2.1 q q0 hq).2
  refine Or.inr ⟨c :: we q, Wd.mk c0 c1 hw, rfl, ht, hP, fun v hv hPv => ?_⟩
  by_cases e : cr (c :: we q) ≤ cr v
  · exact e
  · have e : ¬ 128 * cr (we q) + c ≤ cr v := e
    have := h.ent q0 (by omega) (by omega) hP0 hPd hv (Or.inr (by omega))
    rw [hPv] at this; cases this
end BFSI
/-- the state of a pair's side to which one goes -/
def sdQ (table : Int → Int) (x c : Int) : Int := if x = 200 then -1 else movQ table x c
def dPr (table table' : Int → Int) (p c : Int) : Int := prQ (sdQ table (p / 201) c) (sdQ table' (p % 201) c)
theorem prQ_dec {x y : Int} (x0 : -1 ≤ x) (x1 : x < 200) (y0 : -1 ≤ y) (y1 : y < 200) : 0 ≤ prQ x y ∧ prQ x y < 40401 ∧ prQ x y / 201 = (if x < 0 then 200 else x) ∧ prQ x y % 201 = (if y < 0 then 200 else y) := by
  unfold prQ
  split <;> split <;> omega
theorem prQ_inj {x y x' y' : Int} (x0 : -1 ≤ x) (x1 : x < 200) (y0 : -1 ≤ y) (y1 : y < 200) (x0' : -1 ≤ x') (x1' : x' < 200) (y0' : -1 ≤ y') (y1' : y' < 200) (h : prQ x y = prQ x' y') : x = x' ∧ y = y' := by
  unfold prQ at h
  split at h <;> split at h <;> split at h <;> split at h <;> omega
theorem sdQ_mv {table : Int → Int} {x c : Int} (x1 : x < 200) : sdQ table (if x < 0 then 200 else x) c = movQ table x c := by
  unfold sdQ
  by_cases h : x < 0
  · rw [if_pos h, if_pos rfl]
    unfold movQ
    rw [if_pos h]
  · rw [if_neg h, if_neg (by omega)]
theorem dq_pr {isE isE' : Bool} {table tells table' tells' : Int → Int} {states strt states' strt' : Int} {Lf Ls : List Int → Bool} (hF : SideO isE table tells states strt Lf) (hS : SideO isE' table' tells' states' strt' Ls) : ∀ u, Wd u → dq (dPr table table') (prQ strt strt') u = prQ (dq (movQ table) strt u) (dq (movQ table') strt' u) ∧ (-1 ≤ dq (movQ table) strt u ∧ dq (movQ table) strt u < states) ∧ -1 ≤ dq (movQ table') strt' u ∧ dq (movQ table') strt' u < states'
  | [], _ => ⟨rfl, hF.2.1, hS.2.1⟩
  | b :: u, hu => by
    have ih := dq_pr hF hS u hu.cons.2
    have h1 := hF.1
    have h2 := hS.1
    refine ⟨?_, hF.mv ih.2.1.1 ih.2.1.2 hu.cons.1.1 hu.cons.1.2, hS.mv ih.2.2.1 ih.2.2.2 hu.cons.1.1 hu.cons.1.2⟩
    show dPr table table' (dq (dPr table table') (prQ strt strt') u) b = prQ (movQ table (dq (movQ table) strt u) b) (movQ table' (dq (movQ table') strt' u) b)
    rw [ih.1]
    have hd := prQ_dec ih.2.1.1 (show dq (movQ table) strt u < 200 by omega) ih.2.2.1 (show dq (movQ table') strt' u < 200 by omega)
    unfold dPr
    rw [hd.2.2.1, hd.2.2.2, sdQ_mv (by omega), sdQ_mv (by omega)]
theorem pr_lang {isE isE' : Bool} {table tells table' tells' : Int → Int} {states strt states' strt' : Int} {Lf Ls : List Int → Bool} (hF : SideO isE table tells states strt Lf) (hS : SideO isE' table' tells' states' strt' Ls) (kind : Int) : ∀ u v, u ≠ [] → v ≠ [] → Wd u → Wd v → dq (dPr table table') (prQ strt strt') u = dq (dPr table table') (prQ strt strt') v → wnt kind (Lf u) (Ls u) = wnt kind (Lf v) (Ls v)
  | [], _, h, _, _, _, _ => absurd rfl h
  | _ :: _, [], _, h, _, _, _ => absurd rfl h
  | b :: u, c :: v, _, _, hu, hv, h => by
    have a := dq_pr hF hS (b :: u) hu
    have e := dq_pr hF hS (c :: v) hv
    have h1 := hF.1
    have h2 := hS.1
    rw [a.1, e.1] at h
    have i := prQ_inj a.2.1.1 (by omega) a.2.2.1 (by omega) e.2.1.1 (by omega) e.2.2.1 (by omega) h
    rw [hF.2.2.2.2.2 b u hu, hS.2.2.2.2.2 b u hu, hF.2.2.2.2.2 c v hv, hS.2.2.2.2.2 c v hv, i.1, i.2]
def lenF (r : Int) : Int := if r < 0 then 0 else r
theorem cO_first {Z : Zk} {wr : va_W} (hfl : Z.l.flags = pinnedFlags ++ [noTraceFlag]) {a : Nat → Nat} {tape : Int → Int} {rp : Nat} {seen : Int → Bool} {queue : Int → Int} {before : Int → Int} {by_ : Int → Int} {text : Int → Int} {ways : Int → Int64} {next : Int → Int64} {length : Int} {taped : Int} {place : Int} {aq aA ap : Nat → Nat} {isE : Bool} {sets : Int → Int64} {moves : Int → Int} {accepts : Int → Int} {heads : Int → Int} {chain : Int → Int} {groups : Int → Int} {news : Int → Int} {lives : Int → Bool} {cnt : Int} {table : Int → Int} {tells : Int → Int} {states : Int} {strt : Int} {bq bA bp : Nat → Nat} {isE' : Bool} {sets' : Int → Int64} {moves' accepts' heads' chain' groups' news' : Int → Int} {lives' : Int → Bool} {cnt' : Int} {table' tells' : Int → Int} {states' strt' : Int} {kind : Int} {Lf Ls : List Int → Bool} (hm : inR kind) (hF : SideO isE table tells states strt Lf) (hS : SideO isE' table' tells' states' strt' Ls) :
    Ct Z yX1_first hX1_first 8 230 [.ref (a 0), vI kind] (wO Z a tape (aq 0) (bq 0) rp seen queue before by_ text ways next length taped place ++ (wQ Z aq (ap 0) (aA 0) isE ++ (wA Z aA (ap 0) sets moves accepts heads chain groups news lives cnt table tells states strt ++ (wQ Z bq (bp 0) (bA 0) isE' ++ (wA Z bA (bp 0) sets' moves' accepts' heads' chain' groups' news' lives' cnt' table' tells' states' strt' ++ wr))))) 1 6 (Th (Ri fun r w => (0 ≤ kind ∧ kind ≤ 4) ∧ ∃ se qu be by1 tx, FirstS (fun u => wnt kind (Lf u) (Ls u)) r tx ∧ -1 ≤ r ∧ r ≤ 40402 ∧ w = wO Z a tape (aq 0) (bq 0) rp se qu be by1 tx ways next (lenF r) taped place ++ (wQ Z aq (ap 0) (aA 0) isE ++ (wA Z aA (ap 0) sets moves accepts heads chain groups news lives cnt table tells states strt ++ (wQ Z bq (bp 0) (bA 0) isE' ++ (wA Z bA (bp 0) sets' moves' accepts' heads' chain' groups' news' lives' cnt' table' tells' states' strt' ++ wr))))) (fun x w => ¬ (0 ≤ kind ∧ kind ≤ 4) ∧ ∃ fs, w = (wO Z a tape (aq 0) (bq 0) rp seen queue before by_ text ways next length taped place ++ (wQ Z aq (ap 0) (aA 0) isE ++ (wA Z aA (ap 0) sets moves accepts heads chain groups news lives cnt table tells states strt ++ (wQ Z bq (bp 0) (bA 0) isE' ++ (wA Z bA (bp 0) sets' moves' accepts' heads' chain' groups' news' lives' cnt' table' tells' states' strt' ++ wr))))) ++ [(x, eO 6 fs)])) := by
  refine Ct.of RX1 "first" (by decide +kernel) rfl rfl hkX1_first (Nat.le_of_ble_eq_true rfl) (fun X hZ C => ?_)
  subst hZ
  have hf1 := hF.1
  have hs1 := hS.1
  have hf2 := hF.2.1
  have hs2 := hS.2.1
  have hpl := pr_lang hF hS kind
  have main : (0 ≤ kind ∧ kind ≤ 4) → G X 10 1 6 (wO X.Z a tape (aq 0) (bq 0) rp seen queue before by_ text ways next length taped place ++ (wQ X.Z aq (ap 0) (aA 0) isE ++ (wA X.Z aA (ap 0) sets moves accepts heads chain groups news lives cnt table tells states strt ++ (wQ X.Z bq (bp 0) (bA 0) isE' ++ (wA X.Z bA (bp 0) sets' moves' accepts' heads' chain' groups' news' lives' cnt' table' tells' states' strt' ++ wr))))) 17 [(0, .ref (a 0)), (1, vI kind)] [] := by
    intro hk
    have inner : wnt kind isE isE' = false → ∀ (q : Int), (∀ n se qu be by1 we, BI (dPr table table') (prQ strt strt') (fun u => wnt kind (Lf u) (Ls u)) (q + 1) 0 n se qu be by1 we → q + 1 ≤ n → G X 10 1 6 (wO X.Z a tape (aq 0) (bq 0) rp se qu be by1 text ways next 0 taped place ++ (wQ X.Z aq (ap 0) (aA 0) isE ++ (wA X.Z aA (ap 0) sets moves accepts heads chain groups news lives cnt table tells states strt ++ (wQ X.Z bq (bp 0) (bA 0) isE' ++ (wA X.Z bA (bp 0) sets' moves' accepts' heads' chain' groups' news' lives' cnt' table' tells' states' strt' ++ wr))))) 106 [(0, .ref (a 0)), (1, vI kind), (2, vI n), (3, vI (q + 1))] []) → 0 ≤ q → ∀ (f : Nat) (c n : Int) se qu be by1 we, BI (dPr table table') (prQ strt strt') (fun u => wnt kind (Lf u) (Ls u)) q c n se qu be by1 we → q < n → 0 ≤ c → c + (f : Int) = 128 → G X 10 1 6 (wO X.Z a tape (aq 0) (bq 0) rp se qu be by1 text ways next 0 taped place ++ (wQ X.Z aq (ap 0) (aA 0) isE ++ (wA X.Z aA (ap 0) sets moves accepts heads chain groups news lives cnt table tells states strt ++ (wQ X.Z bq (bp 0) (bA 0) isE' ++ (wA X.Z bA (bp 0) sets' moves' accepts' heads' chain' groups' news' lives' cnt' table' tells' states' strt' ++ wr))))) 138 [(0, .ref (a 0)), (1, vI kind), (2, vI n), (3, vI q), (4, vI (qu q / 201)), (5, vI (qu q % 201)), (6, vI c)] [] := by
      intro hw0 q hq q0 f
      have hP0 : (fun u => wnt kind (Lf u) (Ls u)) [] = false := by
        show wnt kind (Lf []) (Ls []) = false
        rw [hF.2.2.2.2.1, hS.2.2.2.2.1]; exact hw0
      induction f with
      | zero =>
        intro c n se qu be by1 we hB hqn c0 hc
        have hn := hB.cnt
        have e : c = 128 := by omega
        subst e
        have h2 := hq n se qu be by1 we (hB.next q0 hqn) (by omega)
        refine g_iload C dX1_first_138 rfl ?_
        refine g_sipush C dX1_first_140 (by decide) ?_
        refine g_icmp_ge C 294 dX1_first_143 (by decide) (by omega) (fun h143 => ?_) (fun h143 => ?_)
        · refine g_iinc C dX1_first_294 rfl (by decide) ?_
          refine g_goto C 106 dX1_first_297 (by decide) ?_
          exact g_locR rfl h2
        · exact absurd h143 (by omega)
      | succ f ih =>
        intro c n se qu be by1 we hB hqn c0 hc
        have hn := hB.cnt
        have hwq := hB.1.2.2.1 q q0 hqn
        have hd := dq_pr hF hS (we q) hwq.2
        have hqr := prQ_dec hd.2.1.1 (show _ < 200 by omega) hd.2.2.1 (show _ < 200 by omega)
        rw [← hd.1, ← hwq.1] at hqr
        have ea : sdQ table (qu q / 201) c = movQ table (dq (movQ table) strt (we q)) c := by rw [hqr.2.2.1, sdQ_mv (by omega)]
        have eb : sdQ table' (qu q % 201) c = movQ table' (dq (movQ table') strt' (we q)) c := by rw [hqr.2.2.2, sdQ_mv (by omega)]
        obtain ⟨x, hX⟩ : ∃ x, x = sdQ table (qu q / 201) c := ⟨_, rfl⟩
        obtain ⟨y, hY⟩ : ∃ y, y = sdQ table' (qu q % 201) c := ⟨_, rfl⟩
        have ra := hF.mv hd.2.1.1 hd.2.1.2 c0 (show c < 128 by omega)
        have rb := hS.mv hd.2.2.1 hd.2.2.2 c0 (show c < 128 by omega)
        rw [← ea, ← hX] at ra
        rw [← eb, ← hY] at rb
        have qa : 0 ≤ qu q / 201 ∧ qu q / 201 ≤ 200 := by rw [hqr.2.2.1]; split <;> omega
        have qb : 0 ≤ qu q % 201 ∧ qu q % 201 ≤ 200 := by rw [hqr.2.2.2]; split <;> omega
        have hto := prQ_dec ra.1 (show x < 200 by omega) rb.1 (show y < 200 by omega)
        have hx : prQ x y = dPr table table' (qu q) c := by rw [hX, hY]; rfl
        have hwd : Wd (c :: we q) := Wd.mk c0 (by omega) hwq.2
        have hPv : (fun u => wnt kind (Lf u) (Ls u)) (c :: we q) = wnt kind (hasQ isE tells x false) (hasQ isE' tells' y false) := by
          show wnt kind (Lf (c :: we q)) (Ls (c :: we q)) = _
          rw [hF.2.2.2.2.2 c _ hwd, hS.2.2.2.2.2 c _ hwd, hX, hY, ea, eb]
          rfl
        have t250 : se (prQ x y) = false → G X 10 1 6 (wO X.Z a tape (aq 0) (bq 0) rp (up se (prQ x y) true) (up qu n (prQ x y)) (up be n q) (up by1 n c) text ways next 0 taped place ++ (wQ X.Z aq (ap 0) (aA 0) isE ++ (wA X.Z aA (ap 0) sets moves accepts heads chain groups news lives cnt table tells states strt ++ (wQ X.Z bq (bp 0) (bA 0) isE' ++ (wA X.Z bA (bp 0) sets' moves' accepts' heads' chain' groups' news' lives' cnt' table' tells' states' strt' ++ wr))))) 250 [(0, .ref (a 0)), (1, vI kind), (2, vI n), (3, vI q), (4, vI (qu q / 201)), (5, vI (qu q % 201)), (6, vI c), (7, vI x), (8, vI y), (9, vI (prQ x y))] [] := by
          intro hse
          have hrm := hB.room hto.1 hto.2.1 hse
          have hBq := Bq.new hB.2.1 hB.1 q0 hqn c0 (show c < 128 by omega) hx
          have eq1 : up qu n (prQ x y) q = qu q := up_ne _ _ (by omega)
          refine g_iinc C dX1_first_250 rfl (by decide) ?_
          refine g_iload_n C dX1_first_253 rfl ?_
          refine g_aload_n C dX1_first_254 rfl ?_
          refine gO_first C dX1_first_255 ?_
          refine g_iload C dX1_first_258 rfl ?_
          refine g_iconst C dX1_first_260 ?_
          refine g_cVPz C [_, _] _ 9 [9, 10, 11, 12, 13, 14, 15, 16, 17, 18, 19, 20] cal_X1_113 (cQ_has (wr := []) (st := false) ra.1 (by omega) (fun h => hF.2.2.2.1 _ h ra.2)) rfl rfl (by decide) rfl rfl rfl (Nat.le_of_ble_eq_true rfl) (room_b rfl) dX1_first_261 (fun r261 hw261 => ?_)
          subst hw261
          refine g_aload_n C dX1_first_264 rfl ?_
          refine gO_second C dX1_first_265 ?_
          refine g_iload C dX1_first_268 rfl ?_
          refine g_iconst C dX1_first_270 ?_
          refine g_cVPz C [_, _] _ 21 [21, 22, 23, 24, 25, 26, 27, 28, 29, 30, 31, 32] cal_X1_113 (cQ_has (wr := []) (st := false) rb.1 (by omega) (fun h => hS.2.2.2.1 _ h rb.2)) rfl rfl (by decide) rfl rfl rfl (Nat.le_of_ble_eq_true rfl) (room_b rfl) dX1_first_271 (fun r271 hw271 => ?_)
          subst hw271
          refine g_cSWz C [_, _, _] _ cal_X1_120 (cO_wanted hk.1 hk.2) rfl rfl (Nat.le_of_ble_eq_true rfl) (room_b rfl) dX1_first_274 (fun r274 w hw274 => ?_)
          obtain ⟨rfl, rfl⟩ := hw274
          rw [← hPv]
          refine g_if_eq C 288 dX1_first_277 (by decide) (b2_r _) (fun h277 => ?_) (fun h277 => ?_)
          · have hpf := (b2_0 _).mp h277
            have h2 := ih (c + 1) (n + 1) _ _ _ _ _ (hB.new q0 hqn c0 (by omega) hx hto.1 hto.2.1 hse hpf) (by omega) (by omega) (by omega)
            rw [eq1] at h2
            refine g_iinc C dX1_first_288 rfl (by decide) ?_
            refine g_goto C 138 dX1_first_291 (by decide) ?_
            exact g_locR rfl h2
          · have hpt := (b2_ne0 _).mp h277
            refine g_aload_n C dX1_first_280 rfl ?_
            refine g_iload_n C dX1_first_281 rfl ?_
            refine g_iconst C dX1_first_282 ?_
            refine g_isub C dX1_first_283 ?_
            refine g_top (show _ = n from by omega) ?_
            refine g_cVWi C [_] _ 0 cal_X1_127 (cO_tell (n := n + 1) (by omega) (by omega) (by omega) hBq (by rw [up_ne _ _ (by omega)]; exact hB.2.2.1) rfl) rfl rfl rfl rfl (Nat.le_of_ble_eq_true rfl) (room_b rfl) dX1_first_284 (fun r284 w hw284 => ?_)
            obtain ⟨tx, hr, hsg, rfl⟩ := hw284
            rw [up_same] at hr hsg
            have hle := hBq.len n.toNat n (by omega) (by omega) (by omega)
            rw [up_same] at hle
            exact g_iret C rfl (Or.inl ⟨_, rfl, hk, _, _, _, _, tx, (by rw [hr]; exact hB.found q0 hqn c0 (by omega) hP0 hpl hpt tx hsg), by omega, by omega, by rw [up_same, hr]; unfold lenF; rw [if_neg (by omega)]⟩) dX1_first_287
        have t194 : G X 10 1 6 (wO X.Z a tape (aq 0) (bq 0) rp se qu be by1 text ways next 0 taped place ++ (wQ X.Z aq (ap 0) (aA 0) isE ++ (wA X.Z aA (ap 0) sets moves accepts heads chain groups news lives cnt table tells states strt ++ (wQ X.Z bq (bp 0) (bA 0) isE' ++ (wA X.Z bA (bp 0) sets' moves' accepts' heads' chain' groups' news' lives' cnt' table' tells' states' strt' ++ wr))))) 194 [(0, .ref (a 0)), (1, vI kind), (2, vI n), (3, vI q), (4, vI (qu q / 201)), (5, vI (qu q % 201)), (6, vI c), (7, vI x)] [vI y] := by
          refine g_istore C dX1_first_194 (by decide) ?_
          refine g_iload C dX1_first_196 rfl ?_
          refine g_iload C dX1_first_198 rfl ?_
          refine g_cSWi C [_, _] _ cal_X1_124 (cO_pair ra.1 (by omega) rb.1 (by omega)) rfl rfl (Nat.le_of_ble_eq_true rfl) (room_b rfl) dX1_first_200 (fun r200 w hw200 => ?_)
          obtain ⟨rfl, rfl⟩ := hw200
          refine g_istore C dX1_first_203 (by decide) ?_
          refine g_aload_n C dX1_first_205 rfl ?_
          refine gO_seen C dX1_first_206 ?_
          refine g_iload C dX1_first_209 rfl ?_
          refine lO_seen C (by omega) dX1_first_211 ?_
          refine g_if_eq C 218 dX1_first_212 (by decide) (b2_r _) (fun h212 => ?_) (fun h212 => ?_)
          · have hse := (b2_0 _).mp h212
            have hrm := hB.room hto.1 hto.2.1 hse
            refine g_aload_n C dX1_first_218 rfl ?_
            refine gO_seen C dX1_first_219 ?_
            refine g_iload C dX1_first_222 rfl ?_
            refine g_iconst C dX1_first_224 ?_
            refine sO_seen C true (by omega) rfl dX1_first_225 ?_
            refine g_aload_n C dX1_first_226 rfl ?_
            refine gO_queue C dX1_first_227 ?_
            refine g_iload_n C dX1_first_230 rfl ?_
            refine g_iload C dX1_first_231 rfl ?_
            refine sO_queue C (by omega) dX1_first_233 ?_
            refine g_aload_n C dX1_first_234 rfl ?_
            refine gO_before C dX1_first_235 ?_
            refine g_iload_n C dX1_first_238 rfl ?_
            refine g_iload_n C dX1_first_239 rfl ?_
            refine sO_before C (by omega) dX1_first_240 ?_
            refine g_aload_n C dX1_first_241 rfl ?_
            refine gO_by C dX1_first_242 ?_
            refine g_iload_n C dX1_first_245 rfl ?_
            refine g_iload C dX1_first_246 rfl ?_
            refine g_i2b C dX1_first_248 ?_
            refine sO_by C (by omega) dX1_first_249 ?_
            rw [i2b_id (x := c) c0 (by omega), i2b_id (x := c) c0 (by omega)]
            exact g_locR rfl (t250 hse)
          · have hse := (b2_ne0 _).mp h212
            refine g_goto C 288 dX1_first_215 (by decide) ?_
            refine g_iinc C dX1_first_288 rfl (by decide) ?_
            refine g_goto C 138 dX1_first_291 (by decide) ?_
            have h2 := ih (c + 1) n se qu be by1 we (hB.old hqn (by rw [← hx]; exact hto.1) (by rw [← hx]; exact hto.2.1) (by rw [← hx]; exact hse)) hqn (by omega) (by omega)
            exact g_locR rfl h2
        have t169 : G X 10 1 6 (wO X.Z a tape (aq 0) (bq 0) rp se qu be by1 text ways next 0 taped place ++ (wQ X.Z aq (ap 0) (aA 0) isE ++ (wA X.Z aA (ap 0) sets moves accepts heads chain groups news lives cnt table tells states strt ++ (wQ X.Z bq (bp 0) (bA 0) isE' ++ (wA X.Z bA (bp 0) sets' moves' accepts' heads' chain' groups' news' lives' cnt' table' tells' states' strt' ++ wr))))) 169 [(0, .ref (a 0)), (1, vI kind), (2, vI n), (3, vI q), (4, vI (qu q / 201)), (5, vI (qu q % 201)), (6, vI c)] [vI x] := by
          refine g_istore C dX1_first_169 (by decide) ?_
          refine g_iload C dX1_first_171 rfl ?_
          refine g_sipush C dX1_first_173 (by decide) ?_
          refine g_icmp_ne C 183 dX1_first_176 (by decide) (by omega) (fun h176 => ?_) (fun h176 => ?_)
          · have hy : y = movQ table' (qu q % 201) c := by rw [hY]; exact if_neg (by omega)
            refine g_aload_n C dX1_first_183 rfl ?_
            refine gO_second C dX1_first_184 ?_
            refine g_iload C dX1_first_187 rfl ?_
            refine g_iload C dX1_first_189 rfl ?_
            refine g_cVPi C [_, _] _ 21 [21, 22, 23, 24, 25, 26, 27, 28, 29, 30, 31, 32] cal_X1_109 (cQ_move (wr := []) (by omega) (by omega) c0 (by omega)) rfl rfl (by decide) rfl rfl rfl (Nat.le_of_ble_eq_true rfl) (room_b rfl) dX1_first_191 (fun r191 hw191 => ?_)
            subst hw191
            refine g_top hy.symm ?_
            exact g_locR rfl t194
          · have hy : y = -1 := by rw [hY]; exact if_pos (by omega)
            refine g_iconst C dX1_first_179 ?_
            refine g_goto C 194 dX1_first_180 (by decide) ?_
            refine g_top hy.symm ?_
            exact g_locR rfl t194
        refine g_iload C dX1_first_138 rfl ?_
        refine g_sipush C dX1_first_140 (by decide) ?_
        refine g_icmp_ge C 294 dX1_first_143 (by decide) (by omega) (fun h143 => ?_) (fun h143 => ?_)
        · exact absurd h143 (by omega)
        · refine g_iload C dX1_first_146 rfl ?_
          refine g_sipush C dX1_first_148 (by decide) ?_
          refine g_icmp_ne C 158 dX1_first_151 (by decide) (by omega) (fun h151 => ?_) (fun h151 => ?_)
          · have hy : x = movQ table (qu q / 201) c := by rw [hX]; exact if_neg (by omega)
            refine g_aload_n C dX1_first_158 rfl ?_
            refine gO_first C dX1_first_159 ?_
            refine g_iload C dX1_first_162 rfl ?_
            refine g_iload C dX1_first_164 rfl ?_
            refine g_cVPi C [_, _] _ 9 [9, 10, 11, 12, 13, 14, 15, 16, 17, 18, 19, 20] cal_X1_109 (cQ_move (wr := []) (by omega) (by omega) c0 (by omega)) rfl rfl (by decide) rfl rfl rfl (Nat.le_of_ble_eq_true rfl) (room_b rfl) dX1_first_166 (fun r166 hw166 => ?_)
            subst hw166
            refine g_top hy.symm ?_
            exact g_locR rfl t169
          · have hy : x = -1 := by rw [hX]; exact if_pos (by omega)
            refine g_iconst C dX1_first_154 ?_
            refine g_goto C 169 dX1_first_155 (by decide) ?_
            refine g_top hy.symm ?_
            exact g_locR rfl t169
    have outer : wnt kind isE isE' = false → ∀ (f : Nat) (q n : Int) se qu be by1 we, BI (dPr table table') (prQ strt strt') (fun u => wnt kind (Lf u) (Ls u)) q 0 n se qu be by1 we → 0 ≤ q → q ≤ n → q + (f : Int) = 40402 → G X 10 1 6 (wO X.Z a tape (aq 0) (bq 0) rp se qu be by1 text ways next 0 taped place ++ (wQ X.Z aq (ap 0) (aA 0) isE ++ (wA X.Z aA (ap 0) sets moves accepts heads chain groups news lives cnt table tells states strt ++ (wQ X.Z bq (bp 0) (bA 0) isE' ++ (wA X.Z bA (bp 0) sets' moves' accepts' heads' chain' groups' news' lives' cnt' table' tells' states' strt' ++ wr))))) 106 [(0, .ref (a 0)), (1, vI kind), (2, vI n), (3, vI q)] [] := by
      intro hw0 f
      have hP0 : (fun u => wnt kind (Lf u) (Ls u)) [] = false := by
        show wnt kind (Lf []) (Ls []) = false
        rw [hF.2.2.2.2.1, hS.2.2.2.2.1]; exact hw0
      induction f with
      | zero =>
        intro q n se qu be by1 we hB q0 hqn hq
        have hn := hB.cnt
        refine g_iload_n C dX1_first_106 rfl ?_
        refine g_iload_n C dX1_first_107 rfl ?_
        refine g_icmp_ge C 300 dX1_first_108 (by decide) (by omega) (fun h108 => ?_) (fun h108 => ?_)
        · refine g_iconst C dX1_first_300 ?_
          exact g_iret C rfl (Or.inl ⟨_, rfl, hk, _, _, _, _, _, Or.inl ⟨rfl, fun u hu => hB.ent q0 hqn (by decide) hP0 hpl hu (Or.inl (by omega))⟩, by decide, by decide, rfl⟩) dX1_first_301
        · exact absurd h108 (by omega)
      | succ f ih =>
        intro q n se qu be by1 we hB q0 hqn hq
        have hn := hB.cnt
        have hqr := hB.2.2.2.2.2.2 q q0
        refine g_iload_n C dX1_first_106 rfl ?_
        refine g_iload_n C dX1_first_107 rfl ?_
        refine g_icmp_ge C 300 dX1_first_108 (by decide) (by omega) (fun h108 => ?_) (fun h108 => ?_)
        · refine g_iconst C dX1_first_300 ?_
          exact g_iret C rfl (Or.inl ⟨_, rfl, hk, _, _, _, _, _, Or.inl ⟨rfl, fun u hu => hB.ent q0 hqn (by decide) hP0 hpl hu (Or.inl (by omega))⟩, by decide, by decide, rfl⟩) dX1_first_301
        · have hq2 := hqr (by omega)
          refine g_aload_n C dX1_first_111 rfl ?_
          refine gO_queue C dX1_first_112 ?_
          refine g_iload_n C dX1_first_115 rfl ?_
          refine lO_queue C (by omega) dX1_first_116 ?_
          refine g_sipush C dX1_first_117 (by decide) ?_
          refine g_idiv C dX1_first_120 (by omega) ?_
          refine g_istore C dX1_first_121 (by decide) ?_
          refine g_aload_n C dX1_first_123 rfl ?_
          refine gO_queue C dX1_first_124 ?_
          refine g_iload_n C dX1_first_127 rfl ?_
          refine lO_queue C (by omega) dX1_first_128 ?_
          refine g_sipush C dX1_first_129 (by decide) ?_
          refine g_irem C dX1_first_132 (by omega) ?_
          refine g_istore C dX1_first_133 (by decide) ?_
          refine g_iconst C dX1_first_135 ?_
          refine g_istore C dX1_first_136 (by decide) ?_
          exact g_locR rfl (inner hw0 q (fun n se qu be by1 we hB2 hn2 => ih (q + 1) n se qu be by1 we hB2 (by omega) hn2 (by omega)) q0 128 0 n se qu be by1 we hB (by omega) (by decide) (by decide))
    have clear : wnt kind isE isE' = false → ∀ (f : Nat) (i : Int) (se : Int → Bool), 0 ≤ i → (∀ j, 0 ≤ j → j < i → se j = false) → i + (f : Int) = 40401 → G X 10 1 6 (wO X.Z a tape (aq 0) (bq 0) rp se queue before by_ text ways next 0 taped place ++ (wQ X.Z aq (ap 0) (aA 0) isE ++ (wA X.Z aA (ap 0) sets moves accepts heads chain groups news lives cnt table tells states strt ++ (wQ X.Z bq (bp 0) (bA 0) isE' ++ (wA X.Z bA (bp 0) sets' moves' accepts' heads' chain' groups' news' lives' cnt' table' tells' states' strt' ++ wr))))) 47 [(0, .ref (a 0)), (1, vI kind), (2, vI i)] [] := by
      intro hw0 f
      have hP0 : (fun u => wnt kind (Lf u) (Ls u)) [] = false := by
        show wnt kind (Lf []) (Ls []) = false
        rw [hF.2.2.2.2.1, hS.2.2.2.2.1]; exact hw0
      induction f with
      | zero =>
        intro i se i0 hse hi
        have hst := prQ_dec hF.2.1.1 (show strt < 200 by omega) hS.2.1.1 (show strt' < 200 by omega)
        have hB : BI (dPr table table') (prQ strt strt') (fun u => wnt kind (Lf u) (Ls u)) 0 0 1 se (up queue 0 (prQ strt strt')) (up before 0 (-1)) by_ (fun _ => []) :=
          ⟨Bq.start (up_same _ _ _), Pd.start, up_same _ _ _, fun x x0 x1 => ⟨fun h => absurd ((hse x x0 (by omega)).symm.trans h) (by decide), fun ⟨j, j0, j1, _⟩ => by omega⟩, fun j j0 j1 => by omega, fun i j i0 i1 j0 j1 _ => by omega, fun j j0 j1 => by rw [show j = 0 by omega, up_same]; exact ⟨hst.1, hst.2.1⟩⟩
        refine g_iload_n C dX1_first_47 rfl ?_
        refine g_ldc C 40401 q298 rfl dX1_first_48 ?_
        refine g_icmp_ge C 66 dX1_first_50 (by decide) (by omega) (fun h50 => ?_) (fun h50 => ?_)
        · refine g_aload_n C dX1_first_66 rfl ?_
          refine gO_queue C dX1_first_67 ?_
          refine g_iconst C dX1_first_70 ?_
          refine g_aload_n C dX1_first_71 rfl ?_
          refine gO_first C dX1_first_72 ?_
          refine g_getN C 9 1 in_X2 rfl rfl (by decide) (List.mem_of_getElem? (i := 1) rfl) rfl rfl dX1_first_75 ?_
          refine g_cVPi C [] _ 10 [10, 11, 12, 13, 14, 15, 16, 17, 18, 19, 20] cal_X1_106 (cA_start (wr := [])) rfl rfl (by decide) rfl rfl rfl (Nat.le_of_ble_eq_true rfl) (room_b rfl) dX1_first_78 (fun r78 hw78 => ?_)
          subst hw78
          refine g_aload_n C dX1_first_81 rfl ?_
          refine gO_second C dX1_first_82 ?_
          refine g_getN C 21 1 in_X2 rfl rfl (by decide) (List.mem_of_getElem? (i := 1) rfl) rfl rfl dX1_first_85 ?_
          refine g_cVPi C [] _ 22 [22, 23, 24, 25, 26, 27, 28, 29, 30, 31, 32] cal_X1_106 (cA_start (wr := [])) rfl rfl (by decide) rfl rfl rfl (Nat.le_of_ble_eq_true rfl) (room_b rfl) dX1_first_88 (fun r88 hw88 => ?_)
          subst hw88
          refine g_cSWi C [_, _] _ cal_X1_124 (cO_pair hF.2.1.1 (by omega) hS.2.1.1 (by omega)) rfl rfl (Nat.le_of_ble_eq_true rfl) (room_b rfl) dX1_first_91 (fun r91 w hw91 => ?_)
          obtain ⟨rfl, rfl⟩ := hw91
          refine sO_queue C (by omega) dX1_first_94 ?_
          refine g_aload_n C dX1_first_95 rfl ?_
          refine gO_before C dX1_first_96 ?_
          refine g_iconst C dX1_first_99 ?_
          refine g_iconst C dX1_first_100 ?_
          refine sO_before C (by omega) dX1_first_101 ?_
          refine g_iconst C dX1_first_102 ?_
          refine g_istore_n C dX1_first_103 (by decide) ?_
          refine g_iconst C dX1_first_104 ?_
          refine g_istore_n C dX1_first_105 (by decide) ?_
          exact g_locR rfl (outer hw0 40402 0 1 _ _ _ _ _ hB (by decide) (by decide) (by decide))
        · exact absurd h50 (by omega)
      | succ f ih =>
        intro i se i0 hse hi
        refine g_iload_n C dX1_first_47 rfl ?_
        refine g_ldc C 40401 q298 rfl dX1_first_48 ?_
        refine g_icmp_ge C 66 dX1_first_50 (by decide) (by omega) (fun h50 => ?_) (fun h50 => ?_)
        · exact absurd h50 (by omega)
        · refine g_aload_n C dX1_first_53 rfl ?_
          refine gO_seen C dX1_first_54 ?_
          refine g_iload_n C dX1_first_57 rfl ?_
          refine g_iconst C dX1_first_58 ?_
          refine sO_seen C false (by omega) rfl dX1_first_59 ?_
          refine g_iinc C dX1_first_60 rfl (by decide) ?_
          refine g_goto C 47 dX1_first_63 (by decide) ?_
          exact g_locR rfl (ih (i + 1) _ (by omega) (fun j j0 j1 => by by_cases e : j = i; (rw [e, up_same]); (rw [up_ne _ _ e]; exact hse j j0 (by omega))) (by omega))
    refine g_aload_n C dX1_first_17 rfl ?_
    refine g_iconst C dX1_first_18 ?_
    refine pO_length C dX1_first_19 ?_
    refine g_iload_n C dX1_first_22 rfl ?_
    refine g_aload_n C dX1_first_23 rfl ?_
    refine gO_first C dX1_first_24 ?_
    refine g_getN C 9 2 in_X2 rfl rfl (by decide) (List.mem_of_getElem? (i := 2) rfl) rfl rfl dX1_first_27 ?_
    refine g_aload_n C dX1_first_30 rfl ?_
    refine gO_second C dX1_first_31 ?_
    refine g_getN C 21 2 in_X2 rfl rfl (by decide) (List.mem_of_getElem? (i := 2) rfl) rfl rfl dX1_first_34 ?_
    refine g_cSWz C [_, _, _] _ cal_X1_120 (cO_wanted hk.1 hk.2) rfl rfl (Nat.le_of_ble_eq_true rfl) (room_b rfl) dX1_first_37 (fun r37 w hw37 => ?_)
    obtain ⟨rfl, rfl⟩ := hw37
    refine g_if_eq C 45 dX1_first_40 (by decide) (b2_r _) (fun h40 => ?_) (fun h40 => ?_)
    · have hw0 := (b2_0 _).mp h40
      refine g_iconst C dX1_first_45 ?_
      refine g_istore_n C dX1_first_46 (by decide) ?_
      exact g_locR rfl (clear hw0 40401 0 seen (by decide) (fun j j0 j1 => by omega) (by decide))
    · have hw0 := (b2_ne0 _).mp h40
      refine g_iconst C dX1_first_43 ?_
      exact g_iret C rfl (Or.inl ⟨_, rfl, hk, _, _, _, _, text, Or.inr ⟨[], Wd.nil, rfl, rfl, (by show wnt kind (Lf []) (Ls []) = true; rw [hF.2.2.2.2.1, hS.2.2.2.2.1]; exact hw0), fun v hv _ => cr_pos hv⟩, by decide, by decide, rfl⟩) dX1_first_44
  refine g_iload_n C dX1_first_0 rfl ?_
  refine g_if_lt C 13 dX1_first_1 (by decide) (by omega) (fun h1 => ?_) (fun h1 => ?_)
  · refine g_iconst C dX1_first_13 ?_
    refine g_top (show _ = b2 (decide (0 ≤ kind ∧ kind ≤ 4)) from by first | (rw [decide_eq_true (show 0 ≤ kind ∧ kind ≤ 4 by omega)]; rfl) | (rw [decide_eq_false (show ¬ (0 ≤ kind ∧ kind ≤ 4) by omega)]; rfl)) ?_
    refine g_cSWvT C [_] _ cal_X1_77 (cO_in hfl) rfl rfl (Nat.le_of_ble_eq_true rfl) (room_b rfl) dX1_first_14 (fun w hw14 => ?_) (fun x14 w hw14 => ?_)
    · obtain ⟨hy, rfl⟩ := hw14
      exact main (of_decide_eq_true hy)
      skip
    · obtain ⟨hy, fs, rfl⟩ := hw14
      exact gt_out C rfl (Or.inr ⟨_, rfl, of_decide_eq_false hy, _, rfl⟩)
  · refine g_iload_n C dX1_first_4 rfl ?_
    refine g_iconst C dX1_first_5 ?_
    refine g_icmp_gt C 13 dX1_first_6 (by decide) (by omega) (fun h6 => ?_) (fun h6 => ?_)
    · refine g_iconst C dX1_first_13 ?_
      refine g_top (show _ = b2 (decide (0 ≤ kind ∧ kind ≤ 4)) from by first | (rw [decide_eq_true (show 0 ≤ kind ∧ kind ≤ 4 by omega)]; rfl) | (rw [decide_eq_false (show ¬ (0 ≤ kind ∧ kind ≤ 4) by omega)]; rfl)) ?_
      refine g_cSWvT C [_] _ cal_X1_77 (cO_in hfl) rfl rfl (Nat.le_of_ble_eq_true rfl) (room_b rfl) dX1_first_14 (fun w hw14 => ?_) (fun x14 w hw14 => ?_)
      · obtain ⟨hy, rfl⟩ := hw14
        exact main (of_decide_eq_true hy)
        skip
      · obtain ⟨hy, fs, rfl⟩ := hw14
        exact gt_out C rfl (Or.inr ⟨_, rfl, of_decide_eq_false hy, _, rfl⟩)
    · refine g_iconst C dX1_first_9 ?_
      refine g_goto C 14 dX1_first_10 (by decide) ?_
      refine g_top (show _ = b2 (decide (0 ≤ kind ∧ kind ≤ 4)) from by first | (rw [decide_eq_true (show 0 ≤ kind ∧ kind ≤ 4 by omega)]; rfl) | (rw [decide_eq_false (show ¬ (0 ≤ kind ∧ kind ≤ 4) by omega)]; rfl)) ?_
      refine g_cSWvT C [_] _ cal_X1_77 (cO_in hfl) rfl rfl (Nat.le_of_ble_eq_true rfl) (room_b rfl) dX1_first_14 (fun w hw14 => ?_) (fun x14 w hw14 => ?_)
      · obtain ⟨hy, rfl⟩ := hw14
        exact main (of_decide_eq_true hy)
        skip
      · obtain ⟨hy, fs, rfl⟩ := hw14
        exact gt_out C rfl (Or.inr ⟨_, rfl, of_decide_eq_false hy, _, rfl⟩)
