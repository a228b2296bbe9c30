/-! Model: first -/
def FI (d : Int → Int → Int) (P : List Int → Bool) (q c qa n : Int) (queue frm by_ bf byg : Int → Int) (we : Int → List Int) : Prop :=
  Bq d 0 n queue bf byg we ∧ Pd d 0 q c n queue we ∧ (∀ x, 0 ≤ x → x < 161604 → (frm x ≠ -1 ↔ ∃ j, 0 ≤ j ∧ j < n ∧ queue j = x)) ∧ (∀ i j, 0 ≤ i → i < n → 0 ≤ j → j < n → queue i = queue j → i = j) ∧ (∀ j, 0 ≤ j → j < n → 0 ≤ queue j ∧ queue j < 161604) ∧ (∀ j, 1 ≤ j → j < n → frm (queue j) = queue (bf j) ∧ by_ (queue j) = byg j) ∧ (∀ j, 0 ≤ j → j < qa → P (we j) = false) ∧ ∀ x, 0 ≤ x → x < 161604 → -1 ≤ frm x ∧ frm x < 161604
section FII
variable {d : Int → Int → Int} {P : List Int → Bool} {q c qa n : Int} {queue frm by_ bf byg : Int → Int} {we : Int → List Int}
theorem FI.cnt (h : FI d P q c qa n queue frm by_ bf byg we) : 1 ≤ n ∧ n ≤ 161604 := by
  obtain ⟨h1, h2, h3, h4, h5, h6, h7, h8⟩ := h
  exact ⟨h1.1, inj_le (f := queue) (by decide) h5 h4⟩
theorem FI.room (h : FI d P q c qa n queue frm by_ bf byg we) {x : Int} (x0 : 0 ≤ x) (x1 : x < 161604) (hx : frm x = -1) : n < 161604 := by
  obtain ⟨h1, h2, h3, h4, h5, h6, h7, h8⟩ := h
  have hn : ∀ j, 0 ≤ j → j < n → queue j ≠ x := fun j j0 j1 e => (h3 x x0 x1).mpr ⟨j, j0, j1, e⟩ hx
  have := inj_le (f := fun i => if i = n then x else queue i) (n := n + 1) (m := 161604) (by decide) (fun i i0 i1 => by
      show 0 ≤ (if i = n then x else queue i) ∧ (if i = n then x else queue i) < 161604
      split
      · exact ⟨x0, x1⟩
      · exact h5 i i0 (by omega)) (fun i j i0 i1 j0 j1 e => by
      have e : (if i = n then x else queue i) = (if j = n then x else queue j) := e
      split at e
      · split at e
        · omega
        · exact absurd e.symm (hn j j0 (by omega))
      · split at e
        · exact absurd e (hn i i0 (by omega))
        · exact h4 i j i0 (by omega) j0 (by omega) e)
  omega
theorem FI.old (h : FI d P q c qa n queue frm by_ bf byg we) (hq : q < n) (hx0 : 0 ≤ d (queue q) c) (hx1 : d (queue q) c < 161604) (hx : frm (d (queue q) c) ≠ -1) : FI d P q (c + 1) qa n queue frm by_ bf byg we := by
  obtain ⟨h1, h2, h3, h4, h5, h6, h7, h8⟩ := h
  obtain ⟨i, i0, i1, i2⟩ := (h3 _ hx0 hx1).mp hx
  exact ⟨h1, h2.old h1 hq (Int.le_refl _) i0 i1 i2, h3, h4, h5, h6, h7, h8⟩
theorem FI.next (h : FI d P q 128 (q + 1) n queue frm by_ bf byg we) (q0 : 0 ≤ q) (hq : q < n) : FI d P (q + 1) 0 (q + 1) n queue frm by_ bf byg we := by
  obtain ⟨h1, h2, h3, h4, h5, h6, h7, h8⟩ := h
  exact ⟨h1, h2.next h1 q0 hq, h3, h4, h5, h6, h7, h8⟩
theorem FI.seen (h : FI d P q c q n queue frm by_ bf byg we) (hP : P (we q) = false) : FI d P q c (q + 1) n queue frm by_ bf byg we := by
  obtain ⟨h1, h2, h3, h4, h5, h6, h7, h8⟩ := h
  exact ⟨h1, h2, h3, h4, h5, h6, fun j j0 j1 => by by_cases e : j = q; (rw [e]; exact hP); exact h7 j j0 (by omega), h8⟩
theorem FI.new (h : FI d P q c qa n queue frm by_ bf byg we) (hqa : qa ≤ n) (q0 : 0 ≤ q) (hq : q < n) (c0 : 0 ≤ c) (c1 : c < 128) {x : Int} (hx : x = d (queue q) c) (x0 : 0 ≤ x) (x1 : x < 161604) (hs : frm x = -1) :
    FI d P q (c + 1) qa (n + 1) (up queue n x) (up frm x (queue q)) (up by_ x c) (up bf n q) (up byg n c) (up we n (c :: we q)) := by
  obtain ⟨h1, h2, h3, h4, h5, h6, h7, h8⟩ := h
  have hn1 := h1.1
  have hqq := h5 q q0 hq
  have hn : ∀ j, 0 ≤ j → j < n → queue j ≠ x := fun j j0 j1 e => (h3 x x0 x1).mpr ⟨j, j0, j1, e⟩ hs
  refine ⟨Bq.new h2 h1 q0 hq c0 c1 hx, h2.new h1 q0 hq (by decide) hx, fun y y0 y1 => ?_, fun i j i0 i1 j0 j1 e => ?_, fun j j0 j1 => ?_, fun j j0 j1 => ?_, fun j j0 j1 => by rw [up_ne _ _ (by omega)]; exact h7 j j0 j1, fun y y0 y1 => by by_cases e : y = x; (rw [e, up_same]; omega); (rw [up_ne _ _ e]; exact h8 y y0 y1)⟩
  · by_cases e : y = x
    · subst e
      rw [up_same]
      exact ⟨fun _ => ⟨n, by omega, by omega, up_same _ _ _⟩, fun _ => by omega⟩
    · rw [up_ne _ _ e, h3 y y0 y1]
      refine ⟨fun ⟨j, j0, j1, e2⟩ => ⟨j, j0, by omega, by rw [up_ne _ _ (by omega)]; exact e2⟩, fun ⟨j, j0, j1, e2⟩ => ?_⟩
      by_cases e3 : j = n
      · rw [e3, up_same] at e2; exact absurd e2.symm e
      · rw [up_ne _ _ e3] at e2
        exact ⟨j, j0, by omega, e2⟩
  · by_cases ei : i = n
    · by_cases ej : j = n
      · omega
      · rw [ei, up_same, up_ne _ _ ej] at e
        exact absurd e.symm (hn j j0 (by omega))
    · by_cases ej : j = n
      · rw [ej, up_same, up_ne _ _ ei] at e
        exact absurd e (hn i i0 (by omega))
      · rw [up_ne _ _ ei, up_ne _ _ ej] at e
        exact h4 i j i0 (by omega) j0 (by omega) e
  · by_cases e : j = n
    · rw [e, up_same]; exact ⟨x0, x1⟩
    · rw [up_ne _ _ e]; exact h5 j j0 (by omega)
  · by_cases e : j = n
    · rw [e, up_same, up_same, up_same, up_same, up_same, up_ne _ _ (by omega)]; exact ⟨rfl, rfl⟩
    · have hb := h1.2.2.2.1 j j0 (by omega)
      rw [up_ne _ _ e, up_ne _ _ e, up_ne _ _ e, up_ne _ _ (hn j (by omega) (by omega)), up_ne _ _ (hn j (by omega) (by omega)), up_ne _ _ (by omega)]
      exact h6 j j0 (by omega)
theorem FI.ent (h : FI d P q c q n queue frm by_ bf byg we) (q0 : 0 ≤ q) (hqn : q ≤ n) (c1 : c ≤ 128) (hPd : ∀ u v, Wd u → Wd v → dq d 0 u = dq d 0 v → P u = P v) {u : List Int} (hu : Wd u) (hf : q = n ∨ cr u < cr (we q)) (hc0 : 0 ≤ c) : P u = false := by
  obtain ⟨h1, h2, h3, h4, h5, h6, h7, h8⟩ := h
  have hp := cr_pos hu
  obtain ⟨i, i0, i1, i2, i3⟩ := bfs_full h2 h1 q0 c1 (Int.le_refl _) hqn u hu (fun _ => rfl) (by omega)
  have a := h1.2.2.1 i i0 i1
  rw [hPd u (we i) hu a.2 (by rw [← i2, a.1])]
  refine h7 i i0 ?_
  rcases hf with hf | hf
  · omega
  · by_cases e : i < q
    · exact e
    · exfalso
      by_cases e2 : i = q
      · rw [e2] at i3; omega
      · have := h1.2.2.2.2 q i q0 (by omega) i1
        omega
theorem FI.found (h : FI d P q 0 q n queue frm by_ bf byg we) (q0 : 0 ≤ q) (hq : q < n) (hPd : ∀ u v, Wd u → Wd v → dq d 0 u = dq d 0 v → P u = P v) (hP : P (we q) = true) (text : Int → Int) (ht : seg text 0 (we q).length = we q) : FirstS P ((we q).length : Int) text := by
  have hw := (h.1.2.2.1 q q0 hq).2
  refine Or.inr ⟨we q, hw, rfl, ht, hP, fun v hv hPv => ?_⟩
  by_cases e : cr (we q) ≤ cr v
  · exact e
  · have := h.ent q0 (by omega) (by decide) hPd hv (Or.inr (by omega)) (Int.le_refl _)
    rw [hPv] at this; cases this
end FII
def dPm (leads : Int → Int) (p b : Int) : Int := 402 * leads (128 * (p / 402) + b) + leads (128 * (402 + p % 402) + b)
theorem dq_pm {leads : Int → Int} {ends : Int → Bool} {a0 a1 : Int} {Lf Ls : List Int → Bool} (hF : SideM leads ends 0 a0 Lf) (hS : SideM leads ends 402 a1 Ls) : ∀ u, Wd u → dq (dPm leads) 0 u = 402 * dq (fun s b => leads (128 * (0 + s) + b)) 0 u + dq (fun s b => leads (128 * (402 + s) + b)) 0 u ∧ (0 ≤ dq (fun s b => leads (128 * (0 + s) + b)) 0 u ∧ dq (fun s b => leads (128 * (0 + s) + b)) 0 u < 402) ∧ 0 ≤ dq (fun s b => leads (128 * (402 + s) + b)) 0 u ∧ dq (fun s b => leads (128 * (402 + s) + b)) 0 u < 402 := by
  intro u hu
  have rF := fun v hv => dq_r (lo := 0) (hi := a0) (fun s b s0 s1 b0 b1 => hF.2.1 s b s0 s1 b0 b1) (Int.le_refl _) (by have := hF.1; omega) v hv
  have rS := fun v hv => dq_r (lo := 0) (hi := a1) (fun s b s0 s1 b0 b1 => hS.2.1 s b s0 s1 b0 b1) (Int.le_refl _) (by have := hS.1; omega) v hv
  have b0 := hF.1
  have b1 := hS.1
  have r1 := rF u hu
  have r2 := rS u hu
  refine ⟨?_, by omega, by omega⟩
  clear r1 r2
  induction u with
  | nil => rfl
  | cons b v ih =>
    have ih := ih hu.cons.2
    have r1 := rF v hu.cons.2
    have r2 := rS v hu.cons.2
    show dPm leads (dq (dPm leads) 0 v) b = 402 * leads (128 * (0 + dq (fun s b => leads (128 * (0 + s) + b)) 0 v) + b) + leads (128 * (402 + dq (fun s b => leads (128 * (402 + s) + b)) 0 v) + b)
    rw [ih]
    unfold dPm
    generalize dq (fun s b => leads (128 * (0 + s) + b)) 0 v = x at r1
    generalize dq (fun s b => leads (128 * (402 + s) + b)) 0 v = y at r2
    rw [show (402 * x + y) / 402 = x by omega, show (402 * x + y) % 402 = y by omega, Int.zero_add]
theorem pm_lang {leads : Int → Int} {ends : Int → Bool} {a0 a1 : Int} {Lf Ls : List Int → Bool} (hF : SideM leads ends 0 a0 Lf) (hS : SideM leads ends 402 a1 Ls) (kind : Int) {u : List Int} (hu : Wd u) : wnt kind (Lf u) (Ls u) = wnt kind (ends (dq (dPm leads) 0 u / 402)) (ends (402 + dq (dPm leads) 0 u % 402)) := by
  have h := dq_pm hF hS u hu
  rw [hF.2.2 u hu, hS.2.2 u hu, h.1]
  have h1 := h.2.1
  have h2 := h.2.2
  generalize dq (fun s b => leads (128 * (0 + s) + b)) 0 u = x at h1
  generalize dq (fun s b => leads (128 * (402 + s) + b)) 0 u = y at h2
  rw [show (402 * x + y) / 402 = x by omega, show (402 * x + y) % 402 = y by omega, Int.zero_add]
theorem cM_first {Z : Zk} {wr : va_W} {a : Nat → Nat} {tape : Int → Int} {taped : Int} {place : Int} {thrown : Int} {r_op : Nat} {no : Nat} {op : Int → Int} {r_arg : Nat} {arg : Int → Int} {many : Int} {low : Int → Int64} {high : Int → Int64} {masks : Int} {cur : Int} {readLow : Int64} {readHigh : Int64} {group : Int → Int} {choice : Int → Int} {chain : Int → Int} {hasEmpty : Int → Bool} {sset : Int → Int64} {label : Int → Int} {next : Int → Int} {states : Int} {r_stamp : Nat} {ns : Nat} {stamp : Int → Int} {r_stack : Nat} {stack : Int → Int} {stamps : Int} {piled : Int} {reading : Int → Int} {readings : Int} {wher : Int → Int} {built : Int → Int64} {heads : Int → Int} {chained : Int → Int} {isE : Bool} {lives : Int → Bool} {kind : Int → Int} {newKind : Int → Int} {first : Int → Int} {kinds : Int} {leads : Int → Int} {sideStates : Int → Int} {ends : Int → Bool} {text : Int → Int} {textLong : Int} {queue : Int → Int} {frm : Int → Int} {by_ : Int → Int} {ways : Int → Int64} {before : Int → Int64} {kind9 a0 a1 : Int} {Lf Ls : List Int → Bool} (hm : inR kind9) (hF : SideM leads ends 0 a0 Lf) (hS : SideM leads ends 402 a1 Ls) :
    Ct Z yX6_first hX6_first 2 120 [.ref (a 0), vI kind9] (wM Z a tape taped place thrown r_op no op r_arg arg many low high masks cur readLow readHigh group choice chain hasEmpty sset label next states r_stamp ns stamp r_stack stack stamps piled reading readings wher built heads chained isE lives kind newKind first kinds leads sideStates ends text textLong queue frm by_ ways before ++ wr) 0 0 (Ri fun r w => ((0 ≤ kind9 ∧ kind9 ≤ 4) ∧ ∃ qu fr by1 tx, FirstS (fun u => wnt kind9 (Lf u) (Ls u)) r tx ∧ -1 ≤ r ∧ r ≤ 161604 ∧ w = wM Z a tape taped place 0 r_op no op r_arg arg many low high masks cur readLow readHigh group choice chain hasEmpty sset label next states r_stamp ns stamp r_stack stack stamps piled reading readings wher built heads chained isE lives kind newKind first kinds leads sideStates ends tx (lenF r) qu fr by1 ways before ++ wr) ∨ (¬ (0 ≤ kind9 ∧ kind9 ≤ 4) ∧ w = wM Z a tape taped place 1 r_op no op r_arg arg many low high masks cur readLow readHigh group choice chain hasEmpty sset label next states r_stamp ns stamp r_stack stack stamps piled reading readings wher built heads chained isE lives kind newKind first kinds leads sideStates ends text textLong queue frm by_ ways before ++ wr)) := by
  refine Ct.of RX6 "first" (by decide +kernel) rfl rfl hkX6_first (Nat.le_of_ble_eq_true rfl) (fun X hZ C => ?_)
  subst hZ
  have hpd : ∀ u v, Wd u → Wd v → dq (dPm leads) 0 u = dq (dPm leads) 0 v → (fun u => wnt kind9 (Lf u) (Ls u)) u = (fun u => wnt kind9 (Lf u) (Ls u)) v := fun u v hu hv h => by
    show wnt kind9 (Lf u) (Ls u) = wnt kind9 (Lf v) (Ls v)
    rw [pm_lang hF hS kind9 hu, pm_lang hF hS kind9 hv, h]
  have hF1 := hF.1
  have hS1 := hS.1
  have main : (0 ≤ kind9 ∧ kind9 ≤ 4) → G X 7 0 0 (wM X.Z a tape taped place 0 r_op no op r_arg arg many low high masks cur readLow readHigh group choice chain hasEmpty sset label next states r_stamp ns stamp r_stack stack stamps piled reading readings wher built heads chained isE lives kind newKind first kinds leads sideStates ends text textLong queue frm by_ ways before ++ wr) 20 [(0, .ref (a 0)), (1, vI kind9)] [] := by
    intro hk
    have stp9 : ∀ p b, 0 ≤ p → p < 161604 → p / 402 < a0 → p % 402 < a1 → 0 ≤ b → b < 128 → 0 ≤ dPm leads p b ∧ dPm leads p b < 161604 ∧ (0 ≤ leads (128 * (p / 402) + b) ∧ leads (128 * (p / 402) + b) < 402) ∧ 0 ≤ leads (128 * (402 + p % 402) + b) ∧ leads (128 * (402 + p % 402) + b) < 402 := by
      intro p b p0 p1 x1 y1 b0 b1
      have u1 := hF.2.1 (p / 402) b (by omega) x1 b0 b1
      have u2 := hS.2.1 (p % 402) b (by omega) y1 b0 b1
      rw [Int.zero_add] at u1
      unfold dPm
      omega
    have inner : ∀ (q : Int), (∀ n qu fr by1 bf byg we, FI (dPm leads) (fun u => wnt kind9 (Lf u) (Ls u)) (q + 1) 0 (q + 1) n qu fr by1 bf byg we → q + 1 ≤ n → G X 7 0 0 (wM X.Z a tape taped place 0 r_op no op r_arg arg many low high masks cur readLow readHigh group choice chain hasEmpty sset label next states r_stamp ns stamp r_stack stack stamps piled reading readings wher built heads chained isE lives kind newKind first kinds leads sideStates ends text 0 qu fr by1 ways before ++ wr) 67 [(0, .ref (a 0)), (1, vI kind9), (2, vI n), (3, vI (q + 1))] []) → 0 ≤ q → ∀ (f : Nat) (c n : Int) qu fr by1 bf byg we, FI (dPm leads) (fun u => wnt kind9 (Lf u) (Ls u)) q c (q + 1) n qu fr by1 bf byg we → q < n → 0 ≤ c → c + (f : Int) = 128 → G X 7 0 0 (wM X.Z a tape taped place 0 r_op no op r_arg arg many low high masks cur readLow readHigh group choice chain hasEmpty sset label next states r_stamp ns stamp r_stack stack stamps piled reading readings wher built heads chained isE lives kind newKind first kinds leads sideStates ends text 0 qu fr by1 ways before ++ wr) 100 [(0, .ref (a 0)), (1, vI kind9), (2, vI n), (3, vI q), (4, vI (qu q)), (5, vI c)] [] := by
      intro q hq q0 f
      induction f with
      | zero =>
        intro c n qu fr by1 bf byg we hB hqn c0 hc
        have hn := hB.cnt
        have e : c = 128 := by omega
        subst e
        have h2 := hq n qu fr by1 bf byg we (hB.next q0 hqn) (by omega)
        refine g_iload C dX6_first_100 rfl ?_
        refine g_sipush C dX6_first_102 (by decide) ?_
        refine g_icmp_ge C 205 dX6_first_105 (by decide) (by omega) (fun h105 => ?_) (fun h105 => ?_)
        · refine g_iinc C dX6_first_205 rfl (by decide) ?_
          refine g_goto C 67 dX6_first_208 (by decide) ?_
          exact g_locR rfl h2
        · exact absurd h105 (by omega)
      | succ f ih =>
        intro c n qu fr by1 bf byg we hB hqn c0 hc
        have hn := hB.cnt
        have hwq := hB.1.2.2.1 q q0 hqn
        have hd := dq_pm hF hS (we q) hwq.2
        rw [← hwq.1] at hd
        have rF := dq_r (lo := 0) (hi := a0) (fun s b s0 s1 b0 b1 => hF.2.1 s b s0 s1 b0 b1) (Int.le_refl _) (by omega) (we q) hwq.2
        have rS := dq_r (lo := 0) (hi := a1) (fun s b s0 s1 b0 b1 => hS.2.1 s b s0 s1 b0 b1) (Int.le_refl _) (by omega) (we q) hwq.2
        have hqr := hB.2.2.2.2.1 q q0 hqn
        have hs9 := stp9 (qu q) c hqr.1 hqr.2 (by omega) (by omega) c0 (by omega)
        have hbx : 0 ≤ dPm leads (qu q) c ∧ dPm leads (qu q) c < 161604 := ⟨hs9.1, hs9.2.1⟩
        have eto : 402 * leads (128 * (qu q / 402) + c) + leads (128 * (402 + qu q % 402) + c) = dPm leads (qu q) c := rfl
        refine g_iload C dX6_first_100 rfl ?_
        refine g_sipush C dX6_first_102 (by decide) ?_
        refine g_icmp_ge C 205 dX6_first_105 (by decide) (by omega) (fun h105 => ?_) (fun h105 => ?_)
        · exact absurd h105 (by omega)
        · refine g_sipush C dX6_first_108 (by decide) ?_
          refine g_aload_n C dX6_first_111 rfl ?_
          refine gM_leads C dX6_first_112 ?_
          refine g_sipush C dX6_first_115 (by decide) ?_
          refine g_iload C dX6_first_118 rfl ?_
          refine g_sipush C dX6_first_120 (by decide) ?_
          refine g_idiv C dX6_first_123 (by omega) ?_
          refine g_imul C dX6_first_124 ?_
          refine g_iload C dX6_first_125 rfl ?_
          refine g_iadd C dX6_first_127 ?_
          refine lM_leads C (by omega) dX6_first_128 ?_
          refine g_imul C dX6_first_129 ?_
          refine g_aload_n C dX6_first_130 rfl ?_
          refine gM_leads C dX6_first_131 ?_
          refine g_sipush C dX6_first_134 (by decide) ?_
          refine g_sipush C dX6_first_137 (by decide) ?_
          refine g_iload C dX6_first_140 rfl ?_
          refine g_sipush C dX6_first_142 (by decide) ?_
          refine g_irem C dX6_first_145 (by omega) ?_
          refine g_iadd C dX6_first_146 ?_
          refine g_imul C dX6_first_147 ?_
          refine g_iload C dX6_first_148 rfl ?_
          refine g_iadd C dX6_first_150 ?_
          refine lM_leads C (by omega) dX6_first_151 ?_
          refine g_iadd C dX6_first_152 ?_
          refine g_top eto ?_
          refine g_istore C dX6_first_153 (by decide) ?_
          refine g_aload_n C dX6_first_155 rfl ?_
          refine gM_from C dX6_first_156 ?_
          refine g_iload C dX6_first_159 rfl ?_
          refine lM_from C (by omega) dX6_first_161 ?_
          refine g_iconst C dX6_first_162 ?_
          refine g_icmp_eq C 169 dX6_first_163 (by decide) (by have := hB.2.2.2.2.2.2.2 (dPm leads (qu q) c) hbx.1 hbx.2; omega) (fun h163 => ?_) (fun h163 => ?_)
          · have hrm := hB.room hbx.1 hbx.2 h163
            have h2 := ih (c + 1) (n + 1) (up qu n (dPm leads (qu q) c)) (up fr (dPm leads (qu q) c) (qu q)) (up by1 (dPm leads (qu q) c) c) (up bf n q) (up byg n c) (up we n (c :: we q)) (hB.new (by omega) q0 hqn c0 (by omega) rfl hbx.1 hbx.2 h163) (by omega) (by omega) (by omega)
            rw [up_ne _ _ (show q ≠ n by omega)] at h2
            refine g_aload_n C dX6_first_169 rfl ?_
            refine gM_from C dX6_first_170 ?_
            refine g_iload C dX6_first_173 rfl ?_
            refine g_iload C dX6_first_175 rfl ?_
            refine sM_from C (by omega) dX6_first_177 ?_
            refine g_aload_n C dX6_first_178 rfl ?_
            refine gM_by C dX6_first_179 ?_
            refine g_iload C dX6_first_182 rfl ?_
            refine g_iload C dX6_first_184 rfl ?_
            refine g_i2b C dX6_first_186 ?_
            refine sM_by C (by omega) dX6_first_187 ?_
            refine g_aload_n C dX6_first_188 rfl ?_
            refine gM_queue C dX6_first_189 ?_
            refine g_iload_n C dX6_first_192 rfl ?_
            refine g_iload C dX6_first_193 rfl ?_
            refine sM_queue C (by omega) dX6_first_195 ?_
            refine g_iinc C dX6_first_196 rfl (by decide) ?_
            refine g_iinc C dX6_first_199 rfl (by decide) ?_
            refine g_goto C 100 dX6_first_202 (by decide) ?_
            first | exact g_locR rfl h2 | (rw [i2b_id (x := c) c0 (by omega), i2b_id (x := c) c0 (by omega)]; exact g_locR rfl h2)
          · have h2 := ih (c + 1) n qu fr by1 bf byg we (hB.old hqn hbx.1 hbx.2 h163) hqn (by omega) (by omega)
            refine g_goto C 199 dX6_first_166 (by decide) ?_
            refine g_iinc C dX6_first_199 rfl (by decide) ?_
            refine g_goto C 100 dX6_first_202 (by decide) ?_
            first | exact g_locR rfl h2 | (rw [i2b_id (x := c) c0 (by omega), i2b_id (x := c) c0 (by omega)]; exact g_locR rfl h2)
    have outer : ∀ (f : Nat) (q n : Int) qu fr by1 bf byg we, FI (dPm leads) (fun u => wnt kind9 (Lf u) (Ls u)) q 0 q n qu fr by1 bf byg we → 0 ≤ q → q ≤ n → q + (f : Int) = 161604 → G X 7 0 0 (wM X.Z a tape taped place 0 r_op no op r_arg arg many low high masks cur readLow readHigh group choice chain hasEmpty sset label next states r_stamp ns stamp r_stack stack stamps piled reading readings wher built heads chained isE lives kind newKind first kinds leads sideStates ends text 0 qu fr by1 ways before ++ wr) 67 [(0, .ref (a 0)), (1, vI kind9), (2, vI n), (3, vI q)] [] := by
      intro f
      induction f with
      | zero =>
        intro q n qu fr by1 bf byg we hB q0 hqn hq
        have hn := hB.cnt
        refine g_iload_n C dX6_first_67 rfl ?_
        refine g_iload_n C dX6_first_68 rfl ?_
        refine g_icmp_ge C 211 dX6_first_69 (by decide) (by omega) (fun h69 => ?_) (fun h69 => ?_)
        · refine g_iconst C dX6_first_211 ?_
          exact g_iret C rfl ⟨_, rfl, Or.inl ⟨hk, _, _, _, _, Or.inl ⟨rfl, fun u hu => hB.ent q0 hqn (by decide) hpd hu (Or.inl (by omega)) (Int.le_refl _)⟩, by decide, by decide, rfl⟩⟩ dX6_first_212
        · exact absurd h69 (by omega)
      | succ f ih =>
        intro q n qu fr by1 bf byg we hB q0 hqn hq
        have hn := hB.cnt
        by_cases hqe : q = n
        · show G _ _ _ _ _ _ _ _
          refine g_iload_n C dX6_first_67 rfl ?_
          refine g_iload_n C dX6_first_68 rfl ?_
          refine g_icmp_ge C 211 dX6_first_69 (by decide) (by omega) (fun h69 => ?_) (fun h69 => ?_)
          · refine g_iconst C dX6_first_211 ?_
            exact g_iret C rfl ⟨_, rfl, Or.inl ⟨hk, _, _, _, _, Or.inl ⟨rfl, fun u hu => hB.ent q0 hqn (by decide) hpd hu (Or.inl (by omega)) (Int.le_refl _)⟩, by decide, by decide, rfl⟩⟩ dX6_first_212
          · exact absurd h69 (by omega)
        have hqn2 : q < n := by omega
        have hqr := hB.2.2.2.2.1 q q0 hqn2
        have hwq := hB.1.2.2.1 q q0 hqn2
        have hle := hB.1.len q.toNat q (by omega) q0 hqn2
        have hPv : (fun u => wnt kind9 (Lf u) (Ls u)) (we q) = wnt kind9 (ends (qu q / 402)) (ends (402 + qu q % 402)) := by
          rw [hwq.1]; exact pm_lang hF hS kind9 hwq.2
        refine g_iload_n C dX6_first_67 rfl ?_
        refine g_iload_n C dX6_first_68 rfl ?_
        refine g_icmp_ge C 211 dX6_first_69 (by decide) (by omega) (fun h69 => ?_) (fun h69 => ?_)
        · exact absurd h69 (by omega)
        · refine g_aload_n C dX6_first_72 rfl ?_
          refine gM_queue C dX6_first_73 ?_
          refine g_iload_n C dX6_first_76 rfl ?_
          refine lM_queue C (by omega) dX6_first_77 ?_
          refine g_istore C dX6_first_78 (by decide) ?_
          refine g_aload_n C dX6_first_80 rfl ?_
          refine g_iload_n C dX6_first_81 rfl ?_
          refine g_iload C dX6_first_82 rfl ?_
          refine g_cVWz C [_, _] _ 0 cal_X6_279 (cM_is hk.1 hk.2 hqr.1 hqr.2) rfl rfl rfl rfl (Nat.le_of_ble_eq_true rfl) (room_b rfl) dX6_first_84 (fun r84 w hw84 => ?_)
          obtain ⟨rfl, rfl⟩ := hw84
          rw [← hPv]
          refine g_if_eq C 97 dX6_first_87 (by decide) (b2_r _) (fun h87 => ?_) (fun h87 => ?_)
          · have hpf := (b2_0 _).mp h87
            refine g_iconst C dX6_first_97 ?_
            refine g_istore C dX6_first_98 (by decide) ?_
            exact g_locR rfl (inner q (fun n2 qu2 fr2 by2 bf2 byg2 we2 hB2 hn2 => ih (q + 1) n2 qu2 fr2 by2 bf2 byg2 we2 hB2 (by omega) hn2 (by omega)) q0 128 0 n qu fr by1 bf byg we (hB.seen hpf) hqn2 (by decide) (by decide))
          · have hpt := (b2_ne0 _).mp h87
            refine g_aload_n C dX6_first_90 rfl ?_
            refine g_iload C dX6_first_91 rfl ?_
            refine g_cVWi C [_] _ 0 cal_X6_282 (cM_tell (q := q) (n := n) q0 hqn2 hn.2 hB.1 hB.2.2.2.1 hB.2.2.2.2.1 hB.2.2.2.2.2.1 rfl) rfl rfl rfl rfl (Nat.le_of_ble_eq_true rfl) (room_b rfl) dX6_first_93 (fun r93 w hw93 => ?_)
            obtain ⟨tx, hr, hsg, rfl⟩ := hw93
            exact g_iret C rfl ⟨_, rfl, Or.inl ⟨hk, _, _, _, tx, (by rw [hr]; exact hB.found q0 hqn2 hpd hpt tx hsg), by omega, by omega, by rw [hr]; unfold lenF; rw [if_neg (by omega)]⟩⟩ dX6_first_96
    have clear : ∀ (f : Nat) (i : Int) (fr : Int → Int), 0 ≤ i → i + (f : Int) = 161604 → (∀ j, 0 ≤ j → j < i → fr j = -1) → G X 7 0 0 (wM X.Z a tape taped place 0 r_op no op r_arg arg many low high masks cur readLow readHigh group choice chain hasEmpty sset label next states r_stamp ns stamp r_stack stack stamps piled reading readings wher built heads chained isE lives kind newKind first kinds leads sideStates ends text 0 queue fr by_ ways before ++ wr) 27 [(0, .ref (a 0)), (1, vI kind9), (2, vI i)] [] := by
      intro f
      induction f with
      | zero =>
        intro i fr i0 hi hfr
        have hB : FI (dPm leads) (fun u => wnt kind9 (Lf u) (Ls u)) 0 0 0 1 (up queue 0 0) (up fr 0 0) by_ (fun _ => 0) (fun _ => 0) (fun _ => []) :=
          ⟨Bq.start (up_same _ _ _), Pd.start, fun x x0 x1 => ⟨fun h => ⟨0, by decide, by decide, by by_cases e : x = 0; (rw [e, up_same]); (rw [up_ne _ _ e, hfr x x0 (by omega)] at h; exact absurd rfl h)⟩, fun ⟨j, j0, j1, j2⟩ => by (rw [show j = 0 by omega, up_same] at j2; rw [← j2, up_same]; decide)⟩, fun i j i0 i1 j0 j1 _ => by omega, fun j j0 j1 => by rw [show j = 0 by omega, up_same]; decide, fun j j0 j1 => by omega, fun j j0 j1 => by omega, fun x x0 x1 => by by_cases e : x = 0; (rw [e, up_same]; decide); (rw [up_ne _ _ e, hfr x x0 (by omega)]; decide)⟩
        refine g_iload_n C dX6_first_27 rfl ?_
        refine g_aload_n C dX6_first_28 rfl ?_
        refine gM_from C dX6_first_29 ?_
        refine nM_from C dX6_first_32 ?_
        refine g_icmp_ge C 49 dX6_first_33 (by decide) (by omega) (fun h33 => ?_) (fun h33 => ?_)
        · refine g_aload_n C dX6_first_49 rfl ?_
          refine gM_queue C dX6_first_50 ?_
          refine g_iconst C dX6_first_53 ?_
          refine g_iconst C dX6_first_54 ?_
          refine sM_queue C (by omega) dX6_first_55 ?_
          refine g_aload_n C dX6_first_56 rfl ?_
          refine gM_from C dX6_first_57 ?_
          refine g_iconst C dX6_first_60 ?_
          refine g_iconst C dX6_first_61 ?_
          refine sM_from C (by omega) dX6_first_62 ?_
          refine g_iconst C dX6_first_63 ?_
          refine g_istore_n C dX6_first_64 (by decide) ?_
          refine g_iconst C dX6_first_65 ?_
          refine g_istore_n C dX6_first_66 (by decide) ?_
          exact g_locR rfl (outer 161604 0 1 _ _ _ _ _ _ hB (by decide) (by decide) (by decide))
        · exact absurd h33 (by omega)
      | succ f ih =>
        intro i fr i0 hi hfr
        refine g_iload_n C dX6_first_27 rfl ?_
        refine g_aload_n C dX6_first_28 rfl ?_
        refine gM_from C dX6_first_29 ?_
        refine nM_from C dX6_first_32 ?_
        refine g_icmp_ge C 49 dX6_first_33 (by decide) (by omega) (fun h33 => ?_) (fun h33 => ?_)
        · exact absurd h33 (by omega)
        · refine g_aload_n C dX6_first_36 rfl ?_
          refine gM_from C dX6_first_37 ?_
          refine g_iload_n C dX6_first_40 rfl ?_
          refine g_iconst C dX6_first_41 ?_
          refine sM_from C (by omega) dX6_first_42 ?_
          refine g_iinc C dX6_first_43 rfl (by decide) ?_
          refine g_goto C 27 dX6_first_46 (by decide) ?_
          exact g_locR rfl (ih (i + 1) _ (by omega) (by omega) (fun j j0 j1 => by by_cases e : j = i; (rw [e, up_same]); (rw [up_ne _ _ e]; exact hfr j j0 (by omega))))
    refine g_aload_n C dX6_first_20 rfl ?_
    refine g_iconst C dX6_first_21 ?_
    refine pM_textLong C dX6_first_22 ?_
    refine g_iconst C dX6_first_25 ?_
    refine g_istore_n C dX6_first_26 (by decide) ?_
    exact g_locR rfl (clear 161604 0 frm (by decide) (by decide) (fun j j0 j1 => by omega))
  refine g_aload_n C dX6_first_0 rfl ?_
  refine g_iconst C dX6_first_1 ?_
  refine pM_thrown C dX6_first_2 ?_
  refine g_iload_n C dX6_first_5 rfl ?_
  refine g_if_lt C 14 dX6_first_6 (by decide) (by omega) (fun h6 => ?_) (fun h6 => ?_)
  · refine g_aload_n C dX6_first_14 rfl ?_
    refine g_iconst C dX6_first_15 ?_
    refine g_cVWi C [_] _ 0 cal_X6_267 cM_refuse rfl rfl rfl rfl (Nat.le_of_ble_eq_true rfl) (room_b rfl) dX6_first_16 (fun r16 w hw16 => ?_)
    obtain ⟨rfl, rfl⟩ := hw16
    exact g_iret C rfl ⟨_, rfl, Or.inr ⟨by omega, rfl⟩⟩ dX6_first_19
  · refine g_iload_n C dX6_first_9 rfl ?_
    refine g_iconst C dX6_first_10 ?_
    refine g_icmp_le C 20 dX6_first_11 (by decide) (by omega) (fun h11 => ?_) (fun h11 => ?_)
    · exact g_locR rfl (main (by omega))
    · refine g_aload_n C dX6_first_14 rfl ?_
      refine g_iconst C dX6_first_15 ?_
      refine g_cVWi C [_] _ 0 cal_X6_267 cM_refuse rfl rfl rfl rfl (Nat.le_of_ble_eq_true rfl) (room_b rfl) dX6_first_16 (fun r16 w hw16 => ?_)
      obtain ⟨rfl, rfl⟩ := hw16
      exact g_iret C rfl ⟨_, rfl, Or.inr ⟨by omega, rfl⟩⟩ dX6_first_19
