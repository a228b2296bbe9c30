/-! plain: words read backwards, their order, going through in breadth, counting -/
/-- a word backwards (its last byte first) leads from s to a state -/
def dq (d : Int → Int → Int) (s : Int) : List Int → Int
  | [] => s
  | b :: u => d (dq d s u) b
theorem dq_snoc (d : Int → Int → Int) (s b : Int) : ∀ u : List Int, dq d s (u ++ [b]) = dq d (d s b) u
  | [] => rfl
  | c :: u => by
    show d (dq d s (u ++ [b])) c = d (dq d (d s b) u) c
    rw [dq_snoc d s b u]
theorem dq_rn (mv : Int → Int) (s : Int) : ∀ u : List Int, dq (fun s b => mv (128 * s + b)) s u = rn mv s u.reverse
  | [] => rfl
  | b :: u => by
    rw [List.reverse_cons, rn_app, ← dq_rn mv s u]
    rfl
theorem Wd.rev {u : List Int} (h : Wd u) : Wd u.reverse := fun b hb => h b (List.mem_reverse.mp hb)
theorem dq_r {d : Int → Int → Int} {lo hi : Int} (hd : ∀ s b, lo ≤ s → s < hi → 0 ≤ b → b < 128 → lo ≤ d s b ∧ d s b < hi) {s : Int} (s0 : lo ≤ s) (s1 : s < hi) : ∀ u : List Int, Wd u → lo ≤ dq d s u ∧ dq d s u < hi
  | [], _ => ⟨s0, s1⟩
  | b :: u, h => by
    have ih := dq_r hd s0 s1 u h.cons.2
    exact hd _ _ ih.1 ih.2 h.cons.1.1 h.cons.1.2
/-- the number of a word: shorter ones first, then by bytes -/
def cr : List Int → Int
  | [] => 1
  | b :: u => 128 * cr u + b
theorem cr_pos : ∀ {u : List Int}, Wd u → 1 ≤ cr u
  | [], _ => by decide
  | b :: u, h => by
    have := cr_pos h.cons.2
    have := h.cons.1
    show 1 ≤ 128 * cr u + b
    omega
theorem cr_inj : ∀ {u v : List Int}, Wd u → Wd v → cr u = cr v → u = v
  | [], [], _, _, _ => rfl
  | [], c :: v, _, hv, h => by
    have := cr_pos hv.cons.2
    have := hv.cons.1
    have h : (1 : Int) = 128 * cr v + c := h
    omega
  | b :: u, [], hu, _, h => by
    have := cr_pos hu.cons.2
    have := hu.cons.1
    have h : 128 * cr u + b = (1 : Int) := h
    omega
  | b :: u, c :: v, hu, hv, h => by
    have a := hu.cons.1
    have c' := hv.cons.1
    have h : 128 * cr u + b = 128 * cr v + c := h
    have e1 : cr u = cr v := by omega
    have e2 : b = c := by omega
    rw [cr_inj hu.cons.2 hv.cons.2 e1, e2]
/-- bytes n .. n + k - 1, the last first -/
def seg (f : Int → Int) (n : Int) : Nat → List Int
  | 0 => []
  | k + 1 => f (n + k) :: seg f n k
theorem seg_len (f : Int → Int) (n : Int) : ∀ k : Nat, (seg f n k).length = k
  | 0 => rfl
  | k + 1 => by rw [seg, List.length_cons, seg_len f n k]
theorem seg_congr {f g : Int → Int} {n : Int} : ∀ k : Nat, (∀ i, n ≤ i → i < n + k → f i = g i) → seg f n k = seg g n k
  | 0, _ => rfl
  | k + 1, h => by
    rw [seg, seg, h (n + k) (by omega) (by omega), seg_congr k (fun i h0 h1 => h i h0 (by omega))]
theorem seg_back (f : Int → Int) (n b : Int) : ∀ k : Nat, seg (up f (n - 1) b) (n - 1) (k + 1) = seg f n k ++ [b]
  | 0 => by
    show [up f (n - 1) b (n - 1 + (0 : Nat))] = [b]
    rw [show n - 1 + ((0 : Nat) : Int) = n - 1 by omega, up_same]
  | k + 1 => by
    rw [seg, seg_back f n b k, seg, List.cons_append, up_ne _ _ (by omega), show n - 1 + ((k + 1 : Nat) : Int) = n + k by omega]
theorem seg_get {f g : Int → Int} {n : Int} : ∀ k : Nat, seg f n k = seg g n k → ∀ i, n ≤ i → i < n + k → f i = g i
  | 0, _, i, h0, h1 => by omega
  | k + 1, h, i, h0, h1 => by
    rw [seg, seg] at h
    injection h with h2 h3
    by_cases e : i = n + k
    · rw [e]; exact h2
    · exact seg_get k h3 i h0 (by omega)
theorem seg_wd {f : Int → Int} {n : Int} : ∀ k : Nat, (∀ i, n ≤ i → i < n + k → 0 ≤ f i ∧ f i < 128) → Wd (seg f n k)
  | 0, _ => Wd.nil
  | k + 1, h => Wd.mk (h _ (by omega) (by omega)).1 (h _ (by omega) (by omega)).2 (seg_wd k (fun i h0 h1 => h i h0 (by omega)))
/-- the first word that is wanted, or none -/
def FirstS (P : List Int → Bool) (res : Int) (text : Int → Int) : Prop :=
  (res = -1 ∧ ∀ u, Wd u → P u = false) ∨ ∃ u, Wd u ∧ res = (u.length : Int) ∧ seg text 0 u.length = u ∧ P u = true ∧ ∀ v, Wd v → P v = true → cr u ≤ cr v
theorem FirstS.same {P : List Int → Bool} {r r' : Int} {t t' : Int → Int} (h : FirstS P r t) (h' : FirstS P r' t') : r = r' ∧ ∀ i, 0 ≤ i → i < r → t i = t' i := by
  rcases h with ⟨h1, h2⟩ | ⟨u, hu, h1, h2, h3, h4⟩
  · rcases h' with ⟨g1, g2⟩ | ⟨v, hv, g1, g2, g3, g4⟩
    · exact ⟨by omega, fun i h0 h1 => by omega⟩
    · rw [h2 v hv] at g3; cases g3
  · rcases h' with ⟨g1, g2⟩ | ⟨v, hv, g1, g2, g3, g4⟩
    · rw [g2 u hu] at h3; cases h3
    · have e : u = v := cr_inj hu hv (by have a := h4 v hv g3; have b := g4 u hu h3; omega)
      subst e
      refine ⟨by omega, fun i h0 hi => seg_get u.length (h2.trans g2.symm) i h0 (by omega)⟩
/-- entries that were found: their states, words, whence they came -/
def Bq (d : Int → Int → Int) (s0 n : Int) (nd bf by_ : Int → Int) (we : Int → List Int) : Prop :=
  1 ≤ n ∧ we 0 = [] ∧ (∀ j, 0 ≤ j → j < n → nd j = dq d s0 (we j) ∧ Wd (we j)) ∧ (∀ j, 1 ≤ j → j < n → 0 ≤ bf j ∧ bf j < j ∧ we j = by_ j :: we (bf j)) ∧ ∀ i j, 0 ≤ i → i < j → j < n → cr (we i) < cr (we j)
/-- what was gone through leads to entries -/
def Pd (d : Int → Int → Int) (lo q c n : Int) (nd : Int → Int) (we : Int → List Int) : Prop :=
  (∀ j b, 0 ≤ j → j < n → 0 ≤ b → b < 128 → (j < q ∨ j = q ∧ b < c) → ∃ i, lo ≤ i ∧ i < n ∧ nd i = d (nd j) b ∧ cr (we i) ≤ 128 * cr (we j) + b) ∧ (q < n → ∀ j, 0 ≤ j → j < n → cr (we j) < 128 * cr (we q) + c)
theorem Bq.start {d : Int → Int → Int} {s0 : Int} {nd bf by_ : Int → Int} (h : nd 0 = s0) : Bq d s0 1 nd bf by_ (fun _ => []) :=
  ⟨by decide, rfl, fun j h0 h1 => ⟨by rw [show j = 0 by omega, h]; rfl, Wd.nil⟩, fun j h0 h1 => by omega, fun i j h0 h1 h2 => by omega⟩
theorem Pd.start {d : Int → Int → Int} {lo : Int} {nd : Int → Int} : Pd d lo 0 0 1 nd (fun _ => []) :=
  ⟨fun j b h0 h1 h2 h3 h4 => by omega, fun _ j h0 h1 => by show (1 : Int) < 128 * 1 + 0; decide⟩
theorem Pd.next {d : Int → Int → Int} {lo q n s0 : Int} {nd bf by_ : Int → Int} {we : Int → List Int} (h : Pd d lo q 128 n nd we) (hb : Bq d s0 n nd bf by_ we) (hq : 0 ≤ q) (hn : q < n) : Pd d lo (q + 1) 0 n nd we :=
  ⟨fun j b h0 h1 h2 h3 h4 => h.1 j b h0 h1 h2 h3 (by omega), fun hq1 j h0 h1 => by
    have a := h.2 hn j h0 h1
    have := hb.2.2.2.2 q (q + 1) hq (by omega) hq1
    omega⟩
/-- a known state -/
theorem Pd.old {d : Int → Int → Int} {lo q c n s0 : Int} {nd bf by_ : Int → Int} {we : Int → List Int} (h : Pd d lo q c n nd we) (hb : Bq d s0 n nd bf by_ we) (hq : q < n) (hl : 0 ≤ lo) {i : Int} (i0 : lo ≤ i) (i1 : i < n) (hi : nd i = d (nd q) c) : Pd d lo q (c + 1) n nd we := by
  refine ⟨fun j b h0 h1 h2 h3 h4 => ?_, fun hq j h0 h1 => by have := h.2 hq j h0 h1; omega⟩
  by_cases e : j = q ∧ b = c
  · rw [e.1, e.2]
    have := h.2 hq i (by omega) i1
    exact ⟨i, i0, i1, hi, by omega⟩
  · exact h.1 j b h0 h1 h2 h3 (by omega)
/-- a new state -/
theorem Bq.new {d : Int → Int → Int} {lo q c n s0 x : Int} {nd bf by_ : Int → Int} {we : Int → List Int} (h : Pd d lo q c n nd we) (hb : Bq d s0 n nd bf by_ we) (q0 : 0 ≤ q) (hq : q < n) (c0 : 0 ≤ c) (c1 : c < 128) (hx : x = d (nd q) c) :
    Bq d s0 (n + 1) (up nd n x) (up bf n q) (up by_ n c) (up we n (c :: we q)) := by
  obtain ⟨b1, b2, b3, b4, b5⟩ := hb
  have hwq := b3 q q0 hq
  refine ⟨by omega, by rw [up_ne _ _ (by omega)]; exact b2, fun j h0 h1 => ?_, fun j h0 h1 => ?_, fun i j h0 h1 h2 => ?_⟩
  · by_cases e : j = n
    · rw [e, up_same, up_same]
      exact ⟨by rw [hx, hwq.1]; rfl, Wd.mk c0 c1 hwq.2⟩
    · rw [up_ne _ _ e, up_ne _ _ e]
      exact b3 j h0 (by omega)
  · by_cases e : j = n
    · rw [e, up_same, up_same, up_same, up_ne _ _ (by omega)]
      exact ⟨q0, hq, rfl⟩
    · have := b4 j h0 (by omega)
      rw [up_ne _ _ e, up_ne _ _ e, up_ne _ _ e, up_ne _ _ (by omega)]
      exact this
  · rw [up_ne _ _ (show i ≠ n by omega)]
    by_cases e : j = n
    · rw [e, up_same]
      exact h.2 hq i h0 (by omega)
    · rw [up_ne _ _ e]
      exact b5 i j h0 h1 (by omega)
theorem Pd.new {d : Int → Int → Int} {lo q c n s0 x : Int} {nd bf by_ : Int → Int} {we : Int → List Int} (h : Pd d lo q c n nd we) (hb : Bq d s0 n nd bf by_ we) (q0 : 0 ≤ q) (hq : q < n) (hlo : lo ≤ 1) (hx : x = d (nd q) c) :
    Pd d lo q (c + 1) (n + 1) (up nd n x) (up we n (c :: we q)) := by
  have hn := hb.1
  refine ⟨fun j b h0 h1 h2 h3 h4 => ?_, fun hq1 j h0 h1 => ?_⟩
  · have hj : j ≠ n := by omega
    rw [up_ne _ _ hj, up_ne _ _ hj]
    by_cases e : j = q ∧ b = c
    · refine ⟨n, by omega, by omega, by rw [up_same, e.1, e.2]; exact hx, ?_⟩
      rw [up_same, e.1, e.2]
      exact Int.le_refl _
    · obtain ⟨i, i0, i1, i2, i3⟩ := h.1 j b h0 (by omega) h2 h3 (by omega)
      have hi : i ≠ n := by omega
      exact ⟨i, i0, by omega, by rw [up_ne _ _ hi]; exact i2, by rw [up_ne _ _ hi]; exact i3⟩
  · rw [up_ne _ _ (show q ≠ n by omega)]
    by_cases e : j = n
    · rw [e, up_same]
      show 128 * cr (we q) + c < 128 * cr (we q) + (c + 1)
      omega
    · rw [up_ne _ _ e]
      have := h.2 hq j h0 (by omega)
      omega
/-- whatever comes before what is gone through now has an entry -/
theorem bfs_full {d : Int → Int → Int} {lo q c n s0 : Int} {nd bf by_ : Int → Int} {we : Int → List Int} (h : Pd d lo q c n nd we) (hb : Bq d s0 n nd bf by_ we) (q0 : 0 ≤ q) (c1 : c ≤ 128) (hl : 0 ≤ lo) (hqn : q ≤ n) :
    ∀ u : List Int, Wd u → (u = [] → lo = 0) → (q = n ∨ cr u < 128 * cr (we q) + c) → ∃ i, lo ≤ i ∧ i < n ∧ nd i = dq d s0 u ∧ cr (we i) ≤ cr u
  | [], _, h0, _ => by
    have := hb.1
    refine ⟨0, by have := h0 rfl; omega, by omega, ?_, ?_⟩
    · rw [(hb.2.2.1 0 (by omega) (by omega)).1, hb.2.1]
    · rw [hb.2.1]; exact Int.le_refl _
  | b :: v, hw, _, hf => by
    have hv := hw.cons
    have hp := cr_pos hv.2
    have hf : q = n ∨ 128 * cr v + b < 128 * cr (we q) + c := hf
    have hj : ∃ j, 0 ≤ j ∧ j < n ∧ nd j = dq d s0 v ∧ cr (we j) ≤ cr v := by
      by_cases e : v = []
      · subst e
        exact ⟨0, by omega, by have := hb.1; omega, by rw [(hb.2.2.1 0 (by omega) (by have := hb.1; omega)).1, hb.2.1], by rw [hb.2.1]; exact Int.le_refl _⟩
      · obtain ⟨j, j0, j1, j2, j3⟩ := bfs_full h hb q0 c1 hl hqn v hv.2 (fun h => absurd h e) (by rcases hf with hf | hf; exact Or.inl hf; exact Or.inr (by omega))
        exact ⟨j, by omega, j1, j2, j3⟩
    obtain ⟨j, j0, j1, j2, j3⟩ := hj
    have hpr : j < q ∨ j = q ∧ b < c := by
      rcases hf with hf | hf
      · exact Or.inl (by omega)
      · by_cases e1 : j < q
        · exact Or.inl e1
        · by_cases e2 : j = q
          · exact Or.inr ⟨e2, by rw [e2] at j3; omega⟩
          · have := hb.2.2.2.2 q j q0 (by omega) j1
            omega
    obtain ⟨i, i0, i1, i2, i3⟩ := h.1 j b j0 j1 hv.1.1 hv.1.2 hpr
    exact ⟨i, i0, i1, by rw [i2, j2]; rfl, by show _ ≤ 128 * cr v + b; omega⟩
/-- as many different numbers below m -/
theorem inj_le {f : Int → Int} {n m : Int} (hm : 0 ≤ m) (hf : ∀ i, 0 ≤ i → i < n → 0 ≤ f i ∧ f i < m) (hi : ∀ i j, 0 ≤ i → i < n → 0 ≤ j → j < n → f i = f j → i = j) : n ≤ m :=
  onto_ge (I := fun s => 0 ≤ s ∧ s < m) (A := fun s => s) (g := f) ⟨hm, fun s h => h, fun y h0 h1 => ⟨y, ⟨h0, h1⟩, rfl⟩⟩ hf hi
/-! sums -/
def sm (f : Int → Int64) : Nat → Int64
  | 0 => 0
  | k + 1 => sm f k + f k
theorem sm_congr {f g : Int → Int64} : ∀ k : Nat, (∀ i : Int, 0 ≤ i → i < k → f i = g i) → sm f k = sm g k
  | 0, _ => rfl
  | k + 1, h => by rw [sm, sm, sm_congr k (fun i h0 h1 => h i h0 (by omega)), h k (by omega) (by omega)]
theorem sm_zero : ∀ k : Nat, sm (fun _ => 0) k = 0
  | 0 => rfl
  | k + 1 => by rw [sm, sm_zero k]; rfl
theorem sm_mul (a : Int64) (f : Int → Int64) : ∀ k : Nat, sm (fun i => a * f i) k = a * sm f k
  | 0 => by rw [sm, sm, Int64.mul_zero]
  | k + 1 => by rw [sm, sm, sm_mul a f k, Int64.mul_add]
theorem sm_up {f g : Int → Int64} {i : Int} {a : Int64} (i0 : 0 ≤ i) : ∀ k : Nat, sm (fun t => up f i (f i + a) t * g t) k = sm (fun t => f t * g t) k + (if i < k then a * g i else 0)
  | 0 => by rw [sm, sm, if_neg (by omega)]; rfl
  | k + 1 => by
    rw [sm, sm, sm_up i0 k]
    by_cases e : i = k
    · rw [if_neg (by omega), if_pos (by omega), e, up_same, Int64.add_mul]
      grind
    · rw [up_ne _ _ (show (k : Int) ≠ i from fun h => e h.symm)]
      by_cases e2 : i < k
      · rw [if_pos e2, if_pos (by omega)]
        grind
      · rw [if_neg e2, if_neg (by omega)]
        grind
/-- how many words of n bytes -/
def NL : Nat → (List Int → Bool) → Int64
  | 0, P => if P [] then 1 else 0
  | n + 1, P => sm (fun b => NL n (fun u => P (u ++ [b]))) 128
theorem NL_congr : ∀ (n : Nat) {P P' : List Int → Bool}, (∀ u, Wd u → u.length = n → P u = P' u) → NL n P = NL n P'
  | 0, P, P', h => by rw [NL, NL, h [] Wd.nil rfl]
  | n + 1, P, P', h => by
    rw [NL, NL]
    refine sm_congr 128 (fun b b0 b1 => NL_congr n (fun u hu hl => h _ ?_ (by rw [List.length_append, hl]; rfl)))
    intro x hx
    rcases List.mem_append.mp hx with hx | hx
    · exact hu x hx
    · rw [List.mem_singleton.mp hx]
      exact ⟨b0, by omega⟩
theorem NL_false : ∀ n : Nat, NL n (fun _ => false) = 0
  | 0 => rfl
  | n + 1 => by
    rw [NL, ← sm_zero 128]
    exact sm_congr 128 (fun b _ _ => NL_false n)
