/-! plain: bits that are taken away, chains of numbers, the sets that are found -/
theorem countP_lt {p q : Nat → Bool} : ∀ (l : List Nat), (∀ x, x ∈ l → p x = true → q x = true) → (∃ x, x ∈ l ∧ q x = true ∧ p x = false) → l.countP p < l.countP q
  | [], _, h => by obtain ⟨x, h1, _⟩ := h; cases h1
  | y :: l, h1, h2 => by
    have hle : l.countP p ≤ l.countP q := List.countP_mono_left (fun x hx => h1 x (List.mem_cons_of_mem _ hx))
    rw [List.countP_cons, List.countP_cons]
    obtain ⟨x, hx, hq, hp⟩ := h2
    rcases List.mem_cons.mp hx with e | hx
    · subst e
      rw [hq, hp]
      simp
      omega
    · have h3 := countP_lt l (fun x hx => h1 x (List.mem_cons_of_mem _ hx)) ⟨x, hx, hq, hp⟩
      have h4 := h1 y (List.mem_cons_self ..)
      cases hy : p y with
      | false => simp; omega
      | true => rw [h4 hy]; simp; omega
def pop (v : Int64) : Nat := (List.range 64).countP (fun i : Nat => bt v (i : Int))
theorem bt_clr {v : Int64} {i j : Int} (i0 : 0 ≤ i) (i1 : i < 64) (j0 : 0 ≤ j) (j1 : j < 64) (h : bt v i = true) : bt (v ^^^ lshl 1 i) j = (bt v j && decide (j ≠ i)) := by
  rw [bt_xor, bt_one i0 i1 j0 j1]
  by_cases e : i = j
  · subst e; simp [h]
  · have : j ≠ i := fun h => e h.symm
    simp [e, this]
theorem pop_clr {v : Int64} {i : Int} (i0 : 0 ≤ i) (i1 : i < 64) (h : bt v i = true) : pop (v ^^^ lshl 1 i) < pop v := by
  refine countP_lt (List.range 64) ?_ ?_
  · intro x hx hp
    have hx' := List.mem_range.mp hx
    rw [bt_clr i0 i1 (by omega) (by omega) h] at hp
    simp at hp
    exact hp.1
  · refine ⟨i.toNat, List.mem_range.mpr (by omega), ?_, ?_⟩
    · show bt v (i.toNat : Int) = true
      rw [Int.toNat_of_nonneg i0]; exact h
    · show bt (v ^^^ lshl 1 i) (i.toNat : Int) = false
      rw [Int.toNat_of_nonneg i0, bt_clr i0 i1 i0 i1 h]
      simp
/-- a chain of numbers -/
def Lst (ch : Int → Int) : Int → List Int → Prop
  | h, [] => h = -1
  | h, x :: l => h = x ∧ 0 ≤ x ∧ Lst ch (ch x) l
theorem Lst.keep {ch : Int → Int} {n v : Int} : ∀ {l : List Int} {h : Int}, Lst ch h l → (∀ x, x ∈ l → x < n) → Lst (up ch n v) h l
  | [], _, h, _ => h
  | x :: l, _, h, hl => ⟨h.1, h.2.1, by rw [up_ne _ _ (by have := hl x (List.mem_cons_self ..); omega)]; exact Lst.keep h.2.2 (fun y hy => hl y (List.mem_cons_of_mem _ hy))⟩
/-- heads of chains: all numbers below n that count stand in the chain of their slot -/
def ChOk (hd ch : Int → Int) (H n : Int) (rep : Int → Prop) (slot : Int → Int) : Prop := ∃ B : Int → List Int, ∀ i, 0 ≤ i → i < H → Lst ch (hd i) (B i) ∧ (∀ t, t ∈ B i → 0 ≤ t ∧ t < n ∧ rep t) ∧ ∀ t, 0 ≤ t → t < n → rep t → slot t = i → t ∈ B i
theorem ChOk.new {hd ch : Int → Int} {H n : Int} {rep : Int → Prop} {slot : Int → Int} (hh : ∀ i, 0 ≤ i → i < H → hd i = -1) (hr : ∀ t, 0 ≤ t → t < n → ¬ rep t) : ChOk hd ch H n rep slot :=
  ⟨fun _ => [], fun i i0 i1 => ⟨hh i i0 i1, (fun t h => absurd h List.not_mem_nil), fun t t0 t1 h => absurd h (hr t t0 t1)⟩⟩
theorem ChOk.add {hd ch : Int → Int} {H n : Int} {rep rep' : Int → Prop} {slot slot' : Int → Int} {i : Int} (h : ChOk hd ch H n rep slot) (hn : 0 ≤ n) (hs : slot' n = i) (hrn : rep' n) (e1 : ∀ t, 0 ≤ t → t < n → (rep' t ↔ rep t)) (e2 : ∀ t, 0 ≤ t → t < n → rep t → slot' t = slot t) : ChOk (up hd i n) (up ch n (hd i)) H (n + 1) rep' slot' := by
  obtain ⟨B, hB⟩ := h
  refine ⟨fun j => if j = i then n :: B i else B j, fun j j0 j1 => ?_⟩
  obtain ⟨b1, b2, b3⟩ := hB j j0 j1
  by_cases e : j = i
  · subst e
    rw [up_same]
    simp only [if_true]
    refine ⟨⟨rfl, hn, ?_⟩, ?_, ?_⟩
    · rw [up_same]
      exact b1.keep (fun x hx => (b2 x hx).2.1)
    · intro t ht
      rcases List.mem_cons.mp ht with rfl | ht
      · exact ⟨hn, by omega, hrn⟩
      · have := b2 t ht
        exact ⟨this.1, by omega, (e1 t this.1 this.2.1).mpr this.2.2⟩
    · intro t t0 t1 hr hsl
      by_cases q : t = n
      · subst q; exact List.mem_cons_self ..
      · have hr' := (e1 t t0 (by omega)).mp hr
        exact List.mem_cons_of_mem _ (b3 t t0 (by omega) hr' (by rw [← e2 t t0 (by omega) hr']; exact hsl))
  · rw [up_ne _ _ e]
    simp only [if_neg e]
    refine ⟨b1.keep (fun x hx => (b2 x hx).2.1), fun t ht => ?_, fun t t0 t1 hr hsl => ?_⟩
    · have := b2 t ht
      exact ⟨this.1, by omega, (e1 t this.1 this.2.1).mpr this.2.2⟩
    · by_cases q : t = n
      · subst q; exact absurd (hsl.symm.trans hs) e
      · have hr' := (e1 t t0 (by omega)).mp hr
        exact b3 t t0 (by omega) hr' (by rw [← e2 t t0 (by omega) hr']; exact hsl)
theorem ChOk.mono {hd ch : Int → Int} {H n : Int} {rep rep' : Int → Prop} {slot slot' : Int → Int} (h : ChOk hd ch H n rep slot) (e1 : ∀ t, 0 ≤ t → t < n → (rep' t ↔ rep t)) (e2 : ∀ t, 0 ≤ t → t < n → rep t → slot' t = slot t) : ChOk hd ch H n rep' slot' := by
  obtain ⟨B, hB⟩ := h
  refine ⟨B, fun j j0 j1 => ?_⟩
  obtain ⟨b1, b2, b3⟩ := hB j j0 j1
  refine ⟨b1, fun t ht => ?_, fun t t0 t1 hr hsl => ?_⟩
  · have := b2 t ht
    exact ⟨this.1, this.2.1, (e1 t this.1 this.2.1).mpr this.2.2⟩
  · have hr' := (e1 t t0 t1).mp hr
    exact b3 t t0 t1 hr' (by rw [← e2 t t0 t1 hr']; exact hsl)
/-- one more number that does not count -/
theorem ChOk.skip {hd ch : Int → Int} {H n : Int} {rep rep' : Int → Prop} {slot slot' : Int → Int} (h : ChOk hd ch H n rep slot) (hrn : ¬ rep' n) (e1 : ∀ t, 0 ≤ t → t < n → (rep' t ↔ rep t)) (e2 : ∀ t, 0 ≤ t → t < n → rep t → slot' t = slot t) : ChOk hd ch H (n + 1) rep' slot' := by
  obtain ⟨B, hB⟩ := h
  refine ⟨B, fun j j0 j1 => ?_⟩
  obtain ⟨b1, b2, b3⟩ := hB j j0 j1
  refine ⟨b1, fun t ht => ?_, fun t t0 t1 hr hsl => ?_⟩
  · have := b2 t ht
    exact ⟨this.1, by omega, (e1 t this.1 this.2.1).mpr this.2.2⟩
  · have hne : t ≠ n := fun q => hrn (q ▸ hr)
    have hr' := (e1 t t0 (by omega)).mp hr
    exact b3 t t0 (by omega) hr' (by rw [← e2 t t0 (by omega) hr']; exact hsl)
/-! the sets of places -/
def same (R S : Int → Bool) : Prop := ∀ p, 0 ≤ p → p < 448 → R p = S p
noncomputable def tr (p : Prop) : Bool := @decide p (Classical.propDecidable p)
theorem tr_iff {p : Prop} : tr p = true ↔ p := @decide_eq_true_iff p (Classical.propDecidable p)
noncomputable def tgt (fi : Int → Bool) (fo : Int → Int → Bool) (tk : Int → Int → Bool) (S : Int → Int → Bool) (s b : Int) : Int → Bool := fun q => (if s = 0 then fi q else tr (∃ p, 0 ≤ p ∧ p < 448 ∧ S s p = true ∧ fo p q = true)) && tk q b
abbrev Ex : Type := Int × (Int → Int → Bool) × (Int → Int)
abbrev Ex.cnt (e : Ex) : Int := e.1
abbrev Ex.S (e : Ex) : Int → Int → Bool := e.2.1
abbrev Ex.mv (e : Ex) : Int → Int := e.2.2
def Mat (e : Ex) (R : Int → Bool) (m : Int) : Prop := 1 ≤ m ∧ m < e.cnt ∧ same (e.S m) R
noncomputable def exStep (tg : (Int → Int → Bool) → Int → Int → Int → Bool) (j : Int) (e : Ex) : Option Ex :=
  @dite (Option Ex) (∃ m, Mat e (tg e.S (j / 128) (j % 128)) m) (Classical.propDecidable _) (fun h => some (e.cnt, e.S, up e.mv j (Classical.choose h))) (fun _ => if 400 < e.cnt then none else some (e.cnt + 1, up e.S e.cnt (tg e.S (j / 128) (j % 128)), up e.mv j e.cnt))
noncomputable def exRun (tg : (Int → Int → Bool) → Int → Int → Int → Bool) : Nat → Int → Ex → Option Ex
  | 0, _, e => some e
  | f + 1, j, e => if j < 128 * e.cnt then (match exStep tg j e with | none => none | some e' => exRun tg f (j + 1) e') else some e
def Dis (e : Ex) : Prop := ∀ m n, 1 ≤ m → m < e.cnt → 1 ≤ n → n < e.cnt → same (e.S m) (e.S n) → m = n
theorem same.symm {R S : Int → Bool} (h : same R S) : same S R := fun p p0 p1 => (h p p0 p1).symm
theorem same.trans {R S T : Int → Bool} (h : same R S) (h2 : same S T) : same R T := fun p p0 p1 => (h p p0 p1).trans (h2 p p0 p1)
theorem exStep_old {tg : (Int → Int → Bool) → Int → Int → Int → Bool} {j m : Int} {e : Ex} (hd : Dis e) (h : Mat e (tg e.S (j / 128) (j % 128)) m) : exStep tg j e = some (e.cnt, e.S, up e.mv j m) := by
  unfold exStep
  have hx : ∃ m, Mat e (tg e.S (j / 128) (j % 128)) m := ⟨m, h⟩
  rw [dif_pos hx]
  have hs := Classical.choose_spec hx
  rw [hd _ _ hs.1 hs.2.1 h.1 h.2.1 (hs.2.2.trans h.2.2.symm)]
theorem exStep_full {tg : (Int → Int → Bool) → Int → Int → Int → Bool} {j : Int} {e : Ex} (h : ∀ m, ¬ Mat e (tg e.S (j / 128) (j % 128)) m) (hc : 400 < e.cnt) : exStep tg j e = none := by
  unfold exStep
  rw [dif_neg (fun ⟨m, hm⟩ => h m hm), if_pos hc]
theorem exStep_new {tg : (Int → Int → Bool) → Int → Int → Int → Bool} {j : Int} {e : Ex} (h : ∀ m, ¬ Mat e (tg e.S (j / 128) (j % 128)) m) (hc : ¬ 400 < e.cnt) : exStep tg j e = some (e.cnt + 1, up e.S e.cnt (tg e.S (j / 128) (j % 128)), up e.mv j e.cnt) := by
  unfold exStep
  rw [dif_neg (fun ⟨m, hm⟩ => h m hm), if_neg hc]
theorem Dis.new {e : Ex} {R : Int → Bool} {mv : Int → Int} (hd : Dis e) (h : ∀ m, ¬ Mat e R m) : Dis (e.cnt + 1, up e.S e.cnt R, mv) := by
  intro m n m0 m1 n0 n1 hs
  have m1 : m < e.cnt + 1 := m1
  have n1 : n < e.cnt + 1 := n1
  have hs : same (up e.S e.cnt R m) (up e.S e.cnt R n) := hs
  by_cases a : m = e.cnt
  · by_cases b : n = e.cnt
    · omega
    · rw [a, up_same, up_ne _ _ b] at hs
      exact absurd ⟨n0, by omega, hs.symm⟩ (h n)
  · by_cases b : n = e.cnt
    · rw [b, up_same, up_ne _ _ a] at hs
      exact absurd ⟨m0, by omega, hs⟩ (h m)
    · rw [up_ne _ _ a, up_ne _ _ b] at hs
      exact hd m n m0 (by omega) n0 (by omega) hs
