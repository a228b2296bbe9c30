/-! plain: automata, words, what lives, what is alike, numberings -/
def Wd (w : List Int) : Prop := ∀ b, b ∈ w → 0 ≤ b ∧ b < 128
def rn (mv : Int → Int) (s : Int) (w : List Int) : Int := w.foldl (fun s b => mv (128 * s + b)) s
theorem rn_nil (mv : Int → Int) (s : Int) : rn mv s [] = s := rfl
theorem rn_cons (mv : Int → Int) (s b : Int) (w : List Int) : rn mv s (b :: w) = rn mv (mv (128 * s + b)) w := rfl
theorem rn_app (mv : Int → Int) (s : Int) (w v : List Int) : rn mv s (w ++ v) = rn mv (rn mv s w) v := by unfold rn; rw [List.foldl_append]
theorem Wd.cons {b : Int} {w : List Int} (h : Wd (b :: w)) : (0 ≤ b ∧ b < 128) ∧ Wd w := ⟨h b (List.mem_cons_self ..), fun x hx => h x (List.mem_cons_of_mem _ hx)⟩
theorem Wd.mk {b : Int} {w : List Int} (h0 : 0 ≤ b) (h1 : b < 128) (h : Wd w) : Wd (b :: w) := fun x hx => by
  rcases List.mem_cons.mp hx with e | hx
  · subst e; exact ⟨h0, h1⟩
  · exact h x hx
theorem Wd.nil : Wd [] := fun _ h => absurd h List.not_mem_nil
/-- moves lead to states -/
def MvOk (cnt : Int) (mv : Int → Int) : Prop := ∀ j, 0 ≤ j → j < 128 * cnt → 1 ≤ mv j ∧ mv j < cnt
theorem MvOk.at {cnt : Int} {mv : Int → Int} (h : MvOk cnt mv) {s b : Int} (s0 : 0 ≤ s) (s1 : s < cnt) (b0 : 0 ≤ b) (b1 : b < 128) : 1 ≤ mv (128 * s + b) ∧ mv (128 * s + b) < cnt := h _ (by omega) (by omega)
theorem rn_r {cnt : Int} {mv : Int → Int} (h : MvOk cnt mv) : ∀ (w : List Int) (s : Int), 0 ≤ s → s < cnt → Wd w → 0 ≤ rn mv s w ∧ rn mv s w < cnt
  | [], s, s0, s1, _ => ⟨s0, s1⟩
  | b :: w, s, s0, s1, hw => by
    have := h.at s0 s1 hw.cons.1.1 hw.cons.1.2
    rw [rn_cons]
    exact rn_r h w _ (by omega) this.2 hw.cons.2
def Liv (mv : Int → Int) (acc : Int → Bool) (s : Int) : Prop := ∃ w, Wd w ∧ acc (rn mv s w) = true
def Eqv (mv : Int → Int) (acc : Int → Bool) (s t : Int) : Prop := ∀ w, Wd w → acc (rn mv s w) = acc (rn mv t w)
theorem Liv.base {mv : Int → Int} {acc : Int → Bool} {s : Int} (h : acc s = true) : Liv mv acc s := ⟨[], Wd.nil, h⟩
theorem Liv.step {mv : Int → Int} {acc : Int → Bool} {s b : Int} (b0 : 0 ≤ b) (b1 : b < 128) (h : Liv mv acc (mv (128 * s + b))) : Liv mv acc s := by
  obtain ⟨w, h1, h2⟩ := h
  exact ⟨b :: w, Wd.mk b0 b1 h1, h2⟩
theorem liv_of {cnt : Int} {mv : Int → Int} {acc L : Int → Bool} (hmv : MvOk cnt mv) (hb : ∀ s, 0 ≤ s → s < cnt → acc s = true → L s = true) (hc : ∀ s, 0 ≤ s → s < cnt → ∀ b, 0 ≤ b → b < 128 → L (mv (128 * s + b)) = true → L s = true) : ∀ (w : List Int) (s : Int), 0 ≤ s → s < cnt → Wd w → acc (rn mv s w) = true → L s = true
  | [], s, s0, s1, _, h => hb s s0 s1 h
  | b :: w, s, s0, s1, hw, h => by
    have := hmv.at s0 s1 hw.cons.1.1 hw.cons.1.2
    exact hc s s0 s1 b hw.cons.1.1 hw.cons.1.2 (liv_of hmv hb hc w _ (by omega) this.2 hw.cons.2 h)
theorem Eqv.rf {mv : Int → Int} {acc : Int → Bool} {s : Int} : Eqv mv acc s s := fun _ _ => rfl
theorem Eqv.symm {mv : Int → Int} {acc : Int → Bool} {s t : Int} (h : Eqv mv acc s t) : Eqv mv acc t s := fun w hw => (h w hw).symm
theorem Eqv.trans {mv : Int → Int} {acc : Int → Bool} {s t u : Int} (h : Eqv mv acc s t) (h2 : Eqv mv acc t u) : Eqv mv acc s u := fun w hw => (h w hw).trans (h2 w hw)
theorem Eqv.acc {mv : Int → Int} {acc : Int → Bool} {s t : Int} (h : Eqv mv acc s t) : acc s = acc t := h [] Wd.nil
theorem Eqv.step {mv : Int → Int} {acc : Int → Bool} {s t b : Int} (h : Eqv mv acc s t) (b0 : 0 ≤ b) (b1 : b < 128) : Eqv mv acc (mv (128 * s + b)) (mv (128 * t + b)) := fun w hw => h (b :: w) (Wd.mk b0 b1 hw)
theorem Eqv.liv {mv : Int → Int} {acc : Int → Bool} {s t : Int} (h : Eqv mv acc s t) : Liv mv acc s ↔ Liv mv acc t := ⟨fun ⟨w, h1, h2⟩ => ⟨w, h1, by rw [← h w h1]; exact h2⟩, fun ⟨w, h1, h2⟩ => ⟨w, h1, by rw [h w h1]; exact h2⟩⟩
theorem eqv_of {cnt : Int} {mv : Int → Int} {acc : Int → Bool} {I : Int → Int → Prop} (hmv : MvOk cnt mv) (ha : ∀ s t, 0 ≤ s → s < cnt → 0 ≤ t → t < cnt → I s t → acc s = acc t) (hs : ∀ s t, 0 ≤ s → s < cnt → 0 ≤ t → t < cnt → I s t → ∀ b, 0 ≤ b → b < 128 → I (mv (128 * s + b)) (mv (128 * t + b))) : ∀ (w : List Int) (s t : Int), 0 ≤ s → s < cnt → 0 ≤ t → t < cnt → I s t → Wd w → acc (rn mv s w) = acc (rn mv t w)
  | [], s, t, s0, s1, t0, t1, h, _ => ha s t s0 s1 t0 t1 h
  | b :: w, s, t, s0, s1, t0, t1, h, hw => by
    have a := hmv.at s0 s1 hw.cons.1.1 hw.cons.1.2
    have c := hmv.at t0 t1 hw.cons.1.1 hw.cons.1.2
    rw [rn_cons, rn_cons]
    exact eqv_of hmv ha hs w _ _ (by omega) a.2 (by omega) c.2 (hs s t s0 s1 t0 t1 h b hw.cons.1.1 hw.cons.1.2) hw.cons.2
/-- how many are false -/
def cF (L : Int → Bool) (n : Int) : Nat := (List.range n.toNat).countP (fun i : Nat => !L (i : Int))
theorem cF_up {L : Int → Bool} {n s : Int} (s0 : 0 ≤ s) (s1 : s < n) (h : L s = false) : cF (up L s true) n < cF L n := by
  refine countP_lt _ ?_ ⟨s.toNat, List.mem_range.mpr (by omega), ?_, ?_⟩
  · intro x hx hp
    by_cases e : (x : Int) = s
    · rw [e, up_same] at hp; exact absurd hp (by decide)
    · rw [up_ne _ _ e] at hp; exact hp
  · rw [Int.toNat_of_nonneg s0, h]; rfl
  · rw [Int.toNat_of_nonneg s0, up_same]; rfl
/-- a list that holds all numbers below m is as long -/
theorem len_of : ∀ (m : Nat) (l : List Int), (∀ y : Int, 0 ≤ y → y < (m : Int) → y ∈ l) → m ≤ l.length
  | 0, _, _ => Nat.zero_le _
  | m + 1, l, h => by
    have hm : (m : Int) ∈ l := h m (by omega) (by omega)
    have ih := len_of m (l.erase (m : Int)) (fun y y0 y1 => (List.mem_erase_of_ne (by omega)).mpr (h y y0 (by omega)))
    rw [List.length_erase_of_mem hm] at ih
    have : 0 < l.length := List.length_pos_of_mem hm
    omega
/-- the states of I are numbered by A, below m -/
def Onto (I : Int → Prop) (A : Int → Int) (m : Int) : Prop := 0 ≤ m ∧ (∀ s, I s → 0 ≤ A s ∧ A s < m) ∧ ∀ y, 0 ≤ y → y < m → ∃ s, I s ∧ A s = y
theorem onto_le {I : Int → Prop} {A B : Int → Int} {m m' : Int} (hA : Onto I A m) (hB : Onto I B m') (href : ∀ s t, I s → I t → B s = B t → A s = A t) : m ≤ m' ∧ (m = m' → ∀ s t, I s → I t → A s = A t → B s = B t) := by
  obtain ⟨am, a1, a2⟩ := hA
  obtain ⟨bm, b1, b2⟩ := hB
  have hx : ∀ k : Nat, ∃ s, (k : Int) < m' → I s ∧ B s = k := by
    intro k
    by_cases e : (k : Int) < m'
    · obtain ⟨s, h⟩ := b2 k (by omega) e
      exact ⟨s, fun _ => h⟩
    · exact ⟨0, fun h => absurd h e⟩
  let g : Nat → Int := fun k => Classical.choose (hx k)
  have hg : ∀ k : Nat, (k : Int) < m' → I (g k) ∧ B (g k) = k := fun k => Classical.choose_spec (hx k)
  have key : ∀ s, I s → A (g (B s).toNat) = A s := by
    intro s hs
    have hb := b1 s hs
    have := hg (B s).toNat (by omega)
    exact href _ _ this.1 hs (by rw [this.2]; omega)
  constructor
  · have := len_of m.toNat ((List.range m'.toNat).map (fun k => A (g k))) (fun y y0 y1 => by
      obtain ⟨s, hs, he⟩ := a2 y y0 (by omega)
      have hb := b1 s hs
      exact List.mem_map.mpr ⟨(B s).toNat, List.mem_range.mpr (by omega), by rw [key s hs]; exact he⟩)
    rw [List.length_map, List.length_range] at this
    omega
  · intro em s t hs ht he
    by_cases q : B s = B t
    · exact q
    · exfalso
      have hbs := b1 s hs
      have hbt := b1 t ht
      have hmem : (B t).toNat ∈ List.range m'.toNat := List.mem_range.mpr (by omega)
      have := len_of m.toNat (((List.range m'.toNat).erase (B t).toNat).map (fun k => A (g k))) (fun y y0 y1 => by
        obtain ⟨u, hu, he2⟩ := a2 y y0 (by omega)
        have hb := b1 u hu
        by_cases e3 : (B u).toNat = (B t).toNat
        · refine List.mem_map.mpr ⟨(B s).toNat, (List.mem_erase_of_ne (by omega)).mpr (List.mem_range.mpr (by omega)), ?_⟩
          show A (g (B s).toNat) = y
          rw [key s hs, he, ← href u t hu ht (by omega)]
          exact he2
        · refine List.mem_map.mpr ⟨(B u).toNat, (List.mem_erase_of_ne e3).mpr (List.mem_range.mpr (by omega)), ?_⟩
          show A (g (B u).toNat) = y
          rw [key u hu]; exact he2)
      rw [List.length_map, List.length_erase_of_mem hmem, List.length_range] at this
      omega
/-- as many different ones as there are cannot be numbered with fewer -/
theorem onto_ge {I : Int → Prop} {A : Int → Int} {m n : Int} {g : Int → Int} (hA : Onto I A m) (hg : ∀ i, 0 ≤ i → i < n → I (g i)) (hi : ∀ i j, 0 ≤ i → i < n → 0 ≤ j → j < n → A (g i) = A (g j) → i = j) : n ≤ m := by
  by_cases hn : n ≤ 0
  · have := hA.1; omega
  have hx : ∀ y : Int, ∃ i, 0 ≤ i ∧ i < n ∧ ((∃ i, 0 ≤ i ∧ i < n ∧ A (g i) = y) → A (g i) = y) := by
    intro y
    by_cases e : ∃ i, 0 ≤ i ∧ i < n ∧ A (g i) = y
    · obtain ⟨i, h0, h1, h2⟩ := e
      exact ⟨i, h0, h1, fun _ => h2⟩
    · exact ⟨0, by omega, by omega, fun h => absurd h e⟩
  let f : Int → Int := fun y => Classical.choose (hx y)
  have hf : ∀ y, 0 ≤ f y ∧ f y < n ∧ ((∃ i, 0 ≤ i ∧ i < n ∧ A (g i) = y) → A (g (f y)) = y) := fun y => Classical.choose_spec (hx y)
  have := len_of n.toNat ((List.range m.toNat).map (fun k : Nat => f (k : Int))) (fun y y0 y1 => by
    have ha := hA.2.1 (g y) (hg y y0 (by omega))
    refine List.mem_map.mpr ⟨(A (g y)).toNat, List.mem_range.mpr (by omega), ?_⟩
    show f ((A (g y)).toNat : Int) = y
    rw [Int.toNat_of_nonneg ha.1]
    have h := hf (A (g y))
    exact hi _ _ h.1 h.2.1 y0 (by omega) (h.2.2 ⟨y, y0, by omega, rfl⟩))
  rw [List.length_map, List.length_range] at this
  omega
/-- both move alike by the groups -/
def Alk (groups mv : Int → Int) (s t : Int) : Prop := groups s = groups t ∧ ∀ b, 0 ≤ b → b < 128 → groups (mv (128 * s + b)) = groups (mv (128 * t + b))
theorem Alk.rf {g mv : Int → Int} {s : Int} : Alk g mv s s := ⟨rfl, fun _ _ _ => rfl⟩
theorem Alk.symm {g mv : Int → Int} {s t : Int} (h : Alk g mv s t) : Alk g mv t s := ⟨h.1.symm, fun b b0 b1 => (h.2 b b0 b1).symm⟩
theorem Alk.trans {g mv : Int → Int} {s t u : Int} (h : Alk g mv s t) (h2 : Alk g mv t u) : Alk g mv s u := ⟨h.1.trans h2.1, fun b b0 b1 => (h.2 b b0 b1).trans (h2.2 b b0 b1)⟩
