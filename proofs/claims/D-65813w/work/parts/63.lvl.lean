/-! plain: open groups, their alternatives, jumps that wait -/
def Pend (op arg : Int → Int) : Int → Int → List PV → Int → Int → Prop
  | g, prev, [], c, ch => c = g ∧ ch = prev
  | g, prev, A :: As, c, ch => ∃ m, g + 1 ≤ m ∧ op g = 1 ∧ arg g = m + 1 - g ∧ RepA op arg (g + 1) m A ∧ op m = 2 ∧ arg m = prev ∧ Pend op arg (m + 1) m As c ch
theorem Pend.le {op arg : Int → Int} : ∀ {As : List PV} {g prev c ch : Int}, Pend op arg g prev As c ch → g ≤ c ∧ (ch = prev ∨ (g ≤ ch ∧ ch < c))
  | [], g, prev, c, ch, h => ⟨by have := h.1; omega, Or.inl h.2⟩
  | A :: As, g, prev, c, ch, ⟨m, h1, _, _, _, _, _, h7⟩ => by
    have := Pend.le h7
    exact ⟨by omega, Or.inr (by omega)⟩
theorem Pend.congr {op arg op' arg' : Int → Int} : ∀ {As : List PV} {g prev c ch : Int}, Pend op arg g prev As c ch → (∀ i, g ≤ i → i < c → op' i = op i ∧ arg' i = arg i) → Pend op' arg' g prev As c ch
  | [], g, prev, c, ch, h, _ => h
  | A :: As, g, prev, c, ch, ⟨m, h1, h2, h3, h4, h5, h6, h7⟩, hq => by
    have hl := Pend.le h7
    have q1 := hq g (by omega) (by omega)
    have q2 := hq m (by omega) (by omega)
    exact ⟨m, h1, by rw [q1.1]; exact h2, by rw [q1.2]; exact h3, h4.congr (fun i i0 i1 => hq i (by omega) (by omega)), by rw [q2.1]; exact h5, by rw [q2.2]; exact h6, h7.congr (fun i i0 i1 => hq i (by omega) i1)⟩
theorem Pend.snoc {op arg : Int → Int} {B : PV} {m : Int} : ∀ {As : List PV} {g prev c ch : Int}, Pend op arg g prev As c ch → c + 1 ≤ m → op c = 1 → arg c = m + 1 - c → RepA op arg (c + 1) m B → op m = 2 → arg m = ch → Pend op arg g prev (As ++ [B]) (m + 1) m
  | [], g, prev, c, ch, h, h1, h2, h3, h4, h5, h6 => by
    obtain ⟨rfl, rfl⟩ := h
    exact ⟨m, h1, h2, h3, h4, h5, h6, rfl, rfl⟩
  | A :: As, g, prev, c, ch, ⟨m', g1, g2, g3, g4, g5, g6, g7⟩, h1, h2, h3, h4, h5, h6 => ⟨m', g1, g2, g3, g4, g5, g6, g7.snoc h1 h2 h3 h4 h5 h6⟩
def asU : List PV → PV → PV
  | [], C => C
  | A :: As, C => vAlt A (asU As C)
/-- the jumps of a group lead to its end e -/
def LdR (op arg arg2 : Int → Int) (e g : Int) (As : List PV) (c : Int) : Prop := (∀ i, i < g ∨ c ≤ i → arg2 i = arg i) ∧ (∀ i, op i ≠ 2 → arg2 i = arg i) ∧ ∀ C, RepA op arg2 c e C → RepA op arg2 g e (asU As C)
theorem LdR.nil {op arg : Int → Int} {e g : Int} : LdR op arg arg e g [] g := ⟨fun _ _ => rfl, fun _ _ => rfl, fun _ h => h⟩
theorem LdR.cons {op arg arg2 : Int → Int} {e g m c ch : Int} {A : PV} {As : List PV} (h1 : g + 1 ≤ m) (h2 : op g = 1) (h3 : arg g = m + 1 - g) (h4 : RepA op arg (g + 1) m A) (h5 : op m = 2) (h7 : Pend op arg (m + 1) m As c ch) (hce : c ≤ e) (h : LdR op arg arg2 e (m + 1) As c) : LdR op arg (up arg2 m (e - m)) e g (A :: As) c := by
  have hl := Pend.le h7
  refine ⟨fun i hi => ?_, fun i hi => ?_, fun C hC => ?_⟩
  · rw [up_ne _ _ (by omega)]
    exact h.1 i (by omega)
  · rw [up_ne _ _ (fun e => hi (by rw [e]; exact h5))]
    exact h.2.1 i hi
  · have r1 : RepA op arg2 c e C := hC.congr (fun i i0 i1 => ⟨rfl, by rw [up_ne _ _ (by omega)]⟩)
    have r2 := h.2.2 C r1
    refine rep_alt h2 (by rw [up_ne _ _ (by omega), h.1 g (by omega)]; exact h3) (h4.congr (fun i i0 i1 => ⟨rfl, by rw [up_ne _ _ (by omega), h.1 i (by omega)]⟩)) h5 (up_same _ _ _) (r2.congr (fun i i0 i1 => ⟨rfl, by rw [up_ne _ _ (by omega)]⟩))
def uatr : Option PV → Option Int → Option Int → Bool
  | none, _, _ => false
  | some A, o, o' => atr A o o'
theorem atr_fin (U : Option PV) (C : PV) (o o' : Option Int) : atr (finU U C) o o' = (uatr U o o' || atr C o o') := by
  cases U with
  | none => rfl
  | some A => exact atr_alt A C o o'
theorem atr_asU (As : List PV) (C : PV) (o o' : Option Int) : atr (asU As C) o o' = (As.any (fun A => atr A o o') || atr C o o') := by
  induction As with
  | nil => rfl
  | cons A As ih =>
    show atr (vAlt A (asU As C)) o o' = ((atr A o o' || As.any (fun A => atr A o o')) || atr C o o')
    rw [atr_alt, ih, Bool.or_assoc]
/-- one open group: its alternatives that are ended, the one that is being read -/
def Lv1 (op arg group choice chain : Int → Int) (hasE : Int → Bool) (d : Int) (U : Option PV) (C : PV) (top : Int) : Prop :=
  ∃ As, Pend op arg (group d) (-1) As (choice d) (chain d) ∧ 0 ≤ group d ∧ RepA op arg (choice d) top C ∧ (∀ o o', uatr U o o' = As.any (fun A => atr A o o')) ∧ (hasE d = true → uatr U none none = true)
def Lvl (op arg group choice chain : Int → Int) (hasE : Int → Bool) : List Fr → Int → Prop
  | [], top => top = 0
  | (U, C) :: K, top => Lv1 op arg group choice chain hasE K.length U C top ∧ Lvl op arg group choice chain hasE K (group K.length)
theorem Lv1.congr {op arg op' arg' group choice chain group' choice' chain' : Int → Int} {hasE hasE' : Int → Bool} {d : Int} {U : Option PV} {C : PV} {top : Int} (h : Lv1 op arg group choice chain hasE d U C top) (hq : ∀ i, 0 ≤ i → i < top → op' i = op i ∧ arg' i = arg i) (h1 : group' d = group d) (h2 : choice' d = choice d) (h3 : chain' d = chain d) (h4 : hasE' d = hasE d) : Lv1 op' arg' group' choice' chain' hasE' d U C top := by
  obtain ⟨As, a1, a2, a3, a4, a5⟩ := h
  have hl := Pend.le a1
  have hc := a3.1
  exact ⟨As, by rw [h1, h2, h3]; exact a1.congr (fun i i0 i1 => hq i (by omega) (by omega)), by rw [h1]; exact a2, by rw [h2]; exact a3.congr (fun i i0 i1 => hq i (by omega) i1), a4, by rw [h4]; exact a5⟩
theorem Lv1.r {op arg group choice chain : Int → Int} {hasE : Int → Bool} {d : Int} {U : Option PV} {C : PV} {top : Int} (h : Lv1 op arg group choice chain hasE d U C top) : 0 ≤ group d ∧ group d ≤ choice d ∧ choice d ≤ top ∧ (chain d = -1 ∨ (group d ≤ chain d ∧ chain d < choice d)) := by
  obtain ⟨As, a1, a2, a3, a4, a5⟩ := h
  have hl := Pend.le a1
  exact ⟨a2, hl.1, a3.1, hl.2⟩
theorem Lvl.congr {op arg op' arg' group choice chain group' choice' chain' : Int → Int} {hasE hasE' : Int → Bool} : ∀ {K : List Fr} {top : Int}, Lvl op arg group choice chain hasE K top → (∀ i, 0 ≤ i → i < top → op' i = op i ∧ arg' i = arg i) → (∀ d, 0 ≤ d → d < (K.length : Int) → group' d = group d ∧ choice' d = choice d ∧ chain' d = chain d ∧ hasE' d = hasE d) → Lvl op' arg' group' choice' chain' hasE' K top
  | [], top, h, _, _ => h
  | (U, C) :: K, top, h, hq, ha => by
    have hd := ha K.length (by omega) (by show (K.length : Int) < ((K.length + 1 : Nat) : Int); omega)
    have hr := h.1.r
    refine ⟨h.1.congr hq hd.1 hd.2.1 hd.2.2.1 hd.2.2.2, ?_⟩
    rw [hd.1]
    exact Lvl.congr h.2 (fun i i0 i1 => hq i i0 (by omega)) (fun d d0 d1 => ha d d0 (by show d < ((K.length + 1 : Nat) : Int); omega))
def BytOk (op arg : Int → Int) (many masks : Int) : Prop :=
  (∀ i, 0 ≤ i → i < many → (op i = 0 ∨ op i = 1 ∨ op i = 2) ∧ (op i = 0 → 0 ≤ arg i ∧ arg i < masks)) ∧ (∀ p, 0 ≤ p → p < masks → ∃ i, 0 ≤ i ∧ i < many ∧ op i = 0 ∧ arg i = p) ∧ ∀ i j, 0 ≤ i → i < many → 0 ≤ j → j < many → op i = 0 → op j = 0 → arg i = arg j → i = j
theorem BytOk.arg {op arg arg2 : Int → Int} {many masks : Int} (h : BytOk op arg many masks) (hq : ∀ i, op i ≠ 2 → arg2 i = arg i) : BytOk op arg2 many masks := by
  have e : ∀ i, op i = 0 → arg2 i = arg i := fun i h => hq i (by omega)
  refine ⟨fun i i0 i1 => ⟨(h.1 i i0 i1).1, fun h0 => by rw [e i h0]; exact (h.1 i i0 i1).2 h0⟩, fun p p0 p1 => ?_, fun i j i0 i1 j0 j1 h1 h2 h3 => h.2.2 i j i0 i1 j0 j1 h1 h2 (by rw [← e i h1, ← e j h2]; exact h3)⟩
  obtain ⟨i, i0, i1, i2, i3⟩ := h.2.1 p p0 p1
  exact ⟨i, i0, i1, i2, by rw [e i i2]; exact i3⟩
theorem BytOk.lay {op arg op1 arg1 : Int → Int} {many masks w v : Int} (m0 : 0 ≤ many) (h : BytOk op arg many masks) (h1 : SmT many op1 op ∧ op1 many = w) (h2 : SmT many arg1 arg ∧ arg1 many = v) (hw : w = 1 ∨ w = 2) : BytOk op1 arg1 (many + 1) masks := by
  refine ⟨fun i i0 i1 => ?_, fun p p0 p1 => ?_, fun i j i0 i1 j0 j1 a b c => ?_⟩
  · by_cases e : i = many
    · rw [e, h1.2]; exact ⟨by omega, fun h => by omega⟩
    · rw [h1.1 i i0 (by omega), h2.1 i i0 (by omega)]; exact h.1 i i0 (by omega)
  · obtain ⟨i, i0, i1, i2, i3⟩ := h.2.1 p p0 p1
    exact ⟨i, i0, by omega, by rw [h1.1 i i0 i1]; exact i2, by rw [h2.1 i i0 i1]; exact i3⟩
  · have hi : i ≠ many := fun e => by rw [e, h1.2] at a; omega
    have hj : j ≠ many := fun e => by rw [e, h1.2] at b; omega
    rw [h1.1 i i0 (by omega)] at a
    rw [h1.1 j j0 (by omega)] at b
    rw [h2.1 i i0 (by omega), h2.1 j j0 (by omega)] at c
    exact h.2.2 i j i0 (by omega) j0 (by omega) a b c
theorem BytOk.byte {op arg op1 arg1 : Int → Int} {many masks : Int} (m0 : 0 ≤ many) (k0 : 0 ≤ masks) (h : BytOk op arg many masks) (h1 : SmT many op1 op ∧ op1 many = 0) (h2 : SmT many arg1 arg ∧ arg1 many = masks) : BytOk op1 arg1 (many + 1) (masks + 1) := by
  refine ⟨fun i i0 i1 => ?_, fun p p0 p1 => ?_, fun i j i0 i1 j0 j1 a b c => ?_⟩
  · by_cases e : i = many
    · rw [e, h1.2, h2.2]; exact ⟨by omega, fun h => by omega⟩
    · rw [h1.1 i i0 (by omega), h2.1 i i0 (by omega)]
      have := h.1 i i0 (by omega)
      exact ⟨this.1, fun h0 => by have := this.2 h0; omega⟩
  · by_cases e : p = masks
    · exact ⟨many, m0, by omega, h1.2, by rw [h2.2, e]⟩
    · obtain ⟨i, i0, i1, i2, i3⟩ := h.2.1 p p0 (by omega)
      exact ⟨i, i0, by omega, by rw [h1.1 i i0 i1]; exact i2, by rw [h2.1 i i0 i1]; exact i3⟩
  · by_cases ei : i = many
    · by_cases ej : j = many
      · omega
      · rw [h1.1 j j0 (by omega)] at b
        rw [ei, h2.2, h2.1 j j0 (by omega)] at c
        have := (h.1 j j0 (by omega)).2 b
        omega
    · by_cases ej : j = many
      · rw [h1.1 i i0 (by omega)] at a
        rw [ej, h2.2, h2.1 i i0 (by omega)] at c
        have := (h.1 i i0 (by omega)).2 a
        omega
      · rw [h1.1 i i0 (by omega)] at a
        rw [h1.1 j j0 (by omega)] at b
        rw [h2.1 i i0 (by omega), h2.1 j j0 (by omega)] at c
        exact h.2.2 i j i0 (by omega) j0 (by omega) a b c
theorem BytOk.ins {op arg op1 arg1 : Int → Int} {p many masks w v : Int} (p0 : 0 ≤ p) (p1 : p ≤ many) (h : BytOk op arg many masks) (h1 : Ins p many op1 op w) (h2 : Ins p many arg1 arg v) (hw : w = 1 ∨ w = 2) : BytOk op1 arg1 (many + 1) masks := by
  have old : ∀ i, 0 ≤ i → i < many + 1 → i ≠ p → ∃ i', 0 ≤ i' ∧ i' < many ∧ op1 i = op i' ∧ arg1 i = arg i' ∧ i' = (if i < p then i else i - 1) := by
    intro i i0 i1 ip
    by_cases e : i < p
    · exact ⟨i, i0, by omega, h1.1 i i0 e, h2.1 i i0 e, by rw [if_pos e]⟩
    · have a := h1.2.2 (i - 1) (by omega) (by omega)
      have b := h2.2.2 (i - 1) (by omega) (by omega)
      rw [show i - 1 + 1 = i by omega] at a b
      exact ⟨i - 1, by omega, by omega, a, b, by rw [if_neg e]⟩
  refine ⟨fun i i0 i1 => ?_, fun q q0 q1 => ?_, fun i j i0 i1 j0 j1 a b c => ?_⟩
  · by_cases e : i = p
    · rw [e, h1.2.1]; exact ⟨by omega, fun h => by omega⟩
    · obtain ⟨i', a0, a1, a2, a3, _⟩ := old i i0 i1 e
      rw [a2, a3]; exact h.1 i' a0 a1
  · obtain ⟨i, i0, i1, i2, i3⟩ := h.2.1 q q0 q1
    by_cases e : i < p
    · exact ⟨i, i0, by omega, by rw [h1.1 i i0 e]; exact i2, by rw [h2.1 i i0 e]; exact i3⟩
    · exact ⟨i + 1, by omega, by omega, by rw [h1.2.2 i (by omega) i1]; exact i2, by rw [h2.2.2 i (by omega) i1]; exact i3⟩
  · have hi : i ≠ p := fun e => by rw [e, h1.2.1] at a; omega
    have hj : j ≠ p := fun e => by rw [e, h1.2.1] at b; omega
    obtain ⟨i', a0, a1, a2, a3, a4⟩ := old i i0 i1 hi
    obtain ⟨j', b0, b1, b2, b3, b4⟩ := old j j0 j1 hj
    rw [a2] at a
    rw [b2] at b
    rw [a3, b3] at c
    have := h.2.2 i' j' a0 a1 b0 b1 a b c
    by_cases ei : i < p
    · rw [if_pos ei] at a4
      by_cases ej : j < p
      · rw [if_pos ej] at b4; omega
      · rw [if_neg ej] at b4; omega
    · rw [if_neg ei] at a4
      by_cases ej : j < p
      · rw [if_pos ej] at b4; omega
      · rw [if_neg ej] at b4; omega
