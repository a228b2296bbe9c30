/-! plain: instructions, what they reach without a byte, and the attributes of a part -/
def stp (op arg : Int → Int) (i j : Int) : Prop := (op i = 2 ∧ j = i + arg i) ∨ (op i = 1 ∧ (j = i + arg i ∨ j = i + 1))
def RcN (op arg : Int → Int) (s e : Int) : Nat → Int → Int → Prop
  | 0, i, k => i = k
  | n + 1, i, k => ∃ j, s ≤ i ∧ i < e ∧ stp op arg i j ∧ RcN op arg s e n j k
def Rc (op arg : Int → Int) (s e i k : Int) : Prop := ∃ n, RcN op arg s e n i k
theorem Rc.rf {op arg : Int → Int} {s e : Int} (i : Int) : Rc op arg s e i i := ⟨0, rfl⟩
theorem Rc.st {op arg : Int → Int} {s e i j k : Int} (h0 : s ≤ i) (h1 : i < e) (hs : stp op arg i j) (h : Rc op arg s e j k) : Rc op arg s e i k := by
  obtain ⟨n, h⟩ := h
  exact ⟨n + 1, j, h0, h1, hs, h⟩
theorem Rc.ind {op arg : Int → Int} {s e : Int} {motive : (i k : Int) → Rc op arg s e i k → Prop} (rf : ∀ i, motive i i (Rc.rf i)) (st : ∀ {i j k : Int} (h0 : s ≤ i) (h1 : i < e) (hs : stp op arg i j) (h : Rc op arg s e j k), motive j k h → motive i k (Rc.st h0 h1 hs h)) {i k : Int} (h : Rc op arg s e i k) : motive i k h := by
  obtain ⟨n, hn⟩ := h
  induction n generalizing i with
  | zero =>
    have e1 : i = k := hn
    subst e1
    exact rf i
  | succ n ih =>
    obtain ⟨j, h0, h1, hs, hr⟩ := hn
    exact st h0 h1 hs ⟨n, hr⟩ (ih hr)
theorem Rc.cs {op arg : Int → Int} {s e i k : Int} (h : Rc op arg s e i k) : i = k ∨ ∃ j, s ≤ i ∧ i < e ∧ stp op arg i j ∧ Rc op arg s e j k := by
  obtain ⟨n, hn⟩ := h
  cases n with
  | zero => exact Or.inl hn
  | succ n =>
    obtain ⟨j, h0, h1, hs, hr⟩ := hn
    exact Or.inr ⟨j, h0, h1, hs, n, hr⟩
theorem Rc.trans {op arg : Int → Int} {s e i j k : Int} (h : Rc op arg s e i j) (h2 : Rc op arg s e j k) : Rc op arg s e i k := by
  induction h using Rc.ind with
  | rf => exact h2
  | st h0 h1 hs _ ih => exact .st h0 h1 hs (ih h2)
theorem Rc.one {op arg : Int → Int} {s e i j : Int} (h0 : s ≤ i) (h1 : i < e) (h : stp op arg i j) : Rc op arg s e i j := .st h0 h1 h (.rf j)
theorem Rc.mono {op arg : Int → Int} {s e s' e' i j : Int} (h : Rc op arg s e i j) (hs : s' ≤ s) (he : e ≤ e') : Rc op arg s' e' i j := by
  induction h using Rc.ind with
  | rf => exact .rf _
  | st h0 h1 hq _ ih => exact .st (by omega) (by omega) hq ih
theorem stp.congr {op arg op' arg' : Int → Int} {i j d : Int} (ho : op' (i + d) = op i) (ha : arg' (i + d) = arg i) (h : stp op arg i j) : stp op' arg' (i + d) (j + d) := by
  rcases h with ⟨h1, h2⟩ | ⟨h1, h2 | h2⟩
  · exact Or.inl ⟨by rw [ho]; exact h1, by rw [ha]; omega⟩
  · exact Or.inr ⟨by rw [ho]; exact h1, Or.inl (by rw [ha]; omega)⟩
  · exact Or.inr ⟨by rw [ho]; exact h1, Or.inr (by omega)⟩
theorem Rc.shift {op arg op' arg' : Int → Int} {s e i j d : Int} (h : Rc op arg s e i j) (hq : ∀ i, s ≤ i → i < e → op' (i + d) = op i ∧ arg' (i + d) = arg i) : Rc op' arg' (s + d) (e + d) (i + d) (j + d) := by
  induction h using Rc.ind with
  | rf => exact .rf _
  | st h0 h1 hs _ ih => exact .st (by omega) (by omega) (hs.congr (hq _ h0 h1).1 (hq _ h0 h1).2) ih
/-- where a path begins: at the part's beginning, or behind a byte; where it ends: at the part's end, or at a byte -/
def Src (op arg : Int → Int) (s e : Int) : Option Int → Int → Prop
  | none, x => x = s
  | some p, x => ∃ i, s ≤ i ∧ i < e ∧ op i = 0 ∧ arg i = p ∧ x = i + 1
def Tg (op arg : Int → Int) (s e : Int) : Option Int → Int → Prop
  | none, y => y = e
  | some q, y => s ≤ y ∧ y < e ∧ op y = 0 ∧ arg y = q
def atr (A : PV) : Option Int → Option Int → Bool
  | none, none => A.nul
  | none, some q => A.fi q
  | some p, none => A.la p
  | some p, some q => A.fo p q
def RepA (op arg : Int → Int) (s e : Int) (A : PV) : Prop :=
  s ≤ e ∧ (∀ i j, s ≤ i → i < e → stp op arg i j → s ≤ j ∧ j ≤ e) ∧ ∀ o o', atr A o o' = true ↔ ∃ x y, Src op arg s e o x ∧ Tg op arg s e o' y ∧ Rc op arg s e x y
theorem RepA.eq {op arg : Int → Int} {s e : Int} {A B : PV} (h : RepA op arg s e A) (hq : ∀ o o', atr A o o' = atr B o o') : RepA op arg s e B := ⟨h.1, h.2.1, fun o o' => by rw [← hq]; exact h.2.2 o o'⟩
theorem RepA.shift {op arg op' arg' : Int → Int} {s e d : Int} {A : PV} (h : RepA op arg s e A) (hq : ∀ i, s ≤ i → i < e → op' (i + d) = op i ∧ arg' (i + d) = arg i) : RepA op' arg' (s + d) (e + d) A := by
  have hb : ∀ i, s + d ≤ i → i < e + d → op (i + -d) = op' i ∧ arg (i + -d) = arg' i := fun i i0 i1 => by
    have := hq (i + -d) (by omega) (by omega)
    rw [show i + -d + d = i by omega] at this
    exact ⟨this.1.symm, this.2.symm⟩
  refine ⟨by have := h.1; omega, fun i j i0 i1 hs => ?_, fun o o' => (h.2.2 o o').trans ⟨?_, ?_⟩⟩
  · have := h.2.1 (i + -d) (j + -d) (by omega) (by omega) (hs.congr (hb i i0 i1).1 (hb i i0 i1).2)
    omega
  · rintro ⟨x, y, hx, hy, hr⟩
    refine ⟨x + d, y + d, ?_, ?_, hr.shift hq⟩
    · cases o with
      | none => have hx : x = s := hx; show x + d = s + d; omega
      | some p =>
        obtain ⟨i, h1, h2, h3, h4, h5⟩ := hx
        exact ⟨i + d, by omega, by omega, by rw [(hq i h1 h2).1]; exact h3, by rw [(hq i h1 h2).2]; exact h4, by omega⟩
    · cases o' with
      | none => have hy : y = e := hy; show y + d = e + d; omega
      | some q =>
        obtain ⟨h1, h2, h3, h4⟩ := hy
        exact ⟨by omega, by omega, by rw [(hq y h1 h2).1]; exact h3, by rw [(hq y h1 h2).2]; exact h4⟩
  · rintro ⟨x, y, hx, hy, hr⟩
    have hr2 := hr.shift hb
    rw [show s + d + -d = s by omega, show e + d + -d = e by omega] at hr2
    refine ⟨x + -d, y + -d, ?_, ?_, hr2⟩
    · cases o with
      | none => have hx : x = s + d := hx; show x + -d = s; omega
      | some p =>
        obtain ⟨i, h1, h2, h3, h4, h5⟩ := hx
        exact ⟨i + -d, by omega, by omega, by rw [(hb i h1 h2).1]; exact h3, by rw [(hb i h1 h2).2]; exact h4, by omega⟩
    · cases o' with
      | none => have hy : y = e + d := hy; show y + -d = e; omega
      | some q =>
        obtain ⟨h1, h2, h3, h4⟩ := hy
        exact ⟨by omega, by omega, by rw [(hb y h1 h2).1]; exact h3, by rw [(hb y h1 h2).2]; exact h4⟩
theorem RepA.congr {op arg op' arg' : Int → Int} {s e : Int} {A : PV} (h : RepA op arg s e A) (hq : ∀ i, s ≤ i → i < e → op' i = op i ∧ arg' i = arg i) : RepA op' arg' s e A := by
  have := h.shift (d := 0) (op' := op') (arg' := arg') (fun i i0 i1 => by rw [show i + 0 = i by omega]; exact hq i i0 i1)
  rw [show s + 0 = s by omega, show e + 0 = e by omega] at this
  exact this
theorem Src.r {op arg : Int → Int} {s e : Int} {o : Option Int} {x : Int} (h : Src op arg s e o x) (hse : s ≤ e) : s ≤ x ∧ x ≤ e := by
  cases o with
  | none => have h : x = s := h; omega
  | some p => obtain ⟨i, h1, h2, _, _, h5⟩ := h; omega
theorem rep_eps {op arg : Int → Int} (s : Int) : RepA op arg s s vEps := by
  refine ⟨by omega, fun i j h0 h1 => by omega, fun o o' => ?_⟩
  cases o with
  | none =>
    cases o' with
    | none => exact ⟨fun _ => ⟨s, s, rfl, rfl, .rf _⟩, fun _ => rfl⟩
    | some q => exact ⟨fun h => (by cases h), fun ⟨x, y, _, hy, _⟩ => by have := hy.1; have := hy.2.1; omega⟩
  | some p =>
    refine ⟨fun h => (by cases o' <;> cases h), fun ⟨x, y, hx, _, _⟩ => ?_⟩
    obtain ⟨i, h1, h2, _⟩ := hx
    omega
theorem rep_empty {op arg : Int → Int} {s : Int} {A : PV} (h : RepA op arg s s A) : ∀ o o', atr A o o' = atr vEps o o' := fun o o' => Bool.eq_iff_iff.mpr ((h.2.2 o o').trans ((rep_eps s).2.2 o o').symm)
theorem rep_lit {op arg : Int → Int} {s p : Int} (ho : op s = 0) (ha : arg s = p) : RepA op arg s (s + 1) (vLit p) := by
  have hno : ∀ j, ¬ stp op arg s j := fun j h => by rcases h with ⟨h, _⟩ | ⟨h, _⟩ <;> omega
  have hrc : ∀ x y, s ≤ x → x ≤ s + 1 → Rc op arg s (s + 1) x y → x = y := by
    intro x y h0 h1 h
    rcases h.cs with h | ⟨j, a, b, c, _⟩
    · exact h
    · rw [show x = s by omega] at c; exact absurd c (hno _)
  refine ⟨by omega, fun i j h0 h1 h => by rw [show i = s by omega] at h; exact absurd h (hno j), fun o o' => ?_⟩
  cases o with
  | none =>
    cases o' with
    | none =>
      refine ⟨fun h => (by cases h), fun ⟨x, y, hx, hy, hr⟩ => ?_⟩
      have hx : x = s := hx
      have hy : y = s + 1 := hy
      have := hrc x y (by omega) (by omega) hr
      omega
    | some q =>
      refine ⟨fun h => ?_, fun ⟨x, y, hx, hy, hr⟩ => ?_⟩
      · have h : p = q := of_decide_eq_true h
        exact ⟨s, s, rfl, ⟨by omega, by omega, ho, by rw [ha]; exact h⟩, .rf _⟩
      · have hx : x = s := hx
        obtain ⟨h1, h2, h3, h4⟩ := hy
        exact decide_eq_true (by rw [show y = s by omega] at h4; rw [← ha]; exact h4)
  | some p' =>
    cases o' with
    | none =>
      refine ⟨fun h => ?_, fun ⟨x, y, hx, hy, hr⟩ => ?_⟩
      · have h : p = p' := of_decide_eq_true h
        exact ⟨s + 1, s + 1, ⟨s, by omega, by omega, ho, by rw [ha]; exact h, rfl⟩, rfl, .rf _⟩
      · obtain ⟨i, h1, h2, h3, h4, h5⟩ := hx
        exact decide_eq_true (by rw [show i = s by omega] at h4; rw [← ha]; exact h4)
    | some q =>
      refine ⟨fun h => (by cases h), fun ⟨x, y, hx, hy, hr⟩ => ?_⟩
      obtain ⟨i, h1, h2, h3, h4, h5⟩ := hx
      obtain ⟨g1, g2, g3, g4⟩ := hy
      have := hrc x y (by omega) (by omega) hr
      omega
theorem rc_cat {op arg : Int → Int} {s m e : Int} (hsm : s ≤ m) (hme : m ≤ e) (ha : ∀ i j, s ≤ i → i < m → stp op arg i j → s ≤ j ∧ j ≤ m) (hb : ∀ i j, m ≤ i → i < e → stp op arg i j → m ≤ j ∧ j ≤ e) {x y : Int} (h : Rc op arg s e x y) :
    (s ≤ x → x ≤ m → (y < m ∧ Rc op arg s m x y) ∨ (m ≤ y ∧ Rc op arg s m x m ∧ Rc op arg m e m y)) ∧ (m ≤ x → x ≤ e → m ≤ y ∧ Rc op arg m e x y) := by
  induction h using Rc.ind with
  | rf i =>
    refine ⟨fun h0 h1 => ?_, fun h0 h1 => ⟨h0, .rf _⟩⟩
    by_cases e1 : i < m
    · exact Or.inl ⟨e1, .rf _⟩
    · have e2 : i = m := by omega
      rw [e2]
      exact Or.inr ⟨by omega, .rf _, .rf _⟩
  | @st i j k h0 h1 hs hr ih =>
    have two : m ≤ i → m ≤ k ∧ Rc op arg m e i k := fun hi => by
      have hj := hb i j hi h1 hs
      have := ih.2 hj.1 hj.2
      exact ⟨this.1, .st hi h1 hs this.2⟩
    refine ⟨fun g0 g1 => ?_, fun g0 g1 => two g0⟩
    by_cases e1 : i < m
    · have hj := ha i j g0 e1 hs
      rcases ih.1 hj.1 hj.2 with ⟨q1, q2⟩ | ⟨q1, q2, q3⟩
      · exact Or.inl ⟨q1, .st g0 e1 hs q2⟩
      · exact Or.inr ⟨q1, .st g0 e1 hs q2, q3⟩
    · have e2 : i = m := by omega
      subst e2
      have := two (by omega)
      exact Or.inr ⟨this.1, .rf _, this.2⟩
theorem atr_cat (A B : PV) (o o' : Option Int) : atr (vCat A B) o o' = ((o'.isSome && atr A o o') || ((atr A o none && atr B none o') || (o.isSome && atr B o o'))) := by
  cases o <;> cases o'
  · show (A.nul && B.nul) = (false || ((A.nul && B.nul) || false)); simp
  · show (A.fi _ || (A.nul && B.fi _)) = ((true && A.fi _) || ((A.nul && B.fi _) || false)); simp
  · show (B.la _ || (B.nul && A.la _)) = (false || ((A.la _ && B.nul) || (true && B.la _)))
    cases B.la _ <;> cases B.nul <;> cases A.la _ <;> rfl
  · show ((A.fo _ _ || B.fo _ _) || (A.la _ && B.fi _)) = ((true && A.fo _ _) || ((A.la _ && B.fi _) || (true && B.fo _ _)))
    cases A.fo _ _ <;> cases B.fo _ _ <;> cases A.la _ <;> cases B.fi _ <;> rfl
theorem rep_cat {op arg : Int → Int} {s m e : Int} {A B : PV} (hA : RepA op arg s m A) (hB : RepA op arg m e B) : RepA op arg s e (vCat A B) := by
  obtain ⟨a0, a1, a2⟩ := hA
  obtain ⟨b0, b1, b2⟩ := hB
  refine ⟨by omega, fun i j h0 h1 hs => ?_, fun o o' => ?_⟩
  · by_cases e1 : i < m
    · have := a1 i j h0 e1 hs; omega
    · have := b1 i j (by omega) h1 hs; omega
  rw [atr_cat]
  simp only [Bool.or_eq_true, Bool.and_eq_true]
  rw [a2 o o', a2 o none, b2 none o', b2 o o']
  have srcA : ∀ o x, Src op arg s m o x → Src op arg s e o x := by
    intro o x h
    cases o with
    | none => exact h
    | some p => obtain ⟨i, h1, h2, h3⟩ := h; exact ⟨i, h1, by omega, h3⟩
  have tgB : ∀ o y, Tg op arg m e o y → Tg op arg s e o y := by
    intro o y h
    cases o with
    | none => exact h
    | some p => obtain ⟨h1, h2, h3⟩ := h; exact ⟨by omega, h2, h3⟩
  constructor
  · rintro (⟨h1, x, y, hx, hy, hr⟩ | ⟨⟨x, y, hx, hy, hr⟩, ⟨x', y', hx', hy', hr'⟩⟩ | ⟨h1, x, y, hx, hy, hr⟩)
    · cases o' with
      | none => cases h1
      | some q =>
        obtain ⟨g1, g2, g3⟩ := hy
        exact ⟨x, y, srcA o x hx, ⟨g1, by omega, g3⟩, hr.mono (by omega) (by omega)⟩
    · have hy : y = m := hy
      have hx' : x' = m := hx'
      subst hy; subst hx'
      exact ⟨x, y', srcA o x hx, tgB o' y' hy', (hr.mono (by omega) b0).trans (hr'.mono a0 (by omega))⟩
    · cases o with
      | none => cases h1
      | some p =>
        obtain ⟨i, g1, g2, g3⟩ := hx
        exact ⟨x, y, ⟨i, by omega, g2, g3⟩, tgB o' y hy, hr.mono (by omega) (by omega)⟩
  · rintro ⟨x, y, hx, hy, hr⟩
    have hc := rc_cat a0 b0 a1 b1 hr
    have inB : m ≤ y → Tg op arg m e o' y := fun hm => by
      cases o' with
      | none => exact hy
      | some q => obtain ⟨g1, g2, g3⟩ := hy; exact ⟨hm, g2, g3⟩
    have goA : Src op arg s m o x → s ≤ x → x ≤ m → (o'.isSome = true ∧ ∃ x y, Src op arg s m o x ∧ Tg op arg s m o' y ∧ Rc op arg s m x y) ∨ ((∃ x y, Src op arg s m o x ∧ Tg op arg s m none y ∧ Rc op arg s m x y) ∧ ∃ x y, Src op arg m e none x ∧ Tg op arg m e o' y ∧ Rc op arg m e x y) := by
      intro hx2 h0 h1
      rcases hc.1 h0 h1 with ⟨q1, q2⟩ | ⟨q1, q2, q3⟩
      · cases o' with
        | none => have hy : y = e := hy; omega
        | some q =>
          obtain ⟨g1, g2, g3⟩ := hy
          exact Or.inl ⟨rfl, x, y, hx2, ⟨g1, q1, g3⟩, q2⟩
      · exact Or.inr ⟨⟨x, m, hx2, rfl, q2⟩, ⟨m, y, rfl, inB q1, q3⟩⟩
    cases o with
    | none =>
      have hx : x = s := hx
      rcases goA hx (by omega) (by omega) with h | h
      · exact Or.inl h
      · exact Or.inr (Or.inl h)
    | some p =>
      obtain ⟨i, g1, g2, g3, g4, g5⟩ := hx
      by_cases e1 : i < m
      · rcases goA ⟨i, g1, e1, g3, g4, g5⟩ (by omega) (by omega) with h | h
        · exact Or.inl h
        · exact Or.inr (Or.inl h)
      · have := hc.2 (by omega) (by omega)
        exact Or.inr (Or.inr ⟨rfl, x, y, ⟨i, by omega, g2, g3, g4, g5⟩, inB this.1, this.2⟩)
