/-! plain: instructions of repeated parts and of choices -/
theorem Rc.end_ {op arg : Int → Int} {s e y : Int} (h : Rc op arg s e e y) : y = e := by
  rcases h.cs with h | ⟨j, a, b, _⟩
  · exact h.symm
  · omega
theorem atr_rep (A : PV) (c : Int) (o o' : Option Int) : atr (vRep c A) o o' = (atr A o o' || ((o.isNone && (o'.isNone && decide (c ≠ 43))) || (decide (c ≠ 63) && (o.isSome && (o'.isSome && (atr A o none && atr A none o')))))) := by
  cases o <;> cases o'
  · show (A.nul || decide (c ≠ 43)) = (A.nul || ((true && (true && decide (c ≠ 43))) || (decide (c ≠ 63) && (false && _)))); simp
  · show A.fi _ = (A.fi _ || ((true && (false && decide (c ≠ 43))) || (decide (c ≠ 63) && (false && _)))); simp
  · show A.la _ = (A.la _ || ((false && _) || (decide (c ≠ 63) && (true && (false && _))))); simp
  · show (A.fo _ _ || (decide (c ≠ 63) && (A.la _ && A.fi _))) = (A.fo _ _ || ((false && _) || (decide (c ≠ 63) && (true && (true && (A.la _ && A.fi _)))))); simp
section STAR
variable {op arg : Int → Int} {s m : Int} {A : PV}
theorem rc_starB (ho : op s = 1) (ha : arg s = m + 1 - s) (hA : RepA op arg (s + 1) m A) (hj : op m = 2) (hj2 : arg m = s - m) {x y : Int} (h : Rc op arg s (m + 1) x y) :
    s + 1 ≤ y → y < m → (s + 1 ≤ x → x ≤ m → Rc op arg (s + 1) m x y ∨ (Rc op arg (s + 1) m x m ∧ Rc op arg (s + 1) m (s + 1) y)) ∧ (x = s → Rc op arg (s + 1) m (s + 1) y) ∧ x ≠ m + 1 := by
  have h01 := hA.1
  induction h using Rc.ind with
  | rf i => exact fun y0 y1 => ⟨fun _ _ => Or.inl (.rf _), fun e => by omega, by omega⟩
  | @st i j k h0 h1 hs hr ih =>
    intro y0 y1
    have ih := ih y0 y1
    refine ⟨fun x0 x1 => ?_, fun e => ?_, by omega⟩
    · by_cases e1 : i < m
      · have hjr := hA.2.1 i j x0 e1 hs
        rcases ih.1 hjr.1 hjr.2 with q | ⟨q1, q2⟩
        · exact Or.inl (.st x0 e1 hs q)
        · exact Or.inr ⟨.st x0 e1 hs q1, q2⟩
      · have e2 : i = m := by omega
        subst e2
        rcases hs with ⟨_, q⟩ | ⟨q, _⟩
        · exact Or.inr ⟨.rf _, ih.2.1 (by omega)⟩
        · omega
    · subst e
      rcases hs with ⟨q, _⟩ | ⟨_, q | q⟩
      · omega
      · exact absurd (by omega) ih.2.2
      · rcases ih.1 (by omega) (by omega) with r | ⟨_, r⟩
        · rw [q] at r; exact r
        · exact r
theorem rc_starE (ho : op s = 1) (ha : arg s = m + 1 - s) (hA : RepA op arg (s + 1) m A) {x y : Int} (h : Rc op arg s (m + 1) x y) : y = m + 1 → s + 1 ≤ x → x ≤ m → Rc op arg (s + 1) m x m := by
  have h01 := hA.1
  induction h using Rc.ind with
  | rf i => intro e x0 x1; omega
  | @st i j k h0 h1 hs hr ih =>
    intro e x0 x1
    by_cases e1 : i < m
    · have hjr := hA.2.1 i j x0 e1 hs
      exact .st x0 e1 hs (ih e hjr.1 hjr.2)
    · rw [show i = m by omega]; exact .rf _
theorem rep_star (ho : op s = 1) (ha : arg s = m + 1 - s) (hA : RepA op arg (s + 1) m A) (hj : op m = 2) (hj2 : arg m = s - m) : RepA op arg s (m + 1) (vRep 42 A) := by
  have h01 := hA.1
  have s1 : Rc op arg s (m + 1) s (s + 1) := .one (by omega) (by omega) (Or.inr ⟨ho, Or.inr rfl⟩)
  have s2 : Rc op arg s (m + 1) s (m + 1) := .one (by omega) (by omega) (Or.inr ⟨ho, Or.inl (by omega)⟩)
  have s3 : Rc op arg s (m + 1) m s := .one (by omega) (by omega) (Or.inl ⟨hj, by omega⟩)
  have by_ : ∀ y, s ≤ y → y < m + 1 → op y = 0 → s + 1 ≤ y ∧ y < m := fun y y0 y1 h => by
    refine ⟨?_, ?_⟩
    · by_cases e : y = s
      · rw [e] at h; omega
      · omega
    · by_cases e : y = m
      · rw [e] at h; omega
      · omega
  refine ⟨by omega, fun i j i0 i1 hs => ?_, fun o o' => ?_⟩
  · by_cases e : i = s
    · rcases hs with ⟨q, _⟩ | ⟨_, q | q⟩
      · rw [e] at q; omega
      · rw [e] at q; omega
      · omega
    · by_cases e2 : i = m
      · rcases hs with ⟨_, q⟩ | ⟨q, _⟩
        · rw [e2] at q; omega
        · rw [e2] at q; omega
      · have := hA.2.1 i j (by omega) (by omega) hs; omega
  · cases o with
    | none =>
      cases o' with
      | none => exact ⟨fun _ => ⟨s, m + 1, rfl, rfl, s2⟩, fun _ => by rw [atr_rep]; simp⟩
      | some q =>
        have e : atr (vRep 42 A) none (some q) = atr A none (some q) := rfl
        rw [e, hA.2.2]
        constructor
        · rintro ⟨x, y, hx, ⟨g1, g2, g3⟩, hr⟩
          have hx : x = s + 1 := hx
          subst hx
          exact ⟨s, y, rfl, ⟨by omega, by omega, g3⟩, s1.trans (hr.mono (by omega) (by omega))⟩
        · rintro ⟨x, y, hx, ⟨g1, g2, g3, g4⟩, hr⟩
          have hx : x = s := hx
          have hb := by_ y g1 g2 g3
          exact ⟨s + 1, y, rfl, ⟨hb.1, hb.2, g3, g4⟩, (rc_starB ho ha hA hj hj2 hr hb.1 hb.2).2.1 hx⟩
    | some p =>
      cases o' with
      | none =>
        have e : atr (vRep 42 A) (some p) none = atr A (some p) none := rfl
        rw [e, hA.2.2]
        constructor
        · rintro ⟨x, y, ⟨i, g1, g2, g3⟩, hy, hr⟩
          have hy : y = m := hy
          subst hy
          exact ⟨x, y + 1, ⟨i, by omega, by omega, g3⟩, rfl, ((hr.mono (by omega) (by omega)).trans s3).trans s2⟩
        · rintro ⟨x, y, ⟨i, g1, g2, g3, g4, g5⟩, hy, hr⟩
          have hy : y = m + 1 := hy
          have hb := by_ i g1 g2 g3
          exact ⟨x, m, ⟨i, hb.1, hb.2, g3, g4, g5⟩, rfl, rc_starE ho ha hA hr hy (by omega) (by omega)⟩
      | some q =>
        have e : atr (vRep 42 A) (some p) (some q) = (atr A (some p) (some q) || (atr A (some p) none && atr A none (some q))) := by
          show (A.fo p q || (decide ((42 : Int) ≠ 63) && (A.la p && A.fi q))) = (A.fo p q || (A.la p && A.fi q))
          simp
        rw [e, Bool.or_eq_true, Bool.and_eq_true, hA.2.2, hA.2.2, hA.2.2]
        constructor
        · rintro (⟨x, y, ⟨i, g1, g2, g3⟩, ⟨k1, k2, k3⟩, hr⟩ | ⟨⟨x, y, ⟨i, g1, g2, g3⟩, hy, hr⟩, ⟨x', y', hx', ⟨k1, k2, k3⟩, hr'⟩⟩)
          · exact ⟨x, y, ⟨i, by omega, by omega, g3⟩, ⟨by omega, by omega, k3⟩, hr.mono (by omega) (by omega)⟩
          · have hy : y = m := hy
            have hx' : x' = s + 1 := hx'
            subst hy; subst hx'
            exact ⟨x, y', ⟨i, by omega, by omega, g3⟩, ⟨by omega, by omega, k3⟩, (((hr.mono (by omega) (by omega)).trans s3).trans s1).trans (hr'.mono (by omega) (by omega))⟩
        · rintro ⟨x, y, ⟨i, g1, g2, g3, g4, g5⟩, ⟨k1, k2, k3, k4⟩, hr⟩
          have hb := by_ i g1 g2 g3
          have hc := by_ y k1 k2 k3
          rcases (rc_starB ho ha hA hj hj2 hr hc.1 hc.2).1 (by omega) (by omega) with r | ⟨r1, r2⟩
          · exact Or.inl ⟨x, y, ⟨i, hb.1, hb.2, g3, g4, g5⟩, ⟨hc.1, hc.2, k3, k4⟩, r⟩
          · exact Or.inr ⟨⟨x, m, ⟨i, hb.1, hb.2, g3, g4, g5⟩, rfl, r1⟩, ⟨s + 1, y, rfl, ⟨hc.1, hc.2, k3, k4⟩, r2⟩⟩
theorem rc_plus (hA : RepA op arg s m A) (hj : op m = 1) (hj2 : arg m = s - m) {x y : Int} (h : Rc op arg s (m + 1) x y) :
    (s ≤ x → x ≤ m → (y < m → Rc op arg s m x y ∨ (Rc op arg s m x m ∧ Rc op arg s m s y)) ∧ (y = m + 1 → Rc op arg s m x m)) ∧ (x = m + 1 → y = m + 1) := by
  have h01 := hA.1
  induction h using Rc.ind with
  | rf i => exact ⟨fun x0 x1 => ⟨fun _ => Or.inl (.rf _), fun e => by omega⟩, fun e => e⟩
  | @st i j k h0 h1 hs hr ih =>
    refine ⟨fun x0 x1 => ⟨fun y1 => ?_, fun y1 => ?_⟩, fun e => by omega⟩
    · by_cases e1 : i < m
      · have hjr := hA.2.1 i j x0 e1 hs
        rcases (ih.1 hjr.1 hjr.2).1 y1 with q | ⟨q1, q2⟩
        · exact Or.inl (.st x0 e1 hs q)
        · exact Or.inr ⟨.st x0 e1 hs q1, q2⟩
      · have e2 : i = m := by omega
        subst e2
        rcases hs with ⟨q, _⟩ | ⟨_, q | q⟩
        · omega
        · have ej : j = s := by omega
          subst ej
          rcases (ih.1 (by omega) (by omega)).1 y1 with q | ⟨_, q⟩
          · exact Or.inr ⟨.rf _, q⟩
          · exact Or.inr ⟨.rf _, q⟩
        · have := ih.2 q; omega
    · by_cases e1 : i < m
      · have hjr := hA.2.1 i j x0 e1 hs
        exact .st x0 e1 hs ((ih.1 hjr.1 hjr.2).2 y1)
      · rw [show i = m by omega]; exact .rf _
theorem rep_plus (hA : RepA op arg s m A) (hj : op m = 1) (hj2 : arg m = s - m) : RepA op arg s (m + 1) (vRep 43 A) := by
  have h01 := hA.1
  have s1 : Rc op arg s (m + 1) m s := .one (by omega) (by omega) (Or.inr ⟨hj, Or.inl (by omega)⟩)
  have s2 : Rc op arg s (m + 1) m (m + 1) := .one (by omega) (by omega) (Or.inr ⟨hj, Or.inr rfl⟩)
  have by_ : ∀ y, y < m + 1 → op y = 0 → y < m := fun y y1 h => by
    by_cases e : y = m
    · rw [e] at h; omega
    · omega
  refine ⟨by omega, fun i j i0 i1 hs => ?_, fun o o' => ?_⟩
  · by_cases e2 : i = m
    · rcases hs with ⟨q, _⟩ | ⟨_, q | q⟩
      · rw [e2] at q; omega
      · rw [e2] at q; omega
      · omega
    · have := hA.2.1 i j (by omega) (by omega) hs; omega
  · have e : atr (vRep 43 A) o o' = (atr A o o' || (o'.isSome && (atr A o none && atr A none o'))) := by
      rw [atr_rep]
      cases o <;> cases o'
      · simp
      · show (atr A none (some _) || ((true && (false && _)) || (true && (false && _)))) = (atr A none (some _) || (true && (atr A none none && atr A none (some _))))
        cases atr A none (some _) <;> simp
      · simp
      · simp
    rw [e, Bool.or_eq_true, Bool.and_eq_true, Bool.and_eq_true, hA.2.2, hA.2.2, hA.2.2]
    have srcA : ∀ o x, Src op arg s m o x → Src op arg s (m + 1) o x := by
      intro o x h
      cases o with
      | none => exact h
      | some p => obtain ⟨i, h1, h2, h3⟩ := h; exact ⟨i, h1, by omega, h3⟩
    have srcB : ∀ o x, Src op arg s (m + 1) o x → Src op arg s m o x := by
      intro o x h
      cases o with
      | none => exact h
      | some p => obtain ⟨i, h1, h2, h3, h4⟩ := h; exact ⟨i, h1, by_ i h2 h3, h3, h4⟩
    constructor
    · rintro (⟨x, y, hx, hy, hr⟩ | ⟨hq, ⟨x, y, hx, hy, hr⟩, ⟨x', y', hx', hy', hr'⟩⟩)
      · cases o' with
        | none =>
          have hy : y = m := hy
          subst hy
          exact ⟨x, y + 1, srcA o x hx, rfl, (hr.mono (by omega) (by omega)).trans s2⟩
        | some q =>
          obtain ⟨k1, k2, k3⟩ := hy
          exact ⟨x, y, srcA o x hx, ⟨k1, by omega, k3⟩, hr.mono (by omega) (by omega)⟩
      · cases o' with
        | none => cases hq
        | some q =>
          have hy : y = m := hy
          have hx' : x' = s := hx'
          subst hy; subst hx'
          obtain ⟨k1, k2, k3⟩ := hy'
          exact ⟨x, y', srcA o x hx, ⟨k1, by omega, k3⟩, ((hr.mono (by omega) (by omega)).trans s1).trans (hr'.mono (by omega) (by omega))⟩
    · rintro ⟨x, y, hx, hy, hr⟩
      have hx2 := srcB o x hx
      have hxr := hx2.r h01
      have hp := (rc_plus hA hj hj2 hr).1 hxr.1 hxr.2
      cases o' with
      | none =>
        have hy : y = m + 1 := hy
        exact Or.inl ⟨x, m, hx2, rfl, hp.2 hy⟩
      | some q =>
        obtain ⟨k1, k2, k3, k4⟩ := hy
        have k5 := by_ y k2 k3
        rcases hp.1 k5 with r | ⟨r1, r2⟩
        · exact Or.inl ⟨x, y, hx2, ⟨k1, k5, k3, k4⟩, r⟩
        · exact Or.inr ⟨rfl, ⟨x, m, hx2, rfl, r1⟩, ⟨s, y, rfl, ⟨k1, k5, k3, k4⟩, r2⟩⟩
end STAR
section OPT
variable {op arg : Int → Int} {s m e : Int} {A B : PV}
theorem rc_opt (hs0 : s + 1 ≤ e) (ho : op s = 1) (ha : arg s = e - s) (hc : ∀ i j, s + 1 ≤ i → i < e → stp op arg i j → s + 1 ≤ j ∧ j ≤ e) {x y : Int} (h : Rc op arg s e x y) :
    (s + 1 ≤ x → x ≤ e → Rc op arg (s + 1) e x y) ∧ (x = s → y = s ∨ y = e ∨ Rc op arg (s + 1) e (s + 1) y) := by
  induction h using Rc.ind with
  | rf i => exact ⟨fun _ _ => .rf _, fun h => Or.inl h⟩
  | @st i j k h0 h1 hs hr ih =>
    refine ⟨fun x0 x1 => ?_, fun he => ?_⟩
    · have hj := hc i j x0 h1 hs
      exact .st x0 h1 hs (ih.1 hj.1 hj.2)
    · subst he
      rcases hs with ⟨q, _⟩ | ⟨_, q | q⟩
      · omega
      · have r := ih.1 (by omega) (by omega)
        rw [show j = e by omega] at r
        exact Or.inr (Or.inl r.end_)
      · have r := ih.1 (by omega) (by omega)
        rw [q] at r
        exact Or.inr (Or.inr r)
theorem rep_opt (ho : op s = 1) (ha : arg s = e - s) (hA : RepA op arg (s + 1) e A) : RepA op arg s e (vRep 63 A) := by
  have h01 := hA.1
  have s1 : Rc op arg s e s (s + 1) := .one (by omega) (by omega) (Or.inr ⟨ho, Or.inr rfl⟩)
  have s2 : Rc op arg s e s e := .one (by omega) (by omega) (Or.inr ⟨ho, Or.inl (by omega)⟩)
  have by_ : ∀ y, s ≤ y → op y = 0 → s + 1 ≤ y := fun y y1 h => by
    by_cases e : y = s
    · rw [e] at h; omega
    · omega
  refine ⟨by omega, fun i j i0 i1 hs => ?_, fun o o' => ?_⟩
  · by_cases e2 : i = s
    · rcases hs with ⟨q, _⟩ | ⟨_, q | q⟩
      · rw [e2] at q; omega
      · rw [e2] at q; omega
      · omega
    · have := hA.2.1 i j (by omega) i1 hs; omega
  · have e1 : atr (vRep 63 A) o o' = (atr A o o' || (o.isNone && o'.isNone)) := by
      rw [atr_rep]
      cases o <;> cases o' <;> simp
    rw [e1, Bool.or_eq_true, Bool.and_eq_true, hA.2.2]
    have tgA : ∀ o y, Tg op arg (s + 1) e o y → Tg op arg s e o y := by
      intro o y h
      cases o with
      | none => exact h
      | some p => obtain ⟨h1, h2⟩ := h; exact ⟨by omega, h2⟩
    constructor
    · rintro (⟨x, y, hx, hy, hr⟩ | ⟨h1, h2⟩)
      · cases o with
        | none =>
          have hx : x = s + 1 := hx
          subst hx
          exact ⟨s, y, rfl, tgA o' y hy, s1.trans (hr.mono (by omega) (by omega))⟩
        | some p =>
          obtain ⟨i, g1, g2, g3⟩ := hx
          exact ⟨x, y, ⟨i, by omega, g2, g3⟩, tgA o' y hy, hr.mono (by omega) (by omega)⟩
      · cases o with
        | none =>
          cases o' with
          | none => exact ⟨s, e, rfl, rfl, s2⟩
          | some q => cases h2
        | some p => cases h1
    · rintro ⟨x, y, hx, hy, hr⟩
      have hp := rc_opt h01 ho ha hA.2.1 hr
      have tgB : s + 1 ≤ y ∨ y = e → Tg op arg (s + 1) e o' y := fun hq => by
        cases o' with
        | none => exact hy
        | some q => obtain ⟨k1, k2, k3⟩ := hy; exact ⟨by omega, k2, k3⟩
      cases o with
      | none =>
        have hx : x = s := hx
        rcases hp.2 hx with r | r | r
        · cases o' with
          | none => have hy : y = e := hy; omega
          | some q => obtain ⟨k1, k2, k3, k4⟩ := hy; have := by_ y k1 k3; omega
        · cases o' with
          | none => exact Or.inr ⟨rfl, rfl⟩
          | some q => obtain ⟨k1, k2, k3, k4⟩ := hy; omega
        · refine Or.inl ⟨s + 1, y, rfl, tgB ?_, r⟩
          cases o' with
          | none => exact Or.inr hy
          | some q => obtain ⟨k1, k2, k3, k4⟩ := hy; exact Or.inl (by_ y k1 k3)
      | some p =>
        obtain ⟨i, g1, g2, g3, g4, g5⟩ := hx
        have hi := by_ i g1 g3
        refine Or.inl ⟨x, y, ⟨i, hi, g2, g3, g4, g5⟩, tgB ?_, hp.1 (by omega) (by omega)⟩
        cases o' with
        | none => exact Or.inr hy
        | some q => obtain ⟨k1, k2, k3, k4⟩ := hy; exact Or.inl (by_ y k1 k3)
theorem rc_alt (hsm : s + 1 ≤ m) (hme : m + 1 ≤ e) (ho : op s = 1) (ha : arg s = m + 1 - s) (hA : ∀ i j, s + 1 ≤ i → i < m → stp op arg i j → s + 1 ≤ j ∧ j ≤ m) (hj : op m = 2) (hj2 : arg m = e - m) (hB : ∀ i j, m + 1 ≤ i → i < e → stp op arg i j → m + 1 ≤ j ∧ j ≤ e) {x y : Int} (h : Rc op arg s e x y) :
    (s + 1 ≤ x → x ≤ m → (y ≤ m ∧ Rc op arg (s + 1) m x y) ∨ (y = e ∧ Rc op arg (s + 1) m x m)) ∧ (m + 1 ≤ x → x ≤ e → m + 1 ≤ y ∧ Rc op arg (m + 1) e x y) ∧ (x = s → y = s ∨ ((y ≤ m ∧ Rc op arg (s + 1) m (s + 1) y) ∨ (y = e ∧ Rc op arg (s + 1) m (s + 1) m)) ∨ (m + 1 ≤ y ∧ Rc op arg (m + 1) e (m + 1) y)) := by
  induction h using Rc.ind with
  | rf i => exact ⟨fun _ h => Or.inl ⟨h, .rf _⟩, fun h _ => ⟨h, .rf _⟩, fun h => Or.inl h⟩
  | @st i j k h0 h1 hs hr ih =>
    refine ⟨fun x0 x1 => ?_, fun x0 x1 => ?_, fun he => ?_⟩
    · by_cases e1 : i < m
      · have hj := hA i j x0 e1 hs
        rcases ih.1 hj.1 hj.2 with ⟨q1, q2⟩ | ⟨q1, q2⟩
        · exact Or.inl ⟨q1, .st x0 e1 hs q2⟩
        · exact Or.inr ⟨q1, .st x0 e1 hs q2⟩
      · have e2 : i = m := by omega
        subst e2
        rcases hs with ⟨_, q⟩ | ⟨q, _⟩
        · have r := ih.2.1 (by omega) (by omega)
          rw [show j = e by omega] at r
          exact Or.inr ⟨r.2.end_, .rf _⟩
        · omega
    · have hj := hB i j x0 h1 hs
      have r := ih.2.1 hj.1 hj.2
      exact ⟨r.1, .st x0 h1 hs r.2⟩
    · subst he
      rcases hs with ⟨q, _⟩ | ⟨_, q | q⟩
      · omega
      · have r := ih.2.1 (by omega) (by omega)
        rw [show j = m + 1 by omega] at r
        exact Or.inr (Or.inr r)
      · have r := ih.1 (by omega) (by omega)
        rw [q] at r
        exact Or.inr (Or.inl r)
theorem atr_alt (A B : PV) (o o' : Option Int) : atr (vAlt A B) o o' = (atr A o o' || atr B o o') := by cases o <;> cases o' <;> rfl
theorem rep_alt (ho : op s = 1) (ha : arg s = m + 1 - s) (hA : RepA op arg (s + 1) m A) (hj : op m = 2) (hj2 : arg m = e - m) (hB : RepA op arg (m + 1) e B) : RepA op arg s e (vAlt A B) := by
  have a0 := hA.1
  have b0 := hB.1
  have s1 : Rc op arg s e s (s + 1) := .one (by omega) (by omega) (Or.inr ⟨ho, Or.inr rfl⟩)
  have s2 : Rc op arg s e s (m + 1) := .one (by omega) (by omega) (Or.inr ⟨ho, Or.inl (by omega)⟩)
  have s3 : Rc op arg s e m e := .one (by omega) (by omega) (Or.inl ⟨hj, by omega⟩)
  have by_ : ∀ y, s ≤ y → op y = 0 → s + 1 ≤ y ∧ y ≠ m := fun y y1 h => by
    refine ⟨?_, fun e => by rw [e] at h; omega⟩
    by_cases e : y = s
    · rw [e] at h; omega
    · omega
  refine ⟨by omega, fun i j i0 i1 hs => ?_, fun o o' => ?_⟩
  · by_cases e1 : i = s
    · rcases hs with ⟨q, _⟩ | ⟨_, q | q⟩
      · rw [e1] at q; omega
      · rw [e1] at q; omega
      · omega
    · by_cases e2 : i < m
      · have := hA.2.1 i j (by omega) e2 hs; omega
      · by_cases e3 : i = m
        · rcases hs with ⟨_, q⟩ | ⟨q, _⟩
          · rw [e3] at q; omega
          · rw [e3] at q; omega
        · have := hB.2.1 i j (by omega) i1 hs; omega
  · rw [atr_alt, Bool.or_eq_true, hA.2.2, hB.2.2]
    constructor
    · rintro (⟨x, y, hx, hy, hr⟩ | ⟨x, y, hx, hy, hr⟩)
      · have tgt : ∃ y', Tg op arg s e o' y' ∧ Rc op arg s e x y' := by
          cases o' with
          | none =>
            have hy : y = m := hy
            subst hy
            exact ⟨e, rfl, (hr.mono (by omega) (by omega)).trans s3⟩
          | some q => obtain ⟨k1, k2, k3⟩ := hy; exact ⟨y, ⟨by omega, by omega, k3⟩, hr.mono (by omega) (by omega)⟩
        obtain ⟨y', t1, t2⟩ := tgt
        cases o with
        | none =>
          have hx : x = s + 1 := hx
          subst hx
          exact ⟨s, y', rfl, t1, s1.trans t2⟩
        | some p => obtain ⟨i, g1, g2, g3⟩ := hx; exact ⟨x, y', ⟨i, by omega, by omega, g3⟩, t1, t2⟩
      · have tgt : Tg op arg s e o' y := by
          cases o' with
          | none => exact hy
          | some q => obtain ⟨k1, k2, k3⟩ := hy; exact ⟨by omega, k2, k3⟩
        cases o with
        | none =>
          have hx : x = m + 1 := hx
          subst hx
          exact ⟨s, y, rfl, tgt, s2.trans (hr.mono (by omega) (by omega))⟩
        | some p => obtain ⟨i, g1, g2, g3⟩ := hx; exact ⟨x, y, ⟨i, by omega, g2, g3⟩, tgt, hr.mono (by omega) (by omega)⟩
    · rintro ⟨x, y, hx, hy, hr⟩
      have hp := rc_alt a0 b0 ho ha hA.2.1 hj hj2 hB.2.1 hr
      have tA : ∀ x, Src op arg (s + 1) m o x → ((y ≤ m ∧ Rc op arg (s + 1) m x y) ∨ (y = e ∧ Rc op arg (s + 1) m x m)) → ∃ x y, Src op arg (s + 1) m o x ∧ Tg op arg (s + 1) m o' y ∧ Rc op arg (s + 1) m x y := by
        intro x hx2 h
        rcases h with ⟨q1, q2⟩ | ⟨q1, q2⟩
        · cases o' with
          | none => have hy : y = e := hy; omega
          | some q => obtain ⟨k1, k2, k3, k4⟩ := hy; have := by_ y k1 k3; exact ⟨x, y, hx2, ⟨this.1, by omega, k3, k4⟩, q2⟩
        · cases o' with
          | none => exact ⟨x, m, hx2, rfl, q2⟩
          | some q => obtain ⟨k1, k2, k3, k4⟩ := hy; omega
      have tB : ∀ x, Src op arg (m + 1) e o x → m + 1 ≤ y → Rc op arg (m + 1) e x y → ∃ x y, Src op arg (m + 1) e o x ∧ Tg op arg (m + 1) e o' y ∧ Rc op arg (m + 1) e x y := by
        intro x hx2 h0 h
        refine ⟨x, y, hx2, ?_, h⟩
        cases o' with
        | none => exact hy
        | some q => obtain ⟨k1, k2, k3⟩ := hy; exact ⟨h0, k2, k3⟩
      cases o with
      | none =>
        have hx : x = s := hx
        rcases hp.2.2 hx with r | r | r
        · cases o' with
          | none => have hy : y = e := hy; omega
          | some q => obtain ⟨k1, k2, k3, k4⟩ := hy; have := by_ y k1 k3; omega
        · exact Or.inl (tA (s + 1) rfl r)
        · exact Or.inr (tB (m + 1) rfl r.1 r.2)
      | some p =>
        obtain ⟨i, g1, g2, g3, g4, g5⟩ := hx
        have hi := by_ i g1 g3
        by_cases e1 : i < m
        · exact Or.inl (tA x ⟨i, hi.1, e1, g3, g4, g5⟩ (hp.1 (by omega) (by omega)))
        · have r := hp.2.1 (by omega) (by omega)
          exact Or.inr (tB x ⟨i, by omega, g2, g3, g4, g5⟩ r.1 r.2)
end OPT
