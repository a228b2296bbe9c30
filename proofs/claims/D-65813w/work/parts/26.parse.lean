/-! the parser, pure: parts are (may it be empty, its first places, its last places, which place may follow which) -/
abbrev PV : Type := Bool × (Int → Bool) × (Int → Bool) × (Int → Int → Bool)
abbrev PV.nul (A : PV) : Bool := A.1
abbrev PV.fi (A : PV) : Int → Bool := A.2.1
abbrev PV.la (A : PV) : Int → Bool := A.2.2.1
abbrev PV.fo (A : PV) : Int → Int → Bool := A.2.2.2
def vEps : PV := (true, fun _ => false, fun _ => false, fun _ _ => false)
def vLit (p : Int) : PV := (false, fun q => decide (p = q), fun q => decide (p = q), fun _ _ => false)
def vCat (A B : PV) : PV := (A.nul && B.nul, fun q => A.fi q || (A.nul && B.fi q), fun q => B.la q || (B.nul && A.la q), fun p q => (A.fo p q || B.fo p q) || (A.la p && B.fi q))
def vAlt (A B : PV) : PV := (A.nul || B.nul, fun q => A.fi q || B.fi q, fun q => A.la q || B.la q, fun p q => A.fo p q || B.fo p q)
def vRep (c : Int) (A : PV) : PV := (A.nul || decide (c ≠ 43), A.fi, A.la, fun p q => A.fo p q || (decide (c ≠ 63) && (A.la p && A.fi q)))
def isPost (c : Int) : Bool := decide (c = 42) || (decide (c = 43) || decide (c = 63))
def post (t : Int → Int) (n : Int) : Nat → Int → PV → Int × PV
  | 0, i, A => (i, A)
  | f + 1, i, A => if isPost (chr t n i) = true then post t n f (i + 1) (vRep (chr t n i) A) else (i, A)
abbrev St : Type := Int × Int × (Int → Int64) × (Int → Int64)
abbrev St.i (s : St) : Int := s.1
abbrev St.N (s : St) : Int := s.2.1
abbrev St.lo (s : St) : Int → Int64 := s.2.2.1
abbrev St.hi (s : St) : Int → Int64 := s.2.2.2
def prs (t : Int → Int) (n : Int) : Nat → Nat → Int → St → PV → Except Int (St × PV)
  | 0, _, _, s, _ => .error s.i
  | f + 1, 0, d, s, _ => (match prs t n f 2 d s vEps with
    | .error e => .error e
    | .ok (s1, B) => prs t n f 1 d s1 B)
  | f + 1, 1, d, s, A => if chr t n s.i = 124 then (match prs t n f 2 d (s.i + 1, s.2) vEps with
    | .error e => .error e
    | .ok (s1, B) => prs t n f 1 d s1 (vAlt A B)) else .ok (s, A)
  | f + 1, 2, d, s, A => if endsB (chr t n s.i) = true then .ok (s, A) else (match prs t n f 3 d s vEps with
    | .error e => .error e
    | .ok (s1, B) => prs t n f 2 d s1 (vCat A B))
  | f + 1, 3, d, s, _ => (match prs t n f 4 d s vEps with
    | .error e => .error e
    | .ok (s1, B) => .ok (((post t n ((n - s1.i).toNat + 1) s1.i B).1, s1.2), (post t n ((n - s1.i).toNat + 1) s1.i B).2))
  | f + 1, _ + 4, d, s, _ => if chr t n s.i = 40 then (if d = 40 then .error s.i else (match prs t n f 0 (d + 1) (s.i + 1, s.2) vEps with
    | .error e => .error e
    | .ok (s1, B) => if chr t n s1.i = 41 then .ok ((s1.i + 1, s1.2), B) else .error s1.i))
    else if s.N = 400 then .error s.i
    else (match sngl t n s.i with
    | .error e => .error e
    | .ok (j, l, h) => .ok ((j, s.N + 1, up s.lo s.N l, up s.hi s.N h), vLit s.N))
/-- the fuel that suffices -/
def mu (n : Int) (m : Nat) (i : Int) : Nat := 6 * (n - i).toNat + (if m = 0 then 5 else if m = 1 then 1 else if m = 2 then 4 else if m = 3 then 3 else 2)
theorem isPost_lt {t : Int → Int} {n i : Int} (h : isPost (chr t n i) = true) : i < n := by
  unfold isPost at h
  simp at h
  exact chr_lt (t := t) (by omega)
theorem post_r {t : Int → Int} {n : Int} : ∀ (f : Nat) (i : Int) (A : PV), i ≤ n → i ≤ (post t n f i A).1 ∧ (post t n f i A).1 ≤ n := by
  intro f
  induction f with
  | zero => intro i A h; exact ⟨Int.le_refl _, h⟩
  | succ f ih =>
    intro i A h
    unfold post
    split
    · next q =>
      have := isPost_lt q
      have := ih (i + 1) (vRep (chr t n i) A) (by omega)
      omega
    · exact ⟨Int.le_refl _, h⟩
theorem endsB_f {c : Int} (h : ¬ endsB c = true) : 0 ≤ c ∧ c ≠ 47 ∧ c ≠ 124 ∧ c ≠ 41 := by
  unfold endsB at h
  simp at h
  omega
theorem clsR_r {t : Int → Int} {n i : Int} {lo hi : Int64} {j : Int} {l h : Int64} (e : clsR t n i lo hi = .ok (j, l, h)) : i < j ∧ j ≤ n := by
  unfold clsR at e
  split at e
  · split at e
    · cases e
    · next q => cases e; have := chcL_ok _ _ _ _ _ _ _ q; omega
  · split at e
    · cases e
    · next q => cases e; have := chcL_ok _ _ _ _ _ _ _ q; omega
theorem sngl_r {t : Int → Int} {n i : Int} {j : Int} {l h : Int64} (e : sngl t n i = .ok (j, l, h)) : i < j ∧ j ≤ n := by
  unfold sngl at e
  split at e
  · exact clsR_r e
  · split at e
    · next q => cases e; have := chr_lt (t := t) (n := n) (i := i) (by omega); omega
    · split at e
      · next q => cases e; have := chrOk_lt q; omega
      · cases e
/-- where the parser comes to -/
theorem prs_r {t : Int → Int} {n : Int} : ∀ (f m : Nat) (d : Int) (s : St) (A : PV) (s1 : St) (B : PV), s.i ≤ n → s.N ≤ 400 → prs t n f m d s A = .ok (s1, B) → s.i ≤ s1.i ∧ s1.i ≤ n ∧ s.N ≤ s1.N ∧ s1.N ≤ 400 ∧ (3 ≤ m → s.i < s1.i) := by
  intro f
  induction f with
  | zero => intro m d s A s1 B _ _ e; cases e
  | succ f ih =>
    intro m d s A s1 B hi hN e
    match m with
    | 0 =>
      unfold prs at e
      split at e
      · cases e
      · next s2 B2 q =>
        have k1 := ih _ _ _ _ _ _ hi hN q
        have k2 := ih _ _ _ _ _ _ k1.2.1 k1.2.2.2.1 e
        omega
    | 1 =>
      unfold prs at e
      split at e
      · next c =>
        have hl := chr_lt (t := t) (n := n) (i := s.i) (by omega)
        split at e
        · cases e
        · next s2 B2 q =>
          have k1 := ih _ _ _ _ _ _ (show (s.i + 1, s.2).1 ≤ n from hl) hN q
          have k2 := ih _ _ _ _ _ _ k1.2.1 k1.2.2.2.1 e
          have k3 : s.i + 1 ≤ s2.i := k1.1
          have k4 : s.N ≤ s2.N := k1.2.2.1
          omega
      · cases e
        omega
    | 2 =>
      unfold prs at e
      split at e
      · cases e
        omega
      · split at e
        · cases e
        · next s2 B2 q =>
          have k1 := ih _ _ _ _ _ _ hi hN q
          have k2 := ih _ _ _ _ _ _ k1.2.1 k1.2.2.2.1 e
          omega
    | 3 =>
      unfold prs at e
      split at e
      · cases e
      · next s2 B2 q =>
        have k1 := ih _ _ _ _ _ _ hi hN q
        have k3 := k1.2.2.2.2 (by omega)
        have k2 := post_r (t := t) (n := n) ((n - s2.i).toNat + 1) s2.i B2 k1.2.1
        cases e
        dsimp only [St.i, St.N] at *
        omega
    | m + 4 =>
      unfold prs at e
      split at e
      · next c =>
        have hl := chr_lt (t := t) (n := n) (i := s.i) (by omega)
        split at e
        · cases e
        · split at e
          · cases e
          · next s2 B2 q =>
            have k1 := ih _ _ _ _ _ _ (show (s.i + 1, s.2).1 ≤ n from hl) hN q
            have k3 : s.i + 1 ≤ s2.i := k1.1
            have k4 : s.N ≤ s2.N := k1.2.2.1
            split at e
            · next c2 =>
              have hl2 := chr_lt (t := t) (n := n) (i := s2.i) (by omega)
              cases e
              dsimp only [St.i, St.N] at *
              omega
            · cases e
      · split at e
        · cases e
        · next c2 =>
          split at e
          · cases e
          · next j l h q =>
            have k := sngl_r q
            cases e
            dsimp only [St.i, St.N] at *
            omega
/-- a part speaks of the places from k on, below N -/
def supp (k N : Int) (A : PV) : Prop := (∀ p, A.fi p = true → k ≤ p ∧ p < N) ∧ (∀ p, A.la p = true → k ≤ p ∧ p < N) ∧ ∀ p q, A.fo p q = true → (k ≤ p ∧ p < N) ∧ (k ≤ q ∧ q < N)
theorem supp_eps (k N : Int) : supp k N vEps := ⟨fun _ h => (by cases h), fun _ h => (by cases h), fun _ _ h => (by cases h)⟩
theorem supp_mono {k N N' : Int} {A : PV} (h : supp k N A) (hN : N ≤ N') : supp k N' A := ⟨fun p q => ⟨(h.1 p q).1, by have := (h.1 p q).2; omega⟩, fun p q => ⟨(h.2.1 p q).1, by have := (h.2.1 p q).2; omega⟩, fun p q r => ⟨⟨(h.2.2 p q r).1.1, by have := (h.2.2 p q r).1.2; omega⟩, ⟨(h.2.2 p q r).2.1, by have := (h.2.2 p q r).2.2; omega⟩⟩⟩
theorem supp_low {k k' N : Int} {A : PV} (h : supp k N A) (hk : k' ≤ k) : supp k' N A := ⟨fun p q => ⟨by have := (h.1 p q).1; omega, (h.1 p q).2⟩, fun p q => ⟨by have := (h.2.1 p q).1; omega, (h.2.1 p q).2⟩, fun p q r => ⟨⟨by have := (h.2.2 p q r).1.1; omega, (h.2.2 p q r).1.2⟩, ⟨by have := (h.2.2 p q r).2.1; omega, (h.2.2 p q r).2.2⟩⟩⟩
theorem supp_lit (p : Int) : supp p (p + 1) (vLit p) := ⟨fun q h => (by have : p = q := of_decide_eq_true h; omega), fun q h => (by have : p = q := of_decide_eq_true h; omega), fun _ _ h => (by cases h)⟩
theorem supp_cat {k N : Int} {A B : PV} (hA : supp k N A) (hB : supp k N B) : supp k N (vCat A B) := by
  refine ⟨fun p h => ?_, fun p h => ?_, fun p q h => ?_⟩
  · have h : (A.fi p || (A.nul && B.fi p)) = true := h
    simp only [Bool.or_eq_true, Bool.and_eq_true] at h
    rcases h with h | h
    · exact hA.1 p h
    · exact hB.1 p h.2
  · have h : (B.la p || (B.nul && A.la p)) = true := h
    simp only [Bool.or_eq_true, Bool.and_eq_true] at h
    rcases h with h | h
    · exact hB.2.1 p h
    · exact hA.2.1 p h.2
  · have h : ((A.fo p q || B.fo p q) || (A.la p && B.fi q)) = true := h
    simp only [Bool.or_eq_true, Bool.and_eq_true] at h
    rcases h with (h | h) | h
    · exact hA.2.2 p q h
    · exact hB.2.2 p q h
    · exact ⟨hA.2.1 p h.1, hB.1 q h.2⟩
theorem supp_alt {k N : Int} {A B : PV} (hA : supp k N A) (hB : supp k N B) : supp k N (vAlt A B) := by
  refine ⟨fun p h => ?_, fun p h => ?_, fun p q h => ?_⟩
  · have h : (A.fi p || B.fi p) = true := h
    simp only [Bool.or_eq_true] at h
    rcases h with h | h
    · exact hA.1 p h
    · exact hB.1 p h
  · have h : (A.la p || B.la p) = true := h
    simp only [Bool.or_eq_true] at h
    rcases h with h | h
    · exact hA.2.1 p h
    · exact hB.2.1 p h
  · have h : (A.fo p q || B.fo p q) = true := h
    simp only [Bool.or_eq_true] at h
    rcases h with h | h
    · exact hA.2.2 p q h
    · exact hB.2.2 p q h
theorem supp_rep {k N c : Int} {A : PV} (hA : supp k N A) : supp k N (vRep c A) := by
  refine ⟨hA.1, hA.2.1, fun p q h => ?_⟩
  have h : (A.fo p q || (decide (c ≠ 63) && (A.la p && A.fi q))) = true := h
  simp only [Bool.or_eq_true, Bool.and_eq_true] at h
  rcases h with h | h
  · exact hA.2.2 p q h
  · exact ⟨hA.2.1 p h.2.1, hA.1 q h.2.2⟩
theorem supp_post {t : Int → Int} {n k N : Int} : ∀ (f : Nat) (i : Int) (A : PV), supp k N A → supp k N (post t n f i A).2 := by
  intro f
  induction f with
  | zero => intro i A h; exact h
  | succ f ih =>
    intro i A h
    unfold post
    split
    · exact ih _ _ (supp_rep h)
    · exact h
theorem prs_supp {t : Int → Int} {n : Int} : ∀ (f m : Nat) (d : Int) (s : St) (A : PV) (s1 : St) (B : PV) (k : Int), s.i ≤ n → s.N ≤ 400 → k ≤ s.N → supp k s.N A → prs t n f m d s A = .ok (s1, B) → supp k s1.N B := by
  intro f
  induction f with
  | zero => intro m d s A s1 B k _ _ _ _ e; cases e
  | succ f ih =>
    intro m d s A s1 B k hi hN hk hA e
    have hr := prs_r _ _ _ _ _ _ _ hi hN e
    match m with
    | 0 =>
      unfold prs at e
      split at e
      · cases e
      · next s2 B2 q =>
        have k1 := prs_r _ _ _ _ _ _ _ hi hN q
        have k2 := ih _ _ _ _ _ _ k hi hN hk (supp_eps _ _) q
        exact ih _ _ _ _ _ _ k k1.2.1 k1.2.2.2.1 (by omega) k2 e
    | 1 =>
      unfold prs at e
      split at e
      · next c =>
        have hl := chr_lt (t := t) (n := n) (i := s.i) (by omega)
        split at e
        · cases e
        · next s2 B2 q =>
          have k1 := prs_r _ _ _ _ _ _ _ (show (s.i + 1, s.2).1 ≤ n from hl) hN q
          have k4 : s.N ≤ s2.N := k1.2.2.1
          have k2 := ih _ _ _ _ _ _ k (show (s.i + 1, s.2).1 ≤ n from hl) hN hk (supp_eps _ _) q
          exact ih _ _ _ _ _ _ k k1.2.1 k1.2.2.2.1 (by omega) (supp_alt (supp_mono hA k4) k2) e
      · cases e
        exact hA
    | 2 =>
      unfold prs at e
      split at e
      · cases e
        exact hA
      · split at e
        · cases e
        · next s2 B2 q =>
          have k1 := prs_r _ _ _ _ _ _ _ hi hN q
          have k2 := ih _ _ _ _ _ _ k hi hN hk (supp_eps _ _) q
          exact ih _ _ _ _ _ _ k k1.2.1 k1.2.2.2.1 (by omega) (supp_cat (supp_mono hA k1.2.2.1) k2) e
    | 3 =>
      unfold prs at e
      split at e
      · cases e
      · next s2 B2 q =>
        have k2 := ih _ _ _ _ _ _ k hi hN hk (supp_eps _ _) q
        cases e
        exact supp_post _ _ _ k2
    | m + 4 =>
      unfold prs at e
      split at e
      · next c =>
        have hl := chr_lt (t := t) (n := n) (i := s.i) (by omega)
        split at e
        · cases e
        · split at e
          · cases e
          · next s2 B2 q =>
            have k2 := ih _ _ _ _ _ _ k (show (s.i + 1, s.2).1 ≤ n from hl) hN hk (supp_eps _ _) q
            split at e
            · cases e
              exact k2
            · cases e
      · split at e
        · cases e
        · split at e
          · cases e
          · next j l h q =>
            cases e
            exact supp_low (supp_lit s.N) hk
