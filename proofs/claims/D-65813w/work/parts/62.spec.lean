/-! plain: the parser step by step, with what is still to come -/
abbrev Rs : Type := Except Int (St × PV)
def bnd (r : Rs) (F : St → PV → Rs) : Rs := match r with
  | .error e => .error e
  | .ok (s, B) => F s B
theorem bnd_assoc (r : Rs) (F H : St → PV → Rs) : bnd (bnd r F) H = bnd r (fun s B => bnd (F s B) H) := by rcases r with e | ⟨s, B⟩ <;> rfl
theorem bnd_congr {r : Rs} {F H : St → PV → Rs} (h : ∀ s B, r = .ok (s, B) → F s B = H s B) : bnd r F = bnd r H := by
  rcases r with e | ⟨s, B⟩
  · rfl
  · exact h s B rfl
theorem bnd_err (e : Int) (F : St → PV → Rs) : bnd (.error e) F = .error e := rfl
theorem bnd_ok (s : St) (B : PV) (F : St → PV → Rs) : bnd (.ok (s, B)) F = F s B := rfl
section SPEC
variable {t : Int → Int} {n : Int}
theorem prs_0 (f : Nat) (d : Int) (s : St) (A : PV) : prs t n (f + 1) 0 d s A = bnd (prs t n f 2 d s vEps) (fun s1 B => prs t n f 1 d s1 B) := by
  rw [prs]
  generalize prs t n f 2 d s vEps = r
  rcases r with e | ⟨s, B⟩ <;> rfl
theorem prs_1 (f : Nat) (d : Int) (s : St) (A : PV) : prs t n (f + 1) 1 d s A = if chr t n s.i = 124 then bnd (prs t n f 2 d (s.i + 1, s.2) vEps) (fun s1 B => prs t n f 1 d s1 (vAlt A B)) else .ok (s, A) := by
  rw [prs]
  generalize prs t n f 2 d (s.i + 1, s.2) vEps = r
  rcases r with e | ⟨s, B⟩ <;> rfl
theorem prs_2 (f : Nat) (d : Int) (s : St) (A : PV) : prs t n (f + 1) 2 d s A = if endsB (chr t n s.i) = true then .ok (s, A) else bnd (prs t n f 3 d s vEps) (fun s1 B => prs t n f 2 d s1 (vCat A B)) := by
  rw [prs]
  generalize prs t n f 3 d s vEps = r
  rcases r with e | ⟨s, B⟩ <;> rfl
def pst (t : Int → Int) (n i : Int) (B : PV) : Int × PV := post t n ((n - i).toNat + 1) i B
theorem prs_3 (f : Nat) (d : Int) (s : St) (A : PV) : prs t n (f + 1) 3 d s A = bnd (prs t n f 4 d s vEps) (fun s1 B => .ok (((pst t n s1.i B).1, s1.2), (pst t n s1.i B).2)) := by
  rw [prs]
  generalize prs t n f 4 d s vEps = r
  rcases r with e | ⟨s, B⟩ <;> rfl
def one1 (t : Int → Int) (n : Int) (s : St) : Rs := if s.N = 400 then .error s.i else (match sngl t n s.i with
  | .error e => .error e
  | .ok (j, l, h) => .ok ((j, s.N + 1, up s.lo s.N l, up s.hi s.N h), vLit s.N))
theorem prs_4 (f : Nat) (d : Int) (s : St) (A : PV) : prs t n (f + 1) 4 d s A = if chr t n s.i = 40 then (if d = 40 then .error s.i else bnd (prs t n f 0 (d + 1) (s.i + 1, s.2) vEps) (fun s1 B => if chr t n s1.i = 41 then .ok ((s1.i + 1, s1.2), B) else .error s1.i)) else one1 t n s := by
  rw [prs]
  unfold one1
  generalize prs t n f 0 (d + 1) (s.i + 1, s.2) vEps = r
  generalize sngl t n s.i = q
  rcases r with e | ⟨s, B⟩ <;> rcases q with e2 | ⟨j, l, h⟩ <;> rfl
theorem prs_fuel : ∀ (f m : Nat) (d : Int) (s : St) (A : PV), m ≤ 4 → s.i ≤ n → s.N ≤ 400 → mu n m s.i < f → prs t n (f + 1) m d s A = prs t n f m d s A := by
  intro f
  induction f with
  | zero => intro m d s A _ _ _ h; omega
  | succ f ih =>
    intro m d s A hm hi hN hf
    have hm5 : m = 0 ∨ m = 1 ∨ m = 2 ∨ m = 3 ∨ m = 4 := by omega
    unfold mu at hf
    rcases hm5 with rfl | rfl | rfl | rfl | rfl
    · rw [if_pos rfl] at hf
      rw [prs_0, prs_0, ih 2 d s vEps (by decide) hi hN (by show 6 * _ + 4 < f; omega)]
      refine bnd_congr (fun s1 B hq => ?_)
      have k := prs_r _ _ _ _ _ _ _ hi hN hq
      exact ih 1 d s1 B (by decide) k.2.1 k.2.2.2.1 (by show 6 * _ + 1 < f; omega)
    · rw [if_neg (by decide), if_pos rfl] at hf
      rw [prs_1, prs_1]
      split
      · next hc =>
        have hl := chr_lt (t := t) (n := n) (i := s.i) (by omega)
        rw [ih 2 d (s.i + 1, s.2) vEps (by decide) (show s.i + 1 ≤ n by omega) hN (by show 6 * (n - (s.i + 1)).toNat + 4 < f; omega)]
        refine bnd_congr (fun s1 B hq => ?_)
        have k := prs_r _ _ _ _ _ _ _ (show (s.i + 1, s.2).1 ≤ n from hl) hN hq
        have k1 : s.i + 1 ≤ s1.i := k.1
        exact ih 1 d s1 _ (by decide) k.2.1 k.2.2.2.1 (by show 6 * _ + 1 < f; omega)
      · rfl
    · rw [if_neg (by decide), if_neg (by decide), if_pos rfl] at hf
      rw [prs_2, prs_2]
      split
      · rfl
      · next hc =>
        have hl := chr_lt (t := t) (n := n) (i := s.i) (endsB_f hc).1
        rw [ih 3 d s vEps (by decide) hi hN (by show 6 * _ + 3 < f; omega)]
        refine bnd_congr (fun s1 B hq => ?_)
        have k := prs_r _ _ _ _ _ _ _ hi hN hq
        have k1 := k.2.2.2.2 (by decide)
        exact ih 2 d s1 _ (by decide) k.2.1 k.2.2.2.1 (by show 6 * _ + 4 < f; omega)
    · rw [if_neg (by decide), if_neg (by decide), if_neg (by decide), if_pos rfl] at hf
      rw [prs_3, prs_3, ih 4 d s vEps (by decide) hi hN (by show 6 * _ + 2 < f; omega)]
    · rw [if_neg (by decide), if_neg (by decide), if_neg (by decide), if_neg (by decide)] at hf
      rw [prs_4, prs_4]
      split
      · next hc =>
        have hl := chr_lt (t := t) (n := n) (i := s.i) (by omega)
        split
        · rfl
        · rw [ih 0 (d + 1) (s.i + 1, s.2) vEps (by decide) (show s.i + 1 ≤ n by omega) hN (by show 6 * (n - (s.i + 1)).toNat + 5 < f; omega)]
      · rfl
/-- a part's reading, with fuel enough -/
def PP (t : Int → Int) (n : Int) (m : Nat) (d : Int) (s : St) (A : PV) : Rs := prs t n (mu n m s.i + 1) m d s A
theorem PP_eq {m : Nat} {d : Int} {s : St} {A : PV} (hm : m ≤ 4) (hi : s.i ≤ n) (hN : s.N ≤ 400) : ∀ f : Nat, mu n m s.i < f → prs t n f m d s A = PP t n m d s A := by
  intro f
  induction f with
  | zero => intro h; omega
  | succ f ih =>
    intro h
    by_cases e : mu n m s.i = f
    · unfold PP; rw [e]
    · rw [prs_fuel f m d s A hm hi hN (by omega)]
      exact ih (by omega)
theorem PP_0 {d : Int} {s : St} {A : PV} (hi : s.i ≤ n) (hN : s.N ≤ 400) : PP t n 0 d s A = bnd (PP t n 2 d s vEps) (fun s1 B => PP t n 1 d s1 B) := by
  have e : mu n 0 s.i = 6 * (n - s.i).toNat + 5 := rfl
  rw [PP, prs_0, PP_eq (by decide) hi hN _ (by show 6 * _ + 4 < _; omega)]
  refine bnd_congr (fun s1 B hq => ?_)
  have k := prs_r _ _ _ _ _ _ _ hi hN hq
  exact PP_eq (by decide) k.2.1 k.2.2.2.1 _ (by show 6 * _ + 1 < _; omega)
theorem PP_1 {d : Int} {s : St} {A : PV} (hi : s.i ≤ n) (hN : s.N ≤ 400) : PP t n 1 d s A = if chr t n s.i = 124 then bnd (PP t n 2 d (s.i + 1, s.2) vEps) (fun s1 B => PP t n 1 d s1 (vAlt A B)) else .ok (s, A) := by
  have e : mu n 1 s.i = 6 * (n - s.i).toNat + 1 := rfl
  rw [PP, prs_1]
  split
  · next hc =>
    have hl := chr_lt (t := t) (n := n) (i := s.i) (by omega)
    rw [PP_eq (m := 2) (s := (s.i + 1, s.2)) (by decide) (show s.i + 1 ≤ n by omega) hN _ (by show 6 * (n - (s.i + 1)).toNat + 4 < _; omega)]
    refine bnd_congr (fun s1 B hq => ?_)
    have k := prs_r _ _ _ _ _ _ _ (show (s.i + 1, s.2).1 ≤ n from hl) hN hq
    have k1 : s.i + 1 ≤ s1.i := k.1
    exact PP_eq (by decide) k.2.1 k.2.2.2.1 _ (by show 6 * _ + 1 < _; omega)
  · rfl
theorem PP_2 {d : Int} {s : St} {A : PV} (hi : s.i ≤ n) (hN : s.N ≤ 400) : PP t n 2 d s A = if endsB (chr t n s.i) = true then .ok (s, A) else bnd (PP t n 3 d s vEps) (fun s1 B => PP t n 2 d s1 (vCat A B)) := by
  have e : mu n 2 s.i = 6 * (n - s.i).toNat + 4 := rfl
  rw [PP, prs_2]
  split
  · rfl
  · next hc =>
    have hl := chr_lt (t := t) (n := n) (i := s.i) (endsB_f hc).1
    rw [PP_eq (by decide) hi hN _ (by show 6 * _ + 3 < _; omega)]
    refine bnd_congr (fun s1 B hq => ?_)
    have k := prs_r _ _ _ _ _ _ _ hi hN hq
    have k1 := k.2.2.2.2 (by decide)
    exact PP_eq (by decide) k.2.1 k.2.2.2.1 _ (by show 6 * _ + 4 < _; omega)
theorem PP_3 {d : Int} {s : St} {A : PV} (hi : s.i ≤ n) (hN : s.N ≤ 400) : PP t n 3 d s A = bnd (PP t n 4 d s vEps) (fun s1 B => .ok (((pst t n s1.i B).1, s1.2), (pst t n s1.i B).2)) := by
  have e : mu n 3 s.i = 6 * (n - s.i).toNat + 3 := rfl
  rw [PP, prs_3, PP_eq (by decide) hi hN _ (by show 6 * _ + 2 < _; omega)]
theorem PP_4 {d : Int} {s : St} {A : PV} (hi : s.i ≤ n) (hN : s.N ≤ 400) : PP t n 4 d s A = if chr t n s.i = 40 then (if d = 40 then .error s.i else bnd (PP t n 0 (d + 1) (s.i + 1, s.2) vEps) (fun s1 B => if chr t n s1.i = 41 then .ok ((s1.i + 1, s1.2), B) else .error s1.i)) else one1 t n s := by
  have e : mu n 4 s.i = 6 * (n - s.i).toNat + 2 := rfl
  rw [PP, prs_4]
  split
  · next hc =>
    have hl := chr_lt (t := t) (n := n) (i := s.i) (by omega)
    split
    · rfl
    · rw [PP_eq (m := 0) (s := (s.i + 1, s.2)) (by decide) (show s.i + 1 ≤ n by omega) hN _ (by show 6 * (n - (s.i + 1)).toNat + 5 < _; omega)]
  · rfl
theorem PP_r {m : Nat} {d : Int} {s s1 : St} {A B : PV} (hi : s.i ≤ n) (hN : s.N ≤ 400) (h : PP t n m d s A = .ok (s1, B)) : s.i ≤ s1.i ∧ s1.i ≤ n ∧ s1.N ≤ 400 := by
  have k := prs_r _ _ _ _ _ _ _ hi hN h
  exact ⟨k.1, k.2.1, k.2.2.2.1⟩
def finU : Option PV → PV → PV
  | none, B => B
  | some A, B => vAlt A B
abbrev Fr : Type := Option PV × PV
def unw (t : Int → Int) (n : Int) : List Fr → St → PV → Rs
  | [], s, A => if 0 ≤ chr t n s.i then .error s.i else .ok (s, A)
  | (U, C) :: K, s, A => if chr t n s.i = 41 then bnd (PP t n 2 K.length ((pst t n (s.i + 1) A).1, s.2) (vCat C (pst t n (s.i + 1) A).2)) (fun s1 B => bnd (PP t n 1 K.length s1 (finU U B)) (unw t n K)) else .error s.i
/-- what comes of it: no part behind which a repeat may stand; such a part -/
def SpN (t : Int → Int) (n : Int) (K : List Fr) (U : Option PV) (C : PV) (s : St) : Rs := bnd (PP t n 2 K.length s C) (fun s1 B => bnd (PP t n 1 K.length s1 (finU U B)) (unw t n K))
def SpA (t : Int → Int) (n : Int) (K : List Fr) (U : Option PV) (C a : PV) (s : St) : Rs := SpN t n K U (vCat C (pst t n s.i a).2) ((pst t n s.i a).1, s.2)
theorem post_fuel : ∀ (f : Nat) (i : Int) (A : PV), (n - i).toNat < f → post t n (f + 1) i A = post t n f i A := by
  intro f
  induction f with
  | zero => intro i A h; omega
  | succ f ih =>
    intro i A h
    rw [post]
    rw [post.eq_2 t n i A f]
    split
    · next hc =>
      have := isPost_lt hc
      exact ih (i + 1) _ (by omega)
    · rfl
theorem pst_no {i : Int} {A : PV} (h : ¬ isPost (chr t n i) = true) : pst t n i A = (i, A) := by
  unfold pst
  rw [post, if_neg h]
theorem pst_yes {i : Int} {A : PV} (h : isPost (chr t n i) = true) : pst t n i A = pst t n (i + 1) (vRep (chr t n i) A) := by
  have hl := isPost_lt h
  unfold pst
  rw [post, if_pos h, show (n - i).toNat = (n - (i + 1)).toNat + 1 by omega]
theorem SpA_no {K : List Fr} {U : Option PV} {C a : PV} {s : St} (h : ¬ isPost (chr t n s.i) = true) : SpA t n K U C a s = SpN t n K U (vCat C a) s := by
  unfold SpA
  rw [pst_no h]
theorem SpA_post {K : List Fr} {U : Option PV} {C a : PV} {s : St} (h : isPost (chr t n s.i) = true) : SpA t n K U C a s = SpA t n K U C (vRep (chr t n s.i) a) (s.i + 1, s.2) := by
  unfold SpA
  rw [pst_yes h]
theorem SpN_end {K : List Fr} {U : Option PV} {C : PV} {s : St} (hi : s.i ≤ n) (hN : s.N ≤ 400) (h : endsB (chr t n s.i) = true) (h2 : chr t n s.i ≠ 124) : SpN t n K U C s = unw t n K s (finU U C) := by
  unfold SpN
  rw [PP_2 hi hN, if_pos h, bnd_ok, PP_1 hi hN, if_neg h2, bnd_ok]
theorem SpN_bar {K : List Fr} {U : Option PV} {C : PV} {s : St} (hi : s.i < n) (hN : s.N ≤ 400) (h2 : chr t n s.i = 124) : SpN t n K U C s = SpN t n K (some (finU U C)) vEps (s.i + 1, s.2) := by
  unfold SpN
  rw [PP_2 (by omega) hN, if_pos (by rw [h2]; rfl), bnd_ok, PP_1 (by omega) hN, if_pos h2, bnd_assoc]
  rfl
theorem SpN_one {K : List Fr} {U : Option PV} {C : PV} {s : St} (hi : s.i < n) (hN : s.N ≤ 400) (h : ¬ endsB (chr t n s.i) = true) : SpN t n K U C s = bnd (PP t n 4 K.length s vEps) (fun s1 B => SpA t n K U C B s1) := by
  unfold SpA SpN
  rw [PP_2 (by omega) hN, if_neg h, PP_3 (by omega) hN, bnd_assoc, bnd_assoc]
  refine bnd_congr (fun s1 B hq => ?_)
  rw [bnd_ok]
theorem SpN_open {K : List Fr} {U : Option PV} {C : PV} {s : St} (hi : s.i < n) (hN : s.N ≤ 400) (h : chr t n s.i = 40) : SpN t n K U C s = if (K.length : Int) = 40 then .error s.i else SpN t n ((U, C) :: K) none vEps (s.i + 1, s.2) := by
  rw [SpN_one hi hN (by rw [h]; decide), PP_4 (by omega) hN, if_pos h]
  split
  · rfl
  · rw [bnd_assoc, PP_0 (s := (s.i + 1, s.2)) (show s.i + 1 ≤ n by omega) hN, bnd_assoc]
    unfold SpN
    rw [show (((U, C) :: K).length : Int) = (K.length : Int) + 1 from rfl]
    refine bnd_congr (fun s1 B hq => ?_)
    show _ = bnd (PP t n 1 ((K.length : Int) + 1) s1 B) (unw t n ((U, C) :: K))
    refine bnd_congr (fun s2 A hq2 => ?_)
    show bnd (if chr t n s2.i = 41 then .ok ((s2.i + 1, s2.2), A) else .error s2.i) _ = if chr t n s2.i = 41 then _ else .error s2.i
    split
    · rfl
    · rfl
theorem SpN_close {K : List Fr} {U U2 : Option PV} {C C2 : PV} {s : St} (hi : s.i < n) (hN : s.N ≤ 400) (h : chr t n s.i = 41) : SpN t n ((U2, C2) :: K) U C s = SpA t n K U2 C2 (finU U C) (s.i + 1, s.2) := by
  rw [SpN_end (by omega) hN (by rw [h]; rfl) (by omega)]
  show (if chr t n s.i = 41 then _ else _) = _
  rw [if_pos h]
  rfl
theorem SpN_close0 {U : Option PV} {C : PV} {s : St} (hi : s.i < n) (hN : s.N ≤ 400) (h : chr t n s.i = 41) : SpN t n [] U C s = .error s.i := by
  rw [SpN_end (by omega) hN (by rw [h]; rfl) (by omega)]
  show (if 0 ≤ chr t n s.i then _ else _) = _
  rw [if_pos (by omega)]
theorem SpN_fin {K : List Fr} {U : Option PV} {C : PV} {s : St} (hi : s.i = n) (hN : s.N ≤ 400) : SpN t n K U C s = if K.length = 0 then .ok (s, finU U C) else .error s.i := by
  have hc : chr t n s.i = -1 := by unfold chr; rw [if_neg (by omega)]
  rw [SpN_end (by omega) hN (by rw [hc]; rfl) (by omega)]
  cases K with
  | nil =>
    show (if 0 ≤ chr t n s.i then _ else _) = _
    rw [if_neg (by omega)]
    rfl
  | cons x K =>
    show (if chr t n s.i = 41 then _ else _) = _
    rw [if_neg (by omega)]
    rfl
/-- a byte that is neither a bracket, nor a bar, nor a repeat behind a part -/
theorem SpN_char {K : List Fr} {U : Option PV} {C : PV} {s : St} (hi : s.i < n) (hN : s.N ≤ 400) (h1 : chr t n s.i ≠ 40) (h2 : chr t n s.i ≠ 41) (h3 : chr t n s.i ≠ 124) : SpN t n K U C s = if s.N = 400 then .error s.i else (match sngl t n s.i with
  | .error e => .error e
  | .ok (j, l, h) => SpA t n K U C (vLit s.N) (j, s.N + 1, up s.lo s.N l, up s.hi s.N h)) := by
  have hr := chr_r t n s.i
  have h0 : 0 ≤ chr t n s.i := by
    unfold chr
    rw [if_pos hi]
    exact (iand_255 _).1
  by_cases h47 : chr t n s.i = 47
  · have hs : sngl t n s.i = .error s.i := by
      unfold sngl
      rw [if_neg (by omega), if_neg (by omega), if_neg (by unfold chrOk; rw [if_neg (by omega), h47]; decide), chrE_n (by omega)]
    rw [hs, SpN_end (by omega) hN (by rw [h47]; rfl) h3]
    have e : unw t n K s (finU U C) = .error s.i := by
      cases K with
      | nil =>
        show (if 0 ≤ chr t n s.i then _ else _) = _
        rw [if_pos h0]
      | cons x K =>
        show (if chr t n s.i = 41 then _ else _) = _
        rw [if_neg h2]
    rw [e]
    split <;> rfl
  · have he : ¬ endsB (chr t n s.i) = true := by
      unfold endsB
      simp
      omega
    rw [SpN_one hi hN he, PP_4 (by omega) hN, if_neg h1]
    unfold one1
    split
    · rfl
    · generalize sngl t n s.i = q
      rcases q with e2 | ⟨j, l, h⟩ <;> rfl
theorem sngl_post {i : Int} (h : isPost (chr t n i) = true) : sngl t n i = .error i := by
  unfold isPost at h
  simp at h
  unfold sngl
  rw [if_neg (by omega), if_neg (by omega), if_neg ?_, chrE_n (by omega)]
  unfold chrOk
  rw [if_neg (by omega)]
  rcases h with h | h | h <;> rw [h] <;> decide
theorem prsT_sp {lo hi : Int → Int64} (hn : 0 ≤ n) : prsT t n lo hi = SpN t n [] none vEps (0, 0, lo, hi) := by
  unfold prsT SpN
  rw [PP_eq (m := 0) (by decide) (show ((0 : Int), (0 : Int), lo, hi).1 ≤ n from hn) (show (0 : Int) ≤ 400 by decide) _ (by show 6 * (n - 0).toNat + 5 < _; omega), PP_0 (show ((0 : Int), (0 : Int), lo, hi).1 ≤ n from hn) (show (0 : Int) ≤ 400 by decide)]
  show bnd (bnd _ _) (unw t n []) = _
  rw [bnd_assoc]
  rfl
end SPEC
