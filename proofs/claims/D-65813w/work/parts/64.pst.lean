/-! plain: the states of the reference's reading -/
def Clo (a : PV) : Prop := ∀ p q, a.la p = true → a.fi q = true → a.fo p q = true
def HowOk (how : Int) (a : PV) : Prop := (how = 0 ∨ how = 42 ∨ how = 43 ∨ how = 63) ∧ (how = 42 → a.nul = true ∧ Clo a) ∧ (how = 43 → Clo a) ∧ (how = 63 → a.nul = true)
theorem HowOk.zero (a : PV) : HowOk 0 a := ⟨Or.inl rfl, fun h => by omega, fun h => by omega, fun h => by omega⟩
theorem clo_rep {c : Int} {a : PV} (h : c ≠ 63) : Clo (vRep c a) := fun p q hp hq => by
  have hp : a.la p = true := hp
  have hq : a.fi q = true := hq
  show (a.fo p q || (decide (c ≠ 63) && (a.la p && a.fi q))) = true
  rw [hp, hq, decide_eq_true h]
  simp
theorem clo_keep {c : Int} {a : PV} (h : Clo a) : Clo (vRep c a) := fun p q hp hq => by
  show (a.fo p q || _) = true
  rw [h p q hp hq]
  rfl
theorem how_skip {how c : Int} {a : PV} (h : HowOk how a) (hc : c = 42 ∨ c = 43 ∨ c = 63) (hs : how = 42 ∨ how = c) : (∀ o o', atr a o o' = atr (vRep c a) o o') ∧ HowOk how (vRep c a) := by
  have hcl : c ≠ 63 → Clo a := fun hx => by
    rcases hs with e | e
    · exact (h.2.1 e).2
    · rcases hc with rfl | rfl | rfl
      · exact (h.2.1 e).2
      · exact h.2.2.1 e
      · exact absurd rfl hx
  have hnl : c ≠ 43 → a.nul = true := fun hx => by
    rcases hs with e | e
    · exact (h.2.1 e).1
    · rcases hc with rfl | rfl | rfl
      · exact (h.2.1 e).1
      · exact absurd rfl hx
      · exact h.2.2.2 e
  refine ⟨fun o o' => ?_, h.1, fun e => ?_, fun e => clo_keep (h.2.2.1 e), fun e => ?_⟩
  · cases o <;> cases o'
    · show a.nul = (a.nul || decide (c ≠ 43))
      by_cases e : c = 43
      · rw [decide_eq_false (by omega), Bool.or_false]
      · rw [hnl e]; rfl
    · rfl
    · rfl
    · next p q =>
      show a.fo p q = (a.fo p q || (decide (c ≠ 63) && (a.la p && a.fi q)))
      by_cases e : c = 63
      · rw [decide_eq_false (by omega)]; simp
      · cases hp : a.la p with
        | false => simp
        | true =>
          cases hq : a.fi q with
          | false => simp
          | true => rw [hcl e p q hp hq]; rfl
  · exact ⟨by show (a.nul || _) = true; rw [(h.2.1 e).1]; rfl, clo_keep (h.2.1 e).2⟩
  · show (a.nul || _) = true
    rw [h.2.2.2 e]
    rfl
theorem how_next {how c : Int} {a : PV} (h : HowOk how a) (hc : c = 42 ∨ c = 43 ∨ c = 63) (h1 : how ≠ 42) (h2 : how ≠ c) : HowOk (if how = 0 then c else 42) (vRep c a) := by
  by_cases e : how = 0
  · rw [if_pos e]
    refine ⟨by omega, fun e => ⟨by show (a.nul || decide (c ≠ 43)) = true; rw [decide_eq_true (by omega)]; simp, clo_rep (by omega)⟩, fun e => clo_rep (by omega), fun e => by show (a.nul || decide (c ≠ 43)) = true; rw [decide_eq_true (by omega)]; simp⟩
  · rw [if_neg e]
    refine ⟨by omega, fun _ => ⟨?_, ?_⟩, fun e => by omega, fun e => by omega⟩
    · show (a.nul || decide (c ≠ 43)) = true
      by_cases e2 : c = 43
      · rw [h.2.2.2 (by have := h.1; omega)]; rfl
      · rw [decide_eq_true e2]; simp
    · by_cases e2 : c = 63
      · exact clo_keep (h.2.2.1 (by have := h.1; omega))
      · exact clo_rep e2
def PC (n : Int) (op arg : Int → Int) (many cur masks depth : Int) : Prop := (0 ≤ depth ∧ depth ≤ 40) ∧ (0 ≤ cur ∧ cur ≤ n) ∧ (0 ≤ many ∧ many ≤ 2 * cur) ∧ (0 ≤ masks ∧ masks ≤ 400) ∧ BytOk op arg many masks
def PNo (t : Int → Int) (n : Int) (R : Rs) (op arg group choice chain : Int → Int) (hasE : Int → Bool) (many cur masks : Int) (low high : Int → Int64) (depth : Int) : Prop :=
  ∃ U C K, depth = ((K : List Fr).length : Int) ∧ Lvl op arg group choice chain hasE ((U, C) :: K) many ∧ R = SpN t n K U C (cur, masks, low, high)
def PAt (t : Int → Int) (n : Int) (R : Rs) (op arg group choice chain : Int → Int) (hasE : Int → Bool) (many cur masks : Int) (low high : Int → Int64) (depth atom how : Int) : Prop :=
  ∃ U C K a, depth = ((K : List Fr).length : Int) ∧ Lvl op arg group choice chain hasE ((U, C) :: K) atom ∧ RepA op arg atom many a ∧ HowOk how a ∧ R = SpA t n K U C a (cur, masks, low, high)
section TRANS
variable {t : Int → Int} {n : Int} {R : Rs} {op arg group choice chain : Int → Int} {hasE : Int → Bool} {many cur masks : Int} {low high : Int → Int64} {depth atom how : Int}
theorem PNo.start (lo hi : Int → Int64) (hn : 0 ≤ n) (h1 : group 0 = 0) (h2 : choice 0 = 0) (h3 : chain 0 = -1) (h4 : hasE 0 = false) : PNo t n (prsT t n lo hi) op arg group choice chain hasE 0 0 0 lo hi 0 :=
  ⟨none, vEps, [], rfl, ⟨⟨[], ⟨by show choice 0 = group 0; rw [h1, h2], h3⟩, by show 0 ≤ group 0; omega, by show RepA op arg (choice 0) 0 vEps; rw [h2]; exact rep_eps 0, fun _ _ => rfl, fun h => by have h : hasE 0 = true := h; rw [h4] at h; cases h⟩, h1⟩, prsT_sp hn⟩
theorem PAt.merge (h : PAt t n R op arg group choice chain hasE many cur masks low high depth atom how) (hp : ¬ isPost (chr t n cur) = true) : PNo t n R op arg group choice chain hasE many cur masks low high depth := by
  obtain ⟨U, C, K, a, h1, ⟨⟨As, a1, a2, a3, a4, a5⟩, h3⟩, h4, h5, h6⟩ := h
  exact ⟨U, vCat C a, K, h1, ⟨⟨As, a1, a2, rep_cat a3 h4, a4, a5⟩, h3⟩, by rw [h6]; exact SpA_no hp⟩
theorem PNo.open_ (h : PNo t n R op arg group choice chain hasE many cur masks low high depth) (hc : chr t n cur = 40) (hi : cur < n) (hN : masks ≤ 400) (m0 : 0 ≤ many) : (depth = 40 → R = .error cur) ∧ (depth ≠ 40 → PNo t n R op arg (up group (depth + 1) many) (up choice (depth + 1) many) (up chain (depth + 1) (-1)) (up hasE (depth + 1) false) many (cur + 1) masks low high (depth + 1)) := by
  obtain ⟨U, C, K, h1, h2, h3⟩ := h
  rw [SpN_open (s := (cur, masks, low, high)) hi hN hc] at h3
  refine ⟨fun e => by rw [h3, if_pos (by omega)], fun e => ?_⟩
  rw [if_neg (by omega)] at h3
  have ed : (((U, C) :: K).length : Int) = depth + 1 := by rw [h1]; rfl
  refine ⟨none, vEps, (U, C) :: K, ed.symm, ⟨⟨[], ?_, ?_, ?_, fun _ _ => rfl, ?_⟩, ?_⟩, h3⟩
  · rw [ed, up_same, up_same, up_same]; exact ⟨rfl, rfl⟩
  · rw [ed, up_same]; exact m0
  · rw [ed, up_same]; exact rep_eps many
  · rw [ed, up_same]; intro h; cases h
  · rw [ed, up_same]
    exact h2.congr (fun i _ _ => ⟨rfl, rfl⟩) (fun d d0 d1 => by rw [ed] at d1; rw [up_ne _ _ (by omega), up_ne _ _ (by omega), up_ne _ _ (by omega), up_ne _ _ (by omega)]; exact ⟨rfl, rfl, rfl, rfl⟩)
theorem PNo.close_ (h : PNo t n R op arg group choice chain hasE many cur masks low high depth) (hc : chr t n cur = 41) (hi : cur < n) (hN : masks ≤ 400) : (depth = 0 → R = .error cur) ∧ ∃ As, Pend op arg (group depth) (-1) As (choice depth) (chain depth) ∧ 0 ≤ group depth ∧ choice depth ≤ many ∧ (depth ≠ 0 → ∀ arg1, LdR op arg arg1 many (group depth) As (choice depth) → PAt t n R op arg1 group choice chain hasE many (cur + 1) masks low high (depth - 1) (group depth) 0 ∧ group depth ≤ many) := by
  obtain ⟨U, C, K, h1, ⟨⟨As, a1, a2, a3, a4, a5⟩, h2⟩, h3⟩ := h
  rw [← h1] at a1 a2 a3 h2
  have hl := Pend.le a1
  have hc3 := a3.1
  refine ⟨fun e => ?_, As, a1, a2, hc3, fun e arg1 hL => ⟨?_, by omega⟩⟩
  · have : K = [] := by
      cases K with
      | nil => rfl
      | cons x K => have : depth = ((K.length + 1 : Nat) : Int) := h1; omega
    subst this
    rw [h3, SpN_close0 (s := (cur, masks, low, high)) hi hN hc]
  · cases K with
    | nil => exact absurd h1 e
    | cons x K =>
      obtain ⟨U2, C2⟩ := x
      have ed : depth = (K.length : Int) + 1 := h1
      rw [SpN_close (s := (cur, masks, low, high)) hi hN hc] at h3
      refine ⟨U2, C2, K, finU U C, by omega, ?_, ?_, HowOk.zero _, h3⟩
      · exact h2.congr (fun i i0 i1 => ⟨rfl, hL.1 i (Or.inl i1)⟩) (fun d _ _ => ⟨rfl, rfl, rfl, rfl⟩)
      · have r := hL.2.2 C (a3.congr (fun i i0 i1 => ⟨rfl, hL.1 i (Or.inr i0)⟩))
        exact r.eq (fun o o' => by rw [atr_asU, atr_fin, a4])
theorem PNo.fin_ (h : PNo t n R op arg group choice chain hasE many cur masks low high depth) (hi : cur = n) (hN : masks ≤ 400) : (depth ≠ 0 → R = .error cur) ∧ (depth = 0 → ∃ As C B, Pend op arg (group 0) (-1) As (choice 0) (chain 0) ∧ group 0 = 0 ∧ choice 0 ≤ many ∧ R = .ok ((cur, masks, low, high), B) ∧ RepA op arg (choice 0) many C ∧ ∀ arg1, LdR op arg arg1 many (group 0) As (choice 0) → RepA op arg1 0 many B) := by
  obtain ⟨U, C, K, h1, ⟨⟨As, a1, a2, a3, a4, a5⟩, h2⟩, h3⟩ := h
  rw [← h1] at a1 a2 a3 h2
  rw [SpN_fin (s := (cur, masks, low, high)) hi hN] at h3
  refine ⟨fun e => ?_, fun e => ?_⟩
  · rw [h3, if_neg (by omega)]
  · have : K = [] := by
      cases K with
      | nil => rfl
      | cons x K => have : depth = ((K.length + 1 : Nat) : Int) := h1; omega
    subst this
    rw [e] at a1 a2 a3 h2
    have h0 : group 0 = 0 := h2
    refine ⟨As, C, finU U C, a1, h0, a3.1, h3, a3, fun arg1 hL => ?_⟩
    have r := hL.2.2 C (a3.congr (fun i i0 i1 => ⟨rfl, hL.1 i (Or.inr i0)⟩))
    rw [h0] at r
    exact r.eq (fun o o' => by rw [atr_asU, atr_fin, a4])
theorem PNo.bar_ (h : PNo t n R op arg group choice chain hasE many cur masks low high depth) (hc : chr t n cur = 124) (hi : cur < n) (hN : masks ≤ 400) :
    (0 ≤ choice depth ∧ choice depth ≤ many) ∧ (many = choice depth → hasE depth = true → ∀ hasE1, hasE1 = up hasE depth true → PNo t n R op arg group choice chain hasE1 many (cur + 1) masks low high depth) ∧
    ∀ (op1 arg1 op2 arg2 : Int → Int) (hb : Bool), Ins (choice depth) many op1 op 1 → Ins (choice depth) many arg1 arg (many - choice depth + 2) → (SmT (many + 1) op2 op1 ∧ op2 (many + 1) = 2) → (SmT (many + 1) arg2 arg1 ∧ arg2 (many + 1) = chain depth) → (hb = true → hasE depth = true ∨ many = choice depth) → PNo t n R op2 arg2 group (up choice depth (many + 2)) (up chain depth (many + 1)) (up hasE depth hb) (many + 2) (cur + 1) masks low high depth := by
  obtain ⟨U, C, K, h1, ⟨⟨As, a1, a2, a3, a4, a5⟩, h2⟩, h3⟩ := h
  rw [← h1] at a1 a2 a3 a5 h2
  have hl := Pend.le a1
  have hc3 := a3.1
  rw [SpN_bar (s := (cur, masks, low, high)) hi hN hc] at h3
  refine ⟨⟨by omega, hc3⟩, fun e he hasE1 hE => ?_, fun op1 arg1 op2 arg2 hb i1 i2 l1 l2 hh => ?_⟩
  · subst hE
    refine ⟨some (finU U C), vEps, K, h1, ⟨⟨As, by rw [← h1]; exact a1, by rw [← h1]; exact a2, by rw [← h1, e]; exact rep_eps _, fun o o' => ?_, fun _ => ?_⟩, ?_⟩, h3⟩
    · show atr (finU U C) o o' = _
      rw [← e] at a3
      rw [atr_fin, rep_empty a3 o o', ← a4]
      cases o with
      | none =>
        cases o' with
        | none => rw [a5 he]; rfl
        | some q => exact Bool.or_false _
      | some p => cases o' <;> exact Bool.or_false _
    · show atr (finU U C) none none = true
      rw [atr_fin, a5 he]
      rfl
    · rw [← h1]
      exact h2.congr (fun i _ _ => ⟨rfl, rfl⟩) (fun d d0 d1 => ⟨rfl, rfl, rfl, up_ne _ _ (by omega)⟩)
  · have q : ∀ i, 0 ≤ i → i < choice depth → op2 i = op i ∧ arg2 i = arg i := fun i i0 j1 => by
      rw [l1.1 i i0 (by omega), l2.1 i i0 (by omega)]
      exact ⟨i1.1 i i0 j1, i2.1 i i0 j1⟩
    have q2 : ∀ i, choice depth ≤ i → i < many → op2 (i + 1) = op i ∧ arg2 (i + 1) = arg i := fun i i0 j1 => by
      rw [l1.1 (i + 1) (by omega) (by omega), l2.1 (i + 1) (by omega) (by omega)]
      exact ⟨i1.2.2 i i0 j1, i2.2.2 i i0 j1⟩
    have q3 : op2 (choice depth) = 1 ∧ arg2 (choice depth) = many - choice depth + 2 := by
      rw [l1.1 _ (by omega) (by omega), l2.1 _ (by omega) (by omega)]
      exact ⟨i1.2.1, i2.2.1⟩
    have hs := (a1.congr (fun i i0 i1 => q i (by omega) i1)).snoc (B := C) (m := many + 1) (by omega) q3.1 (by rw [q3.2]; omega) (a3.shift q2) l1.2 l2.2
    refine ⟨some (finU U C), vEps, K, h1, ⟨⟨As ++ [C], ?_, by rw [← h1]; exact a2, ?_, fun o o' => ?_, ?_⟩, ?_⟩, h3⟩
    · rw [← h1, up_same, up_same]
      rw [show many + 1 + 1 = many + 2 by omega] at hs
      exact hs
    · rw [← h1, up_same]; exact rep_eps _
    · show atr (finU U C) o o' = _
      rw [atr_fin, List.any_append, a4]
      simp
    · rw [← h1, up_same]
      intro hx
      show atr (finU U C) none none = true
      rw [atr_fin]
      rcases hh hx with e | e
      · rw [a5 e]; rfl
      · rw [← e] at a3
        rw [rep_empty a3 none none]
        exact Bool.or_true _
    · rw [← h1]
      exact h2.congr (fun i i0 i1 => q i i0 (by omega)) (fun d d0 d1 => ⟨rfl, up_ne _ _ (by omega), up_ne _ _ (by omega), up_ne _ _ (by omega)⟩)
theorem PAt.rep_ (h : PAt t n R op arg group choice chain hasE many cur masks low high depth atom how) (ha : 0 ≤ atom) {c : Int} (hc : chr t n cur = c) (hcc : c = 42 ∨ c = 43 ∨ c = 63) :
    (0 ≤ how ∧ how ≤ 63) ∧ (how = 42 ∨ how = c → PAt t n R op arg group choice chain hasE many (cur + 1) masks low high depth atom how) ∧
    (how ≠ 42 → how ≠ c → (c = 43 → ∀ op1 arg1, (SmT many op1 op ∧ op1 many = 1) → (SmT many arg1 arg ∧ arg1 many = -(many - atom)) → PAt t n R op1 arg1 group choice chain hasE (many + 1) (cur + 1) masks low high depth atom (if how = 0 then c else 42)) ∧
      (c = 63 → ∀ op1 arg1, Ins atom many op1 op 1 → Ins atom many arg1 arg (many - atom + 1) → PAt t n R op1 arg1 group choice chain hasE (many + 1) (cur + 1) masks low high depth atom (if how = 0 then c else 42)) ∧
      (c = 42 → ∀ op1 arg1 op2 arg2, Ins atom many op1 op 1 → Ins atom many arg1 arg (many - atom + 2) → (SmT (many + 1) op2 op1 ∧ op2 (many + 1) = 2) → (SmT (many + 1) arg2 arg1 ∧ arg2 (many + 1) = -(many - atom) - 1) → PAt t n R op2 arg2 group choice chain hasE (many + 2) (cur + 1) masks low high depth atom (if how = 0 then c else 42))) := by
  obtain ⟨U, C, K, a, h1, h2, h4, h5, h6⟩ := h
  have hp : isPost (chr t n cur) = true := by
    rw [hc]
    unfold isPost
    rcases hcc with e | e | e <;> rw [e] <;> rfl
  have h7 : R = SpA t n K U C (vRep c a) (cur + 1, masks, low, high) := by
    rw [h6, SpA_post (s := (cur, masks, low, high)) hp]
    show SpA t n K U C (vRep (chr t n cur) a) (cur + 1, masks, low, high) = _
    rw [hc]
  have hm := h4.1
  refine ⟨by have := h5.1; omega, fun hs => ?_, fun n1 n2 => ⟨fun e op1 arg1 l1 l2 => ?_, fun e op1 arg1 l1 l2 => ?_, fun e op1 arg1 op2 arg2 i1 i2 l1 l2 => ?_⟩⟩
  · have hk := how_skip h5 hcc hs
    exact ⟨U, C, K, vRep c a, h1, h2, h4.eq hk.1, hk.2, h7⟩
  · refine ⟨U, C, K, vRep c a, h1, h2.congr (fun i i0 j1 => ⟨l1.1 i i0 (by omega), l2.1 i i0 (by omega)⟩) (fun d _ _ => ⟨rfl, rfl, rfl, rfl⟩), ?_, how_next h5 hcc n1 n2, h7⟩
    rw [e]
    exact rep_plus (h4.congr (fun i i0 j1 => ⟨l1.1 i (by omega) j1, l2.1 i (by omega) j1⟩)) l1.2 (by rw [l2.2]; omega)
  · refine ⟨U, C, K, vRep c a, h1, h2.congr (fun i i0 j1 => ⟨l1.1 i i0 j1, l2.1 i i0 j1⟩) (fun d _ _ => ⟨rfl, rfl, rfl, rfl⟩), ?_, how_next h5 hcc n1 n2, h7⟩
    rw [e]
    exact rep_opt l1.2.1 (by rw [l2.2.1]; omega) (h4.shift (fun i i0 j1 => ⟨l1.2.2 i i0 j1, l2.2.2 i i0 j1⟩))
  · refine ⟨U, C, K, vRep c a, h1, h2.congr (fun i i0 j1 => ⟨by rw [l1.1 i i0 (by omega)]; exact i1.1 i i0 j1, by rw [l2.1 i i0 (by omega)]; exact i2.1 i i0 j1⟩) (fun d _ _ => ⟨rfl, rfl, rfl, rfl⟩), ?_, how_next h5 hcc n1 n2, h7⟩
    rw [e]
    have r := rep_star (op := op2) (arg := arg2) (s := atom) (m := many + 1) (A := a) (by rw [l1.1 _ ha (by omega)]; exact i1.2.1) (by rw [l2.1 _ ha (by omega), i2.2.1]; omega) (h4.shift (fun i i0 j1 => ⟨by rw [l1.1 _ (by omega) (by omega)]; exact i1.2.2 i i0 j1, by rw [l2.1 _ (by omega) (by omega)]; exact i2.2.2 i i0 j1⟩)) l1.2 (by rw [l2.2]; omega)
    rw [show many + 1 + 1 = many + 2 by omega] at r
    exact r
theorem PNo.rep0 (h : PNo t n R op arg group choice chain hasE many cur masks low high depth) (hc : isPost (chr t n cur) = true) (hi : cur < n) (hN : masks ≤ 400) : R = .error cur := by
  obtain ⟨U, C, K, h1, h2, h3⟩ := h
  have hcc := hc
  unfold isPost at hcc
  simp at hcc
  rw [h3, SpN_char (s := (cur, masks, low, high)) hi hN (show chr t n cur ≠ 40 by omega) (show chr t n cur ≠ 41 by omega) (show chr t n cur ≠ 124 by omega)]
  show (if masks = 400 then Except.error cur else (match sngl t n cur with | .error e => .error e | .ok (j, l, h) => SpA t n K U C (vLit masks) (j, masks + 1, up low masks l, up high masks h))) = _
  rw [sngl_post hc]
  split <;> rfl
theorem PNo.char_ (h : PNo t n R op arg group choice chain hasE many cur masks low high depth) (hi : cur < n) (hN : masks ≤ 400) (m0 : 0 ≤ many) (h1 : chr t n cur ≠ 40) (h2 : chr t n cur ≠ 41) (h3 : chr t n cur ≠ 124) :
    (masks = 400 → R = .error cur) ∧ (masks ≠ 400 → (∀ e, sngl t n cur = .error e → R = .error e) ∧ ∀ j l hh, sngl t n cur = .ok (j, l, hh) → ∀ op1 arg1, (SmT many op1 op ∧ op1 many = 0) → (SmT many arg1 arg ∧ arg1 many = masks) → PAt t n R op1 arg1 group choice chain hasE (many + 1) j (masks + 1) (up low masks l) (up high masks hh) depth many 0) := by
  obtain ⟨U, C, K, k1, k2, k3⟩ := h
  rw [SpN_char (s := (cur, masks, low, high)) hi hN h1 h2 h3] at k3
  have k3 : R = (if masks = 400 then Except.error cur else (match sngl t n cur with | .error e => .error e | .ok (j, l, h) => SpA t n K U C (vLit masks) (j, masks + 1, up low masks l, up high masks h))) := k3
  refine ⟨fun e => by rw [k3, if_pos e], fun e => ⟨fun e2 hs => ?_, fun j l hh hs op1 arg1 l1 l2 => ?_⟩⟩
  · rw [k3, if_neg e, hs]
  · rw [if_neg e, hs] at k3
    exact ⟨U, C, K, vLit masks, k1, k2.congr (fun i i0 i1 => ⟨l1.1 i i0 i1, l2.1 i i0 i1⟩) (fun d _ _ => ⟨rfl, rfl, rfl, rfl⟩), rep_lit l1.2 l2.2, HowOk.zero _, k3⟩
end TRANS
