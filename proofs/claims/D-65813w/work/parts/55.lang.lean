/-! plain: the language of a least automaton; the empty pattern; what was there before does not count -/
noncomputable def LgE (nul : Bool) (la : Int → Bool) (N : Int) (e : Ex) : List Int → Bool
  | [] => nul
  | b :: u => accS la N e (dq (fun s b => e.mv (128 * s + b)) 0 (b :: u))
theorem dq_e {e : Ex} (h : exOk e) : ∀ u, Wd u → 0 ≤ dq (fun s b => e.mv (128 * s + b)) 0 u ∧ dq (fun s b => e.mv (128 * s + b)) 0 u < e.cnt := fun u hu =>
  dq_r (lo := 0) (hi := e.cnt) (fun s b s0 s1 b0 b1 => by have := h.2.at s0 s1 b0 b1; exact ⟨by omega, this.2⟩) (Int.le_refl _) (by have := h.1.1; omega) u hu
theorem side_of_min {nul : Bool} {la : Int → Bool} {N : Int} {e : Ex} {table tells : Int → Int} {states strt : Int} (he : exOk e) (h : MinOk e.cnt e.mv (accS la N e) table tells states strt) : SideO nul table tells states strt (LgE nul la N e) := by
  obtain ⟨h2, cls, ⟨c0, c1, c2⟩, c3, c4, c5, c6⟩ := h
  have hz : 0 < e.cnt := by have := he.1.1; omega
  have hlv : ∀ s b, LvS e.cnt e.mv (accS la N e) s → 0 ≤ b → b < 128 → Liv e.mv (accS la N e) (e.mv (128 * s + b)) → LvS e.cnt e.mv (accS la N e) (e.mv (128 * s + b)) := by
    intro s b hs b0 b1 hl
    have := he.2.at hs.1 hs.2.1 b0 b1
    exact ⟨by omega, this.2, hl⟩
  have hmv : ∀ s b, LvS e.cnt e.mv (accS la N e) s → 0 ≤ b → b < 128 → -1 ≤ table (128 * cls s + b) ∧ table (128 * cls s + b) < states := by
    intro s b hs b0 b1
    by_cases hl : Liv e.mv (accS la N e) (e.mv (128 * s + b))
    · rw [((c4 s hs).1 b b0 b1).1 hl]
      have := c1 _ (hlv s b hs b0 b1 hl)
      omega
    · rw [((c4 s hs).1 b b0 b1).2 hl]
      omega
  have key : ∀ u, Wd u → (Liv e.mv (accS la N e) (dq (fun s b => e.mv (128 * s + b)) 0 u) → dq (movQ table) strt u = cls (dq (fun s b => e.mv (128 * s + b)) 0 u)) ∧ (¬ Liv e.mv (accS la N e) (dq (fun s b => e.mv (128 * s + b)) 0 u) → dq (movQ table) strt u = -1) := by
    intro u
    induction u with
    | nil => intro _; exact ⟨c5, c6⟩
    | cons b u ih =>
      intro hu
      have i := ih hu.cons.2
      have hr := dq_e he u hu.cons.2
      show (Liv e.mv (accS la N e) (e.mv (128 * dq (fun s b => e.mv (128 * s + b)) 0 u + b)) → movQ table (dq (movQ table) strt u) b = cls (e.mv (128 * dq (fun s b => e.mv (128 * s + b)) 0 u + b))) ∧ (¬ Liv e.mv (accS la N e) (e.mv (128 * dq (fun s b => e.mv (128 * s + b)) 0 u + b)) → movQ table (dq (movQ table) strt u) b = -1)
      generalize dq (fun s b => e.mv (128 * s + b)) 0 u = t at i hr
      by_cases hl : Liv e.mv (accS la N e) t
      · have ht : LvS e.cnt e.mv (accS la N e) t := ⟨hr.1, hr.2, hl⟩
        have hc := c1 t ht
        rw [i.1 hl]
        unfold movQ
        rw [if_neg (by omega)]
        exact (c4 t ht).1 b hu.cons.1.1 hu.cons.1.2
      · rw [i.2 hl]
        exact ⟨fun h => absurd (Liv.step hu.cons.1.1 hu.cons.1.2 h) hl, fun _ => rfl⟩
  refine ⟨⟨c0, h2⟩, ?_, fun s b s0 s1 b0 b1 => ?_, fun s s0 s1 => ?_, rfl, fun b u hu => ?_⟩
  · by_cases hl : Liv e.mv (accS la N e) 0
    · rw [c5 hl]
      have := c1 0 ⟨Int.le_refl _, hz, hl⟩
      omega
    · rw [c6 hl]
      omega
  · obtain ⟨t, ht, rfl⟩ := c2 s s0 s1
    exact hmv t b ht b0 b1
  · obtain ⟨t, ht, rfl⟩ := c2 s s0 s1
    rw [(c4 t ht).2]
    have := bacc_r (accS la N e t)
    omega
  · have hk := key (b :: u) hu
    have hr := dq_e he (b :: u) hu
    show accS la N e (dq (fun s b => e.mv (128 * s + b)) 0 (b :: u)) = hasQ nul tells (dq (movQ table) strt (b :: u)) false
    generalize dq (fun s b => e.mv (128 * s + b)) 0 (b :: u) = t at hk hr
    by_cases hl : Liv e.mv (accS la N e) t
    · have ht : LvS e.cnt e.mv (accS la N e) t := ⟨hr.1, hr.2, hl⟩
      have hc := c1 t ht
      rw [hk.1 hl]
      show _ = (decide (0 ≤ cls t) && decide (0 ≤ tells (cls t)))
      rw [(c4 t ht).2, decide_eq_true hc.1]
      unfold bacc
      cases accS la N e t <;> rfl
    · rw [hk.2 hl]
      cases ha : accS la N e t with
      | false => rfl
      | true => exact absurd (Liv.base ha) hl
/-- the empty pattern -/
theorem prsT_0 (t : Int → Int) (lo hi : Int → Int64) : prsT t 0 lo hi = .ok ((0, 0, lo, hi), vEps) := by
  have hc : chr t 0 0 = -1 := rfl
  unfold prsT
  have e : prs t 0 (6 * (0 : Int).toNat + 6) 0 0 (0, 0, lo, hi) vEps = .ok ((0, 0, lo, hi), vEps) := by
    show prs t 0 6 0 0 (0, 0, lo, hi) vEps = _
    unfold prs
    have e2 : prs t 0 5 2 0 (0, 0, lo, hi) vEps = .ok ((0, 0, lo, hi), vEps) := by
      unfold prs
      show (if endsB (chr t 0 0) = true then _ else _) = _
      rw [hc, if_pos (by decide)]
    rw [e2]
    show prs t 0 5 1 0 (0, 0, lo, hi) vEps = _
    unfold prs
    show (if chr t 0 0 = 124 then _ else _) = _
    rw [hc, if_neg (by decide)]
  rw [e]
  show (if 0 ≤ chr t 0 0 then _ else _) = _
  rw [hc, if_neg (by decide)]
theorem tgt_eps (tk : Int → Int → Bool) (S : Int → Int → Bool) (s b q : Int) : tgt vEps.fi vEps.fo tk S s b q = false := by
  unfold tgt
  by_cases h : s = 0
  · rw [if_pos h]; rfl
  · rw [if_neg h]
    have : tr (∃ p, 0 ≤ p ∧ p < 448 ∧ S s p = true ∧ vEps.fo p q = true) = false := by
      cases e : tr (∃ p, 0 ≤ p ∧ p < 448 ∧ S s p = true ∧ vEps.fo p q = true) with
      | false => rfl
      | true =>
        obtain ⟨p, _, _, _, h4⟩ := tr_iff.mp e
        cases h4
    rw [this]; rfl
theorem exRun_eps2 {tg : (Int → Int → Bool) → Int → Int → Int → Bool} (htg : ∀ S s b q, tg S s b q = false) : ∀ (f : Nat) (j : Int) (S : Int → Int → Bool) (mv : Int → Int), (∀ q, S 1 q = false) → 0 ≤ j → j ≤ 256 → 256 < j + f → (∀ i, 0 ≤ i → i < j → mv i = 1) → ∃ mv', exRun tg f j (2, S, mv) = some (2, S, mv') ∧ ∀ i, 0 ≤ i → i < 256 → mv' i = 1
  | 0, j, S, mv, _, _, h1, h2, _ => by omega
  | f + 1, j, S, mv, hS, j0, j1, j2, hm => by
    by_cases e : j < 256
    · have hd : Dis (2, S, mv) := fun m n m0 m1 n0 n1 _ => by have m1 : m < 2 := m1; have n1 : n < 2 := n1; omega
      have hs : exStep tg j (2, S, mv) = some (2, S, up mv j 1) := exStep_old (m := 1) hd ⟨by decide, by show (1 : Int) < 2; decide, fun p _ _ => by show S 1 p = tg S (j / 128) (j % 128) p; rw [hS, htg]⟩
      rw [exRun_some (by show j < 128 * 2; omega) hs]
      exact exRun_eps2 htg f (j + 1) S _ hS (by omega) (by omega) (by omega) (fun i i0 i1 => by by_cases e2 : i = j; (rw [e2, up_same]); (rw [up_ne _ _ e2]; exact hm i i0 (by omega)))
    · refine ⟨mv, ?_, fun i i0 i1 => hm i i0 (by omega)⟩
      rw [exRun, if_neg (by show ¬ j < 128 * 2; omega)]
theorem exRun_eps {tg : (Int → Int → Bool) → Int → Int → Int → Bool} (htg : ∀ S s b q, tg S s b q = false) : ∃ e, exRun tg 51329 0 (1, (fun _ _ => false), (fun _ => 0)) = some e ∧ e.cnt = 2 := by
  have hs : exStep tg 0 (1, (fun _ _ => false), (fun _ => 0)) = some (2, _, _) := exStep_new (fun m hm => by have h1 := hm.1; have h2 : m < 1 := hm.2.1; omega) (by show ¬ (400 : Int) < 1; decide)
  obtain ⟨mv', h1, h2⟩ := exRun_eps2 htg 51328 (0 + 1) (up (fun _ _ => false) 1 (tg (fun _ _ => false) (0 / 128) (0 % 128))) (up (fun _ => 0) 0 1) (fun q => by rw [up_same, htg]) (by decide) (by decide) (by decide) (fun i i0 i1 => by rw [show i = 0 by omega, up_same])
  refine ⟨(2, up (fun _ _ => false) 1 (tg (fun _ _ => false) (0 / 128) (0 % 128)), mv'), ?_, rfl⟩
  rw [show (51329 : Nat) = 51328 + 1 from rfl, exRun_some (by show (0 : Int) < 128 * 1; decide) hs]
  exact h1
theorem accS_0 (la : Int → Bool) (e : Ex) (s : Int) : accS la 0 e s = false := by
  unfold accS
  rw [anyB_0, Bool.and_false]
theorem mk_eps {tk : Int → Int → Bool} {la : Int → Bool} {r : Bool} {table tells : Int → Int} {states strt : Int} (h : MkP (tgt vEps.fi vEps.fo tk) la 0 r table tells states strt) : r = true := by
  rcases h with ⟨h, -⟩ | ⟨h, h2 | ⟨e, h2, h3, g, h4, h5⟩⟩
  · exact h
  · obtain ⟨e, h3, -⟩ := exRun_eps (tgt_eps tk)
    rw [h2] at h3; cases h3
  · obtain ⟨-, -, w, -, hw⟩ := h4 0 (by decide) (by decide)
    rw [accS_0] at hw; cases hw
/-- what was there before does not count -/
def StR (s s' : St) : Prop := s.i = s'.i ∧ s.N = s'.N ∧ ∀ p, 0 ≤ p → p < s.N → s.lo p = s'.lo p ∧ s.hi p = s'.hi p
def ResR : Except Int (St × PV) → Except Int (St × PV) → Prop
  | .error e, .error e' => e = e'
  | .ok (s, B), .ok (s', B') => StR s s' ∧ B = B'
  | _, _ => False
theorem prs_ind {t : Int → Int} {n : Int} : ∀ (f m : Nat) (d : Int) (s s' : St) (A : PV), StR s s' → ResR (prs t n f m d s A) (prs t n f m d s' A) := by
  intro f
  induction f with
  | zero => intro m d s s' A h; exact h.1
  | succ f ih =>
    intro m d s s' A h
    match m with
    | 0 =>
      unfold prs
      have k := ih 2 d s s' vEps h
      revert k
      generalize prs t n f 2 d s vEps = r
      generalize prs t n f 2 d s' vEps = r'
      intro k
      match r, r', k with
      | .error e, .error e', k => exact k
      | .ok (s1, B), .ok (s2, B2), k =>
        obtain ⟨k1, rfl⟩ := k
        exact ih 1 d s1 s2 B k1
    | 1 =>
      unfold prs
      rw [← h.1]
      split
      · have k := ih 2 d (s.i + 1, s.2) (s.i + 1, s'.2) vEps ⟨rfl, h.2⟩
        revert k
        generalize prs t n f 2 d (s.i + 1, s.2) vEps = r
        generalize prs t n f 2 d (s.i + 1, s'.2) vEps = r'
        intro k
        match r, r', k with
        | .error e, .error e', k => exact k
        | .ok (s1, B), .ok (s2, B2), k =>
          obtain ⟨k1, rfl⟩ := k
          exact ih 1 d s1 s2 _ k1
      · exact ⟨h, rfl⟩
    | 2 =>
      unfold prs
      rw [← h.1]
      split
      · exact ⟨h, rfl⟩
      · have k := ih 3 d s s' vEps h
        revert k
        generalize prs t n f 3 d s vEps = r
        generalize prs t n f 3 d s' vEps = r'
        intro k
        match r, r', k with
        | .error e, .error e', k => exact k
        | .ok (s1, B), .ok (s2, B2), k =>
          obtain ⟨k1, rfl⟩ := k
          exact ih 2 d s1 s2 _ k1
    | 3 =>
      unfold prs
      have k := ih 4 d s s' vEps h
      revert k
      generalize prs t n f 4 d s vEps = r
      generalize prs t n f 4 d s' vEps = r'
      intro k
      match r, r', k with
      | .error e, .error e', k => exact k
      | .ok (s1, B), .ok (s2, B2), k =>
        obtain ⟨k1, rfl⟩ := k
        have e1 : s2.i = s1.i := k1.1.symm
        show ResR (.ok (((post t n ((n - s1.i).toNat + 1) s1.i B).1, s1.2), (post t n ((n - s1.i).toNat + 1) s1.i B).2)) (.ok (((post t n ((n - s2.i).toNat + 1) s2.i B).1, s2.2), (post t n ((n - s2.i).toNat + 1) s2.i B).2))
        rw [e1]
        exact ⟨⟨rfl, k1.2⟩, rfl⟩
    | m + 4 =>
      unfold prs
      rw [← h.1]
      split
      · split
        · exact rfl
        · have k := ih 0 (d + 1) (s.i + 1, s.2) (s.i + 1, s'.2) vEps ⟨rfl, h.2⟩
          revert k
          generalize prs t n f 0 (d + 1) (s.i + 1, s.2) vEps = r
          generalize prs t n f 0 (d + 1) (s.i + 1, s'.2) vEps = r'
          intro k
          match r, r', k with
          | .error e, .error e', k => exact k
          | .ok (s1, B), .ok (s2, B2), k =>
            obtain ⟨k1, rfl⟩ := k
            have e1 : s2.i = s1.i := k1.1.symm
            show ResR (if chr t n s1.i = 41 then _ else _) (if chr t n s2.i = 41 then _ else _)
            rw [e1]
            split
            · exact ⟨⟨rfl, k1.2⟩, rfl⟩
            · exact rfl
      · rw [← h.2.1]
        split
        · exact rfl
        · generalize sngl t n s.i = r
          match r with
          | .error e => exact rfl
          | .ok (j, l, hh) =>
            refine ⟨⟨rfl, rfl, fun p p0 p1 => ?_⟩, rfl⟩
            have p1 : p < s.N + 1 := p1
            show up s.lo s.N l p = up s'.lo s.N l p ∧ up s.hi s.N hh p = up s'.hi s.N hh p
            by_cases e : p = s.N
            · rw [e, up_same, up_same, up_same, up_same]; exact ⟨rfl, rfl⟩
            · rw [up_ne _ _ e, up_ne _ _ e, up_ne _ _ e, up_ne _ _ e]
              exact h.2.2 p p0 (by omega)
theorem prsT_ind {t : Int → Int} {n : Int} {lo hi lo' hi' : Int → Int64} : ResR (prsT t n lo hi) (prsT t n lo' hi') := by
  unfold prsT
  have k := prs_ind (t := t) (n := n) (6 * n.toNat + 6) 0 0 (0, 0, lo, hi) (0, 0, lo', hi') vEps ⟨rfl, rfl, fun p p0 p1 => by have p1 : p < 0 := p1; omega⟩
  revert k
  generalize prs t n (6 * n.toNat + 6) 0 0 (0, 0, lo, hi) vEps = r
  generalize prs t n (6 * n.toNat + 6) 0 0 (0, 0, lo', hi') vEps = r'
  intro k
  match r, r', k with
  | .error e, .error e', k => exact k
  | .ok (s1, B), .ok (s2, B2), k =>
    obtain ⟨k1, rfl⟩ := k
    have e1 : s2.i = s1.i := k1.1.symm
    show ResR (if 0 ≤ chr t n s1.i then _ else _) (if 0 ≤ chr t n s2.i then _ else _)
    rw [e1]
    split
    · exact rfl
    · exact ⟨k1, rfl⟩
theorem tgt_ind {fi : Int → Bool} {fo tk tk' : Int → Int → Bool} (h1 : ∀ q, fi q = true → tk q = tk' q) (h2 : ∀ p q, fo p q = true → tk q = tk' q) : tgt fi fo tk = tgt fi fo tk' := by
  funext S s b q
  unfold tgt
  by_cases e : s = 0
  · rw [if_pos e]
    cases hq : fi q with
    | false => rfl
    | true => rw [h1 q hq]
  · rw [if_neg e]
    cases hq : tr (∃ p, 0 ≤ p ∧ p < 448 ∧ S s p = true ∧ fo p q = true) with
    | false => rfl
    | true =>
      obtain ⟨p, _, _, _, h⟩ := tr_iff.mp hq
      rw [h2 p q h]
/-- the pattern of a text: nothing else counts -/
def pat0 (t : Int → Int) (n : Int) : Except Int (St × PV) := prsT t n (fun _ => 0) (fun _ => 0)
noncomputable def tgB (s1 : St) (B : PV) := tgt B.fi B.fo (tkB s1.lo s1.hi)
theorem pat_err {t : Int → Int} {n e : Int} {lo hi : Int → Int64} (h : prsT t n lo hi = .error e) : pat0 t n = .error e := by
  have k := prsT_ind (t := t) (n := n) (lo := lo) (hi := hi) (lo' := fun _ => 0) (hi' := fun _ => 0)
  rw [h] at k
  unfold pat0
  revert k
  generalize prsT t n (fun _ => 0) (fun _ => 0) = r
  intro k
  match r, k with
  | .error e', k => rw [show e = e' from k]
theorem prsT_r0 {t : Int → Int} {n : Int} {lo hi : Int → Int64} {s1 : St} {B : PV} (hn : 0 ≤ n) (h : prsT t n lo hi = .ok (s1, B)) : (∀ p, B.fi p = true → 0 ≤ p) ∧ ∀ p q, B.fo p q = true → 0 ≤ q := by
  unfold prsT at h
  split at h
  · cases h
  · next s2 B2 q =>
    split at h
    · cases h
    · cases h
      have hs := prs_supp _ _ _ _ _ _ _ 0 (show ((0 : Int), (0 : Int), lo, hi).1 ≤ n from hn) (show (0 : Int) ≤ 400 by decide) (Int.le_refl _) (supp_eps _ _) q
      exact ⟨fun p hp => (hs.1 p hp).1, fun p q hq => (hs.2.2 p q hq).2.1⟩
theorem pat_ok {t : Int → Int} {n : Int} {lo hi : Int → Int64} {s1 : St} {B : PV} (hn : 0 ≤ n) (h : prsT t n lo hi = .ok (s1, B)) : ∃ s2, pat0 t n = .ok (s2, B) ∧ s1.N = s2.N ∧ tgB s1 B = tgB s2 B := by
  have k := prsT_ind (t := t) (n := n) (lo := lo) (hi := hi) (lo' := fun _ => 0) (hi' := fun _ => 0)
  have hr := prsT_r hn h
  have hs := prsT_r0 hn h
  rw [h] at k
  unfold pat0
  revert k
  generalize prsT t n (fun _ => 0) (fun _ => 0) = r
  intro k
  match r, k with
  | .ok (s2, B2), k =>
    obtain ⟨k1, rfl⟩ := k
    refine ⟨s2, rfl, k1.2.1, tgt_ind (fun q hq => ?_) (fun p q hq => ?_)⟩
    · have := k1.2.2 q (hs.1 q hq) (hr.2.2.1 q hq)
      funext b
      unfold tkB
      rw [this.1, this.2]
    · have := k1.2.2 q (hs.2 p q hq) (hr.2.2.2 p q hq)
      funext b
      unfold tkB
      rw [this.1, this.2]
