/-! Automaton: least -/
def LvS (cnt : Int) (mv : Int → Int) (acc : Int → Bool) (s : Int) : Prop := 0 ≤ s ∧ s < cnt ∧ Liv mv acc s
/-- the least automaton -/
def MinOk (cnt : Int) (mv : Int → Int) (acc : Int → Bool) (table tells : Int → Int) (states strt : Int) : Prop :=
  states ≤ 200 ∧ ∃ cls : Int → Int, Onto (LvS cnt mv acc) cls states ∧ (∀ s t, LvS cnt mv acc s → LvS cnt mv acc t → (cls s = cls t ↔ Eqv mv acc s t)) ∧
  (∀ s, LvS cnt mv acc s → (∀ b, 0 ≤ b → b < 128 → (Liv mv acc (mv (128 * s + b)) → table (128 * cls s + b) = cls (mv (128 * s + b))) ∧ (¬ Liv mv acc (mv (128 * s + b)) → table (128 * cls s + b) = -1)) ∧ tells (cls s) = bacc (acc s)) ∧ (Liv mv acc 0 → strt = cls 0) ∧ (¬ Liv mv acc 0 → strt = -1)
def MinNo (cnt : Int) (mv : Int → Int) (acc : Int → Bool) : Prop := ∃ g : Int → Int, (∀ i, 0 ≤ i → i < 201 → LvS cnt mv acc (g i)) ∧ ∀ i j, 0 ≤ i → i < 201 → 0 ≤ j → j < 201 → Eqv mv acc (g i) (g j) → i = j
def RngI (cnt : Int) (s : Int) : Prop := 0 ≤ s ∧ s < cnt
def LstI (cnt : Int) (mv : Int → Int) (acc : Int → Bool) (lives : Int → Bool) (groups : Int → Int) (many : Int) : Prop :=
  (∀ s, 0 ≤ s → s < cnt → 0 ≤ groups s ∧ groups s ≤ 401) ∧ (∀ s t, 0 ≤ s → s < cnt → 0 ≤ t → t < cnt → Eqv mv acc s t → groups s = groups t) ∧ (∀ s t, 0 ≤ s → s < cnt → 0 ≤ t → t < cnt → groups s = groups t → lives s = lives t ∧ acc s = acc t) ∧ (many = 0 ∨ Onto (fun s => 0 ≤ s ∧ s < cnt) groups many) ∧ 0 ≤ many ∧ many ≤ cnt
theorem LstI.next {cnt : Int} {mv : Int → Int} {acc lives : Int → Bool} {groups news : Int → Int} {many r : Int} (h : LstI cnt mv acc lives groups many) (hc1 : 1 ≤ cnt) (hc2 : cnt ≤ 401) (hmv : MvOk cnt mv) (hr : r ≤ cnt) (ho : Onto (fun s => 0 ≤ s ∧ s < cnt) news r) (ha : ∀ t u, 0 ≤ t → t < cnt → 0 ≤ u → u < cnt → (news t = news u ↔ Alk groups mv t u)) :
    LstI cnt mv acc lives (upTo groups 0 cnt news) r ∧ many ≤ r ∧ (many = r → ∀ s t, 0 ≤ s → s < cnt → 0 ≤ t → t < cnt → (upTo groups 0 cnt news s = upTo groups 0 cnt news t ↔ Eqv mv acc s t)) := by
  obtain ⟨h1, h2, h3, h4, h5, h6⟩ := h
  have e : ∀ s, 0 ≤ s → s < cnt → upTo groups 0 cnt news s = news s := fun s s0 s1 => upTo_at0 _ _ s0 s1
  have sound : ∀ s t, 0 ≤ s → s < cnt → 0 ≤ t → t < cnt → Eqv mv acc s t → news s = news t := by
    intro s t s0 s1 t0 t1 he
    refine (ha s t s0 s1 t0 t1).mpr ⟨h2 s t s0 s1 t0 t1 he, fun b b0 b1 => ?_⟩
    have m1 := hmv.at s0 s1 b0 b1
    have m2 := hmv.at t0 t1 b0 b1
    exact h2 _ _ (by omega) m1.2 (by omega) m2.2 (he.step b0 b1)
  have rp : 1 ≤ r := by
    have := ho.2.1 0 ⟨by omega, by omega⟩
    omega
  have cmp : many ≤ r ∧ (many = r → ∀ s t, (0 ≤ s ∧ s < cnt) → (0 ≤ t ∧ t < cnt) → groups s = groups t → news s = news t) := by
    rcases h4 with h4 | h4
    · exact ⟨by omega, fun q => by omega⟩
    · exact onto_le h4 ho (fun s t hs ht he => ((ha s t hs.1 hs.2 ht.1 ht.2).mp he).1)
  refine ⟨⟨fun s s0 s1 => ?_, fun s t s0 s1 t0 t1 he => ?_, fun s t s0 s1 t0 t1 he => ?_, Or.inr ⟨ho.1, fun s hs => ?_, fun y y0 y1 => ?_⟩, by omega, hr⟩, cmp.1, fun em s t s0 s1 t0 t1 => ?_⟩
  · rw [e s s0 s1]; have := ho.2.1 s ⟨s0, s1⟩; omega
  · rw [e s s0 s1, e t t0 t1]; exact sound s t s0 s1 t0 t1 he
  · rw [e s s0 s1, e t t0 t1] at he
    exact h3 s t s0 s1 t0 t1 ((ha s t s0 s1 t0 t1).mp he).1
  · rw [e s hs.1 hs.2]; exact ho.2.1 s hs
  · obtain ⟨s, hs, he⟩ := ho.2.2 y y0 y1
    exact ⟨s, hs, by rw [e s hs.1 hs.2]; exact he⟩
  · rw [e s s0 s1, e t t0 t1]
    refine ⟨fun he w hw => ?_, sound s t s0 s1 t0 t1⟩
    refine eqv_of (I := fun s t => groups s = groups t) hmv (fun s t s0 s1 t0 t1 hi => (h3 s t s0 s1 t0 t1 hi).2) (fun s t s0 s1 t0 t1 hi b b0 b1 => ?_) w s t s0 s1 t0 t1 ((ha s t s0 s1 t0 t1).mp he).1 hw
    exact ((ha s t s0 s1 t0 t1).mp (cmp.2 em s t ⟨s0, s1⟩ ⟨t0, t1⟩ hi)).2 b b0 b1
theorem bacc_accB {accepts : Int → Int} {s : Int} (h : -1 ≤ accepts s ∧ accepts s ≤ 0) : bacc (accB accepts s) = accepts s := by
  unfold accB
  by_cases e : 0 ≤ accepts s
  · rw [decide_eq_true e]; show (0 : Int) = _; omega
  · rw [decide_eq_false e]; show (-1 : Int) = _; omega
theorem tr_live {p q : Prop} (h : p ↔ q) : tr p = tr q := Bool.eq_iff_iff.mpr (by rw [tr_iff, tr_iff]; exact h)
theorem min_of_num {cnt : Int} {mv : Int → Int} {lives : Int → Bool} {groups accepts table tells : Int → Int} {states strt : Int} (hac : ∀ s, 0 ≤ s → s < cnt → -1 ≤ accepts s ∧ accepts s ≤ 0) (hc1 : 1 ≤ cnt) (hmv : MvOk cnt mv) (hl : ∀ s, 0 ≤ s → s < cnt → lives s = tr (Liv mv (accB accepts) s)) (hg : ∀ s t, 0 ≤ s → s < cnt → 0 ≤ t → t < cnt → (groups s = groups t ↔ Eqv mv (accB accepts) s t)) (h : NumOk cnt mv lives groups accepts table tells states strt) : MinOk cnt mv (accB accepts) table tells states strt := by
  obtain ⟨h1, cls, h2, h3, h4, h5⟩ := h
  have hi : ∀ s, (0 ≤ s ∧ s < cnt ∧ lives s = true) ↔ LvS cnt mv (accB accepts) s := by
    intro s
    constructor
    · rintro ⟨s0, s1, q⟩; rw [hl s s0 s1] at q; exact ⟨s0, s1, tr_iff.mp q⟩
    · rintro ⟨s0, s1, q⟩; exact ⟨s0, s1, by rw [hl s s0 s1]; exact tr_iff.mpr q⟩
  refine ⟨h1, cls, ⟨h2.1, fun s hs => h2.2.1 s ((hi s).mpr hs), fun y y0 y1 => ?_⟩, fun s t hs ht => ?_, fun s hs => ?_, fun q => ?_, fun q => ?_⟩
  · obtain ⟨s, hs, he⟩ := h2.2.2 y y0 y1
    exact ⟨s, (hi s).mp hs, he⟩
  · rw [h3 s t ((hi s).mpr hs) ((hi t).mpr ht)]
    exact hg s t hs.1 hs.2.1 ht.1 ht.2.1
  · have := h4 s ((hi s).mpr hs)
    refine ⟨fun b b0 b1 => ?_, by rw [this.2, bacc_accB (hac s hs.1 hs.2.1)]⟩
    have m := hmv.at hs.1 hs.2.1 b0 b1
    have hl2 := hl _ (by omega) m.2
    have ht := this.1 b b0 b1
    constructor
    · intro q; rw [if_pos (by rw [hl2]; exact tr_iff.mpr q)] at ht; exact ht
    · intro q; rw [if_neg (by rw [hl2]; exact fun e => q (tr_iff.mp e))] at ht; exact ht
  · rw [if_pos (by rw [hl 0 (by omega) (by omega)]; exact tr_iff.mpr q)] at h5; exact h5
  · rw [if_neg (by rw [hl 0 (by omega) (by omega)]; exact fun e => q (tr_iff.mp e))] at h5; exact h5
theorem no_of_num {cnt : Int} {mv : Int → Int} {lives acc : Int → Bool} {groups : Int → Int} (hl : ∀ s, 0 ≤ s → s < cnt → lives s = tr (Liv mv acc s)) (hg : ∀ s t, 0 ≤ s → s < cnt → 0 ≤ t → t < cnt → (groups s = groups t ↔ Eqv mv acc s t)) (h : NumNo cnt lives groups) : MinNo cnt mv acc := by
  obtain ⟨g, h1, h2⟩ := h
  refine ⟨g, fun i i0 i1 => ?_, fun i j i0 i1 j0 j1 he => ?_⟩
  · have := h1 i i0 i1
    exact ⟨this.1, this.2.1, tr_iff.mp (by rw [← hl _ this.1 this.2.1]; exact this.2.2)⟩
  · have a1 := h1 i i0 i1
    have a2 := h1 j j0 j1
    exact h2 i j i0 i1 j0 j1 ((hg _ _ a1.1 a1.2.1 a2.1 a2.2.1).mpr he)
theorem cA_least {Z : Zk} {wr : va_W} {a : Nat → Nat} {pa : Nat} {sets : Int → Int64} {moves : Int → Int} {accepts : Int → Int} {heads : Int → Int} {chain : Int → Int} {groups : Int → Int} {news : Int → Int} {lives : Int → Bool} {cnt : Int} {table : Int → Int} {tells : Int → Int} {states : Int} {strt : Int} (hc1 : 1 ≤ cnt) (hc2 : cnt ≤ 401) (hmv : MvOk cnt moves) (hac : ∀ s, 0 ≤ s → s < cnt → -1 ≤ accepts s ∧ accepts s ≤ 0) :
    Ct Z yX5_least hX5_least 3 80 [.ref (a 0)] (wA Z a pa sets moves accepts heads chain groups news lives cnt table tells states strt ++ wr) 0 0 (Rz fun r w => ∃ lives1 groups1 heads1 chain1 news1 table1 tells1 states1 strt1, w = wA Z a pa sets moves accepts heads1 chain1 groups1 news1 lives1 cnt table1 tells1 states1 strt1 ++ wr ∧ ((r = true ∧ MinOk cnt moves (accB accepts) table1 tells1 states1 strt1) ∨ (r = false ∧ MinNo cnt moves (accB accepts)))) := by
  refine Ct.of RX5 "least" (by decide +kernel) rfl rfl hkX5_least (Nat.le_of_ble_eq_true rfl) (fun X hZ C => ?_)
  subst hZ
  -- the rounds
  have rnd : ∀ (n : Nat) (many : Int) (lives1 : Int → Bool) (groups1 news1 heads1 chain1 : Int → Int), (∀ s, 0 ≤ s → s < cnt → lives1 s = tr (Liv moves (accB accepts) s)) → LstI cnt moves (accB accepts) lives1 groups1 many → (cnt - many).toNat < n → G X 3 0 0 (wA X.Z a pa sets moves accepts heads1 chain1 groups1 news1 lives1 cnt table tells states strt ++ wr) 49 [(0, .ref (a 0)), (1, vI many)] [] := by
    intro n
    induction n with
    | zero => intro many lives1 groups1 news1 heads1 chain1 _ _ h; omega
    | succ n ihn =>
      intro many lives1 groups1 news1 heads1 chain1 hlv hI hn
      have hm5 := hI.2.2.2.2
      refine g_iload_n C dX5_least_49 rfl ?_
      refine g_istore_n C dX5_least_50 (by decide) ?_
      refine g_aload_n C dX5_least_51 rfl ?_
      refine g_cVWi C [] _ 0 cal_X5_114 (cA_split hc1 hc2 hmv hI.1) rfl rfl rfl rfl (Nat.le_of_ble_eq_true rfl) (room_b rfl) dX5_least_52 (fun r52 w hw52 => ?_)
      obtain ⟨news2, heads2, chain2, rfl, hr, ho, ha⟩ := hw52
      have hN := hI.next hc1 hc2 hmv hr ho ha
      have hro := ho.1
      refine g_istore_n C dX5_least_55 (by decide) ?_
      refine g_iload_n C dX5_least_56 rfl ?_
      refine g_iload_n C dX5_least_57 rfl ?_
      refine g_icmp_ne C 49 dX5_least_58 (by decide) (by omega) (fun h58 => ?_) (fun h58 => ?_)
      · exact g_locR rfl (ihn r52 lives1 _ news2 heads2 chain2 hlv hN.1 (by have := hN.2.1; omega))
      · have hx := hN.2.2 h58.symm
        refine g_aload_n C dX5_least_61 rfl ?_
        refine g_cVWz C [] _ 0 cal_X5_117 (cA_number hc1 hc2 hmv (fun s s0 s1 => by rw [upTo_at0 _ _ s0 s1]; have := ho.2.1 s ⟨s0, s1⟩; omega) hac (fun s t s0 s1 t0 t1 he => by have q := (hx s t s0 s1 t0 t1).mp he; exact ⟨by rw [hlv s s0 s1, hlv t t0 t1]; exact tr_live q.liv, by rw [← bacc_accB (hac s s0 s1), ← bacc_accB (hac t t0 t1), q.acc], fun b b0 b1 => (hx _ _ (by have := hmv.at s0 s1 b0 b1; omega) (hmv.at s0 s1 b0 b1).2 (by have := hmv.at t0 t1 b0 b1; omega) (hmv.at t0 t1 b0 b1).2).mpr (q.step b0 b1)⟩)) rfl rfl rfl rfl (Nat.le_of_ble_eq_true rfl) (room_b rfl) dX5_least_62 (fun r62 w hw62 => ?_)
        obtain ⟨news3, table3, tells3, states3, strt3, rfl, hres⟩ := hw62
        exact g_zret C _ rfl rfl ⟨_, rfl, _, _, _, _, _, _, _, _, _, rfl, hres.imp (fun h => ⟨h.1, min_of_num hac hc1 hmv hlv hx h.2⟩) (fun h => ⟨h.1, no_of_num hlv hx h.2⟩)⟩ dX5_least_65
  have fill : ∀ lives1 : Int → Bool, (∀ s, 0 ≤ s → s < cnt → lives1 s = tr (Liv moves (accB accepts) s)) → G X 3 0 0 (wA X.Z a pa sets moves accepts heads chain groups news lives1 cnt table tells states strt ++ wr) 6 [(0, .ref (a 0)), (1, vI 0)] [] := by
    intro lives1 hlv
    have lp := loopZ (fun k => G X 3 0 0 (wA X.Z a pa sets moves accepts heads chain (upTo groups 0 k (fun s => if lives1 s = true then accepts s + 2 else 0)) news lives1 cnt table tells states strt ++ wr) 6 [(0, .ref (a 0)), (1, vI k)] []) 0 cnt (by omega) ?_ (fun k k0 k1 ih => ?_)
    · rw [upTo_0] at lp
      exact lp
    · show G _ _ _ _ _ _ _ _
      have hI : LstI cnt moves (accB accepts) lives1 (upTo groups 0 cnt (fun s => if lives1 s = true then accepts s + 2 else 0)) 0 := by
        refine ⟨fun s s0 s1 => ?_, fun s t s0 s1 t0 t1 he => ?_, fun s t s0 s1 t0 t1 he => ?_, Or.inl rfl, by omega, by omega⟩
        · rw [upTo_at0 _ _ s0 s1]; have := hac s s0 s1; split <;> omega
        · rw [upTo_at0 _ _ s0 s1, upTo_at0 _ _ t0 t1, ← bacc_accB (hac s s0 s1), ← bacc_accB (hac t t0 t1), he.acc, hlv s s0 s1, hlv t t0 t1, tr_live he.liv]
        · rw [upTo_at0 _ _ s0 s1, upTo_at0 _ _ t0 t1] at he
          have a1 := hac s s0 s1
          have a2 := hac t t0 t1
          cases q1 : lives1 s with
          | false =>
            cases q2 : lives1 t with
            | false =>
              refine ⟨rfl, ?_⟩
              have n1 : accB accepts s = false := Bool.eq_false_iff.mpr (fun h => by have := tr_iff.mpr (Liv.base (mv := moves) h); rw [← hlv s s0 s1, q1] at this; exact absurd this (by decide))
              have n2 : accB accepts t = false := Bool.eq_false_iff.mpr (fun h => by have := tr_iff.mpr (Liv.base (mv := moves) h); rw [← hlv t t0 t1, q2] at this; exact absurd this (by decide))
              rw [n1, n2]
            | true => rw [q1, q2] at he; simp at he; omega
          | true =>
            cases q2 : lives1 t with
            | false => rw [q1, q2] at he; simp at he; omega
            | true =>
              rw [q1, q2] at he
              simp at he
              refine ⟨rfl, ?_⟩
              unfold accB
              rw [he]
      refine g_iload_n C dX5_least_6 rfl ?_
      refine g_aload_n C dX5_least_7 rfl ?_
      refine gA_count C dX5_least_8 ?_
      refine g_icmp_ge C 47 dX5_least_11 (by decide) (by omega) (fun h11 => ?_) (fun h11 => ?_)
      · refine g_iconst C dX5_least_47 ?_
        refine g_istore_n C dX5_least_48 (by decide) ?_
        exact g_locR rfl (rnd _ 0 lives1 _ news heads chain hlv hI (Nat.lt_succ_self _))
      · exact absurd h11 (by omega)
    · show G _ _ _ _ _ _ _ _
      refine g_iload_n C dX5_least_6 rfl ?_
      refine g_aload_n C dX5_least_7 rfl ?_
      refine gA_count C dX5_least_8 ?_
      refine g_icmp_ge C 47 dX5_least_11 (by decide) (by omega) (fun h11 => ?_) (fun h11 => ?_)
      · exact absurd h11 (by omega)
      · refine g_aload_n C dX5_least_14 rfl ?_
        refine gA_groups C dX5_least_15 ?_
        refine g_iload_n C dX5_least_18 rfl ?_
        refine g_aload_n C dX5_least_19 rfl ?_
        refine gA_lives C dX5_least_20 ?_
        refine g_iload_n C dX5_least_23 rfl ?_
        refine lA_lives C (by omega) dX5_least_24 ?_
        refine g_if_eq C 39 dX5_least_25 (by decide) (b2_r _) (fun h25 => ?_) (fun h25 => ?_)
        · refine g_iconst C dX5_least_39 ?_
          refine sA_groups C (by omega) dX5_least_40 ?_
          refine g_iinc C dX5_least_41 rfl (by decide) ?_
          refine g_goto C 6 dX5_least_44 (by decide) ?_
          have eu := upTo_s0 groups (fun s => if lives1 s = true then accepts s + 2 else 0) k0
          first | rw [if_neg (show ¬ lives1 k = true by rw [(b2_0 _).mp h25]; decide)] at eu | rw [if_pos ((b2_ne0 _).mp h25)] at eu
          rw [eu]
          exact g_locR rfl ih
        · refine g_aload_n C dX5_least_28 rfl ?_
          refine gA_accepts C dX5_least_29 ?_
          refine g_iload_n C dX5_least_32 rfl ?_
          refine lA_accepts C (by omega) dX5_least_33 ?_
          refine g_iconst C dX5_least_34 ?_
          refine g_iadd C dX5_least_35 ?_
          refine g_goto C 40 dX5_least_36 (by decide) ?_
          refine sA_groups C (by omega) dX5_least_40 ?_
          refine g_iinc C dX5_least_41 rfl (by decide) ?_
          refine g_goto C 6 dX5_least_44 (by decide) ?_
          have eu := upTo_s0 groups (fun s => if lives1 s = true then accepts s + 2 else 0) k0
          first | rw [if_neg (show ¬ lives1 k = true by rw [(b2_0 _).mp h25]; decide)] at eu | rw [if_pos ((b2_ne0 _).mp h25)] at eu
          rw [eu]
          exact g_locR rfl ih
  refine g_aload_n C dX5_least_0 rfl ?_
  refine g_cVWv C [] _ 0 cal_X5_111 (cA_alive hc1 hc2 hmv hac) rfl rfl rfl rfl (Nat.le_of_ble_eq_true rfl) (room_b rfl) dX5_least_1 (fun w hw1 => ?_)
  obtain ⟨lives1, hlv, rfl⟩ := hw1
  refine g_iconst C dX5_least_4 ?_
  refine g_istore_n C dX5_least_5 (by decide) ?_
  exact g_locR rfl (fill lives1 hlv)
