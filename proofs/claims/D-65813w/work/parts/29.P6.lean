/-! Patterns: several, either -/
theorem orF_0 {F G : Int → Int → Bool} {N k : Int} {A : PV} (hF : ∀ p q, k ≤ p → F p q = false) (hA : supp N k A) : ∀ p q, k ≤ p → orF F A.fo p q = false := by
  intro p q hp
  unfold orF
  rw [hF p q hp, Bool.false_or]
  cases h : A.fo p q with
  | false => rfl
  | true => have := (hA.2.2 p q h).1.2; omega
theorem eps_row {e : Int → Bool} {f l : Int → Int64} {t : Int} : RowP (up e t true) (upTo f (7 * t) 7 (fun _ => 0)) (upTo l (7 * t) 7 (fun _ => 0)) t vEps := by
  refine ⟨up_same _ _ _, fun p p0 p1 => ⟨?_, ?_⟩⟩
  · unfold hasB
    rw [upTo_at _ _ (by omega) (by omega), bt_0]
    rfl
  · unfold hasB
    rw [upTo_at _ _ (by omega) (by omega), bt_0]
    rfl
theorem cat_row {e : Int → Bool} {f l : Int → Int64} {t : Int} {A B : PV} (hA : RowP e f l t A) (hB : RowP e f l (t + 1) B) :
    RowP (up e t (e t && e (t + 1))) (if e t then upTo f (7 * t) 7 (fun k => f (7 * t + k) ||| f (7 * (t + 1) + k)) else f) (upTo (upTo l (7 * (t + 1)) 7 (behL (e (t + 1)) l t (t + 1))) (7 * t) 7 (behL (e (t + 1)) l t (t + 1))) t (vCat A B) := by
  refine ⟨?_, fun p p0 p1 => ⟨?_, ?_⟩⟩
  · rw [up_same, hA.1, hB.1]; rfl
  · show _ = (A.fi p || (A.nul && B.fi p))
    have h1 := (hA.2 p p0 p1).1
    have h2 := (hB.2 p p0 p1).1
    rw [hA.1]
    cases hn : A.nul with
    | false =>
      rw [Bool.false_and, Bool.or_false, ← h1]
      rfl
    | true =>
      rw [Bool.true_and, ← h1, ← h2]
      exact hasB_or (fun m m0 m1 => (by rw [if_pos rfl]; exact upTo_at _ _ m0 m1)) p0 p1
  · show _ = (B.la p || (B.nul && A.la p))
    have h1 := (hA.2 p p0 p1).2
    have h2 := (hB.2 p p0 p1).2
    rw [hB.1]
    cases hn : B.nul with
    | false =>
      rw [Bool.false_and, Bool.or_false, ← h2]
      exact hasB_eq (fun m m0 m1 => by rw [upTo_at _ _ m0 m1]; rfl) p0 p1
    | true =>
      rw [Bool.true_and, ← h1, ← h2]
      exact hasB_or (fun m m0 m1 => by rw [upTo_at _ _ m0 m1]; rfl) p0 p1
theorem cat_keep {e : Int → Bool} {f l g : Int → Int64} {t : Int} {x : Bool} : KeepP t e (up e t x) f (if e t then upTo f (7 * t) 7 g else f) l (upTo (upTo l (7 * (t + 1)) 7 (behL (e (t + 1)) l t (t + 1))) (7 * t) 7 (behL (e (t + 1)) l t (t + 1))) := by
  refine ⟨fun j hj => up_ne _ _ (by omega), fun j hj => ?_, fun j hj => ?_⟩
  · split
    · exact upTo_out _ _ (by omega)
    · rfl
  · rw [upTo_out _ _ (by omega), upTo_out _ _ (by omega)]
theorem sevC_of {f : Nat} (ih : ∀ g, g < f → RepC g) : SevC f := by
  intro Z a tape len wrong owners follows isLast start empty firsts lasts s d t F hH hmu
  obtain ⟨⟨hi0, hi1, hln, hN0, hN1, hd0, hd1, ht0, ht1⟩, hFol, hF0, hOwn⟩ := hH
  refine Ct.of RX3 "several" (by decide +kernel) rfl rfl hkX3_several (Nat.le_of_ble_eq_true rfl) (fun X hZ C => ?_)
  subst hZ
  generalize hRR : prs tape len f 2 d s vEps = R at C
  have lp : ∀ (g : Nat) (s1 : St) (A : PV) (owners1 : Int → Int) (follows1 : Int → Int64) (isLast1 empty1 : Int → Bool) (firsts1 lasts1 : Int → Int64), g ≤ f → 0 ≤ s1.i → s1.i ≤ len → s.N ≤ s1.N → s1.N ≤ 400 → mu len 2 s1.i < g → prs tape len g 2 d s1 A = R → supp s.N s1.N A → RowP empty1 firsts1 lasts1 t A → KeepP t empty empty1 firsts firsts1 lasts lasts1 → FolP follows1 s1.N (orF F A.fo) → OwnP owners1 isLast1 s1.N →
      G X 1 0 0 (wP X.Z a (.ref (a 2)) len wrong s1.lo s1.hi owners1 follows1 isLast1 start s1.N 0 empty1 firsts1 lasts1 (t + 1) d s1.i ++ [(a 2, eB X.Z 2048 tape)]) 6 [(0, .ref (a 0))] [] := by
    intro g
    induction g with
    | zero => intro s1 A _ _ _ _ _ _ _ _ _ _ _ q; omega
    | succ g ihg =>
      intro s1 A owners1 follows1 isLast1 empty1 firsts1 lasts1 hgf hj0 hj1 hNN hN2 hmu1 hpr hsu hR hK hF hO
      have hcr := chr_r tape len s1.i
      unfold prs at hpr
      by_cases c1 : endsB (chr tape len s1.i) = true
      · rw [if_pos c1] at hpr
        rw [← hpr] at C
        refine g_aload_n C dX3_several_6 rfl ?_
        refine g_cVWz C [] _ 0 cal_X3_102 (cP_ends hj0 hj1 hln) rfl rfl rfl rfl (Nat.le_of_ble_eq_true rfl) ⟨⟨by show _ ≤ 4 * (40 - d).toNat + 10; omega, by show _ ≤ 100 * (40 - d).toNat + 310; omega⟩, Nat.le_refl 0, Nat.le_refl 0⟩ dX3_several_7 (fun r7 w hw7 => ?_)
        obtain ⟨rfl, rfl⟩ := hw7
        refine g_if_ne C 46 dX3_several_10 (by decide) (b2_r _) (fun h10 => ?_) (fun h10 => ?_)
        · exact g_vret C rfl (Or.inl ⟨rfl, _, _, rfl, _, _, _, _, _, _, rfl, hR, hK, hF, hO⟩) dX3_several_46
        · exact absurd h10 (by rw [c1]; decide)
      · rw [if_neg c1] at hpr
        have hce := endsB_f c1
        have hlt := chr_lt (t := tape) (n := len) (i := s1.i) hce.1
        have hE := ih g (by omega) X.Z a tape len wrong owners1 follows1 isLast1 start empty1 firsts1 lasts1 s1 d (t + 1) (orF F A.fo) ⟨⟨hj0, hj1, hln, by omega, hN2, hd0, hd1, by omega, by omega⟩, hF, orF_0 (G := F) (fun p q hp => hF0 p q (by omega)) hsu, hO⟩ (mu_23 hmu1)
        refine g_aload_n C dX3_several_6 rfl ?_
        refine g_cVWz C [] _ 0 cal_X3_102 (cP_ends hj0 hj1 hln) rfl rfl rfl rfl (Nat.le_of_ble_eq_true rfl) ⟨⟨by show _ ≤ 4 * (40 - d).toNat + 10; omega, by show _ ≤ 100 * (40 - d).toNat + 310; omega⟩, Nat.le_refl 0, Nat.le_refl 0⟩ dX3_several_7 (fun r7 w hw7 => ?_)
        obtain ⟨rfl, rfl⟩ := hw7
        refine g_if_ne C 46 dX3_several_10 (by decide) (b2_r _) (fun h10 => ?_) (fun h10 => ?_)
        · exact absurd ((b2_ne0 _).mp h10) c1
        · refine g_aload_n C dX3_several_13 rfl ?_
          refine g_cVWvT C [] _ 0 cal_X3_106 hE rfl rfl rfl rfl (Nat.le_of_ble_eq_true rfl) ⟨⟨by show 4 * (40 - d).toNat + 9 + 1 ≤ 4 * (40 - d).toNat + 10; omega, by show 8 + (1 + 11) + (100 * (40 - d).toNat + 285) ≤ 100 * (40 - d).toNat + 310; omega⟩, Nat.le_refl 0, Nat.le_refl 0⟩ dX3_several_14 (fun w hw14 => ?_) (fun x14 w hw14 => ?_)
          · obtain ⟨s2, B, q1, owners2, follows2, isLast2, empty2, firsts2, lasts2, rfl, qR, qK, qF, qO⟩ := hw14
            have hr := prs_r _ _ _ _ _ _ _ hj1 hN2 q1
            have hr5 := hr.2.2.2.2 (by omega)
            have hsB := prs_supp _ _ _ _ _ _ _ s.N hj1 hN2 hNN (supp_eps _ _) q1
            rw [q1] at hpr
            dsimp only at hpr
            have hRA := hR.keep qK (by omega)
            refine g_aload_n C dX3_several_17 rfl ?_
            refine g_aload_n C dX3_several_18 rfl ?_
            refine gP_top C dX3_several_19 ?_
            refine g_iconst C dX3_several_22 ?_
            refine g_isub C dX3_several_23 ?_
            refine g_aload_n C dX3_several_24 rfl ?_
            refine gP_top C dX3_several_25 ?_
            refine g_iconst C dX3_several_28 ?_
            refine g_isub C dX3_several_29 ?_
            rw [show t + 1 + 1 - 2 = t by omega, show t + 1 + 1 - 1 = t + 1 by omega]
            refine g_cVWv C [_, _] _ 0 cal_X3_109 (cP_behind ht0 (by omega) (by omega) (by omega) (by omega) (by omega) hr.2.2.2.1) rfl rfl rfl rfl (Nat.le_of_ble_eq_true rfl) ⟨⟨by show _ ≤ 4 * (40 - d).toNat + 10; omega, by show _ ≤ 100 * (40 - d).toNat + 310; omega⟩, Nat.le_refl 0, Nat.le_refl 0⟩ dX3_several_30 (fun w hw30 => ?_)
            subst hw30
            refine g_aload_n C dX3_several_33 rfl ?_
            refine g_dup C dX3_several_34 rfl ?_
            refine gP_top C dX3_several_35 ?_
            refine g_iconst C dX3_several_38 ?_
            refine g_isub C dX3_several_39 ?_
            refine pP_top C dX3_several_40 ?_
            refine g_goto C 6 dX3_several_43 (by decide) ?_
            rw [show t + 1 + 1 - 1 = t + 1 by omega]
            exact ihg s2 (vCat A B) _ _ _ _ _ _ (by omega) (by omega) hr.2.1 (by omega) hr.2.2.2.1 (mu_22 hlt hr5 hmu1) hpr (supp_cat (supp_mono hsu hr.2.2.1) hsB) (cat_row hRA qR) (KeepP.trans (KeepP.trans hK qK (by omega)) cat_keep (Int.le_refl t)) (by intro p q p0 p1 q0 q1; rw [link_fol hr.2.2.2.1 qF hRA qR p q p0 p1 q0 q1]; simp [orF, vCat, Bool.or_assoc]) qO
          · obtain ⟨er9, q1, rfl, q2⟩ := hw14
            rw [q1] at hpr
            rw [← hpr] at C
            exact gt_out C rfl (Or.inr ⟨_, rfl, _, rfl, rfl, q2⟩)
  refine g_aload_n C dX3_several_0 rfl ?_
  refine g_iconst C dX3_several_1 ?_
  refine g_top (show (1 : Int) = b2 true from rfl) ?_
  refine g_cVWi C [_] _ 0 cal_X3_98 (cP_push true ht0 (by omega)) rfl rfl rfl rfl (Nat.le_of_ble_eq_true rfl) ⟨⟨by show _ ≤ 4 * (40 - d).toNat + 10; omega, by show _ ≤ 100 * (40 - d).toNat + 310; omega⟩, Nat.le_refl 0, Nat.le_refl 0⟩ dX3_several_2 (fun r2 w hw2 => ?_)
  obtain ⟨rfl, rfl⟩ := hw2
  refine g_pop C dX3_several_5 rfl ?_
  exact lp f s vEps _ _ _ _ _ _ (Nat.le_refl _) hi0 hi1 (Int.le_refl _) hN1 hmu hRR (supp_eps _ _) eps_row ⟨fun j hj => up_ne _ _ (by omega), fun j hj => upTo_out _ _ (by omega), fun j hj => upTo_out _ _ (by omega)⟩ (by intro p q p0 p1 q0 q1; rw [hFol p q p0 p1 q0 q1]; simp [orF, vEps]) hOwn
theorem alt_row {e : Int → Bool} {f l : Int → Int64} {t : Int} {A B : PV} (hA : RowP e f l t A) (hB : RowP e f l (t + 1) B) :
    RowP (up e t (e t || e (t + 1))) (upTo f (7 * t) 7 (fun k => f (7 * t + k) ||| f (7 * t + 7 + k))) (upTo l (7 * t) 7 (fun k => l (7 * t + k) ||| l (7 * t + 7 + k))) t (vAlt A B) := by
  have e7 : 7 * (t + 1) = 7 * t + 7 := by omega
  refine ⟨?_, fun p p0 p1 => ⟨?_, ?_⟩⟩
  · rw [up_same, hA.1, hB.1]; rfl
  · show _ = (A.fi p || B.fi p)
    have h1 := (hA.2 p p0 p1).1
    have h2 := (hB.2 p p0 p1).1
    rw [e7] at h2
    rw [← h1, ← h2]
    exact hasB_or (fun m m0 m1 => (upTo_at _ _ m0 m1)) p0 p1
  · show _ = (A.la p || B.la p)
    have h1 := (hA.2 p p0 p1).2
    have h2 := (hB.2 p p0 p1).2
    rw [e7] at h2
    rw [← h1, ← h2]
    exact hasB_or (fun m m0 m1 => (upTo_at _ _ m0 m1)) p0 p1
theorem eitC_of {f : Nat} (ih : ∀ g, g < f → SevC g) : EitC f := by
  intro Z a tape len wrong owners follows isLast start empty firsts lasts s d t F hH hmu
  obtain ⟨⟨hi0, hi1, hln, hN0, hN1, hd0, hd1, ht0, ht1⟩, hFol, hF0, hOwn⟩ := hH
  cases f with
  | zero => omega
  | succ f =>
  refine Ct.of RX3 "either" (by decide +kernel) rfl rfl hkX3_either (Nat.le_of_ble_eq_true rfl) (fun X hZ C => ?_)
  subst hZ
  unfold prs at C
  have hE0 := ih f (by omega) X.Z a tape len wrong owners follows isLast start empty firsts lasts s d t F ⟨⟨hi0, hi1, hln, hN0, hN1, hd0, hd1, ht0, by omega⟩, hFol, hF0, hOwn⟩ (mu_02 hmu)
  have lp : ∀ (s0 : St) (B0 : PV), prs tape len f 2 d s vEps = .ok (s0, B0) → ∀ (g : Nat) (s1 : St) (A : PV) (owners1 : Int → Int) (follows1 : Int → Int64) (isLast1 empty1 : Int → Bool) (firsts1 lasts1 : Int → Int64), g ≤ f → 0 ≤ s1.i → s1.i ≤ len → s.N ≤ s1.N → s1.N ≤ 400 → mu len 1 s1.i < g → prs tape len g 1 d s1 A = prs tape len f 1 d s0 B0 → supp s.N s1.N A → RowP empty1 firsts1 lasts1 t A → KeepP t empty empty1 firsts firsts1 lasts lasts1 → FolP follows1 s1.N (orF F A.fo) → OwnP owners1 isLast1 s1.N →
      G X 3 0 0 (wP X.Z a (.ref (a 2)) len wrong s1.lo s1.hi owners1 follows1 isLast1 start s1.N 0 empty1 firsts1 lasts1 (t + 1) d s1.i ++ [(a 2, eB X.Z 2048 tape)]) 4 [(0, .ref (a 0))] [] := by
    intro s0 B0 hq0 g
    rw [hq0] at C
    dsimp only at C
    generalize prs tape len f 1 d s0 B0 = R at C
    induction g with
    | zero => intro s1 A _ _ _ _ _ _ _ _ _ _ _ q; omega
    | succ g ihg =>
      intro s1 A owners1 follows1 isLast1 empty1 firsts1 lasts1 hgf hj0 hj1 hNN hN2 hmu1 hpr hsu hR hK hF hO
      have hcr := chr_r tape len s1.i
      unfold prs at hpr
      by_cases c1 : chr tape len s1.i = 124
      · rw [if_pos c1] at hpr
        have hlt := chr_lt (t := tape) (n := len) (i := s1.i) (by omega)
        have hE := ih g (by omega) X.Z a tape len wrong owners1 follows1 isLast1 start empty1 firsts1 lasts1 (s1.i + 1, s1.2) d (t + 1) (orF F A.fo) ⟨⟨show 0 ≤ s1.i + 1 by omega, show s1.i + 1 ≤ len by omega, hln, show 0 ≤ s1.N by omega, hN2, hd0, hd1, by omega, by omega⟩, hF, orF_0 (G := F) (fun p q hp => hF0 p q (by have : s1.N ≤ p := hp; omega)) hsu, hO⟩ (mu_12 hlt hmu1)
        -- the loop over the seven longs
        have l7 : ∀ (s2 : St) (owners2 : Int → Int) (follows2 : Int → Int64) (isLast2 empty2 : Int → Bool) (firsts2 lasts2 : Int → Int64), G X 3 0 0 (wP X.Z a (.ref (a 2)) len wrong s2.lo s2.hi owners2 follows2 isLast2 start s2.N 0 empty2 (upTo firsts2 (7 * t) 7 (fun k => firsts2 (7 * t + k) ||| firsts2 (7 * t + 7 + k))) (upTo lasts2 (7 * t) 7 (fun k => lasts2 (7 * t + k) ||| lasts2 (7 * t + 7 + k))) (t + 1) d s2.i ++ [(a 2, eB X.Z 2048 tape)]) 4 [(0, .ref (a 0))] [] →
            G X 3 0 0 (wP X.Z a (.ref (a 2)) len wrong s2.lo s2.hi owners2 follows2 isLast2 start s2.N 0 empty2 firsts2 lasts2 (t + 1 + 1) d s2.i ++ [(a 2, eB X.Z 2048 tape)]) 53 [(0, .ref (a 0)), (1, vI t), (2, vI 0)] [] := by
          intro s2 owners2 follows2 isLast2 empty2 firsts2 lasts2 hk
          have l := loopZ (fun k => G X 3 0 0 (wP X.Z a (.ref (a 2)) len wrong s2.lo s2.hi owners2 follows2 isLast2 start s2.N 0 empty2 (upTo firsts2 (7 * t) k (fun k => firsts2 (7 * t + k) ||| firsts2 (7 * t + 7 + k))) (upTo lasts2 (7 * t) k (fun k => lasts2 (7 * t + k) ||| lasts2 (7 * t + 7 + k))) (t + 1 + 1) d s2.i ++ [(a 2, eB X.Z 2048 tape)]) 53 [(0, .ref (a 0)), (1, vI t), (2, vI k)] []) 0 7 (by omega) ?_ (fun k hk0 hk1 ih3 => ?_)
          · rw [upTo_0, upTo_0] at l
            exact l
          · show G _ _ _ _ _ _ _ _
            refine g_iload_n C dX3_either_53 rfl ?_
            refine g_bipush C dX3_either_54 (by decide) ?_
            refine g_icmp_ge C 121 dX3_either_56 (by decide) (by omega) (fun h56 => ?_) (fun h56 => ?_)
            · refine g_aload_n C dX3_either_121 rfl ?_
              refine g_dup C dX3_either_122 rfl ?_
              refine gP_top C dX3_either_123 ?_
              refine g_iconst C dX3_either_126 ?_
              refine g_isub C dX3_either_127 ?_
              refine pP_top C dX3_either_128 ?_
              refine g_goto C 4 dX3_either_131 (by decide) ?_
              rw [show t + 1 + 1 - 1 = t + 1 by omega]
              exact g_locR rfl hk
            · exact absurd h56 (by omega)
          · show G _ _ _ _ _ _ _ _
            refine g_iload_n C dX3_either_53 rfl ?_
            refine g_bipush C dX3_either_54 (by decide) ?_
            refine g_icmp_ge C 121 dX3_either_56 (by decide) (by omega) (fun h56 => ?_) (fun h56 => ?_)
            · exact absurd h56 (by omega)
            · refine g_aload_n C dX3_either_59 rfl ?_
              refine gP_firsts C dX3_either_60 ?_
              refine g_bipush C dX3_either_63 (by decide) ?_
              refine g_iload_n C dX3_either_65 rfl ?_
              refine g_imul C dX3_either_66 ?_
              refine g_iload_n C dX3_either_67 rfl ?_
              refine g_iadd C dX3_either_68 ?_
              refine g_dup2_11 C dX3_either_69 rfl rfl ?_
              refine lP_firsts C (by omega) dX3_either_70 ?_
              refine g_aload_n C dX3_either_71 rfl ?_
              refine gP_firsts C dX3_either_72 ?_
              refine g_bipush C dX3_either_75 (by decide) ?_
              refine g_iload_n C dX3_either_77 rfl ?_
              refine g_imul C dX3_either_78 ?_
              refine g_bipush C dX3_either_79 (by decide) ?_
              refine g_iadd C dX3_either_81 ?_
              refine g_iload_n C dX3_either_82 rfl ?_
              refine g_iadd C dX3_either_83 ?_
              refine lP_firsts C (by omega) dX3_either_84 ?_
              rw [upTo_out firsts2 _ (show 7 * t + k < 7 * t ∨ 7 * t + k ≤ 7 * t + k by omega), upTo_out firsts2 _ (show 7 * t + 7 + k < 7 * t ∨ 7 * t + k ≤ 7 * t + 7 + k by omega)]
              refine g_lor C dX3_either_85 ?_
              refine sP_firsts C (by omega) dX3_either_86 ?_
              refine g_aload_n C dX3_either_87 rfl ?_
              refine gP_lasts C dX3_either_88 ?_
              refine g_bipush C dX3_either_91 (by decide) ?_
              refine g_iload_n C dX3_either_93 rfl ?_
              refine g_imul C dX3_either_94 ?_
              refine g_iload_n C dX3_either_95 rfl ?_
              refine g_iadd C dX3_either_96 ?_
              refine g_dup2_11 C dX3_either_97 rfl rfl ?_
              refine lP_lasts C (by omega) dX3_either_98 ?_
              refine g_aload_n C dX3_either_99 rfl ?_
              refine gP_lasts C dX3_either_100 ?_
              refine g_bipush C dX3_either_103 (by decide) ?_
              refine g_iload_n C dX3_either_105 rfl ?_
              refine g_imul C dX3_either_106 ?_
              refine g_bipush C dX3_either_107 (by decide) ?_
              refine g_iadd C dX3_either_109 ?_
              refine g_iload_n C dX3_either_110 rfl ?_
              refine g_iadd C dX3_either_111 ?_
              refine lP_lasts C (by omega) dX3_either_112 ?_
              rw [upTo_out lasts2 _ (show 7 * t + k < 7 * t ∨ 7 * t + k ≤ 7 * t + k by omega), upTo_out lasts2 _ (show 7 * t + 7 + k < 7 * t ∨ 7 * t + k ≤ 7 * t + 7 + k by omega)]
              refine g_lor C dX3_either_113 ?_
              refine sP_lasts C (by omega) dX3_either_114 ?_
              refine g_iinc C dX3_either_115 rfl (by decide) ?_
              refine g_goto C 53 dX3_either_118 (by decide) ?_
              rw [upTo_s firsts2 (7 * t) (fun k => firsts2 (7 * t + k) ||| firsts2 (7 * t + 7 + k)) hk0, upTo_s lasts2 (7 * t) (fun k => lasts2 (7 * t + k) ||| lasts2 (7 * t + 7 + k)) hk0]
              exact g_locR rfl ih3
        refine g_aload_n C dX3_either_4 rfl ?_
        refine g_cVWi C [] _ 0 cal_X3_84 (cP_c hj0 hj1 hln) rfl rfl rfl rfl (Nat.le_of_ble_eq_true rfl) ⟨⟨by show _ ≤ 4 * (40 - d).toNat + 11; omega, by show _ ≤ 100 * (40 - d).toNat + 335; omega⟩, Nat.le_refl 0, Nat.le_refl 0⟩ dX3_either_5 (fun r5 w hw5 => ?_)
        obtain ⟨rfl, rfl⟩ := hw5
        refine g_bipush C dX3_either_8 (by decide) ?_
        refine g_icmp_ne C 134 dX3_either_10 (by decide) (by omega) (fun h10 => ?_) (fun h10 => ?_)
        · exact absurd c1 h10
        · refine g_aload_n C dX3_either_13 rfl ?_
          refine g_dup C dX3_either_14 rfl ?_
          refine gP_at C dX3_either_15 ?_
          refine g_iconst C dX3_either_18 ?_
          refine g_iadd C dX3_either_19 ?_
          refine pP_at C dX3_either_20 ?_
          refine g_aload_n C dX3_either_23 rfl ?_
          refine g_cVWvT C [] _ 0 cal_X3_95 hE rfl rfl rfl rfl (Nat.le_of_ble_eq_true rfl) ⟨⟨by show 4 * (40 - d).toNat + 10 + 1 ≤ 4 * (40 - d).toNat + 11; omega, by show 8 + (1 + 11) + (100 * (40 - d).toNat + 310) ≤ 100 * (40 - d).toNat + 335; omega⟩, Nat.le_refl 0, Nat.le_refl 0⟩ dX3_either_24 (fun w hw24 => ?_) (fun x24 w hw24 => ?_)
          · obtain ⟨s2, B, q1, owners2, follows2, isLast2, empty2, firsts2, lasts2, rfl, qR, qK, qF, qO⟩ := hw24
            have hr := prs_r _ _ _ _ _ _ _ (show (s1.i + 1, s1.2).1 ≤ len from hlt) hN2 q1
            have hr1 : s1.i + 1 ≤ s2.i := hr.1
            have hr3 : s1.N ≤ s2.N := hr.2.2.1
            have hsB := prs_supp _ _ _ _ _ _ _ s.N (show (s1.i + 1, s1.2).1 ≤ len from hlt) hN2 hNN (supp_eps _ _) q1
            rw [q1] at hpr
            dsimp only at hpr
            have hRA := hR.keep qK (by omega)
            refine g_aload_n C dX3_either_27 rfl ?_
            refine gP_top C dX3_either_28 ?_
            refine g_iconst C dX3_either_31 ?_
            refine g_isub C dX3_either_32 ?_
            rw [show t + 1 + 1 - 2 = t by omega]
            refine g_istore_n C dX3_either_33 (by decide) ?_
            refine g_aload_n C dX3_either_34 rfl ?_
            refine gP_empty C dX3_either_35 ?_
            refine g_iload_n C dX3_either_38 rfl ?_
            refine g_dup2_11 C dX3_either_39 rfl rfl ?_
            refine lP_empty C (by omega) dX3_either_40 ?_
            refine g_aload_n C dX3_either_41 rfl ?_
            refine gP_empty C dX3_either_42 ?_
            refine g_iload_n C dX3_either_45 rfl ?_
            refine g_iconst C dX3_either_46 ?_
            refine g_iadd C dX3_either_47 ?_
            refine lP_empty C (by omega) dX3_either_48 ?_
            refine g_ior C dX3_either_49 ?_
            rw [ior_b2]
            refine sP_empty C _ (by omega) rfl dX3_either_50 ?_
            refine g_iconst C dX3_either_51 ?_
            refine g_istore_n C dX3_either_52 (by decide) ?_
            refine g_locR rfl (l7 s2 _ _ _ _ _ _ ?_)
            exact ihg s2 (vAlt A B) _ _ _ _ _ _ (by omega) (by omega) hr.2.1 (by omega) hr.2.2.2.1 (mu_11 hlt (by omega) hmu1) hpr (supp_alt (supp_mono hsu hr3) hsB) (alt_row hRA qR) (KeepP.trans (KeepP.trans hK qK (by omega)) ⟨fun j hj => up_ne _ _ (by omega), fun j hj => upTo_out _ _ (by omega), fun j hj => upTo_out _ _ (by omega)⟩ (Int.le_refl t)) (by intro p q p0 p1 q0 q1; rw [qF p q p0 p1 q0 q1]; simp [orF, vAlt, Bool.or_assoc]) qO
          · obtain ⟨er9, q1, rfl, q2⟩ := hw24
            rw [q1] at hpr
            rw [← hpr] at C
            exact gt_out C rfl (Or.inr ⟨_, rfl, _, rfl, rfl, q2⟩)
      · rw [if_neg c1] at hpr
        rw [← hpr] at C
        refine g_aload_n C dX3_either_4 rfl ?_
        refine g_cVWi C [] _ 0 cal_X3_84 (cP_c hj0 hj1 hln) rfl rfl rfl rfl (Nat.le_of_ble_eq_true rfl) ⟨⟨by show _ ≤ 4 * (40 - d).toNat + 11; omega, by show _ ≤ 100 * (40 - d).toNat + 335; omega⟩, Nat.le_refl 0, Nat.le_refl 0⟩ dX3_either_5 (fun r5 w hw5 => ?_)
        obtain ⟨rfl, rfl⟩ := hw5
        refine g_bipush C dX3_either_8 (by decide) ?_
        refine g_icmp_ne C 134 dX3_either_10 (by decide) (by omega) (fun h10 => ?_) (fun h10 => ?_)
        · exact g_vret C rfl (Or.inl ⟨rfl, _, _, rfl, _, _, _, _, _, _, rfl, hR, hK, hF, hO⟩) dX3_either_134
        · exact absurd h10 c1
  refine g_aload_n C dX3_either_0 rfl ?_
  refine g_cVWvT C [] _ 0 cal_X3_95 hE0 rfl rfl rfl rfl (Nat.le_of_ble_eq_true rfl) ⟨⟨by show 4 * (40 - d).toNat + 10 + 1 ≤ 4 * (40 - d).toNat + 11; omega, by show 8 + (1 + 11) + (100 * (40 - d).toNat + 310) ≤ 100 * (40 - d).toNat + 335; omega⟩, Nat.le_refl 0, Nat.le_refl 0⟩ dX3_either_1 (fun w hw1 => ?_) (fun x1 w hw1 => ?_)
  · obtain ⟨s1, B, q1, owners1, follows1, isLast1, empty1, firsts1, lasts1, rfl, qR, qK, qF, qO⟩ := hw1
    have hr := prs_r _ _ _ _ _ _ _ hi1 hN1 q1
    have hsB := prs_supp _ _ _ _ _ _ _ s.N hi1 hN1 (Int.le_refl _) (supp_eps _ _) q1
    exact g_locR rfl (lp s1 B q1 f s1 B _ _ _ _ _ _ (Nat.le_refl _) (by omega) hr.2.1 hr.2.2.1 hr.2.2.2.1 (mu_01 hr.1 hmu) rfl hsB qR qK qF qO)
  · obtain ⟨er9, q1, rfl, q2⟩ := hw1
    rw [q1] at C
    exact gt_out C rfl (Or.inr ⟨_, rfl, _, rfl, rfl, q2⟩)
theorem parseC : ∀ f, ∀ g, g ≤ f → OneC g ∧ RepC g ∧ SevC g ∧ EitC g := by
  intro f
  induction f with
  | zero =>
    intro g hg
    have : g = 0 := by omega
    subst this
    exact ⟨oneC_of (fun g h => absurd h (by omega)), repC_of (fun g h => absurd h (by omega)), sevC_of (fun g h => absurd h (by omega)), eitC_of (fun g h => absurd h (by omega))⟩
  | succ f ih =>
    intro g hg
    have h : ∀ k, k < g → OneC k ∧ RepC k ∧ SevC k ∧ EitC k := fun k hk => ih k (by omega)
    exact ⟨oneC_of (fun k hk => (h k hk).2.2.2), repC_of (fun k hk => (h k hk).1), sevC_of (fun k hk => (h k hk).2.1), eitC_of (fun k hk => (h k hk).2.2.1)⟩
theorem eitC (f : Nat) : EitC f := (parseC f f (Nat.le_refl _)).2.2.2
