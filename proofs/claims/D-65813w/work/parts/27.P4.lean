/-! Patterns: the reading of a pattern, method by method, over the pure parser -/
def FolP (follows : Int → Int64) (N : Int) (F : Int → Int → Bool) : Prop := ∀ p q, 0 ≤ p → p < N → 0 ≤ q → q < 448 → hasB follows (7 * p) q = F p q
def OwnP (owners : Int → Int) (isLast : Int → Bool) (N : Int) : Prop := ∀ p, 0 ≤ p → p < N → owners p = 0 ∧ isLast p = false
def RowP (empty : Int → Bool) (firsts lasts : Int → Int64) (t : Int) (B : PV) : Prop := empty t = B.nul ∧ ∀ p, 0 ≤ p → p < 448 → hasB firsts (7 * t) p = B.fi p ∧ hasB lasts (7 * t) p = B.la p
def KeepP (t : Int) (e e' : Int → Bool) (f f' l l' : Int → Int64) : Prop := (∀ j, j < t → e' j = e j) ∧ (∀ j, j < 7 * t → f' j = f j) ∧ (∀ j, j < 7 * t → l' j = l j)
def orF (F G : Int → Int → Bool) : Int → Int → Bool := fun p q => F p q || G p q
def PRes (Z : Zk) (a : Nat → Nat) (tape : Int → Int) (len wrong : Int) (start : Int → Int64) (opn : Int) (R : Except Int (St × PV)) (t : Int) (F : Int → Int → Bool) (e : Int → Bool) (f l : Int → Int64) : Outcome → va_W → Prop :=
  Th (Rv fun w => ∃ (s1 : St) (B : PV), R = .ok (s1, B) ∧ ∃ (owners : Int → Int) (follows : Int → Int64) (isLast empty : Int → Bool) (firsts lasts : Int → Int64), w = wP Z a (.ref (a 2)) len wrong s1.lo s1.hi owners follows isLast start s1.N 0 empty firsts lasts (t + 1) opn s1.i ++ [(a 2, eB Z 2048 tape)] ∧ RowP empty firsts lasts t B ∧ KeepP t e empty f firsts l lasts ∧ FolP follows s1.N (orF F B.fo) ∧ OwnP owners isLast s1.N)
    (fun x w => ∃ er, R = .error er ∧ x = a 1 ∧ ErrP Z a tape er w)
def PHyp (len : Int) (F : Int → Int → Bool) (follows : Int → Int64) (owners : Int → Int) (isLast : Int → Bool) (s : St) (d t c : Int) : Prop := (0 ≤ s.i ∧ s.i ≤ len ∧ len ≤ 2048 ∧ 0 ≤ s.N ∧ s.N ≤ 400 ∧ 0 ≤ d ∧ d ≤ 40 ∧ 0 ≤ t ∧ t ≤ 2 * d + c) ∧ FolP follows s.N F ∧ (∀ p q, s.N ≤ p → F p q = false) ∧ OwnP owners isLast s.N
def ConP (y : MethodName) (hd : Cond) (m : Nat) (c : Int) (fr lo : Nat → Nat) (f : Nat) : Prop := ∀ (Z : Zk) (a : Nat → Nat) (tape : Int → Int) (len wrong : Int) (owners : Int → Int) (follows : Int → Int64) (isLast : Int → Bool) (start : Int → Int64) (empty : Int → Bool) (firsts lasts : Int → Int64) (s : St) (d t : Int) (F : Int → Int → Bool), PHyp len F follows owners isLast s d t c → mu len m s.i < f →
  Ct Z y hd (fr (40 - d).toNat) (lo (40 - d).toNat) [.ref (a 0)] (wP Z a (.ref (a 2)) len wrong s.lo s.hi owners follows isLast start s.N 0 empty firsts lasts t d s.i ++ [(a 2, eB Z 2048 tape)]) 0 0 (PRes Z a tape len wrong start d (prs tape len f m d s vEps) t F empty firsts lasts)
def OneC (f : Nat) : Prop := ConP yX3_one hX3_one 4 2 (fun r => 4 * r + 8) (fun r => 100 * r + 260) f
def RepC (f : Nat) : Prop := ConP yX3_repeated hX3_repeated 3 2 (fun r => 4 * r + 9) (fun r => 100 * r + 285) f
def SevC (f : Nat) : Prop := ConP yX3_several hX3_several 2 1 (fun r => 4 * r + 10) (fun r => 100 * r + 310) f
def EitC (f : Nat) : Prop := ConP yX3_either hX3_either 0 0 (fun r => 4 * r + 11) (fun r => 100 * r + 335) f
theorem mu_40 {n i : Int} {f : Nat} (h : i < n) (hm : mu n 4 i < f + 1) : mu n 0 (i + 1) < f := by
  have e1 : mu n 4 i = 6 * (n - i).toNat + 2 := rfl
  have e2 : mu n 0 (i + 1) = 6 * (n - (i + 1)).toNat + 5 := rfl
  omega
theorem mu_34 {n i : Int} {f : Nat} (hm : mu n 3 i < f + 1) : mu n 4 i < f := by
  have e1 : mu n 3 i = 6 * (n - i).toNat + 3 := rfl
  have e2 : mu n 4 i = 6 * (n - i).toNat + 2 := rfl
  omega
theorem mu_23 {n i : Int} {f : Nat} (hm : mu n 2 i < f + 1) : mu n 3 i < f := by
  have e1 : mu n 2 i = 6 * (n - i).toNat + 4 := rfl
  have e2 : mu n 3 i = 6 * (n - i).toNat + 3 := rfl
  omega
theorem mu_22 {n i j : Int} {f : Nat} (h : i < n) (hj : i < j) (hm : mu n 2 i < f + 1) : mu n 2 j < f := by
  have e1 : mu n 2 i = 6 * (n - i).toNat + 4 := rfl
  have e2 : mu n 2 j = 6 * (n - j).toNat + 4 := rfl
  omega
theorem mu_02 {n i : Int} {f : Nat} (hm : mu n 0 i < f + 1) : mu n 2 i < f := by
  have e1 : mu n 0 i = 6 * (n - i).toNat + 5 := rfl
  have e2 : mu n 2 i = 6 * (n - i).toNat + 4 := rfl
  omega
theorem mu_01 {n i j : Int} {f : Nat} (hj : i ≤ j) (hm : mu n 0 i < f + 1) : mu n 1 j < f := by
  have e1 : mu n 0 i = 6 * (n - i).toNat + 5 := rfl
  have e2 : mu n 1 j = 6 * (n - j).toNat + 1 := rfl
  omega
theorem mu_12 {n i : Int} {f : Nat} (h : i < n) (hm : mu n 1 i < f + 1) : mu n 2 (i + 1) < f := by
  have e1 : mu n 1 i = 6 * (n - i).toNat + 1 := rfl
  have e2 : mu n 2 (i + 1) = 6 * (n - (i + 1)).toNat + 4 := rfl
  omega
theorem mu_11 {n i j : Int} {f : Nat} (h : i < n) (hj : i < j) (hm : mu n 1 i < f + 1) : mu n 1 j < f := by
  have e1 : mu n 1 i = 6 * (n - i).toNat + 1 := rfl
  have e2 : mu n 1 j = 6 * (n - j).toNat + 1 := rfl
  omega
theorem lit_row {f : Int → Int64} {t N p : Int} (hN0 : 0 ≤ N) (hN1 : N < 400) (hp0 : 0 ≤ p) (hp1 : p < 448) : hasB (up (upTo f (7 * t) 7 (fun _ => 0)) (7 * t + N / 64) (upTo f (7 * t) 7 (fun _ => 0) (7 * t + N / 64) ||| lshl 1 (N % 64))) (7 * t) p = decide (N = p) := by
  rw [hasB_set (f := upTo f (7 * t) 7 (fun _ => 0)) (q := N) hN0 (by omega) hp0 hp1 (fun m => by
    unfold up
    by_cases e : m = 7 * t + N / 64
    · rw [if_pos e, if_pos e, e]
    · rw [if_neg e, if_neg e])]
  have : hasB (upTo f (7 * t) 7 (fun _ => 0)) (7 * t) p = false := by
    unfold hasB
    rw [upTo_at _ _ (by omega) (by omega), bt_0]
  rw [this, Bool.false_or]
theorem up_keep {f : Int → Int64} {t i : Int} {x : Int64} (hi : 7 * t ≤ i) : ∀ j, j < 7 * t → up (upTo f (7 * t) 7 (fun _ => 0)) i x j = f j := by
  intro j hj
  rw [up_ne _ _ (by omega), upTo_out _ _ (by omega)]
theorem rm_one {r : Nat} {E : Ek} (h1 : E.fr = 4 * r + 8) (h2 : E.lo = 100 * r + 260) (h3 : E.mc = 0) (h4 : E.ms = 0) {fr lo mL : Nat} (q1 : fr + 1 ≤ 8) (q2 : 8 + (mL + 11) + lo ≤ 260) : roomOk E fr lo mL 0 0 0 0 := by
  refine ⟨⟨?_, ?_⟩, ?_, ?_⟩
  · rw [h1]; omega
  · rw [h2]; omega
  · rw [h3]; omega
  · rw [h4]; omega
theorem oneC_of {f : Nat} (ih : ∀ g, g < f → EitC g) : OneC f := by
  intro Z a tape len wrong owners follows isLast start empty firsts lasts s d t F hH hmu
  obtain ⟨⟨hi0, hi1, hln, hN0, hN1, hd0, hd1, ht0, ht1⟩, hFol, hF0, hOwn⟩ := hH
  cases f with
  | zero => omega
  | succ f =>
  refine Ct.of RX3 "one" (by decide +kernel) rfl rfl hkX3_one (Nat.le_of_ble_eq_true rfl) (fun X hZ C => ?_)
  subst hZ
  have hcr := chr_r tape len s.i
  unfold prs at C
  by_cases c1 : chr tape len s.i = 40
  · have hlt := chr_lt (t := tape) (n := len) (i := s.i) (by omega)
    rw [if_pos c1] at C
    by_cases c2 : d = 40
    · rw [if_pos c2] at C
      refine g_aload_n C dX3_one_0 rfl ?_
      refine g_cVWi C [] _ 0 cal_X3_84 (cP_c hi0 hi1 hln) rfl rfl rfl rfl (Nat.le_of_ble_eq_true rfl) (rm_one rfl rfl rfl rfl (by omega) (by omega)) dX3_one_1 (fun r1 w hw1 => ?_)
      obtain ⟨rfl, rfl⟩ := hw1
      refine g_bipush C dX3_one_4 (by decide) ?_
      refine g_icmp_ne C 82 dX3_one_6 (by decide) (by omega) (fun h6 => ?_) (fun h6 => ?_)
      · exact absurd c1 h6
      · refine g_aload_n C dX3_one_9 rfl ?_
        refine gP_open C dX3_one_10 ?_
        refine g_bipush C dX3_one_13 (by decide) ?_
        refine g_icmp_ne C 23 dX3_one_15 (by decide) (by omega) (fun h15 => ?_) (fun h15 => ?_)
        · exact absurd c2 h15
        · refine g_aload_n C dX3_one_18 rfl ?_
          refine g_cVWr C [] _ 0 cal_X3_88 cP_fail rfl rfl rfl rfl (Nat.le_of_ble_eq_true rfl) (rm_one rfl rfl rfl rfl (by omega) (by omega)) dX3_one_19 (fun r19 w hw19 => ?_)
          obtain ⟨rfl, rfl⟩ := hw19
          refine g_athrow C dX3_one_22 ?_
          exact gt_out C rfl (Or.inr ⟨_, rfl, _, rfl, rfl, _, _, _, _, _, _, _, _, _, _, _, _, _, _, _, rfl⟩)
    · rw [if_neg c2] at C
      have hE := ih f (by omega) X.Z a tape len wrong owners follows isLast start empty firsts lasts (s.i + 1, s.2) (d + 1) t F ⟨⟨show 0 ≤ s.i + 1 by omega, show s.i + 1 ≤ len by omega, hln, hN0, hN1, by omega, by omega, ht0, by omega⟩, hFol, hF0, hOwn⟩ (mu_40 hlt hmu)
      have er : (40 - d).toNat = (40 - (d + 1)).toNat + 1 := by omega
      refine g_aload_n C dX3_one_0 rfl ?_
      refine g_cVWi C [] _ 0 cal_X3_84 (cP_c hi0 hi1 hln) rfl rfl rfl rfl (Nat.le_of_ble_eq_true rfl) (rm_one rfl rfl rfl rfl (by omega) (by omega)) dX3_one_1 (fun r1 w hw1 => ?_)
      obtain ⟨rfl, rfl⟩ := hw1
      refine g_bipush C dX3_one_4 (by decide) ?_
      refine g_icmp_ne C 82 dX3_one_6 (by decide) (by omega) (fun h6 => ?_) (fun h6 => ?_)
      · exact absurd c1 h6
      · refine g_aload_n C dX3_one_9 rfl ?_
        refine gP_open C dX3_one_10 ?_
        refine g_bipush C dX3_one_13 (by decide) ?_
        refine g_icmp_ne C 23 dX3_one_15 (by decide) (by omega) (fun h15 => ?_) (fun h15 => ?_)
        · refine g_aload_n C dX3_one_23 rfl ?_
          refine g_dup C dX3_one_24 rfl ?_
          refine gP_open C dX3_one_25 ?_
          refine g_iconst C dX3_one_28 ?_
          refine g_iadd C dX3_one_29 ?_
          refine pP_open C dX3_one_30 ?_
          refine g_aload_n C dX3_one_33 rfl ?_
          refine g_dup C dX3_one_34 rfl ?_
          refine gP_at C dX3_one_35 ?_
          refine g_iconst C dX3_one_38 ?_
          refine g_iadd C dX3_one_39 ?_
          refine pP_at C dX3_one_40 ?_
          refine g_aload_n C dX3_one_43 rfl ?_
          refine g_cVWvT C [] _ 0 cal_X3_81 hE rfl rfl rfl rfl (Nat.le_of_ble_eq_true rfl) ⟨⟨by show 4 * (40 - (d + 1)).toNat + 11 + 1 ≤ 4 * (40 - d).toNat + 8; omega, by show 8 + (3 + 11) + (100 * (40 - (d + 1)).toNat + 335) ≤ 100 * (40 - d).toNat + 260; omega⟩, Nat.le_refl 0, Nat.le_refl 0⟩ dX3_one_44 (fun w hw44 => ?_) (fun x44 w hw44 => ?_)
          · obtain ⟨s1, B, q1, owners1, follows1, isLast1, empty1, firsts1, lasts1, rfl, qR, qK, qF, qO⟩ := hw44
            have hr := prs_r _ _ _ _ _ _ _ (show (s.i + 1, s.2).1 ≤ len from hlt) hN1 q1
            have hr1 : s.i + 1 ≤ s1.i := hr.1
            have hcr1 := chr_r tape len s1.i
            rw [q1] at C
            dsimp only at C
            refine g_aload_n C dX3_one_47 rfl ?_
            refine g_cVWi C [] _ 0 cal_X3_84 (cP_c (by omega) hr.2.1 hln) rfl rfl rfl rfl (Nat.le_of_ble_eq_true rfl) (rm_one rfl rfl rfl rfl (by omega) (by omega)) dX3_one_48 (fun r48 w hw48 => ?_)
            obtain ⟨rfl, rfl⟩ := hw48
            refine g_bipush C dX3_one_51 (by decide) ?_
            refine g_icmp_eq C 61 dX3_one_53 (by decide) (by omega) (fun h53 => ?_) (fun h53 => ?_)
            · rw [if_pos h53] at C
              refine g_aload_n C dX3_one_61 rfl ?_
              refine g_dup C dX3_one_62 rfl ?_
              refine gP_at C dX3_one_63 ?_
              refine g_iconst C dX3_one_66 ?_
              refine g_iadd C dX3_one_67 ?_
              refine pP_at C dX3_one_68 ?_
              refine g_aload_n C dX3_one_71 rfl ?_
              refine g_dup C dX3_one_72 rfl ?_
              refine gP_open C dX3_one_73 ?_
              refine g_iconst C dX3_one_76 ?_
              refine g_isub C dX3_one_77 ?_
              refine pP_open C dX3_one_78 ?_
              rw [show d + 1 - 1 = d by omega]
              exact g_vret C rfl (Or.inl ⟨rfl, _, _, rfl, _, _, _, _, _, _, rfl, qR, qK, qF, qO⟩) dX3_one_81
            · rw [if_neg h53] at C
              refine g_aload_n C dX3_one_56 rfl ?_
              refine g_cVWr C [] _ 0 cal_X3_88 cP_fail rfl rfl rfl rfl (Nat.le_of_ble_eq_true rfl) (rm_one rfl rfl rfl rfl (by omega) (by omega)) dX3_one_57 (fun r57 w hw57 => ?_)
              obtain ⟨rfl, rfl⟩ := hw57
              refine g_athrow C dX3_one_60 ?_
              exact gt_out C rfl (Or.inr ⟨_, rfl, _, rfl, rfl, _, _, _, _, _, _, _, _, _, _, _, _, _, _, _, rfl⟩)
          · obtain ⟨er9, q1, rfl, q2⟩ := hw44
            rw [q1] at C
            exact gt_out C rfl (Or.inr ⟨_, rfl, _, rfl, rfl, q2⟩)
        · exact absurd h15 c2
  · rw [if_neg c1] at C
    by_cases c2 : s.N = 400
    · rw [if_pos c2] at C
      refine g_aload_n C dX3_one_0 rfl ?_
      refine g_cVWi C [] _ 0 cal_X3_84 (cP_c hi0 hi1 hln) rfl rfl rfl rfl (Nat.le_of_ble_eq_true rfl) (rm_one rfl rfl rfl rfl (by omega) (by omega)) dX3_one_1 (fun r1 w hw1 => ?_)
      obtain ⟨rfl, rfl⟩ := hw1
      refine g_bipush C dX3_one_4 (by decide) ?_
      refine g_icmp_ne C 82 dX3_one_6 (by decide) (by omega) (fun h6 => ?_) (fun h6 => ?_)
      · refine g_aload_n C dX3_one_82 rfl ?_
        refine g_cVWiT C [] _ 0 cal_X3_119 (cP_place hi0 hi1 hln hN0 hN1 ht0 (by omega)) rfl rfl rfl rfl (Nat.le_of_ble_eq_true rfl) (rm_one rfl rfl rfl rfl (by omega) (by omega)) dX3_one_83 (fun r83 w hw83 => ?_) (fun x83 w hw83 => ?_)
        · exact absurd c2 (by have := hw83.2.1; omega)
          skip
        · obtain ⟨-, rfl, q2⟩ := hw83
          exact gt_out C rfl (Or.inr ⟨_, rfl, _, rfl, rfl, q2⟩)
      · exact absurd h6 c1
    · rw [if_neg c2] at C
      have hlt : s.N < 400 := by omega
      have fin : ∀ (j : Int) (l h : Int64), sngl tape len s.i = .ok (j, l, h) → G X 3 0 0 (wP X.Z a (.ref (a 2)) len wrong (up s.lo s.N l) (up s.hi s.N h) (up owners s.N 0) (upTo follows (7 * s.N) 7 (fun _ => 0)) (up isLast s.N false) start (s.N + 1) 0 (up empty t false) (up (upTo firsts (7 * t) 7 (fun _ => 0)) (7 * t + s.N / 64) (upTo firsts (7 * t) 7 (fun _ => 0) (7 * t + s.N / 64) ||| lshl 1 (s.N % 64))) (up (upTo lasts (7 * t) 7 (fun _ => 0)) (7 * t + s.N / 64) (upTo lasts (7 * t) 7 (fun _ => 0) (7 * t + s.N / 64) ||| lshl 1 (s.N % 64))) (t + 1) d j ++ [(a 2, eB X.Z 2048 tape)]) 157 [(0, .ref (a 0))] [] := by
        intro j l h hs
        rw [hs] at C
        dsimp only at C
        exact g_vret C rfl (Or.inl ⟨rfl, _, _, rfl, _, _, _, _, _, _, rfl, ⟨up_same _ _ _, fun p hp0 hp1 => ⟨lit_row hN0 hlt hp0 hp1, lit_row hN0 hlt hp0 hp1⟩⟩, ⟨fun j hj => up_ne _ _ (by omega), up_keep (by omega), up_keep (by omega)⟩, fun p q hp0 hp1 hq0 hq1 => (by show _ = (F p q || false); rw [Bool.or_false]; by_cases e : p = s.N; (rw [hF0 p q (by omega), e]; unfold hasB; rw [upTo_at _ _ (by omega) (by omega), bt_0]); (rw [← hFol p q hp0 (by have : p < s.N + 1 := hp1; omega) hq0 hq1]; exact hasB_eq (fun m hm0 hm1 => upTo_out _ _ (by have : p < s.N + 1 := hp1; omega)) hq0 hq1)), fun p hp0 hp1 => (by by_cases e : p = s.N; (rw [e, up_same, up_same]; exact ⟨rfl, rfl⟩); (rw [up_ne _ _ e, up_ne _ _ e]; exact hOwn p hp0 (by have : p < s.N + 1 := hp1; omega)))⟩) dX3_one_157
      have hcn := hcr
      refine g_aload_n C dX3_one_0 rfl ?_
      refine g_cVWi C [] _ 0 cal_X3_84 (cP_c hi0 hi1 hln) rfl rfl rfl rfl (Nat.le_of_ble_eq_true rfl) (rm_one rfl rfl rfl rfl (by omega) (by omega)) dX3_one_1 (fun r1 w hw1 => ?_)
      obtain ⟨rfl, rfl⟩ := hw1
      refine g_bipush C dX3_one_4 (by decide) ?_
      refine g_icmp_ne C 82 dX3_one_6 (by decide) (by omega) (fun h6 => ?_) (fun h6 => ?_)
      · refine g_aload_n C dX3_one_82 rfl ?_
        refine g_cVWiT C [] _ 0 cal_X3_119 (cP_place hi0 hi1 hln hN0 hN1 ht0 (by omega)) rfl rfl rfl rfl (Nat.le_of_ble_eq_true rfl) (rm_one rfl rfl rfl rfl (by omega) (by omega)) dX3_one_83 (fun r83 w hw83 => ?_) (fun x83 w hw83 => ?_)
        · obtain ⟨hcan, -, rfl, rfl⟩ := hw83
          refine g_istore_n C dX3_one_86 (by decide) ?_
          refine g_aload_n C dX3_one_87 rfl ?_
          refine g_cVWi C [] _ 0 cal_X3_84 (cP_c hi0 hi1 hln) rfl rfl rfl rfl (Nat.le_of_ble_eq_true rfl) (rm_one rfl rfl rfl rfl (by omega) (by omega)) dX3_one_88 (fun r88 w hw88 => ?_)
          obtain ⟨rfl, rfl⟩ := hw88
          refine g_bipush C dX3_one_91 (by decide) ?_
          refine g_icmp_ne C 104 dX3_one_93 (by decide) (by omega) (fun h93 => ?_) (fun h93 => ?_)
          · skip
            refine g_aload_n C dX3_one_104 rfl ?_
            refine g_cVWi C [] _ 0 cal_X3_84 (cP_c hi0 hi1 hln) rfl rfl rfl rfl (Nat.le_of_ble_eq_true rfl) (rm_one rfl rfl rfl rfl (by omega) (by omega)) dX3_one_105 (fun r105 w hw105 => ?_)
            obtain ⟨rfl, rfl⟩ := hw105
            refine g_bipush C dX3_one_108 (by decide) ?_
            refine g_icmp_ne C 144 dX3_one_110 (by decide) (by omega) (fun h110 => ?_) (fun h110 => ?_)
            · have hs : sngl tape len s.i = (if chrOk tape len s.i false = true then .ok (chrN tape len s.i, lowBits 0 (chrV tape len s.i) 1, highBits 0 (chrV tape len s.i) 1) else .error (chrE tape len s.i)) := by unfold sngl; rw [if_neg h93, if_neg h110]
              refine g_aload_n C dX3_one_144 rfl ?_
              refine g_iconst C dX3_one_145 ?_
              refine g_top (show (0 : Int) = b2 false from rfl) ?_
              refine g_cVWiT C [_] _ 0 cal_X3_130 (cP_character false hi0 hi1 hln) rfl rfl rfl rfl (Nat.le_of_ble_eq_true rfl) (rm_one rfl rfl rfl rfl (by omega) (by omega)) dX3_one_146 (fun r146 w hw146 => ?_) (fun x146 w hw146 => ?_)
              · obtain ⟨q1, rfl, rfl⟩ := hw146
                have k1 := chrOk_lt q1
                rw [if_pos q1] at hs
                have fn := fin _ _ _ hs
                refine g_istore_n C dX3_one_149 (by decide) ?_
                refine g_aload_n C dX3_one_150 rfl ?_
                refine g_iload_n C dX3_one_151 rfl ?_
                refine g_iload_n C dX3_one_152 rfl ?_
                refine g_iload_n C dX3_one_153 rfl ?_
                refine g_cVWv C [_, _, _] _ 0 cal_X3_133 (cP_set hN0 hlt (by omega) (by omega) (by omega)) rfl rfl rfl rfl (Nat.le_of_ble_eq_true rfl) (rm_one rfl rfl rfl rfl (by omega) (by omega)) dX3_one_154 (fun w hw154 => ?_)
                subst hw154
                rw [up_same, up_same, show (chrV tape len s.i + 1 - chrV tape len s.i).toNat = 1 by omega]
                first | exact g_locR rfl fn | (rw [up_up, up_up]; exact g_locR rfl fn)
              · obtain ⟨q1, rfl, q2⟩ := hw146
                rw [if_neg (by rw [q1]; decide)] at hs
                rw [hs] at C
                exact gt_out C rfl (Or.inr ⟨_, rfl, _, rfl, rfl, q2⟩)
            · have fn := fin (s.i + 1) (-1025) (-1) (by unfold sngl; rw [if_neg h93, if_pos h110])
              refine g_aload_n C dX3_one_113 rfl ?_
              refine g_dup C dX3_one_114 rfl ?_
              refine gP_at C dX3_one_115 ?_
              refine g_iconst C dX3_one_118 ?_
              refine g_iadd C dX3_one_119 ?_
              refine pP_at C dX3_one_120 ?_
              refine g_aload_n C dX3_one_123 rfl ?_
              refine gP_low C dX3_one_124 ?_
              refine g_iload_n C dX3_one_127 rfl ?_
              refine g_ldc2 C q461 dX3_one_128 ?_
              refine sP_low C (by omega) dX3_one_131 ?_
              refine g_aload_n C dX3_one_132 rfl ?_
              refine gP_high C dX3_one_133 ?_
              refine g_iload_n C dX3_one_136 rfl ?_
              refine g_ldc2 C q460 dX3_one_137 ?_
              refine sP_high C (by omega) dX3_one_140 ?_
              refine g_goto C 157 dX3_one_141 (by decide) ?_
              first | exact g_locR rfl fn | (rw [up_up, up_up]; exact g_locR rfl fn)
          · have hs : sngl tape len s.i = clsR tape len s.i 0 0 := by unfold sngl; rw [if_pos h93]
            refine g_aload_n C dX3_one_96 rfl ?_
            refine g_iload_n C dX3_one_97 rfl ?_
            refine g_cVWvT C [_] _ 0 cal_X3_122 (cP_choice hi0 (chr_lt (t := tape) (by omega)) hln hN0 hlt) rfl rfl rfl rfl (Nat.le_of_ble_eq_true rfl) (rm_one rfl rfl rfl rfl (by omega) (by omega)) dX3_one_98 (fun w hw98 => ?_) (fun x98 w hw98 => ?_)
            · obtain ⟨j, l, h, q1, rfl⟩ := hw98
              rw [up_same, up_same] at q1
              rw [up_up, up_up]
              have fn := fin j l h (hs.trans q1)
              refine g_goto C 157 dX3_one_101 (by decide) ?_
              first | exact g_locR rfl fn | (rw [up_up, up_up]; exact g_locR rfl fn)
            · obtain ⟨er9, q1, rfl, q2⟩ := hw98
              rw [up_same, up_same] at q1
              rw [hs, q1] at C
              exact gt_out C rfl (Or.inr ⟨_, rfl, _, rfl, rfl, q2⟩)
        · obtain ⟨q1, rfl, q2⟩ := hw83
          have q3 : ¬ (chr tape len s.i = 91 ∨ chr tape len s.i = 46 ∨ chr tape len s.i = 92 ∨ plainB (chr tape len s.i) false = true) := q1.resolve_right c2
          have hs : sngl tape len s.i = .error s.i := by
            unfold sngl
            rw [if_neg (fun z => q3 (Or.inl z)), if_neg (fun z => q3 (Or.inr (Or.inl z))), if_neg (by unfold chrOk; rw [if_neg (fun z => q3 (Or.inr (Or.inr (Or.inl z))))]; exact fun z => q3 (Or.inr (Or.inr (Or.inr z))))]
            unfold chrE
            rw [if_neg (fun z => q3 (Or.inr (Or.inr (Or.inl z))))]
          rw [hs] at C
          exact gt_out C rfl (Or.inr ⟨_, rfl, _, rfl, rfl, q2⟩)
      · exact absurd h6 c1
