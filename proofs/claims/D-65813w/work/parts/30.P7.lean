/-! Patterns: whole, read -/
/-- the whole text as a pattern -/
def prsT (t : Int → Int) (n : Int) (lo hi : Int → Int64) : Except Int (St × PV) := match prs t n (6 * n.toNat + 6) 0 0 (0, 0, lo, hi) vEps with
  | .error e => .error e
  | .ok (s1, B) => if 0 ≤ chr t n s1.i then .error s1.i else .ok (s1, B)
/-- what is left of a pattern that was read -/
def PatOk (s1 : St) (B : PV) (owners : Int → Int) (follows : Int → Int64) (isLast : Int → Bool) (start : Int → Int64) (empty : Int → Bool) : Prop :=
  empty 0 = B.nul ∧ (∀ p, 0 ≤ p → p < 448 → hasB start 0 p = B.fi p) ∧ FolP follows s1.N B.fo ∧ ∀ p, 0 ≤ p → p < s1.N → owners p = 0 ∧ isLast p = B.la p
def PatW (Z : Zk) (a : Nat → Nat) (tape : Int → Int) (n wrong : Int) (s1 : St) (B : PV) (w : va_W) : Prop := ∃ (owners : Int → Int) (follows : Int → Int64) (isLast : Int → Bool) (start : Int → Int64) (empty : Int → Bool) (firsts lasts : Int → Int64) (opn : Int), w = wP Z a (.ref (a 2)) n wrong s1.lo s1.hi owners follows isLast start s1.N 1 empty firsts lasts 0 opn s1.i ++ [(a 2, eB Z 2048 tape)] ∧ PatOk s1 B owners follows isLast start empty
theorem upTo_s0 {α : Type} (f : Int → α) {k : Int} (g : Int → α) (h : 0 ≤ k) : up (upTo f 0 k g) k (g k) = upTo f 0 (k + 1) g := by
  have e := upTo_s f 0 g h
  rw [Int.zero_add] at e
  exact e
theorem upTo_at0 {α : Type} (f : Int → α) {k m : Int} (g : Int → α) (h : 0 ≤ m) (h2 : m < k) : upTo f 0 k g m = g m := by
  have e := upTo_at f (i := 0) g h h2
  rw [Int.zero_add] at e
  exact e
theorem upTo_out0 {α : Type} (f : Int → α) {k : Int} (g : Int → α) : upTo f 0 k g k = f k := upTo_out _ _ (by omega)
theorem cP_whole {Z : Zk} {tape : Int → Int} {a : Nat → Nat} {len : Int} {wrong : Int} {low : Int → Int64} {high : Int → Int64} {owners : Int → Int} {follows : Int → Int64} {isLast : Int → Bool} {start : Int → Int64} {empty : Int → Bool} {firsts : Int → Int64} {lasts : Int → Int64} {top : Int} {opn : Int} (h1 : 0 ≤ len) (h2 : len ≤ 2048) (hst : ∀ k, 0 ≤ k → k < 7 → start k = 0) : Ct Z yX3_whole hX3_whole 172 4400 [.ref (a 0)] (wP Z a (.ref (a 2)) len wrong low high owners follows isLast start 0 0 empty firsts lasts top opn 0 ++ [(a 2, eB Z 2048 tape)]) 0 0 (Th (Rv fun w => ∃ s1 B, prsT tape len low high = .ok (s1, B) ∧ PatW Z a tape len wrong s1 B w) (fun x w => ∃ e, prsT tape len low high = .error e ∧ x = a 1 ∧ ErrP Z a tape e w)) := by
  refine Ct.of RX3 "whole" (by decide +kernel) rfl rfl hkX3_whole (Nat.le_of_ble_eq_true rfl) (fun X hZ C => ?_)
  subst hZ
  have hE := eitC (6 * len.toNat + 6) X.Z a tape len wrong owners follows isLast start empty firsts lasts (0, 0, low, high) 0 0 (fun _ _ => false) ⟨⟨Int.le_refl 0, h1, h2, Int.le_refl 0, show (0 : Int) ≤ 400 by decide, by omega, by omega, by omega, by omega⟩, fun p q p0 p1 => absurd p1 (by show ¬ p < 0; omega), fun _ _ _ => rfl, fun p p0 p1 => absurd p1 (by show ¬ p < 0; omega)⟩ (by have e : mu len 0 0 = 6 * (len - 0).toNat + 5 := rfl; show mu len 0 0 < _; rw [e, Int.sub_zero]; omega)
  have wl : ∀ (s1 : St) (B : PV) (owners1 : Int → Int) (follows1 : Int → Int64) (isLast1 empty1 : Int → Bool) (firsts1 lasts1 : Int → Int64), prsT tape len low high = .ok (s1, B) → RowP empty1 firsts1 lasts1 0 B → FolP follows1 s1.N (orF (fun _ _ => false) B.fo) → OwnP owners1 isLast1 s1.N → 0 ≤ s1.N → s1.N ≤ 400 →
      G X 2 0 0 (wP X.Z a (.ref (a 2)) len wrong s1.lo s1.hi owners1 follows1 isLast1 start s1.N 0 empty1 firsts1 lasts1 0 0 s1.i ++ [(a 2, eB X.Z 2048 tape)]) 38 [(0, .ref (a 0)), (1, vI 0)] [] := by
    intro s1 B owners1 follows1 isLast1 empty1 firsts1 lasts1 hok qR qF qO hN0 hN1
    have hst2 : ∀ p, 0 ≤ p → p < 448 → hasB (upTo start 0 7 (fun k => start k ||| firsts1 k)) 0 p = B.fi p := by
      intro p p0 p1
      rw [hasB_eq (g := firsts1) (j := 7 * 0) (fun m m0 m1 => ?_) p0 p1]
      · exact (qR.2 p p0 p1).1
      · rw [Int.zero_add, upTo_at0 _ _ m0 m1, hst m m0 m1, Int64.zero_or, show (7 * 0 + m : Int) = m by omega]
    have w2 : G X 2 0 0 (wP X.Z a (.ref (a 2)) len wrong s1.lo s1.hi owners1 follows1 isLast1 (upTo start 0 7 (fun k => start k ||| firsts1 k)) s1.N 0 empty1 firsts1 lasts1 0 0 s1.i ++ [(a 2, eB X.Z 2048 tape)]) 67 [(0, .ref (a 0)), (1, vI 0)] [] := by
      have l := loopZ (fun p => G X 2 0 0 (wP X.Z a (.ref (a 2)) len wrong s1.lo s1.hi owners1 follows1 (upTo isLast1 0 p (fun p => hasB lasts1 0 p)) (upTo start 0 7 (fun k => start k ||| firsts1 k)) s1.N 0 empty1 firsts1 lasts1 0 0 s1.i ++ [(a 2, eB X.Z 2048 tape)]) 67 [(0, .ref (a 0)), (1, vI p)] []) 0 s1.N (by omega) ?_ (fun p hp0 hp1 ih => ?_)
      · rw [upTo_0] at l
        exact l
      · show G _ _ _ _ _ _ _ _
        refine g_iload_n C dX3_whole_67 rfl ?_
        refine g_aload_n C dX3_whole_68 rfl ?_
        refine gP_places C dX3_whole_69 ?_
        refine g_icmp_ge C 109 dX3_whole_72 (by decide) (by omega) (fun h72 => ?_) (fun h72 => ?_)
        · refine g_aload_n C dX3_whole_109 rfl ?_
          refine g_dup C dX3_whole_110 rfl ?_
          refine gP_count C dX3_whole_111 ?_
          refine g_iconst C dX3_whole_114 ?_
          refine g_iadd C dX3_whole_115 ?_
          refine pP_count C dX3_whole_116 ?_
          exact g_vret C rfl (Or.inl ⟨rfl, s1, B, hok, owners1, follows1, _, _, empty1, firsts1, lasts1, 0, rfl, qR.1, hst2, fun p q p0 p1 q0 q1 => by rw [qF p q p0 p1 q0 q1]; simp [orF], fun p p0 p1 => ⟨(qO p p0 p1).1, by rw [upTo_at0 _ _ p0 p1]; exact (qR.2 p p0 (by omega)).2⟩⟩) dX3_whole_119
        · exact absurd h72 (by omega)
      · show G _ _ _ _ _ _ _ _
        refine g_iload_n C dX3_whole_67 rfl ?_
        refine g_aload_n C dX3_whole_68 rfl ?_
        refine gP_places C dX3_whole_69 ?_
        refine g_icmp_ge C 109 dX3_whole_72 (by decide) (by omega) (fun h72 => ?_) (fun h72 => ?_)
        · exact absurd h72 (by omega)
        · refine g_aload_n C dX3_whole_75 rfl ?_
          refine gP_owners C dX3_whole_76 ?_
          refine g_iload_n C dX3_whole_79 rfl ?_
          refine lP_owners C (by omega) dX3_whole_80 ?_
          refine g_aload_n C dX3_whole_81 rfl ?_
          refine gP_count C dX3_whole_82 ?_
          rw [(qO p hp0 hp1).1]
          refine g_icmp_ne C 103 dX3_whole_85 (by decide) (by omega) (fun h85 => ?_) (fun h85 => ?_)
          · exact absurd rfl h85
          · refine g_aload_n C dX3_whole_88 rfl ?_
            refine gP_isLast C dX3_whole_89 ?_
            refine g_iload_n C dX3_whole_92 rfl ?_
            refine g_aload_n C dX3_whole_93 rfl ?_
            refine gP_lasts C dX3_whole_94 ?_
            refine g_iconst C dX3_whole_97 ?_
            refine g_iload_n C dX3_whole_98 rfl ?_
            refine g_cSPz C [_, _, _] _ [10] cal_X3_91 (cP_has (f := lasts1) hp0 (by omega) (by omega) (by omega) (by omega)) (by decide) rfl rfl rfl (Nat.le_of_ble_eq_true rfl) (room_b rfl) dX3_whole_99 (fun r99 hw99 => ?_)
            subst hw99
            refine sP_isLast C _ (by omega) rfl dX3_whole_102 ?_
            refine g_iinc C dX3_whole_103 rfl (by decide) ?_
            refine g_goto C 67 dX3_whole_106 (by decide) ?_
            rw [upTo_s0 _ (fun p => hasB lasts1 0 p) hp0]
            exact g_locR rfl ih
    have l := loopZ (fun k => G X 2 0 0 (wP X.Z a (.ref (a 2)) len wrong s1.lo s1.hi owners1 follows1 isLast1 (upTo start 0 k (fun k => start k ||| firsts1 k)) s1.N 0 empty1 firsts1 lasts1 0 0 s1.i ++ [(a 2, eB X.Z 2048 tape)]) 38 [(0, .ref (a 0)), (1, vI k)] []) 0 7 (by omega) ?_ (fun k hk0 hk1 ih => ?_)
    · rw [upTo_0] at l
      exact l
    · show G _ _ _ _ _ _ _ _
      refine g_iload_n C dX3_whole_38 rfl ?_
      refine g_bipush C dX3_whole_39 (by decide) ?_
      refine g_icmp_ge C 65 dX3_whole_41 (by decide) (by omega) (fun h41 => ?_) (fun h41 => ?_)
      · refine g_iconst C dX3_whole_65 ?_
        refine g_istore_n C dX3_whole_66 (by decide) ?_
        exact g_locR rfl w2
      · exact absurd h41 (by omega)
    · show G _ _ _ _ _ _ _ _
      refine g_iload_n C dX3_whole_38 rfl ?_
      refine g_bipush C dX3_whole_39 (by decide) ?_
      refine g_icmp_ge C 65 dX3_whole_41 (by decide) (by omega) (fun h41 => ?_) (fun h41 => ?_)
      · exact absurd h41 (by omega)
      · refine g_aload_n C dX3_whole_44 rfl ?_
        refine gP_start C dX3_whole_45 ?_
        refine g_iload_n C dX3_whole_48 rfl ?_
        refine g_dup2_11 C dX3_whole_49 rfl rfl ?_
        refine lP_start C (by omega) dX3_whole_50 ?_
        refine g_aload_n C dX3_whole_51 rfl ?_
        refine gP_firsts C dX3_whole_52 ?_
        refine g_iload_n C dX3_whole_55 rfl ?_
        refine lP_firsts C (by omega) dX3_whole_56 ?_
        refine g_lor C dX3_whole_57 ?_
        rw [upTo_out0]
        refine sP_start C (by omega) dX3_whole_58 ?_
        refine g_iinc C dX3_whole_59 rfl (by decide) ?_
        refine g_goto C 38 dX3_whole_62 (by decide) ?_
        rw [upTo_s0 _ (fun k => start k ||| firsts1 k) hk0]
        exact g_locR rfl ih
  refine g_aload_n C dX3_whole_0 rfl ?_
  refine g_iconst C dX3_whole_1 ?_
  refine pP_top C dX3_whole_2 ?_
  refine g_aload_n C dX3_whole_5 rfl ?_
  refine g_iconst C dX3_whole_6 ?_
  refine pP_open C dX3_whole_7 ?_
  refine g_aload_n C dX3_whole_10 rfl ?_
  refine g_cVWvT C [] _ 0 cal_X3_81 hE rfl rfl rfl rfl (Nat.le_of_ble_eq_true rfl) (room_b rfl) dX3_whole_11 (fun w hw11 => ?_) (fun x11 w hw11 => ?_)
  · obtain ⟨s1, B, q1, owners1, follows1, isLast1, empty1, firsts1, lasts1, rfl, qR, qK, qF, qO⟩ := hw11
    have hr := prs_r _ _ _ _ _ _ _ (show ((0 : Int), (0 : Int), low, high).1 ≤ len from h1) (show (0 : Int) ≤ 400 by decide) q1
    have hr1 : 0 ≤ s1.i := hr.1
    have hr3 : 0 ≤ s1.N := hr.2.2.1
    have hcr := chr_r tape len s1.i
    refine g_aload_n C dX3_whole_14 rfl ?_
    refine g_cVWi C [] _ 0 cal_X3_84 (cP_c hr1 hr.2.1 h2) rfl rfl rfl rfl (Nat.le_of_ble_eq_true rfl) (room_b rfl) dX3_whole_15 (fun r15 w hw15 => ?_)
    obtain ⟨rfl, rfl⟩ := hw15
    refine g_if_lt C 26 dX3_whole_18 (by decide) (by omega) (fun h18 => ?_) (fun h18 => ?_)
    · have hok : prsT tape len low high = .ok (s1, B) := by unfold prsT; rw [q1]; dsimp only; rw [if_neg (by omega)]
      refine g_aload_n C dX3_whole_26 rfl ?_
      refine g_dup C dX3_whole_27 rfl ?_
      refine gP_top C dX3_whole_28 ?_
      refine g_iconst C dX3_whole_31 ?_
      refine g_isub C dX3_whole_32 ?_
      refine pP_top C dX3_whole_33 ?_
      refine g_iconst C dX3_whole_36 ?_
      refine g_istore_n C dX3_whole_37 (by decide) ?_
      rw [show (0 : Int) + 1 - 1 = 0 from rfl]
      exact g_locR rfl (wl s1 B _ _ _ _ _ _ hok qR qF qO hr3 hr.2.2.2.1)
    · refine g_aload_n C dX3_whole_21 rfl ?_
      refine g_cVWr C [] _ 0 cal_X3_88 cP_fail rfl rfl rfl rfl (Nat.le_of_ble_eq_true rfl) (room_b rfl) dX3_whole_22 (fun r22 w hw22 => ?_)
      obtain ⟨rfl, rfl⟩ := hw22
      refine g_athrow C dX3_whole_25 ?_
      exact gt_out C rfl (Or.inr ⟨_, rfl, _, by unfold prsT; rw [q1]; dsimp only; rw [if_pos h18], rfl, _, _, _, _, _, _, _, _, _, _, _, _, _, _, _, rfl⟩)
  · obtain ⟨er9, q1, rfl, q2⟩ := hw11
    exact gt_out C rfl (Or.inr ⟨_, rfl, _, by unfold prsT; rw [q1], rfl, q2⟩)
