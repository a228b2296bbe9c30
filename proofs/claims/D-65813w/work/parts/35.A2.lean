/-! Automaton: pattern, found -/
noncomputable def anyB (P : Int → Bool) (k : Int) : Bool := tr (∃ p, 0 ≤ p ∧ p < k ∧ P p = true)
theorem anyB_0 (P : Int → Bool) : anyB P 0 = false := by
  cases h : anyB P 0 with
  | false => rfl
  | true => obtain ⟨p, h1, h2, _⟩ := tr_iff.mp h; omega
theorem anyB_s (P : Int → Bool) {k : Int} (hk : 0 ≤ k) : anyB P (k + 1) = (anyB P k || P k) := by
  apply Bool.eq_iff_iff.mpr
  rw [Bool.or_eq_true]
  constructor
  · intro h
    obtain ⟨p, h1, h2, h3⟩ := tr_iff.mp h
    by_cases e : p = k
    · subst e; exact Or.inr h3
    · exact Or.inl (tr_iff.mpr ⟨p, h1, by omega, h3⟩)
  · intro h
    rcases h with h | h
    · obtain ⟨p, h1, h2, h3⟩ := tr_iff.mp h
      exact tr_iff.mpr ⟨p, h1, by omega, h3⟩
    · exact tr_iff.mpr ⟨k, hk, by omega, h⟩
theorem anyB_congr {P Q : Int → Bool} {k : Int} (h : ∀ p, 0 ≤ p → p < k → P p = Q p) : anyB P k = anyB Q k := by
  apply Bool.eq_iff_iff.mpr
  constructor
  · intro e
    obtain ⟨p, h1, h2, h3⟩ := tr_iff.mp e
    exact tr_iff.mpr ⟨p, h1, h2, by rw [← h p h1 h2]; exact h3⟩
  · intro e
    obtain ⟨p, h1, h2, h3⟩ := tr_iff.mp e
    exact tr_iff.mpr ⟨p, h1, h2, by rw [h p h1 h2]; exact h3⟩
def bacc (b : Bool) : Int := bif b then 0 else -1
theorem bacc_r (b : Bool) : -1 ≤ bacc b ∧ bacc b ≤ 0 := by cases b <;> decide
theorem cA_pattern {Z : Zk} {wr : va_W} {a : Nat → Nat} {sets : Int → Int64} {moves : Int → Int} {accepts : Int → Int} {heads : Int → Int} {chain : Int → Int} {groups : Int → Int} {news : Int → Int} {lives : Int → Bool} {cnt : Int} {table : Int → Int} {tells : Int → Int} {states : Int} {strt : Int} {tx : Value} {len : Int} {wrong : Int} {low : Int → Int64} {high : Int → Int64} {owners : Int → Int} {follows : Int → Int64} {isLast : Int → Bool} {start : Int → Int64} {places : Int} {count : Int} {empty : Int → Bool} {firsts : Int → Int64} {lasts : Int → Int64} {top : Int} {opn : Int} {cur : Int} {ap : Nat → Nat} {s : Int} (hs0 : 0 ≤ s) (hs1 : s ≤ 401) (hp0 : 0 ≤ places) (hp1 : places ≤ 400) (hown : ∀ p, 0 ≤ p → p < places → owners p = 0) : Ct Z yX5_pattern hX5_pattern 2 50 [.ref (a 0), vI s] (wA Z a (ap 0) sets moves accepts heads chain groups news lives cnt table tells states strt ++ (wP Z ap tx len wrong low high owners follows isLast start places count empty firsts lasts top opn cur ++ wr)) 0 0 (Ri fun r w => r = bacc (anyB (fun p => hasB sets (7 * s) p && isLast p) places) ∧ w = wA Z a (ap 0) sets moves accepts heads chain groups news lives cnt table tells states strt ++ (wP Z ap tx len wrong low high owners follows isLast start places count empty firsts lasts top opn cur ++ wr)) := by
  refine Ct.of RX5 "pattern" (by decide +kernel) rfl rfl hkX5_pattern (Nat.le_of_ble_eq_true rfl) (fun X hZ C => ?_)
  subst hZ
  have lp := loopZ (fun k => G X 4 0 0 (wA X.Z a (ap 0) sets moves accepts heads chain groups news lives cnt table tells states strt ++ (wP X.Z ap tx len wrong low high owners follows isLast start places count empty firsts lasts top opn cur ++ wr)) 4 [(0, .ref (a 0)), (1, vI s), (2, vI (bacc (anyB (fun p => hasB sets (7 * s) p && isLast p) k))), (3, vI k)] []) 0 places (by omega) ?_ (fun k hk0 hk1 ih => ?_)
  · show G _ _ _ _ _ _ _ _
    rw [anyB_0] at lp
    refine g_iconst C dX5_pattern_0 ?_
    refine g_istore_n C dX5_pattern_1 (by decide) ?_
    refine g_iconst C dX5_pattern_2 ?_
    refine g_istore_n C dX5_pattern_3 (by decide) ?_
    exact g_locR rfl lp
  · show G _ _ _ _ _ _ _ _
    refine g_iload_n C dX5_pattern_4 rfl ?_
    refine g_aload_n C dX5_pattern_5 rfl ?_
    refine gA_patterns C dX5_pattern_6 ?_
    refine g_getN C 11 10 in_X3 rfl rfl (by decide) (List.mem_of_getElem? (i := 8) rfl) rfl rfl dX5_pattern_9 ?_
    refine g_icmp_ge C 78 dX5_pattern_12 (by decide) (by omega) (fun h12 => ?_) (fun h12 => ?_)
    · refine g_iload_n C dX5_pattern_78 rfl ?_
      exact g_iret C rfl ⟨_, rfl, rfl, rfl⟩ dX5_pattern_79
    · exact absurd h12 (by omega)
  · show G _ _ _ _ _ _ _ _
    have hr := bacc_r (anyB (fun p => hasB sets (7 * s) p && isLast p) k)
    have e := anyB_s (fun p => hasB sets (7 * s) p && isLast p) hk0
    refine g_iload_n C dX5_pattern_4 rfl ?_
    refine g_aload_n C dX5_pattern_5 rfl ?_
    refine gA_patterns C dX5_pattern_6 ?_
    refine g_getN C 11 10 in_X3 rfl rfl (by decide) (List.mem_of_getElem? (i := 8) rfl) rfl rfl dX5_pattern_9 ?_
    refine g_icmp_ge C 78 dX5_pattern_12 (by decide) (by omega) (fun h12 => ?_) (fun h12 => ?_)
    · exact absurd h12 (by omega)
    · refine g_aload_n C dX5_pattern_15 rfl ?_
      refine gA_sets C dX5_pattern_16 ?_
      refine g_bipush C dX5_pattern_19 (by decide) ?_
      refine g_iload_n C dX5_pattern_21 rfl ?_
      refine g_imul C dX5_pattern_22 ?_
      refine g_iload_n C dX5_pattern_23 rfl ?_
      refine g_cNPz C [_, _, _] _ [1] cal_X5_101 (cP_has (f := sets) hk0 (by omega) (by omega) (by omega) (by omega)) (by decide) rfl rfl rfl (Nat.le_of_ble_eq_true rfl) (room_b rfl) dX5_pattern_24 (fun r24 hw24 => ?_)
      refine g_if_eq C 72 dX5_pattern_27 (by decide) (b2_r _) (fun h27 => ?_) (fun h27 => ?_)
      · have hb : hasB sets (7 * s) k = false := by rw [← hw24]; exact (b2_0 _).mp h27
        rw [e, hb, Bool.false_and, Bool.or_false] at ih
        refine g_iinc C dX5_pattern_72 rfl (by decide) ?_
        refine g_goto C 4 dX5_pattern_75 (by decide) ?_
        exact g_locR rfl ih
      · have hb : hasB sets (7 * s) k = true := by rw [← hw24]; exact (b2_ne0 _).mp h27
        refine g_aload_n C dX5_pattern_30 rfl ?_
        refine gA_patterns C dX5_pattern_31 ?_
        refine g_getN C 11 8 in_X3 rfl rfl (by decide) (List.mem_of_getElem? (i := 6) rfl) rfl rfl dX5_pattern_34 ?_
        refine g_iload_n C dX5_pattern_37 rfl ?_
        refine g_zald C 17 rfl (by omega) dX5_pattern_38 ?_
        refine g_if_ne C 45 dX5_pattern_39 (by decide) (b2_r _) (fun h39 => ?_) (fun h39 => ?_)
        · have hc : isLast k = true := (b2_ne0 _).mp h39
          rw [e, hb, hc, Bool.true_and, Bool.or_true] at ih
          refine g_iload_n C dX5_pattern_45 rfl ?_
          refine g_if_lt C 62 dX5_pattern_46 (by decide) (by omega) (fun h46 => ?_) (fun h46 => ?_)
          · refine g_aload_n C dX5_pattern_62 rfl ?_
            refine gA_patterns C dX5_pattern_63 ?_
            refine g_getN C 11 6 in_X3 rfl rfl (by decide) (List.mem_of_getElem? (i := 4) rfl) rfl rfl dX5_pattern_66 ?_
            refine g_iload_n C dX5_pattern_69 rfl ?_
            refine g_iald C 15 rfl (by omega) dX5_pattern_70 ?_
            rw [hown k hk0 hk1]
            refine g_istore_n C dX5_pattern_71 (by decide) ?_
            refine g_iinc C dX5_pattern_72 rfl (by decide) ?_
            refine g_goto C 4 dX5_pattern_75 (by decide) ?_
            exact g_locR rfl ih
          · have h0 : bacc (anyB (fun p => hasB sets (7 * s) p && isLast p) k) = bacc true := by show _ = (0 : Int); omega
            refine g_aload_n C dX5_pattern_49 rfl ?_
            refine gA_patterns C dX5_pattern_50 ?_
            refine g_getN C 11 6 in_X3 rfl rfl (by decide) (List.mem_of_getElem? (i := 4) rfl) rfl rfl dX5_pattern_53 ?_
            refine g_iload_n C dX5_pattern_56 rfl ?_
            refine g_iald C 15 rfl (by omega) dX5_pattern_57 ?_
            rw [hown k hk0 hk1]
            refine g_iload_n C dX5_pattern_58 rfl ?_
            refine g_icmp_ge C 72 dX5_pattern_59 (by decide) (by omega) (fun h59 => ?_) (fun h59 => ?_)
            · rw [h0]
              refine g_iinc C dX5_pattern_72 rfl (by decide) ?_
              refine g_goto C 4 dX5_pattern_75 (by decide) ?_
              exact g_locR rfl ih
            · exact absurd h59 (by omega)
        · have hc : isLast k = false := (b2_0 _).mp h39
          rw [e, hc, Bool.and_false, Bool.or_false] at ih
          refine g_goto C 72 dX5_pattern_42 (by decide) ?_
          refine g_iinc C dX5_pattern_72 rfl (by decide) ?_
          refine g_goto C 4 dX5_pattern_75 (by decide) ?_
          exact g_locR rfl ih
def hA (f : Int → Int64) (i : Int) : Nat → Int64
  | 0 => 0
  | n + 1 => 31 * hA f i n + f (i + n)
def slotA (f : Int → Int64) (i : Int) : Int := iand (l2i ((hA f i 7 ^^^ lushr (hA f i 7) 32) ^^^ lushr (hA f i 7) 17)) 511
theorem hA_congr {f g : Int → Int64} {i j : Int} : ∀ n : Nat, (∀ m, 0 ≤ m → m < (n : Int) → f (i + m) = g (j + m)) → hA f i n = hA g j n
  | 0, _ => rfl
  | n + 1, h => by
    unfold hA
    rw [hA_congr n (fun m m0 m1 => h m m0 (by omega)), h n (by omega) (by omega)]
theorem slotA_congr {f g : Int → Int64} {i j : Int} (h : ∀ m, 0 ≤ m → m < 7 → f (i + m) = g (j + m)) : slotA f i = slotA g j := by
  unfold slotA
  rw [hA_congr 7 (fun m m0 m1 => h m m0 (by omega))]
theorem iand_low (x : Int) {m : Nat} (hm : m < 2147483648) : 0 ≤ iand x m ∧ iand x m ≤ m := by
  unfold iand
  have e : (iI x &&& iI (m : Int)).toBitVec.toNat ≤ m := by
    rw [Int32.toBitVec_and, BitVec.toNat_and]
    have h1 : (iI (m : Int)).toBitVec.toNat = m := by
      unfold iI
      rw [Int32.toBitVec_ofInt, BitVec.ofInt_natCast, BitVec.toNat_ofNat]
      exact Nat.mod_eq_of_lt (by omega)
    rw [h1]
    exact Nat.and_le_right
  have e2 : (iI x &&& iI (m : Int)).toInt = ((iI x &&& iI (m : Int)).toBitVec.toNat : Int) := by
    show (iI x &&& iI (m : Int)).toBitVec.toInt = _
    rw [BitVec.toInt_eq_toNat_of_lt (by omega)]
  omega
theorem slotA_r (f : Int → Int64) (i : Int) : 0 ≤ slotA f i ∧ slotA f i < 512 := by
  have h := iand_low (l2i ((hA f i 7 ^^^ lushr (hA f i 7) 32) ^^^ lushr (hA f i 7) 17)) (m := 511) (by decide)
  have e : slotA f i = iand (l2i ((hA f i 7 ^^^ lushr (hA f i 7) 32) ^^^ lushr (hA f i 7) 17)) ((511 : Nat) : Int) := rfl
  omega
