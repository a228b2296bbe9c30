/-! Long.numberOfLeadingZeros: the bit that it names is set -/
def bi (x : Int) (j : Nat) : Bool := (iI x).toBitVec.getLsbD j
theorem dd (x : Int) (c d : Nat) : x / 2 ^ (c + d) = x / 2 ^ c / 2 ^ d := by
  rw [Int.pow_add, Int.ediv_ediv, if_neg (fun h => absurd h.1 (by have : (0 : Int) < 2 ^ c := Int.pow_pos (by decide); omega))]
  omega
theorem iushr_nn {x : Int} {k : Nat} (h0 : 0 ≤ x) (h1 : x < 2147483648) (hk : k < 32) : iushr x k = x / 2 ^ k := by
  obtain ⟨n, rfl⟩ := Int.eq_ofNat_of_zero_le h0
  unfold iushr
  have e1 : (iI (n : Int)).toUInt32 = UInt32.ofNat n := by
    apply UInt32.toBitVec_inj.mp
    show (iI (n : Int)).toBitVec = _
    unfold iI
    rw [Int32.toBitVec_ofInt, BitVec.ofInt_natCast]
    rfl
  have e2 : ∀ k : Nat, k < 32 → ((iI (k : Int)).toUInt32 &&& Int32.toUInt32 31) = UInt32.ofNat k := by decide +kernel
  rw [e1, e2 k hk]
  have hm : n / 2 ^ k < 2147483648 := Nat.lt_of_le_of_lt (Nat.div_le_self _ _) (by omega)
  have e3 : (UInt32.ofNat n >>> UInt32.ofNat k) = UInt32.ofNat (n / 2 ^ k) := by
    apply UInt32.toNat_inj.mp
    rw [UInt32.toNat_shiftRight, UInt32.toNat_ofNat', UInt32.toNat_ofNat', UInt32.toNat_ofNat', Nat.shiftRight_eq_div_pow]
    rw [Nat.mod_eq_of_lt (show n < 2 ^ 32 by omega), Nat.mod_eq_of_lt (show k < 2 ^ 32 by omega), Nat.mod_eq_of_lt (show k < 32 from hk), Nat.mod_eq_of_lt (show n / 2 ^ k < 2 ^ 32 by omega)]
  rw [e3]
  have e4 : (UInt32.ofNat (n / 2 ^ k)).toInt32 = iI ((n / 2 ^ k : Nat) : Int) := by
    apply Int32.toBitVec_inj.mp
    show (UInt32.ofNat (n / 2 ^ k)).toBitVec = _
    unfold iI
    rw [Int32.toBitVec_ofInt, BitVec.ofInt_natCast]
    rfl
  have h0' : (0 : Int) ≤ ((n / 2 ^ k : Nat) : Int) := Int.natCast_nonneg _
  have h1' : ((n / 2 ^ k : Nat) : Int) < 2147483648 := Int.ofNat_lt.mpr hm
  rw [e4, iI_toInt (Int.le_trans (by decide) h0') h1']
  simp
theorem bi_top {x : Int} {c : Nat} (h0 : 0 ≤ x) (hc : c < 32) (h : x / 2 ^ c = 1) : bi x c = true := by
  obtain ⟨n, rfl⟩ := Int.eq_ofNat_of_zero_le h0
  unfold bi iI
  rw [Int32.toBitVec_ofInt, BitVec.ofInt_natCast, BitVec.getLsbD_ofNat]
  have e : n / 2 ^ c = 1 := by
    have h2 : ((n / 2 ^ c : Nat) : Int) = 1 := by rw [← h]; simp
    omega
  rw [Nat.testBit_eq_decide_div_mod_eq, e]
  simp [hc]
theorem bi_neg {x : Int} (h0 : -2147483648 ≤ x) (h1 : x < 0) : bi x 31 = true := by
  have e : (iI x).toBitVec.msb = true := by
    rw [BitVec.msb_eq_toInt]
    show decide ((iI x).toInt < 0) = true
    rw [iI_toInt h0 (by omega)]
    exact decide_eq_true h1
  rw [BitVec.msb_eq_getLsbD_last] at e
  exact e
theorem bi_l2i (v : Int64) {j : Nat} (hj : j < 32) : bi (l2i v) j = bt v j := by
  unfold bi l2i bt
  rw [iI_self, Int.toNat_natCast]
  show (v.toInt32.toBitVec).getLsbD j = _
  rw [Int64.toBitVec_toInt32, BitVec.getLsbD_signExtend]
  have e2 : j < 64 := by omega
  simp [hj, e2]
theorem bt_lushr {i j : Int} (h0 : 0 ≤ i) (h : i < 64) (j0 : 0 ≤ j) (hj : i + j < 64) (x : Int64) : bt (lushr x i) j = bt x (i + j) := by
  unfold bt lushr
  have e : (((iI i).toInt64.toUInt64 &&& Int64.toUInt64 63).toBitVec % 64).toNat = i.toNat := by
    have h1 := shN_u i.toNat (by omega)
    rw [Int.toNat_of_nonneg h0] at h1
    exact h1
  show ((x.toUInt64 >>> ((iI i).toInt64.toUInt64 &&& Int64.toUInt64 63)).toBitVec).getLsbD j.toNat = _
  rw [UInt64.toBitVec_shiftRight]
  show (x.toBitVec >>> (((iI i).toInt64.toUInt64 &&& Int64.toUInt64 63).toBitVec % 64).toNat).getLsbD j.toNat = _
  rw [e, BitVec.getLsbD_ushiftRight]
  congr 1
  omega
theorem i32_bits0 {x : Int} (h : ∀ j : Nat, j < 32 → bi x j = false) (hr : inR x) : x = 0 := by
  have e : iI x = 0 := by
    apply Int32.toBitVec_inj.mp
    apply BitVec.eq_of_getLsbD_eq
    intro i hi
    have h1 := h i hi
    unfold bi at h1
    rw [h1]
    simp
  have := congrArg Int32.toInt e
  rw [iI_toInt hr.1 hr.2] at this
  exact this
theorem cJ_nlzI {Z : Zk} {x : Int} (hr : inR x) (hx : x ≠ 0) : Ct Z yJ10_numberOfLeadingZeros hJ10_numberOfLeadingZeros 1 20 [vI x] [] 0 0 (Ri fun r w => (∃ c : Nat, c < 32 ∧ r = 31 - (c : Int) ∧ bi x c = true) ∧ w = []) := by
  refine Ct.of RJ10 "numberOfLeadingZeros" (by decide +kernel) rfl rfl hkJ10_numberOfLeadingZeros (Nat.le_of_ble_eq_true rfl) (fun X hZ C => ?_)
  subst hZ
  have s73 : ∀ (c : Nat) (y : Int), c ≤ 30 → 0 < x → 1 ≤ y → y < 4 → x / 2 ^ c = y → G X 2 0 0 [] 73 [(0, vI y), (1, vI (31 - (c : Int)))] [] := by
    intro c y hc h0 h1 h2 he
    have e : iushr y 1 = y / 2 := by have := @iushr_nn y 1 (by omega) (by omega) (by omega); simpa using this
    have e2 : x / 2 ^ (c + 1) = y / 2 := by
      rw [dd, he]; rfl
    refine g_iload_n C dJ10_numberOfLeadingZeros_73 rfl ?_
    refine g_iload_n C dJ10_numberOfLeadingZeros_74 rfl ?_
    refine g_iconst C dJ10_numberOfLeadingZeros_75 ?_
    refine g_iushr C dJ10_numberOfLeadingZeros_76 ?_
    rw [e]
    refine g_isub C dJ10_numberOfLeadingZeros_77 ?_
    exact g_iret C rfl ⟨_, rfl, (by rcases (by omega : y / 2 = 0 ∨ y / 2 = 1) with q | q; exact ⟨c, by omega, by omega, bi_top (by omega) (by omega) (by omega)⟩; exact ⟨c + 1, by omega, by omega, bi_top (by omega) (by omega) (by omega)⟩), rfl⟩ dJ10_numberOfLeadingZeros_78
  have s61 : ∀ (c : Nat) (y : Int), c ≤ 28 → 0 < x → 1 ≤ y → y < 16 → x / 2 ^ c = y → G X 2 0 0 [] 61 [(0, vI y), (1, vI (31 - (c : Int)))] [] := by
    intro c y hc h0 h1 h2 he
    have e : iushr y 2 = y / 4 := by have := @iushr_nn y 2 (by omega) (by omega) (by omega); simpa using this
    have e2 : x / 2 ^ (c + 2) = y / 4 := by
      rw [dd, he]; rfl
    refine g_iload_n C dJ10_numberOfLeadingZeros_61 rfl ?_
    refine g_iconst C dJ10_numberOfLeadingZeros_62 ?_
    refine g_icmp_lt C 73 dJ10_numberOfLeadingZeros_63 (by decide) (by omega) (fun h63 => ?_) (fun h63 => ?_)
    · first | exact s73 c y (by omega) h0 h1 (by omega) he | exact g_locR (L' := [(0, vI (y / 4)), (1, vI (31 - ((c + 2 : Nat) : Int)))]) (by rw [show 31 - ((c + 2 : Nat) : Int) = 31 - (c : Int) + -2 by omega]; rfl) (s73 (c + 2) (y / 4) (by omega) h0 (by omega) (by omega) e2)
    · refine g_iinc C dJ10_numberOfLeadingZeros_66 rfl (by decide) ?_
      refine g_iload_n C dJ10_numberOfLeadingZeros_69 rfl ?_
      refine g_iconst C dJ10_numberOfLeadingZeros_70 ?_
      refine g_iushr C dJ10_numberOfLeadingZeros_71 ?_
      rw [e]
      refine g_istore_n C dJ10_numberOfLeadingZeros_72 (by decide) ?_
      first | exact s73 c y (by omega) h0 h1 (by omega) he | exact g_locR (L' := [(0, vI (y / 4)), (1, vI (31 - ((c + 2 : Nat) : Int)))]) (by rw [show 31 - ((c + 2 : Nat) : Int) = 31 - (c : Int) + -2 by omega]; rfl) (s73 (c + 2) (y / 4) (by omega) h0 (by omega) (by omega) e2)
  have s48 : ∀ (c : Nat) (y : Int), c ≤ 24 → 0 < x → 1 ≤ y → y < 256 → x / 2 ^ c = y → G X 2 0 0 [] 48 [(0, vI y), (1, vI (31 - (c : Int)))] [] := by
    intro c y hc h0 h1 h2 he
    have e : iushr y 4 = y / 16 := by have := @iushr_nn y 4 (by omega) (by omega) (by omega); simpa using this
    have e2 : x / 2 ^ (c + 4) = y / 16 := by
      rw [dd, he]; rfl
    refine g_iload_n C dJ10_numberOfLeadingZeros_48 rfl ?_
    refine g_bipush C dJ10_numberOfLeadingZeros_49 (by decide) ?_
    refine g_icmp_lt C 61 dJ10_numberOfLeadingZeros_51 (by decide) (by omega) (fun h51 => ?_) (fun h51 => ?_)
    · first | exact s61 c y (by omega) h0 h1 (by omega) he | exact g_locR (L' := [(0, vI (y / 16)), (1, vI (31 - ((c + 4 : Nat) : Int)))]) (by rw [show 31 - ((c + 4 : Nat) : Int) = 31 - (c : Int) + -4 by omega]; rfl) (s61 (c + 4) (y / 16) (by omega) h0 (by omega) (by omega) e2)
    · refine g_iinc C dJ10_numberOfLeadingZeros_54 rfl (by decide) ?_
      refine g_iload_n C dJ10_numberOfLeadingZeros_57 rfl ?_
      refine g_iconst C dJ10_numberOfLeadingZeros_58 ?_
      refine g_iushr C dJ10_numberOfLeadingZeros_59 ?_
      rw [e]
      refine g_istore_n C dJ10_numberOfLeadingZeros_60 (by decide) ?_
      first | exact s61 c y (by omega) h0 h1 (by omega) he | exact g_locR (L' := [(0, vI (y / 16)), (1, vI (31 - ((c + 4 : Nat) : Int)))]) (by rw [show 31 - ((c + 4 : Nat) : Int) = 31 - (c : Int) + -4 by omega]; rfl) (s61 (c + 4) (y / 16) (by omega) h0 (by omega) (by omega) e2)
  have s33 : ∀ (c : Nat) (y : Int), c ≤ 16 → 0 < x → 1 ≤ y → y < 65536 → x / 2 ^ c = y → G X 2 0 0 [] 33 [(0, vI y), (1, vI (31 - (c : Int)))] [] := by
    intro c y hc h0 h1 h2 he
    have e : iushr y 8 = y / 256 := by have := @iushr_nn y 8 (by omega) (by omega) (by omega); simpa using this
    have e2 : x / 2 ^ (c + 8) = y / 256 := by
      rw [dd, he]; rfl
    refine g_iload_n C dJ10_numberOfLeadingZeros_33 rfl ?_
    refine g_sipush C dJ10_numberOfLeadingZeros_34 (by decide) ?_
    refine g_icmp_lt C 48 dJ10_numberOfLeadingZeros_37 (by decide) (by omega) (fun h37 => ?_) (fun h37 => ?_)
    · first | exact s48 c y (by omega) h0 h1 (by omega) he | exact g_locR (L' := [(0, vI (y / 256)), (1, vI (31 - ((c + 8 : Nat) : Int)))]) (by rw [show 31 - ((c + 8 : Nat) : Int) = 31 - (c : Int) + -8 by omega]; rfl) (s48 (c + 8) (y / 256) (by omega) h0 (by omega) (by omega) e2)
    · refine g_iinc C dJ10_numberOfLeadingZeros_40 rfl (by decide) ?_
      refine g_iload_n C dJ10_numberOfLeadingZeros_43 rfl ?_
      refine g_bipush C dJ10_numberOfLeadingZeros_44 (by decide) ?_
      refine g_iushr C dJ10_numberOfLeadingZeros_46 ?_
      rw [e]
      refine g_istore_n C dJ10_numberOfLeadingZeros_47 (by decide) ?_
      first | exact s48 c y (by omega) h0 h1 (by omega) he | exact g_locR (L' := [(0, vI (y / 256)), (1, vI (31 - ((c + 8 : Nat) : Int)))]) (by rw [show 31 - ((c + 8 : Nat) : Int) = 31 - (c : Int) + -8 by omega]; rfl) (s48 (c + 8) (y / 256) (by omega) h0 (by omega) (by omega) e2)
  have e : 0 < x → iushr x 16 = x / 65536 := by intro h; have := @iushr_nn x 16 (by omega) (by omega) (by omega); simpa using this
  refine g_iload_n C dJ10_numberOfLeadingZeros_0 rfl ?_
  refine g_if_gt C 15 dJ10_numberOfLeadingZeros_1 (by decide) (by omega) (fun h1 => ?_) (fun h1 => ?_)
  · refine g_bipush C dJ10_numberOfLeadingZeros_15 (by decide) ?_
    refine g_istore_n C dJ10_numberOfLeadingZeros_17 (by decide) ?_
    refine g_iload_n C dJ10_numberOfLeadingZeros_18 rfl ?_
    refine g_ldcw C 65536 q495 rfl dJ10_numberOfLeadingZeros_19 ?_
    refine g_icmp_lt C 33 dJ10_numberOfLeadingZeros_22 (by decide) (by omega) (fun h22 => ?_) (fun h22 => ?_)
    · first | exact g_locR rfl (s33 0 x (by omega) (by omega) (by omega) (by omega) (by simp)) | exact g_locR rfl (s33 16 (x / 65536) (by omega) (by omega) (by omega) (by omega) rfl)
    · refine g_iinc C dJ10_numberOfLeadingZeros_25 rfl (by decide) ?_
      refine g_iload_n C dJ10_numberOfLeadingZeros_28 rfl ?_
      refine g_bipush C dJ10_numberOfLeadingZeros_29 (by decide) ?_
      refine g_iushr C dJ10_numberOfLeadingZeros_31 ?_
      rw [e (by omega)]
      refine g_istore_n C dJ10_numberOfLeadingZeros_32 (by decide) ?_
      first | exact g_locR rfl (s33 0 x (by omega) (by omega) (by omega) (by omega) (by simp)) | exact g_locR rfl (s33 16 (x / 65536) (by omega) (by omega) (by omega) (by omega) rfl)
  · refine g_iload_n C dJ10_numberOfLeadingZeros_4 rfl ?_
    refine g_if_ne C 13 dJ10_numberOfLeadingZeros_5 (by decide) (by omega) (fun h5 => ?_) (fun h5 => ?_)
    · refine g_iconst C dJ10_numberOfLeadingZeros_13 ?_
      exact g_iret C rfl ⟨_, rfl, ⟨31, by omega, by omega, bi_neg hr.1 (by omega)⟩, rfl⟩ dJ10_numberOfLeadingZeros_14
    · exact absurd h5 hx
/-- a long that is not 0: the place that it names is a bit that is set -/
theorem cJ_nlz {Z : Zk} {v : Int64} (hv : v ≠ 0) : Ct Z yJ9_numberOfLeadingZeros hJ9_numberOfLeadingZeros 2 50 [.long v] [] 0 0 (Ri fun r w => (0 ≤ r ∧ r ≤ 63 ∧ bt v (63 - r) = true) ∧ w = []) := by
  refine Ct.of RJ9 "numberOfLeadingZeros" (by decide +kernel) rfl rfl hkJ9_numberOfLeadingZeros (Nat.le_of_ble_eq_true rfl) (fun X hZ C => ?_)
  subst hZ
  have hl : inR (l2i v) := i32_range _
  have hh : inR (l2i (lushr v 32)) := i32_range _
  have hne : l2i (lushr v 32) = 0 → l2i v ≠ 0 := by
    intro h1 h2
    apply hv
    apply bt_ext
    intro i i0 i1
    rw [bt_0]
    by_cases q : i < 32
    · have := bi_l2i v (j := i.toNat) (by omega)
      rw [h2, Int.toNat_of_nonneg i0] at this
      rw [← this]
      have z : ∀ j : Nat, j < 32 → bi 0 j = false := by decide +kernel
      exact z _ (by omega)
    · have := bi_l2i (lushr v 32) (j := (i - 32).toNat) (by omega)
      rw [h1, Int.toNat_of_nonneg (by omega), bt_lushr (by omega) (by omega) (by omega) (by omega), show 32 + (i - 32) = i by omega] at this
      rw [← this]
      have z : ∀ j : Nat, j < 32 → bi 0 j = false := by decide +kernel
      exact z _ (by omega)
  refine g_lload_n C dJ9_numberOfLeadingZeros_0 rfl ?_
  refine g_bipush C dJ9_numberOfLeadingZeros_1 (by decide) ?_
  refine g_lushr C dJ9_numberOfLeadingZeros_3 ?_
  refine g_l2i C dJ9_numberOfLeadingZeros_4 ?_
  refine g_istore_n C dJ9_numberOfLeadingZeros_5 (by decide) ?_
  refine g_iload_n C dJ9_numberOfLeadingZeros_6 rfl ?_
  refine g_if_ne C 21 dJ9_numberOfLeadingZeros_7 (by decide) (by omega) (fun h7 => ?_) (fun h7 => ?_)
  · refine g_iload_n C dJ9_numberOfLeadingZeros_21 rfl ?_
    refine g_cSPi C [_] _ [] cal_J9_308 (cJ_nlzI hh h7) (by decide) rfl rfl rfl (Nat.le_of_ble_eq_true rfl) (room_b rfl) dJ9_numberOfLeadingZeros_22 (fun r22 hw22 => ?_)
    obtain ⟨c, c1, rfl, c2⟩ := hw22
    rw [bi_l2i _ c1, bt_lushr (by omega) (by omega) (by omega) (by omega)] at c2
    exact g_iret C rfl ⟨_, rfl, by first | exact ⟨by omega, by omega, by rw [show 63 - (32 + (31 - (c : Int))) = c by omega]; exact c2⟩ | exact ⟨by omega, by omega, by rw [show 63 - (31 - (c : Int)) = 32 + c by omega]; exact c2⟩, rfl⟩ dJ9_numberOfLeadingZeros_25
  · refine g_bipush C dJ9_numberOfLeadingZeros_10 (by decide) ?_
    refine g_lload_n C dJ9_numberOfLeadingZeros_12 rfl ?_
    refine g_l2i C dJ9_numberOfLeadingZeros_13 ?_
    refine g_cSPi C [_] _ [] cal_J9_308 (cJ_nlzI hl (hne h7)) (by decide) rfl rfl rfl (Nat.le_of_ble_eq_true rfl) (room_b rfl) dJ9_numberOfLeadingZeros_14 (fun r14 hw14 => ?_)
    obtain ⟨c, c1, rfl, c2⟩ := hw14
    rw [bi_l2i v c1] at c2
    refine g_iadd C dJ9_numberOfLeadingZeros_17 ?_
    refine g_goto C 25 dJ9_numberOfLeadingZeros_18 (by decide) ?_
    exact g_iret C rfl ⟨_, rfl, by first | exact ⟨by omega, by omega, by rw [show 63 - (32 + (31 - (c : Int))) = c by omega]; exact c2⟩ | exact ⟨by omega, by omega, by rw [show 63 - (31 - (c : Int)) = 32 + c by omega]; exact c2⟩, rfl⟩ dJ9_numberOfLeadingZeros_25
