/-! Patterns: plain, ends, place, character, choice -/
theorem cP_plain {Z : Zk} {c : Int} {b : Bool} (hc : inR c) : Ct Z yX3_plain hX3_plain 5 160 [vI c, vI (b2 b)] [] 0 0 (Rz fun r w => r = plainB c b ∧ w = []) := by
  refine Ct.of RX3 "plain" (by decide +kernel) rfl rfl hkX3_plain (Nat.le_of_ble_eq_true rfl) (fun X hZ C => ?_)
  subst hZ
  have j25 : ∀ i : Nat, i < 6 → i = (if b then 0 else 1) → 32 ≤ c → c ≤ 126 → G X 2 0 0 [] 25 [(0, vI c), (1, vI (b2 b))] [.ref (X.Z.K i)] := by
    intro i hi hib h32 h126
    refine g_iload_n C dX3_plain_25 rfl ?_
    refine g_cKi C [_] _ hi cal_X3_145 (cS_idx hi hc) rfl rfl (Nat.le_of_ble_eq_true rfl) (room_b rfl) dX3_plain_26 (fun r26 hw26 => ?_)
    refine g_if_ge C 36 dX3_plain_29 (by decide) (by omega) (fun h29 => ?_) (fun h29 => ?_)
    · refine g_iconst C dX3_plain_36 ?_
      exact g_zret C _ (by first | exact (show (1 : Int) = b2 true from rfl) | exact (show (0 : Int) = b2 false from rfl)) rfl ⟨_, rfl, by unfold plainB; rw [← hib]; rcases hw26 with ⟨q1, q2, q3⟩ | ⟨q1, q3⟩ <;> first | (exfalso; omega) | simp [q3, h32, h126], rfl⟩ dX3_plain_37
    · refine g_iconst C dX3_plain_32 ?_
      refine g_goto C 37 dX3_plain_33 (by decide) ?_
      exact g_zret C _ (by first | exact (show (1 : Int) = b2 true from rfl) | exact (show (0 : Int) = b2 false from rfl)) rfl ⟨_, rfl, by unfold plainB; rw [← hib]; rcases hw26 with ⟨q1, q2, q3⟩ | ⟨q1, q3⟩ <;> first | (exfalso; omega) | simp [q3, h32, h126], rfl⟩ dX3_plain_37
  refine g_iload_n C dX3_plain_0 rfl ?_
  refine g_bipush C dX3_plain_1 (by decide) ?_
  refine g_icmp_lt C 12 dX3_plain_3 (by decide) (by omega) (fun h3 => ?_) (fun h3 => ?_)
  · refine g_iconst C dX3_plain_12 ?_
    exact g_zret C false rfl rfl ⟨_, rfl, by unfold plainB; first | (have : ¬ (32 ≤ c) := by omega); simp [this]; done | (have : ¬ (c ≤ 126) := by omega); simp [this]; done, rfl⟩ dX3_plain_13
  · refine g_iload_n C dX3_plain_6 rfl ?_
    refine g_bipush C dX3_plain_7 (by decide) ?_
    refine g_icmp_le C 14 dX3_plain_9 (by decide) (by omega) (fun h9 => ?_) (fun h9 => ?_)
    · refine g_iload_n C dX3_plain_14 rfl ?_
      refine g_if_eq C 23 dX3_plain_15 (by decide) (b2_r _) (fun h15 => ?_) (fun h15 => ?_)
      · refine g_ldcS C 1 (by decide) rfl rfl dX3_plain_23 ?_
        first | exact j25 0 (by decide) (by rw [(b2_ne0 _).mp h15]; rfl) (by omega) (by omega) | exact j25 1 (by decide) (by rw [(b2_0 _).mp h15]; rfl) (by omega) (by omega)
      · refine g_ldcS C 0 (by decide) rfl rfl dX3_plain_18 ?_
        refine g_goto C 25 dX3_plain_20 (by decide) ?_
        first | exact j25 0 (by decide) (by rw [(b2_ne0 _).mp h15]; rfl) (by omega) (by omega) | exact j25 1 (by decide) (by rw [(b2_0 _).mp h15]; rfl) (by omega) (by omega)
    · refine g_iconst C dX3_plain_12 ?_
      exact g_zret C false rfl rfl ⟨_, rfl, by unfold plainB; first | (have : ¬ (32 ≤ c) := by omega); simp [this]; done | (have : ¬ (c ≤ 126) := by omega); simp [this]; done, rfl⟩ dX3_plain_13
theorem cP_ends {Z : Zk} {tape : Int → Int} {a : Nat → Nat} {len : Int} {wrong : Int} {low : Int → Int64} {high : Int → Int64} {owners : Int → Int} {follows : Int → Int64} {isLast : Int → Bool} {start : Int → Int64} {places : Int} {count : Int} {empty : Int → Bool} {firsts : Int → Int64} {lasts : Int → Int64} {top : Int} {opn : Int} {cur : Int} (h0 : 0 ≤ cur) (h1 : cur ≤ len) (h2 : len ≤ 2048) : Ct Z yX3_ends hX3_ends 2 50 [.ref (a 0)] (wP Z a (.ref (a 2)) len wrong low high owners follows isLast start places count empty firsts lasts top opn cur ++ [(a 2, eB Z 2048 tape)]) 0 0 (Rz fun r w => r = endsB (chr tape len cur) ∧ w = wP Z a (.ref (a 2)) len wrong low high owners follows isLast start places count empty firsts lasts top opn cur ++ [(a 2, eB Z 2048 tape)]) := by
  refine Ct.of RX3 "ends" (by decide +kernel) rfl rfl hkX3_ends (Nat.le_of_ble_eq_true rfl) (fun X hZ C => ?_)
  subst hZ
  have hcr := chr_r tape len cur
  refine g_aload_n C dX3_ends_0 rfl ?_
  refine g_cVWi C [] _ 0 cal_X3_84 (cP_c h0 h1 h2) rfl rfl rfl rfl (Nat.le_of_ble_eq_true rfl) (room_b rfl) dX3_ends_1 (fun r1 w hw1 => ?_)
  obtain ⟨rfl, rfl⟩ := hw1
  refine g_if_lt C 34 dX3_ends_4 (by decide) (by omega) (fun h4 => ?_) (fun h4 => ?_)
  · refine g_iconst C dX3_ends_34 ?_
    refine g_goto C 39 dX3_ends_35 (by decide) ?_
    exact g_zret C _ (by first | exact (show (1 : Int) = b2 true from rfl) | exact (show (0 : Int) = b2 false from rfl)) rfl ⟨_, rfl, by unfold endsB; first | (have : chr tape len cur < 0 := by omega); simp [this]; done | (have : chr tape len cur = 47 := by omega); simp [this]; done | (have : chr tape len cur = 124 := by omega); simp [this]; done | (have : chr tape len cur = 41 := by omega); simp [this]; done | (have q1 : ¬ chr tape len cur < 0 := by omega); (have q2 : chr tape len cur ≠ 47 := by omega); (have q3 : chr tape len cur ≠ 124 := by omega); (have q4 : chr tape len cur ≠ 41 := by omega); simp [q1, q2, q3, q4]; done, rfl⟩ dX3_ends_39
  · refine g_aload_n C dX3_ends_7 rfl ?_
    refine g_cVWi C [] _ 0 cal_X3_84 (cP_c h0 h1 h2) rfl rfl rfl rfl (Nat.le_of_ble_eq_true rfl) (room_b rfl) dX3_ends_8 (fun r8 w hw8 => ?_)
    obtain ⟨rfl, rfl⟩ := hw8
    refine g_bipush C dX3_ends_11 (by decide) ?_
    refine g_icmp_eq C 34 dX3_ends_13 (by decide) (by omega) (fun h13 => ?_) (fun h13 => ?_)
    · refine g_iconst C dX3_ends_34 ?_
      refine g_goto C 39 dX3_ends_35 (by decide) ?_
      exact g_zret C _ (by first | exact (show (1 : Int) = b2 true from rfl) | exact (show (0 : Int) = b2 false from rfl)) rfl ⟨_, rfl, by unfold endsB; first | (have : chr tape len cur < 0 := by omega); simp [this]; done | (have : chr tape len cur = 47 := by omega); simp [this]; done | (have : chr tape len cur = 124 := by omega); simp [this]; done | (have : chr tape len cur = 41 := by omega); simp [this]; done | (have q1 : ¬ chr tape len cur < 0 := by omega); (have q2 : chr tape len cur ≠ 47 := by omega); (have q3 : chr tape len cur ≠ 124 := by omega); (have q4 : chr tape len cur ≠ 41 := by omega); simp [q1, q2, q3, q4]; done, rfl⟩ dX3_ends_39
    · refine g_aload_n C dX3_ends_16 rfl ?_
      refine g_cVWi C [] _ 0 cal_X3_84 (cP_c h0 h1 h2) rfl rfl rfl rfl (Nat.le_of_ble_eq_true rfl) (room_b rfl) dX3_ends_17 (fun r17 w hw17 => ?_)
      obtain ⟨rfl, rfl⟩ := hw17
      refine g_bipush C dX3_ends_20 (by decide) ?_
      refine g_icmp_eq C 34 dX3_ends_22 (by decide) (by omega) (fun h22 => ?_) (fun h22 => ?_)
      · refine g_iconst C dX3_ends_34 ?_
        refine g_goto C 39 dX3_ends_35 (by decide) ?_
        exact g_zret C _ (by first | exact (show (1 : Int) = b2 true from rfl) | exact (show (0 : Int) = b2 false from rfl)) rfl ⟨_, rfl, by unfold endsB; first | (have : chr tape len cur < 0 := by omega); simp [this]; done | (have : chr tape len cur = 47 := by omega); simp [this]; done | (have : chr tape len cur = 124 := by omega); simp [this]; done | (have : chr tape len cur = 41 := by omega); simp [this]; done | (have q1 : ¬ chr tape len cur < 0 := by omega); (have q2 : chr tape len cur ≠ 47 := by omega); (have q3 : chr tape len cur ≠ 124 := by omega); (have q4 : chr tape len cur ≠ 41 := by omega); simp [q1, q2, q3, q4]; done, rfl⟩ dX3_ends_39
      · refine g_aload_n C dX3_ends_25 rfl ?_
        refine g_cVWi C [] _ 0 cal_X3_84 (cP_c h0 h1 h2) rfl rfl rfl rfl (Nat.le_of_ble_eq_true rfl) (room_b rfl) dX3_ends_26 (fun r26 w hw26 => ?_)
        obtain ⟨rfl, rfl⟩ := hw26
        refine g_bipush C dX3_ends_29 (by decide) ?_
        refine g_icmp_ne C 38 dX3_ends_31 (by decide) (by omega) (fun h31 => ?_) (fun h31 => ?_)
        · refine g_iconst C dX3_ends_38 ?_
          exact g_zret C _ (by first | exact (show (1 : Int) = b2 true from rfl) | exact (show (0 : Int) = b2 false from rfl)) rfl ⟨_, rfl, by unfold endsB; first | (have : chr tape len cur < 0 := by omega); simp [this]; done | (have : chr tape len cur = 47 := by omega); simp [this]; done | (have : chr tape len cur = 124 := by omega); simp [this]; done | (have : chr tape len cur = 41 := by omega); simp [this]; done | (have q1 : ¬ chr tape len cur < 0 := by omega); (have q2 : chr tape len cur ≠ 47 := by omega); (have q3 : chr tape len cur ≠ 124 := by omega); (have q4 : chr tape len cur ≠ 41 := by omega); simp [q1, q2, q3, q4]; done, rfl⟩ dX3_ends_39
        · refine g_iconst C dX3_ends_34 ?_
          refine g_goto C 39 dX3_ends_35 (by decide) ?_
          exact g_zret C _ (by first | exact (show (1 : Int) = b2 true from rfl) | exact (show (0 : Int) = b2 false from rfl)) rfl ⟨_, rfl, by unfold endsB; first | (have : chr tape len cur < 0 := by omega); simp [this]; done | (have : chr tape len cur = 47 := by omega); simp [this]; done | (have : chr tape len cur = 124 := by omega); simp [this]; done | (have : chr tape len cur = 41 := by omega); simp [this]; done | (have q1 : ¬ chr tape len cur < 0 := by omega); (have q2 : chr tape len cur ≠ 47 := by omega); (have q3 : chr tape len cur ≠ 124 := by omega); (have q4 : chr tape len cur ≠ 41 := by omega); simp [q1, q2, q3, q4]; done, rfl⟩ dX3_ends_39
/-- the world when a text is broken at e: what it holds else doesn't matter -/
def ErrP (Z : Zk) (a : Nat → Nat) (tape : Int → Int) (e : Int) (w : va_W) : Prop := ∃ (len : Int) (low high : Int → Int64) (owners : Int → Int) (follows : Int → Int64) (isLast : Int → Bool) (start : Int → Int64) (places count : Int) (empty : Int → Bool) (firsts lasts : Int → Int64) (top opn cur : Int), w = wP Z a (.ref (a 2)) len e low high owners follows isLast start places count empty firsts lasts top opn cur ++ [(a 2, eB Z 2048 tape)]
theorem cP_character {Z : Zk} {tape : Int → Int} {a : Nat → Nat} {len : Int} {wrong : Int} {low : Int → Int64} {high : Int → Int64} {owners : Int → Int} {follows : Int → Int64} {isLast : Int → Bool} {start : Int → Int64} {places : Int} {count : Int} {empty : Int → Bool} {firsts : Int → Int64} {lasts : Int → Int64} {top : Int} {opn : Int} {cur : Int} (b : Bool) (h0 : 0 ≤ cur) (h1 : cur ≤ len) (h2 : len ≤ 2048) : Ct Z yX3_character hX3_character 6 190 [.ref (a 0), vI (b2 b)] (wP Z a (.ref (a 2)) len wrong low high owners follows isLast start places count empty firsts lasts top opn cur ++ [(a 2, eB Z 2048 tape)]) 0 0 (Th (Ri fun r w => chrOk tape len cur b = true ∧ r = chrV tape len cur ∧ w = wP Z a (.ref (a 2)) len wrong low high owners follows isLast start places count empty firsts lasts top opn (chrN tape len cur) ++ [(a 2, eB Z 2048 tape)]) (fun x w => chrOk tape len cur b = false ∧ x = a 1 ∧ ErrP Z a tape (chrE tape len cur) w)) := by
  refine Ct.of RX3 "character" (by decide +kernel) rfl rfl hkX3_character (Nat.le_of_ble_eq_true rfl) (fun X hZ C => ?_)
  subst hZ
  have hcr := chr_r tape len cur
  have hcr1 := chr_r tape len (cur + 1)
  have j102 : chr tape len cur = 92 → G X 5 0 0 (wP X.Z a (.ref (a 2)) len wrong low high owners follows isLast start places count empty firsts lasts top opn (cur + 1) ++ [(a 2, eB X.Z 2048 tape)]) 102 [(0, .ref (a 0))] [vI (escV (chr tape len (cur + 1)))] := by
    intro h92
    have hes := escV_r (chr tape len (cur + 1))
    have eOk : chrOk tape len cur b = decide (0 ≤ escV (chr tape len (cur + 1))) := by unfold chrOk; rw [if_pos h92]
    have eV : chrV tape len cur = escV (chr tape len (cur + 1)) := by unfold chrV; rw [if_pos h92]
    have eN : chrN tape len cur = cur + 1 + 1 := by unfold chrN; rw [if_pos h92]; omega
    have eE : chrE tape len cur = cur + 1 := by unfold chrE; rw [if_pos h92]
    rw [eOk, eV, eN, eE] at C
    refine g_istore C dX3_character_102 (by decide) ?_
    refine g_iload C dX3_character_104 rfl ?_
    refine g_if_ge C 114 dX3_character_106 (by decide) (by omega) (fun h106 => ?_) (fun h106 => ?_)
    · refine g_aload_n C dX3_character_114 rfl ?_
      refine g_dup C dX3_character_115 rfl ?_
      refine gP_at C dX3_character_116 ?_
      refine g_iconst C dX3_character_119 ?_
      refine g_iadd C dX3_character_120 ?_
      refine pP_at C dX3_character_121 ?_
      refine g_iload C dX3_character_124 rfl ?_
      exact g_iret C rfl (Or.inl ⟨_, rfl, by simp; omega, rfl, rfl⟩) dX3_character_126
    · refine g_aload_n C dX3_character_109 rfl ?_
      refine g_cVWr C [] _ 0 cal_X3_88 cP_fail rfl rfl rfl rfl (Nat.le_of_ble_eq_true rfl) (room_b rfl) dX3_character_110 (fun r110 w hw110 => ?_)
      obtain ⟨rfl, rfl⟩ := hw110
      refine g_athrow C dX3_character_113 ?_
      exact gt_out C rfl (Or.inr ⟨_, rfl, by simp; omega, rfl, _, _, _, _, _, _, _, _, _, _, _, _, _, _, _, rfl⟩)
  refine g_aload_n C dX3_character_0 rfl ?_
  refine g_cVWi C [] _ 0 cal_X3_84 (cP_c h0 h1 h2) rfl rfl rfl rfl (Nat.le_of_ble_eq_true rfl) (room_b rfl) dX3_character_1 (fun r1 w hw1 => ?_)
  obtain ⟨rfl, rfl⟩ := hw1
  refine g_istore_n C dX3_character_4 (by decide) ?_
  refine g_iload_n C dX3_character_5 rfl ?_
  refine g_bipush C dX3_character_6 (by decide) ?_
  refine g_icmp_eq C 36 dX3_character_8 (by decide) (by omega) (fun h8 => ?_) (fun h8 => ?_)
  · have hlt := chr_lt (t := tape) (n := len) (i := cur) (by omega)
    refine g_aload_n C dX3_character_36 rfl ?_
    refine g_dup C dX3_character_37 rfl ?_
    refine gP_at C dX3_character_38 ?_
    refine g_iconst C dX3_character_41 ?_
    refine g_iadd C dX3_character_42 ?_
    refine pP_at C dX3_character_43 ?_
    refine g_aload_n C dX3_character_46 rfl ?_
    refine g_cVWi C [] _ 0 cal_X3_84 (cP_c (by omega) (by omega) h2) rfl rfl rfl rfl (Nat.le_of_ble_eq_true rfl) (room_b rfl) dX3_character_47 (fun r47 w hw47 => ?_)
    obtain ⟨rfl, rfl⟩ := hw47
    refine g_istore_n C dX3_character_50 (by decide) ?_
    refine g_iload_n C dX3_character_51 rfl ?_
    refine g_bipush C dX3_character_52 (by decide) ?_
    refine g_icmp_ne C 62 dX3_character_54 (by decide) (by omega) (fun h54 => ?_) (fun h54 => ?_)
    · refine g_iload_n C dX3_character_62 rfl ?_
      refine g_bipush C dX3_character_63 (by decide) ?_
      refine g_icmp_ne C 73 dX3_character_65 (by decide) (by omega) (fun h65 => ?_) (fun h65 => ?_)
      · refine g_iload_n C dX3_character_73 rfl ?_
        refine g_bipush C dX3_character_74 (by decide) ?_
        refine g_icmp_ne C 84 dX3_character_76 (by decide) (by omega) (fun h76 => ?_) (fun h76 => ?_)
        · refine g_iload_n C dX3_character_84 rfl ?_
          refine g_if_le C 101 dX3_character_85 (by decide) (by omega) (fun h85 => ?_) (fun h85 => ?_)
          · refine g_iconst C dX3_character_101 ?_
            refine g_locR (L' := [(0, .ref (a 0))]) rfl ?_
            have j := j102 h8
            have ee : ∀ v : Int, v = escV (chr tape len (cur + 1)) → G X 5 0 0 (wP X.Z a (.ref (a 2)) len wrong low high owners follows isLast start places count empty firsts lasts top opn (cur + 1) ++ [(a 2, eB X.Z 2048 tape)]) 102 [(0, .ref (a 0))] [vI v] := fun v hv => by rw [hv]; exact j
            exact ee _ (by unfold escV; first | rw [if_pos h54] | (rw [if_neg h54]; first | rw [if_pos h65] | (rw [if_neg h65]; first | rw [if_pos h76] | (rw [if_neg h76]; first | rw [if_neg (fun z => absurd z.1 (by omega))] | rw [if_pos (And.intro (by omega) q3)] | rw [if_neg (fun z => absurd (z.2.symm.trans q3) (by decide))]))))
          · refine g_ldcS C 2 (by decide) rfl rfl dX3_character_88 ?_
            refine g_iload_n C dX3_character_90 rfl ?_
            refine g_cKi C [_] _ (by decide) cal_X3_145 (cS_idx (by decide) (by omega)) rfl rfl (Nat.le_of_ble_eq_true rfl) (room_b rfl) dX3_character_91 (fun r91 hw91 => ?_)
            refine g_if_lt C 101 dX3_character_94 (by decide) (by omega) (fun h94 => ?_) (fun h94 => ?_)
            · have q3 : strHas 2 (chr tape len (cur + 1)) = false := by rcases hw91 with ⟨q1, q2, q3⟩ | ⟨q1, q3⟩; (exfalso; omega); exact q3
              refine g_iconst C dX3_character_101 ?_
              refine g_locR (L' := [(0, .ref (a 0))]) rfl ?_
              have j := j102 h8
              have ee : ∀ v : Int, v = escV (chr tape len (cur + 1)) → G X 5 0 0 (wP X.Z a (.ref (a 2)) len wrong low high owners follows isLast start places count empty firsts lasts top opn (cur + 1) ++ [(a 2, eB X.Z 2048 tape)]) 102 [(0, .ref (a 0))] [vI v] := fun v hv => by rw [hv]; exact j
              exact ee _ (by unfold escV; first | rw [if_pos h54] | (rw [if_neg h54]; first | rw [if_pos h65] | (rw [if_neg h65]; first | rw [if_pos h76] | (rw [if_neg h76]; first | rw [if_neg (fun z => absurd z.1 (by omega))] | rw [if_pos (And.intro (by omega) q3)] | rw [if_neg (fun z => absurd (z.2.symm.trans q3) (by decide))]))))
            · have q3 : strHas 2 (chr tape len (cur + 1)) = true := by rcases hw91 with ⟨q1, q2, q3⟩ | ⟨q1, q3⟩; exact q3; (exfalso; omega)
              refine g_iload_n C dX3_character_97 rfl ?_
              refine g_goto C 102 dX3_character_98 (by decide) ?_
              refine g_locR (L' := [(0, .ref (a 0))]) rfl ?_
              have j := j102 h8
              have ee : ∀ v : Int, v = escV (chr tape len (cur + 1)) → G X 5 0 0 (wP X.Z a (.ref (a 2)) len wrong low high owners follows isLast start places count empty firsts lasts top opn (cur + 1) ++ [(a 2, eB X.Z 2048 tape)]) 102 [(0, .ref (a 0))] [vI v] := fun v hv => by rw [hv]; exact j
              exact ee _ (by unfold escV; first | rw [if_pos h54] | (rw [if_neg h54]; first | rw [if_pos h65] | (rw [if_neg h65]; first | rw [if_pos h76] | (rw [if_neg h76]; first | rw [if_neg (fun z => absurd z.1 (by omega))] | rw [if_pos (And.intro (by omega) q3)] | rw [if_neg (fun z => absurd (z.2.symm.trans q3) (by decide))]))))
        · refine g_bipush C dX3_character_79 (by decide) ?_
          refine g_goto C 102 dX3_character_81 (by decide) ?_
          refine g_locR (L' := [(0, .ref (a 0))]) rfl ?_
          have j := j102 h8
          have ee : ∀ v : Int, v = escV (chr tape len (cur + 1)) → G X 5 0 0 (wP X.Z a (.ref (a 2)) len wrong low high owners follows isLast start places count empty firsts lasts top opn (cur + 1) ++ [(a 2, eB X.Z 2048 tape)]) 102 [(0, .ref (a 0))] [vI v] := fun v hv => by rw [hv]; exact j
          exact ee _ (by unfold escV; first | rw [if_pos h54] | (rw [if_neg h54]; first | rw [if_pos h65] | (rw [if_neg h65]; first | rw [if_pos h76] | (rw [if_neg h76]; first | rw [if_neg (fun z => absurd z.1 (by omega))] | rw [if_pos (And.intro (by omega) q3)] | rw [if_neg (fun z => absurd (z.2.symm.trans q3) (by decide))]))))
      · refine g_bipush C dX3_character_68 (by decide) ?_
        refine g_goto C 102 dX3_character_70 (by decide) ?_
        refine g_locR (L' := [(0, .ref (a 0))]) rfl ?_
        have j := j102 h8
        have ee : ∀ v : Int, v = escV (chr tape len (cur + 1)) → G X 5 0 0 (wP X.Z a (.ref (a 2)) len wrong low high owners follows isLast start places count empty firsts lasts top opn (cur + 1) ++ [(a 2, eB X.Z 2048 tape)]) 102 [(0, .ref (a 0))] [vI v] := fun v hv => by rw [hv]; exact j
        exact ee _ (by unfold escV; first | rw [if_pos h54] | (rw [if_neg h54]; first | rw [if_pos h65] | (rw [if_neg h65]; first | rw [if_pos h76] | (rw [if_neg h76]; first | rw [if_neg (fun z => absurd z.1 (by omega))] | rw [if_pos (And.intro (by omega) q3)] | rw [if_neg (fun z => absurd (z.2.symm.trans q3) (by decide))]))))
    · refine g_bipush C dX3_character_57 (by decide) ?_
      refine g_goto C 102 dX3_character_59 (by decide) ?_
      refine g_locR (L' := [(0, .ref (a 0))]) rfl ?_
      have j := j102 h8
      have ee : ∀ v : Int, v = escV (chr tape len (cur + 1)) → G X 5 0 0 (wP X.Z a (.ref (a 2)) len wrong low high owners follows isLast start places count empty firsts lasts top opn (cur + 1) ++ [(a 2, eB X.Z 2048 tape)]) 102 [(0, .ref (a 0))] [vI v] := fun v hv => by rw [hv]; exact j
      exact ee _ (by unfold escV; first | rw [if_pos h54] | (rw [if_neg h54]; first | rw [if_pos h65] | (rw [if_neg h65]; first | rw [if_pos h76] | (rw [if_neg h76]; first | rw [if_neg (fun z => absurd z.1 (by omega))] | rw [if_pos (And.intro (by omega) q3)] | rw [if_neg (fun z => absurd (z.2.symm.trans q3) (by decide))]))))
  · have eOk : chrOk tape len cur b = plainB (chr tape len cur) b := by unfold chrOk; rw [if_neg h8]
    have eV : chrV tape len cur = chr tape len cur := by unfold chrV; rw [if_neg h8]
    have eN : chrN tape len cur = cur + 1 := by unfold chrN; rw [if_neg h8]
    have eE : chrE tape len cur = cur := by unfold chrE; rw [if_neg h8]
    rw [eOk, eV, eN, eE] at C
    refine g_iload_n C dX3_character_11 rfl ?_
    refine g_iload_n C dX3_character_12 rfl ?_
    refine g_cSPz C [_, _] _ [] cal_X3_137 (cP_plain (by omega)) (by decide) rfl rfl rfl (Nat.le_of_ble_eq_true rfl) (room_b rfl) dX3_character_13 (fun r13 hw13 => ?_)
    refine g_if_ne C 24 dX3_character_16 (by decide) (b2_r _) (fun h16 => ?_) (fun h16 => ?_)
    · refine g_aload_n C dX3_character_24 rfl ?_
      refine g_dup C dX3_character_25 rfl ?_
      refine gP_at C dX3_character_26 ?_
      refine g_iconst C dX3_character_29 ?_
      refine g_iadd C dX3_character_30 ?_
      refine pP_at C dX3_character_31 ?_
      refine g_iload_n C dX3_character_34 rfl ?_
      exact g_iret C rfl (Or.inl ⟨_, rfl, by rw [← hw13]; exact (b2_ne0 _).mp h16, rfl, rfl⟩) dX3_character_35
    · refine g_aload_n C dX3_character_19 rfl ?_
      refine g_cVWr C [] _ 0 cal_X3_88 cP_fail rfl rfl rfl rfl (Nat.le_of_ble_eq_true rfl) (room_b rfl) dX3_character_20 (fun r20 w hw20 => ?_)
      obtain ⟨rfl, rfl⟩ := hw20
      refine g_athrow C dX3_character_23 ?_
      exact gt_out C rfl (Or.inr ⟨_, rfl, by rw [← hw13]; exact (b2_0 _).mp h16, rfl, _, _, _, _, _, _, _, _, _, _, _, _, _, _, _, rfl⟩)
theorem cP_place {Z : Zk} {tape : Int → Int} {a : Nat → Nat} {len : Int} {wrong : Int} {low : Int → Int64} {high : Int → Int64} {owners : Int → Int} {follows : Int → Int64} {isLast : Int → Bool} {start : Int → Int64} {places : Int} {count : Int} {empty : Int → Bool} {firsts : Int → Int64} {lasts : Int → Int64} {top : Int} {opn : Int} {cur : Int} (h0 : 0 ≤ cur) (h1 : cur ≤ len) (h2 : len ≤ 2048) (hp0 : 0 ≤ places) (hp1 : places ≤ 400) (ht0 : 0 ≤ top) (ht1 : top < 160) : Ct Z yX3_place hX3_place 6 190 [.ref (a 0)] (wP Z a (.ref (a 2)) len wrong low high owners follows isLast start places count empty firsts lasts top opn cur ++ [(a 2, eB Z 2048 tape)]) 0 0 (Th (Ri fun r w => (chr tape len cur = 91 ∨ chr tape len cur = 46 ∨ chr tape len cur = 92 ∨ plainB (chr tape len cur) false = true) ∧ places < 400 ∧ r = places ∧ w = wP Z a (.ref (a 2)) len wrong (up low places 0) (up high places 0) (up owners places count) (upTo follows (7 * places) 7 (fun _ => 0)) (up isLast places false) start (places + 1) count (up empty top false) (up (upTo firsts (7 * top) 7 (fun _ => 0)) (7 * top + places / 64) (upTo firsts (7 * top) 7 (fun _ => 0) (7 * top + places / 64) ||| lshl 1 (places % 64))) (up (upTo lasts (7 * top) 7 (fun _ => 0)) (7 * top + places / 64) (upTo lasts (7 * top) 7 (fun _ => 0) (7 * top + places / 64) ||| lshl 1 (places % 64))) (top + 1) opn cur ++ [(a 2, eB Z 2048 tape)]) (fun x w => (¬ (chr tape len cur = 91 ∨ chr tape len cur = 46 ∨ chr tape len cur = 92 ∨ plainB (chr tape len cur) false = true) ∨ places = 400) ∧ x = a 1 ∧ ErrP Z a tape cur w)) := by
  refine Ct.of RX3 "place" (by decide +kernel) rfl rfl hkX3_place (Nat.le_of_ble_eq_true rfl) (fun X hZ C => ?_)
  subst hZ
  have hcr := chr_r tape len cur
  have j105 : (chr tape len cur = 91 ∨ chr tape len cur = 46 ∨ chr tape len cur = 92 ∨ plainB (chr tape len cur) false = true) → places < 400 → G X 5 0 0 (wP X.Z a (.ref (a 2)) len wrong (up low places 0) (up high places 0) (up owners places count) (upTo follows (7 * places) 0 (fun _ => 0)) (up isLast places false) start (places + 1) count empty firsts lasts top opn cur ++ [(a 2, eB X.Z 2048 tape)]) 105 [(0, .ref (a 0)), (3, vI places), (4, vI 0)] [] := by
    intro hcan hlt
    refine loopZ (fun k => G X 5 0 0 (wP X.Z a (.ref (a 2)) len wrong (up low places 0) (up high places 0) (up owners places count) (upTo follows (7 * places) k (fun _ => 0)) (up isLast places false) start (places + 1) count empty firsts lasts top opn cur ++ [(a 2, eB X.Z 2048 tape)]) 105 [(0, .ref (a 0)), (3, vI places), (4, vI k)] []) 0 7 (by omega) ?_ (fun k hk0 hk1 ih => ?_)
    · show G _ _ _ _ _ _ _ _
      refine g_iload C dX3_place_105 rfl ?_
      refine g_bipush C dX3_place_107 (by decide) ?_
      refine g_icmp_ge C 131 dX3_place_109 (by decide) (by omega) (fun h109 => ?_) (fun h109 => ?_)
      · refine g_aload_n C dX3_place_131 rfl ?_
        refine g_iconst C dX3_place_132 ?_
        refine g_top (show (0 : Int) = b2 false from rfl) ?_
        refine g_cVWi C [_] _ 0 cal_X3_98 (cP_push false ht0 ht1) rfl rfl rfl rfl (Nat.le_of_ble_eq_true rfl) (room_b rfl) dX3_place_133 (fun r133 w hw133 => ?_)
        obtain ⟨rfl, rfl⟩ := hw133
        refine g_istore C dX3_place_136 (by decide) ?_
        refine g_aload_n C dX3_place_138 rfl ?_
        refine gP_firsts C dX3_place_139 ?_
        refine g_bipush C dX3_place_142 (by decide) ?_
        refine g_iload C dX3_place_144 rfl ?_
        refine g_imul C dX3_place_146 ?_
        refine g_iload_n C dX3_place_147 rfl ?_
        refine g_bipush C dX3_place_148 (by decide) ?_
        refine g_idiv C dX3_place_150 (by omega) ?_
        refine g_iadd C dX3_place_151 ?_
        refine g_dup2_11 C dX3_place_152 rfl rfl ?_
        refine lP_firsts C (by omega) dX3_place_153 ?_
        refine g_lconst C 1 dX3_place_154 rfl ?_
        refine g_iload_n C dX3_place_155 rfl ?_
        refine g_bipush C dX3_place_156 (by decide) ?_
        refine g_irem C dX3_place_158 (by omega) ?_
        refine g_lshl C dX3_place_159 ?_
        refine g_lor C dX3_place_160 ?_
        refine sP_firsts C (by omega) dX3_place_161 ?_
        refine g_aload_n C dX3_place_162 rfl ?_
        refine gP_lasts C dX3_place_163 ?_
        refine g_bipush C dX3_place_166 (by decide) ?_
        refine g_iload C dX3_place_168 rfl ?_
        refine g_imul C dX3_place_170 ?_
        refine g_iload_n C dX3_place_171 rfl ?_
        refine g_bipush C dX3_place_172 (by decide) ?_
        refine g_idiv C dX3_place_174 (by omega) ?_
        refine g_iadd C dX3_place_175 ?_
        refine g_dup2_11 C dX3_place_176 rfl rfl ?_
        refine lP_lasts C (by omega) dX3_place_177 ?_
        refine g_lconst C 1 dX3_place_178 rfl ?_
        refine g_iload_n C dX3_place_179 rfl ?_
        refine g_bipush C dX3_place_180 (by decide) ?_
        refine g_irem C dX3_place_182 (by omega) ?_
        refine g_lshl C dX3_place_183 ?_
        refine g_lor C dX3_place_184 ?_
        refine sP_lasts C (by omega) dX3_place_185 ?_
        refine g_iload_n C dX3_place_186 rfl ?_
        exact g_iret C rfl (Or.inl ⟨_, rfl, hcan, hlt, rfl, rfl⟩) dX3_place_187
      · exact absurd h109 (by omega)
    · show G _ _ _ _ _ _ _ _
      refine g_iload C dX3_place_105 rfl ?_
      refine g_bipush C dX3_place_107 (by decide) ?_
      refine g_icmp_ge C 131 dX3_place_109 (by decide) (by omega) (fun h109 => ?_) (fun h109 => ?_)
      · exact absurd h109 (by omega)
      · refine g_aload_n C dX3_place_112 rfl ?_
        refine gP_follows C dX3_place_113 ?_
        refine g_bipush C dX3_place_116 (by decide) ?_
        refine g_iload_n C dX3_place_118 rfl ?_
        refine g_imul C dX3_place_119 ?_
        refine g_iload C dX3_place_120 rfl ?_
        refine g_iadd C dX3_place_122 ?_
        refine g_lconst C 0 dX3_place_123 rfl ?_
        refine sP_follows C (by omega) dX3_place_124 ?_
        refine g_iinc C dX3_place_125 rfl (by decide) ?_
        refine g_goto C 105 dX3_place_128 (by decide) ?_
        refine g_locR (L' := [(0, .ref (a 0)), (3, vI places), (4, vI (k + 1))]) rfl ?_
        rw [upTo_s _ (7 * places) (fun _ => 0) hk0]
        exact ih
  have j36 : ∀ b : Bool, (b = true ↔ (chr tape len cur = 91 ∨ chr tape len cur = 46 ∨ chr tape len cur = 92 ∨ plainB (chr tape len cur) false = true)) → G X 5 0 0 (wP X.Z a (.ref (a 2)) len wrong low high owners follows isLast start places count empty firsts lasts top opn cur ++ [(a 2, eB X.Z 2048 tape)]) 36 [(0, .ref (a 0))] [vI (b2 b)] := by
    intro b hb
    refine g_istore_n C dX3_place_36 (by decide) ?_
    refine g_iload_n C dX3_place_37 rfl ?_
    refine g_if_eq C 51 dX3_place_38 (by decide) (b2_r _) (fun h38 => ?_) (fun h38 => ?_)
    · refine g_aload_n C dX3_place_51 rfl ?_
      refine g_cVWr C [] _ 0 cal_X3_88 cP_fail rfl rfl rfl rfl (Nat.le_of_ble_eq_true rfl) (room_b rfl) dX3_place_52 (fun r52 w hw52 => ?_)
      obtain ⟨rfl, rfl⟩ := hw52
      refine g_athrow C dX3_place_55 ?_
      exact gt_out C rfl (Or.inr ⟨_, rfl, (by first | exact Or.inl (fun z => by rw [hb.mpr z] at h38; exact absurd h38 (by decide)) | exact Or.inr h48), rfl, _, _, _, _, _, _, _, _, _, _, _, _, _, _, _, rfl⟩)
    · refine g_aload_n C dX3_place_41 rfl ?_
      refine gP_places C dX3_place_42 ?_
      refine g_sipush C dX3_place_45 (by decide) ?_
      refine g_icmp_ne C 56 dX3_place_48 (by decide) (by omega) (fun h48 => ?_) (fun h48 => ?_)
      · refine g_aload_n C dX3_place_56 rfl ?_
        refine gP_places C dX3_place_57 ?_
        refine g_istore_n C dX3_place_60 (by decide) ?_
        refine g_aload_n C dX3_place_61 rfl ?_
        refine g_dup C dX3_place_62 rfl ?_
        refine gP_places C dX3_place_63 ?_
        refine g_iconst C dX3_place_66 ?_
        refine g_iadd C dX3_place_67 ?_
        refine pP_places C dX3_place_68 ?_
        refine g_aload_n C dX3_place_71 rfl ?_
        refine gP_low C dX3_place_72 ?_
        refine g_iload_n C dX3_place_75 rfl ?_
        refine g_lconst C 0 dX3_place_76 rfl ?_
        refine sP_low C (by omega) dX3_place_77 ?_
        refine g_aload_n C dX3_place_78 rfl ?_
        refine gP_high C dX3_place_79 ?_
        refine g_iload_n C dX3_place_82 rfl ?_
        refine g_lconst C 0 dX3_place_83 rfl ?_
        refine sP_high C (by omega) dX3_place_84 ?_
        refine g_aload_n C dX3_place_85 rfl ?_
        refine gP_owners C dX3_place_86 ?_
        refine g_iload_n C dX3_place_89 rfl ?_
        refine g_aload_n C dX3_place_90 rfl ?_
        refine gP_count C dX3_place_91 ?_
        refine sP_owners C (by omega) dX3_place_94 ?_
        refine g_aload_n C dX3_place_95 rfl ?_
        refine gP_isLast C dX3_place_96 ?_
        refine g_iload_n C dX3_place_99 rfl ?_
        refine g_iconst C dX3_place_100 ?_
        refine sP_isLast C false (by omega) rfl dX3_place_101 ?_
        refine g_iconst C dX3_place_102 ?_
        refine g_istore C dX3_place_103 (by decide) ?_
        refine g_locR (L' := [(0, .ref (a 0)), (3, vI places), (4, vI 0)]) rfl ?_
        have j := j105 (hb.mp ((b2_ne0 _).mp h38)) (by omega)
        rw [upTo_0] at j
        exact j
      · refine g_aload_n C dX3_place_51 rfl ?_
        refine g_cVWr C [] _ 0 cal_X3_88 cP_fail rfl rfl rfl rfl (Nat.le_of_ble_eq_true rfl) (room_b rfl) dX3_place_52 (fun r52 w hw52 => ?_)
        obtain ⟨rfl, rfl⟩ := hw52
        refine g_athrow C dX3_place_55 ?_
        exact gt_out C rfl (Or.inr ⟨_, rfl, (by first | exact Or.inl (fun z => by rw [hb.mpr z] at h38; exact absurd h38 (by decide)) | exact Or.inr h48), rfl, _, _, _, _, _, _, _, _, _, _, _, _, _, _, _, rfl⟩)
  refine g_aload_n C dX3_place_0 rfl ?_
  refine g_cVWi C [] _ 0 cal_X3_84 (cP_c h0 h1 h2) rfl rfl rfl rfl (Nat.le_of_ble_eq_true rfl) (room_b rfl) dX3_place_1 (fun r1 w hw1 => ?_)
  obtain ⟨rfl, rfl⟩ := hw1
  refine g_istore_n C dX3_place_4 (by decide) ?_
  refine g_iload_n C dX3_place_5 rfl ?_
  refine g_bipush C dX3_place_6 (by decide) ?_
  refine g_icmp_eq C 31 dX3_place_8 (by decide) (by omega) (fun h8 => ?_) (fun h8 => ?_)
  · refine g_iconst C dX3_place_31 ?_
    refine g_goto C 36 dX3_place_32 (by decide) ?_
    refine g_locR (L' := [(0, .ref (a 0))]) rfl ?_
    first | exact j36 true ⟨fun _ => Or.inl h8, fun _ => rfl⟩ | exact j36 true ⟨fun _ => Or.inr (Or.inl h14), fun _ => rfl⟩ | exact j36 true ⟨fun _ => Or.inr (Or.inr (Or.inl h20)), fun _ => rfl⟩ | exact j36 true ⟨fun _ => Or.inr (Or.inr (Or.inr (by rw [← hw25]; exact (b2_ne0 _).mp h28))), fun _ => rfl⟩ | exact j36 false ⟨fun z => (by cases z), fun z => by have q := (b2_0 _).mp h28; rw [hw25] at q; rcases z with z | z | z | z; exact absurd z h8; exact absurd z h14; exact absurd z h20; rw [q] at z; cases z⟩
  · refine g_iload_n C dX3_place_11 rfl ?_
    refine g_bipush C dX3_place_12 (by decide) ?_
    refine g_icmp_eq C 31 dX3_place_14 (by decide) (by omega) (fun h14 => ?_) (fun h14 => ?_)
    · refine g_iconst C dX3_place_31 ?_
      refine g_goto C 36 dX3_place_32 (by decide) ?_
      refine g_locR (L' := [(0, .ref (a 0))]) rfl ?_
      first | exact j36 true ⟨fun _ => Or.inl h8, fun _ => rfl⟩ | exact j36 true ⟨fun _ => Or.inr (Or.inl h14), fun _ => rfl⟩ | exact j36 true ⟨fun _ => Or.inr (Or.inr (Or.inl h20)), fun _ => rfl⟩ | exact j36 true ⟨fun _ => Or.inr (Or.inr (Or.inr (by rw [← hw25]; exact (b2_ne0 _).mp h28))), fun _ => rfl⟩ | exact j36 false ⟨fun z => (by cases z), fun z => by have q := (b2_0 _).mp h28; rw [hw25] at q; rcases z with z | z | z | z; exact absurd z h8; exact absurd z h14; exact absurd z h20; rw [q] at z; cases z⟩
    · refine g_iload_n C dX3_place_17 rfl ?_
      refine g_bipush C dX3_place_18 (by decide) ?_
      refine g_icmp_eq C 31 dX3_place_20 (by decide) (by omega) (fun h20 => ?_) (fun h20 => ?_)
      · refine g_iconst C dX3_place_31 ?_
        refine g_goto C 36 dX3_place_32 (by decide) ?_
        refine g_locR (L' := [(0, .ref (a 0))]) rfl ?_
        first | exact j36 true ⟨fun _ => Or.inl h8, fun _ => rfl⟩ | exact j36 true ⟨fun _ => Or.inr (Or.inl h14), fun _ => rfl⟩ | exact j36 true ⟨fun _ => Or.inr (Or.inr (Or.inl h20)), fun _ => rfl⟩ | exact j36 true ⟨fun _ => Or.inr (Or.inr (Or.inr (by rw [← hw25]; exact (b2_ne0 _).mp h28))), fun _ => rfl⟩ | exact j36 false ⟨fun z => (by cases z), fun z => by have q := (b2_0 _).mp h28; rw [hw25] at q; rcases z with z | z | z | z; exact absurd z h8; exact absurd z h14; exact absurd z h20; rw [q] at z; cases z⟩
      · refine g_iload_n C dX3_place_23 rfl ?_
        refine g_iconst C dX3_place_24 ?_
        refine g_top (show (0 : Int) = b2 false from rfl) ?_
        refine g_cSPz C [_, _] _ [] cal_X3_137 (cP_plain (by omega)) (by decide) rfl rfl rfl (Nat.le_of_ble_eq_true rfl) (room_b rfl) dX3_place_25 (fun r25 hw25 => ?_)
        refine g_if_eq C 35 dX3_place_28 (by decide) (b2_r _) (fun h28 => ?_) (fun h28 => ?_)
        · refine g_iconst C dX3_place_35 ?_
          refine g_locR (L' := [(0, .ref (a 0))]) rfl ?_
          first | exact j36 true ⟨fun _ => Or.inl h8, fun _ => rfl⟩ | exact j36 true ⟨fun _ => Or.inr (Or.inl h14), fun _ => rfl⟩ | exact j36 true ⟨fun _ => Or.inr (Or.inr (Or.inl h20)), fun _ => rfl⟩ | exact j36 true ⟨fun _ => Or.inr (Or.inr (Or.inr (by rw [← hw25]; exact (b2_ne0 _).mp h28))), fun _ => rfl⟩ | exact j36 false ⟨fun z => (by cases z), fun z => by have q := (b2_0 _).mp h28; rw [hw25] at q; rcases z with z | z | z | z; exact absurd z h8; exact absurd z h14; exact absurd z h20; rw [q] at z; cases z⟩
        · refine g_iconst C dX3_place_31 ?_
          refine g_goto C 36 dX3_place_32 (by decide) ?_
          refine g_locR (L' := [(0, .ref (a 0))]) rfl ?_
          first | exact j36 true ⟨fun _ => Or.inl h8, fun _ => rfl⟩ | exact j36 true ⟨fun _ => Or.inr (Or.inl h14), fun _ => rfl⟩ | exact j36 true ⟨fun _ => Or.inr (Or.inr (Or.inl h20)), fun _ => rfl⟩ | exact j36 true ⟨fun _ => Or.inr (Or.inr (Or.inr (by rw [← hw25]; exact (b2_ne0 _).mp h28))), fun _ => rfl⟩ | exact j36 false ⟨fun z => (by cases z), fun z => by have q := (b2_0 _).mp h28; rw [hw25] at q; rcases z with z | z | z | z; exact absurd z h8; exact absurd z h14; exact absurd z h20; rw [q] at z; cases z⟩
theorem chcL_ok {t : Int → Int} {n : Int} : ∀ (f : Nat) (i : Int) (lo hi : Int64) (j : Int) (l h : Int64), chcL t n f i lo hi = .ok (j, l, h) → i ≤ j ∧ j < n := by
  intro f
  induction f with
  | zero => intro i lo hi j l h e; cases e
  | succ f ih =>
    intro i lo hi j l h e
    unfold chcL at e
    by_cases c1 : chrOk t n i true = true
    · have k1 := chrOk_lt c1
      rw [if_pos c1] at e
      by_cases c2 : chr t n (chrN t n i) = 45
      · rw [if_pos c2] at e
        by_cases c3 : chrOk t n (chrN t n i + 1) true = true
        · have k3 := chrOk_lt c3
          rw [if_pos c3] at e
          by_cases c4 : chrV t n (chrN t n i + 1) < chrV t n i
          · rw [if_pos c4] at e; cases e
          · rw [if_neg c4] at e
            by_cases c5 : chr t n (chrN t n (chrN t n i + 1)) = 93
            · rw [if_pos c5] at e
              cases e
              have := chr_lt (t := t) (n := n) (i := chrN t n (chrN t n i + 1)) (by omega)
              omega
            · rw [if_neg c5] at e
              have := ih _ _ _ _ _ _ e
              omega
        · rw [if_neg c3] at e; cases e
      · rw [if_neg c2] at e
        by_cases c5 : chr t n (chrN t n i) = 93
        · rw [if_pos c5] at e
          cases e
          have := chr_lt (t := t) (n := n) (i := chrN t n i) (by omega)
          omega
        · rw [if_neg c5] at e
          have := ih _ _ _ _ _ _ e
          omega
    · rw [if_neg c1] at e; cases e
theorem cP_choice {Z : Zk} {tape : Int → Int} {a : Nat → Nat} {len : Int} {wrong : Int} {low : Int → Int64} {high : Int → Int64} {owners : Int → Int} {follows : Int → Int64} {isLast : Int → Bool} {start : Int → Int64} {places : Int} {count : Int} {empty : Int → Bool} {firsts : Int → Int64} {lasts : Int → Int64} {top : Int} {opn : Int} {cur : Int} {p : Int} (h0 : 0 ≤ cur) (h1 : cur < len) (h2 : len ≤ 2048) (hp0 : 0 ≤ p) (hp1 : p < 400) : Ct Z yX3_choice hX3_choice 7 230 [.ref (a 0), vI p] (wP Z a (.ref (a 2)) len wrong low high owners follows isLast start places count empty firsts lasts top opn cur ++ [(a 2, eB Z 2048 tape)]) 0 0 (Th (Rv fun w => ∃ (j : Int) (l h : Int64), clsR tape len cur (low p) (high p) = .ok (j, l, h) ∧ w = wP Z a (.ref (a 2)) len wrong (up low p l) (up high p h) owners follows isLast start places count empty firsts lasts top opn j ++ [(a 2, eB Z 2048 tape)]) (fun x w => ∃ e, clsR tape len cur (low p) (high p) = .error e ∧ x = a 1 ∧ ErrP Z a tape e w)) := by
  refine Ct.of RX3 "choice" (by decide +kernel) rfl rfl hkX3_choice (Nat.le_of_ble_eq_true rfl) (fun X hZ C => ?_)
  subst hZ
  -- the loop: f steps are left
  have lp : ∀ (oth : Bool) (R : Except Int (Int × Int64 × Int64)), (∀ e, R = .error e → clsR tape len cur (low p) (high p) = .error e) → (∀ j l h, R = .ok (j, l, h) → clsR tape len cur (low p) (high p) = .ok (j + 1, if oth then l ^^^ (-1) else l, if oth then h ^^^ (-1) else h)) →
      ∀ (f : Nat) (i : Int) (lo hi : Int64), 0 ≤ i → i ≤ len → (len - i).toNat < f → chcL tape len f i lo hi = R → G X 6 0 0 (wP X.Z a (.ref (a 2)) len wrong (up low p lo) (up high p hi) owners follows isLast start places count empty firsts lasts top opn i ++ [(a 2, eB X.Z 2048 tape)]) 39 [(0, .ref (a 0)), (1, vI p), (2, vI (b2 oth))] [] := by
    intro oth R hRe hRo f
    induction f with
    | zero => intro i lo hi _ _ q; omega
    | succ f ih =>
      intro i lo hi hi0 hi1 hf hR
      unfold chcL at hR
      -- behind a member or a range: fr .. to, the place is j
      have j93 : ∀ (fr to j : Int), 0 ≤ fr → fr ≤ to → to < 128 → 0 ≤ j → j ≤ len → (len - j).toNat < f → (if chr tape len j = 93 then Except.ok (j, lowBits lo fr (to + 1 - fr).toNat, highBits hi fr (to + 1 - fr).toNat) else chcL tape len f j (lowBits lo fr (to + 1 - fr).toNat) (highBits hi fr (to + 1 - fr).toNat)) = R → G X 6 0 0 (wP X.Z a (.ref (a 2)) len wrong (up low p lo) (up high p hi) owners follows isLast start places count empty firsts lasts top opn j ++ [(a 2, eB X.Z 2048 tape)]) 93 [(0, .ref (a 0)), (1, vI p), (2, vI (b2 oth)), (3, vI fr), (4, vI to)] [] := by
        intro fr to j hfr hft hto hj0 hj1 hjf hR2
        have hcj := chr_r tape len j
        refine g_aload_n C dX3_choice_93 rfl ?_
        refine g_iload_n C dX3_choice_94 rfl ?_
        refine g_iload_n C dX3_choice_95 rfl ?_
        refine g_iload C dX3_choice_96 rfl ?_
        refine g_cVWv C [_, _, _] _ 0 cal_X3_133 (cP_set hp0 hp1 hfr (by omega) hto) rfl rfl rfl rfl (Nat.le_of_ble_eq_true rfl) (room_b rfl) dX3_choice_98 (fun w hw98 => ?_)
        subst hw98
        rw [up_same, up_same, up_up, up_up]
        refine g_aload_n C dX3_choice_101 rfl ?_
        refine g_cVWi C [] _ 0 cal_X3_84 (cP_c hj0 hj1 h2) rfl rfl rfl rfl (Nat.le_of_ble_eq_true rfl) (room_b rfl) dX3_choice_102 (fun r102 w hw102 => ?_)
        obtain ⟨rfl, rfl⟩ := hw102
        refine g_bipush C dX3_choice_105 (by decide) ?_
        refine g_icmp_ne C 39 dX3_choice_107 (by decide) (by omega) (fun h107 => ?_) (fun h107 => ?_)
        · rw [if_neg h107] at hR2
          refine g_locR (L' := [(0, .ref (a 0)), (1, vI p), (2, vI (b2 oth))]) rfl ?_
          exact ih _ _ _ hj0 hj1 hjf hR2
        · rw [if_pos h107] at hR2
          have hcl := hRo _ _ _ hR2.symm
          refine g_aload_n C dX3_choice_110 rfl ?_
          refine g_dup C dX3_choice_111 rfl ?_
          refine gP_at C dX3_choice_112 ?_
          refine g_iconst C dX3_choice_115 ?_
          refine g_iadd C dX3_choice_116 ?_
          refine pP_at C dX3_choice_117 ?_
          refine g_iload_n C dX3_choice_120 rfl ?_
          refine g_if_ne C 125 dX3_choice_121 (by decide) (b2_r _) (fun h121 => ?_) (fun h121 => ?_)
          · have ho : oth = true := (b2_ne0 _).mp h121
            rw [ho] at hcl
            refine g_aload_n C dX3_choice_125 rfl ?_
            refine gP_low C dX3_choice_126 ?_
            refine g_iload_n C dX3_choice_129 rfl ?_
            refine g_aload_n C dX3_choice_130 rfl ?_
            refine gP_low C dX3_choice_131 ?_
            refine g_iload_n C dX3_choice_134 rfl ?_
            refine lP_low C (by omega) dX3_choice_135 ?_
            refine g_ldc2 C q460 dX3_choice_136 ?_
            refine g_lxor C dX3_choice_139 ?_
            rw [up_same]
            refine sP_low C (by omega) dX3_choice_140 ?_
            rw [up_up]
            refine g_aload_n C dX3_choice_141 rfl ?_
            refine gP_high C dX3_choice_142 ?_
            refine g_iload_n C dX3_choice_145 rfl ?_
            refine g_aload_n C dX3_choice_146 rfl ?_
            refine gP_high C dX3_choice_147 ?_
            refine g_iload_n C dX3_choice_150 rfl ?_
            refine lP_high C (by omega) dX3_choice_151 ?_
            refine g_ldc2 C q460 dX3_choice_152 ?_
            refine g_lxor C dX3_choice_155 ?_
            rw [up_same]
            refine sP_high C (by omega) dX3_choice_156 ?_
            rw [up_up]
            exact g_vret C rfl (Or.inl ⟨rfl, _, _, _, hcl, rfl⟩) dX3_choice_157
          · have ho : oth = false := (b2_0 _).mp h121
            rw [ho] at hcl
            exact g_vret C rfl (Or.inl ⟨rfl, _, _, _, hcl, rfl⟩) dX3_choice_124
      by_cases c1 : chrOk tape len i true = true
      · have k1 := chrOk_lt c1
        rw [if_pos c1] at hR
        have hcn := chr_r tape len (chrN tape len i)
        refine g_aload_n C dX3_choice_39 rfl ?_
        refine g_iconst C dX3_choice_40 ?_
        refine g_top (show (1 : Int) = b2 true from rfl) ?_
        refine g_cVWiT C [_] _ 0 cal_X3_130 (cP_character true hi0 hi1 h2) rfl rfl rfl rfl (Nat.le_of_ble_eq_true rfl) (room_b rfl) dX3_choice_41 (fun r41 w hw41 => ?_) (fun x41 w hw41 => ?_)
        · obtain ⟨-, rfl, rfl⟩ := hw41
          refine g_istore_n C dX3_choice_44 (by decide) ?_
          refine g_iload_n C dX3_choice_45 rfl ?_
          refine g_istore C dX3_choice_46 (by decide) ?_
          refine g_aload_n C dX3_choice_48 rfl ?_
          refine g_cVWi C [] _ 0 cal_X3_84 (cP_c (by omega) (by omega) h2) rfl rfl rfl rfl (Nat.le_of_ble_eq_true rfl) (room_b rfl) dX3_choice_49 (fun r49 w hw49 => ?_)
          obtain ⟨rfl, rfl⟩ := hw49
          refine g_bipush C dX3_choice_52 (by decide) ?_
          refine g_icmp_ne C 93 dX3_choice_54 (by decide) (by omega) (fun h54 => ?_) (fun h54 => ?_)
          · rw [if_neg h54] at hR
            have jj := j93 (chrV tape len i) (chrV tape len i) (chrN tape len i) (by omega) (by omega) (by omega) (by omega) (by omega) (by omega) (by rw [show (chrV tape len i + 1 - chrV tape len i).toNat = 1 by omega]; exact hR)
            exact g_locR rfl jj
          · rw [if_pos h54] at hR
            have hlt := chr_lt (t := tape) (n := len) (i := chrN tape len i) (by omega)
            refine g_aload_n C dX3_choice_57 rfl ?_
            refine g_dup C dX3_choice_58 rfl ?_
            refine gP_at C dX3_choice_59 ?_
            refine g_iconst C dX3_choice_62 ?_
            refine g_iadd C dX3_choice_63 ?_
            refine pP_at C dX3_choice_64 ?_
            refine g_aload_n C dX3_choice_67 rfl ?_
            refine gP_at C dX3_choice_68 ?_
            refine g_istore C dX3_choice_71 (by decide) ?_
            refine g_aload_n C dX3_choice_73 rfl ?_
            refine g_iconst C dX3_choice_74 ?_
            refine g_top (show (1 : Int) = b2 true from rfl) ?_
            refine g_cVWiT C [_] _ 0 cal_X3_130 (cP_character true (by omega) (by omega) h2) rfl rfl rfl rfl (Nat.le_of_ble_eq_true rfl) (room_b rfl) dX3_choice_75 (fun r75 w hw75 => ?_) (fun x75 w hw75 => ?_)
            · obtain ⟨c3, rfl, rfl⟩ := hw75
              have k3 := chrOk_lt c3
              rw [if_pos c3] at hR
              refine g_istore C dX3_choice_78 (by decide) ?_
              refine g_iload C dX3_choice_80 rfl ?_
              refine g_iload_n C dX3_choice_82 rfl ?_
              refine g_icmp_ge C 93 dX3_choice_83 (by decide) (by omega) (fun h83 => ?_) (fun h83 => ?_)
              · rw [if_neg (by omega)] at hR
                have jj := j93 (chrV tape len i) (chrV tape len (chrN tape len i + 1)) (chrN tape len (chrN tape len i + 1)) (by omega) (by omega) (by omega) (by omega) (by omega) (by omega) hR
                exact g_locR rfl jj
              · rw [if_pos h83] at hR
                refine g_aload_n C dX3_choice_86 rfl ?_
                refine g_iload C dX3_choice_87 rfl ?_
                refine g_cVWr C [_] _ 0 cal_X3_68 cP_fail_2 rfl rfl rfl rfl (Nat.le_of_ble_eq_true rfl) (room_b rfl) dX3_choice_89 (fun r89 w hw89 => ?_)
                obtain ⟨rfl, rfl⟩ := hw89
                refine g_athrow C dX3_choice_92 ?_
                exact gt_out C rfl (Or.inr ⟨_, rfl, _, hRe _ hR.symm, rfl, _, _, _, _, _, _, _, _, _, _, _, _, _, _, _, rfl⟩)
            · obtain ⟨q1, rfl, q2⟩ := hw75
              rw [if_neg (by rw [q1]; decide)] at hR
              exact gt_out C rfl (Or.inr ⟨_, rfl, _, hRe _ hR.symm, rfl, q2⟩)
        · exact absurd (c1.symm.trans hw41.1) (by decide)
      · rw [if_neg c1] at hR
        refine g_aload_n C dX3_choice_39 rfl ?_
        refine g_iconst C dX3_choice_40 ?_
        refine g_top (show (1 : Int) = b2 true from rfl) ?_
        refine g_cVWiT C [_] _ 0 cal_X3_130 (cP_character true hi0 hi1 h2) rfl rfl rfl rfl (Nat.le_of_ble_eq_true rfl) (room_b rfl) dX3_choice_41 (fun r41 w hw41 => ?_) (fun x41 w hw41 => ?_)
        · exact absurd hw41.1 c1
          skip
        · obtain ⟨q1, rfl, q2⟩ := hw41
          exact gt_out C rfl (Or.inr ⟨_, rfl, _, hRe _ hR.symm, rfl, q2⟩)
  have hc1 := chr_r tape len (cur + 1)
  have j24 : ∀ oth : Bool, (oth = true ↔ chr tape len (cur + 1) = 94) → G X 6 0 0 (wP X.Z a (.ref (a 2)) len wrong low high owners follows isLast start places count empty firsts lasts top opn (cur + 1) ++ [(a 2, eB X.Z 2048 tape)]) 24 [(0, .ref (a 0)), (1, vI p)] [vI (b2 oth)] := by
    intro oth ho
    refine g_istore_n C dX3_choice_24 (by decide) ?_
    refine g_iload_n C dX3_choice_25 rfl ?_
    refine g_if_eq C 39 dX3_choice_26 (by decide) (b2_r _) (fun h26 => ?_) (fun h26 => ?_)
    · have hb : oth = false := (b2_0 _).mp h26
      subst hb
      have hno : ¬ chr tape len (cur + 1) = 94 := fun z => by cases ho.mpr z
      have l := lp false _ (fun e he => (by unfold clsR; rw [if_neg hno, he])) (fun j l h he => (by unfold clsR; rw [if_neg hno, he]; rfl)) ((len - cur).toNat + 1) (cur + 1) (low p) (high p) (by omega) (by omega) (by omega) rfl
      rw [up_id, up_id] at l
      exact g_locR rfl l
    · have hb : oth = true := (b2_ne0 _).mp h26
      subst hb
      have hyes := ho.mp rfl
      have hlt := chr_lt (t := tape) (n := len) (i := cur + 1) (by omega)
      have l := lp true (chcL tape len ((len - cur).toNat + 1) (cur + 2) (low p) (high p)) (fun e he => (by unfold clsR; rw [if_pos hyes, he])) (fun j l h he => (by unfold clsR; rw [if_pos hyes, he]; rfl)) ((len - cur).toNat + 1) (cur + 1 + 1) (low p) (high p) (by omega) (by omega) (by omega) (by rw [show cur + 1 + 1 = cur + 2 by omega])
      refine g_aload_n C dX3_choice_29 rfl ?_
      refine g_dup C dX3_choice_30 rfl ?_
      refine gP_at C dX3_choice_31 ?_
      refine g_iconst C dX3_choice_34 ?_
      refine g_iadd C dX3_choice_35 ?_
      refine pP_at C dX3_choice_36 ?_
      rw [up_id, up_id] at l
      exact g_locR rfl l
  refine g_aload_n C dX3_choice_0 rfl ?_
  refine g_dup C dX3_choice_1 rfl ?_
  refine gP_at C dX3_choice_2 ?_
  refine g_iconst C dX3_choice_5 ?_
  refine g_iadd C dX3_choice_6 ?_
  refine pP_at C dX3_choice_7 ?_
  refine g_aload_n C dX3_choice_10 rfl ?_
  refine g_cVWi C [] _ 0 cal_X3_84 (cP_c (by omega) (by omega) h2) rfl rfl rfl rfl (Nat.le_of_ble_eq_true rfl) (room_b rfl) dX3_choice_11 (fun r11 w hw11 => ?_)
  obtain ⟨rfl, rfl⟩ := hw11
  refine g_bipush C dX3_choice_14 (by decide) ?_
  refine g_icmp_ne C 23 dX3_choice_16 (by decide) (by omega) (fun h16 => ?_) (fun h16 => ?_)
  · refine g_iconst C dX3_choice_23 ?_
    first | exact g_locR rfl (j24 true ⟨fun _ => h16, fun _ => rfl⟩) | exact g_locR rfl (j24 false ⟨fun z => (by cases z), fun z => absurd z h16⟩)
  · refine g_iconst C dX3_choice_19 ?_
    refine g_goto C 24 dX3_choice_20 (by decide) ?_
    first | exact g_locR rfl (j24 true ⟨fun _ => h16, fun _ => rfl⟩) | exact g_locR rfl (j24 false ⟨fun z => (by cases z), fun z => absurd z h16⟩)
