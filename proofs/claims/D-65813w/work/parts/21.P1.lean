/-! Patterns: the small methods -/
theorem cP_wrong {Z : Zk} {wr : va_W} {a : Nat → Nat} {tx : Value} {len : Int} {wrong : Int} {low : Int → Int64} {high : Int → Int64} {owners : Int → Int} {follows : Int → Int64} {isLast : Int → Bool} {start : Int → Int64} {places : Int} {count : Int} {empty : Int → Bool} {firsts : Int → Int64} {lasts : Int → Int64} {top : Int} {opn : Int} {cur : Int} : Ct Z yX3_wrong hX3_wrong 1 20 [.ref (a 0)] (wP Z a tx len wrong low high owners follows isLast start places count empty firsts lasts top opn cur ++ wr) 0 0 (Ri fun r w => r = wrong ∧ w = wP Z a tx len wrong low high owners follows isLast start places count empty firsts lasts top opn cur ++ wr) := by
  refine Ct.of RX3 "wrong" (by decide +kernel) rfl rfl hkX3_wrong (Nat.le_of_ble_eq_true rfl) (fun X hZ C => ?_)
  subst hZ
  refine g_aload_n C dX3_wrong_0 rfl ?_
  refine gP_wrong C dX3_wrong_1 ?_
  exact g_iret C rfl ⟨_, rfl, rfl, rfl⟩ dX3_wrong_4
theorem cP_isEmpty {Z : Zk} {wr : va_W} {a : Nat → Nat} {tx : Value} {len : Int} {wrong : Int} {low : Int → Int64} {high : Int → Int64} {owners : Int → Int} {follows : Int → Int64} {isLast : Int → Bool} {start : Int → Int64} {places : Int} {count : Int} {empty : Int → Bool} {firsts : Int → Int64} {lasts : Int → Int64} {top : Int} {opn : Int} {cur : Int} : Ct Z yX3_isEmpty hX3_isEmpty 1 20 [.ref (a 0)] (wP Z a tx len wrong low high owners follows isLast start places count empty firsts lasts top opn cur ++ wr) 0 0 (Rz fun r w => r = empty 0 ∧ w = wP Z a tx len wrong low high owners follows isLast start places count empty firsts lasts top opn cur ++ wr) := by
  refine Ct.of RX3 "isEmpty" (by decide +kernel) rfl rfl hkX3_isEmpty (Nat.le_of_ble_eq_true rfl) (fun X hZ C => ?_)
  subst hZ
  refine g_aload_n C dX3_isEmpty_0 rfl ?_
  refine gP_empty C dX3_isEmpty_1 ?_
  refine g_iconst C dX3_isEmpty_4 ?_
  refine lP_empty C (by omega) dX3_isEmpty_5 ?_
  exact g_zret C _ rfl rfl ⟨_, rfl, rfl, rfl⟩ dX3_isEmpty_6
theorem cP_push {Z : Zk} {wr : va_W} {a : Nat → Nat} {tx : Value} {len : Int} {wrong : Int} {low : Int → Int64} {high : Int → Int64} {owners : Int → Int} {follows : Int → Int64} {isLast : Int → Bool} {start : Int → Int64} {places : Int} {count : Int} {empty : Int → Bool} {firsts : Int → Int64} {lasts : Int → Int64} {top : Int} {opn : Int} {cur : Int} (b : Bool) (h0 : 0 ≤ top) (h1 : top < 160) : Ct Z yX3_push hX3_push 1 20 [.ref (a 0), vI (b2 b)] (wP Z a tx len wrong low high owners follows isLast start places count empty firsts lasts top opn cur ++ wr) 0 0 (Ri fun r w => r = top ∧ w = wP Z a tx len wrong low high owners follows isLast start places count (up empty top b) (upTo firsts (7 * top) 7 (fun _ => 0)) (upTo lasts (7 * top) 7 (fun _ => 0)) (top + 1) opn cur ++ wr) := by
  refine Ct.of RX3 "push" (by decide +kernel) rfl rfl hkX3_push (Nat.le_of_ble_eq_true rfl) (fun X hZ C => ?_)
  subst hZ
  have lp : G X 3 0 0 (wP X.Z a tx len wrong low high owners follows isLast start places count (up empty top b) (upTo firsts (7 * top) 0 (fun _ => 0)) (upTo lasts (7 * top) 0 (fun _ => 0)) top opn cur ++ wr) 12 [(0, .ref (a 0)), (2, vI 0)] [] := by
    refine loopZ (fun k => G X 3 0 0 (wP X.Z a tx len wrong low high owners follows isLast start places count (up empty top b) (upTo firsts (7 * top) k (fun _ => 0)) (upTo lasts (7 * top) k (fun _ => 0)) top opn cur ++ wr) 12 [(0, .ref (a 0)), (2, vI k)] []) 0 7 (by omega) ?_ (fun k hk0 hk1 ih => ?_)
    · show G _ _ _ _ _ _ _ _
      refine g_iload_n C dX3_push_12 rfl ?_
      refine g_bipush C dX3_push_13 (by decide) ?_
      refine g_icmp_ge C 54 dX3_push_15 (by decide) (by omega) (fun h15 => ?_) (fun h15 => ?_)
      · refine g_aload_n C dX3_push_54 rfl ?_
        refine g_dup C dX3_push_55 rfl ?_
        refine gP_top C dX3_push_56 ?_
        refine g_iconst C dX3_push_59 ?_
        refine g_iadd C dX3_push_60 ?_
        refine pP_top C dX3_push_61 ?_
        refine g_aload_n C dX3_push_64 rfl ?_
        refine gP_top C dX3_push_65 ?_
        refine g_iconst C dX3_push_68 ?_
        refine g_isub C dX3_push_69 ?_
        exact g_iret C rfl ⟨_, rfl, by omega, rfl⟩ dX3_push_70
      · exact absurd h15 (by omega)
    · show G _ _ _ _ _ _ _ _
      refine g_iload_n C dX3_push_12 rfl ?_
      refine g_bipush C dX3_push_13 (by decide) ?_
      refine g_icmp_ge C 54 dX3_push_15 (by decide) (by omega) (fun h15 => ?_) (fun h15 => ?_)
      · exact absurd h15 (by omega)
      · refine g_aload_n C dX3_push_18 rfl ?_
        refine gP_firsts C dX3_push_19 ?_
        refine g_bipush C dX3_push_22 (by decide) ?_
        refine g_aload_n C dX3_push_24 rfl ?_
        refine gP_top C dX3_push_25 ?_
        refine g_imul C dX3_push_28 ?_
        refine g_iload_n C dX3_push_29 rfl ?_
        refine g_iadd C dX3_push_30 ?_
        refine g_lconst C 0 dX3_push_31 rfl ?_
        refine sP_firsts C (by omega) dX3_push_32 ?_
        refine g_aload_n C dX3_push_33 rfl ?_
        refine gP_lasts C dX3_push_34 ?_
        refine g_bipush C dX3_push_37 (by decide) ?_
        refine g_aload_n C dX3_push_39 rfl ?_
        refine gP_top C dX3_push_40 ?_
        refine g_imul C dX3_push_43 ?_
        refine g_iload_n C dX3_push_44 rfl ?_
        refine g_iadd C dX3_push_45 ?_
        refine g_lconst C 0 dX3_push_46 rfl ?_
        refine sP_lasts C (by omega) dX3_push_47 ?_
        refine g_iinc C dX3_push_48 rfl (by decide) ?_
        refine g_goto C 12 dX3_push_51 (by decide) ?_
        refine g_locR (L' := [(0, .ref (a 0)), (2, vI (k + 1))]) rfl ?_
        rw [upTo_s firsts (7 * top) (fun _ => 0) hk0, upTo_s lasts (7 * top) (fun _ => 0) hk0]
        exact ih
  rw [upTo_0, upTo_0] at lp
  refine g_aload_n C dX3_push_0 rfl ?_
  refine gP_empty C dX3_push_1 ?_
  refine g_aload_n C dX3_push_4 rfl ?_
  refine gP_top C dX3_push_5 ?_
  refine g_iload_n C dX3_push_8 rfl ?_
  refine sP_empty C _ (by omega) rfl dX3_push_9 ?_
  refine g_iconst C dX3_push_10 ?_
  refine g_istore_n C dX3_push_11 (by decide) ?_
  refine g_locR (L' := [(0, .ref (a 0)), (2, vI 0)]) rfl ?_
  exact lp
theorem cP_clear {Z : Zk} {wr : va_W} {a : Nat → Nat} {tx : Value} {len : Int} {wrong : Int} {low : Int → Int64} {high : Int → Int64} {owners : Int → Int} {follows : Int → Int64} {isLast : Int → Bool} {start : Int → Int64} {places : Int} {count : Int} {empty : Int → Bool} {firsts : Int → Int64} {lasts : Int → Int64} {top : Int} {opn : Int} {cur : Int} : Ct Z yX3_clear hX3_clear 1 20 [.ref (a 0)] (wP Z a tx len wrong low high owners follows isLast start places count empty firsts lasts top opn cur ++ wr) 0 0 (Rv fun w => w = wP Z a tx len wrong low high owners follows isLast (upTo start 0 7 (fun _ => 0)) 0 0 empty firsts lasts top opn cur ++ wr) := by
  refine Ct.of RX3 "clear" (by decide +kernel) rfl rfl hkX3_clear (Nat.le_of_ble_eq_true rfl) (fun X hZ C => ?_)
  subst hZ
  have lp : G X 2 0 0 (wP X.Z a tx len wrong low high owners follows isLast (upTo start 0 0 (fun _ => 0)) 0 0 empty firsts lasts top opn cur ++ wr) 12 [(0, .ref (a 0)), (1, vI 0)] [] := by
    refine loopZ (fun k => G X 2 0 0 (wP X.Z a tx len wrong low high owners follows isLast (upTo start 0 k (fun _ => 0)) 0 0 empty firsts lasts top opn cur ++ wr) 12 [(0, .ref (a 0)), (1, vI k)] []) 0 7 (by omega) ?_ (fun k hk0 hk1 ih => ?_)
    · show G _ _ _ _ _ _ _ _
      refine g_iload_n C dX3_clear_12 rfl ?_
      refine g_bipush C dX3_clear_13 (by decide) ?_
      refine g_icmp_ge C 31 dX3_clear_15 (by decide) (by omega) (fun h15 => ?_) (fun h15 => ?_)
      · exact g_vret C rfl ⟨rfl, rfl⟩ dX3_clear_31
      · exact absurd h15 (by omega)
    · show G _ _ _ _ _ _ _ _
      refine g_iload_n C dX3_clear_12 rfl ?_
      refine g_bipush C dX3_clear_13 (by decide) ?_
      refine g_icmp_ge C 31 dX3_clear_15 (by decide) (by omega) (fun h15 => ?_) (fun h15 => ?_)
      · exact absurd h15 (by omega)
      · refine g_aload_n C dX3_clear_18 rfl ?_
        refine gP_start C dX3_clear_19 ?_
        refine g_iload_n C dX3_clear_22 rfl ?_
        refine g_lconst C 0 dX3_clear_23 rfl ?_
        refine sP_start C (by omega) dX3_clear_24 ?_
        refine g_iinc C dX3_clear_25 rfl (by decide) ?_
        refine g_goto C 12 dX3_clear_28 (by decide) ?_
        refine g_locR (L' := [(0, .ref (a 0)), (1, vI (k + 1))]) rfl ?_
        have e := upTo_s start 0 (fun _ => 0) hk0
        rw [Int.zero_add] at e
        rw [e]
        exact ih
  rw [upTo_0] at lp
  refine g_aload_n C dX3_clear_0 rfl ?_
  refine g_iconst C dX3_clear_1 ?_
  refine pP_places C dX3_clear_2 ?_
  refine g_aload_n C dX3_clear_5 rfl ?_
  refine g_iconst C dX3_clear_6 ?_
  refine pP_count C dX3_clear_7 ?_
  refine g_iconst C dX3_clear_10 ?_
  refine g_istore_n C dX3_clear_11 (by decide) ?_
  refine g_locR (L' := [(0, .ref (a 0)), (1, vI 0)]) rfl ?_
  exact lp
theorem cP_c {Z : Zk} {tape : Int → Int} {a : Nat → Nat} {len : Int} {wrong : Int} {low : Int → Int64} {high : Int → Int64} {owners : Int → Int} {follows : Int → Int64} {isLast : Int → Bool} {start : Int → Int64} {places : Int} {count : Int} {empty : Int → Bool} {firsts : Int → Int64} {lasts : Int → Int64} {top : Int} {opn : Int} {cur : Int} (h0 : 0 ≤ cur) (h1 : cur ≤ len) (h2 : len ≤ 2048) : Ct Z yX3_c hX3_c 1 20 [.ref (a 0)] (wP Z a (.ref (a 2)) len wrong low high owners follows isLast start places count empty firsts lasts top opn cur ++ [(a 2, eB Z 2048 tape)]) 0 0 (Ri fun r w => r = chr tape len cur ∧ w = wP Z a (.ref (a 2)) len wrong low high owners follows isLast start places count empty firsts lasts top opn cur ++ [(a 2, eB Z 2048 tape)]) := by
  refine Ct.of RX3 "c" (by decide +kernel) rfl rfl hkX3_c (Nat.le_of_ble_eq_true rfl) (fun X hZ C => ?_)
  subst hZ
  refine g_aload_n C dX3_c_0 rfl ?_
  refine gP_at C dX3_c_1 ?_
  refine g_aload_n C dX3_c_4 rfl ?_
  refine gP_length C dX3_c_5 ?_
  refine g_icmp_ge C 27 dX3_c_8 (by decide) (by omega) (fun h8 => ?_) (fun h8 => ?_)
  · refine g_iconst C dX3_c_27 ?_
    exact g_iret C rfl ⟨_, rfl, by unfold chr; first | rw [if_pos h8] | rw [if_neg (by omega)], rfl⟩ dX3_c_28
  · refine g_aload_n C dX3_c_11 rfl ?_
    refine gP_text C dX3_c_12 ?_
    refine g_aload_n C dX3_c_15 rfl ?_
    refine gP_at C dX3_c_16 ?_
    refine g_bald C 11 rfl (by omega) dX3_c_19 ?_
    refine g_sipush C dX3_c_20 (by decide) ?_
    refine g_iand C dX3_c_23 ?_
    refine g_goto C 28 dX3_c_24 (by decide) ?_
    exact g_iret C rfl ⟨_, rfl, by unfold chr; first | rw [if_pos h8] | rw [if_neg (by omega)], rfl⟩ dX3_c_28
theorem cP_fail_2 {Z : Zk} {wr : va_W} {a : Nat → Nat} {tx : Value} {len : Int} {wrong : Int} {low : Int → Int64} {high : Int → Int64} {owners : Int → Int} {follows : Int → Int64} {isLast : Int → Bool} {start : Int → Int64} {places : Int} {count : Int} {empty : Int → Bool} {firsts : Int → Int64} {lasts : Int → Int64} {top : Int} {opn : Int} {cur : Int} {x : Int} : Ct Z yX3_fail_2 hX3_fail_2 1 20 [.ref (a 0), vI x] (wP Z a tx len wrong low high owners follows isLast start places count empty firsts lasts top opn cur ++ wr) 0 0 (Rr fun r w => r = a 1 ∧ w = wP Z a tx len x low high owners follows isLast start places count empty firsts lasts top opn cur ++ wr) := by
  refine Ct.of RX3 "fail" (by decide +kernel) rfl rfl hkX3_fail_2 (Nat.le_of_ble_eq_true rfl) (fun X hZ C => ?_)
  subst hZ
  refine g_aload_n C dX3_fail_2_0 rfl ?_
  refine g_iload_n C dX3_fail_2_1 rfl ?_
  refine pP_wrong C dX3_fail_2_2 ?_
  refine g_aload_n C dX3_fail_2_5 rfl ?_
  refine gP_broken C dX3_fail_2_6 ?_
  exact g_aret C rfl (Or.inl ⟨_, rfl⟩) ⟨_, rfl, rfl, rfl⟩ dX3_fail_2_9
theorem cP_fail {Z : Zk} {wr : va_W} {a : Nat → Nat} {tx : Value} {len : Int} {wrong : Int} {low : Int → Int64} {high : Int → Int64} {owners : Int → Int} {follows : Int → Int64} {isLast : Int → Bool} {start : Int → Int64} {places : Int} {count : Int} {empty : Int → Bool} {firsts : Int → Int64} {lasts : Int → Int64} {top : Int} {opn : Int} {cur : Int} : Ct Z yX3_fail hX3_fail 2 50 [.ref (a 0)] (wP Z a tx len wrong low high owners follows isLast start places count empty firsts lasts top opn cur ++ wr) 0 0 (Rr fun r w => r = a 1 ∧ w = wP Z a tx len cur low high owners follows isLast start places count empty firsts lasts top opn cur ++ wr) := by
  refine Ct.of RX3 "fail" (by decide +kernel) rfl rfl hkX3_fail (Nat.le_of_ble_eq_true rfl) (fun X hZ C => ?_)
  subst hZ
  refine g_aload_n C dX3_fail_0 rfl ?_
  refine g_aload_n C dX3_fail_1 rfl ?_
  refine gP_at C dX3_fail_2 ?_
  refine g_cVWr C [_] _ 0 cal_X3_68 cP_fail_2 rfl rfl rfl rfl (Nat.le_of_ble_eq_true rfl) (room_b rfl) dX3_fail_5 (fun r5 w hw5 => ?_)
  obtain ⟨rfl, rfl⟩ := hw5
  exact g_aret C rfl (Or.inl ⟨_, rfl⟩) ⟨_, rfl, rfl, rfl⟩ dX3_fail_8
theorem cP_has {Z : Zk} {r N : Nat} {f : Int → Int64} {i p : Int} (hp : 0 ≤ p) (hp2 : p < 100000) (hi : 0 ≤ i) (h1 : i + p / 64 < N) (hN : N < 2147483648) : Ct Z yX3_has hX3_has 1 20 [.ref r, vI i, vI p] [(r, eJ Z N f)] 0 0 (Rz fun b w => b = hasB f i p ∧ w = [(r, eJ Z N f)]) := by
  refine Ct.of RX3 "has" (by decide +kernel) rfl rfl hkX3_has (Nat.le_of_ble_eq_true rfl) (fun X hZ C => ?_)
  subst hZ
  refine g_aload_n C dX3_has_0 rfl ?_
  refine g_iload_n C dX3_has_1 rfl ?_
  refine g_iload_n C dX3_has_2 rfl ?_
  refine g_bipush C dX3_has_3 (by decide) ?_
  refine g_idiv C dX3_has_5 (by omega) ?_
  refine g_iadd C dX3_has_6 ?_
  refine g_lald C 0 rfl (by omega) dX3_has_7 ?_
  refine g_iload_n C dX3_has_8 rfl ?_
  refine g_bipush C dX3_has_9 (by decide) ?_
  refine g_irem C dX3_has_11 (by omega) ?_
  refine g_lshr C dX3_has_12 ?_
  refine g_lconst C 1 dX3_has_13 rfl ?_
  refine g_land C dX3_has_14 ?_
  refine g_lconst C 1 dX3_has_15 rfl ?_
  refine g_lcmp C dX3_has_16 ?_
  refine g_if_ne C 24 dX3_has_17 (by decide) (lcmp_r _ _) (fun h17 => ?_) (fun h17 => ?_)
  · refine g_iconst C dX3_has_24 ?_
    exact g_zret C _ (by first | exact (show (1 : Int) = b2 true from rfl) | exact (show (0 : Int) = b2 false from rfl)) rfl ⟨_, rfl, by first | exact ((bit_eq (by omega) (by omega)).mp ((lcmp_0 _ _).mp h17)).symm | (cases hb : hasB f i p with | false => rfl | true => exact absurd ((lcmp_0 _ _).mpr ((bit_eq (by omega) (by omega)).mpr hb)) h17), rfl⟩ dX3_has_25
  · refine g_iconst C dX3_has_20 ?_
    refine g_goto C 25 dX3_has_21 (by decide) ?_
    exact g_zret C _ (by first | exact (show (1 : Int) = b2 true from rfl) | exact (show (0 : Int) = b2 false from rfl)) rfl ⟨_, rfl, by first | exact ((bit_eq (by omega) (by omega)).mp ((lcmp_0 _ _).mp h17)).symm | (cases hb : hasB f i p with | false => rfl | true => exact absurd ((lcmp_0 _ _).mpr ((bit_eq (by omega) (by omega)).mpr hb)) h17), rfl⟩ dX3_has_25
