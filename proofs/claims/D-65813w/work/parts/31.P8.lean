/-! Patterns: read -/
theorem cP_read {Z : Zk} {tape : Int → Int} {n : Int} {a : Nat → Nat} {tx : Value} {len : Int} {wrong : Int} {low : Int → Int64} {high : Int → Int64} {owners : Int → Int} {follows : Int → Int64} {isLast : Int → Bool} {start : Int → Int64} {empty : Int → Bool} {firsts : Int → Int64} {lasts : Int → Int64} {top : Int} {opn : Int} {cur : Int} (h1 : 0 ≤ n) (h2 : n ≤ 2048) (hst : ∀ k, 0 ≤ k → k < 7 → start k = 0) : Ct Z yX3_read hX3_read 173 4430 [.ref (a 0), .ref (a 2), vI n] (wP Z a tx len wrong low high owners follows isLast start 0 0 empty firsts lasts top opn cur ++ [(a 2, eB Z 2048 tape)]) 0 0 (Th (Rv fun w => ∃ s1 B, prsT tape n low high = .ok (s1, B) ∧ PatW Z a tape n wrong s1 B w) (fun x w => ∃ e, prsT tape n low high = .error e ∧ x = a 1 ∧ ErrP Z a tape e w)) := by
  refine Ct.of RX3 "read" (by decide +kernel) rfl rfl hkX3_read (Nat.le_of_ble_eq_true rfl) (fun X hZ C => ?_)
  subst hZ
  have hnd : ∀ e len low1 high1 owners follows isLast start places count empty firsts lasts top opn cur, prsT tape n low high = .error e → G X 5 0 0 (wP X.Z a (.ref (a 2)) len e low1 high1 owners follows isLast start places count empty firsts lasts top opn cur ++ [(a 2, eB X.Z 2048 tape)]) 27 [(0, .ref (a 0)), (1, .ref (a 2)), (2, vI n), (3, vI 0)] [.ref (a 1)] := by
    intro e len low1 high1 owners follows isLast start places count empty firsts lasts top opn cur he
    refine g_astore C dX3_read_27 (by decide) ?_
    refine g_aload_n C dX3_read_29 rfl ?_
    refine g_iload_n C dX3_read_30 rfl ?_
    refine pP_places C dX3_read_31 ?_
    refine g_aload_n C dX3_read_34 rfl ?_
    refine gP_broken C dX3_read_35 ?_
    refine g_athrow C dX3_read_38 ?_
    exact gt_out C rfl (Or.inr ⟨_, rfl, _, he, rfl, _, _, _, _, _, _, _, _, _, _, _, _, _, _, _, rfl⟩)
  refine g_aload_n C dX3_read_0 rfl ?_
  refine g_aload_n C dX3_read_1 rfl ?_
  refine pP_text C dX3_read_2 ?_
  refine g_aload_n C dX3_read_5 rfl ?_
  refine g_iload_n C dX3_read_6 rfl ?_
  refine pP_length C dX3_read_7 ?_
  refine g_aload_n C dX3_read_10 rfl ?_
  refine g_iconst C dX3_read_11 ?_
  refine pP_at C dX3_read_12 ?_
  refine g_aload_n C dX3_read_15 rfl ?_
  refine gP_places C dX3_read_16 ?_
  refine g_istore_n C dX3_read_19 (by decide) ?_
  refine g_aload_n C dX3_read_20 rfl ?_
  refine g_cVWvT C [] _ 0 cal_X3_72 (cP_whole h1 h2 hst) rfl rfl rfl rfl (Nat.le_of_ble_eq_true rfl) (room_b rfl) dX3_read_21 (fun w hw21 => ?_) (fun x21 w hw21 => ?_)
  · obtain ⟨s1, B, q1, q2⟩ := hw21
    refine g_goto C 39 dX3_read_24 (by decide) ?_
    exact g_vret C rfl (Or.inl ⟨rfl, s1, B, q1, q2⟩) dX3_read_39
  · obtain ⟨e, q1, rfl, len1, low1, high1, owners1, follows1, isLast1, start1, places1, count1, empty1, firsts1, lasts1, top1, opn1, cur1, rfl⟩ := hw21
    exact gt_catch C 1 27 rfl rfl (Or.inr (Or.inl ⟨rfl, by decide, q103, rfl⟩)) (g_locR rfl (hnd e _ _ _ _ _ _ _ _ _ _ _ _ _ _ _ q1))
