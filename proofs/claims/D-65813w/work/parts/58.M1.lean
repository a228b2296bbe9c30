/-! Model: instructions, bytes, classes -/
theorem cM_thrown {Z : Zk} {wr : va_W} {a : Nat → Nat} {tape : Int → Int} {taped : Int} {place : Int} {thrown : Int} {r_op : Nat} {no : Nat} {op : Int → Int} {r_arg : Nat} {arg : Int → Int} {many : Int} {low : Int → Int64} {high : Int → Int64} {masks : Int} {cur : Int} {readLow : Int64} {readHigh : Int64} {group : Int → Int} {choice : Int → Int} {chain : Int → Int} {hasEmpty : Int → Bool} {sset : Int → Int64} {label : Int → Int} {next : Int → Int} {states : Int} {r_stamp : Nat} {ns : Nat} {stamp : Int → Int} {r_stack : Nat} {stack : Int → Int} {stamps : Int} {piled : Int} {reading : Int → Int} {readings : Int} {wher : Int → Int} {built : Int → Int64} {heads : Int → Int} {chained : Int → Int} {isE : Bool} {lives : Int → Bool} {kind : Int → Int} {newKind : Int → Int} {first : Int → Int} {kinds : Int} {leads : Int → Int} {sideStates : Int → Int} {ends : Int → Bool} {text : Int → Int} {textLong : Int} {queue : Int → Int} {frm : Int → Int} {by_ : Int → Int} {ways : Int → Int64} {before : Int → Int64} : Ct Z yX6_thrown hX6_thrown 1 60 [.ref (a 0)] (wM Z a tape taped place thrown r_op no op r_arg arg many low high masks cur readLow readHigh group choice chain hasEmpty sset label next states r_stamp ns stamp r_stack stack stamps piled reading readings wher built heads chained isE lives kind newKind first kinds leads sideStates ends text textLong queue frm by_ ways before ++ wr) 0 0 (Ri fun r w => r = thrown ∧ w = wM Z a tape taped place thrown r_op no op r_arg arg many low high masks cur readLow readHigh group choice chain hasEmpty sset label next states r_stamp ns stamp r_stack stack stamps piled reading readings wher built heads chained isE lives kind newKind first kinds leads sideStates ends text textLong queue frm by_ ways before ++ wr) := by
  refine Ct.of RX6 "thrown" (by decide +kernel) rfl rfl hkX6_thrown (Nat.le_of_ble_eq_true rfl) (fun X hZ C => ?_)
  subst hZ
  refine g_aload_n C dX6_thrown_0 rfl ?_
  refine gM_thrown C dX6_thrown_1 ?_
  exact g_iret C rfl ⟨_, rfl, rfl, rfl⟩ dX6_thrown_4
theorem cM_refuse {Z : Zk} {wr : va_W} {a : Nat → Nat} {tape : Int → Int} {taped : Int} {place : Int} {thrown : Int} {r_op : Nat} {no : Nat} {op : Int → Int} {r_arg : Nat} {arg : Int → Int} {many : Int} {low : Int → Int64} {high : Int → Int64} {masks : Int} {cur : Int} {readLow : Int64} {readHigh : Int64} {group : Int → Int} {choice : Int → Int} {chain : Int → Int} {hasEmpty : Int → Bool} {sset : Int → Int64} {label : Int → Int} {next : Int → Int} {states : Int} {r_stamp : Nat} {ns : Nat} {stamp : Int → Int} {r_stack : Nat} {stack : Int → Int} {stamps : Int} {piled : Int} {reading : Int → Int} {readings : Int} {wher : Int → Int} {built : Int → Int64} {heads : Int → Int} {chained : Int → Int} {isE : Bool} {lives : Int → Bool} {kind : Int → Int} {newKind : Int → Int} {first : Int → Int} {kinds : Int} {leads : Int → Int} {sideStates : Int → Int} {ends : Int → Bool} {text : Int → Int} {textLong : Int} {queue : Int → Int} {frm : Int → Int} {by_ : Int → Int} {ways : Int → Int64} {before : Int → Int64} {v : Int} : Ct Z yX6_refuse hX6_refuse 1 60 [.ref (a 0), vI v] (wM Z a tape taped place thrown r_op no op r_arg arg many low high masks cur readLow readHigh group choice chain hasEmpty sset label next states r_stamp ns stamp r_stack stack stamps piled reading readings wher built heads chained isE lives kind newKind first kinds leads sideStates ends text textLong queue frm by_ ways before ++ wr) 0 0 (Ri fun r w => r = 0 ∧ w = wM Z a tape taped place v r_op no op r_arg arg many low high masks cur readLow readHigh group choice chain hasEmpty sset label next states r_stamp ns stamp r_stack stack stamps piled reading readings wher built heads chained isE lives kind newKind first kinds leads sideStates ends text textLong queue frm by_ ways before ++ wr) := by
  refine Ct.of RX6 "refuse" (by decide +kernel) rfl rfl hkX6_refuse (Nat.le_of_ble_eq_true rfl) (fun X hZ C => ?_)
  subst hZ
  refine g_aload_n C dX6_refuse_0 rfl ?_
  refine g_iload_n C dX6_refuse_1 rfl ?_
  refine pM_thrown C dX6_refuse_2 ?_
  refine g_iconst C dX6_refuse_5 ?_
  exact g_iret C rfl ⟨_, rfl, rfl, rfl⟩ dX6_refuse_6
/-- a byte of the tape, -1 behind its end -/
def mch (t : Int → Int) (n i : Int) : Int := if i < n then t i else -1
theorem cM_byteAt {Z : Zk} {wr : va_W} {a : Nat → Nat} {tape : Int → Int} {taped : Int} {place : Int} {thrown : Int} {r_op : Nat} {no : Nat} {op : Int → Int} {r_arg : Nat} {arg : Int → Int} {many : Int} {low : Int → Int64} {high : Int → Int64} {masks : Int} {cur : Int} {readLow : Int64} {readHigh : Int64} {group : Int → Int} {choice : Int → Int} {chain : Int → Int} {hasEmpty : Int → Bool} {sset : Int → Int64} {label : Int → Int} {next : Int → Int} {states : Int} {r_stamp : Nat} {ns : Nat} {stamp : Int → Int} {r_stack : Nat} {stack : Int → Int} {stamps : Int} {piled : Int} {reading : Int → Int} {readings : Int} {wher : Int → Int} {built : Int → Int64} {heads : Int → Int} {chained : Int → Int} {isE : Bool} {lives : Int → Bool} {kind : Int → Int} {newKind : Int → Int} {first : Int → Int} {kinds : Int} {leads : Int → Int} {sideStates : Int → Int} {ends : Int → Bool} {text : Int → Int} {textLong : Int} {queue : Int → Int} {frm : Int → Int} {by_ : Int → Int} {ways : Int → Int64} {before : Int → Int64} {n : Int} (c0 : 0 ≤ cur) (c1 : cur ≤ 2048) (n1 : n ≤ 2048) (n0 : 0 ≤ n) : Ct Z yX6_byteAt hX6_byteAt 1 60 [.ref (a 0), vI n] (wM Z a tape taped place thrown r_op no op r_arg arg many low high masks cur readLow readHigh group choice chain hasEmpty sset label next states r_stamp ns stamp r_stack stack stamps piled reading readings wher built heads chained isE lives kind newKind first kinds leads sideStates ends text textLong queue frm by_ ways before ++ wr) 0 0 (Ri fun r w => r = mch tape n cur ∧ w = wM Z a tape taped place thrown r_op no op r_arg arg many low high masks cur readLow readHigh group choice chain hasEmpty sset label next states r_stamp ns stamp r_stack stack stamps piled reading readings wher built heads chained isE lives kind newKind first kinds leads sideStates ends text textLong queue frm by_ ways before ++ wr) := by
  refine Ct.of RX6 "byteAt" (by decide +kernel) rfl rfl hkX6_byteAt (Nat.le_of_ble_eq_true rfl) (fun X hZ C => ?_)
  subst hZ
  refine g_aload_n C dX6_byteAt_0 rfl ?_
  refine gM_at C dX6_byteAt_1 ?_
  refine g_iload_n C dX6_byteAt_4 rfl ?_
  refine g_icmp_ge C 20 dX6_byteAt_5 (by decide) (by omega) (fun h5 => ?_) (fun h5 => ?_)
  · refine g_iconst C dX6_byteAt_20 ?_
    exact g_iret C rfl ⟨_, rfl, (by unfold mch; first | (rw [if_pos (by omega)]) | (rw [if_neg (by omega)])), rfl⟩ dX6_byteAt_21
  · refine g_aload_n C dX6_byteAt_8 rfl ?_
    refine gM_tape C dX6_byteAt_9 ?_
    refine g_aload_n C dX6_byteAt_12 rfl ?_
    refine gM_at C dX6_byteAt_13 ?_
    refine lM_tape C (by omega) dX6_byteAt_16 ?_
    refine g_goto C 21 dX6_byteAt_17 (by decide) ?_
    exact g_iret C rfl ⟨_, rfl, (by unfold mch; first | (rw [if_pos (by omega)]) | (rw [if_neg (by omega)])), rfl⟩ dX6_byteAt_21
theorem cM_isIn {Z : Zk} {wr : va_W} {c : Int} {i : Nat} (hi : i < 6) (hc : inR c) : Ct Z yX6_isIn hX6_isIn 5 170 [vI c, .ref (Z.K i)] wr 0 0 (Rz fun r w => r = strHas i c ∧ w = wr) := by
  refine Ct.of RX6 "isIn" (by decide +kernel) rfl rfl hkX6_isIn (Nat.le_of_ble_eq_true rfl) (fun X hZ C => ?_)
  subst hZ
  refine g_iload_n C dX6_isIn_0 rfl ?_
  refine g_if_lt C 16 dX6_isIn_1 (by decide) (by omega) (fun h1 => ?_) (fun h1 => ?_)
  · refine g_iconst C dX6_isIn_16 ?_
    exact g_zret C _ (show _ = b2 (strHas i c) from by first | (rcases hw6 with h | h; (rw [h.2.2]; rfl); (exact absurd h.1 (by omega))) | (rcases hw6 with h | h; (exact absurd h.1 (by omega)); (rw [h.2]; rfl)) | (cases hs : strHas i c with | false => rfl | true => exact absurd (strHas_r hi hs).1 (by omega))) rfl ⟨_, rfl, rfl, rfl⟩ dX6_isIn_17
  · refine g_aload_n C dX6_isIn_4 rfl ?_
    refine g_iload_n C dX6_isIn_5 rfl ?_
    refine g_cKi C [_] _ hi cal_X6_34 (cS_idx hi hc) rfl rfl (Nat.le_of_ble_eq_true rfl) (room_b rfl) dX6_isIn_6 (fun r6 hw6 => ?_)
    refine g_if_lt C 16 dX6_isIn_9 (by decide) (by omega) (fun h9 => ?_) (fun h9 => ?_)
    · refine g_iconst C dX6_isIn_16 ?_
      exact g_zret C _ (show _ = b2 (strHas i c) from by first | (rcases hw6 with h | h; (rw [h.2.2]; rfl); (exact absurd h.1 (by omega))) | (rcases hw6 with h | h; (exact absurd h.1 (by omega)); (rw [h.2]; rfl)) | (cases hs : strHas i c with | false => rfl | true => exact absurd (strHas_r hi hs).1 (by omega))) rfl ⟨_, rfl, rfl, rfl⟩ dX6_isIn_17
    · refine g_iconst C dX6_isIn_12 ?_
      refine g_goto C 17 dX6_isIn_13 (by decide) ?_
      exact g_zret C _ (show _ = b2 (strHas i c) from by first | (rcases hw6 with h | h; (rw [h.2.2]; rfl); (exact absurd h.1 (by omega))) | (rcases hw6 with h | h; (exact absurd h.1 (by omega)); (rw [h.2]; rfl)) | (cases hs : strHas i c with | false => rfl | true => exact absurd (strHas_r hi hs).1 (by omega))) rfl ⟨_, rfl, rfl, rfl⟩ dX6_isIn_17
theorem iand_byte : ∀ c : Nat, c < 256 → iand ((c : Int) - 128) 255 = if c < 128 then (c : Int) + 128 else (c : Int) - 128 := by decide +kernel
def BytT (t : Int → Int) : Prop := ∀ i, 0 ≤ i → i < 2048 → -128 ≤ t i ∧ t i < 128
theorem mch_r {t : Int → Int} {n i : Int} (hT : BytT t) (hn : n ≤ 2048) (i0 : 0 ≤ i) : -128 ≤ mch t n i ∧ mch t n i < 128 := by
  unfold mch
  split
  · exact hT i i0 (by omega)
  · omega
theorem mch_chr {t : Int → Int} {n i : Int} (hT : BytT t) (hn : n ≤ 2048) (i0 : 0 ≤ i) : (0 ≤ mch t n i ∧ chr t n i = mch t n i) ∨ (mch t n i < 0 ∧ (chr t n i = -1 ∨ 128 ≤ chr t n i)) := by
  unfold mch chr
  split
  · next h =>
    have hb := hT i i0 (by omega)
    have e := iand_byte (t i + 128).toNat (by omega)
    rw [show (((t i + 128).toNat : Nat) : Int) - 128 = t i by omega] at e
    by_cases h2 : 0 ≤ t i
    · rw [if_neg (by omega)] at e
      exact Or.inl ⟨h2, by omega⟩
    · rw [if_pos (by omega)] at e
      exact Or.inr ⟨by omega, Or.inr (by omega)⟩
  · exact Or.inr ⟨by decide, Or.inl rfl⟩
theorem strHas_big {i : Nat} (hi : i < 6) {c : Int} (h : c < 0 ∨ 128 ≤ c) : strHas i c = false := by
  cases e : strHas i c with
  | false => rfl
  | true => have := strHas_r hi e; omega
theorem escV_big {c : Int} (h : c < 0 ∨ 128 ≤ c) : escV c = -1 := by
  unfold escV
  rw [if_neg (by omega), if_neg (by omega), if_neg (by omega), if_neg (by rw [strHas_big (by decide) h]; simp)]
theorem escV_mch {t : Int → Int} {n i : Int} (hT : BytT t) (hn : n ≤ 2048) (i0 : 0 ≤ i) : escV (mch t n i) = escV (chr t n i) := by
  rcases mch_chr hT hn i0 with h | h
  · rw [h.2]
  · rw [escV_big (Or.inl h.1), escV_big (by omega)]
theorem has3 (c : Int) : strHas 3 c = strHas 2 c := rfl
theorem has4 {c : Int} (h : c ≠ 92) : strHas 4 c = strHas 0 c := by
  have h : (92 : Int) ≠ c := fun e => h e.symm
  show (((47 : Int) == c) || (((93 : Int) == c) || (((45 : Int) == c) || false))) = (((47 : Int) == c) || (((92 : Int) == c) || (((93 : Int) == c) || (((45 : Int) == c) || false))))
  rw [show ((92 : Int) == c) = false from beq_false_of_ne h, Bool.false_or]
theorem has5 {c : Int} (h : c ≠ 92) (h2 : c ≠ 91) (h3 : c ≠ 46) : strHas 5 c = strHas 1 c := by
  have h : (92 : Int) ≠ c := fun e => h e.symm
  have h2 : (91 : Int) ≠ c := fun e => h2 e.symm
  have h3 : (46 : Int) ≠ c := fun e => h3 e.symm
  show (((47 : Int) == c) || (((124 : Int) == c) || (((42 : Int) == c) || (((43 : Int) == c) || (((63 : Int) == c) || (((40 : Int) == c) || (((41 : Int) == c) || false))))))) = (((47 : Int) == c) || (((92 : Int) == c) || (((124 : Int) == c) || (((42 : Int) == c) || (((43 : Int) == c) || (((63 : Int) == c) || (((40 : Int) == c) || (((41 : Int) == c) || (((91 : Int) == c) || (((46 : Int) == c) || false))))))))))
  rw [show ((92 : Int) == c) = false from beq_false_of_ne h, show ((91 : Int) == c) = false from beq_false_of_ne h2, show ((46 : Int) == c) = false from beq_false_of_ne h3, Bool.false_or, Bool.false_or, Bool.false_or]
theorem esc_no {c : Int} (h1 : c ≠ 110) (h2 : c ≠ 116) (h3 : c ≠ 114) (h : strHas 3 c = false) : escV c = -1 := by
  rw [has3] at h
  unfold escV
  rw [if_neg h1, if_neg h2, if_neg h3, if_neg (by rw [h]; simp)]
theorem esc_yes {c : Int} (h1 : c ≠ 110) (h2 : c ≠ 116) (h3 : c ≠ 114) (h : strHas 3 c = true) : escV c = c := by
  rw [has3] at h
  have hr := strHas_r (by decide) h
  unfold escV
  rw [if_neg h1, if_neg h2, if_neg h3]
  by_cases e : c = 0
  · rw [e] at h; exact absurd h (by decide)
  · rw [if_pos ⟨by omega, h⟩]
theorem plain_bad {t : Int → Int} {n i : Int} {b : Bool} (hT : BytT t) (hn : n ≤ 2048) (i0 : 0 ≤ i) (h92 : chr t n i ≠ 92) (h : mch t n i < 32 ∨ 126 < mch t n i ∨ strHas (if b then 0 else 1) (mch t n i) = true) : chrOk t n i b = false := by
  unfold chrOk
  rw [if_neg h92]
  cases e : plainB (chr t n i) b with
  | false => rfl
  | true =>
    have hr := plainB_r e
    have hc := mch_chr hT hn i0
    have e0 : chr t n i = mch t n i := by omega
    unfold plainB at e
    rw [e0] at e hr
    rcases h with h | h | h
    · omega
    · omega
    · rw [h] at e; simp at e
theorem plain_good {t : Int → Int} {n i : Int} {b : Bool} (hT : BytT t) (hn : n ≤ 2048) (i0 : 0 ≤ i) (h92 : chr t n i ≠ 92) (h1 : 32 ≤ mch t n i) (h2 : mch t n i ≤ 126) (h : strHas (if b then 0 else 1) (mch t n i) = false) : chrOk t n i b = true ∧ chrV t n i = mch t n i ∧ chrN t n i = i + 1 := by
  have hc := mch_chr hT hn i0
  have e0 : chr t n i = mch t n i := by omega
  refine ⟨?_, by unfold chrV; rw [if_neg h92, e0], by unfold chrN; rw [if_neg h92]⟩
  unfold chrOk
  rw [if_neg h92]
  unfold plainB
  rw [e0, h, decide_eq_true h1, decide_eq_true h2]
  rfl
theorem esc_facts {t : Int → Int} {n i : Int} {b : Bool} (h92 : chr t n i = 92) : chrOk t n i b = decide (0 ≤ escV (chr t n (i + 1))) ∧ chrV t n i = escV (chr t n (i + 1)) ∧ chrN t n i = i + 1 + 1 ∧ chrE t n i = i + 1 := by
  refine ⟨by unfold chrOk; rw [if_pos h92], by unfold chrV; rw [if_pos h92], by unfold chrN; rw [if_pos h92]; omega, by unfold chrE; rw [if_pos h92]⟩
theorem chrE_n {t : Int → Int} {n i : Int} (h92 : chr t n i ≠ 92) : chrE t n i = i := by unfold chrE; rw [if_neg h92]
theorem cM_escaped {Z : Zk} {wr : va_W} {a : Nat → Nat} {tape : Int → Int} {taped : Int} {place : Int} {thrown : Int} {r_op : Nat} {no : Nat} {op : Int → Int} {r_arg : Nat} {arg : Int → Int} {many : Int} {low : Int → Int64} {high : Int → Int64} {masks : Int} {cur : Int} {readLow : Int64} {readHigh : Int64} {group : Int → Int} {choice : Int → Int} {chain : Int → Int} {hasEmpty : Int → Bool} {sset : Int → Int64} {label : Int → Int} {next : Int → Int} {states : Int} {r_stamp : Nat} {ns : Nat} {stamp : Int → Int} {r_stack : Nat} {stack : Int → Int} {stamps : Int} {piled : Int} {reading : Int → Int} {readings : Int} {wher : Int → Int} {built : Int → Int64} {heads : Int → Int} {chained : Int → Int} {isE : Bool} {lives : Int → Bool} {kind : Int → Int} {newKind : Int → Int} {first : Int → Int} {kinds : Int} {leads : Int → Int} {sideStates : Int → Int} {ends : Int → Bool} {text : Int → Int} {textLong : Int} {queue : Int → Int} {frm : Int → Int} {by_ : Int → Int} {ways : Int → Int64} {before : Int → Int64} {n : Int} (hT : BytT tape) (c0 : 0 ≤ cur) (c1 : cur ≤ 2048) (n0 : 0 ≤ n) (n1 : n ≤ 2048) : Ct Z yX6_escaped hX6_escaped 6 220 [.ref (a 0), vI n] (wM Z a tape taped place thrown r_op no op r_arg arg many low high masks cur readLow readHigh group choice chain hasEmpty sset label next states r_stamp ns stamp r_stack stack stamps piled reading readings wher built heads chained isE lives kind newKind first kinds leads sideStates ends text textLong queue frm by_ ways before ++ wr) 0 0 (Ri fun r w => r = escV (chr tape n cur) ∧ w = wM Z a tape taped place thrown r_op no op r_arg arg many low high masks cur readLow readHigh group choice chain hasEmpty sset label next states r_stamp ns stamp r_stack stack stamps piled reading readings wher built heads chained isE lives kind newKind first kinds leads sideStates ends text textLong queue frm by_ ways before ++ wr) := by
  refine Ct.of RX6 "escaped" (by decide +kernel) rfl rfl hkX6_escaped (Nat.le_of_ble_eq_true rfl) (fun X hZ C => ?_)
  subst hZ
  have hr := mch_r hT n1 c0
  refine g_aload_n C dX6_escaped_0 rfl ?_
  refine g_iload_n C dX6_escaped_1 rfl ?_
  refine g_cVWi C [_] _ 0 cal_X6_40 (cM_byteAt c0 (by omega) n1 n0) rfl rfl rfl rfl (Nat.le_of_ble_eq_true rfl) (room_b rfl) dX6_escaped_2 (fun r2 w hw2 => ?_)
  obtain ⟨rfl, rfl⟩ := hw2
  refine g_istore_n C dX6_escaped_5 (by decide) ?_
  refine g_iload_n C dX6_escaped_6 rfl ?_
  refine g_bipush C dX6_escaped_7 (by decide) ?_
  refine g_icmp_ne C 15 dX6_escaped_9 (by decide) (by omega) (fun h9 => ?_) (fun h9 => ?_)
  · refine g_iload_n C dX6_escaped_15 rfl ?_
    refine g_bipush C dX6_escaped_16 (by decide) ?_
    refine g_icmp_ne C 24 dX6_escaped_18 (by decide) (by omega) (fun h18 => ?_) (fun h18 => ?_)
    · refine g_iload_n C dX6_escaped_24 rfl ?_
      refine g_bipush C dX6_escaped_25 (by decide) ?_
      refine g_icmp_ne C 33 dX6_escaped_27 (by decide) (by omega) (fun h27 => ?_) (fun h27 => ?_)
      · refine g_iload_n C dX6_escaped_33 rfl ?_
        refine g_ldcS C 3 (by decide) rfl rfl dX6_escaped_34 ?_
        refine g_cSWz C [_, _] _ cal_X6_45 (cM_isIn (i := 3) (by decide) (by omega)) rfl rfl (Nat.le_of_ble_eq_true rfl) (room_b rfl) dX6_escaped_36 (fun r36 w hw36 => ?_)
        obtain ⟨rfl, rfl⟩ := hw36
        refine g_if_eq C 46 dX6_escaped_39 (by decide) (b2_r _) (fun h39 => ?_) (fun h39 => ?_)
        · have hs := (b2_0 _).mp h39
          refine g_iconst C dX6_escaped_46 ?_
          exact g_iret C rfl ⟨_, rfl, (by rw [← escV_mch hT n1 c0]; first | exact (esc_no h9 h18 h27 hs).symm | exact (esc_yes h9 h18 h27 hs).symm), rfl⟩ dX6_escaped_47
        · have hs := (b2_ne0 _).mp h39
          refine g_iload_n C dX6_escaped_42 rfl ?_
          refine g_goto C 47 dX6_escaped_43 (by decide) ?_
          exact g_iret C rfl ⟨_, rfl, (by rw [← escV_mch hT n1 c0]; first | exact (esc_no h9 h18 h27 hs).symm | exact (esc_yes h9 h18 h27 hs).symm), rfl⟩ dX6_escaped_47
      · refine g_bipush C dX6_escaped_30 (by decide) ?_
        exact g_iret C rfl ⟨_, rfl, by rw [← escV_mch hT n1 c0]; unfold escV; rw [if_neg (by omega), if_neg (by omega), if_pos (by omega)], rfl⟩ dX6_escaped_32
    · refine g_bipush C dX6_escaped_21 (by decide) ?_
      exact g_iret C rfl ⟨_, rfl, by rw [← escV_mch hT n1 c0]; unfold escV; rw [if_neg (by omega), if_pos (by omega)], rfl⟩ dX6_escaped_23
  · refine g_bipush C dX6_escaped_12 (by decide) ?_
    exact g_iret C rfl ⟨_, rfl, by rw [← escV_mch hT n1 c0]; unfold escV; rw [if_pos (by omega)], rfl⟩ dX6_escaped_14
def addL (v : Int64) (c : Int) : Int64 := if c < 64 then v ||| lshl 1 c else v
def addH (v : Int64) (c : Int) : Int64 := if c < 64 then v else v ||| lshl 1 (c - 64)
theorem lowBits_s (v : Int64) (i : Int) (n : Nat) : lowBits v i (n + 1) = addL (lowBits v i n) (i + n) := rfl
theorem highBits_s (v : Int64) (i : Int) (n : Nat) : highBits v i (n + 1) = addH (highBits v i n) (i + n) := rfl
theorem cM_put {Z : Zk} {wr : va_W} {a : Nat → Nat} {tape : Int → Int} {taped : Int} {place : Int} {thrown : Int} {r_op : Nat} {no : Nat} {op : Int → Int} {r_arg : Nat} {arg : Int → Int} {many : Int} {low : Int → Int64} {high : Int → Int64} {masks : Int} {cur : Int} {readLow : Int64} {readHigh : Int64} {group : Int → Int} {choice : Int → Int} {chain : Int → Int} {hasEmpty : Int → Bool} {sset : Int → Int64} {label : Int → Int} {next : Int → Int} {states : Int} {r_stamp : Nat} {ns : Nat} {stamp : Int → Int} {r_stack : Nat} {stack : Int → Int} {stamps : Int} {piled : Int} {reading : Int → Int} {readings : Int} {wher : Int → Int} {built : Int → Int64} {heads : Int → Int} {chained : Int → Int} {isE : Bool} {lives : Int → Bool} {kind : Int → Int} {newKind : Int → Int} {first : Int → Int} {kinds : Int} {leads : Int → Int} {sideStates : Int → Int} {ends : Int → Bool} {text : Int → Int} {textLong : Int} {queue : Int → Int} {frm : Int → Int} {by_ : Int → Int} {ways : Int → Int64} {before : Int → Int64} {c : Int} (h0 : 0 ≤ c) (h1 : c < 128) : Ct Z yX6_put hX6_put 1 60 [.ref (a 0), vI c] (wM Z a tape taped place thrown r_op no op r_arg arg many low high masks cur readLow readHigh group choice chain hasEmpty sset label next states r_stamp ns stamp r_stack stack stamps piled reading readings wher built heads chained isE lives kind newKind first kinds leads sideStates ends text textLong queue frm by_ ways before ++ wr) 0 0 (Rv fun w => w = wM Z a tape taped place thrown r_op no op r_arg arg many low high masks cur (addL readLow c) (addH readHigh c) group choice chain hasEmpty sset label next states r_stamp ns stamp r_stack stack stamps piled reading readings wher built heads chained isE lives kind newKind first kinds leads sideStates ends text textLong queue frm by_ ways before ++ wr) := by
  refine Ct.of RX6 "put" (by decide +kernel) rfl rfl hkX6_put (Nat.le_of_ble_eq_true rfl) (fun X hZ C => ?_)
  subst hZ
  refine g_iload_n C dX6_put_0 rfl ?_
  refine g_bipush C dX6_put_1 (by decide) ?_
  refine g_icmp_ge C 21 dX6_put_3 (by decide) (by omega) (fun h3 => ?_) (fun h3 => ?_)
  · refine g_aload_n C dX6_put_21 rfl ?_
    refine g_dup C dX6_put_22 rfl ?_
    refine gM_readHigh C dX6_put_23 ?_
    refine g_lconst C 1 dX6_put_26 rfl ?_
    refine g_iload_n C dX6_put_27 rfl ?_
    refine g_bipush C dX6_put_28 (by decide) ?_
    refine g_isub C dX6_put_30 ?_
    refine g_lshl C dX6_put_31 ?_
    refine g_lor C dX6_put_32 ?_
    refine pM_readHigh C dX6_put_33 ?_
    exact g_vret C rfl ⟨rfl, by unfold addL addH; first | (rw [if_pos (show c < 64 by omega), if_pos (show c < 64 by omega)]) | (rw [if_neg (show ¬ c < 64 by omega), if_neg (show ¬ c < 64 by omega)])⟩ dX6_put_36
  · refine g_aload_n C dX6_put_6 rfl ?_
    refine g_dup C dX6_put_7 rfl ?_
    refine gM_readLow C dX6_put_8 ?_
    refine g_lconst C 1 dX6_put_11 rfl ?_
    refine g_iload_n C dX6_put_12 rfl ?_
    refine g_lshl C dX6_put_13 ?_
    refine g_lor C dX6_put_14 ?_
    refine pM_readLow C dX6_put_15 ?_
    refine g_goto C 36 dX6_put_18 (by decide) ?_
    exact g_vret C rfl ⟨rfl, by unfold addL addH; first | (rw [if_pos (show c < 64 by omega), if_pos (show c < 64 by omega)]) | (rw [if_neg (show ¬ c < 64 by omega), if_neg (show ¬ c < 64 by omega)])⟩ dX6_put_36
theorem cM_member {Z : Zk} {wr : va_W} {a : Nat → Nat} {tape : Int → Int} {taped : Int} {place : Int} {thrown : Int} {r_op : Nat} {no : Nat} {op : Int → Int} {r_arg : Nat} {arg : Int → Int} {many : Int} {low : Int → Int64} {high : Int → Int64} {masks : Int} {cur : Int} {readLow : Int64} {readHigh : Int64} {group : Int → Int} {choice : Int → Int} {chain : Int → Int} {hasEmpty : Int → Bool} {sset : Int → Int64} {label : Int → Int} {next : Int → Int} {states : Int} {r_stamp : Nat} {ns : Nat} {stamp : Int → Int} {r_stack : Nat} {stack : Int → Int} {stamps : Int} {piled : Int} {reading : Int → Int} {readings : Int} {wher : Int → Int} {built : Int → Int64} {heads : Int → Int} {chained : Int → Int} {isE : Bool} {lives : Int → Bool} {kind : Int → Int} {newKind : Int → Int} {first : Int → Int} {kinds : Int} {leads : Int → Int} {sideStates : Int → Int} {ends : Int → Bool} {text : Int → Int} {textLong : Int} {queue : Int → Int} {frm : Int → Int} {by_ : Int → Int} {ways : Int → Int64} {before : Int → Int64} {n : Int} (hT : BytT tape) (c0 : 0 ≤ cur) (c1 : cur ≤ n) (n1 : n ≤ 2048) : Ct Z yX6_member hX6_member 7 280 [.ref (a 0), vI n] (wM Z a tape taped place thrown r_op no op r_arg arg many low high masks cur readLow readHigh group choice chain hasEmpty sset label next states r_stamp ns stamp r_stack stack stamps piled reading readings wher built heads chained isE lives kind newKind first kinds leads sideStates ends text textLong queue frm by_ ways before ++ wr) 0 0 (Ri fun r w => (chrOk tape n cur true = true ∧ r = chrV tape n cur ∧ w = wM Z a tape taped place thrown r_op no op r_arg arg many low high masks (chrN tape n cur) readLow readHigh group choice chain hasEmpty sset label next states r_stamp ns stamp r_stack stack stamps piled reading readings wher built heads chained isE lives kind newKind first kinds leads sideStates ends text textLong queue frm by_ ways before ++ wr) ∨ (chrOk tape n cur true = false ∧ r = -1 ∧ w = wM Z a tape taped place thrown r_op no op r_arg arg many low high masks (chrE tape n cur) readLow readHigh group choice chain hasEmpty sset label next states r_stamp ns stamp r_stack stack stamps piled reading readings wher built heads chained isE lives kind newKind first kinds leads sideStates ends text textLong queue frm by_ ways before ++ wr)) := by
  refine Ct.of RX6 "member" (by decide +kernel) rfl rfl hkX6_member (Nat.le_of_ble_eq_true rfl) (fun X hZ C => ?_)
  subst hZ
  have hr := mch_r hT n1 c0
  have hc := mch_chr hT n1 c0
  refine g_aload_n C dX6_member_0 rfl ?_
  refine g_iload_n C dX6_member_1 rfl ?_
  refine g_cVWi C [_] _ 0 cal_X6_40 (cM_byteAt c0 (by omega) n1 (by omega)) rfl rfl rfl rfl (Nat.le_of_ble_eq_true rfl) (room_b rfl) dX6_member_2 (fun r2 w hw2 => ?_)
  obtain ⟨rfl, rfl⟩ := hw2
  refine g_istore_n C dX6_member_5 (by decide) ?_
  refine g_iload_n C dX6_member_6 rfl ?_
  refine g_bipush C dX6_member_7 (by decide) ?_
  refine g_icmp_ne C 47 dX6_member_9 (by decide) (by omega) (fun h9 => ?_) (fun h9 => ?_)
  · have e92 : chr tape n cur ≠ 92 := by omega
    refine g_iload_n C dX6_member_47 rfl ?_
    refine g_bipush C dX6_member_48 (by decide) ?_
    refine g_icmp_lt C 68 dX6_member_50 (by decide) (by omega) (fun h50 => ?_) (fun h50 => ?_)
    · refine g_iconst C dX6_member_68 ?_
      exact g_iret C rfl ⟨_, rfl, Or.inr ⟨plain_bad hT n1 c0 e92 (by first | exact Or.inl h50 | exact Or.inr (Or.inl h56) | exact Or.inr (Or.inr ((has4 h9).symm.trans hs))), rfl, by rw [chrE_n e92]⟩⟩ dX6_member_69
    · refine g_iload_n C dX6_member_53 rfl ?_
      refine g_bipush C dX6_member_54 (by decide) ?_
      refine g_icmp_gt C 68 dX6_member_56 (by decide) (by omega) (fun h56 => ?_) (fun h56 => ?_)
      · refine g_iconst C dX6_member_68 ?_
        exact g_iret C rfl ⟨_, rfl, Or.inr ⟨plain_bad hT n1 c0 e92 (by first | exact Or.inl h50 | exact Or.inr (Or.inl h56) | exact Or.inr (Or.inr ((has4 h9).symm.trans hs))), rfl, by rw [chrE_n e92]⟩⟩ dX6_member_69
      · refine g_iload_n C dX6_member_59 rfl ?_
        refine g_ldcS C 4 (by decide) rfl rfl dX6_member_60 ?_
        refine g_cSWz C [_, _] _ cal_X6_45 (cM_isIn (i := 4) (by decide) (by omega)) rfl rfl (Nat.le_of_ble_eq_true rfl) (room_b rfl) dX6_member_62 (fun r62 w hw62 => ?_)
        obtain ⟨rfl, rfl⟩ := hw62
        refine g_if_eq C 70 dX6_member_65 (by decide) (b2_r _) (fun h65 => ?_) (fun h65 => ?_)
        · have hs := (b2_0 _).mp h65
          have hg := plain_good (b := true) hT n1 c0 e92 (by omega) (by omega) ((has4 h9).symm.trans hs)
          refine g_aload_n C dX6_member_70 rfl ?_
          refine g_dup C dX6_member_71 rfl ?_
          refine gM_at C dX6_member_72 ?_
          refine g_iconst C dX6_member_75 ?_
          refine g_iadd C dX6_member_76 ?_
          refine pM_at C dX6_member_77 ?_
          refine g_iload_n C dX6_member_80 rfl ?_
          exact g_iret C rfl ⟨_, rfl, Or.inl ⟨hg.1, hg.2.1.symm, by rw [hg.2.2]⟩⟩ dX6_member_81
        · have hs := (b2_ne0 _).mp h65
          refine g_iconst C dX6_member_68 ?_
          exact g_iret C rfl ⟨_, rfl, Or.inr ⟨plain_bad hT n1 c0 e92 (by first | exact Or.inl h50 | exact Or.inr (Or.inl h56) | exact Or.inr (Or.inr ((has4 h9).symm.trans hs))), rfl, by rw [chrE_n e92]⟩⟩ dX6_member_69
  · have e92 : chr tape n cur = 92 := by omega
    have hlt := chr_lt (t := tape) (n := n) (i := cur) (by omega)
    have he := escV_r (chr tape n (cur + 1))
    refine g_aload_n C dX6_member_12 rfl ?_
    refine g_dup C dX6_member_13 rfl ?_
    refine gM_at C dX6_member_14 ?_
    refine g_iconst C dX6_member_17 ?_
    refine g_iadd C dX6_member_18 ?_
    refine pM_at C dX6_member_19 ?_
    refine g_aload_n C dX6_member_22 rfl ?_
    refine g_iload_n C dX6_member_23 rfl ?_
    refine g_cVWi C [_] _ 0 cal_X6_56 (cM_escaped (cur := cur + 1) hT (by omega) (by omega) (by omega) n1) rfl rfl rfl rfl (Nat.le_of_ble_eq_true rfl) (room_b rfl) dX6_member_24 (fun r24 w hw24 => ?_)
    obtain ⟨rfl, rfl⟩ := hw24
    refine g_istore_n C dX6_member_27 (by decide) ?_
    refine g_iload_n C dX6_member_28 rfl ?_
    refine g_iconst C dX6_member_29 ?_
    refine g_icmp_ne C 35 dX6_member_30 (by decide) (by omega) (fun h30 => ?_) (fun h30 => ?_)
    · refine g_aload_n C dX6_member_35 rfl ?_
      refine g_dup C dX6_member_36 rfl ?_
      refine gM_at C dX6_member_37 ?_
      refine g_iconst C dX6_member_40 ?_
      refine g_iadd C dX6_member_41 ?_
      refine pM_at C dX6_member_42 ?_
      refine g_iload_n C dX6_member_45 rfl ?_
      exact g_iret C rfl ⟨_, rfl, Or.inl ⟨by rw [(esc_facts e92).1]; exact decide_eq_true (by omega), (esc_facts (b := true) e92).2.1.symm, by rw [(esc_facts (t := tape) (b := true) e92).2.2.1]⟩⟩ dX6_member_46
    · refine g_iconst C dX6_member_33 ?_
      exact g_iret C rfl ⟨_, rfl, Or.inr ⟨by rw [(esc_facts e92).1]; exact decide_eq_false (by omega), rfl, by rw [(esc_facts (t := tape) (b := true) e92).2.2.2]⟩⟩ dX6_member_34
/-- what the reading of a mask leaves -/
def RdP (R : Except Int (Int × Int64 × Int64)) (W : Int → Int64 → Int64 → va_W) (r : Bool) (w : va_W) : Prop := match R with
  | .ok (j, l, h) => r = true ∧ w = W j l h
  | .error e => r = false ∧ ∃ rl rh, w = W e rl rh
theorem cM_bracket {Z : Zk} {wr : va_W} {a : Nat → Nat} {tape : Int → Int} {taped : Int} {place : Int} {thrown : Int} {r_op : Nat} {no : Nat} {op : Int → Int} {r_arg : Nat} {arg : Int → Int} {many : Int} {low : Int → Int64} {high : Int → Int64} {masks : Int} {cur : Int} {readLow : Int64} {readHigh : Int64} {group : Int → Int} {choice : Int → Int} {chain : Int → Int} {hasEmpty : Int → Bool} {sset : Int → Int64} {label : Int → Int} {next : Int → Int} {states : Int} {r_stamp : Nat} {ns : Nat} {stamp : Int → Int} {r_stack : Nat} {stack : Int → Int} {stamps : Int} {piled : Int} {reading : Int → Int} {readings : Int} {wher : Int → Int} {built : Int → Int64} {heads : Int → Int} {chained : Int → Int} {isE : Bool} {lives : Int → Bool} {kind : Int → Int} {newKind : Int → Int} {first : Int → Int} {kinds : Int} {leads : Int → Int} {sideStates : Int → Int} {ends : Int → Bool} {text : Int → Int} {textLong : Int} {queue : Int → Int} {frm : Int → Int} {by_ : Int → Int} {ways : Int → Int64} {before : Int → Int64} {n : Int} (hT : BytT tape) (c0 : 0 ≤ cur) (c1 : cur < n) (n1 : n ≤ 2048) : Ct Z yX6_bracket hX6_bracket 8 340 [.ref (a 0), vI n] (wM Z a tape taped place thrown r_op no op r_arg arg many low high masks cur readLow readHigh group choice chain hasEmpty sset label next states r_stamp ns stamp r_stack stack stamps piled reading readings wher built heads chained isE lives kind newKind first kinds leads sideStates ends text textLong queue frm by_ ways before ++ wr) 0 0 (Rz (RdP (clsR tape n cur readLow readHigh) (fun c l h => wM Z a tape taped place thrown r_op no op r_arg arg many low high masks c l h group choice chain hasEmpty sset label next states r_stamp ns stamp r_stack stack stamps piled reading readings wher built heads chained isE lives kind newKind first kinds leads sideStates ends text textLong queue frm by_ ways before ++ wr))) := by
  refine Ct.of RX6 "bracket" (by decide +kernel) rfl rfl hkX6_bracket (Nat.le_of_ble_eq_true rfl) (fun X hZ C => ?_)
  subst hZ
  have bits : ∀ (nt : Bool) (i : Int) (lo hi : Int64) (fr to : Int), 0 ≤ fr → to < 128 → fr ≤ to → (G X 6 0 0 (wM X.Z a tape taped place thrown r_op no op r_arg arg many low high masks i (lowBits lo fr (to + 1 - fr).toNat) (highBits hi fr (to + 1 - fr).toNat) group choice chain hasEmpty sset label next states r_stamp ns stamp r_stack stack stamps piled reading readings wher built heads chained isE lives kind newKind first kinds leads sideStates ends text textLong queue frm by_ ways before ++ wr) 133 [(0, .ref (a 0)), (1, vI n), (2, vI (b2 nt))] []) → ∀ (f m : Nat) (k : Int), k = fr + (m : Int) → fr + (m : Int) + (f : Int) = to + 1 → G X 6 0 0 (wM X.Z a tape taped place thrown r_op no op r_arg arg many low high masks i (lowBits lo fr m) (highBits hi fr m) group choice chain hasEmpty sset label next states r_stamp ns stamp r_stack stack stamps piled reading readings wher built heads chained isE lives kind newKind first kinds leads sideStates ends text textLong queue frm by_ ways before ++ wr) 114 [(0, .ref (a 0)), (1, vI n), (2, vI (b2 nt)), (3, vI fr), (4, vI to), (5, vI k)] [] := by
    intro nt i lo hi fr to h0 h1 h2 hg f
    induction f with
    | zero =>
      intro m k hk hm
      rw [show (to + 1 - fr).toNat = m by omega] at hg
      refine g_iload C dX6_bracket_114 rfl ?_
      refine g_iload C dX6_bracket_116 rfl ?_
      refine g_icmp_gt C 133 dX6_bracket_118 (by decide) (by omega) (fun h118 => ?_) (fun h118 => ?_)
      · exact g_locR rfl hg
      · exact absurd h118 (by omega)
    | succ f ih =>
      intro m k hk hm
      have hn := ih (m + 1) (k + 1) (by omega) (by omega)
      rw [lowBits_s, highBits_s, ← hk] at hn
      refine g_iload C dX6_bracket_114 rfl ?_
      refine g_iload C dX6_bracket_116 rfl ?_
      refine g_icmp_gt C 133 dX6_bracket_118 (by decide) (by omega) (fun h118 => ?_) (fun h118 => ?_)
      · exact absurd h118 (by omega)
      · refine g_aload_n C dX6_bracket_121 rfl ?_
        refine g_iload C dX6_bracket_122 rfl ?_
        refine g_cVWv C [_] _ 0 cal_X6_64 (cM_put (by omega) (by omega)) rfl rfl rfl rfl (Nat.le_of_ble_eq_true rfl) (room_b rfl) dX6_bracket_124 (fun w hw124 => ?_)
        subst hw124
        refine g_iinc C dX6_bracket_127 rfl (by decide) ?_
        refine g_goto C 114 dX6_bracket_130 (by decide) ?_
        exact g_locR rfl hn
  have lp : ∀ (nt : Bool) (R : Except Int (Int × Int64 × Int64)), (∀ j l h, R = .ok (j, l, h) → G X 6 0 0 (wM X.Z a tape taped place thrown r_op no op r_arg arg many low high masks j l h group choice chain hasEmpty sset label next states r_stamp ns stamp r_stack stack stamps piled reading readings wher built heads chained isE lives kind newKind first kinds leads sideStates ends text textLong queue frm by_ ways before ++ wr) 163 [(0, .ref (a 0)), (1, vI n), (2, vI (b2 nt))] []) → (∀ e rl rh pc L, decode cX6_bracket pc = .ok (.ireturn, 1) → R = .error e → G X 6 0 0 (wM X.Z a tape taped place thrown r_op no op r_arg arg many low high masks e rl rh group choice chain hasEmpty sset label next states r_stamp ns stamp r_stack stack stamps piled reading readings wher built heads chained isE lives kind newKind first kinds leads sideStates ends text textLong queue frm by_ ways before ++ wr) pc L [vI 0]) → ∀ (f : Nat) (i : Int) (lo hi : Int64), 0 ≤ i → i ≤ n → (n - i).toNat < f → chcL tape n f i lo hi = R → G X 6 0 0 (wM X.Z a tape taped place thrown r_op no op r_arg arg many low high masks i lo hi group choice chain hasEmpty sset label next states r_stamp ns stamp r_stack stack stamps piled reading readings wher built heads chained isE lives kind newKind first kinds leads sideStates ends text textLong queue frm by_ ways before ++ wr) 40 [(0, .ref (a 0)), (1, vI n), (2, vI (b2 nt))] [] := by
    intro nt R kok kerr f
    induction f with
    | zero => intro i lo hi _ _ h; omega
    | succ f ih =>
      intro i lo hi i0 i1 hf hR
      unfold chcL at hR
      have t133 : ∀ (j : Int) (l h : Int64), i < j → j ≤ n → (if chr tape n j = 93 then Except.ok (j, l, h) else chcL tape n f j l h) = R → G X 6 0 0 (wM X.Z a tape taped place thrown r_op no op r_arg arg many low high masks j l h group choice chain hasEmpty sset label next states r_stamp ns stamp r_stack stack stamps piled reading readings wher built heads chained isE lives kind newKind first kinds leads sideStates ends text textLong queue frm by_ ways before ++ wr) 133 [(0, .ref (a 0)), (1, vI n), (2, vI (b2 nt))] [] := by
        intro j l h j0 j1 hR2
        have hc := mch_chr hT n1 (show 0 ≤ j by omega)
        have hr := mch_r hT n1 (show 0 ≤ j by omega)
        refine g_aload_n C dX6_bracket_133 rfl ?_
        refine g_iload_n C dX6_bracket_134 rfl ?_
        refine g_cVWi C [_] _ 0 cal_X6_40 (cM_byteAt (cur := j) (by omega) (by omega) n1 (by omega)) rfl rfl rfl rfl (Nat.le_of_ble_eq_true rfl) (room_b rfl) dX6_bracket_135 (fun r135 w hw135 => ?_)
        obtain ⟨rfl, rfl⟩ := hw135
        refine g_bipush C dX6_bracket_138 (by decide) ?_
        refine g_icmp_eq C 151 dX6_bracket_140 (by decide) (by omega) (fun h140 => ?_) (fun h140 => ?_)
        · refine g_aload_n C dX6_bracket_151 rfl ?_
          refine g_iload_n C dX6_bracket_152 rfl ?_
          refine g_cVWi C [_] _ 0 cal_X6_40 (cM_byteAt (cur := j) (by omega) (by omega) n1 (by omega)) rfl rfl rfl rfl (Nat.le_of_ble_eq_true rfl) (room_b rfl) dX6_bracket_153 (fun r153 w hw153 => ?_)
          obtain ⟨rfl, rfl⟩ := hw153
          refine g_bipush C dX6_bracket_156 (by decide) ?_
          refine g_icmp_eq C 163 dX6_bracket_158 (by decide) (by omega) (fun h158 => ?_) (fun h158 => ?_)
          · rw [if_pos (by omega)] at hR2
            exact g_locR rfl (kok j l h hR2.symm)
          · refine g_iconst C dX6_bracket_161 ?_
            have ej : j = n := by omega
            rw [if_neg (by omega)] at hR2
            have hf1 : 1 ≤ f := by omega
            obtain ⟨f', rfl⟩ : ∃ f', f = f' + 1 := ⟨f - 1, by omega⟩
            have hE : chr tape n j = -1 := by unfold chr; rw [if_neg (by omega)]
            unfold chcL at hR2
            rw [if_neg (by rw [show chrOk tape n j true = false from by unfold chrOk; rw [hE, if_neg (by decide)]; rfl]; decide), chrE_n (by rw [hE]; decide)] at hR2
            exact kerr j _ _ 162 _ dX6_bracket_162 hR2.symm
        · refine g_aload_n C dX6_bracket_143 rfl ?_
          refine gM_at C dX6_bracket_144 ?_
          refine g_iload_n C dX6_bracket_147 rfl ?_
          refine g_icmp_lt C 40 dX6_bracket_148 (by decide) (by omega) (fun h148 => ?_) (fun h148 => ?_)
          · rw [if_neg (by omega)] at hR2
            exact g_locR rfl (ih j l h (by omega) j1 (by omega) hR2)
          · refine g_aload_n C dX6_bracket_151 rfl ?_
            refine g_iload_n C dX6_bracket_152 rfl ?_
            refine g_cVWi C [_] _ 0 cal_X6_40 (cM_byteAt (cur := j) (by omega) (by omega) n1 (by omega)) rfl rfl rfl rfl (Nat.le_of_ble_eq_true rfl) (room_b rfl) dX6_bracket_153 (fun r153 w hw153 => ?_)
            obtain ⟨rfl, rfl⟩ := hw153
            refine g_bipush C dX6_bracket_156 (by decide) ?_
            refine g_icmp_eq C 163 dX6_bracket_158 (by decide) (by omega) (fun h158 => ?_) (fun h158 => ?_)
            · rw [if_pos (by omega)] at hR2
              exact g_locR rfl (kok j l h hR2.symm)
            · refine g_iconst C dX6_bracket_161 ?_
              have ej : j = n := by omega
              rw [if_neg (by omega)] at hR2
              have hf1 : 1 ≤ f := by omega
              obtain ⟨f', rfl⟩ : ∃ f', f = f' + 1 := ⟨f - 1, by omega⟩
              have hE : chr tape n j = -1 := by unfold chr; rw [if_neg (by omega)]
              unfold chcL at hR2
              rw [if_neg (by rw [show chrOk tape n j true = false from by unfold chrOk; rw [hE, if_neg (by decide)]; rfl]; decide), chrE_n (by rw [hE]; decide)] at hR2
              exact kerr j _ _ 162 _ dX6_bracket_162 hR2.symm
      have t111 : ∀ (fr to j : Int), 0 ≤ fr → fr ≤ to → to < 128 → i < j → j ≤ n → (if chr tape n j = 93 then Except.ok (j, lowBits lo fr (to + 1 - fr).toNat, highBits hi fr (to + 1 - fr).toNat) else chcL tape n f j (lowBits lo fr (to + 1 - fr).toNat) (highBits hi fr (to + 1 - fr).toNat)) = R → G X 6 0 0 (wM X.Z a tape taped place thrown r_op no op r_arg arg many low high masks j lo hi group choice chain hasEmpty sset label next states r_stamp ns stamp r_stack stack stamps piled reading readings wher built heads chained isE lives kind newKind first kinds leads sideStates ends text textLong queue frm by_ ways before ++ wr) 111 [(0, .ref (a 0)), (1, vI n), (2, vI (b2 nt)), (3, vI fr), (4, vI to)] [] := by
        intro fr to j h0 h1 h2 j0 j1 hR2
        refine g_iload_n C dX6_bracket_111 rfl ?_
        refine g_istore C dX6_bracket_112 (by decide) ?_
        exact g_locR rfl (bits nt j lo hi fr to h0 h2 h1 (t133 j _ _ j0 j1 hR2) (to + 1 - fr).toNat 0 fr (by omega) (by omega))
      have rng : chrOk tape n i true = true → chrOk tape n (chrN tape n i + 1) true = true → (if chrV tape n (chrN tape n i + 1) < chrV tape n i then Except.error (chrN tape n i + 1) else if chr tape n (chrN tape n (chrN tape n i + 1)) = 93 then .ok (chrN tape n (chrN tape n i + 1), lowBits lo (chrV tape n i) (chrV tape n (chrN tape n i + 1) + 1 - chrV tape n i).toNat, highBits hi (chrV tape n i) (chrV tape n (chrN tape n i + 1) + 1 - chrV tape n i).toNat) else chcL tape n f (chrN tape n (chrN tape n i + 1)) (lowBits lo (chrV tape n i) (chrV tape n (chrN tape n i + 1) + 1 - chrV tape n i).toNat) (highBits hi (chrV tape n i) (chrV tape n (chrN tape n i + 1) + 1 - chrV tape n i).toNat)) = R → G X 6 0 0 (wM X.Z a tape taped place thrown r_op no op r_arg arg many low high masks (chrN tape n (chrN tape n i + 1)) lo hi group choice chain hasEmpty sset label next states r_stamp ns stamp r_stack stack stamps piled reading readings wher built heads chained isE lives kind newKind first kinds leads sideStates ends text textLong queue frm by_ ways before ++ wr) 87 [(0, .ref (a 0)), (1, vI n), (2, vI (b2 nt)), (3, vI (chrV tape n i)), (4, vI (chrV tape n i)), (5, vI (chrN tape n i + 1))] [vI (chrV tape n (chrN tape n i + 1))] := by
        intro ho ho2 hR
        have hl := chrOk_lt ho
        have hl2 := chrOk_lt ho2
        refine g_istore C dX6_bracket_87 (by decide) ?_
        refine g_iload C dX6_bracket_89 rfl ?_
        refine g_iconst C dX6_bracket_91 ?_
        refine g_icmp_ne C 97 dX6_bracket_92 (by decide) (by omega) (fun h92 => ?_) (fun h92 => ?_)
        · refine g_iload C dX6_bracket_97 rfl ?_
          refine g_iload_n C dX6_bracket_99 rfl ?_
          refine g_icmp_ge C 111 dX6_bracket_100 (by decide) (by omega) (fun h100 => ?_) (fun h100 => ?_)
          · rw [if_neg (by omega)] at hR
            exact g_locR rfl (t111 (chrV tape n i) (chrV tape n (chrN tape n i + 1)) (chrN tape n (chrN tape n i + 1)) (by omega) (by omega) (by omega) (by omega) (by omega) hR)
          · refine g_aload_n C dX6_bracket_103 rfl ?_
            refine g_iload C dX6_bracket_104 rfl ?_
            refine pM_at C dX6_bracket_106 ?_
            refine g_iconst C dX6_bracket_109 ?_
            rw [if_pos (by omega)] at hR
            exact kerr _ _ _ 110 _ dX6_bracket_110 hR.symm
        · exact absurd h92 (by omega)
      have good : chrOk tape n i true = true → G X 6 0 0 (wM X.Z a tape taped place thrown r_op no op r_arg arg many low high masks (chrN tape n i) lo hi group choice chain hasEmpty sset label next states r_stamp ns stamp r_stack stack stamps piled reading readings wher built heads chained isE lives kind newKind first kinds leads sideStates ends text textLong queue frm by_ ways before ++ wr) 45 [(0, .ref (a 0)), (1, vI n), (2, vI (b2 nt))] [vI (chrV tape n i)] := by
        intro ho
        have hl := chrOk_lt ho
        rw [if_pos ho] at hR
        have hc := mch_chr hT n1 (show 0 ≤ chrN tape n i by omega)
        have hr := mch_r hT n1 (show 0 ≤ chrN tape n i by omega)
        refine g_istore_n C dX6_bracket_45 (by decide) ?_
        refine g_iload_n C dX6_bracket_46 rfl ?_
        refine g_iconst C dX6_bracket_47 ?_
        refine g_icmp_ne C 53 dX6_bracket_48 (by decide) (by omega) (fun h48 => ?_) (fun h48 => ?_)
        · refine g_iload_n C dX6_bracket_53 rfl ?_
          refine g_istore C dX6_bracket_54 (by decide) ?_
          refine g_aload_n C dX6_bracket_56 rfl ?_
          refine g_iload_n C dX6_bracket_57 rfl ?_
          refine g_cVWi C [_] _ 0 cal_X6_40 (cM_byteAt (cur := chrN tape n i) (by omega) (by omega) n1 (by omega)) rfl rfl rfl rfl (Nat.le_of_ble_eq_true rfl) (room_b rfl) dX6_bracket_58 (fun r58 w hw58 => ?_)
          obtain ⟨rfl, rfl⟩ := hw58
          refine g_bipush C dX6_bracket_61 (by decide) ?_
          refine g_icmp_ne C 111 dX6_bracket_63 (by decide) (by omega) (fun h63 => ?_) (fun h63 => ?_)
          · rw [if_neg (by omega)] at hR
            exact g_locR rfl (t111 (chrV tape n i) (chrV tape n i) (chrN tape n i) (by omega) (by omega) (by omega) (by omega) (by omega) (by rw [show (chrV tape n i + 1 - chrV tape n i).toNat = 1 by omega]; exact hR))
          · rw [if_pos (by omega)] at hR
            have hlt := chr_lt (t := tape) (n := n) (i := chrN tape n i) (by omega)
            refine g_aload_n C dX6_bracket_66 rfl ?_
            refine g_dup C dX6_bracket_67 rfl ?_
            refine gM_at C dX6_bracket_68 ?_
            refine g_iconst C dX6_bracket_71 ?_
            refine g_iadd C dX6_bracket_72 ?_
            refine pM_at C dX6_bracket_73 ?_
            refine g_aload_n C dX6_bracket_76 rfl ?_
            refine gM_at C dX6_bracket_77 ?_
            refine g_istore C dX6_bracket_80 (by decide) ?_
            refine g_aload_n C dX6_bracket_82 rfl ?_
            refine g_iload_n C dX6_bracket_83 rfl ?_
            refine g_cVWi C [_] _ 0 cal_X6_61 (cM_member (cur := chrN tape n i + 1) hT (by omega) (by omega) n1) rfl rfl rfl rfl (Nat.le_of_ble_eq_true rfl) (room_b rfl) dX6_bracket_84 (fun r84 w hw84 => ?_)
            rcases hw84 with ⟨ho2, rfl, rfl⟩ | ⟨ho2, rfl, rfl⟩
            · have hl2 := chrOk_lt ho2
              rw [if_pos ho2] at hR
              exact g_locR rfl (rng ho ho2 hR)
            · rw [if_neg (by rw [ho2]; decide)] at hR
              refine g_istore C dX6_bracket_87 (by decide) ?_
              refine g_iload C dX6_bracket_89 rfl ?_
              refine g_iconst C dX6_bracket_91 ?_
              refine g_icmp_ne C 97 dX6_bracket_92 (by decide) (by decide) (fun h92 => absurd rfl h92) (fun h92 => ?_)
              refine g_iconst C dX6_bracket_95 ?_
              exact kerr _ _ _ 96 _ dX6_bracket_96 hR.symm
        · exact absurd h48 (by omega)
      refine g_aload_n C dX6_bracket_40 rfl ?_
      refine g_iload_n C dX6_bracket_41 rfl ?_
      refine g_cVWi C [_] _ 0 cal_X6_61 (cM_member (cur := i) hT i0 i1 n1) rfl rfl rfl rfl (Nat.le_of_ble_eq_true rfl) (room_b rfl) dX6_bracket_42 (fun r42 w hw42 => ?_)
      rcases hw42 with ⟨ho, rfl, rfl⟩ | ⟨ho, rfl, rfl⟩
      · exact g_locR rfl (good ho)
      · rw [if_neg (by rw [ho]; decide)] at hR
        refine g_istore_n C dX6_bracket_45 (by decide) ?_
        refine g_iload_n C dX6_bracket_46 rfl ?_
        refine g_iconst C dX6_bracket_47 ?_
        refine g_icmp_ne C 53 dX6_bracket_48 (by decide) (by decide) (fun h92 => absurd rfl h92) (fun h92 => ?_)
        refine g_iconst C dX6_bracket_51 ?_
        exact kerr _ _ _ 52 _ dX6_bracket_52 hR.symm
  have fin : ∀ (nt : Bool) (j : Int) (l h : Int64), 0 ≤ j → j ≤ n → clsR tape n cur readLow readHigh = .ok (j + 1, (bif nt then l ^^^ (-1) else l), (bif nt then h ^^^ (-1) else h)) → G X 6 0 0 (wM X.Z a tape taped place thrown r_op no op r_arg arg many low high masks j l h group choice chain hasEmpty sset label next states r_stamp ns stamp r_stack stack stamps piled reading readings wher built heads chained isE lives kind newKind first kinds leads sideStates ends text textLong queue frm by_ ways before ++ wr) 163 [(0, .ref (a 0)), (1, vI n), (2, vI (b2 nt))] [] := by
    intro nt j l h j0 j1 hR
    cases nt with
    | false =>
      refine g_aload_n C dX6_bracket_163 rfl ?_
      refine g_dup C dX6_bracket_164 rfl ?_
      refine gM_at C dX6_bracket_165 ?_
      refine g_iconst C dX6_bracket_168 ?_
      refine g_iadd C dX6_bracket_169 ?_
      refine pM_at C dX6_bracket_170 ?_
      refine g_iload_n C dX6_bracket_173 rfl ?_
      refine g_if_eq C 201 dX6_bracket_174 (by decide) (b2_r _) (fun h174 => ?_) (fun h174 => ?_)
      · refine g_iconst C dX6_bracket_201 ?_
        exact g_zret C true rfl rfl ⟨_, rfl, by rw [hR]; exact ⟨rfl, rfl⟩⟩ dX6_bracket_202
      · exact absurd rfl h174
    | true =>
      refine g_aload_n C dX6_bracket_163 rfl ?_
      refine g_dup C dX6_bracket_164 rfl ?_
      refine gM_at C dX6_bracket_165 ?_
      refine g_iconst C dX6_bracket_168 ?_
      refine g_iadd C dX6_bracket_169 ?_
      refine pM_at C dX6_bracket_170 ?_
      refine g_iload_n C dX6_bracket_173 rfl ?_
      refine g_if_eq C 201 dX6_bracket_174 (by decide) (b2_r _) (fun h174 => ?_) (fun h174 => ?_)
      · exact absurd h174 (by decide)
      · refine g_aload_n C dX6_bracket_177 rfl ?_
        refine g_aload_n C dX6_bracket_178 rfl ?_
        refine gM_readLow C dX6_bracket_179 ?_
        refine g_ldc2 C q873 dX6_bracket_182 ?_
        refine g_lxor C dX6_bracket_185 ?_
        refine pM_readLow C dX6_bracket_186 ?_
        refine g_aload_n C dX6_bracket_189 rfl ?_
        refine g_aload_n C dX6_bracket_190 rfl ?_
        refine gM_readHigh C dX6_bracket_191 ?_
        refine g_ldc2 C q873 dX6_bracket_194 ?_
        refine g_lxor C dX6_bracket_197 ?_
        refine pM_readHigh C dX6_bracket_198 ?_
        refine g_iconst C dX6_bracket_201 ?_
        exact g_zret C true rfl rfl ⟨_, rfl, by rw [hR]; exact ⟨rfl, rfl⟩⟩ dX6_bracket_202
  have hc := mch_chr hT n1 (show 0 ≤ cur + 1 by omega)
  have hr := mch_r hT n1 (show 0 ≤ cur + 1 by omega)
  refine g_aload_n C dX6_bracket_0 rfl ?_
  refine g_dup C dX6_bracket_1 rfl ?_
  refine gM_at C dX6_bracket_2 ?_
  refine g_iconst C dX6_bracket_5 ?_
  refine g_iadd C dX6_bracket_6 ?_
  refine pM_at C dX6_bracket_7 ?_
  refine g_aload_n C dX6_bracket_10 rfl ?_
  refine g_iload_n C dX6_bracket_11 rfl ?_
  refine g_cVWi C [_] _ 0 cal_X6_40 (cM_byteAt (cur := cur + 1) (by omega) (by omega) n1 (by omega)) rfl rfl rfl rfl (Nat.le_of_ble_eq_true rfl) (room_b rfl) dX6_bracket_12 (fun r12 w hw12 => ?_)
  obtain ⟨rfl, rfl⟩ := hw12
  refine g_bipush C dX6_bracket_15 (by decide) ?_
  refine g_icmp_ne C 24 dX6_bracket_17 (by decide) (by omega) (fun h17 => ?_) (fun h17 => ?_)
  · have e1 : clsR tape n cur readLow readHigh = (match chcL tape n ((n - cur).toNat + 1) (cur + 1) readLow readHigh with | .error e => .error e | .ok (j, l, h) => .ok (j + 1, l, h)) := by unfold clsR; rw [if_neg (by omega)]; generalize chcL tape n ((n - cur).toNat + 1) (cur + 1) readLow readHigh = r; rcases r with e | ⟨j, l, h⟩ <;> rfl
    refine g_iconst C dX6_bracket_24 ?_
    refine g_istore_n C dX6_bracket_25 (by decide) ?_
    refine g_iload_n C dX6_bracket_26 rfl ?_
    refine g_if_eq C 40 dX6_bracket_27 (by decide) (by decide) (fun h27 => ?_) (fun h27 => absurd rfl h27)
    refine g_locR rfl (lp false _ (fun j l h e => ?_) (fun e rl rh pc L hd he => ?_) ((n - cur).toNat + 1) (cur + 1) readLow readHigh (by omega) (by omega) (by omega) rfl)
    · have := chcL_ok _ _ _ _ _ _ _ e
      exact fin false j l h (by omega) (by omega) (by rw [e1, e]; rfl)
    · exact g_zret C false rfl rfl ⟨_, rfl, by rw [e1, he]; exact ⟨rfl, _, _, rfl⟩⟩ hd
  · have hlt := chr_lt (t := tape) (n := n) (i := cur + 1) (by omega)
    have e1 : clsR tape n cur readLow readHigh = (match chcL tape n ((n - cur).toNat + 1) (cur + 2) readLow readHigh with | .error e => .error e | .ok (j, l, h) => .ok (j + 1, l ^^^ (-1), h ^^^ (-1))) := by unfold clsR; rw [if_pos (by omega)]; generalize chcL tape n ((n - cur).toNat + 1) (cur + 2) readLow readHigh = r; rcases r with e | ⟨j, l, h⟩ <;> rfl
    refine g_iconst C dX6_bracket_20 ?_
    refine g_goto C 25 dX6_bracket_21 (by decide) ?_
    refine g_istore_n C dX6_bracket_25 (by decide) ?_
    refine g_iload_n C dX6_bracket_26 rfl ?_
    refine g_if_eq C 40 dX6_bracket_27 (by decide) (by decide) (fun h27 => absurd h27 (by decide)) (fun h27 => ?_)
    refine g_aload_n C dX6_bracket_30 rfl ?_
    refine g_dup C dX6_bracket_31 rfl ?_
    refine gM_at C dX6_bracket_32 ?_
    refine g_iconst C dX6_bracket_35 ?_
    refine g_iadd C dX6_bracket_36 ?_
    refine pM_at C dX6_bracket_37 ?_
    rw [show cur + 1 + 1 = cur + 2 by omega]
    refine g_locR rfl (lp true _ (fun j l h e => ?_) (fun e rl rh pc L hd he => ?_) ((n - cur).toNat + 1) (cur + 2) readLow readHigh (by omega) (by omega) (by omega) rfl)
    · have := chcL_ok _ _ _ _ _ _ _ e
      exact fin true j l h (by omega) (by omega) (by rw [e1, e]; rfl)
    · exact g_zret C false rfl rfl ⟨_, rfl, by rw [e1, he]; exact ⟨rfl, _, _, rfl⟩⟩ hd
theorem cM_single {Z : Zk} {wr : va_W} {a : Nat → Nat} {tape : Int → Int} {taped : Int} {place : Int} {thrown : Int} {r_op : Nat} {no : Nat} {op : Int → Int} {r_arg : Nat} {arg : Int → Int} {many : Int} {low : Int → Int64} {high : Int → Int64} {masks : Int} {cur : Int} {readLow : Int64} {readHigh : Int64} {group : Int → Int} {choice : Int → Int} {chain : Int → Int} {hasEmpty : Int → Bool} {sset : Int → Int64} {label : Int → Int} {next : Int → Int} {states : Int} {r_stamp : Nat} {ns : Nat} {stamp : Int → Int} {r_stack : Nat} {stack : Int → Int} {stamps : Int} {piled : Int} {reading : Int → Int} {readings : Int} {wher : Int → Int} {built : Int → Int64} {heads : Int → Int} {chained : Int → Int} {isE : Bool} {lives : Int → Bool} {kind : Int → Int} {newKind : Int → Int} {first : Int → Int} {kinds : Int} {leads : Int → Int} {sideStates : Int → Int} {ends : Int → Bool} {text : Int → Int} {textLong : Int} {queue : Int → Int} {frm : Int → Int} {by_ : Int → Int} {ways : Int → Int64} {before : Int → Int64} {n : Int} (hT : BytT tape) (c0 : 0 ≤ cur) (c1 : cur < n) (n1 : n ≤ 2048) : Ct Z yX6_single hX6_single 9 400 [.ref (a 0), vI n] (wM Z a tape taped place thrown r_op no op r_arg arg many low high masks cur readLow readHigh group choice chain hasEmpty sset label next states r_stamp ns stamp r_stack stack stamps piled reading readings wher built heads chained isE lives kind newKind first kinds leads sideStates ends text textLong queue frm by_ ways before ++ wr) 0 0 (Rz (RdP (sngl tape n cur) (fun c l h => wM Z a tape taped place thrown r_op no op r_arg arg many low high masks c l h group choice chain hasEmpty sset label next states r_stamp ns stamp r_stack stack stamps piled reading readings wher built heads chained isE lives kind newKind first kinds leads sideStates ends text textLong queue frm by_ ways before ++ wr))) := by
  refine Ct.of RX6 "single" (by decide +kernel) rfl rfl hkX6_single (Nat.le_of_ble_eq_true rfl) (fun X hZ C => ?_)
  subst hZ
  have hr := mch_r hT n1 c0
  have hc := mch_chr hT n1 c0
  have fin : ∀ (L : List (Nat × Value)) (c i : Int), 0 ≤ c → c < 128 → sngl tape n cur = .ok (i + 1, lowBits 0 c 1, highBits 0 c 1) → G X 3 0 0 (wM X.Z a tape taped place thrown r_op no op r_arg arg many low high masks i 0 0 group choice chain hasEmpty sset label next states r_stamp ns stamp r_stack stack stamps piled reading readings wher built heads chained isE lives kind newKind first kinds leads sideStates ends text textLong queue frm by_ ways before ++ wr) 112 [(0, .ref (a 0)), (1, vI n), (2, vI c)] [] := by
    intro L c i h0 h1 hR
    rw [lowBits_s, highBits_s, show c + ((0 : Nat) : Int) = c by omega] at hR
    refine g_aload_n C dX6_single_112 rfl ?_
    refine g_iload_n C dX6_single_113 rfl ?_
    refine g_cVWv C [_] _ 0 cal_X6_64 (cM_put h0 h1) rfl rfl rfl rfl (Nat.le_of_ble_eq_true rfl) (room_b rfl) dX6_single_114 (fun w hw114 => ?_)
    subst hw114
    refine g_aload_n C dX6_single_117 rfl ?_
    refine g_dup C dX6_single_118 rfl ?_
    refine gM_at C dX6_single_119 ?_
    refine g_iconst C dX6_single_122 ?_
    refine g_iadd C dX6_single_123 ?_
    refine pM_at C dX6_single_124 ?_
    refine g_iconst C dX6_single_127 ?_
    exact g_zret C true rfl rfl ⟨_, rfl, by rw [hR]; exact ⟨rfl, rfl⟩⟩ dX6_single_128
  refine g_aload_n C dX6_single_0 rfl ?_
  refine g_lconst C 0 dX6_single_1 rfl ?_
  refine pM_readLow C dX6_single_2 ?_
  refine g_aload_n C dX6_single_5 rfl ?_
  refine g_lconst C 0 dX6_single_6 rfl ?_
  refine pM_readHigh C dX6_single_7 ?_
  refine g_aload_n C dX6_single_10 rfl ?_
  refine g_iload_n C dX6_single_11 rfl ?_
  refine g_cVWi C [_] _ 0 cal_X6_40 (cM_byteAt c0 (by omega) n1 (by omega)) rfl rfl rfl rfl (Nat.le_of_ble_eq_true rfl) (room_b rfl) dX6_single_12 (fun r12 w hw12 => ?_)
  obtain ⟨rfl, rfl⟩ := hw12
  refine g_istore_n C dX6_single_15 (by decide) ?_
  refine g_iload_n C dX6_single_16 rfl ?_
  refine g_bipush C dX6_single_17 (by decide) ?_
  refine g_icmp_ne C 28 dX6_single_19 (by decide) (by omega) (fun h19 => ?_) (fun h19 => ?_)
  · refine g_iload_n C dX6_single_28 rfl ?_
    refine g_bipush C dX6_single_29 (by decide) ?_
    refine g_icmp_ne C 60 dX6_single_31 (by decide) (by omega) (fun h31 => ?_) (fun h31 => ?_)
    · refine g_iload_n C dX6_single_60 rfl ?_
      refine g_bipush C dX6_single_61 (by decide) ?_
      refine g_icmp_ne C 89 dX6_single_63 (by decide) (by omega) (fun h63 => ?_) (fun h63 => ?_)
      · have e92 : chr tape n cur ≠ 92 := by omega
        refine g_iload_n C dX6_single_89 rfl ?_
        refine g_bipush C dX6_single_90 (by decide) ?_
        refine g_icmp_lt C 110 dX6_single_92 (by decide) (by omega) (fun h92 => ?_) (fun h92 => ?_)
        · refine g_iconst C dX6_single_110 ?_
          exact g_zret C false rfl rfl ⟨_, rfl, by unfold sngl; rw [if_neg (by omega), if_neg (by omega), if_neg (by rw [plain_bad (b := false) hT n1 c0 e92 (by first | exact Or.inl h92 | exact Or.inr (Or.inl h98) | exact Or.inr (Or.inr ((has5 h63 h19 h31).symm.trans hs)))]; decide), chrE_n e92]; exact ⟨rfl, _, _, rfl⟩⟩ dX6_single_111
        · refine g_iload_n C dX6_single_95 rfl ?_
          refine g_bipush C dX6_single_96 (by decide) ?_
          refine g_icmp_gt C 110 dX6_single_98 (by decide) (by omega) (fun h98 => ?_) (fun h98 => ?_)
          · refine g_iconst C dX6_single_110 ?_
            exact g_zret C false rfl rfl ⟨_, rfl, by unfold sngl; rw [if_neg (by omega), if_neg (by omega), if_neg (by rw [plain_bad (b := false) hT n1 c0 e92 (by first | exact Or.inl h92 | exact Or.inr (Or.inl h98) | exact Or.inr (Or.inr ((has5 h63 h19 h31).symm.trans hs)))]; decide), chrE_n e92]; exact ⟨rfl, _, _, rfl⟩⟩ dX6_single_111
          · refine g_iload_n C dX6_single_101 rfl ?_
            refine g_ldcS C 5 (by decide) rfl rfl dX6_single_102 ?_
            refine g_cSWz C [_, _] _ cal_X6_45 (cM_isIn (i := 5) (by decide) (by omega)) rfl rfl (Nat.le_of_ble_eq_true rfl) (room_b rfl) dX6_single_104 (fun r104 w hw104 => ?_)
            obtain ⟨rfl, rfl⟩ := hw104
            refine g_if_eq C 112 dX6_single_107 (by decide) (b2_r _) (fun h107 => ?_) (fun h107 => ?_)
            · have hs := (b2_0 _).mp h107
              have hg := plain_good (b := false) hT n1 c0 e92 (by omega) (by omega) ((has5 h63 h19 h31).symm.trans hs)
              exact g_locR rfl (fin [] _ cur (by omega) (by omega) (by unfold sngl; rw [if_neg (by omega), if_neg (by omega), if_pos hg.1, hg.2.1, hg.2.2]))
            · have hs := (b2_ne0 _).mp h107
              refine g_iconst C dX6_single_110 ?_
              exact g_zret C false rfl rfl ⟨_, rfl, by unfold sngl; rw [if_neg (by omega), if_neg (by omega), if_neg (by rw [plain_bad (b := false) hT n1 c0 e92 (by first | exact Or.inl h92 | exact Or.inr (Or.inl h98) | exact Or.inr (Or.inr ((has5 h63 h19 h31).symm.trans hs)))]; decide), chrE_n e92]; exact ⟨rfl, _, _, rfl⟩⟩ dX6_single_111
      · have e92 : chr tape n cur = 92 := by omega
        have hlt := chr_lt (t := tape) (n := n) (i := cur) (by omega)
        have he := escV_r (chr tape n (cur + 1))
        have hf := esc_facts (b := false) e92
        refine g_aload_n C dX6_single_66 rfl ?_
        refine g_dup C dX6_single_67 rfl ?_
        refine gM_at C dX6_single_68 ?_
        refine g_iconst C dX6_single_71 ?_
        refine g_iadd C dX6_single_72 ?_
        refine pM_at C dX6_single_73 ?_
        refine g_aload_n C dX6_single_76 rfl ?_
        refine g_iload_n C dX6_single_77 rfl ?_
        refine g_cVWi C [_] _ 0 cal_X6_56 (cM_escaped (cur := cur + 1) hT (by omega) (by omega) (by omega) n1) rfl rfl rfl rfl (Nat.le_of_ble_eq_true rfl) (room_b rfl) dX6_single_78 (fun r78 w hw78 => ?_)
        obtain ⟨rfl, rfl⟩ := hw78
        refine g_istore_n C dX6_single_81 (by decide) ?_
        refine g_iload_n C dX6_single_82 rfl ?_
        refine g_iconst C dX6_single_83 ?_
        refine g_icmp_ne C 112 dX6_single_84 (by decide) (by omega) (fun h84 => ?_) (fun h84 => ?_)
        · exact g_locR rfl (fin [] _ (cur + 1) (by omega) (by omega) (by unfold sngl; rw [if_neg (by omega), if_neg (by omega), if_pos (by rw [hf.1, decide_eq_true (by omega)]), hf.2.1, hf.2.2.1]))
        · refine g_iconst C dX6_single_87 ?_
          exact g_zret C false rfl rfl ⟨_, rfl, by unfold sngl; rw [if_neg (by omega), if_neg (by omega), if_neg (by rw [hf.1, decide_eq_false (by omega)]; decide), hf.2.2.2]; exact ⟨rfl, _, _, rfl⟩⟩ dX6_single_88
    · refine g_aload_n C dX6_single_34 rfl ?_
      refine g_ldc2 C q874 dX6_single_35 ?_
      refine pM_readLow C dX6_single_38 ?_
      refine g_aload_n C dX6_single_41 rfl ?_
      refine g_ldc2 C q873 dX6_single_42 ?_
      refine pM_readHigh C dX6_single_45 ?_
      refine g_aload_n C dX6_single_48 rfl ?_
      refine g_dup C dX6_single_49 rfl ?_
      refine gM_at C dX6_single_50 ?_
      refine g_iconst C dX6_single_53 ?_
      refine g_iadd C dX6_single_54 ?_
      refine pM_at C dX6_single_55 ?_
      refine g_iconst C dX6_single_58 ?_
      exact g_zret C true rfl rfl ⟨_, rfl, by unfold sngl; rw [if_neg (by omega), if_pos (by omega)]; exact ⟨rfl, rfl⟩⟩ dX6_single_59
  · refine g_aload_n C dX6_single_22 rfl ?_
    refine g_iload_n C dX6_single_23 rfl ?_
    refine g_cVWz C [_] _ 0 cal_X6_70 (cM_bracket hT c0 c1 n1) rfl rfl rfl rfl (Nat.le_of_ble_eq_true rfl) (room_b rfl) dX6_single_24 (fun r24 w hw24 => ?_)
    exact g_zret C _ rfl rfl ⟨_, rfl, by unfold sngl; rw [if_pos (by omega)]; exact hw24⟩ dX6_single_27
