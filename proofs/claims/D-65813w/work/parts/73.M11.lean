/-! Model: feed, end, set, empty, fits, octet, place, count -/
theorem cM_place {Z : Zk} {wr : va_W} {a : Nat → Nat} {tape : Int → Int} {taped : Int} {place : Int} {thrown : Int} {r_op : Nat} {no : Nat} {op : Int → Int} {r_arg : Nat} {arg : Int → Int} {many : Int} {low : Int → Int64} {high : Int → Int64} {masks : Int} {cur : Int} {readLow : Int64} {readHigh : Int64} {group : Int → Int} {choice : Int → Int} {chain : Int → Int} {hasEmpty : Int → Bool} {sset : Int → Int64} {label : Int → Int} {next : Int → Int} {states : Int} {r_stamp : Nat} {ns : Nat} {stamp : Int → Int} {r_stack : Nat} {stack : Int → Int} {stamps : Int} {piled : Int} {reading : Int → Int} {readings : Int} {wher : Int → Int} {built : Int → Int64} {heads : Int → Int} {chained : Int → Int} {isE : Bool} {lives : Int → Bool} {kind : Int → Int} {newKind : Int → Int} {first : Int → Int} {kinds : Int} {leads : Int → Int} {sideStates : Int → Int} {ends : Int → Bool} {text : Int → Int} {textLong : Int} {queue : Int → Int} {frm : Int → Int} {by_ : Int → Int} {ways : Int → Int64} {before : Int → Int64} : Ct Z yX6_place hX6_place 1 60 [.ref (a 0)] (wM Z a tape taped place thrown r_op no op r_arg arg many low high masks cur readLow readHigh group choice chain hasEmpty sset label next states r_stamp ns stamp r_stack stack stamps piled reading readings wher built heads chained isE lives kind newKind first kinds leads sideStates ends text textLong queue frm by_ ways before ++ wr) 0 0 (Ri fun r w => r = place ∧ w = wM Z a tape taped place 0 r_op no op r_arg arg many low high masks cur readLow readHigh group choice chain hasEmpty sset label next states r_stamp ns stamp r_stack stack stamps piled reading readings wher built heads chained isE lives kind newKind first kinds leads sideStates ends text textLong queue frm by_ ways before ++ wr) := by
  refine Ct.of RX6 "place" (by decide +kernel) rfl rfl hkX6_place (Nat.le_of_ble_eq_true rfl) (fun X hZ C => ?_)
  subst hZ
  refine g_aload_n C dX6_place_0 rfl ?_
  refine g_iconst C dX6_place_1 ?_
  refine pM_thrown C dX6_place_2 ?_
  refine g_aload_n C dX6_place_5 rfl ?_
  refine gM_place C dX6_place_6 ?_
  exact g_iret C rfl ⟨_, rfl, rfl, rfl⟩ dX6_place_9
theorem cM_take {Z : Zk} {wr : va_W} {a : Nat → Nat} {tape : Int → Int} {taped : Int} {place : Int} {thrown : Int} {r_op : Nat} {no : Nat} {op : Int → Int} {r_arg : Nat} {arg : Int → Int} {many : Int} {low : Int → Int64} {high : Int → Int64} {masks : Int} {cur : Int} {readLow : Int64} {readHigh : Int64} {group : Int → Int} {choice : Int → Int} {chain : Int → Int} {hasEmpty : Int → Bool} {sset : Int → Int64} {label : Int → Int} {next : Int → Int} {states : Int} {r_stamp : Nat} {ns : Nat} {stamp : Int → Int} {r_stack : Nat} {stack : Int → Int} {stamps : Int} {piled : Int} {reading : Int → Int} {readings : Int} {wher : Int → Int} {built : Int → Int64} {heads : Int → Int} {chained : Int → Int} {isE : Bool} {lives : Int → Bool} {kind : Int → Int} {newKind : Int → Int} {first : Int → Int} {kinds : Int} {leads : Int → Int} {sideStates : Int → Int} {ends : Int → Bool} {text : Int → Int} {textLong : Int} {queue : Int → Int} {frm : Int → Int} {by_ : Int → Int} {ways : Int → Int64} {before : Int → Int64} : Ct Z yX6_take hX6_take 1 60 [.ref (a 0)] (wM Z a tape taped place thrown r_op no op r_arg arg many low high masks cur readLow readHigh group choice chain hasEmpty sset label next states r_stamp ns stamp r_stack stack stamps piled reading readings wher built heads chained isE lives kind newKind first kinds leads sideStates ends text textLong queue frm by_ ways before ++ wr) 0 0 (Ri fun r w => r = taped ∧ w = wM Z a tape 0 place 0 r_op no op r_arg arg many low high masks cur readLow readHigh group choice chain hasEmpty sset label next states r_stamp ns stamp r_stack stack stamps piled reading readings wher built heads chained isE lives kind newKind first kinds leads sideStates ends text textLong queue frm by_ ways before ++ wr) := by
  refine Ct.of RX6 "take" (by decide +kernel) rfl rfl hkX6_take (Nat.le_of_ble_eq_true rfl) (fun X hZ C => ?_)
  subst hZ
  refine g_aload_n C dX6_take_0 rfl ?_
  refine g_iconst C dX6_take_1 ?_
  refine pM_thrown C dX6_take_2 ?_
  refine g_aload_n C dX6_take_5 rfl ?_
  refine gM_taped C dX6_take_6 ?_
  refine g_istore_n C dX6_take_9 (by decide) ?_
  refine g_aload_n C dX6_take_10 rfl ?_
  refine g_iconst C dX6_take_11 ?_
  refine pM_taped C dX6_take_12 ?_
  refine g_iload_n C dX6_take_15 rfl ?_
  exact g_iret C rfl ⟨_, rfl, rfl, rfl⟩ dX6_take_16
def fdM (v k : Int) : Int := i2b (i2b (ishr v k))
theorem cM_four {Z : Zk} {wr : va_W} {a : Nat → Nat} {tape : Int → Int} {taped : Int} {place : Int} {thrown : Int} {r_op : Nat} {no : Nat} {op : Int → Int} {r_arg : Nat} {arg : Int → Int} {many : Int} {low : Int → Int64} {high : Int → Int64} {masks : Int} {cur : Int} {readLow : Int64} {readHigh : Int64} {group : Int → Int} {choice : Int → Int} {chain : Int → Int} {hasEmpty : Int → Bool} {sset : Int → Int64} {label : Int → Int} {next : Int → Int} {states : Int} {r_stamp : Nat} {ns : Nat} {stamp : Int → Int} {r_stack : Nat} {stack : Int → Int} {stamps : Int} {piled : Int} {reading : Int → Int} {readings : Int} {wher : Int → Int} {built : Int → Int64} {heads : Int → Int} {chained : Int → Int} {isE : Bool} {lives : Int → Bool} {kind : Int → Int} {newKind : Int → Int} {first : Int → Int} {kinds : Int} {leads : Int → Int} {sideStates : Int → Int} {ends : Int → Bool} {text : Int → Int} {textLong : Int} {queue : Int → Int} {frm : Int → Int} {by_ : Int → Int} {ways : Int → Int64} {before : Int → Int64} {v : Int} (h0 : 0 ≤ taped) (h1 : taped ≤ 2044) : Ct Z yX6_four hX6_four 1 60 [.ref (a 0), vI v] (wM Z a tape taped place thrown r_op no op r_arg arg many low high masks cur readLow readHigh group choice chain hasEmpty sset label next states r_stamp ns stamp r_stack stack stamps piled reading readings wher built heads chained isE lives kind newKind first kinds leads sideStates ends text textLong queue frm by_ ways before ++ wr) 0 0 (Rv fun w => w = wM Z a (put4 fdM tape taped v) (taped + 4) place thrown r_op no op r_arg arg many low high masks cur readLow readHigh group choice chain hasEmpty sset label next states r_stamp ns stamp r_stack stack stamps piled reading readings wher built heads chained isE lives kind newKind first kinds leads sideStates ends text textLong queue frm by_ ways before ++ wr) := by
  refine Ct.of RX6 "four" (by decide +kernel) rfl rfl hkX6_four (Nat.le_of_ble_eq_true rfl) (fun X hZ C => ?_)
  subst hZ
  have step : ∀ (tp : Int → Int) (t q : Int), 0 ≤ q → q ≤ 24 → 0 ≤ t → t < 2048 → G X 3 0 0 (wM X.Z a (up tp t (fdM v q)) (t + 1) place thrown r_op no op r_arg arg many low high masks cur readLow readHigh group choice chain hasEmpty sset label next states r_stamp ns stamp r_stack stack stamps piled reading readings wher built heads chained isE lives kind newKind first kinds leads sideStates ends text textLong queue frm by_ ways before ++ wr) 3 [(0, .ref (a 0)), (1, vI v), (2, vI (q - 8))] [] → G X 3 0 0 (wM X.Z a tp t place thrown r_op no op r_arg arg many low high masks cur readLow readHigh group choice chain hasEmpty sset label next states r_stamp ns stamp r_stack stack stamps piled reading readings wher built heads chained isE lives kind newKind first kinds leads sideStates ends text textLong queue frm by_ ways before ++ wr) 3 [(0, .ref (a 0)), (1, vI v), (2, vI q)] [] := by
    intro tp t q q0 q1 t0 t1 hg
    refine g_iload_n C dX6_four_3 rfl ?_
    refine g_if_lt C 36 dX6_four_4 (by decide) (by omega) (fun h4 => ?_) (fun h4 => ?_)
    · exact absurd h4 (by omega)
    · refine g_aload_n C dX6_four_7 rfl ?_
      refine gM_tape C dX6_four_8 ?_
      refine g_aload_n C dX6_four_11 rfl ?_
      refine gM_taped C dX6_four_12 ?_
      refine g_iload_n C dX6_four_15 rfl ?_
      refine g_iload_n C dX6_four_16 rfl ?_
      refine g_ishr C dX6_four_17 ?_
      refine g_i2b C dX6_four_18 ?_
      refine sM_tape C (by omega) dX6_four_19 ?_
      refine g_aload_n C dX6_four_20 rfl ?_
      refine g_dup C dX6_four_21 rfl ?_
      refine gM_taped C dX6_four_22 ?_
      refine g_iconst C dX6_four_25 ?_
      refine g_iadd C dX6_four_26 ?_
      refine pM_taped C dX6_four_27 ?_
      refine g_iinc C dX6_four_30 rfl (by decide) ?_
      refine g_goto C 3 dX6_four_33 (by decide) ?_
      exact g_locR rfl hg
  refine g_bipush C dX6_four_0 (by decide) ?_
  refine g_istore_n C dX6_four_2 (by decide) ?_
  refine g_locR (L' := [(0, .ref (a 0)), (1, vI v), (2, vI 24)]) rfl ?_
  refine step _ _ 24 (by decide) (by decide) (by omega) (by omega) ?_
  refine step _ _ 16 (by decide) (by decide) (by omega) (by omega) ?_
  refine step _ _ 8 (by decide) (by decide) (by omega) (by omega) ?_
  refine step _ _ 0 (by decide) (by decide) (by omega) (by omega) ?_
  refine g_iload_n C dX6_four_3 rfl ?_
  refine g_if_lt C 36 dX6_four_4 (by decide) (by omega) (fun h4 => ?_) (fun h4 => ?_)
  · exact g_vret C rfl ⟨rfl, by unfold put4; rw [show taped + 1 + 1 + 1 + 1 = taped + 4 by omega]⟩ dX6_four_36
  · exact absurd (show (0 - 8 : Int) < 0 by decide) (by omega)
theorem cM_feed {Z : Zk} {wr : va_W} {a : Nat → Nat} {tape : Int → Int} {taped : Int} {place : Int} {thrown : Int} {r_op : Nat} {no : Nat} {op : Int → Int} {r_arg : Nat} {arg : Int → Int} {many : Int} {low : Int → Int64} {high : Int → Int64} {masks : Int} {cur : Int} {readLow : Int64} {readHigh : Int64} {group : Int → Int} {choice : Int → Int} {chain : Int → Int} {hasEmpty : Int → Bool} {sset : Int → Int64} {label : Int → Int} {next : Int → Int} {states : Int} {r_stamp : Nat} {ns : Nat} {stamp : Int → Int} {r_stack : Nat} {stack : Int → Int} {stamps : Int} {piled : Int} {reading : Int → Int} {readings : Int} {wher : Int → Int} {built : Int → Int64} {heads : Int → Int} {chained : Int → Int} {isE : Bool} {lives : Int → Bool} {kind : Int → Int} {newKind : Int → Int} {first : Int → Int} {kinds : Int} {leads : Int → Int} {sideStates : Int → Int} {ends : Int → Bool} {text : Int → Int} {textLong : Int} {queue : Int → Int} {frm : Int → Int} {by_ : Int → Int} {ways : Int → Int64} {before : Int → Int64} {p1 p2 p3 p4 p5 : Int} (h0 : 0 ≤ taped) (h1 : taped ≤ 2048) : Ct Z yX6_feed hX6_feed 2 100 [.ref (a 0), vI p1, vI p2, vI p3, vI p4, vI p5] (wM Z a tape taped place thrown r_op no op r_arg arg many low high masks cur readLow readHigh group choice chain hasEmpty sset label next states r_stamp ns stamp r_stack stack stamps piled reading readings wher built heads chained isE lives kind newKind first kinds leads sideStates ends text textLong queue frm by_ ways before ++ wr) 0 0 (Ri fun r w => (taped ≤ 2028 ∧ r = taped + 20 ∧ w = wM Z a (put4 fdM (put4 fdM (put4 fdM (put4 fdM (put4 fdM tape taped p1) (taped + 4) p2) (taped + 4 + 4) p3) (taped + 4 + 4 + 4) p4) (taped + 4 + 4 + 4 + 4) p5) (taped + 20) place 0 r_op no op r_arg arg many low high masks cur readLow readHigh group choice chain hasEmpty sset label next states r_stamp ns stamp r_stack stack stamps piled reading readings wher built heads chained isE lives kind newKind first kinds leads sideStates ends text textLong queue frm by_ ways before ++ wr) ∨ (2028 < taped ∧ w = wM Z a tape taped place 1 r_op no op r_arg arg many low high masks cur readLow readHigh group choice chain hasEmpty sset label next states r_stamp ns stamp r_stack stack stamps piled reading readings wher built heads chained isE lives kind newKind first kinds leads sideStates ends text textLong queue frm by_ ways before ++ wr)) := by
  refine Ct.of RX6 "feed" (by decide +kernel) rfl rfl hkX6_feed (Nat.le_of_ble_eq_true rfl) (fun X hZ C => ?_)
  subst hZ
  refine g_aload_n C dX6_feed_0 rfl ?_
  refine g_iconst C dX6_feed_1 ?_
  refine pM_thrown C dX6_feed_2 ?_
  refine g_aload_n C dX6_feed_5 rfl ?_
  refine gM_taped C dX6_feed_6 ?_
  refine g_bipush C dX6_feed_9 (by decide) ?_
  refine g_iadd C dX6_feed_11 ?_
  refine g_sipush C dX6_feed_12 (by decide) ?_
  refine g_icmp_le C 24 dX6_feed_15 (by decide) (by omega) (fun h15 => ?_) (fun h15 => ?_)
  · refine g_aload_n C dX6_feed_24 rfl ?_
    refine g_iload_n C dX6_feed_25 rfl ?_
    refine g_cVWv C [_] _ 0 cal_X6_270 (cM_four (by omega) (by omega)) rfl rfl rfl rfl (Nat.le_of_ble_eq_true rfl) (room_b rfl) dX6_feed_26 (fun w hw26 => ?_)
    subst hw26
    refine g_aload_n C dX6_feed_29 rfl ?_
    refine g_iload_n C dX6_feed_30 rfl ?_
    refine g_cVWv C [_] _ 0 cal_X6_270 (cM_four (by omega) (by omega)) rfl rfl rfl rfl (Nat.le_of_ble_eq_true rfl) (room_b rfl) dX6_feed_31 (fun w hw31 => ?_)
    subst hw31
    refine g_aload_n C dX6_feed_34 rfl ?_
    refine g_iload_n C dX6_feed_35 rfl ?_
    refine g_cVWv C [_] _ 0 cal_X6_270 (cM_four (by omega) (by omega)) rfl rfl rfl rfl (Nat.le_of_ble_eq_true rfl) (room_b rfl) dX6_feed_36 (fun w hw36 => ?_)
    subst hw36
    refine g_aload_n C dX6_feed_39 rfl ?_
    refine g_iload C dX6_feed_40 rfl ?_
    refine g_cVWv C [_] _ 0 cal_X6_270 (cM_four (by omega) (by omega)) rfl rfl rfl rfl (Nat.le_of_ble_eq_true rfl) (room_b rfl) dX6_feed_42 (fun w hw42 => ?_)
    subst hw42
    refine g_aload_n C dX6_feed_45 rfl ?_
    refine g_iload C dX6_feed_46 rfl ?_
    refine g_cVWv C [_] _ 0 cal_X6_270 (cM_four (by omega) (by omega)) rfl rfl rfl rfl (Nat.le_of_ble_eq_true rfl) (room_b rfl) dX6_feed_48 (fun w hw48 => ?_)
    subst hw48
    refine g_aload_n C dX6_feed_51 rfl ?_
    refine gM_taped C dX6_feed_52 ?_
    exact g_iret C rfl ⟨_, rfl, Or.inl ⟨by omega, by omega, by rw [show taped + 4 + 4 + 4 + 4 + 4 = taped + 20 by omega]⟩⟩ dX6_feed_55
  · refine g_aload_n C dX6_feed_18 rfl ?_
    refine g_iconst C dX6_feed_19 ?_
    refine g_cVWi C [_] _ 0 cal_X6_267 cM_refuse rfl rfl rfl rfl (Nat.le_of_ble_eq_true rfl) (room_b rfl) dX6_feed_20 (fun r20 w hw20 => ?_)
    obtain ⟨rfl, rfl⟩ := hw20
    exact g_iret C rfl ⟨_, rfl, Or.inr ⟨by omega, rfl⟩⟩ dX6_feed_23
theorem cM_end {Z : Zk} {wr : va_W} {a : Nat → Nat} {tape : Int → Int} {taped : Int} {place : Int} {thrown : Int} {r_op : Nat} {no : Nat} {op : Int → Int} {r_arg : Nat} {arg : Int → Int} {many : Int} {low : Int → Int64} {high : Int → Int64} {masks : Int} {cur : Int} {readLow : Int64} {readHigh : Int64} {group : Int → Int} {choice : Int → Int} {chain : Int → Int} {hasEmpty : Int → Bool} {sset : Int → Int64} {label : Int → Int} {next : Int → Int} {states : Int} {r_stamp : Nat} {ns : Nat} {stamp : Int → Int} {r_stack : Nat} {stack : Int → Int} {stamps : Int} {piled : Int} {reading : Int → Int} {readings : Int} {wher : Int → Int} {built : Int → Int64} {heads : Int → Int} {chained : Int → Int} {isE : Bool} {lives : Int → Bool} {kind : Int → Int} {newKind : Int → Int} {first : Int → Int} {kinds : Int} {leads : Int → Int} {sideStates : Int → Int} {ends : Int → Bool} {text : Int → Int} {textLong : Int} {queue : Int → Int} {frm : Int → Int} {by_ : Int → Int} {ways : Int → Int64} {before : Int → Int64} {m : Int} (hm : inR m) (h0 : 0 ≤ taped) (h1 : taped ≤ 2048) : Ct Z yX6_end hX6_end 2 100 [.ref (a 0), vI m] (wM Z a tape taped place thrown r_op no op r_arg arg many low high masks cur readLow readHigh group choice chain hasEmpty sset label next states r_stamp ns stamp r_stack stack stamps piled reading readings wher built heads chained isE lives kind newKind first kinds leads sideStates ends text textLong queue frm by_ ways before ++ wr) 0 0 (Ri fun r w => ((0 ≤ m ∧ m ≤ taped) ∧ r = m ∧ w = wM Z a tape m place 0 r_op no op r_arg arg many low high masks cur readLow readHigh group choice chain hasEmpty sset label next states r_stamp ns stamp r_stack stack stamps piled reading readings wher built heads chained isE lives kind newKind first kinds leads sideStates ends text textLong queue frm by_ ways before ++ wr) ∨ (¬ (0 ≤ m ∧ m ≤ taped) ∧ w = wM Z a tape taped place 1 r_op no op r_arg arg many low high masks cur readLow readHigh group choice chain hasEmpty sset label next states r_stamp ns stamp r_stack stack stamps piled reading readings wher built heads chained isE lives kind newKind first kinds leads sideStates ends text textLong queue frm by_ ways before ++ wr)) := by
  refine Ct.of RX6 "end" (by decide +kernel) rfl rfl hkX6_end (Nat.le_of_ble_eq_true rfl) (fun X hZ C => ?_)
  subst hZ
  refine g_aload_n C dX6_end_0 rfl ?_
  refine g_iconst C dX6_end_1 ?_
  refine pM_thrown C dX6_end_2 ?_
  refine g_iload_n C dX6_end_5 rfl ?_
  refine g_if_lt C 17 dX6_end_6 (by decide) (by omega) (fun h6 => ?_) (fun h6 => ?_)
  · refine g_aload_n C dX6_end_17 rfl ?_
    refine g_iconst C dX6_end_18 ?_
    refine g_cVWi C [_] _ 0 cal_X6_267 cM_refuse rfl rfl rfl rfl (Nat.le_of_ble_eq_true rfl) (room_b rfl) dX6_end_19 (fun r19 w hw19 => ?_)
    obtain ⟨rfl, rfl⟩ := hw19
    exact g_iret C rfl ⟨_, rfl, Or.inr ⟨by omega, rfl⟩⟩ dX6_end_22
  · refine g_iload_n C dX6_end_9 rfl ?_
    refine g_aload_n C dX6_end_10 rfl ?_
    refine gM_taped C dX6_end_11 ?_
    refine g_icmp_le C 23 dX6_end_14 (by decide) (by omega) (fun h14 => ?_) (fun h14 => ?_)
    · refine g_aload_n C dX6_end_23 rfl ?_
      refine g_iload_n C dX6_end_24 rfl ?_
      refine pM_taped C dX6_end_25 ?_
      refine g_iload_n C dX6_end_28 rfl ?_
      exact g_iret C rfl ⟨_, rfl, Or.inl ⟨by omega, rfl, rfl⟩⟩ dX6_end_29
    · refine g_aload_n C dX6_end_17 rfl ?_
      refine g_iconst C dX6_end_18 ?_
      refine g_cVWi C [_] _ 0 cal_X6_267 cM_refuse rfl rfl rfl rfl (Nat.le_of_ble_eq_true rfl) (room_b rfl) dX6_end_19 (fun r19 w hw19 => ?_)
      obtain ⟨rfl, rfl⟩ := hw19
      exact g_iret C rfl ⟨_, rfl, Or.inr ⟨by omega, rfl⟩⟩ dX6_end_22
theorem cM_octet {Z : Zk} {wr : va_W} {a : Nat → Nat} {tape : Int → Int} {taped : Int} {place : Int} {thrown : Int} {r_op : Nat} {no : Nat} {op : Int → Int} {r_arg : Nat} {arg : Int → Int} {many : Int} {low : Int → Int64} {high : Int → Int64} {masks : Int} {cur : Int} {readLow : Int64} {readHigh : Int64} {group : Int → Int} {choice : Int → Int} {chain : Int → Int} {hasEmpty : Int → Bool} {sset : Int → Int64} {label : Int → Int} {next : Int → Int} {states : Int} {r_stamp : Nat} {ns : Nat} {stamp : Int → Int} {r_stack : Nat} {stack : Int → Int} {stamps : Int} {piled : Int} {reading : Int → Int} {readings : Int} {wher : Int → Int} {built : Int → Int64} {heads : Int → Int} {chained : Int → Int} {isE : Bool} {lives : Int → Bool} {kind : Int → Int} {newKind : Int → Int} {first : Int → Int} {kinds : Int} {leads : Int → Int} {sideStates : Int → Int} {ends : Int → Bool} {text : Int → Int} {textLong : Int} {queue : Int → Int} {frm : Int → Int} {by_ : Int → Int} {ways : Int → Int64} {before : Int → Int64} {i : Int} (hm : inR i) (h0 : 0 ≤ textLong) (h1 : textLong ≤ 161604) : Ct Z yX6_octet hX6_octet 2 100 [.ref (a 0), vI i] (wM Z a tape taped place thrown r_op no op r_arg arg many low high masks cur readLow readHigh group choice chain hasEmpty sset label next states r_stamp ns stamp r_stack stack stamps piled reading readings wher built heads chained isE lives kind newKind first kinds leads sideStates ends text textLong queue frm by_ ways before ++ wr) 0 0 (Ri fun r w => ((0 ≤ i ∧ i < textLong) ∧ r = text i ∧ w = wM Z a tape taped place 0 r_op no op r_arg arg many low high masks cur readLow readHigh group choice chain hasEmpty sset label next states r_stamp ns stamp r_stack stack stamps piled reading readings wher built heads chained isE lives kind newKind first kinds leads sideStates ends text textLong queue frm by_ ways before ++ wr) ∨ (¬ (0 ≤ i ∧ i < textLong) ∧ w = wM Z a tape taped place 1 r_op no op r_arg arg many low high masks cur readLow readHigh group choice chain hasEmpty sset label next states r_stamp ns stamp r_stack stack stamps piled reading readings wher built heads chained isE lives kind newKind first kinds leads sideStates ends text textLong queue frm by_ ways before ++ wr)) := by
  refine Ct.of RX6 "octet" (by decide +kernel) rfl rfl hkX6_octet (Nat.le_of_ble_eq_true rfl) (fun X hZ C => ?_)
  subst hZ
  refine g_aload_n C dX6_octet_0 rfl ?_
  refine g_iconst C dX6_octet_1 ?_
  refine pM_thrown C dX6_octet_2 ?_
  refine g_iload_n C dX6_octet_5 rfl ?_
  refine g_if_lt C 17 dX6_octet_6 (by decide) (by omega) (fun h6 => ?_) (fun h6 => ?_)
  · refine g_aload_n C dX6_octet_17 rfl ?_
    refine g_iconst C dX6_octet_18 ?_
    refine g_cVWi C [_] _ 0 cal_X6_267 cM_refuse rfl rfl rfl rfl (Nat.le_of_ble_eq_true rfl) (room_b rfl) dX6_octet_19 (fun r19 w hw19 => ?_)
    obtain ⟨rfl, rfl⟩ := hw19
    exact g_iret C rfl ⟨_, rfl, Or.inr ⟨by omega, rfl⟩⟩ dX6_octet_22
  · refine g_iload_n C dX6_octet_9 rfl ?_
    refine g_aload_n C dX6_octet_10 rfl ?_
    refine gM_textLong C dX6_octet_11 ?_
    refine g_icmp_lt C 23 dX6_octet_14 (by decide) (by omega) (fun h14 => ?_) (fun h14 => ?_)
    · refine g_aload_n C dX6_octet_23 rfl ?_
      refine gM_text C dX6_octet_24 ?_
      refine g_iload_n C dX6_octet_27 rfl ?_
      refine lM_text C (by omega) dX6_octet_28 ?_
      exact g_iret C rfl ⟨_, rfl, Or.inl ⟨by omega, rfl, rfl⟩⟩ dX6_octet_29
    · refine g_aload_n C dX6_octet_17 rfl ?_
      refine g_iconst C dX6_octet_18 ?_
      refine g_cVWi C [_] _ 0 cal_X6_267 cM_refuse rfl rfl rfl rfl (Nat.le_of_ble_eq_true rfl) (room_b rfl) dX6_octet_19 (fun r19 w hw19 => ?_)
      obtain ⟨rfl, rfl⟩ := hw19
      exact g_iret C rfl ⟨_, rfl, Or.inr ⟨by omega, rfl⟩⟩ dX6_octet_22
theorem cM_empty {Z : Zk} {wr : va_W} {a : Nat → Nat} {tape : Int → Int} {taped : Int} {place : Int} {thrown : Int} {r_op : Nat} {no : Nat} {op : Int → Int} {r_arg : Nat} {arg : Int → Int} {many : Int} {low : Int → Int64} {high : Int → Int64} {masks : Int} {cur : Int} {readLow : Int64} {readHigh : Int64} {group : Int → Int} {choice : Int → Int} {chain : Int → Int} {hasEmpty : Int → Bool} {sset : Int → Int64} {label : Int → Int} {next : Int → Int} {states : Int} {r_stamp : Nat} {ns : Nat} {stamp : Int → Int} {r_stack : Nat} {stack : Int → Int} {stamps : Int} {piled : Int} {reading : Int → Int} {readings : Int} {wher : Int → Int} {built : Int → Int64} {heads : Int → Int} {chained : Int → Int} {isE : Bool} {lives : Int → Bool} {kind : Int → Int} {newKind : Int → Int} {first : Int → Int} {kinds : Int} {leads : Int → Int} {sideStates : Int → Int} {ends : Int → Bool} {text : Int → Int} {textLong : Int} {queue : Int → Int} {frm : Int → Int} {by_ : Int → Int} {ways : Int → Int64} {before : Int → Int64} {which : Int} (hm : inR which) : Ct Z yX6_empty hX6_empty 1 60 [.ref (a 0), vI which] (wM Z a tape taped place thrown r_op no op r_arg arg many low high masks cur readLow readHigh group choice chain hasEmpty sset label next states r_stamp ns stamp r_stack stack stamps piled reading readings wher built heads chained isE lives kind newKind first kinds leads sideStates ends text textLong queue frm by_ ways before ++ wr) 0 0 (Rz fun r w => ((which = 0 ∨ which = 1) ∧ r = ends (402 * which) ∧ w = wM Z a tape taped place 0 r_op no op r_arg arg many low high masks cur readLow readHigh group choice chain hasEmpty sset label next states r_stamp ns stamp r_stack stack stamps piled reading readings wher built heads chained isE lives kind newKind first kinds leads sideStates ends text textLong queue frm by_ ways before ++ wr) ∨ (¬ (which = 0 ∨ which = 1) ∧ w = wM Z a tape taped place 1 r_op no op r_arg arg many low high masks cur readLow readHigh group choice chain hasEmpty sset label next states r_stamp ns stamp r_stack stack stamps piled reading readings wher built heads chained isE lives kind newKind first kinds leads sideStates ends text textLong queue frm by_ ways before ++ wr)) := by
  refine Ct.of RX6 "empty" (by decide +kernel) rfl rfl hkX6_empty (Nat.le_of_ble_eq_true rfl) (fun X hZ C => ?_)
  subst hZ
  have t14 : ∀ (q : Bool), q = decide (which = 0 ∨ which = 1) → G X 3 0 0 (wM X.Z a tape taped place thrown r_op no op r_arg arg many low high masks cur readLow readHigh group choice chain hasEmpty sset label next states r_stamp ns stamp r_stack stack stamps piled reading readings wher built heads chained isE lives kind newKind first kinds leads sideStates ends text textLong queue frm by_ ways before ++ wr) 14 [(0, .ref (a 0)), (1, vI which)] [vI (b2 q)] := by
    intro q hq
    cases q with
    | false =>
      have hw := of_decide_eq_false hq.symm
      refine g_istore_n C dX6_empty_14 (by decide) ?_
      refine g_aload_n C dX6_empty_15 rfl ?_
      refine g_iload_n C dX6_empty_16 rfl ?_
      refine g_if_eq C 24 dX6_empty_17 (by decide) (b2_r _) (fun h17 => ?_) (fun h17 => ?_)
      · refine g_iconst C dX6_empty_24 ?_
        refine pM_thrown C dX6_empty_25 ?_
        refine g_iload_n C dX6_empty_28 rfl ?_
        refine g_if_eq C 49 dX6_empty_29 (by decide) (b2_r _) (fun h29 => ?_) (fun h29 => ?_)
        · refine g_iconst C dX6_empty_49 ?_
          exact g_zret C false rfl rfl ⟨_, rfl, Or.inr ⟨hw, rfl⟩⟩ dX6_empty_50
        · exact absurd rfl h29
      · exact absurd rfl h17
    | true =>
      have hw := of_decide_eq_true hq.symm
      obtain ⟨ev, hev⟩ : ∃ v, v = ends (402 * which) := ⟨_, rfl⟩
      refine g_istore_n C dX6_empty_14 (by decide) ?_
      refine g_aload_n C dX6_empty_15 rfl ?_
      refine g_iload_n C dX6_empty_16 rfl ?_
      refine g_if_eq C 24 dX6_empty_17 (by decide) (b2_r _) (fun h17 => ?_) (fun h17 => ?_)
      · exact absurd h17 (by decide)
      · refine g_iconst C dX6_empty_20 ?_
        refine g_goto C 25 dX6_empty_21 (by decide) ?_
        refine pM_thrown C dX6_empty_25 ?_
        refine g_iload_n C dX6_empty_28 rfl ?_
        refine g_if_eq C 49 dX6_empty_29 (by decide) (b2_r _) (fun h29 => ?_) (fun h29 => ?_)
        · exact absurd h29 (by decide)
        · refine g_aload_n C dX6_empty_32 rfl ?_
          refine gM_ends C dX6_empty_33 ?_
          refine g_sipush C dX6_empty_36 (by decide) ?_
          refine g_iload_n C dX6_empty_39 rfl ?_
          refine g_imul C dX6_empty_40 ?_
          refine lM_ends C (by omega) dX6_empty_41 ?_
          refine g_if_eq C 49 dX6_empty_42 (by decide) (b2_r _) (fun h42 => ?_) (fun h42 => ?_)
          · refine g_iconst C dX6_empty_49 ?_
            exact g_zret C ev (by rw [hev]; first | (rw [(b2_0 _).mp h42]; rfl) | (rw [(b2_ne0 _).mp h42]; rfl)) rfl ⟨_, rfl, Or.inl ⟨hw, hev, rfl⟩⟩ dX6_empty_50
          · refine g_iconst C dX6_empty_45 ?_
            refine g_goto C 50 dX6_empty_46 (by decide) ?_
            exact g_zret C ev (by rw [hev]; first | (rw [(b2_0 _).mp h42]; rfl) | (rw [(b2_ne0 _).mp h42]; rfl)) rfl ⟨_, rfl, Or.inl ⟨hw, hev, rfl⟩⟩ dX6_empty_50
  refine g_iload_n C dX6_empty_0 rfl ?_
  refine g_if_eq C 9 dX6_empty_1 (by decide) (by omega) (fun h1 => ?_) (fun h1 => ?_)
  · refine g_iconst C dX6_empty_9 ?_
    refine g_goto C 14 dX6_empty_10 (by decide) ?_
    refine g_top (show _ = b2 (decide (which = 0 ∨ which = 1)) from by first | (rw [decide_eq_true (show which = 0 ∨ which = 1 by omega)]; rfl) | (rw [decide_eq_false (show ¬ (which = 0 ∨ which = 1) by omega)]; rfl)) ?_
    exact g_locR rfl (t14 _ rfl)
  · refine g_iload_n C dX6_empty_4 rfl ?_
    refine g_iconst C dX6_empty_5 ?_
    refine g_icmp_ne C 13 dX6_empty_6 (by decide) (by omega) (fun h6 => ?_) (fun h6 => ?_)
    · refine g_iconst C dX6_empty_13 ?_
      refine g_top (show _ = b2 (decide (which = 0 ∨ which = 1)) from by first | (rw [decide_eq_true (show which = 0 ∨ which = 1 by omega)]; rfl) | (rw [decide_eq_false (show ¬ (which = 0 ∨ which = 1) by omega)]; rfl)) ?_
      exact g_locR rfl (t14 _ rfl)
    · refine g_iconst C dX6_empty_9 ?_
      refine g_goto C 14 dX6_empty_10 (by decide) ?_
      refine g_top (show _ = b2 (decide (which = 0 ∨ which = 1)) from by first | (rw [decide_eq_true (show which = 0 ∨ which = 1 by omega)]; rfl) | (rw [decide_eq_false (show ¬ (which = 0 ∨ which = 1) by omega)]; rfl)) ?_
      exact g_locR rfl (t14 _ rfl)
theorem PatR.imp {t : Int → Int} {n : Int} {b1 b2' : Int → Prop} {p1 p2 : Prop} {g1 g2 : Int → (List Int → Bool) → Int → Prop} (h : PatR t n b1 p1 g1) (hb : ∀ e, 0 ≤ e → e ≤ n → b1 e → b2' e) (hp : p1 → p2) (hg : ∀ K Lg all, 0 ≤ K → K ≤ 200 → g1 K Lg all → g2 K Lg all) : PatR t n b2' p2 g2 := by
  rcases h with ⟨e, h1, h2, h3, h4⟩ | ⟨s1, B, h1, ⟨h2, h3⟩ | ⟨e, h2, h3, nk, K, h4, h5, ⟨h6, h7⟩ | ⟨h6, h7⟩⟩⟩
  · exact Or.inl ⟨e, h1, h2, h3, hb e h2 h3 h4⟩
  · exact Or.inr ⟨s1, B, h1, Or.inl ⟨h2, hp h3⟩⟩
  · exact Or.inr ⟨s1, B, h1, Or.inr ⟨e, h2, h3, nk, K, h4, h5, Or.inl ⟨h6, hp h7⟩⟩⟩
  · exact Or.inr ⟨s1, B, h1, Or.inr ⟨e, h2, h3, nk, K, h4, h5, Or.inr ⟨h6, hg K _ _ h4.1 h6 h7⟩⟩⟩
theorem cM_set {Z : Zk} {wr : va_W} {a : Nat → Nat} {tape : Int → Int} {taped : Int} {place : Int} {thrown : Int} {r_op : Nat} {no : Nat} {op : Int → Int} {r_arg : Nat} {arg : Int → Int} {many : Int} {low : Int → Int64} {high : Int → Int64} {masks : Int} {cur : Int} {readLow : Int64} {readHigh : Int64} {group : Int → Int} {choice : Int → Int} {chain : Int → Int} {hasEmpty : Int → Bool} {sset : Int → Int64} {label : Int → Int} {next : Int → Int} {states : Int} {r_stamp : Nat} {ns : Nat} {stamp : Int → Int} {r_stack : Nat} {stack : Int → Int} {stamps : Int} {piled : Int} {reading : Int → Int} {readings : Int} {wher : Int → Int} {built : Int → Int64} {heads : Int → Int} {chained : Int → Int} {isE : Bool} {lives : Int → Bool} {kind : Int → Int} {newKind : Int → Int} {first : Int → Int} {kinds : Int} {leads : Int → Int} {sideStates : Int → Int} {ends : Int → Bool} {text : Int → Int} {textLong : Int} {queue : Int → Int} {frm : Int → Int} {by_ : Int → Int} {ways : Int → Int64} {before : Int → Int64} {which : Int} (hw9 : inR which) (hT : BytT tape) (n0 : 0 ≤ taped) (n1 : taped ≤ 2048) (o0 : 256 ≤ no) (o1 : no ≤ 8192) (ns1 : ns ≤ 8194) (hst : StOk stamp stamps) (hs0 : 0 ≤ stamps) (hs1 : stamps < 500000000) : Ct Z yX6_set hX6_set 13 600 [.ref (a 0), vI which] (wM Z a tape taped place thrown r_op no op r_arg arg many low high masks cur readLow readHigh group choice chain hasEmpty sset label next states r_stamp ns stamp r_stack stack stamps piled reading readings wher built heads chained isE lives kind newKind first kinds leads sideStates ends text textLong queue frm by_ ways before ++ wr) 132 49156 (Ri (fun r w => (¬ (which = 0 ∨ which = 1) ∧ w = wM Z a tape 0 place 1 r_op no op r_arg arg many low high masks cur readLow readHigh group choice chain hasEmpty sset label next states r_stamp ns stamp r_stack stack stamps piled reading readings wher built heads chained isE lives kind newKind first kinds leads sideStates ends text textLong queue frm by_ ways before ++ wr) ∨ ((which = 0 ∨ which = 1) ∧ ∃ leads1 side1 ends1 w1 pl th, ModW Z a tape 0 pl th leads1 side1 ends1 text textLong queue frm by_ ways before (stamps + 401) w1 ∧ w = w1 ++ wr ∧ PatR tape taped (fun e => th = 2 ∧ pl = e ∧ leads1 = leads ∧ side1 = sideStates ∧ ends1 = ends) (th = 3 ∧ pl = -1 ∧ leads1 = leads ∧ side1 = sideStates ∧ ends1 = ends) (fun K Lg all => r = K ∧ th = 0 ∧ pl = -1 ∧ SideM leads1 ends1 (402 * which) all Lg ∧ side1 = up sideStates which all ∧ (∀ j, j < 128 * (402 * which) ∨ 128 * (402 * which + 402) ≤ j → leads1 j = leads j) ∧ (∀ j, j < 402 * which ∨ 402 * which + 402 ≤ j → ends1 j = ends j))))) := by
  refine Ct.of RX6 "set" (by decide +kernel) rfl rfl hkX6_set (Nat.le_of_ble_eq_true rfl) (fun X hZ C => ?_)
  subst hZ
  obtain ⟨SB, hSB⟩ : ∃ SB, SB = stamps + 401 := ⟨_, rfl⟩
  rw [← hSB] at C
  have main : (which = 0 ∨ which = 1) → G X 4 0 0 (wM X.Z a tape 0 place 0 r_op no op r_arg arg many low high masks cur readLow readHigh group choice chain hasEmpty sset label next states r_stamp ns stamp r_stack stack stamps piled reading readings wher built heads chained isE lives kind newKind first kinds leads sideStates ends text textLong queue frm by_ ways before ++ wr) 20 [(0, .ref (a 0)), (1, vI which), (2, vI taped)] [] := by
    intro hwh
    obtain ⟨tp9, htp9⟩ : ∃ x, x = taped := ⟨_, rfl⟩
    rw [← htp9] at C n0 n1 ⊢
    refine g_aload_n C dX6_set_20 rfl ?_
    refine g_iconst C dX6_set_21 ?_
    refine pM_place C dX6_set_22 ?_
    refine g_aload_n C dX6_set_25 rfl ?_
    refine g_iload_n C dX6_set_26 rfl ?_
    refine g_iload_n C dX6_set_27 rfl ?_
    refine g_cVWi C [_, _] _ 0 cal_X6_247 (cM_parsed (by omega) (by omega) hT n0 n1 o0 o1 ns1 hst hs0 hs1) rfl rfl rfl rfl (Nat.le_of_ble_eq_true rfl) (room_b rfl) dX6_set_28 (fun r28 w hw28 => ?_)
    obtain ⟨leads1, side1, ends1, w1, ⟨r_op, no, op, r_arg, arg, many, low, high, masks, cur, readLow, readHigh, group, choice, chain, hasEmpty, sset, label, next, states, r_stamp, ns, stamp, r_stack, stack, stamps, piled, reading, readings, wher, built, heads, chained, isE, lives, kind, newKind, first, kinds, hno, hns, hst2, hsb, rfl⟩, rfl, hP⟩ := hw28
    rw [← hSB] at hsb
    have hr28 : -2100 ≤ r28 ∧ r28 ≤ 300 := by (rcases hP with ⟨e, h1, h2, h3, h4, _⟩ | ⟨s1, B, h1, ⟨h2, h3, _⟩ | ⟨e, h2, h3, nk, K, h4, h5, ⟨h6, h7, _⟩ | ⟨h6, h7, _⟩⟩⟩; (omega); (omega); (omega); (have := h4.1; omega))
    refine g_istore_n C dX6_set_31 (by decide) ?_
    refine g_iload_n C dX6_set_32 rfl ?_
    refine g_iconst C dX6_set_33 ?_
    refine g_icmp_ne C 43 dX6_set_34 (by decide) (by omega) (fun h34 => ?_) (fun h34 => ?_)
    · refine g_iload_n C dX6_set_43 rfl ?_
      refine g_iconst C dX6_set_44 ?_
      refine g_icmp_ge C 62 dX6_set_45 (by decide) (by omega) (fun h45 => ?_) (fun h45 => ?_)
      · refine g_iload_n C dX6_set_62 rfl ?_
        exact g_iret C rfl ⟨_, rfl, Or.inr ⟨hwh, leads1, side1, ends1, _, _, _, ⟨_, _, _, _, _, _, _, _, _, _, _, _, _, _, _, _, _, _, _, _, _, _, _, _, _, _, _, _, _, _, _, _, _, _, _, _, _, _, _, hno, hns, hst2, hsb, rfl⟩, rfl, hP.imp (fun e e0 e1 h => by have := h.1; omega) (fun h => by have := h.1; omega) (fun K Lg all k0 k1 h => ⟨h.1, rfl, rfl, h.2⟩)⟩⟩ dX6_set_63
      · refine g_aload_n C dX6_set_48 rfl ?_
        refine g_bipush C dX6_set_49 (by decide) ?_
        refine g_iload_n C dX6_set_51 rfl ?_
        refine g_isub C dX6_set_52 ?_
        refine pM_place C dX6_set_53 ?_
        refine g_aload_n C dX6_set_56 rfl ?_
        refine g_iconst C dX6_set_57 ?_
        refine g_cVWi C [_] _ 0 cal_X6_267 cM_refuse rfl rfl rfl rfl (Nat.le_of_ble_eq_true rfl) (room_b rfl) dX6_set_58 (fun r58 w hw58 => ?_)
        obtain ⟨rfl, rfl⟩ := hw58
        exact g_iret C rfl ⟨_, rfl, Or.inr ⟨hwh, leads1, side1, ends1, _, _, _, ⟨_, _, _, _, _, _, _, _, _, _, _, _, _, _, _, _, _, _, _, _, _, _, _, _, _, _, _, _, _, _, _, _, _, _, _, _, _, _, _, hno, hns, hst2, hsb, rfl⟩, rfl, hP.imp (fun e e0 e1 h => ⟨rfl, by have := h.1; omega, h.2⟩) (fun h => by have := h.1; omega) (fun K Lg all k0 k1 h => by have := h.1; omega)⟩⟩ dX6_set_61
    · refine g_aload_n C dX6_set_37 rfl ?_
      refine g_iconst C dX6_set_38 ?_
      refine g_cVWi C [_] _ 0 cal_X6_267 cM_refuse rfl rfl rfl rfl (Nat.le_of_ble_eq_true rfl) (room_b rfl) dX6_set_39 (fun r39 w hw39 => ?_)
      obtain ⟨rfl, rfl⟩ := hw39
      exact g_iret C rfl ⟨_, rfl, Or.inr ⟨hwh, leads1, side1, ends1, _, _, _, ⟨_, _, _, _, _, _, _, _, _, _, _, _, _, _, _, _, _, _, _, _, _, _, _, _, _, _, _, _, _, _, _, _, _, _, _, _, _, _, _, hno, hns, hst2, hsb, rfl⟩, rfl, hP.imp (fun e e0 e1 h => by have := h.1; omega) (fun h => ⟨rfl, rfl, h.2⟩) (fun K Lg all k0 k1 h => by have := h.1; omega)⟩⟩ dX6_set_42
  refine g_aload_n C dX6_set_0 rfl ?_
  refine g_cVWi C [] _ 0 cal_X6_273 cM_take rfl rfl rfl rfl (Nat.le_of_ble_eq_true rfl) (room_b rfl) dX6_set_1 (fun r1 w hw1 => ?_)
  obtain ⟨rfl, rfl⟩ := hw1
  refine g_istore_n C dX6_set_4 (by decide) ?_
  refine g_iload_n C dX6_set_5 rfl ?_
  refine g_if_eq C 20 dX6_set_6 (by decide) (by omega) (fun h6 => ?_) (fun h6 => ?_)
  · exact g_locR rfl (main (by omega))
  · refine g_iload_n C dX6_set_9 rfl ?_
    refine g_iconst C dX6_set_10 ?_
    refine g_icmp_eq C 20 dX6_set_11 (by decide) (by omega) (fun h11 => ?_) (fun h11 => ?_)
    · exact g_locR rfl (main (by omega))
    · refine g_aload_n C dX6_set_14 rfl ?_
      refine g_iconst C dX6_set_15 ?_
      refine g_cVWi C [_] _ 0 cal_X6_267 cM_refuse rfl rfl rfl rfl (Nat.le_of_ble_eq_true rfl) (room_b rfl) dX6_set_16 (fun r16 w hw16 => ?_)
      obtain ⟨rfl, rfl⟩ := hw16
      refine g_widen (k' := 132) (n' := 49156) (by decide) (by decide) ?_
      exact g_iret C rfl ⟨_, rfl, Or.inl ⟨by omega, rfl⟩⟩ dX6_set_19
