/-! PatternPairs: empty, fits -/
theorem cO_empty {Z : Zk} {wr : va_W} (hfl : Z.l.flags = pinnedFlags ++ [noTraceFlag]) {a : Nat → Nat} {tape : Int → Int} {rp : Nat} {seen : Int → Bool} {queue : Int → Int} {before : Int → Int} {by_ : Int → Int} {text : Int → Int} {ways : Int → Int64} {next : Int → Int64} {length : Int} {taped : Int} {place : Int} {aq aA ap : Nat → Nat} {isE : Bool} {sets : Int → Int64} {moves : Int → Int} {accepts : Int → Int} {heads : Int → Int} {chain : Int → Int} {groups : Int → Int} {news : Int → Int} {lives : Int → Bool} {cnt : Int} {table : Int → Int} {tells : Int → Int} {states : Int} {strt : Int} {bq bA bp : Nat → Nat} {isE' : Bool} {sets' : Int → Int64} {moves' accepts' heads' chain' groups' news' : Int → Int} {lives' : Int → Bool} {cnt' : Int} {table' tells' : Int → Int} {states' strt' : Int} {which : Int} (hm : inR which) : Ct Z yX1_empty hX1_empty 8 230 [.ref (a 0), vI which] (wO Z a tape (aq 0) (bq 0) rp seen queue before by_ text ways next length taped place ++ (wQ Z aq (ap 0) (aA 0) isE ++ (wA Z aA (ap 0) sets moves accepts heads chain groups news lives cnt table tells states strt ++ (wQ Z bq (bp 0) (bA 0) isE' ++ (wA Z bA (bp 0) sets' moves' accepts' heads' chain' groups' news' lives' cnt' table' tells' states' strt' ++ wr))))) 1 6 (Th (Rz fun r w => (which = 0 ∨ which = 1) ∧ r = (if which = 0 then isE else isE') ∧ w = wO Z a tape (aq 0) (bq 0) rp seen queue before by_ text ways next length taped place ++ (wQ Z aq (ap 0) (aA 0) isE ++ (wA Z aA (ap 0) sets moves accepts heads chain groups news lives cnt table tells states strt ++ (wQ Z bq (bp 0) (bA 0) isE' ++ (wA Z bA (bp 0) sets' moves' accepts' heads' chain' groups' news' lives' cnt' table' tells' states' strt' ++ wr))))) (fun x w => ¬ (which = 0 ∨ which = 1) ∧ ∃ fs, w = (wO Z a tape (aq 0) (bq 0) rp seen queue before by_ text ways next length taped place ++ (wQ Z aq (ap 0) (aA 0) isE ++ (wA Z aA (ap 0) sets moves accepts heads chain groups news lives cnt table tells states strt ++ (wQ Z bq (bp 0) (bA 0) isE' ++ (wA Z bA (bp 0) sets' moves' accepts' heads' chain' groups' news' lives' cnt' table' tells' states' strt' ++ wr))))) ++ [(x, eO 6 fs)])) := by
  refine Ct.of RX1 "empty" (by decide +kernel) rfl rfl hkX1_empty (Nat.le_of_ble_eq_true rfl) (fun X hZ C => ?_)
  subst hZ
  refine g_aload_n C dX1_empty_0 rfl ?_
  refine g_iload_n C dX1_empty_1 rfl ?_
  refine g_cVWrT C [_] _ 0 cal_X1_80 (cO_pattern hfl hm) rfl rfl rfl rfl (Nat.le_of_ble_eq_true rfl) (room_b rfl) dX1_empty_2 (fun r2 w hw2 => ?_) (fun x2 w hw2 => ?_)
  · obtain ⟨hwh, hr, rfl⟩ := hw2
    subst hr
    by_cases e : which = 0
    · rw [if_pos e]
      refine g_getN C 9 2 in_X2 rfl rfl (by decide) (List.mem_of_getElem? (i := 2) rfl) rfl rfl dX1_empty_5 ?_
      exact g_zret C _ rfl rfl (Or.inl ⟨_, rfl, hwh, by rw [if_pos e], rfl⟩) dX1_empty_8
    · rw [if_neg e]
      refine g_getN C 21 2 in_X2 rfl rfl (by decide) (List.mem_of_getElem? (i := 2) rfl) rfl rfl dX1_empty_5 ?_
      exact g_zret C _ rfl rfl (Or.inl ⟨_, rfl, hwh, by rw [if_neg e], rfl⟩) dX1_empty_8
  · obtain ⟨hy, fs, rfl⟩ := hw2
    exact gt_out C rfl (Or.inr ⟨_, rfl, hy, _, rfl⟩)
theorem cO_fits {Z : Zk} {wr : va_W} (hfl : Z.l.flags = pinnedFlags ++ [noTraceFlag]) {a : Nat → Nat} {tape : Int → Int} {rp : Nat} {seen : Int → Bool} {queue : Int → Int} {before : Int → Int} {by_ : Int → Int} {text : Int → Int} {ways : Int → Int64} {next : Int → Int64} {length : Int} {taped : Int} {place : Int} {aq aA ap : Nat → Nat} {isE : Bool} {sets : Int → Int64} {moves : Int → Int} {accepts : Int → Int} {heads : Int → Int} {chain : Int → Int} {groups : Int → Int} {news : Int → Int} {lives : Int → Bool} {cnt : Int} {table : Int → Int} {tells : Int → Int} {states : Int} {strt : Int} {bq bA bp : Nat → Nat} {isE' : Bool} {sets' : Int → Int64} {moves' accepts' heads' chain' groups' news' : Int → Int} {lives' : Int → Bool} {cnt' : Int} {table' tells' : Int → Int} {states' strt' : Int} {which : Int} {Lf Ls : List Int → Bool} (hm : inR which) (t0 : 0 ≤ taped) (t1 : taped ≤ 2048) (ht : ∀ i, 0 ≤ i → i < 2048 → -128 ≤ tape i ∧ tape i < 128) (hF : SideO isE table tells states strt Lf) (hS : SideO isE' table' tells' states' strt' Ls) :
    Ct Z yX1_fits hX1_fits 8 230 [.ref (a 0), vI which] (wO Z a tape (aq 0) (bq 0) rp seen queue before by_ text ways next length taped place ++ (wQ Z aq (ap 0) (aA 0) isE ++ (wA Z aA (ap 0) sets moves accepts heads chain groups news lives cnt table tells states strt ++ (wQ Z bq (bp 0) (bA 0) isE' ++ (wA Z bA (bp 0) sets' moves' accepts' heads' chain' groups' news' lives' cnt' table' tells' states' strt' ++ wr))))) 1 6 (Th (Rz fun r w => (which = 0 ∨ which = 1) ∧ r = fitV (if which = 0 then Lf else Ls) tape taped ∧ w = wO Z a tape (aq 0) (bq 0) rp seen queue before by_ text ways next length 0 place ++ (wQ Z aq (ap 0) (aA 0) isE ++ (wA Z aA (ap 0) sets moves accepts heads chain groups news lives cnt table tells states strt ++ (wQ Z bq (bp 0) (bA 0) isE' ++ (wA Z bA (bp 0) sets' moves' accepts' heads' chain' groups' news' lives' cnt' table' tells' states' strt' ++ wr))))) (fun x w => ¬ (which = 0 ∨ which = 1) ∧ ∃ fs, w = (wO Z a tape (aq 0) (bq 0) rp seen queue before by_ text ways next length 0 place ++ (wQ Z aq (ap 0) (aA 0) isE ++ (wA Z aA (ap 0) sets moves accepts heads chain groups news lives cnt table tells states strt ++ (wQ Z bq (bp 0) (bA 0) isE' ++ (wA Z bA (bp 0) sets' moves' accepts' heads' chain' groups' news' lives' cnt' table' tells' states' strt' ++ wr))))) ++ [(x, eO 6 fs)])) := by
  refine Ct.of RX1 "fits" (by decide +kernel) rfl rfl hkX1_fits (Nat.le_of_ble_eq_true rfl) (fun X hZ C => ?_)
  subst hZ
  have body : ∀ (rf rs : Nat) (wr : va_W) (aq aA ap : Nat → Nat) (isE : Bool) (sets : Int → Int64) (moves accepts heads chain groups news : Int → Int) (lives : Int → Bool) (cnt : Int) (table tells : Int → Int) (states strt : Int) (Lg : List Int → Bool), SideO isE table tells states strt Lg → (∀ L, G X 6 1 6 (wO X.Z a tape rf rs rp seen queue before by_ text ways next length 0 place ++ (wQ X.Z aq (ap 0) (aA 0) isE ++ (wA X.Z aA (ap 0) sets moves accepts heads chain groups news lives cnt table tells states strt ++ wr))) 84 L [vI (b2 (fitV Lg tape taped))]) → G X 6 1 6 (wO X.Z a tape rf rs rp seen queue before by_ text ways next length 0 place ++ (wQ X.Z aq (ap 0) (aA 0) isE ++ (wA X.Z aA (ap 0) sets moves accepts heads chain groups news lives cnt table tells states strt ++ wr))) 16 [(0, .ref (a 0)), (1, vI which), (2, vI taped), (3, .ref (aq 0))] [] := by
    intro rf rs wr aq aA ap isE sets moves accepts heads chain groups news lives cnt table tells states strt Lg hS hend
    have h200 := hS.1
    have loop : ∀ (f i : Nat), (i : Int) + (f : Int) = taped → G X 6 1 6 (wO X.Z a tape rf rs rp seen queue before by_ text ways next length 0 place ++ (wQ X.Z aq (ap 0) (aA 0) isE ++ (wA X.Z aA (ap 0) sets moves accepts heads chain groups news lives cnt table tells states strt ++ wr))) 28 [(0, .ref (a 0)), (1, vI which), (2, vI taped), (3, .ref (aq 0)), (4, vI (fitS table tape strt i)), (5, vI (i : Int))] [] := by
      intro f
      induction f with
      | zero =>
        intro i hi
        have hr := fitS_r hS i (fun j h0 h1 => (ht j h0 (by omega)).2)
        have hh := fitS_has hS t0 (fun j h0 h1 => (ht j h0 (by omega)).2)
        rw [show taped.toNat = i by omega] at hh
        refine g_iload C dX1_fits_28 rfl ?_
        refine g_iload_n C dX1_fits_30 rfl ?_
        refine g_icmp_ge C 69 dX1_fits_31 (by decide) (by omega) (fun h31 => ?_) (fun h31 => ?_)
        · refine g_aload_n C dX1_fits_69 rfl ?_
          refine g_iload C dX1_fits_70 rfl ?_
          refine g_iload_n C dX1_fits_72 rfl ?_
          refine g_if_ne C 80 dX1_fits_73 (by decide) (by omega) (fun h73 => ?_) (fun h73 => ?_)
          · refine g_iconst C dX1_fits_80 ?_
            refine g_top (show _ = b2 (decide (taped = 0)) from by first | (rw [decide_eq_true (show taped = 0 by omega)]; rfl) | (rw [decide_eq_false (show ¬ taped = 0 by omega)]; rfl)) ?_
            refine g_cVPz C [_, _] _ 9 [9, 10, 11, 12, 13, 14, 15, 16, 17, 18, 19, 20] cal_X1_113 (cQ_has (wr := []) hr.1 (by omega) (fun h => hS.2.2.2.1 _ h hr.2)) rfl rfl (by decide) rfl rfl rfl (Nat.le_of_ble_eq_true rfl) (room_b rfl) dX1_fits_81 (fun r81 hw81 => ?_)
            subst hw81
            rw [hh]
            exact hend _
          · refine g_iconst C dX1_fits_76 ?_
            refine g_goto C 81 dX1_fits_77 (by decide) ?_
            refine g_top (show _ = b2 (decide (taped = 0)) from by first | (rw [decide_eq_true (show taped = 0 by omega)]; rfl) | (rw [decide_eq_false (show ¬ taped = 0 by omega)]; rfl)) ?_
            refine g_cVPz C [_, _] _ 9 [9, 10, 11, 12, 13, 14, 15, 16, 17, 18, 19, 20] cal_X1_113 (cQ_has (wr := []) hr.1 (by omega) (fun h => hS.2.2.2.1 _ h hr.2)) rfl rfl (by decide) rfl rfl rfl (Nat.le_of_ble_eq_true rfl) (room_b rfl) dX1_fits_81 (fun r81 hw81 => ?_)
            subst hw81
            rw [hh]
            exact hend _
        · exact absurd h31 (by omega)
      | succ f ih =>
        intro i hi
        have hr := fitS_r hS i (fun j h0 h1 => (ht j h0 (by omega)).2)
        have hti := ht i (by omega) (by omega)
        have hn := ih (i + 1) (by omega)
        refine g_iload C dX1_fits_28 rfl ?_
        refine g_iload_n C dX1_fits_30 rfl ?_
        refine g_icmp_ge C 69 dX1_fits_31 (by decide) (by omega) (fun h31 => ?_) (fun h31 => ?_)
        · exact absurd h31 (by omega)
        · refine g_aload_n C dX1_fits_34 rfl ?_
          refine gO_tape C dX1_fits_35 ?_
          refine g_iload C dX1_fits_38 rfl ?_
          refine lO_tape C (by omega) dX1_fits_40 ?_
          refine g_if_ge C 48 dX1_fits_41 (by decide) (by omega) (fun h41 => ?_) (fun h41 => ?_)
          · rw [show fitS table tape strt (i + 1) = movQ table (fitS table tape strt i) (tape i) from if_neg (by omega)] at hn
            refine g_aload_n C dX1_fits_48 rfl ?_
            refine g_iload C dX1_fits_49 rfl ?_
            refine g_aload_n C dX1_fits_51 rfl ?_
            refine gO_tape C dX1_fits_52 ?_
            refine g_iload C dX1_fits_55 rfl ?_
            refine lO_tape C (by omega) dX1_fits_57 ?_
            refine g_cVPi C [_, _] _ 9 [9, 10, 11, 12, 13, 14, 15, 16, 17, 18, 19, 20] cal_X1_109 (cQ_move (wr := []) hr.1 (by omega) (by omega) hti.2) rfl rfl (by decide) rfl rfl rfl (Nat.le_of_ble_eq_true rfl) (room_b rfl) dX1_fits_58 (fun r58 hw58 => ?_)
            subst hw58
            refine g_istore C dX1_fits_61 (by decide) ?_
            refine g_iinc C dX1_fits_63 rfl (by decide) ?_
            refine g_goto C 28 dX1_fits_66 (by decide) ?_
            exact g_locR rfl hn
          · rw [show fitS table tape strt (i + 1) = -1 from if_pos (by omega)] at hn
            refine g_iconst C dX1_fits_44 ?_
            refine g_goto C 61 dX1_fits_45 (by decide) ?_
            refine g_istore C dX1_fits_61 (by decide) ?_
            refine g_iinc C dX1_fits_63 rfl (by decide) ?_
            refine g_goto C 28 dX1_fits_66 (by decide) ?_
            exact g_locR rfl hn
    refine g_aload_n C dX1_fits_16 rfl ?_
    refine g_getN C 9 1 in_X2 rfl rfl (by decide) (List.mem_of_getElem? (i := 1) rfl) rfl rfl dX1_fits_17 ?_
    refine g_cVPi C [] _ 10 [10, 11, 12, 13, 14, 15, 16, 17, 18, 19, 20] cal_X1_106 (cA_start (wr := [])) rfl rfl (by decide) rfl rfl rfl (Nat.le_of_ble_eq_true rfl) (room_b rfl) dX1_fits_20 (fun r20 hw20 => ?_)
    subst hw20
    refine g_istore C dX1_fits_23 (by decide) ?_
    refine g_iconst C dX1_fits_25 ?_
    refine g_istore C dX1_fits_26 (by decide) ?_
    exact g_locR rfl (loop taped.toNat 0 (by omega))
  refine g_aload_n C dX1_fits_0 rfl ?_
  refine gO_taped C dX1_fits_1 ?_
  refine g_istore_n C dX1_fits_4 (by decide) ?_
  refine g_aload_n C dX1_fits_5 rfl ?_
  refine g_iconst C dX1_fits_6 ?_
  refine pO_taped C dX1_fits_7 ?_
  refine g_aload_n C dX1_fits_10 rfl ?_
  refine g_iload_n C dX1_fits_11 rfl ?_
  refine g_cVWrT C [_] _ 0 cal_X1_80 (cO_pattern hfl hm) rfl rfl rfl rfl (Nat.le_of_ble_eq_true rfl) (room_b rfl) dX1_fits_12 (fun r12 w hw12 => ?_) (fun x12 w hw12 => ?_)
  · obtain ⟨hwh, hr, rfl⟩ := hw12
    subst hr
    refine g_astore_n C dX1_fits_15 (by decide) ?_
    by_cases e : which = 0
    · rw [if_pos e]
      exact g_locR rfl (body _ _ _ _ _ ap _ _ _ _ _ _ _ _ _ _ _ _ _ _ Lf hF (fun L => g_zret C _ rfl rfl (Or.inl ⟨_, rfl, hwh, by rw [if_pos e], rfl⟩) dX1_fits_84))
    · rw [if_neg e]
      refine g_perm (pm_swap _ _ _ _ _ _) ?_
      exact g_locR rfl (body _ _ _ _ _ bp _ _ _ _ _ _ _ _ _ _ _ _ _ _ Ls hS (fun L => g_perm (pm_swap _ _ _ _ _ _) (g_zret C _ rfl rfl (Or.inl ⟨_, rfl, hwh, by rw [if_neg e], rfl⟩) dX1_fits_84)))
  · obtain ⟨hy, fs, rfl⟩ := hw12
    exact gt_out C rfl (Or.inr ⟨_, rfl, hy, _, rfl⟩)
