/-! Model: fits, count, is, tell -/
theorem seg_all {f : Int → Int} : ∀ {k : Nat}, Wd (seg f 0 k) → ∀ i : Int, 0 ≤ i → i < (k : Int) → 0 ≤ f i ∧ f i < 128
  | 0, _, i, h0, h1 => by omega
  | k + 1, h, i, h0, h1 => by
    rw [seg, show (0 : Int) + (k : Int) = k by omega] at h
    by_cases e : i = k
    · rw [e]; exact h.cons.1
    · exact seg_all h.cons.2 i h0 (by omega)
theorem cM_fits {Z : Zk} {wr : va_W} {a : Nat → Nat} {tape : Int → Int} {taped : Int} {place : Int} {thrown : Int} {r_op : Nat} {no : Nat} {op : Int → Int} {r_arg : Nat} {arg : Int → Int} {many : Int} {low : Int → Int64} {high : Int → Int64} {masks : Int} {cur : Int} {readLow : Int64} {readHigh : Int64} {group : Int → Int} {choice : Int → Int} {chain : Int → Int} {hasEmpty : Int → Bool} {sset : Int → Int64} {label : Int → Int} {next : Int → Int} {states : Int} {r_stamp : Nat} {ns : Nat} {stamp : Int → Int} {r_stack : Nat} {stack : Int → Int} {stamps : Int} {piled : Int} {reading : Int → Int} {readings : Int} {wher : Int → Int} {built : Int → Int64} {heads : Int → Int} {chained : Int → Int} {isE : Bool} {lives : Int → Bool} {kind : Int → Int} {newKind : Int → Int} {first : Int → Int} {kinds : Int} {leads : Int → Int} {sideStates : Int → Int} {ends : Int → Bool} {text : Int → Int} {textLong : Int} {queue : Int → Int} {frm : Int → Int} {by_ : Int → Int} {ways : Int → Int64} {before : Int → Int64} {which all : Int} {Lg : List Int → Bool} (hw9 : inR which) (hT : BytT tape) (n0 : 0 ≤ taped) (n1 : taped ≤ 2048) (hM : (which = 0 ∨ which = 1) → SideM leads ends (402 * which) all Lg) : Ct Z yX6_fits hX6_fits 2 100 [.ref (a 0), vI which] (wM Z a tape taped place thrown r_op no op r_arg arg many low high masks cur readLow readHigh group choice chain hasEmpty sset label next states r_stamp ns stamp r_stack stack stamps piled reading readings wher built heads chained isE lives kind newKind first kinds leads sideStates ends text textLong queue frm by_ ways before ++ wr) 0 0 (Rz fun r w => ((which = 0 ∨ which = 1) ∧ r = fitV Lg tape taped ∧ w = wM Z a tape 0 place 0 r_op no op r_arg arg many low high masks cur readLow readHigh group choice chain hasEmpty sset label next states r_stamp ns stamp r_stack stack stamps piled reading readings wher built heads chained isE lives kind newKind first kinds leads sideStates ends text textLong queue frm by_ ways before ++ wr) ∨ (¬ (which = 0 ∨ which = 1) ∧ w = wM Z a tape 0 place 1 r_op no op r_arg arg many low high masks cur readLow readHigh group choice chain hasEmpty sset label next states r_stamp ns stamp r_stack stack stamps piled reading readings wher built heads chained isE lives kind newKind first kinds leads sideStates ends text textLong queue frm by_ ways before ++ wr)) := by
  refine Ct.of RX6 "fits" (by decide +kernel) rfl rfl hkX6_fits (Nat.le_of_ble_eq_true rfl) (fun X hZ C => ?_)
  subst hZ
  have lp : (which = 0 ∨ which = 1) → ∀ (f i : Nat), (i : Int) + (f : Int) = taped → Wd (seg tape 0 i) → G X 5 0 0 (wM X.Z a tape 0 place 0 r_op no op r_arg arg many low high masks cur readLow readHigh group choice chain hasEmpty sset label next states r_stamp ns stamp r_stack stack stamps piled reading readings wher built heads chained isE lives kind newKind first kinds leads sideStates ends text textLong queue frm by_ ways before ++ wr) 26 [(0, .ref (a 0)), (1, vI which), (2, vI taped), (3, vI (dq (fun s b => leads (128 * (402 * which + s) + b)) 0 (seg tape 0 i))), (4, vI (i : Int))] [] := by
    intro hwh f
    have hS := hM hwh
    induction f with
    | zero =>
      intro i hi hwd
      have hr := dq_r (lo := 0) (hi := all) (fun s b s0 s1 b0 b1 => hS.2.1 s b s0 s1 b0 b1) (Int.le_refl _) (by have := hS.1; omega) _ hwd
      have hv : fitV Lg tape taped = ends (402 * which + dq (fun s b => leads (128 * (402 * which + s) + b)) 0 (seg tape 0 i)) := by
        unfold fitV
        rw [show taped.toNat = i by omega, tr_iff.mpr hwd, hS.2.2 _ hwd, Bool.true_and]
      have hal := hS.1
      refine g_iload C dX6_fits_26 rfl ?_
      refine g_iload_n C dX6_fits_28 rfl ?_
      refine g_icmp_ge C 75 dX6_fits_29 (by decide) (by omega) (fun h29 => ?_) (fun h29 => ?_)
      · refine g_aload_n C dX6_fits_75 rfl ?_
        refine gM_ends C dX6_fits_76 ?_
        refine g_sipush C dX6_fits_79 (by decide) ?_
        refine g_iload_n C dX6_fits_82 rfl ?_
        refine g_imul C dX6_fits_83 ?_
        refine g_iload_n C dX6_fits_84 rfl ?_
        refine g_iadd C dX6_fits_85 ?_
        refine lM_ends C (by omega) dX6_fits_86 ?_
        exact g_zret C _ rfl rfl ⟨_, rfl, Or.inl ⟨hwh, hv.symm, rfl⟩⟩ dX6_fits_87
      · exact absurd h29 (by omega)
    | succ f ih =>
      intro i hi hwd
      have hr := dq_r (lo := 0) (hi := all) (fun s b s0 s1 b0 b1 => hS.2.1 s b s0 s1 b0 b1) (Int.le_refl _) (by have := hS.1; omega) _ hwd
      have hti := hT i (by omega) (by omega)
      have hal := hS.1
      have e0 : (0 : Int) + (i : Int) = i := by omega
      refine g_iload C dX6_fits_26 rfl ?_
      refine g_iload_n C dX6_fits_28 rfl ?_
      refine g_icmp_ge C 75 dX6_fits_29 (by decide) (by omega) (fun h29 => ?_) (fun h29 => ?_)
      · exact absurd h29 (by omega)
      · refine g_aload_n C dX6_fits_32 rfl ?_
        refine gM_tape C dX6_fits_33 ?_
        refine g_iload C dX6_fits_36 rfl ?_
        refine lM_tape C (by omega) dX6_fits_38 ?_
        refine g_if_ge C 44 dX6_fits_39 (by decide) (by omega) (fun h39 => ?_) (fun h39 => ?_)
        · have h2 := ih (i + 1) (by omega) (by rw [seg, e0]; exact Wd.mk (by omega) hti.2 hwd)
          rw [seg, e0] at h2
          refine g_aload_n C dX6_fits_44 rfl ?_
          refine gM_leads C dX6_fits_45 ?_
          refine g_sipush C dX6_fits_48 (by decide) ?_
          refine g_sipush C dX6_fits_51 (by decide) ?_
          refine g_iload_n C dX6_fits_54 rfl ?_
          refine g_imul C dX6_fits_55 ?_
          refine g_iload_n C dX6_fits_56 rfl ?_
          refine g_iadd C dX6_fits_57 ?_
          refine g_imul C dX6_fits_58 ?_
          refine g_aload_n C dX6_fits_59 rfl ?_
          refine gM_tape C dX6_fits_60 ?_
          refine g_iload C dX6_fits_63 rfl ?_
          refine lM_tape C (by omega) dX6_fits_65 ?_
          refine g_iadd C dX6_fits_66 ?_
          refine lM_leads C (by omega) dX6_fits_67 ?_
          refine g_istore_n C dX6_fits_68 (by decide) ?_
          refine g_iinc C dX6_fits_69 rfl (by decide) ?_
          refine g_goto C 26 dX6_fits_72 (by decide) ?_
          exact g_locR rfl h2
        · have hneg : ¬ Wd (seg tape 0 taped.toNat) := fun h => by (have hq := (seg_all h) i (by omega) (by omega); omega)
          refine g_iconst C dX6_fits_42 ?_
          exact g_zret C false rfl rfl ⟨_, rfl, Or.inl ⟨hwh, by (unfold fitV; rw [show tr (Wd (seg tape 0 taped.toNat)) = false from by (cases e : tr (Wd (seg tape 0 taped.toNat)) with | false => rfl | true => exact absurd (tr_iff.mp e) hneg)]; rfl), rfl⟩⟩ dX6_fits_43
  refine g_aload_n C dX6_fits_0 rfl ?_
  refine g_cVWi C [] _ 0 cal_X6_273 cM_take rfl rfl rfl rfl (Nat.le_of_ble_eq_true rfl) (room_b rfl) dX6_fits_1 (fun r1 w hw1 => ?_)
  obtain ⟨hr1, rfl⟩ := hw1
  subst r1
  refine g_istore_n C dX6_fits_4 (by decide) ?_
  refine g_iload_n C dX6_fits_5 rfl ?_
  refine g_if_eq C 21 dX6_fits_6 (by decide) (by omega) (fun h6 => ?_) (fun h6 => ?_)
  · refine g_iconst C dX6_fits_21 ?_
    refine g_istore_n C dX6_fits_22 (by decide) ?_
    refine g_iconst C dX6_fits_23 ?_
    refine g_istore C dX6_fits_24 (by decide) ?_
    exact g_locR rfl (lp (by omega) taped.toNat 0 (by omega) Wd.nil)
  · refine g_iload_n C dX6_fits_9 rfl ?_
    refine g_iconst C dX6_fits_10 ?_
    refine g_icmp_eq C 21 dX6_fits_11 (by decide) (by omega) (fun h11 => ?_) (fun h11 => ?_)
    · refine g_iconst C dX6_fits_21 ?_
      refine g_istore_n C dX6_fits_22 (by decide) ?_
      refine g_iconst C dX6_fits_23 ?_
      refine g_istore C dX6_fits_24 (by decide) ?_
      exact g_locR rfl (lp (by omega) taped.toNat 0 (by omega) Wd.nil)
    · refine g_aload_n C dX6_fits_14 rfl ?_
      refine g_iconst C dX6_fits_15 ?_
      refine pM_thrown C dX6_fits_16 ?_
      refine g_iconst C dX6_fits_19 ?_
      exact g_zret C false rfl rfl ⟨_, rfl, Or.inr ⟨by omega, rfl⟩⟩ dX6_fits_20
theorem cM_is {Z : Zk} {wr : va_W} {a : Nat → Nat} {tape : Int → Int} {taped : Int} {place : Int} {thrown : Int} {r_op : Nat} {no : Nat} {op : Int → Int} {r_arg : Nat} {arg : Int → Int} {many : Int} {low : Int → Int64} {high : Int → Int64} {masks : Int} {cur : Int} {readLow : Int64} {readHigh : Int64} {group : Int → Int} {choice : Int → Int} {chain : Int → Int} {hasEmpty : Int → Bool} {sset : Int → Int64} {label : Int → Int} {next : Int → Int} {states : Int} {r_stamp : Nat} {ns : Nat} {stamp : Int → Int} {r_stack : Nat} {stack : Int → Int} {stamps : Int} {piled : Int} {reading : Int → Int} {readings : Int} {wher : Int → Int} {built : Int → Int64} {heads : Int → Int} {chained : Int → Int} {isE : Bool} {lives : Int → Bool} {kind : Int → Int} {newKind : Int → Int} {first : Int → Int} {kinds : Int} {leads : Int → Int} {sideStates : Int → Int} {ends : Int → Bool} {text : Int → Int} {textLong : Int} {queue : Int → Int} {frm : Int → Int} {by_ : Int → Int} {ways : Int → Int64} {before : Int → Int64} {kind9 p : Int} (k0 : 0 ≤ kind9) (k4 : kind9 ≤ 4) (p0 : 0 ≤ p) (p1 : p < 161604) : Ct Z yX6_is hX6_is 1 60 [.ref (a 0), vI kind9, vI p] (wM Z a tape taped place thrown r_op no op r_arg arg many low high masks cur readLow readHigh group choice chain hasEmpty sset label next states r_stamp ns stamp r_stack stack stamps piled reading readings wher built heads chained isE lives kind newKind first kinds leads sideStates ends text textLong queue frm by_ ways before ++ wr) 0 0 (Rz fun r w => r = wnt kind9 (ends (p / 402)) (ends (402 + p % 402)) ∧ w = wM Z a tape taped place thrown r_op no op r_arg arg many low high masks cur readLow readHigh group choice chain hasEmpty sset label next states r_stamp ns stamp r_stack stack stamps piled reading readings wher built heads chained isE lives kind newKind first kinds leads sideStates ends text textLong queue frm by_ ways before ++ wr) := by
  refine Ct.of RX6 "is" (by decide +kernel) rfl rfl hkX6_is (Nat.le_of_ble_eq_true rfl) (fun X hZ C => ?_)
  subst hZ
  obtain ⟨x, hx⟩ : ∃ x, x = ends (p / 402) := ⟨_, rfl⟩
  obtain ⟨y, hy⟩ : ∃ y, y = ends (402 + p % 402) := ⟨_, rfl⟩
  rw [← hx, ← hy] at C
  obtain ⟨rv, hrv⟩ : ∃ v, v = wnt kind9 x y := ⟨_, rfl⟩
  rw [← hrv] at C
  have t27 : G X 5 0 0 (wM X.Z a tape taped place thrown r_op no op r_arg arg many low high masks cur readLow readHigh group choice chain hasEmpty sset label next states r_stamp ns stamp r_stack stack stamps piled reading readings wher built heads chained isE lives kind newKind first kinds leads sideStates ends text textLong queue frm by_ ways before ++ wr) 27 [(0, .ref (a 0)), (1, vI kind9), (2, vI p), (3, vI (b2 x)), (4, vI (b2 y))] [] := by
    refine g_iload_n C dX6_is_27 rfl ?_
    refine g_if_ne C 45 dX6_is_28 (by decide) (by omega) (fun h28 => ?_) (fun h28 => ?_)
    · refine g_iload_n C dX6_is_45 rfl ?_
      refine g_iconst C dX6_is_46 ?_
      refine g_icmp_ne C 67 dX6_is_47 (by decide) (by omega) (fun h47 => ?_) (fun h47 => ?_)
      · refine g_iload_n C dX6_is_67 rfl ?_
        refine g_iconst C dX6_is_68 ?_
        refine g_icmp_ne C 89 dX6_is_69 (by decide) (by omega) (fun h69 => ?_) (fun h69 => ?_)
        · refine g_iload_n C dX6_is_89 rfl ?_
          refine g_iconst C dX6_is_90 ?_
          refine g_icmp_ne C 111 dX6_is_91 (by decide) (by omega) (fun h91 => ?_) (fun h91 => ?_)
          · refine g_iload_n C dX6_is_111 rfl ?_
            refine g_if_ne C 124 dX6_is_112 (by decide) (b2_r _) (fun h112 => ?_) (fun h112 => ?_)
            · refine g_iconst C dX6_is_124 ?_
              exact g_zret C rv (by rw [hrv]; unfold wnt; (first | rw [if_pos (show kind9 = 0 by omega)] | rw [if_neg (show ¬ kind9 = 0 by omega), if_pos (show kind9 = 1 by omega)] | rw [if_neg (show ¬ kind9 = 0 by omega), if_neg (show ¬ kind9 = 1 by omega), if_pos (show kind9 = 2 by omega)] | rw [if_neg (show ¬ kind9 = 0 by omega), if_neg (show ¬ kind9 = 1 by omega), if_neg (show ¬ kind9 = 2 by omega), if_pos (show kind9 = 3 by omega)] | rw [if_neg (show ¬ kind9 = 0 by omega), if_neg (show ¬ kind9 = 1 by omega), if_neg (show ¬ kind9 = 2 by omega), if_neg (show ¬ kind9 = 3 by omega)]); clear hrv hx hy C; cases x <;> cases y <;> first | rfl | exact absurd rfl h34 | exact absurd h34 (by decide) | exact absurd rfl h51 | exact absurd h51 (by decide) | exact absurd rfl h56 | exact absurd h56 (by decide) | exact absurd rfl h74 | exact absurd h74 (by decide) | exact absurd rfl h78 | exact absurd h78 (by decide) | exact absurd rfl h95 | exact absurd h95 (by decide) | exact absurd rfl h100 | exact absurd h100 (by decide) | exact absurd rfl h112 | exact absurd h112 (by decide) | exact absurd rfl h117 | exact absurd h117 (by decide)) rfl ⟨_, rfl, rfl, rfl⟩ dX6_is_125
            · refine g_iload C dX6_is_115 rfl ?_
              refine g_if_ne C 124 dX6_is_117 (by decide) (b2_r _) (fun h117 => ?_) (fun h117 => ?_)
              · refine g_iconst C dX6_is_124 ?_
                exact g_zret C rv (by rw [hrv]; unfold wnt; (first | rw [if_pos (show kind9 = 0 by omega)] | rw [if_neg (show ¬ kind9 = 0 by omega), if_pos (show kind9 = 1 by omega)] | rw [if_neg (show ¬ kind9 = 0 by omega), if_neg (show ¬ kind9 = 1 by omega), if_pos (show kind9 = 2 by omega)] | rw [if_neg (show ¬ kind9 = 0 by omega), if_neg (show ¬ kind9 = 1 by omega), if_neg (show ¬ kind9 = 2 by omega), if_pos (show kind9 = 3 by omega)] | rw [if_neg (show ¬ kind9 = 0 by omega), if_neg (show ¬ kind9 = 1 by omega), if_neg (show ¬ kind9 = 2 by omega), if_neg (show ¬ kind9 = 3 by omega)]); clear hrv hx hy C; cases x <;> cases y <;> first | rfl | exact absurd rfl h34 | exact absurd h34 (by decide) | exact absurd rfl h51 | exact absurd h51 (by decide) | exact absurd rfl h56 | exact absurd h56 (by decide) | exact absurd rfl h74 | exact absurd h74 (by decide) | exact absurd rfl h78 | exact absurd h78 (by decide) | exact absurd rfl h95 | exact absurd h95 (by decide) | exact absurd rfl h100 | exact absurd h100 (by decide) | exact absurd rfl h112 | exact absurd h112 (by decide) | exact absurd rfl h117 | exact absurd h117 (by decide)) rfl ⟨_, rfl, rfl, rfl⟩ dX6_is_125
              · refine g_iconst C dX6_is_120 ?_
                refine g_goto C 125 dX6_is_121 (by decide) ?_
                exact g_zret C rv (by rw [hrv]; unfold wnt; (first | rw [if_pos (show kind9 = 0 by omega)] | rw [if_neg (show ¬ kind9 = 0 by omega), if_pos (show kind9 = 1 by omega)] | rw [if_neg (show ¬ kind9 = 0 by omega), if_neg (show ¬ kind9 = 1 by omega), if_pos (show kind9 = 2 by omega)] | rw [if_neg (show ¬ kind9 = 0 by omega), if_neg (show ¬ kind9 = 1 by omega), if_neg (show ¬ kind9 = 2 by omega), if_pos (show kind9 = 3 by omega)] | rw [if_neg (show ¬ kind9 = 0 by omega), if_neg (show ¬ kind9 = 1 by omega), if_neg (show ¬ kind9 = 2 by omega), if_neg (show ¬ kind9 = 3 by omega)]); clear hrv hx hy C; cases x <;> cases y <;> first | rfl | exact absurd rfl h34 | exact absurd h34 (by decide) | exact absurd rfl h51 | exact absurd h51 (by decide) | exact absurd rfl h56 | exact absurd h56 (by decide) | exact absurd rfl h74 | exact absurd h74 (by decide) | exact absurd rfl h78 | exact absurd h78 (by decide) | exact absurd rfl h95 | exact absurd h95 (by decide) | exact absurd rfl h100 | exact absurd h100 (by decide) | exact absurd rfl h112 | exact absurd h112 (by decide) | exact absurd rfl h117 | exact absurd h117 (by decide)) rfl ⟨_, rfl, rfl, rfl⟩ dX6_is_125
          · refine g_iload_n C dX6_is_94 rfl ?_
            refine g_if_eq C 107 dX6_is_95 (by decide) (b2_r _) (fun h95 => ?_) (fun h95 => ?_)
            · refine g_iconst C dX6_is_107 ?_
              refine g_goto C 125 dX6_is_108 (by decide) ?_
              exact g_zret C rv (by rw [hrv]; unfold wnt; (first | rw [if_pos (show kind9 = 0 by omega)] | rw [if_neg (show ¬ kind9 = 0 by omega), if_pos (show kind9 = 1 by omega)] | rw [if_neg (show ¬ kind9 = 0 by omega), if_neg (show ¬ kind9 = 1 by omega), if_pos (show kind9 = 2 by omega)] | rw [if_neg (show ¬ kind9 = 0 by omega), if_neg (show ¬ kind9 = 1 by omega), if_neg (show ¬ kind9 = 2 by omega), if_pos (show kind9 = 3 by omega)] | rw [if_neg (show ¬ kind9 = 0 by omega), if_neg (show ¬ kind9 = 1 by omega), if_neg (show ¬ kind9 = 2 by omega), if_neg (show ¬ kind9 = 3 by omega)]); clear hrv hx hy C; cases x <;> cases y <;> first | rfl | exact absurd rfl h34 | exact absurd h34 (by decide) | exact absurd rfl h51 | exact absurd h51 (by decide) | exact absurd rfl h56 | exact absurd h56 (by decide) | exact absurd rfl h74 | exact absurd h74 (by decide) | exact absurd rfl h78 | exact absurd h78 (by decide) | exact absurd rfl h95 | exact absurd h95 (by decide) | exact absurd rfl h100 | exact absurd h100 (by decide) | exact absurd rfl h112 | exact absurd h112 (by decide) | exact absurd rfl h117 | exact absurd h117 (by decide)) rfl ⟨_, rfl, rfl, rfl⟩ dX6_is_125
            · refine g_iload C dX6_is_98 rfl ?_
              refine g_if_eq C 107 dX6_is_100 (by decide) (b2_r _) (fun h100 => ?_) (fun h100 => ?_)
              · refine g_iconst C dX6_is_107 ?_
                refine g_goto C 125 dX6_is_108 (by decide) ?_
                exact g_zret C rv (by rw [hrv]; unfold wnt; (first | rw [if_pos (show kind9 = 0 by omega)] | rw [if_neg (show ¬ kind9 = 0 by omega), if_pos (show kind9 = 1 by omega)] | rw [if_neg (show ¬ kind9 = 0 by omega), if_neg (show ¬ kind9 = 1 by omega), if_pos (show kind9 = 2 by omega)] | rw [if_neg (show ¬ kind9 = 0 by omega), if_neg (show ¬ kind9 = 1 by omega), if_neg (show ¬ kind9 = 2 by omega), if_pos (show kind9 = 3 by omega)] | rw [if_neg (show ¬ kind9 = 0 by omega), if_neg (show ¬ kind9 = 1 by omega), if_neg (show ¬ kind9 = 2 by omega), if_neg (show ¬ kind9 = 3 by omega)]); clear hrv hx hy C; cases x <;> cases y <;> first | rfl | exact absurd rfl h34 | exact absurd h34 (by decide) | exact absurd rfl h51 | exact absurd h51 (by decide) | exact absurd rfl h56 | exact absurd h56 (by decide) | exact absurd rfl h74 | exact absurd h74 (by decide) | exact absurd rfl h78 | exact absurd h78 (by decide) | exact absurd rfl h95 | exact absurd h95 (by decide) | exact absurd rfl h100 | exact absurd h100 (by decide) | exact absurd rfl h112 | exact absurd h112 (by decide) | exact absurd rfl h117 | exact absurd h117 (by decide)) rfl ⟨_, rfl, rfl, rfl⟩ dX6_is_125
              · refine g_iconst C dX6_is_103 ?_
                refine g_goto C 125 dX6_is_104 (by decide) ?_
                exact g_zret C rv (by rw [hrv]; unfold wnt; (first | rw [if_pos (show kind9 = 0 by omega)] | rw [if_neg (show ¬ kind9 = 0 by omega), if_pos (show kind9 = 1 by omega)] | rw [if_neg (show ¬ kind9 = 0 by omega), if_neg (show ¬ kind9 = 1 by omega), if_pos (show kind9 = 2 by omega)] | rw [if_neg (show ¬ kind9 = 0 by omega), if_neg (show ¬ kind9 = 1 by omega), if_neg (show ¬ kind9 = 2 by omega), if_pos (show kind9 = 3 by omega)] | rw [if_neg (show ¬ kind9 = 0 by omega), if_neg (show ¬ kind9 = 1 by omega), if_neg (show ¬ kind9 = 2 by omega), if_neg (show ¬ kind9 = 3 by omega)]); clear hrv hx hy C; cases x <;> cases y <;> first | rfl | exact absurd rfl h34 | exact absurd h34 (by decide) | exact absurd rfl h51 | exact absurd h51 (by decide) | exact absurd rfl h56 | exact absurd h56 (by decide) | exact absurd rfl h74 | exact absurd h74 (by decide) | exact absurd rfl h78 | exact absurd h78 (by decide) | exact absurd rfl h95 | exact absurd h95 (by decide) | exact absurd rfl h100 | exact absurd h100 (by decide) | exact absurd rfl h112 | exact absurd h112 (by decide) | exact absurd rfl h117 | exact absurd h117 (by decide)) rfl ⟨_, rfl, rfl, rfl⟩ dX6_is_125
        · refine g_iload C dX6_is_72 rfl ?_
          refine g_if_eq C 85 dX6_is_74 (by decide) (b2_r _) (fun h74 => ?_) (fun h74 => ?_)
          · refine g_iconst C dX6_is_85 ?_
            refine g_goto C 125 dX6_is_86 (by decide) ?_
            exact g_zret C rv (by rw [hrv]; unfold wnt; (first | rw [if_pos (show kind9 = 0 by omega)] | rw [if_neg (show ¬ kind9 = 0 by omega), if_pos (show kind9 = 1 by omega)] | rw [if_neg (show ¬ kind9 = 0 by omega), if_neg (show ¬ kind9 = 1 by omega), if_pos (show kind9 = 2 by omega)] | rw [if_neg (show ¬ kind9 = 0 by omega), if_neg (show ¬ kind9 = 1 by omega), if_neg (show ¬ kind9 = 2 by omega), if_pos (show kind9 = 3 by omega)] | rw [if_neg (show ¬ kind9 = 0 by omega), if_neg (show ¬ kind9 = 1 by omega), if_neg (show ¬ kind9 = 2 by omega), if_neg (show ¬ kind9 = 3 by omega)]); clear hrv hx hy C; cases x <;> cases y <;> first | rfl | exact absurd rfl h34 | exact absurd h34 (by decide) | exact absurd rfl h51 | exact absurd h51 (by decide) | exact absurd rfl h56 | exact absurd h56 (by decide) | exact absurd rfl h74 | exact absurd h74 (by decide) | exact absurd rfl h78 | exact absurd h78 (by decide) | exact absurd rfl h95 | exact absurd h95 (by decide) | exact absurd rfl h100 | exact absurd h100 (by decide) | exact absurd rfl h112 | exact absurd h112 (by decide) | exact absurd rfl h117 | exact absurd h117 (by decide)) rfl ⟨_, rfl, rfl, rfl⟩ dX6_is_125
          · refine g_iload_n C dX6_is_77 rfl ?_
            refine g_if_ne C 85 dX6_is_78 (by decide) (b2_r _) (fun h78 => ?_) (fun h78 => ?_)
            · refine g_iconst C dX6_is_85 ?_
              refine g_goto C 125 dX6_is_86 (by decide) ?_
              exact g_zret C rv (by rw [hrv]; unfold wnt; (first | rw [if_pos (show kind9 = 0 by omega)] | rw [if_neg (show ¬ kind9 = 0 by omega), if_pos (show kind9 = 1 by omega)] | rw [if_neg (show ¬ kind9 = 0 by omega), if_neg (show ¬ kind9 = 1 by omega), if_pos (show kind9 = 2 by omega)] | rw [if_neg (show ¬ kind9 = 0 by omega), if_neg (show ¬ kind9 = 1 by omega), if_neg (show ¬ kind9 = 2 by omega), if_pos (show kind9 = 3 by omega)] | rw [if_neg (show ¬ kind9 = 0 by omega), if_neg (show ¬ kind9 = 1 by omega), if_neg (show ¬ kind9 = 2 by omega), if_neg (show ¬ kind9 = 3 by omega)]); clear hrv hx hy C; cases x <;> cases y <;> first | rfl | exact absurd rfl h34 | exact absurd h34 (by decide) | exact absurd rfl h51 | exact absurd h51 (by decide) | exact absurd rfl h56 | exact absurd h56 (by decide) | exact absurd rfl h74 | exact absurd h74 (by decide) | exact absurd rfl h78 | exact absurd h78 (by decide) | exact absurd rfl h95 | exact absurd h95 (by decide) | exact absurd rfl h100 | exact absurd h100 (by decide) | exact absurd rfl h112 | exact absurd h112 (by decide) | exact absurd rfl h117 | exact absurd h117 (by decide)) rfl ⟨_, rfl, rfl, rfl⟩ dX6_is_125
            · refine g_iconst C dX6_is_81 ?_
              refine g_goto C 125 dX6_is_82 (by decide) ?_
              exact g_zret C rv (by rw [hrv]; unfold wnt; (first | rw [if_pos (show kind9 = 0 by omega)] | rw [if_neg (show ¬ kind9 = 0 by omega), if_pos (show kind9 = 1 by omega)] | rw [if_neg (show ¬ kind9 = 0 by omega), if_neg (show ¬ kind9 = 1 by omega), if_pos (show kind9 = 2 by omega)] | rw [if_neg (show ¬ kind9 = 0 by omega), if_neg (show ¬ kind9 = 1 by omega), if_neg (show ¬ kind9 = 2 by omega), if_pos (show kind9 = 3 by omega)] | rw [if_neg (show ¬ kind9 = 0 by omega), if_neg (show ¬ kind9 = 1 by omega), if_neg (show ¬ kind9 = 2 by omega), if_neg (show ¬ kind9 = 3 by omega)]); clear hrv hx hy C; cases x <;> cases y <;> first | rfl | exact absurd rfl h34 | exact absurd h34 (by decide) | exact absurd rfl h51 | exact absurd h51 (by decide) | exact absurd rfl h56 | exact absurd h56 (by decide) | exact absurd rfl h74 | exact absurd h74 (by decide) | exact absurd rfl h78 | exact absurd h78 (by decide) | exact absurd rfl h95 | exact absurd h95 (by decide) | exact absurd rfl h100 | exact absurd h100 (by decide) | exact absurd rfl h112 | exact absurd h112 (by decide) | exact absurd rfl h117 | exact absurd h117 (by decide)) rfl ⟨_, rfl, rfl, rfl⟩ dX6_is_125
      · refine g_iload_n C dX6_is_50 rfl ?_
        refine g_if_eq C 63 dX6_is_51 (by decide) (b2_r _) (fun h51 => ?_) (fun h51 => ?_)
        · refine g_iconst C dX6_is_63 ?_
          refine g_goto C 125 dX6_is_64 (by decide) ?_
          exact g_zret C rv (by rw [hrv]; unfold wnt; (first | rw [if_pos (show kind9 = 0 by omega)] | rw [if_neg (show ¬ kind9 = 0 by omega), if_pos (show kind9 = 1 by omega)] | rw [if_neg (show ¬ kind9 = 0 by omega), if_neg (show ¬ kind9 = 1 by omega), if_pos (show kind9 = 2 by omega)] | rw [if_neg (show ¬ kind9 = 0 by omega), if_neg (show ¬ kind9 = 1 by omega), if_neg (show ¬ kind9 = 2 by omega), if_pos (show kind9 = 3 by omega)] | rw [if_neg (show ¬ kind9 = 0 by omega), if_neg (show ¬ kind9 = 1 by omega), if_neg (show ¬ kind9 = 2 by omega), if_neg (show ¬ kind9 = 3 by omega)]); clear hrv hx hy C; cases x <;> cases y <;> first | rfl | exact absurd rfl h34 | exact absurd h34 (by decide) | exact absurd rfl h51 | exact absurd h51 (by decide) | exact absurd rfl h56 | exact absurd h56 (by decide) | exact absurd rfl h74 | exact absurd h74 (by decide) | exact absurd rfl h78 | exact absurd h78 (by decide) | exact absurd rfl h95 | exact absurd h95 (by decide) | exact absurd rfl h100 | exact absurd h100 (by decide) | exact absurd rfl h112 | exact absurd h112 (by decide) | exact absurd rfl h117 | exact absurd h117 (by decide)) rfl ⟨_, rfl, rfl, rfl⟩ dX6_is_125
        · refine g_iload C dX6_is_54 rfl ?_
          refine g_if_ne C 63 dX6_is_56 (by decide) (b2_r _) (fun h56 => ?_) (fun h56 => ?_)
          · refine g_iconst C dX6_is_63 ?_
            refine g_goto C 125 dX6_is_64 (by decide) ?_
            exact g_zret C rv (by rw [hrv]; unfold wnt; (first | rw [if_pos (show kind9 = 0 by omega)] | rw [if_neg (show ¬ kind9 = 0 by omega), if_pos (show kind9 = 1 by omega)] | rw [if_neg (show ¬ kind9 = 0 by omega), if_neg (show ¬ kind9 = 1 by omega), if_pos (show kind9 = 2 by omega)] | rw [if_neg (show ¬ kind9 = 0 by omega), if_neg (show ¬ kind9 = 1 by omega), if_neg (show ¬ kind9 = 2 by omega), if_pos (show kind9 = 3 by omega)] | rw [if_neg (show ¬ kind9 = 0 by omega), if_neg (show ¬ kind9 = 1 by omega), if_neg (show ¬ kind9 = 2 by omega), if_neg (show ¬ kind9 = 3 by omega)]); clear hrv hx hy C; cases x <;> cases y <;> first | rfl | exact absurd rfl h34 | exact absurd h34 (by decide) | exact absurd rfl h51 | exact absurd h51 (by decide) | exact absurd rfl h56 | exact absurd h56 (by decide) | exact absurd rfl h74 | exact absurd h74 (by decide) | exact absurd rfl h78 | exact absurd h78 (by decide) | exact absurd rfl h95 | exact absurd h95 (by decide) | exact absurd rfl h100 | exact absurd h100 (by decide) | exact absurd rfl h112 | exact absurd h112 (by decide) | exact absurd rfl h117 | exact absurd h117 (by decide)) rfl ⟨_, rfl, rfl, rfl⟩ dX6_is_125
          · refine g_iconst C dX6_is_59 ?_
            refine g_goto C 125 dX6_is_60 (by decide) ?_
            exact g_zret C rv (by rw [hrv]; unfold wnt; (first | rw [if_pos (show kind9 = 0 by omega)] | rw [if_neg (show ¬ kind9 = 0 by omega), if_pos (show kind9 = 1 by omega)] | rw [if_neg (show ¬ kind9 = 0 by omega), if_neg (show ¬ kind9 = 1 by omega), if_pos (show kind9 = 2 by omega)] | rw [if_neg (show ¬ kind9 = 0 by omega), if_neg (show ¬ kind9 = 1 by omega), if_neg (show ¬ kind9 = 2 by omega), if_pos (show kind9 = 3 by omega)] | rw [if_neg (show ¬ kind9 = 0 by omega), if_neg (show ¬ kind9 = 1 by omega), if_neg (show ¬ kind9 = 2 by omega), if_neg (show ¬ kind9 = 3 by omega)]); clear hrv hx hy C; cases x <;> cases y <;> first | rfl | exact absurd rfl h34 | exact absurd h34 (by decide) | exact absurd rfl h51 | exact absurd h51 (by decide) | exact absurd rfl h56 | exact absurd h56 (by decide) | exact absurd rfl h74 | exact absurd h74 (by decide) | exact absurd rfl h78 | exact absurd h78 (by decide) | exact absurd rfl h95 | exact absurd h95 (by decide) | exact absurd rfl h100 | exact absurd h100 (by decide) | exact absurd rfl h112 | exact absurd h112 (by decide) | exact absurd rfl h117 | exact absurd h117 (by decide)) rfl ⟨_, rfl, rfl, rfl⟩ dX6_is_125
    · refine g_iload_n C dX6_is_31 rfl ?_
      refine g_iload C dX6_is_32 rfl ?_
      refine g_icmp_eq C 41 dX6_is_34 (by decide) ⟨b2_r _, b2_r _⟩ (fun h34 => ?_) (fun h34 => ?_)
      · refine g_iconst C dX6_is_41 ?_
        refine g_goto C 125 dX6_is_42 (by decide) ?_
        exact g_zret C rv (by rw [hrv]; unfold wnt; (first | rw [if_pos (show kind9 = 0 by omega)] | rw [if_neg (show ¬ kind9 = 0 by omega), if_pos (show kind9 = 1 by omega)] | rw [if_neg (show ¬ kind9 = 0 by omega), if_neg (show ¬ kind9 = 1 by omega), if_pos (show kind9 = 2 by omega)] | rw [if_neg (show ¬ kind9 = 0 by omega), if_neg (show ¬ kind9 = 1 by omega), if_neg (show ¬ kind9 = 2 by omega), if_pos (show kind9 = 3 by omega)] | rw [if_neg (show ¬ kind9 = 0 by omega), if_neg (show ¬ kind9 = 1 by omega), if_neg (show ¬ kind9 = 2 by omega), if_neg (show ¬ kind9 = 3 by omega)]); clear hrv hx hy C; cases x <;> cases y <;> first | rfl | exact absurd rfl h34 | exact absurd h34 (by decide) | exact absurd rfl h51 | exact absurd h51 (by decide) | exact absurd rfl h56 | exact absurd h56 (by decide) | exact absurd rfl h74 | exact absurd h74 (by decide) | exact absurd rfl h78 | exact absurd h78 (by decide) | exact absurd rfl h95 | exact absurd h95 (by decide) | exact absurd rfl h100 | exact absurd h100 (by decide) | exact absurd rfl h112 | exact absurd h112 (by decide) | exact absurd rfl h117 | exact absurd h117 (by decide)) rfl ⟨_, rfl, rfl, rfl⟩ dX6_is_125
      · refine g_iconst C dX6_is_37 ?_
        refine g_goto C 125 dX6_is_38 (by decide) ?_
        exact g_zret C rv (by rw [hrv]; unfold wnt; (first | rw [if_pos (show kind9 = 0 by omega)] | rw [if_neg (show ¬ kind9 = 0 by omega), if_pos (show kind9 = 1 by omega)] | rw [if_neg (show ¬ kind9 = 0 by omega), if_neg (show ¬ kind9 = 1 by omega), if_pos (show kind9 = 2 by omega)] | rw [if_neg (show ¬ kind9 = 0 by omega), if_neg (show ¬ kind9 = 1 by omega), if_neg (show ¬ kind9 = 2 by omega), if_pos (show kind9 = 3 by omega)] | rw [if_neg (show ¬ kind9 = 0 by omega), if_neg (show ¬ kind9 = 1 by omega), if_neg (show ¬ kind9 = 2 by omega), if_neg (show ¬ kind9 = 3 by omega)]); clear hrv hx hy C; cases x <;> cases y <;> first | rfl | exact absurd rfl h34 | exact absurd h34 (by decide) | exact absurd rfl h51 | exact absurd h51 (by decide) | exact absurd rfl h56 | exact absurd h56 (by decide) | exact absurd rfl h74 | exact absurd h74 (by decide) | exact absurd rfl h78 | exact absurd h78 (by decide) | exact absurd rfl h95 | exact absurd h95 (by decide) | exact absurd rfl h100 | exact absurd h100 (by decide) | exact absurd rfl h112 | exact absurd h112 (by decide) | exact absurd rfl h117 | exact absurd h117 (by decide)) rfl ⟨_, rfl, rfl, rfl⟩ dX6_is_125
  refine g_aload_n C dX6_is_0 rfl ?_
  refine gM_ends C dX6_is_1 ?_
  refine g_iload_n C dX6_is_4 rfl ?_
  refine g_sipush C dX6_is_5 (by decide) ?_
  refine g_idiv C dX6_is_8 (by omega) ?_
  refine lM_ends C (by omega) dX6_is_9 ?_
  refine g_istore_n C dX6_is_10 (by decide) ?_
  refine g_aload_n C dX6_is_11 rfl ?_
  refine gM_ends C dX6_is_12 ?_
  refine g_sipush C dX6_is_15 (by decide) ?_
  refine g_iload_n C dX6_is_18 rfl ?_
  refine g_sipush C dX6_is_19 (by decide) ?_
  refine g_irem C dX6_is_22 (by omega) ?_
  refine g_iadd C dX6_is_23 ?_
  refine lM_ends C (by omega) dX6_is_24 ?_
  refine g_istore C dX6_is_25 (by decide) ?_
  rw [← hx, ← hy]
  exact g_locR rfl t27
