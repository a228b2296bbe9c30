/-! constructors: Patterns, Automaton, Pattern -/
def pF0 : List Value := [.null, .null, vI 0, vI 0, .null, .null, .null, .null, .null, .null, vI 0, vI 0, .null, .null, .null, vI 0, vI 0, vI 0]
def aF0 : List Value := [.null, .null, .null, .null, .null, .null, .null, .null, .null, vI 0, .null, .null, vI 0, vI 0]
def qF0 : List Value := [.null, .null, vI 0]
def apf (p t b a14 a15 a16 a17 a18 a19 a22 a23 a24 : Nat) : Nat → Nat
  | 0 => p | 1 => b | 2 => t | 14 => a14 | 15 => a15 | 16 => a16 | 17 => a17 | 18 => a18 | 19 => a19 | 22 => a22 | 23 => a23 | 24 => a24 | _ => 0
def aaf (p a11 a12 a13 a14 a15 a16 a17 a18 a20 a21 : Nat) : Nat → Nat
  | 0 => p | 11 => a11 | 12 => a12 | 13 => a13 | 14 => a14 | 15 => a15 | 16 => a16 | 17 => a17 | 18 => a18 | 20 => a20 | 21 => a21 | _ => 0
theorem cP_init {Z : Zk} {p t : Nat} : Ct Z yX3_init hX3_init 6 190 [.ref p] [(p, eO 2 pF0)] 10 6813 (Rv fun w => ∃ ap : Nat → Nat, ap 0 = p ∧ ap 2 = t ∧ w = wP Z ap .null 0 0 ((fun _ => 0)) ((fun _ => 0)) ((fun _ => 0)) ((fun _ => 0)) ((fun _ => false)) ((fun _ => 0)) 0 0 ((fun _ => false)) ((fun _ => 0)) ((fun _ => 0)) 0 0 0) := by
  refine Ct.of RX3 "<init>" (by decide +kernel) rfl rfl hkX3_init (Nat.le_of_ble_eq_true rfl) (fun X hZ C => ?_)
  subst hZ
  refine g_aload_n C dX3_init_0 rfl ?_
  refine g_objInit C q102 q89 q90 ⟨(Nat.le_of_ble_eq_true rfl), (Nat.le_of_ble_eq_true rfl)⟩ (Nat.le_of_ble_eq_true rfl) dX3_init_1 ?_
  refine g_aload_n C dX3_init_4 rfl ?_
  refine g_new C tyX4 (ci := 3) (fs := brkF) in_X4 tyX4_ok q103 q104 q65 rfl (by decide +kernel) ⟨(Nat.le_of_ble_eq_true rfl), (Nat.le_of_ble_eq_true rfl)⟩ dX3_init_5 (fun q5 => ?_)
  refine g_ws (ws' := (p, eO 2 [.null, .null, vI 0, vI 0, .null, .null, .null, .null, .null, .null, vI 0, vI 0, .null, .null, .null, vI 0, vI 0, vI 0]) :: ([(q5, eO 3 brkF)])) rfl ?_
  refine g_dup C dX3_init_8 rfl ?_
  refine g_cIPv C [] _ [1] cal_X3_11 cB_init (by decide) rfl rfl rfl (Nat.le_of_ble_eq_true rfl) (room_b rfl) dX3_init_9 (fun hw9 => ?_)
  refine g_putF C 0 0 tyX3 in_X3 tyX3_ok nmX3 rfl rfl rfl (by decide) q173 rfl rfl rfl rfl rfl rfl (Nat.le_of_ble_eq_true rfl) dX3_init_12 ?_
  refine g_ws (ws' := (p, eO 2 [.ref q5, .null, vI 0, vI 0, .null, .null, .null, .null, .null, .null, vI 0, vI 0, .null, .null, .null, vI 0, vI 0, vI 0]) :: ([(q5, eO 3 brkF)])) rfl ?_
  refine g_aload_n C dX3_init_15 rfl ?_
  refine g_sipush C dX3_init_16 (by decide) ?_
  refine g_newJ C 400 rfl (by decide) q233 ⟨(Nat.le_of_ble_eq_true rfl), (Nat.le_of_ble_eq_true rfl)⟩ dX3_init_19 (fun q19 => ?_)
  refine g_ws (ws' := (p, eO 2 [.ref q5, .null, vI 0, vI 0, .null, .null, .null, .null, .null, .null, vI 0, vI 0, .null, .null, .null, vI 0, vI 0, vI 0]) :: ([(q5, eO 3 brkF), (q19, eJ X.Z 400 (fun _ => 0))])) rfl ?_
  refine g_putF C 0 4 tyX3 in_X3 tyX3_ok nmX3 rfl rfl rfl (by decide) q177 rfl rfl rfl rfl rfl rfl (Nat.le_of_ble_eq_true rfl) dX3_init_21 ?_
  refine g_ws (ws' := (p, eO 2 [.ref q5, .null, vI 0, vI 0, .ref q19, .null, .null, .null, .null, .null, vI 0, vI 0, .null, .null, .null, vI 0, vI 0, vI 0]) :: ([(q5, eO 3 brkF), (q19, eJ X.Z 400 (fun _ => 0))])) rfl ?_
  refine g_aload_n C dX3_init_24 rfl ?_
  refine g_sipush C dX3_init_25 (by decide) ?_
  refine g_newJ C 400 rfl (by decide) q233 ⟨(Nat.le_of_ble_eq_true rfl), (Nat.le_of_ble_eq_true rfl)⟩ dX3_init_28 (fun q28 => ?_)
  refine g_ws (ws' := (p, eO 2 [.ref q5, .null, vI 0, vI 0, .ref q19, .null, .null, .null, .null, .null, vI 0, vI 0, .null, .null, .null, vI 0, vI 0, vI 0]) :: ([(q5, eO 3 brkF), (q19, eJ X.Z 400 (fun _ => 0)), (q28, eJ X.Z 400 (fun _ => 0))])) rfl ?_
  refine g_putF C 0 5 tyX3 in_X3 tyX3_ok nmX3 rfl rfl rfl (by decide) q178 rfl rfl rfl rfl rfl rfl (Nat.le_of_ble_eq_true rfl) dX3_init_30 ?_
  refine g_ws (ws' := (p, eO 2 [.ref q5, .null, vI 0, vI 0, .ref q19, .ref q28, .null, .null, .null, .null, vI 0, vI 0, .null, .null, .null, vI 0, vI 0, vI 0]) :: ([(q5, eO 3 brkF), (q19, eJ X.Z 400 (fun _ => 0)), (q28, eJ X.Z 400 (fun _ => 0))])) rfl ?_
  refine g_aload_n C dX3_init_33 rfl ?_
  refine g_sipush C dX3_init_34 (by decide) ?_
  refine g_newI C 400 rfl (by decide) q234 ⟨(Nat.le_of_ble_eq_true rfl), (Nat.le_of_ble_eq_true rfl)⟩ dX3_init_37 (fun q37 => ?_)
  refine g_ws (ws' := (p, eO 2 [.ref q5, .null, vI 0, vI 0, .ref q19, .ref q28, .null, .null, .null, .null, vI 0, vI 0, .null, .null, .null, vI 0, vI 0, vI 0]) :: ([(q5, eO 3 brkF), (q19, eJ X.Z 400 (fun _ => 0)), (q28, eJ X.Z 400 (fun _ => 0)), (q37, eI X.Z 400 (fun _ => 0))])) rfl ?_
  refine g_putF C 0 6 tyX3 in_X3 tyX3_ok nmX3 rfl rfl rfl (by decide) q179 rfl rfl rfl rfl rfl rfl (Nat.le_of_ble_eq_true rfl) dX3_init_39 ?_
  refine g_ws (ws' := (p, eO 2 [.ref q5, .null, vI 0, vI 0, .ref q19, .ref q28, .ref q37, .null, .null, .null, vI 0, vI 0, .null, .null, .null, vI 0, vI 0, vI 0]) :: ([(q5, eO 3 brkF), (q19, eJ X.Z 400 (fun _ => 0)), (q28, eJ X.Z 400 (fun _ => 0)), (q37, eI X.Z 400 (fun _ => 0))])) rfl ?_
  refine g_aload_n C dX3_init_42 rfl ?_
  refine g_sipush C dX3_init_43 (by decide) ?_
  refine g_newJ C 2800 rfl (by decide) q233 ⟨(Nat.le_of_ble_eq_true rfl), (Nat.le_of_ble_eq_true rfl)⟩ dX3_init_46 (fun q46 => ?_)
  refine g_ws (ws' := (p, eO 2 [.ref q5, .null, vI 0, vI 0, .ref q19, .ref q28, .ref q37, .null, .null, .null, vI 0, vI 0, .null, .null, .null, vI 0, vI 0, vI 0]) :: ([(q5, eO 3 brkF), (q19, eJ X.Z 400 (fun _ => 0)), (q28, eJ X.Z 400 (fun _ => 0)), (q37, eI X.Z 400 (fun _ => 0)), (q46, eJ X.Z 2800 (fun _ => 0))])) rfl ?_
  refine g_putF C 0 7 tyX3 in_X3 tyX3_ok nmX3 rfl rfl rfl (by decide) q181 rfl rfl rfl rfl rfl rfl (Nat.le_of_ble_eq_true rfl) dX3_init_48 ?_
  refine g_ws (ws' := (p, eO 2 [.ref q5, .null, vI 0, vI 0, .ref q19, .ref q28, .ref q37, .ref q46, .null, .null, vI 0, vI 0, .null, .null, .null, vI 0, vI 0, vI 0]) :: ([(q5, eO 3 brkF), (q19, eJ X.Z 400 (fun _ => 0)), (q28, eJ X.Z 400 (fun _ => 0)), (q37, eI X.Z 400 (fun _ => 0)), (q46, eJ X.Z 2800 (fun _ => 0))])) rfl ?_
  refine g_aload_n C dX3_init_51 rfl ?_
  refine g_sipush C dX3_init_52 (by decide) ?_
  refine g_newZ C 400 rfl (by decide) q235 ⟨(Nat.le_of_ble_eq_true rfl), (Nat.le_of_ble_eq_true rfl)⟩ dX3_init_55 (fun q55 => ?_)
  refine g_ws (ws' := (p, eO 2 [.ref q5, .null, vI 0, vI 0, .ref q19, .ref q28, .ref q37, .ref q46, .null, .null, vI 0, vI 0, .null, .null, .null, vI 0, vI 0, vI 0]) :: ([(q5, eO 3 brkF), (q19, eJ X.Z 400 (fun _ => 0)), (q28, eJ X.Z 400 (fun _ => 0)), (q37, eI X.Z 400 (fun _ => 0)), (q46, eJ X.Z 2800 (fun _ => 0)), (q55, eZ X.Z 400 (fun _ => false))])) rfl ?_
  refine g_putF C 0 8 tyX3 in_X3 tyX3_ok nmX3 rfl rfl rfl (by decide) q183 rfl rfl rfl rfl rfl rfl (Nat.le_of_ble_eq_true rfl) dX3_init_57 ?_
  refine g_ws (ws' := (p, eO 2 [.ref q5, .null, vI 0, vI 0, .ref q19, .ref q28, .ref q37, .ref q46, .ref q55, .null, vI 0, vI 0, .null, .null, .null, vI 0, vI 0, vI 0]) :: ([(q5, eO 3 brkF), (q19, eJ X.Z 400 (fun _ => 0)), (q28, eJ X.Z 400 (fun _ => 0)), (q37, eI X.Z 400 (fun _ => 0)), (q46, eJ X.Z 2800 (fun _ => 0)), (q55, eZ X.Z 400 (fun _ => false))])) rfl ?_
  refine g_aload_n C dX3_init_60 rfl ?_
  refine g_bipush C dX3_init_61 (by decide) ?_
  refine g_newJ C 7 rfl (by decide) q233 ⟨(Nat.le_of_ble_eq_true rfl), (Nat.le_of_ble_eq_true rfl)⟩ dX3_init_63 (fun q63 => ?_)
  refine g_ws (ws' := (p, eO 2 [.ref q5, .null, vI 0, vI 0, .ref q19, .ref q28, .ref q37, .ref q46, .ref q55, .null, vI 0, vI 0, .null, .null, .null, vI 0, vI 0, vI 0]) :: ([(q5, eO 3 brkF), (q19, eJ X.Z 400 (fun _ => 0)), (q28, eJ X.Z 400 (fun _ => 0)), (q37, eI X.Z 400 (fun _ => 0)), (q46, eJ X.Z 2800 (fun _ => 0)), (q55, eZ X.Z 400 (fun _ => false)), (q63, eJ X.Z 7 (fun _ => 0))])) rfl ?_
  refine g_putF C 0 9 tyX3 in_X3 tyX3_ok nmX3 rfl rfl rfl (by decide) q185 rfl rfl rfl rfl rfl rfl (Nat.le_of_ble_eq_true rfl) dX3_init_65 ?_
  refine g_ws (ws' := (p, eO 2 [.ref q5, .null, vI 0, vI 0, .ref q19, .ref q28, .ref q37, .ref q46, .ref q55, .ref q63, vI 0, vI 0, .null, .null, .null, vI 0, vI 0, vI 0]) :: ([(q5, eO 3 brkF), (q19, eJ X.Z 400 (fun _ => 0)), (q28, eJ X.Z 400 (fun _ => 0)), (q37, eI X.Z 400 (fun _ => 0)), (q46, eJ X.Z 2800 (fun _ => 0)), (q55, eZ X.Z 400 (fun _ => false)), (q63, eJ X.Z 7 (fun _ => 0))])) rfl ?_
  refine g_aload_n C dX3_init_68 rfl ?_
  refine g_sipush C dX3_init_69 (by decide) ?_
  refine g_newZ C 160 rfl (by decide) q235 ⟨(Nat.le_of_ble_eq_true rfl), (Nat.le_of_ble_eq_true rfl)⟩ dX3_init_72 (fun q72 => ?_)
  refine g_ws (ws' := (p, eO 2 [.ref q5, .null, vI 0, vI 0, .ref q19, .ref q28, .ref q37, .ref q46, .ref q55, .ref q63, vI 0, vI 0, .null, .null, .null, vI 0, vI 0, vI 0]) :: ([(q5, eO 3 brkF), (q19, eJ X.Z 400 (fun _ => 0)), (q28, eJ X.Z 400 (fun _ => 0)), (q37, eI X.Z 400 (fun _ => 0)), (q46, eJ X.Z 2800 (fun _ => 0)), (q55, eZ X.Z 400 (fun _ => false)), (q63, eJ X.Z 7 (fun _ => 0)), (q72, eZ X.Z 160 (fun _ => false))])) rfl ?_
  refine g_putF C 0 12 tyX3 in_X3 tyX3_ok nmX3 rfl rfl rfl (by decide) q190 rfl rfl rfl rfl rfl rfl (Nat.le_of_ble_eq_true rfl) dX3_init_74 ?_
  refine g_ws (ws' := (p, eO 2 [.ref q5, .null, vI 0, vI 0, .ref q19, .ref q28, .ref q37, .ref q46, .ref q55, .ref q63, vI 0, vI 0, .ref q72, .null, .null, vI 0, vI 0, vI 0]) :: ([(q5, eO 3 brkF), (q19, eJ X.Z 400 (fun _ => 0)), (q28, eJ X.Z 400 (fun _ => 0)), (q37, eI X.Z 400 (fun _ => 0)), (q46, eJ X.Z 2800 (fun _ => 0)), (q55, eZ X.Z 400 (fun _ => false)), (q63, eJ X.Z 7 (fun _ => 0)), (q72, eZ X.Z 160 (fun _ => false))])) rfl ?_
  refine g_aload_n C dX3_init_77 rfl ?_
  refine g_sipush C dX3_init_78 (by decide) ?_
  refine g_newJ C 1120 rfl (by decide) q233 ⟨(Nat.le_of_ble_eq_true rfl), (Nat.le_of_ble_eq_true rfl)⟩ dX3_init_81 (fun q81 => ?_)
  refine g_ws (ws' := (p, eO 2 [.ref q5, .null, vI 0, vI 0, .ref q19, .ref q28, .ref q37, .ref q46, .ref q55, .ref q63, vI 0, vI 0, .ref q72, .null, .null, vI 0, vI 0, vI 0]) :: ([(q5, eO 3 brkF), (q19, eJ X.Z 400 (fun _ => 0)), (q28, eJ X.Z 400 (fun _ => 0)), (q37, eI X.Z 400 (fun _ => 0)), (q46, eJ X.Z 2800 (fun _ => 0)), (q55, eZ X.Z 400 (fun _ => false)), (q63, eJ X.Z 7 (fun _ => 0)), (q72, eZ X.Z 160 (fun _ => false)), (q81, eJ X.Z 1120 (fun _ => 0))])) rfl ?_
  refine g_putF C 0 13 tyX3 in_X3 tyX3_ok nmX3 rfl rfl rfl (by decide) q191 rfl rfl rfl rfl rfl rfl (Nat.le_of_ble_eq_true rfl) dX3_init_83 ?_
  refine g_ws (ws' := (p, eO 2 [.ref q5, .null, vI 0, vI 0, .ref q19, .ref q28, .ref q37, .ref q46, .ref q55, .ref q63, vI 0, vI 0, .ref q72, .ref q81, .null, vI 0, vI 0, vI 0]) :: ([(q5, eO 3 brkF), (q19, eJ X.Z 400 (fun _ => 0)), (q28, eJ X.Z 400 (fun _ => 0)), (q37, eI X.Z 400 (fun _ => 0)), (q46, eJ X.Z 2800 (fun _ => 0)), (q55, eZ X.Z 400 (fun _ => false)), (q63, eJ X.Z 7 (fun _ => 0)), (q72, eZ X.Z 160 (fun _ => false)), (q81, eJ X.Z 1120 (fun _ => 0))])) rfl ?_
  refine g_aload_n C dX3_init_86 rfl ?_
  refine g_sipush C dX3_init_87 (by decide) ?_
  refine g_newJ C 1120 rfl (by decide) q233 ⟨(Nat.le_of_ble_eq_true rfl), (Nat.le_of_ble_eq_true rfl)⟩ dX3_init_90 (fun q90 => ?_)
  refine g_ws (ws' := (p, eO 2 [.ref q5, .null, vI 0, vI 0, .ref q19, .ref q28, .ref q37, .ref q46, .ref q55, .ref q63, vI 0, vI 0, .ref q72, .ref q81, .null, vI 0, vI 0, vI 0]) :: ([(q5, eO 3 brkF), (q19, eJ X.Z 400 (fun _ => 0)), (q28, eJ X.Z 400 (fun _ => 0)), (q37, eI X.Z 400 (fun _ => 0)), (q46, eJ X.Z 2800 (fun _ => 0)), (q55, eZ X.Z 400 (fun _ => false)), (q63, eJ X.Z 7 (fun _ => 0)), (q72, eZ X.Z 160 (fun _ => false)), (q81, eJ X.Z 1120 (fun _ => 0)), (q90, eJ X.Z 1120 (fun _ => 0))])) rfl ?_
  refine g_putF C 0 14 tyX3 in_X3 tyX3_ok nmX3 rfl rfl rfl (by decide) q192 rfl rfl rfl rfl rfl rfl (Nat.le_of_ble_eq_true rfl) dX3_init_92 ?_
  refine g_ws (ws' := (p, eO 2 [.ref q5, .null, vI 0, vI 0, .ref q19, .ref q28, .ref q37, .ref q46, .ref q55, .ref q63, vI 0, vI 0, .ref q72, .ref q81, .ref q90, vI 0, vI 0, vI 0]) :: ([(q5, eO 3 brkF), (q19, eJ X.Z 400 (fun _ => 0)), (q28, eJ X.Z 400 (fun _ => 0)), (q37, eI X.Z 400 (fun _ => 0)), (q46, eJ X.Z 2800 (fun _ => 0)), (q55, eZ X.Z 400 (fun _ => false)), (q63, eJ X.Z 7 (fun _ => 0)), (q72, eZ X.Z 160 (fun _ => false)), (q81, eJ X.Z 1120 (fun _ => 0)), (q90, eJ X.Z 1120 (fun _ => 0))])) rfl ?_
  exact g_vret C rfl ⟨rfl, apf p t q5 q19 q28 q37 q46 q55 q63 q72 q81 q90, rfl, rfl, rfl⟩ dX3_init_95
theorem cA_init {Z : Zk} {p pa : Nat} : Ct Z yX5_init hX5_init 2 60 [.ref p, .ref pa] [(p, eO 4 aF0)] 10 82459 (Rv fun w => ∃ aA : Nat → Nat, aA 0 = p ∧ w = wA Z aA pa ((fun _ => 0)) ((fun _ => 0)) ((fun _ => 0)) ((fun _ => 0)) ((fun _ => 0)) ((fun _ => 0)) ((fun _ => 0)) ((fun _ => false)) 0 ((fun _ => 0)) ((fun _ => 0)) 0 0) := by
  refine Ct.of RX5 "<init>" (by decide +kernel) rfl rfl hkX5_init (Nat.le_of_ble_eq_true rfl) (fun X hZ C => ?_)
  subst hZ
  refine g_aload_n C dX5_init_0 rfl ?_
  refine g_objInit C q241 q89 q90 ⟨(Nat.le_of_ble_eq_true rfl), (Nat.le_of_ble_eq_true rfl)⟩ (Nat.le_of_ble_eq_true rfl) dX5_init_1 ?_
  refine g_aload_n C dX5_init_4 rfl ?_
  refine g_sipush C dX5_init_5 (by decide) ?_
  refine g_newJ C 2814 rfl (by decide) q233 ⟨(Nat.le_of_ble_eq_true rfl), (Nat.le_of_ble_eq_true rfl)⟩ dX5_init_8 (fun q8 => ?_)
  refine g_ws (ws' := (p, eO 4 [.null, .null, .null, .null, .null, .null, .null, .null, .null, vI 0, .null, .null, vI 0, vI 0]) :: ([(q8, eJ X.Z 2814 (fun _ => 0))])) rfl ?_
  refine g_putF C 0 1 tyX5 in_X5 tyX5_ok nmX5 rfl rfl rfl (by decide) q244 rfl rfl rfl rfl rfl rfl (Nat.le_of_ble_eq_true rfl) dX5_init_10 ?_
  refine g_ws (ws' := (p, eO 4 [.null, .ref q8, .null, .null, .null, .null, .null, .null, .null, vI 0, .null, .null, vI 0, vI 0]) :: ([(q8, eJ X.Z 2814 (fun _ => 0))])) rfl ?_
  refine g_aload_n C dX5_init_13 rfl ?_
  refine g_ldc C 51328 q242 rfl dX5_init_14 ?_
  refine g_newI C 51328 rfl (by decide) q234 ⟨(Nat.le_of_ble_eq_true rfl), (Nat.le_of_ble_eq_true rfl)⟩ dX5_init_16 (fun q16 => ?_)
  refine g_ws (ws' := (p, eO 4 [.null, .ref q8, .null, .null, .null, .null, .null, .null, .null, vI 0, .null, .null, vI 0, vI 0]) :: ([(q8, eJ X.Z 2814 (fun _ => 0)), (q16, eI X.Z 51328 (fun _ => 0))])) rfl ?_
  refine g_putF C 0 2 tyX5 in_X5 tyX5_ok nmX5 rfl rfl rfl (by decide) q245 rfl rfl rfl rfl rfl rfl (Nat.le_of_ble_eq_true rfl) dX5_init_18 ?_
  refine g_ws (ws' := (p, eO 4 [.null, .ref q8, .ref q16, .null, .null, .null, .null, .null, .null, vI 0, .null, .null, vI 0, vI 0]) :: ([(q8, eJ X.Z 2814 (fun _ => 0)), (q16, eI X.Z 51328 (fun _ => 0))])) rfl ?_
  refine g_aload_n C dX5_init_21 rfl ?_
  refine g_sipush C dX5_init_22 (by decide) ?_
  refine g_newI C 401 rfl (by decide) q234 ⟨(Nat.le_of_ble_eq_true rfl), (Nat.le_of_ble_eq_true rfl)⟩ dX5_init_25 (fun q25 => ?_)
  refine g_ws (ws' := (p, eO 4 [.null, .ref q8, .ref q16, .null, .null, .null, .null, .null, .null, vI 0, .null, .null, vI 0, vI 0]) :: ([(q8, eJ X.Z 2814 (fun _ => 0)), (q16, eI X.Z 51328 (fun _ => 0)), (q25, eI X.Z 401 (fun _ => 0))])) rfl ?_
  refine g_putF C 0 3 tyX5 in_X5 tyX5_ok nmX5 rfl rfl rfl (by decide) q246 rfl rfl rfl rfl rfl rfl (Nat.le_of_ble_eq_true rfl) dX5_init_27 ?_
  refine g_ws (ws' := (p, eO 4 [.null, .ref q8, .ref q16, .ref q25, .null, .null, .null, .null, .null, vI 0, .null, .null, vI 0, vI 0]) :: ([(q8, eJ X.Z 2814 (fun _ => 0)), (q16, eI X.Z 51328 (fun _ => 0)), (q25, eI X.Z 401 (fun _ => 0))])) rfl ?_
  refine g_aload_n C dX5_init_30 rfl ?_
  refine g_sipush C dX5_init_31 (by decide) ?_
  refine g_newI C 512 rfl (by decide) q234 ⟨(Nat.le_of_ble_eq_true rfl), (Nat.le_of_ble_eq_true rfl)⟩ dX5_init_34 (fun q34 => ?_)
  refine g_ws (ws' := (p, eO 4 [.null, .ref q8, .ref q16, .ref q25, .null, .null, .null, .null, .null, vI 0, .null, .null, vI 0, vI 0]) :: ([(q8, eJ X.Z 2814 (fun _ => 0)), (q16, eI X.Z 51328 (fun _ => 0)), (q25, eI X.Z 401 (fun _ => 0)), (q34, eI X.Z 512 (fun _ => 0))])) rfl ?_
  refine g_putF C 0 4 tyX5 in_X5 tyX5_ok nmX5 rfl rfl rfl (by decide) q247 rfl rfl rfl rfl rfl rfl (Nat.le_of_ble_eq_true rfl) dX5_init_36 ?_
  refine g_ws (ws' := (p, eO 4 [.null, .ref q8, .ref q16, .ref q25, .ref q34, .null, .null, .null, .null, vI 0, .null, .null, vI 0, vI 0]) :: ([(q8, eJ X.Z 2814 (fun _ => 0)), (q16, eI X.Z 51328 (fun _ => 0)), (q25, eI X.Z 401 (fun _ => 0)), (q34, eI X.Z 512 (fun _ => 0))])) rfl ?_
  refine g_aload_n C dX5_init_39 rfl ?_
  refine g_sipush C dX5_init_40 (by decide) ?_
  refine g_newI C 401 rfl (by decide) q234 ⟨(Nat.le_of_ble_eq_true rfl), (Nat.le_of_ble_eq_true rfl)⟩ dX5_init_43 (fun q43 => ?_)
  refine g_ws (ws' := (p, eO 4 [.null, .ref q8, .ref q16, .ref q25, .ref q34, .null, .null, .null, .null, vI 0, .null, .null, vI 0, vI 0]) :: ([(q8, eJ X.Z 2814 (fun _ => 0)), (q16, eI X.Z 51328 (fun _ => 0)), (q25, eI X.Z 401 (fun _ => 0)), (q34, eI X.Z 512 (fun _ => 0)), (q43, eI X.Z 401 (fun _ => 0))])) rfl ?_
  refine g_putF C 0 5 tyX5 in_X5 tyX5_ok nmX5 rfl rfl rfl (by decide) q248 rfl rfl rfl rfl rfl rfl (Nat.le_of_ble_eq_true rfl) dX5_init_45 ?_
  refine g_ws (ws' := (p, eO 4 [.null, .ref q8, .ref q16, .ref q25, .ref q34, .ref q43, .null, .null, .null, vI 0, .null, .null, vI 0, vI 0]) :: ([(q8, eJ X.Z 2814 (fun _ => 0)), (q16, eI X.Z 51328 (fun _ => 0)), (q25, eI X.Z 401 (fun _ => 0)), (q34, eI X.Z 512 (fun _ => 0)), (q43, eI X.Z 401 (fun _ => 0))])) rfl ?_
  refine g_aload_n C dX5_init_48 rfl ?_
  refine g_sipush C dX5_init_49 (by decide) ?_
  refine g_newI C 401 rfl (by decide) q234 ⟨(Nat.le_of_ble_eq_true rfl), (Nat.le_of_ble_eq_true rfl)⟩ dX5_init_52 (fun q52 => ?_)
  refine g_ws (ws' := (p, eO 4 [.null, .ref q8, .ref q16, .ref q25, .ref q34, .ref q43, .null, .null, .null, vI 0, .null, .null, vI 0, vI 0]) :: ([(q8, eJ X.Z 2814 (fun _ => 0)), (q16, eI X.Z 51328 (fun _ => 0)), (q25, eI X.Z 401 (fun _ => 0)), (q34, eI X.Z 512 (fun _ => 0)), (q43, eI X.Z 401 (fun _ => 0)), (q52, eI X.Z 401 (fun _ => 0))])) rfl ?_
  refine g_putF C 0 6 tyX5 in_X5 tyX5_ok nmX5 rfl rfl rfl (by decide) q249 rfl rfl rfl rfl rfl rfl (Nat.le_of_ble_eq_true rfl) dX5_init_54 ?_
  refine g_ws (ws' := (p, eO 4 [.null, .ref q8, .ref q16, .ref q25, .ref q34, .ref q43, .ref q52, .null, .null, vI 0, .null, .null, vI 0, vI 0]) :: ([(q8, eJ X.Z 2814 (fun _ => 0)), (q16, eI X.Z 51328 (fun _ => 0)), (q25, eI X.Z 401 (fun _ => 0)), (q34, eI X.Z 512 (fun _ => 0)), (q43, eI X.Z 401 (fun _ => 0)), (q52, eI X.Z 401 (fun _ => 0))])) rfl ?_
  refine g_aload_n C dX5_init_57 rfl ?_
  refine g_sipush C dX5_init_58 (by decide) ?_
  refine g_newI C 401 rfl (by decide) q234 ⟨(Nat.le_of_ble_eq_true rfl), (Nat.le_of_ble_eq_true rfl)⟩ dX5_init_61 (fun q61 => ?_)
  refine g_ws (ws' := (p, eO 4 [.null, .ref q8, .ref q16, .ref q25, .ref q34, .ref q43, .ref q52, .null, .null, vI 0, .null, .null, vI 0, vI 0]) :: ([(q8, eJ X.Z 2814 (fun _ => 0)), (q16, eI X.Z 51328 (fun _ => 0)), (q25, eI X.Z 401 (fun _ => 0)), (q34, eI X.Z 512 (fun _ => 0)), (q43, eI X.Z 401 (fun _ => 0)), (q52, eI X.Z 401 (fun _ => 0)), (q61, eI X.Z 401 (fun _ => 0))])) rfl ?_
  refine g_putF C 0 7 tyX5 in_X5 tyX5_ok nmX5 rfl rfl rfl (by decide) q250 rfl rfl rfl rfl rfl rfl (Nat.le_of_ble_eq_true rfl) dX5_init_63 ?_
  refine g_ws (ws' := (p, eO 4 [.null, .ref q8, .ref q16, .ref q25, .ref q34, .ref q43, .ref q52, .ref q61, .null, vI 0, .null, .null, vI 0, vI 0]) :: ([(q8, eJ X.Z 2814 (fun _ => 0)), (q16, eI X.Z 51328 (fun _ => 0)), (q25, eI X.Z 401 (fun _ => 0)), (q34, eI X.Z 512 (fun _ => 0)), (q43, eI X.Z 401 (fun _ => 0)), (q52, eI X.Z 401 (fun _ => 0)), (q61, eI X.Z 401 (fun _ => 0))])) rfl ?_
  refine g_aload_n C dX5_init_66 rfl ?_
  refine g_sipush C dX5_init_67 (by decide) ?_
  refine g_newZ C 401 rfl (by decide) q235 ⟨(Nat.le_of_ble_eq_true rfl), (Nat.le_of_ble_eq_true rfl)⟩ dX5_init_70 (fun q70 => ?_)
  refine g_ws (ws' := (p, eO 4 [.null, .ref q8, .ref q16, .ref q25, .ref q34, .ref q43, .ref q52, .ref q61, .null, vI 0, .null, .null, vI 0, vI 0]) :: ([(q8, eJ X.Z 2814 (fun _ => 0)), (q16, eI X.Z 51328 (fun _ => 0)), (q25, eI X.Z 401 (fun _ => 0)), (q34, eI X.Z 512 (fun _ => 0)), (q43, eI X.Z 401 (fun _ => 0)), (q52, eI X.Z 401 (fun _ => 0)), (q61, eI X.Z 401 (fun _ => 0)), (q70, eZ X.Z 401 (fun _ => false))])) rfl ?_
  refine g_putF C 0 8 tyX5 in_X5 tyX5_ok nmX5 rfl rfl rfl (by decide) q251 rfl rfl rfl rfl rfl rfl (Nat.le_of_ble_eq_true rfl) dX5_init_72 ?_
  refine g_ws (ws' := (p, eO 4 [.null, .ref q8, .ref q16, .ref q25, .ref q34, .ref q43, .ref q52, .ref q61, .ref q70, vI 0, .null, .null, vI 0, vI 0]) :: ([(q8, eJ X.Z 2814 (fun _ => 0)), (q16, eI X.Z 51328 (fun _ => 0)), (q25, eI X.Z 401 (fun _ => 0)), (q34, eI X.Z 512 (fun _ => 0)), (q43, eI X.Z 401 (fun _ => 0)), (q52, eI X.Z 401 (fun _ => 0)), (q61, eI X.Z 401 (fun _ => 0)), (q70, eZ X.Z 401 (fun _ => false))])) rfl ?_
  refine g_aload_n C dX5_init_75 rfl ?_
  refine g_sipush C dX5_init_76 (by decide) ?_
  refine g_newI C 25600 rfl (by decide) q234 ⟨(Nat.le_of_ble_eq_true rfl), (Nat.le_of_ble_eq_true rfl)⟩ dX5_init_79 (fun q79 => ?_)
  refine g_ws (ws' := (p, eO 4 [.null, .ref q8, .ref q16, .ref q25, .ref q34, .ref q43, .ref q52, .ref q61, .ref q70, vI 0, .null, .null, vI 0, vI 0]) :: ([(q8, eJ X.Z 2814 (fun _ => 0)), (q16, eI X.Z 51328 (fun _ => 0)), (q25, eI X.Z 401 (fun _ => 0)), (q34, eI X.Z 512 (fun _ => 0)), (q43, eI X.Z 401 (fun _ => 0)), (q52, eI X.Z 401 (fun _ => 0)), (q61, eI X.Z 401 (fun _ => 0)), (q70, eZ X.Z 401 (fun _ => false)), (q79, eI X.Z 25600 (fun _ => 0))])) rfl ?_
  refine g_putF C 0 10 tyX5 in_X5 tyX5_ok nmX5 rfl rfl rfl (by decide) q253 rfl rfl rfl rfl rfl rfl (Nat.le_of_ble_eq_true rfl) dX5_init_81 ?_
  refine g_ws (ws' := (p, eO 4 [.null, .ref q8, .ref q16, .ref q25, .ref q34, .ref q43, .ref q52, .ref q61, .ref q70, vI 0, .ref q79, .null, vI 0, vI 0]) :: ([(q8, eJ X.Z 2814 (fun _ => 0)), (q16, eI X.Z 51328 (fun _ => 0)), (q25, eI X.Z 401 (fun _ => 0)), (q34, eI X.Z 512 (fun _ => 0)), (q43, eI X.Z 401 (fun _ => 0)), (q52, eI X.Z 401 (fun _ => 0)), (q61, eI X.Z 401 (fun _ => 0)), (q70, eZ X.Z 401 (fun _ => false)), (q79, eI X.Z 25600 (fun _ => 0))])) rfl ?_
  refine g_aload_n C dX5_init_84 rfl ?_
  refine g_sipush C dX5_init_85 (by decide) ?_
  refine g_newI C 200 rfl (by decide) q234 ⟨(Nat.le_of_ble_eq_true rfl), (Nat.le_of_ble_eq_true rfl)⟩ dX5_init_88 (fun q88 => ?_)
  refine g_ws (ws' := (p, eO 4 [.null, .ref q8, .ref q16, .ref q25, .ref q34, .ref q43, .ref q52, .ref q61, .ref q70, vI 0, .ref q79, .null, vI 0, vI 0]) :: ([(q8, eJ X.Z 2814 (fun _ => 0)), (q16, eI X.Z 51328 (fun _ => 0)), (q25, eI X.Z 401 (fun _ => 0)), (q34, eI X.Z 512 (fun _ => 0)), (q43, eI X.Z 401 (fun _ => 0)), (q52, eI X.Z 401 (fun _ => 0)), (q61, eI X.Z 401 (fun _ => 0)), (q70, eZ X.Z 401 (fun _ => false)), (q79, eI X.Z 25600 (fun _ => 0)), (q88, eI X.Z 200 (fun _ => 0))])) rfl ?_
  refine g_putF C 0 11 tyX5 in_X5 tyX5_ok nmX5 rfl rfl rfl (by decide) q254 rfl rfl rfl rfl rfl rfl (Nat.le_of_ble_eq_true rfl) dX5_init_90 ?_
  refine g_ws (ws' := (p, eO 4 [.null, .ref q8, .ref q16, .ref q25, .ref q34, .ref q43, .ref q52, .ref q61, .ref q70, vI 0, .ref q79, .ref q88, vI 0, vI 0]) :: ([(q8, eJ X.Z 2814 (fun _ => 0)), (q16, eI X.Z 51328 (fun _ => 0)), (q25, eI X.Z 401 (fun _ => 0)), (q34, eI X.Z 512 (fun _ => 0)), (q43, eI X.Z 401 (fun _ => 0)), (q52, eI X.Z 401 (fun _ => 0)), (q61, eI X.Z 401 (fun _ => 0)), (q70, eZ X.Z 401 (fun _ => false)), (q79, eI X.Z 25600 (fun _ => 0)), (q88, eI X.Z 200 (fun _ => 0))])) rfl ?_
  refine g_aload_n C dX5_init_93 rfl ?_
  refine g_aload_n C dX5_init_94 rfl ?_
  refine g_putF C 0 0 tyX5 in_X5 tyX5_ok nmX5 rfl rfl rfl (by decide) q243 rfl rfl rfl rfl rfl rfl (Nat.le_of_ble_eq_true rfl) dX5_init_95 ?_
  refine g_ws (ws' := (p, eO 4 [.ref pa, .ref q8, .ref q16, .ref q25, .ref q34, .ref q43, .ref q52, .ref q61, .ref q70, vI 0, .ref q79, .ref q88, vI 0, vI 0]) :: ([(q8, eJ X.Z 2814 (fun _ => 0)), (q16, eI X.Z 51328 (fun _ => 0)), (q25, eI X.Z 401 (fun _ => 0)), (q34, eI X.Z 512 (fun _ => 0)), (q43, eI X.Z 401 (fun _ => 0)), (q52, eI X.Z 401 (fun _ => 0)), (q61, eI X.Z 401 (fun _ => 0)), (q70, eZ X.Z 401 (fun _ => false)), (q79, eI X.Z 25600 (fun _ => 0)), (q88, eI X.Z 200 (fun _ => 0))])) rfl ?_
  exact g_vret C rfl ⟨rfl, aaf p q8 q16 q25 q34 q43 q52 q61 q70 q79 q88, rfl, rfl⟩ dX5_init_98
theorem cQ_init {Z : Zk} {q t : Nat} : Ct Z yX2_init hX2_init 7 220 [.ref q] [(q, eO 1 qF0)] 22 89304 (Rv fun w => ∃ aq aA ap : Nat → Nat, aq 0 = q ∧ ap 2 = t ∧ w = wQ Z aq (ap 0) (aA 0) false ++ (wA Z aA (ap 0) ((fun _ => 0)) ((fun _ => 0)) ((fun _ => 0)) ((fun _ => 0)) ((fun _ => 0)) ((fun _ => 0)) ((fun _ => 0)) ((fun _ => false)) 0 ((fun _ => 0)) ((fun _ => 0)) 0 0 ++ wP Z ap .null 0 0 ((fun _ => 0)) ((fun _ => 0)) ((fun _ => 0)) ((fun _ => 0)) ((fun _ => false)) ((fun _ => 0)) 0 0 ((fun _ => false)) ((fun _ => 0)) ((fun _ => 0)) 0 0 0)) := by
  refine Ct.of RX2 "<init>" (by decide +kernel) rfl rfl hkX2_init (Nat.le_of_ble_eq_true rfl) (fun X hZ C => ?_)
  subst hZ
  refine g_aload_n C dX2_init_0 rfl ?_
  refine g_objInit C q96 q89 q90 ⟨(Nat.le_of_ble_eq_true rfl), (Nat.le_of_ble_eq_true rfl)⟩ (Nat.le_of_ble_eq_true rfl) dX2_init_1 ?_
  refine g_aload_n C dX2_init_4 rfl ?_
  refine g_new C tyX3 (ci := 2) (fs := pF0) in_X3 tyX3_ok q97 q98 q61 rfl (by decide +kernel) ⟨(Nat.le_of_ble_eq_true rfl), (Nat.le_of_ble_eq_true rfl)⟩ dX2_init_5 (fun q5 => ?_)
  refine g_ws (ws' := (q, eO 1 [.null, .null, vI 0]) :: ([(q5, eO 2 pF0)])) rfl ?_
  refine g_dup C dX2_init_8 rfl ?_
  refine g_cMJv C [] _ [1] cal_X2_9 (cP_init (t := t)) (by decide) rfl (fun w h => by obtain ⟨ap, _, _, rfl⟩ := h; exact Nat.le_add_left 1 10) rfl rfl (Nat.le_of_ble_eq_true rfl) (room_b rfl) dX2_init_9 (fun w hw9 => ?_)
  obtain ⟨ap, e0, e2, rfl⟩ := hw9
  subst e0
  refine g_ws (ws' := (q, eO 1 [.null, .null, vI 0]) :: (wP X.Z ap .null 0 0 ((fun _ => 0)) ((fun _ => 0)) ((fun _ => 0)) ((fun _ => 0)) ((fun _ => false)) ((fun _ => 0)) 0 0 ((fun _ => false)) ((fun _ => 0)) ((fun _ => 0)) 0 0 0)) rfl ?_
  refine g_putF C 0 0 tyX2 in_X2 tyX2_ok nmX2 rfl rfl rfl (by decide) q286 rfl rfl rfl rfl rfl rfl (Nat.le_of_ble_eq_true rfl) dX2_init_12 ?_
  refine g_ws (ws' := (q, eO 1 [.ref (ap 0), .null, vI 0]) :: (wP X.Z ap .null 0 0 ((fun _ => 0)) ((fun _ => 0)) ((fun _ => 0)) ((fun _ => 0)) ((fun _ => false)) ((fun _ => 0)) 0 0 ((fun _ => false)) ((fun _ => 0)) ((fun _ => 0)) 0 0 0)) rfl ?_
  refine g_aload_n C dX2_init_15 rfl ?_
  refine g_new C tyX5 (ci := 4) (fs := aF0) in_X5 tyX5_ok q236 q237 q66 rfl (by decide +kernel) ⟨(Nat.le_of_ble_eq_true rfl), (Nat.le_of_ble_eq_true rfl)⟩ dX2_init_16 (fun q16 => ?_)
  refine g_ws (ws' := (q, eO 1 [.ref (ap 0), .null, vI 0]) :: (wP X.Z ap .null 0 0 ((fun _ => 0)) ((fun _ => 0)) ((fun _ => 0)) ((fun _ => 0)) ((fun _ => false)) ((fun _ => 0)) 0 0 ((fun _ => false)) ((fun _ => 0)) ((fun _ => 0)) 0 0 0 ++ ([(q16, eO 4 aF0)]))) rfl ?_
  refine g_dup C dX2_init_19 rfl ?_
  refine g_aload_n C dX2_init_20 rfl ?_
  refine g_get C 0 0 in_X2 rfl rfl (by decide) q286 rfl rfl dX2_init_21 ?_
  refine g_cIJv C [_] _ [12] cal_X2_18 cA_init (by decide) rfl (fun w h => by obtain ⟨aA, _, rfl⟩ := h; exact Nat.le_add_left 1 10) rfl rfl (Nat.le_of_ble_eq_true rfl) (room_b rfl) dX2_init_24 (fun w hw24 => ?_)
  obtain ⟨aA, e4, rfl⟩ := hw24
  subst e4
  refine g_ws (ws' := (q, eO 1 [.ref (ap 0), .null, vI 0]) :: (wP X.Z ap .null 0 0 ((fun _ => 0)) ((fun _ => 0)) ((fun _ => 0)) ((fun _ => 0)) ((fun _ => false)) ((fun _ => 0)) 0 0 ((fun _ => false)) ((fun _ => 0)) ((fun _ => 0)) 0 0 0 ++ (wA X.Z aA (ap 0) ((fun _ => 0)) ((fun _ => 0)) ((fun _ => 0)) ((fun _ => 0)) ((fun _ => 0)) ((fun _ => 0)) ((fun _ => 0)) ((fun _ => false)) 0 ((fun _ => 0)) ((fun _ => 0)) 0 0))) rfl ?_
  refine g_putF C 0 1 tyX2 in_X2 tyX2_ok nmX2 rfl rfl rfl (by decide) q287 rfl rfl rfl rfl rfl rfl (Nat.le_of_ble_eq_true rfl) dX2_init_27 ?_
  refine g_ws (ws' := (q, eO 1 [.ref (ap 0), .ref (aA 0), vI 0]) :: (wP X.Z ap .null 0 0 ((fun _ => 0)) ((fun _ => 0)) ((fun _ => 0)) ((fun _ => 0)) ((fun _ => false)) ((fun _ => 0)) 0 0 ((fun _ => false)) ((fun _ => 0)) ((fun _ => 0)) 0 0 0 ++ (wA X.Z aA (ap 0) ((fun _ => 0)) ((fun _ => 0)) ((fun _ => 0)) ((fun _ => 0)) ((fun _ => 0)) ((fun _ => 0)) ((fun _ => 0)) ((fun _ => false)) 0 ((fun _ => 0)) ((fun _ => 0)) 0 0))) rfl ?_
  refine g_re (ws' := wQ X.Z ((fun _ => q)) (ap 0) (aA 0) false ++ (wA X.Z aA (ap 0) ((fun _ => 0)) ((fun _ => 0)) ((fun _ => 0)) ((fun _ => 0)) ((fun _ => 0)) ((fun _ => 0)) ((fun _ => 0)) ((fun _ => false)) 0 ((fun _ => 0)) ((fun _ => 0)) 0 0 ++ wP X.Z ap .null 0 0 ((fun _ => 0)) ((fun _ => 0)) ((fun _ => 0)) ((fun _ => 0)) ((fun _ => false)) ((fun _ => 0)) 0 0 ((fun _ => false)) ((fun _ => 0)) ((fun _ => 0)) 0 0 0)) [0, 12, 13, 14, 15, 16, 17, 18, 19, 20, 21, 22, 1, 2, 3, 4, 5, 6, 7, 8, 9, 10, 11] rfl rfl ?_
  exact g_vret C rfl ⟨rfl, fun _ => q, aA, ap, rfl, e2, rfl⟩ dX2_init_30
