/-! constructors: Broken, Patterns, Automaton, Pattern -/
section INI
variable {X : Cx} {cc : ByteArray} {nL : Nat} {own : String} {E : Ek} {k n pc : Nat} {ws : va_W} {L : List (Nat × Value)} {st : List Value}
/-- a field that a class above declares -/
theorem g_putS (C : Ok X cc nL own E) {c rc : String} {T : u_T} {N ci ix a : Nat} (q kf : Nat) {fs : List Value} {v : Value} {ws' : va_W} (ty0 : Nat → FieldType) {ty : FieldType} (hin : ∀ w ∈ u_ws c T N, w ∈ lw_all) (hty : ∀ k, k < N → parseFieldDescriptor (T k).2.2.1 = some (ty0 k)) (hnm : ∀ a, a < N → ∀ b, b < N → a ≠ b → (T a).2.1 ≠ (T b).2.1) (ha : ws[q]? = some (a, eO ci fs)) (hws : ws.set q (a, eO ci (fs.set kf v)) = ws') (hc : vwCl[ci]? = some (c, T, N)) (hk : kf < N) (hw : Cond.fieldLink own ix rc (T kf).2.1 (T kf).2.2.1 ∈ lw_all) (hT : (T kf).1 = rc) (hfin : (T kf).2.2.2 = false) (ht : ty0 kf = ty) (hn : narrow ty v = v) (hf : fits ty v = true) (hl9 : kf < fs.length) (hd : decode cc pc = .ok (.putfield ix, 3)) (h : G X nL k n ws' (pc + 3) L st) : G X nL k n ws pc L (v :: .ref a :: st) := by
  subst hws
  exact fun H locs ls hP hD hS hl => va_put (ref := rc) C.x C.b C.ts hin ty0 hty hnm C.own C.K hP hD hS q ha hc kf hk (C.ts _ hw) (fun x hx => by rw [hT] at hx; exact hx) hfin (by rw [hty kf hk, ht]) hn hf hl9 hd (fun H1 locs1 hP1 hD1 hS1 => h H1 locs1 ls hP1 hD1 hS1 hl)
theorem g_gets (C : Ok X cc nL own E) {cn nm d : String} {v : Value} {ix : Nat} (hZ : va_Z cn nm d v X.A X.s X.s.heap) (hw : Cond.fieldLink own ix cn nm d ∈ lw_all) (hd : decode cc pc = .ok (.getstatic ix, 3)) (h : G X nL k n ws (pc + 3) L (v :: st)) : G X nL k n ws pc L st :=
  fun H locs ls hP hD hS hl => va_gets C.x C.b hZ hS C.own (C.ts _ hw) (fun x h => h) hd (h H locs ls hP hD hS hl)
end INI
theorem cT_init2 {Z : Zk} {q : Nat} : Ct Z yJ0_init_2 hJ0_init_2 2 60 [.ref q, .null, .null, vI 0, vI 0] [(q, eO 3 brkF)] 0 0 (Rv fun w => w = [(q, eO 3 brkF)]) := by
  refine Ct.of RJ0 "<init>" (by decide +kernel) rfl rfl hkJ0_init_2 (Nat.le_of_ble_eq_true rfl) (fun X hZ C => ?_)
  subst hZ
  have key : ∀ v1 v2 : Value, (v1 = .null ∨ ∃ t : Nat, v1 = .ref t) → (v2 = .null ∨ ∃ t : Nat, v2 = .ref t) → va_Z "java/lang/Throwable" "UNASSIGNED_STACK" "[Ljava/lang/StackTraceElement;" v1 X.A X.s X.s.heap → va_Z "java/lang/Throwable" "SUPPRESSED_SENTINEL" "Ljava/util/List;" v2 X.A X.s X.s.heap → G X 5 0 0 [(q, eO 3 brkF)] 0 (lv_args 0 [.ref q, .null, .null, vI 0, vI 0]) [] := by
    intro v1 v2 h1 h2 z1 z2
    refine g_aload_n C dJ0_init_2_0 rfl ?_
    refine g_objInit C q128 q89 q90 ⟨(Nat.le_of_ble_eq_true rfl), (Nat.le_of_ble_eq_true rfl)⟩ (Nat.le_of_ble_eq_true rfl) dJ0_init_2_1 ?_
    refine g_aload_n C dJ0_init_2_4 rfl ?_
    refine g_aload_n C dJ0_init_2_5 rfl ?_
    refine g_putS C 0 0 tyX4 in_X4 tyX4_ok nmX4 rfl rfl rfl (by decide) q161 rfl rfl rfl rfl rfl (Nat.le_of_ble_eq_true rfl) dJ0_init_2_6 ?_
    refine g_aload_n C dJ0_init_2_9 rfl ?_
    refine g_gets C z1 q129 dJ0_init_2_10 ?_
    refine g_putS C 0 1 tyX4 in_X4 tyX4_ok nmX4 rfl rfl rfl (by decide) q162 rfl rfl rfl (by rcases h1 with rfl | ⟨t, rfl⟩ <;> rfl) (by rcases h1 with rfl | ⟨t, rfl⟩ <;> rfl) (Nat.le_of_ble_eq_true rfl) dJ0_init_2_13 ?_
    refine g_aload_n C dJ0_init_2_16 rfl ?_
    refine g_gets C z2 q131 dJ0_init_2_17 ?_
    refine g_putS C 0 2 tyX4 in_X4 tyX4_ok nmX4 rfl rfl rfl (by decide) q163 rfl rfl rfl (by rcases h2 with rfl | ⟨t, rfl⟩ <;> rfl) (by rcases h2 with rfl | ⟨t, rfl⟩ <;> rfl) (Nat.le_of_ble_eq_true rfl) dJ0_init_2_20 ?_
    refine g_iload C dJ0_init_2_23 rfl ?_
    refine g_if_eq C 36 dJ0_init_2_25 (by decide) (by omega) (fun h25 => ?_) (fun h25 => ?_)
    · refine g_aload_n C dJ0_init_2_36 rfl ?_
      refine g_null C dJ0_init_2_37 ?_
      refine g_putS C 0 1 tyX4 in_X4 tyX4_ok nmX4 rfl rfl rfl (by decide) q162 rfl rfl rfl rfl rfl (Nat.le_of_ble_eq_true rfl) dJ0_init_2_38 ?_
      refine g_aload_n C dJ0_init_2_41 rfl ?_
      refine g_aload_nN C dJ0_init_2_42 rfl ?_
      refine g_putS C 0 3 tyX4 in_X4 tyX4_ok nmX4 rfl rfl rfl (by decide) q160 rfl rfl rfl rfl rfl (Nat.le_of_ble_eq_true rfl) dJ0_init_2_43 ?_
      refine g_aload_n C dJ0_init_2_46 rfl ?_
      refine g_aload_nN C dJ0_init_2_47 rfl ?_
      refine g_putS C 0 0 tyX4 in_X4 tyX4_ok nmX4 rfl rfl rfl (by decide) q161 rfl rfl rfl rfl rfl (Nat.le_of_ble_eq_true rfl) dJ0_init_2_48 ?_
      refine g_iload_n C dJ0_init_2_51 rfl ?_
      refine g_if_ne C 60 dJ0_init_2_52 (by decide) (by omega) (fun h52 => ?_) (fun h52 => ?_)
      · exact absurd rfl h52
      · refine g_aload_n C dJ0_init_2_55 rfl ?_
        refine g_null C dJ0_init_2_56 ?_
        refine g_putS C 0 2 tyX4 in_X4 tyX4_ok nmX4 rfl rfl rfl (by decide) q163 rfl rfl rfl rfl rfl (Nat.le_of_ble_eq_true rfl) dJ0_init_2_57 ?_
        exact g_vret C rfl ⟨rfl, rfl⟩ dJ0_init_2_60
    · exact absurd rfl h25
  have c1 := C.ex.2.2.2.2.1
  have c2 := C.ex.2.2.2.2.2.1
  rcases c1 with c1 | ⟨t1, c1⟩ <;> rcases c2 with c2 | ⟨t2, c2⟩
  · exact key _ _ (Or.inl rfl) (Or.inl rfl) c1 c2
  · exact key _ _ (Or.inl rfl) (Or.inr ⟨_, rfl⟩) c1 c2
  · exact key _ _ (Or.inr ⟨_, rfl⟩) (Or.inl rfl) c1 c2
  · exact key _ _ (Or.inr ⟨_, rfl⟩) (Or.inr ⟨_, rfl⟩) c1 c2
theorem cE_init {Z : Zk} {q : Nat} : Ct Z yJ1_init hJ1_init 3 90 [.ref q, .null, .null, vI 0, vI 0] [(q, eO 3 brkF)] 0 0 (Rv fun w => w = [(q, eO 3 brkF)]) := by
  refine Ct.of RJ1 "<init>" (by decide +kernel) rfl rfl hkJ1_init (Nat.le_of_ble_eq_true rfl) (fun X hZ C => ?_)
  subst hZ
  refine g_aload_n C dJ1_init_0 rfl ?_
  refine g_aload_nN C dJ1_init_1 rfl ?_
  refine g_aload_nN C dJ1_init_2 rfl ?_
  refine g_iload_n C dJ1_init_3 rfl ?_
  refine g_iload C dJ1_init_4 rfl ?_
  refine g_cIWv C [_, _, _, _] _ cal_J1_16 cT_init2 rfl rfl (Nat.le_of_ble_eq_true rfl) (room_b rfl) dJ1_init_6 (fun w hw6 => ?_)
  subst hw6
  exact g_vret C rfl ⟨rfl, rfl⟩ dJ1_init_9
theorem cR_init {Z : Zk} {q : Nat} : Ct Z yJ2_init hJ2_init 4 120 [.ref q, .null, .null, vI 0, vI 0] [(q, eO 3 brkF)] 0 0 (Rv fun w => w = [(q, eO 3 brkF)]) := by
  refine Ct.of RJ2 "<init>" (by decide +kernel) rfl rfl hkJ2_init (Nat.le_of_ble_eq_true rfl) (fun X hZ C => ?_)
  subst hZ
  refine g_aload_n C dJ2_init_0 rfl ?_
  refine g_aload_nN C dJ2_init_1 rfl ?_
  refine g_aload_nN C dJ2_init_2 rfl ?_
  refine g_iload_n C dJ2_init_3 rfl ?_
  refine g_iload C dJ2_init_4 rfl ?_
  refine g_cIWv C [_, _, _, _] _ cal_J2_16 cE_init rfl rfl (Nat.le_of_ble_eq_true rfl) (room_b rfl) dJ2_init_6 (fun w hw6 => ?_)
  subst hw6
  exact g_vret C rfl ⟨rfl, rfl⟩ dJ2_init_9
theorem cB_init {Z : Zk} {q : Nat} : Ct Z yX4_init hX4_init 5 150 [.ref q] [(q, eO 3 brkF)] 0 0 (Rv fun w => True ∧ w = [(q, eO 3 brkF)]) := by
  refine Ct.of RX4 "<init>" (by decide +kernel) rfl rfl hkX4_init (Nat.le_of_ble_eq_true rfl) (fun X hZ C => ?_)
  subst hZ
  refine g_aload_n C dX4_init_0 rfl ?_
  refine g_null C dX4_init_1 ?_
  refine g_null C dX4_init_2 ?_
  refine g_iconst C dX4_init_3 ?_
  refine g_iconst C dX4_init_4 ?_
  refine g_cIWv C [_, _, _, _] _ cal_X4_1 cR_init rfl rfl (Nat.le_of_ble_eq_true rfl) (room_b rfl) dX4_init_5 (fun w hw5 => ?_)
  subst hw5
  exact g_vret C rfl ⟨rfl, trivial, rfl⟩ dX4_init_8
