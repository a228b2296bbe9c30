/-! Strings that are constants; String.indexOf -/
section STR
variable {X : Cx} {cc : ByteArray} {nL : Nat} {own : String} {E : Ek} {k n pc : Nat} {ws : va_W} {L : List (Nat × Value)} {st : List Value}
theorem g_nret (C : Ok X cc nL own E) {z : Int} {ty : FieldType} (hr : E.ret = some ty) (hn : narrow ty (vI z) = vI z) (hp : E.Post (.returned (some (vI z))) ws) (hd : decode cc pc = .ok (.ireturn, 1)) : G X nL E.mc E.ms ws pc L [vI z] := by
  intro H locs ls hP hD hS hl T hT X'
  obtain ⟨t, a, b⟩ := (W.zret (Qc := QP X.Z X.A E.Post) (free := X.A) C.x C.b (C.ret.trans hr) hn (fun t ht hW => ⟨⟨ws, hp, by rw [ht]; exact hP, hD⟩, hS.F ht⟩) hS.2.2 hd C.lock) T hT X'
  exact ⟨t, a, by rw [C.Q]; exact MQ_MT b⟩
theorem g_ldcS (C : Ok X cc nL own E) (i : Nat) {ix : Nat} (hi : i < 6) (ho : (strO i).1 = own) (hx : (strO i).2.1 = ix) (hd : decode cc pc = .ok (.ldc ix, 2)) (h : G X nL k n ws (pc + 2) L (.ref (X.Z.K i) :: st)) : G X nL k n ws pc L st := by
  intro H locs ls hP hD hS hl
  have hr := (C.ex.2.2.1 i hi).2
  rw [ho, hx] at hr
  exact va_ldcS C.x C.b C.own hr hd (h H locs ls hP hD hS hl)
theorem g_strVal (C : Ok X cc nL own E) {i ix : Nat} (hi : i < 6) (hw : Cond.fieldLink own ix "java/lang/String" "value" "[B" ∈ lw_all) (hd : decode cc pc = .ok (.getfield ix, 3)) (h : G X nL k n ws (pc + 3) L (.ref (X.Z.K (i + 6)) :: st)) : G X nL k n ws pc L (.ref (X.Z.K i) :: st) :=
  fun H locs ls hP hD hS hl => vk_getf C.x C.b ((C.ex.2.2.1 i hi).1.1 0 (by decide)).2.2.1 hS C.own (C.ts _ hw) (fun x h => h) hd (h H locs ls hP hD hS hl)
theorem g_strCod (C : Ok X cc nL own E) {i ix : Nat} (hi : i < 6) (hw : Cond.fieldLink own ix "java/lang/String" "coder" "B" ∈ lw_all) (hd : decode cc pc = .ok (.getfield ix, 3)) (h : G X nL k n ws (pc + 3) L (vI 0 :: st)) : G X nL k n ws pc L (.ref (X.Z.K i) :: st) :=
  fun H locs ls hP hD hS hl => vk_getf C.x C.b ((C.ex.2.2.1 i hi).1.1 0 (by decide)).2.1 hS C.own (C.ts _ hw) (fun x h => h) hd (h H locs ls hP hD hS hl)
theorem g_strCS (C : Ok X cc nL own E) {ix : Nat} (hw : Cond.fieldLink own ix "java/lang/String" "COMPACT_STRINGS" "Z" ∈ lw_all) (hd : decode cc pc = .ok (.getstatic ix, 3)) (h : G X nL k n ws (pc + 3) L (vI 1 :: st)) : G X nL k n ws pc L st :=
  fun H locs ls hP hD hS hl => va_gets C.x C.b C.ex.2.2.2.1 hS C.own (C.ts _ hw) (fun x h => h) hd (h H locs ls hP hD hS hl)
def sln (i : Nat) : Int := (strB i).length
def sc (i : Nat) (j : Int) : Int := ((strB i).getD j.toNat 0).toInt
theorem sln_r (i : Nat) : 0 ≤ sln i ∧ sln i ≤ 13 := by
  unfold sln strB
  split <;> decide
theorem sc_r (i : Nat) (j : Int) : inR (sc i j) := i32_range _
theorem g_strLen (C : Ok X cc nL own E) {i : Nat} (hi : i < 6) (hd : decode cc pc = .ok (.arraylength, 1)) (h : G X nL k n ws (pc + 1) L (vI (sln i) :: st)) : G X nL k n ws pc L (.ref (X.Z.K (i + 6)) :: st) :=
  fun H locs ls hP hD hS hl => va_tlen (v := iI (sln i)) C.x C.b ((C.ex.2.2.1 i hi).1.1 0 (by decide)).2.2.2 hS rfl hd (h H locs ls hP hD hS hl)
theorem g_strLd (C : Ok X cc nL own E) {i : Nat} {j : Int} (hi : i < 6) (hj : 0 ≤ j ∧ j < sln i) (hd : decode cc pc = .ok (.baload, 1)) (h : G X nL k n ws (pc + 1) L (vI (sc i j) :: st)) : G X nL k n ws pc L (vI j :: .ref (X.Z.K (i + 6)) :: st) :=
  fun H locs ls hP hD hS hl => va_tb (v := vI (sc i j)) C.x C.b ((C.ex.2.2.1 i hi).1.1 0 (by decide)).2.2.2 hS (iI_in ⟨hj.1, hj.2, by have h1 := sln_r i; have e : sln i = ((strB i).length : Int) := rfl; show (strB i).length < _; omega⟩) (by rw [iI_clamp hj.1 (by have := sln_r i; omega)]; unfold sc vI; rw [iI_self]; rfl) hd (h H locs ls hP hD hS hl)
theorem runK (C : Ok X cc nL own E) {y : MethodName} {hd : Cond} {bytes : ByteArray} {maxL : Nat} {ret : Option FieldType} {hh : List (Nat × Nat × Nat × Nat)} {fr lo : Nat} {as : List Value} {i : Nat} {wc : va_W} {mc ms : Nat} {Post : Outcome → va_W → Prop} {rest : List Value} {ix : Nat} (np : Nat) (hi : i < 6) (cal : CalV own ix y hd bytes maxL ret hh RJ3 np)
    (hCt : Ct X.Z y hd fr lo (.ref (X.Z.K i) :: as) wc mc ms Post) (hn : as.length = np) (hst : as.reverse ++ .ref (X.Z.K i) :: rest = st) (hcat : (rest.map fun v => v.category).sum ≤ 8) (hR : roomOk E fr lo maxL mc ms k n) (hdg : decode cc pc = .ok (.invokevirtual ix, 3))
    {H : Heap} {locs : List Loc} {ls : Array Slot} (hS : va_S X.A X.s.heap H locs) (hl : lv_has ls nL L)
    (hpre : ∀ U : State, U.heap = H → X.s.WarmedH U.vm → va_Pc (.ref (X.Z.K i) :: as) (fun U => U.heap.size = H.size ∧ va_P X.Z.D vwCl wc U.heap ∧ va_K X.Z.D vwCl (tysZ X.Z) U ∧ va_D (fun _ => True) wc ∧ EX X.Z.K (va_A wc H.size) U) (Value.ref (X.Z.K i) :: as).toArray U) :
    RunT X H locs k n mc ms (F0 X.m pc ls st) rest (QP X.Z (va_A wc H.size) Post (Value.ref (X.Z.K i) :: as).toArray) (va_A wc H.size) := by
  obtain ⟨hH, hyc, w1, w2, w3, w4, w5, hm⟩ := cal
  subst hst
  have hRx : X.R = E.R := C.R
  obtain ⟨cellB, hcB, hoB, hclB⟩ := vk_recv (C.ex.2.2.1 i hi).1 (i := 0) (by decide) hS
  have hK : BackT X.Z.l X.R X.p X.e X.below X.s X.args y 3 8 (PreOf X.R mc ms _) (PostT _ mc ms _) := backT (bytes := bytes) (maxL := maxL) (ret := ret) (hh := hh) (hCt H.size) Ct.blind rfl rfl (by rw [hRx]; exact hR.1.1) (by rw [hRx]; exact hR.1.2) hH C.ts w5 (by rw [hyc]; exact w4)
  intro T hT X'
  obtain ⟨o, vm₁, ⟨U', l2, c2, s2⟩, hW₁, X2, ⟨g', mk, t, L', e1, e2, hq, h1, hL, h2, h3⟩, hst⟩ := callVT X' C.x (C := RJ3) (bytes := bytes) (maxL := maxL) (ret := ret) (hh := hh) C.own (C.ts _ w1) (C.ts _ w2) (C.ts _ w3) hH (C.ts _ w5) ⟨hm.1, hm.2.1⟩ hK (by rw [hT]; exact hcB) hoB hclB (g := F0 X.m pc ls (as.reverse ++ .ref (X.Z.K i) :: rest)) rfl (hl.1.trans C.ml.symm) (argsL := as) (rest := rest) (hm.len hn) rfl (catsum hcat) (by rw [C.b]; exact hdg)
    (fun vm₁ hW₁ => ⟨by rw [hRx]; exact hR.2.1, by rw [hRx]; exact hR.2.2, hpre (T.setVm vm₁) hT hW₁⟩)
  dsimp only [Pt.U, Pt.locs, Pt.cells, Pt.slots] at X2 e1 e2 h1 h2 h3 hst
  subst h1; subst h2; subst h3
  exact ⟨o, (T.setVm vm₁).calling g' mk (Value.ref (X.Z.K i) :: as).toArray, t, U', L', hT, X2, hL, e1, e2, hq, hst⟩
theorem g_cKi (C : Ok X cc nL own E) {y : MethodName} {hd : Cond} {bytes : ByteArray} {maxL : Nat} {ret : Option FieldType} {hh : List (Nat × Nat × Nat × Nat)} {fr lo : Nat} (as : List Value) {P : Int → Prop} (rest : List Value) {ix np i : Nat} (hi : i < 6) (cal : CalV own ix y hd bytes maxL ret hh RJ3 np) (hCt : Ct X.Z y hd fr lo (.ref (X.Z.K i) :: as) [] 0 0 (Ri fun r w => P r ∧ w = [])) (hn : as.length = np) (hst : as.reverse ++ .ref (X.Z.K i) :: rest = st) (hcat : (rest.map fun v => v.category).sum ≤ 8) (hR : roomOk E fr lo maxL 0 0 k n) (hdg : decode cc pc = .ok (.invokevirtual ix, 3))
    (kR : ∀ r : Int, P r → G X nL (k + 0) (n + 0) ws (pc + 3) L (vI r :: rest)) : G X nL k n ws pc L st :=
  g_callJ C (as := .ref (X.Z.K i) :: as) [] rfl rfl (fun _ _ _ => Nat.zero_le _) (fun H locs ls hP hD hS hl => runK C np hi cal hCt hn hst hcat hR hdg hS hl (ct_preJ C (js := []) rfl rfl hP hD hS))
    (fun v w1 hp => by obtain ⟨r, e, h, rfl⟩ := hp; cases e; exact kR r h) (fun x w1 hp => by obtain ⟨r, e, h⟩ := hp; cases e)
theorem g_cKz (C : Ok X cc nL own E) {y : MethodName} {hd : Cond} {bytes : ByteArray} {maxL : Nat} {ret : Option FieldType} {hh : List (Nat × Nat × Nat × Nat)} {fr lo : Nat} (as : List Value) {P : Bool → Prop} (rest : List Value) {ix np i : Nat} (hi : i < 6) (cal : CalV own ix y hd bytes maxL ret hh RJ3 np) (hCt : Ct X.Z y hd fr lo (.ref (X.Z.K i) :: as) [] 0 0 (Rz fun r w => P r ∧ w = [])) (hn : as.length = np) (hst : as.reverse ++ .ref (X.Z.K i) :: rest = st) (hcat : (rest.map fun v => v.category).sum ≤ 8) (hR : roomOk E fr lo maxL 0 0 k n) (hdg : decode cc pc = .ok (.invokevirtual ix, 3))
    (kR : ∀ r : Bool, P r → G X nL (k + 0) (n + 0) ws (pc + 3) L (vI (b2 r) :: rest)) : G X nL k n ws pc L st :=
  g_callJ C (as := .ref (X.Z.K i) :: as) [] rfl rfl (fun _ _ _ => Nat.zero_le _) (fun H locs ls hP hD hS hl => runK C np hi cal hCt hn hst hcat hR hdg hS hl (ct_preJ C (js := []) rfl rfl hP hD hS))
    (fun v w1 hp => by obtain ⟨r, e, h, rfl⟩ := hp; cases e; exact kR r h) (fun x w1 hp => by obtain ⟨r, e, h⟩ := hp; cases e)
end STR
theorem cS_isLatin1 {Z : Zk} {i : Nat} (hi : i < 6) : Ct Z yJ3_isLatin1 hJ3_isLatin1 1 20 [.ref (Z.K i)] [] 0 0 (Rz fun r w => r = true ∧ w = []) := by
  refine Ct.of RJ3 "isLatin1" (by decide +kernel) rfl rfl hkJ3_isLatin1 (Nat.le_of_ble_eq_true rfl) (fun X hZ C => ?_)
  subst hZ
  refine g_strCS C q373 dJ3_isLatin1_0 ?_
  refine g_if_eq C 17 dJ3_isLatin1_3 (by decide) (by omega) (fun h3 => ?_) (fun h3 => ?_)
  · exact absurd h3 (by decide)
  · refine g_aload_n C dJ3_isLatin1_6 rfl ?_
    refine g_strCod C hi q1126 dJ3_isLatin1_7 ?_
    refine g_if_ne C 17 dJ3_isLatin1_10 (by decide) (by omega) (fun h10 => ?_) (fun h10 => ?_)
    · exact absurd rfl h10
    · refine g_iconst C dJ3_isLatin1_13 ?_
      refine g_goto C 18 dJ3_isLatin1_14 (by decide) ?_
      exact g_zret C true rfl rfl ⟨_, rfl, rfl, rfl⟩ dJ3_isLatin1_18
theorem cS_coder {Z : Zk} {i : Nat} (hi : i < 6) : Ct Z yJ3_coder hJ3_coder 1 20 [.ref (Z.K i)] [] 0 0 (Ri fun r w => r = 0 ∧ w = []) := by
  refine Ct.of RJ3 "coder" (by decide +kernel) rfl rfl hkJ3_coder (Nat.le_of_ble_eq_true rfl) (fun X hZ C => ?_)
  subst hZ
  refine g_strCS C q373 dJ3_coder_0 ?_
  refine g_if_eq C 13 dJ3_coder_3 (by decide) (by omega) (fun h3 => ?_) (fun h3 => ?_)
  · exact absurd h3 (by decide)
  · refine g_aload_n C dJ3_coder_6 rfl ?_
    refine g_strCod C hi q1126 dJ3_coder_7 ?_
    refine g_goto C 14 dJ3_coder_10 (by decide) ?_
    exact g_nret C rfl rfl ⟨_, rfl, rfl, rfl⟩ dJ3_coder_14
theorem ishr_0 {z : Int} (h : inR z) : ishr z 0 = z := by
  unfold ishr
  have e : iI 0 = 0 := rfl
  rw [e, sb_shr0, iI_toInt h.1 h.2]
theorem cS_length {Z : Zk} {i : Nat} (hi : i < 6) : Ct Z yJ3_length hJ3_length 2 50 [.ref (Z.K i)] [] 0 0 (Ri fun r w => r = sln i ∧ w = []) := by
  refine Ct.of RJ3 "length" (by decide +kernel) rfl rfl hkJ3_length (Nat.le_of_ble_eq_true rfl) (fun X hZ C => ?_)
  subst hZ
  refine g_aload_n C dJ3_length_0 rfl ?_
  refine g_strVal C hi q1127 dJ3_length_1 ?_
  refine g_strLen C hi dJ3_length_4 ?_
  refine g_aload_n C dJ3_length_5 rfl ?_
  refine g_cKi C [] _ hi cal_J3_335 (cS_coder hi) rfl rfl (Nat.le_of_ble_eq_true rfl) (room_b rfl) dJ3_length_6 (fun r6 hw6 => ?_)
  subst hw6
  refine g_ishr C dJ3_length_9 ?_
  refine g_top (ishr_0 (by have := sln_r i; omega)) ?_
  exact g_iret C rfl ⟨_, rfl, rfl, rfl⟩ dJ3_length_10
theorem cS_canEncode {Z : Zk} {z : Int} (hz : inR z) : Ct Z yJ4_canEncode hJ4_canEncode 1 20 [vI z] [] 0 0 (Rz fun r w => r = (decide (0 ≤ z) && decide (z ≤ 255)) ∧ w = []) := by
  refine Ct.of RJ4 "canEncode" (by decide +kernel) rfl rfl hkJ4_canEncode (Nat.le_of_ble_eq_true rfl) (fun X hZ C => ?_)
  subst hZ
  refine g_iload_n C dJ4_canEncode_0 rfl ?_
  refine g_if_lt C 15 dJ4_canEncode_1 (by decide) (by omega) (fun h1 => ?_) (fun h1 => ?_)
  · refine g_iconst C dJ4_canEncode_15 ?_
    exact g_zret C _ (by first | exact (show (1 : Int) = b2 true from rfl) | exact (show (0 : Int) = b2 false from rfl)) rfl ⟨_, rfl, by first | (have a1 : ¬ (0 ≤ z) := by omega); simp [a1]; done | (have a1 : ¬ (z ≤ 255) := by omega); simp [a1]; done | (have a1 : 0 ≤ z := by omega); (have a2 : z ≤ 255 := by omega); simp [a1, a2]; done, rfl⟩ dJ4_canEncode_16
  · refine g_iload_n C dJ4_canEncode_4 rfl ?_
    refine g_sipush C dJ4_canEncode_5 (by decide) ?_
    refine g_icmp_gt C 15 dJ4_canEncode_8 (by decide) (by omega) (fun h8 => ?_) (fun h8 => ?_)
    · refine g_iconst C dJ4_canEncode_15 ?_
      exact g_zret C _ (by first | exact (show (1 : Int) = b2 true from rfl) | exact (show (0 : Int) = b2 false from rfl)) rfl ⟨_, rfl, by first | (have a1 : ¬ (0 ≤ z) := by omega); simp [a1]; done | (have a1 : ¬ (z ≤ 255) := by omega); simp [a1]; done | (have a1 : 0 ≤ z := by omega); (have a2 : z ≤ 255 := by omega); simp [a1, a2]; done, rfl⟩ dJ4_canEncode_16
    · refine g_iconst C dJ4_canEncode_11 ?_
      refine g_goto C 16 dJ4_canEncode_12 (by decide) ?_
      exact g_zret C _ (by first | exact (show (1 : Int) = b2 true from rfl) | exact (show (0 : Int) = b2 false from rfl)) rfl ⟨_, rfl, by first | (have a1 : ¬ (0 ≤ z) := by omega); simp [a1]; done | (have a1 : ¬ (z ≤ 255) := by omega); simp [a1]; done | (have a1 : 0 ≤ z := by omega); (have a2 : z ≤ 255 := by omega); simp [a1, a2]; done, rfl⟩ dJ4_canEncode_16
theorem cS_max {Z : Zk} {x y : Int} (h : inR2 x y) : Ct Z yJ5_max hJ5_max 1 20 [vI x, vI y] [] 0 0 (Ri fun r w => r = max x y ∧ w = []) := by
  refine Ct.of RJ5 "max" (by decide +kernel) rfl rfl hkJ5_max (Nat.le_of_ble_eq_true rfl) (fun X hZ C => ?_)
  subst hZ
  refine g_iload_n C dJ5_max_0 rfl ?_
  refine g_iload_n C dJ5_max_1 rfl ?_
  refine g_icmp_lt C 9 dJ5_max_2 (by decide) (by omega) (fun h2 => ?_) (fun h2 => ?_)
  · refine g_iload_n C dJ5_max_9 rfl ?_
    exact g_iret C rfl ⟨_, rfl, by omega, rfl⟩ dJ5_max_10
  · refine g_iload_n C dJ5_max_5 rfl ?_
    refine g_goto C 10 dJ5_max_6 (by decide) ?_
    exact g_iret C rfl ⟨_, rfl, by omega, rfl⟩ dJ5_max_10
theorem cS_min {Z : Zk} {x y : Int} (h : inR2 x y) : Ct Z yJ5_min hJ5_min 1 20 [vI x, vI y] [] 0 0 (Ri fun r w => r = min x y ∧ w = []) := by
  refine Ct.of RJ5 "min" (by decide +kernel) rfl rfl hkJ5_min (Nat.le_of_ble_eq_true rfl) (fun X hZ C => ?_)
  subst hZ
  refine g_iload_n C dJ5_min_0 rfl ?_
  refine g_iload_n C dJ5_min_1 rfl ?_
  refine g_icmp_gt C 9 dJ5_min_2 (by decide) (by omega) (fun h2 => ?_) (fun h2 => ?_)
  · refine g_iload_n C dJ5_min_9 rfl ?_
    exact g_iret C rfl ⟨_, rfl, by omega, rfl⟩ dJ5_min_10
  · refine g_iload_n C dJ5_min_5 rfl ?_
    refine g_goto C 10 dJ5_min_6 (by decide) ?_
    exact g_iret C rfl ⟨_, rfl, by omega, rfl⟩ dJ5_min_10
def scHas (i : Nat) (c : Int) (r : Int) : Prop := (0 ≤ r ∧ r < sln i ∧ sc i r = i2b c) ∨ (r = -1 ∧ ∀ j, 0 ≤ j → j < sln i → sc i j ≠ i2b c)
theorem i2b_r (c : Int) : inR (i2b c) := i32_range _
theorem cS_indexOfChar {Z : Zk} {i : Nat} {z : Int} (hi : i < 6) (hz : inR z) : Ct Z yJ4_indexOfChar hJ4_indexOfChar 1 30 [.ref (Z.K (i + 6)), vI z, vI 0, vI (sln i)] [] 0 0 (Ri fun r w => scHas i z r ∧ w = []) := by
  refine Ct.of RJ4 "indexOfChar" (by decide +kernel) rfl rfl hkJ4_indexOfChar (Nat.le_of_ble_eq_true rfl) (fun X hZ C => ?_)
  subst hZ
  have hln := sln_r i
  have hzb := i2b_r z
  have lp : (∀ j, 0 ≤ j → j < 0 → sc i j ≠ i2b z) → G X 6 0 0 [] 7 [(0, .ref (X.Z.K (i + 6))), (3, vI (sln i)), (4, vI (i2b z)), (5, vI 0)] [] := by
    refine loopZ (fun k => (∀ j, 0 ≤ j → j < k → sc i j ≠ i2b z) → G X 6 0 0 [] 7 [(0, .ref (X.Z.K (i + 6))), (3, vI (sln i)), (4, vI (i2b z)), (5, vI k)] []) 0 (sln i) (by omega) ?_ (fun k hk0 hk1 ih => ?_)
    · show _ → G _ _ _ _ _ _ _ _
      intro hall
      refine g_iload C dJ4_indexOfChar_7 rfl ?_
      refine g_iload_n C dJ4_indexOfChar_9 rfl ?_
      refine g_icmp_ge C 31 dJ4_indexOfChar_10 (by decide) (by omega) (fun h10 => ?_) (fun h10 => ?_)
      · refine g_iconst C dJ4_indexOfChar_31 ?_
        exact g_iret C rfl ⟨_, rfl, Or.inr ⟨rfl, hall⟩, rfl⟩ dJ4_indexOfChar_32
      · exact absurd h10 (by omega)
    · show _ → G _ _ _ _ _ _ _ _
      intro hall
      have hsc := sc_r i k
      refine g_iload C dJ4_indexOfChar_7 rfl ?_
      refine g_iload_n C dJ4_indexOfChar_9 rfl ?_
      refine g_icmp_ge C 31 dJ4_indexOfChar_10 (by decide) (by omega) (fun h10 => ?_) (fun h10 => ?_)
      · exact absurd h10 (by omega)
      · refine g_aload_n C dJ4_indexOfChar_13 rfl ?_
        refine g_iload C dJ4_indexOfChar_14 rfl ?_
        refine g_strLd C hi ⟨hk0, hk1⟩ dJ4_indexOfChar_16 ?_
        refine g_iload C dJ4_indexOfChar_17 rfl ?_
        refine g_icmp_ne C 25 dJ4_indexOfChar_19 (by decide) (by omega) (fun h19 => ?_) (fun h19 => ?_)
        · refine g_iinc C dJ4_indexOfChar_25 rfl (by decide) ?_
          refine g_goto C 7 dJ4_indexOfChar_28 (by decide) ?_
          refine g_locR (L' := [(0, .ref (X.Z.K (i + 6))), (3, vI (sln i)), (4, vI (i2b z)), (5, vI (k + 1))]) rfl ?_
          exact ih (fun j h0 h1 => by rcases (show j < k ∨ j = k by omega) with q | q; exact hall j h0 q; rw [q]; exact h19)
        · refine g_iload C dJ4_indexOfChar_22 rfl ?_
          exact g_iret C rfl ⟨_, rfl, Or.inl ⟨hk0, hk1, h19⟩, rfl⟩ dJ4_indexOfChar_24
  refine g_iload_n C dJ4_indexOfChar_0 rfl ?_
  refine g_i2b C dJ4_indexOfChar_1 ?_
  refine g_istore C dJ4_indexOfChar_2 (by decide) ?_
  refine g_iload_n C dJ4_indexOfChar_4 rfl ?_
  refine g_istore C dJ4_indexOfChar_5 (by decide) ?_
  refine g_locR (L' := [(0, .ref (X.Z.K (i + 6))), (3, vI (sln i)), (4, vI (i2b z)), (5, vI 0)]) rfl ?_
  exact lp (fun j h0 h1 => absurd h1 (by omega))
theorem cS_l1 {Z : Zk} {i : Nat} {z : Int} (hi : i < 6) (hz : inR z) : Ct Z yJ4_indexOf hJ4_indexOf 2 60 [.ref (Z.K (i + 6)), vI z, vI 0, vI (sln i)] [] 0 0 (Ri fun r w => ((0 ≤ z ∧ z ≤ 255 ∧ scHas i z r) ∨ (¬ (0 ≤ z ∧ z ≤ 255) ∧ r = -1)) ∧ w = []) := by
  refine Ct.of RJ4 "indexOf" (by decide +kernel) rfl rfl hkJ4_indexOf (Nat.le_of_ble_eq_true rfl) (fun X hZ C => ?_)
  subst hZ
  have hln := sln_r i
  have hpos : 0 < sln i := by
    unfold sln strB
    split <;> decide
  refine g_iload_n C dJ4_indexOf_0 rfl ?_
  refine g_cSPz C [_] _ [] cal_J4_88 (cS_canEncode hz) (by decide) rfl rfl rfl (Nat.le_of_ble_eq_true rfl) (room_b rfl) dJ4_indexOf_1 (fun r1 hw1 => ?_)
  refine g_if_ne C 9 dJ4_indexOf_4 (by decide) (b2_r _) (fun h4 => ?_) (fun h4 => ?_)
  · have hyes : 0 ≤ z ∧ z ≤ 255 := by rw [(b2_ne0 _).mp h4] at hw1; simpa using hw1.symm
    refine g_iload_n C dJ4_indexOf_9 rfl ?_
    refine g_iconst C dJ4_indexOf_10 ?_
    refine g_cSPi C [_, _] _ [] cal_J4_92 (cS_max (by omega)) (by decide) rfl rfl rfl (Nat.le_of_ble_eq_true rfl) (room_b rfl) dJ4_indexOf_11 (fun r11 hw11 => ?_)
    have e11 : r11 = 0 := by omega
    subst e11
    refine g_istore_n C dJ4_indexOf_14 (by decide) ?_
    refine g_iload_n C dJ4_indexOf_15 rfl ?_
    refine g_aload_n C dJ4_indexOf_16 rfl ?_
    refine g_strLen C hi dJ4_indexOf_17 ?_
    refine g_cSPi C [_, _] _ [] cal_J4_38 (cS_min (by omega)) (by decide) rfl rfl rfl (Nat.le_of_ble_eq_true rfl) (room_b rfl) dJ4_indexOf_18 (fun r18 hw18 => ?_)
    have e18 : r18 = sln i := by omega
    subst e18
    refine g_istore_n C dJ4_indexOf_21 (by decide) ?_
    refine g_iload_n C dJ4_indexOf_22 rfl ?_
    refine g_iload_n C dJ4_indexOf_23 rfl ?_
    refine g_icmp_lt C 29 dJ4_indexOf_24 (by decide) (by omega) (fun h24 => ?_) (fun h24 => ?_)
    · refine g_aload_n C dJ4_indexOf_29 rfl ?_
      refine g_iload_n C dJ4_indexOf_30 rfl ?_
      refine g_iload_n C dJ4_indexOf_31 rfl ?_
      refine g_iload_n C dJ4_indexOf_32 rfl ?_
      refine g_cSPi C [_, _, _, _] _ [] cal_J4_95 (cS_indexOfChar hi hz) (by decide) rfl rfl rfl (Nat.le_of_ble_eq_true rfl) (room_b rfl) dJ4_indexOf_33 (fun r33 hw33 => ?_)
      exact g_iret C rfl ⟨_, rfl, Or.inl ⟨hyes.1, hyes.2, hw33⟩, rfl⟩ dJ4_indexOf_36
    · exact absurd h24 (by omega)
  · have hno : ¬ (0 ≤ z ∧ z ≤ 255) := by rw [(b2_0 _).mp h4] at hw1; simpa using hw1.symm
    refine g_iconst C dJ4_indexOf_7 ?_
    exact g_iret C rfl ⟨_, rfl, Or.inr ⟨hno, rfl⟩, rfl⟩ dJ4_indexOf_8
theorem cS_idx2 {Z : Zk} {i : Nat} {z : Int} (hi : i < 6) (hz : inR z) : Ct Z yJ3_indexOf_2 hJ3_indexOf_2 3 100 [.ref (Z.K i), vI z, vI 0] [] 0 0 (Ri fun r w => ((0 ≤ z ∧ z ≤ 255 ∧ scHas i z r) ∨ (¬ (0 ≤ z ∧ z ≤ 255) ∧ r = -1)) ∧ w = []) := by
  refine Ct.of RJ3 "indexOf" (by decide +kernel) rfl rfl hkJ3_indexOf_2 (Nat.le_of_ble_eq_true rfl) (fun X hZ C => ?_)
  subst hZ
  refine g_aload_n C dJ3_indexOf_2_0 rfl ?_
  refine g_cKz C [] _ hi cal_J3_492 (cS_isLatin1 hi) rfl rfl (Nat.le_of_ble_eq_true rfl) (room_b rfl) dJ3_indexOf_2_1 (fun r1 hw1 => ?_)
  subst hw1
  refine g_if_eq C 23 dJ3_indexOf_2_4 (by decide) (b2_r _) (fun h4 => ?_) (fun h4 => ?_)
  · exact absurd h4 (by decide)
  · refine g_aload_n C dJ3_indexOf_2_7 rfl ?_
    refine g_strVal C hi q1127 dJ3_indexOf_2_8 ?_
    refine g_iload_n C dJ3_indexOf_2_11 rfl ?_
    refine g_iload_n C dJ3_indexOf_2_12 rfl ?_
    refine g_aload_n C dJ3_indexOf_2_13 rfl ?_
    refine g_cKi C [] _ hi cal_J3_505 (cS_length hi) rfl rfl (Nat.le_of_ble_eq_true rfl) (room_b rfl) dJ3_indexOf_2_14 (fun r14 hw14 => ?_)
    subst hw14
    refine g_cSPi C [_, _, _, _] _ [] cal_J3_637 (cS_l1 hi hz) (by decide) rfl rfl rfl (Nat.le_of_ble_eq_true rfl) (room_b rfl) dJ3_indexOf_2_17 (fun r17 hw17 => ?_)
    refine g_goto C 36 dJ3_indexOf_2_20 (by decide) ?_
    exact g_iret C rfl ⟨_, rfl, hw17, rfl⟩ dJ3_indexOf_2_36
/-- whether a constant String holds a character -/
def strHas (i : Nat) (c : Int) : Bool := (strB i).any (fun b => b.toInt == c)
theorem i2b_small : ∀ c : Nat, c < 256 → i2b c = if c < 128 then (c : Int) else (c : Int) - 256 := by decide +kernel
theorem strB_small : ∀ i : Nat, i < 6 → ∀ b ∈ strB i, 0 ≤ b.toInt ∧ b.toInt < 128 := by
  intro i hi b hb
  have : (List.range 6).all (fun i => (strB i).all (fun b => decide (0 ≤ b.toInt ∧ b.toInt < 128))) = true := by decide +kernel
  have h1 := List.all_eq_true.mp this i (List.mem_range.mpr hi)
  have h2 := List.all_eq_true.mp h1 b hb
  simpa using h2
theorem sc_mem {i : Nat} {j : Int} (h0 : 0 ≤ j) (h1 : j < sln i) : ∃ b ∈ strB i, sc i j = b.toInt := by
  have hl : j.toNat < (strB i).length := by
    have e : sln i = ((strB i).length : Int) := rfl
    omega
  refine ⟨(strB i)[j.toNat], List.getElem_mem hl, ?_⟩
  unfold sc
  rw [List.getD_eq_getElem?_getD, List.getElem?_eq_getElem hl]
  rfl
theorem strHas_of {i : Nat} (hi : i < 6) {z r : Int} (h : (0 ≤ z ∧ z ≤ 255 ∧ scHas i z r) ∨ (¬ (0 ≤ z ∧ z ≤ 255) ∧ r = -1)) : (0 ≤ r ∧ r ≤ 13 ∧ strHas i z = true) ∨ (r = -1 ∧ strHas i z = false) := by
  have hln := sln_r i
  rcases h with ⟨h0, h1, h2⟩ | ⟨h0, h1⟩
  · have hb := i2b_small z.toNat (by omega)
    rw [Int.toNat_of_nonneg h0] at hb
    rcases h2 with ⟨a, b, c⟩ | ⟨a, b⟩
    · left
      obtain ⟨x, hx, e⟩ := sc_mem a b
      have hs := strB_small i hi x hx
      refine ⟨a, by omega, List.any_eq_true.mpr ⟨x, hx, ?_⟩⟩
      have : x.toInt = z := by
        rw [← e, c, hb] at hs
        rw [← e, c, hb]
        split
        · rfl
        · next q => rw [if_neg q] at hs; omega
      simpa using this
    · right
      refine ⟨a, ?_⟩
      cases hh : strHas i z with
      | false => rfl
      | true =>
        obtain ⟨x, hx, e⟩ := List.any_eq_true.mp hh
        have e : x.toInt = z := by simpa using e
        obtain ⟨m, hm, hm2⟩ := List.mem_iff_getElem.mp hx
        have hs := strB_small i hi x hx
        have e1 : sc i m = x.toInt := by
          unfold sc
          rw [Int.toNat_natCast, List.getD_eq_getElem?_getD, List.getElem?_eq_getElem hm, hm2]
          rfl
        have := b m (by omega) (by have e : sln i = ((strB i).length : Int) := rfl; omega)
        rw [e1, hb, if_pos (by omega)] at this
        exact absurd (by omega) this
  · right
    refine ⟨h1, ?_⟩
    cases hh : strHas i z with
    | false => rfl
    | true =>
      obtain ⟨x, hx, e⟩ := List.any_eq_true.mp hh
      have e : x.toInt = z := by simpa using e
      have hs := strB_small i hi x hx
      omega
theorem cS_idx {Z : Zk} {i : Nat} {z : Int} (hi : i < 6) (hz : inR z) : Ct Z yJ3_indexOf hJ3_indexOf 4 130 [.ref (Z.K i), vI z] [] 0 0 (Ri fun r w => ((0 ≤ r ∧ r ≤ 13 ∧ strHas i z = true) ∨ (r = -1 ∧ strHas i z = false)) ∧ w = []) := by
  refine Ct.of RJ3 "indexOf" (by decide +kernel) rfl rfl hkJ3_indexOf (Nat.le_of_ble_eq_true rfl) (fun X hZ C => ?_)
  subst hZ
  refine g_aload_n C dJ3_indexOf_0 rfl ?_
  refine g_iload_n C dJ3_indexOf_1 rfl ?_
  refine g_iconst C dJ3_indexOf_2 ?_
  refine g_cKi C [_, _] _ hi cal_J3_633 (cS_idx2 hi hz) rfl rfl (Nat.le_of_ble_eq_true rfl) (room_b rfl) dJ3_indexOf_3 (fun r3 hw3 => ?_)
  exact g_iret C rfl ⟨_, rfl, strHas_of hi hw3, rfl⟩ dJ3_indexOf_6
