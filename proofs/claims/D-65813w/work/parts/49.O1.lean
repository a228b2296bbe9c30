/-! PatternPairs: the small methods -/
section TAB
variable {X : Cx} {cc : ByteArray} {nL : Nat} {own : String} {E : Ek} {k n pc : Nat} {ws : va_W} {L : List (Nat × Value)} {st : List Value}
theorem g_tabIn (C : Ok X cc nL own E) {dflt lo hi : Int} {offs : Array Int} {len : Nat} {x off : Int} (tgt : Nat) (hd : decode cc pc = .ok (.tableswitch dflt lo hi offs, len)) (hx : inR x) (h1 : lo ≤ x) (h2 : x ≤ hi) (ho : offs[(x - lo).toNat]? = some off) (ht : (pc : Int) + off = (tgt : Int)) (h : G X nL k n ws tgt L st) : G X nL k n ws pc L (vI x :: st) :=
  fun H locs ls hP hD hS hl => lv_tableIn C.x C.b hd (by rw [iI_toInt (by omega) (by omega)]; omega) (by rw [iI_toInt (by omega) (by omega)]; omega) (by rw [iI_toInt (by omega) (by omega)]; exact ho) ht (h H locs ls hP hD hS hl)
theorem g_tabOut (C : Ok X cc nL own E) {dflt lo hi : Int} {offs : Array Int} {len : Nat} {x : Int} (tgt : Nat) (hd : decode cc pc = .ok (.tableswitch dflt lo hi offs, len)) (hx : inR x) (h1 : x < lo ∨ hi < x) (ht : (pc : Int) + dflt = (tgt : Int)) (h : G X nL k n ws tgt L st) : G X nL k n ws pc L (vI x :: st) :=
  fun H locs ls hP hD hS hl => lv_tableOut C.x C.b hd (by rw [iI_toInt (by omega) (by omega)]; omega) ht (h H locs ls hP hD hS hl)
end TAB
theorem cO_in {Z : Zk} {wr : va_W} (hfl : Z.l.flags = pinnedFlags ++ [noTraceFlag]) {y : Bool} : Ct Z yX1_in hX1_in 6 90 [vI (b2 y)] wr 1 6 (Th (Rv fun w => y = true ∧ w = wr) (fun x w => y = false ∧ ∃ fs, w = wr ++ [(x, eO 6 fs)])) := by
  refine Ct.of RX1 "in" (by decide +kernel) rfl rfl hkX1_in (Nat.le_of_ble_eq_true rfl) (fun X hZ C => ?_)
  subst hZ
  refine g_iload_n C dX1_in_0 rfl ?_
  refine g_if_ne C 12 dX1_in_1 (by decide) (b2_r _) (fun h1 => ?_) (fun h1 => ?_)
  · refine g_widen (k' := 1) (n' := 6) (by decide) (by decide) ?_
    exact g_vret C rfl (Or.inl ⟨rfl, (b2_ne0 _).mp h1, rfl⟩) dX1_in_12
  · refine g_thrJ14 C hfl dX1_in_4 dX1_in_7 dX1_in_8 ⟨(Nat.le_of_ble_eq_true rfl), (Nat.le_of_ble_eq_true rfl)⟩ ⟨(Nat.le_of_ble_eq_true rfl), (Nat.le_of_ble_eq_true rfl)⟩ (fun q fs => ?_)
    refine g_athrow C dX1_in_11 ?_
    exact gt_out C rfl (Or.inr ⟨_, rfl, (b2_0 _).mp h1, _, rfl⟩)
theorem cO_room {Z : Zk} {wr : va_W} (hfl : Z.l.flags = pinnedFlags ++ [noTraceFlag]) {y : Bool} : Ct Z yX1_room hX1_room 6 90 [vI (b2 y)] wr 1 6 (Th (Rv fun w => y = true ∧ w = wr) (fun x w => y = false ∧ ∃ fs, w = wr ++ [(x, eO 7 fs)])) := by
  refine Ct.of RX1 "room" (by decide +kernel) rfl rfl hkX1_room (Nat.le_of_ble_eq_true rfl) (fun X hZ C => ?_)
  subst hZ
  refine g_iload_n C dX1_room_0 rfl ?_
  refine g_if_ne C 12 dX1_room_1 (by decide) (b2_r _) (fun h1 => ?_) (fun h1 => ?_)
  · refine g_widen (k' := 1) (n' := 6) (by decide) (by decide) ?_
    exact g_vret C rfl (Or.inl ⟨rfl, (b2_ne0 _).mp h1, rfl⟩) dX1_room_12
  · refine g_thrJ12 C hfl dX1_room_4 dX1_room_7 dX1_room_8 ⟨(Nat.le_of_ble_eq_true rfl), (Nat.le_of_ble_eq_true rfl)⟩ ⟨(Nat.le_of_ble_eq_true rfl), (Nat.le_of_ble_eq_true rfl)⟩ (fun q fs => ?_)
    refine g_athrow C dX1_room_11 ?_
    exact gt_out C rfl (Or.inr ⟨_, rfl, (b2_0 _).mp h1, _, rfl⟩)
theorem cO_place {Z : Zk} {wr : va_W} {a : Nat → Nat} {tape : Int → Int} {rf : Nat} {rs : Nat} {rp : Nat} {seen : Int → Bool} {queue : Int → Int} {before : Int → Int} {by_ : Int → Int} {text : Int → Int} {ways : Int → Int64} {next : Int → Int64} {length : Int} {taped : Int} {place : Int} : Ct Z yX1_place hX1_place 1 60 [.ref (a 0)] (wO Z a tape rf rs rp seen queue before by_ text ways next length taped place ++ wr) 0 0 (Ri fun r w => r = place ∧ w = wO Z a tape rf rs rp seen queue before by_ text ways next length taped place ++ wr) := by
  refine Ct.of RX1 "place" (by decide +kernel) rfl rfl hkX1_place (Nat.le_of_ble_eq_true rfl) (fun X hZ C => ?_)
  subst hZ
  refine g_aload_n C dX1_place_0 rfl ?_
  refine gO_place C dX1_place_1 ?_
  exact g_iret C rfl ⟨_, rfl, rfl, rfl⟩ dX1_place_4
def wnt (k : Int) (p q : Bool) : Bool := if k = 0 then p != q else if k = 1 then p && !q else if k = 2 then q && !p else if k = 3 then p && q else !p && !q
theorem cO_wanted {Z : Zk} {wr : va_W} {kind : Int} {p q : Bool} (h0 : 0 ≤ kind) (h4 : kind ≤ 4) : Ct Z yX1_wanted hX1_wanted 1 60 [vI kind, vI (b2 p), vI (b2 q)] wr 0 0 (Rz fun r w => r = wnt kind p q ∧ w = wr) := by
  refine Ct.of RX1 "wanted" (by decide +kernel) rfl rfl hkX1_wanted (Nat.le_of_ble_eq_true rfl) (fun X hZ C => ?_)
  subst hZ
  have hk : kind = 0 ∨ kind = 1 ∨ kind = 2 ∨ kind = 3 ∨ kind = 4 := by omega
  refine g_iload_n C dX1_wanted_0 rfl ?_
  rcases hk with rfl | rfl | rfl | rfl | rfl
  · refine g_tabIn C 32 dX1_wanted_1 (by decide) (by decide) (by decide) rfl rfl ?_
    refine g_iload_n C dX1_wanted_32 rfl ?_
    refine g_iload_n C dX1_wanted_33 rfl ?_
    refine g_icmp_eq C 41 dX1_wanted_34 (by decide) ⟨b2_r _, b2_r _⟩ (fun h34 => ?_) (fun h34 => ?_)
    · refine g_iconst C dX1_wanted_41 ?_
      exact g_zret C _ (show _ = b2 (wnt 0 p q) from by cases p <;> cases q <;> first | rfl | (exact absurd rfl h34) | (exact absurd h34 (by decide))) rfl ⟨_, rfl, rfl, rfl⟩ dX1_wanted_42
    · refine g_iconst C dX1_wanted_37 ?_
      refine g_goto C 42 dX1_wanted_38 (by decide) ?_
      exact g_zret C _ (show _ = b2 (wnt 0 p q) from by cases p <;> cases q <;> first | rfl | (exact absurd rfl h34) | (exact absurd h34 (by decide))) rfl ⟨_, rfl, rfl, rfl⟩ dX1_wanted_42
  · refine g_tabIn C 43 dX1_wanted_1 (by decide) (by decide) (by decide) rfl rfl ?_
    refine g_iload_n C dX1_wanted_43 rfl ?_
    refine g_if_eq C 55 dX1_wanted_44 (by decide) (b2_r _) (fun h44 => ?_) (fun h44 => ?_)
    · refine g_iconst C dX1_wanted_55 ?_
      exact g_zret C _ (show _ = b2 (wnt 1 p q) from by cases p <;> cases q <;> first | rfl | (exact absurd rfl h44) | (exact absurd h44 (by decide)) | (exact absurd rfl h48) | (exact absurd h48 (by decide))) rfl ⟨_, rfl, rfl, rfl⟩ dX1_wanted_56
    · refine g_iload_n C dX1_wanted_47 rfl ?_
      refine g_if_ne C 55 dX1_wanted_48 (by decide) (b2_r _) (fun h48 => ?_) (fun h48 => ?_)
      · refine g_iconst C dX1_wanted_55 ?_
        exact g_zret C _ (show _ = b2 (wnt 1 p q) from by cases p <;> cases q <;> first | rfl | (exact absurd rfl h44) | (exact absurd h44 (by decide)) | (exact absurd rfl h48) | (exact absurd h48 (by decide))) rfl ⟨_, rfl, rfl, rfl⟩ dX1_wanted_56
      · refine g_iconst C dX1_wanted_51 ?_
        refine g_goto C 56 dX1_wanted_52 (by decide) ?_
        exact g_zret C _ (show _ = b2 (wnt 1 p q) from by cases p <;> cases q <;> first | rfl | (exact absurd rfl h44) | (exact absurd h44 (by decide)) | (exact absurd rfl h48) | (exact absurd h48 (by decide))) rfl ⟨_, rfl, rfl, rfl⟩ dX1_wanted_56
  · refine g_tabIn C 57 dX1_wanted_1 (by decide) (by decide) (by decide) rfl rfl ?_
    refine g_iload_n C dX1_wanted_57 rfl ?_
    refine g_if_eq C 69 dX1_wanted_58 (by decide) (b2_r _) (fun h58 => ?_) (fun h58 => ?_)
    · refine g_iconst C dX1_wanted_69 ?_
      exact g_zret C _ (show _ = b2 (wnt 2 p q) from by cases p <;> cases q <;> first | rfl | (exact absurd rfl h58) | (exact absurd h58 (by decide)) | (exact absurd rfl h62) | (exact absurd h62 (by decide))) rfl ⟨_, rfl, rfl, rfl⟩ dX1_wanted_70
    · refine g_iload_n C dX1_wanted_61 rfl ?_
      refine g_if_ne C 69 dX1_wanted_62 (by decide) (b2_r _) (fun h62 => ?_) (fun h62 => ?_)
      · refine g_iconst C dX1_wanted_69 ?_
        exact g_zret C _ (show _ = b2 (wnt 2 p q) from by cases p <;> cases q <;> first | rfl | (exact absurd rfl h58) | (exact absurd h58 (by decide)) | (exact absurd rfl h62) | (exact absurd h62 (by decide))) rfl ⟨_, rfl, rfl, rfl⟩ dX1_wanted_70
      · refine g_iconst C dX1_wanted_65 ?_
        refine g_goto C 70 dX1_wanted_66 (by decide) ?_
        exact g_zret C _ (show _ = b2 (wnt 2 p q) from by cases p <;> cases q <;> first | rfl | (exact absurd rfl h58) | (exact absurd h58 (by decide)) | (exact absurd rfl h62) | (exact absurd h62 (by decide))) rfl ⟨_, rfl, rfl, rfl⟩ dX1_wanted_70
  · refine g_tabIn C 71 dX1_wanted_1 (by decide) (by decide) (by decide) rfl rfl ?_
    refine g_iload_n C dX1_wanted_71 rfl ?_
    refine g_if_eq C 83 dX1_wanted_72 (by decide) (b2_r _) (fun h72 => ?_) (fun h72 => ?_)
    · refine g_iconst C dX1_wanted_83 ?_
      exact g_zret C _ (show _ = b2 (wnt 3 p q) from by cases p <;> cases q <;> first | rfl | (exact absurd rfl h72) | (exact absurd h72 (by decide)) | (exact absurd rfl h76) | (exact absurd h76 (by decide))) rfl ⟨_, rfl, rfl, rfl⟩ dX1_wanted_84
    · refine g_iload_n C dX1_wanted_75 rfl ?_
      refine g_if_eq C 83 dX1_wanted_76 (by decide) (b2_r _) (fun h76 => ?_) (fun h76 => ?_)
      · refine g_iconst C dX1_wanted_83 ?_
        exact g_zret C _ (show _ = b2 (wnt 3 p q) from by cases p <;> cases q <;> first | rfl | (exact absurd rfl h72) | (exact absurd h72 (by decide)) | (exact absurd rfl h76) | (exact absurd h76 (by decide))) rfl ⟨_, rfl, rfl, rfl⟩ dX1_wanted_84
      · refine g_iconst C dX1_wanted_79 ?_
        refine g_goto C 84 dX1_wanted_80 (by decide) ?_
        exact g_zret C _ (show _ = b2 (wnt 3 p q) from by cases p <;> cases q <;> first | rfl | (exact absurd rfl h72) | (exact absurd h72 (by decide)) | (exact absurd rfl h76) | (exact absurd h76 (by decide))) rfl ⟨_, rfl, rfl, rfl⟩ dX1_wanted_84
  · refine g_tabOut C 85 dX1_wanted_1 (by decide) (by decide) rfl ?_
    refine g_iload_n C dX1_wanted_85 rfl ?_
    refine g_if_ne C 97 dX1_wanted_86 (by decide) (b2_r _) (fun h86 => ?_) (fun h86 => ?_)
    · refine g_iconst C dX1_wanted_97 ?_
      exact g_zret C _ (show _ = b2 (wnt 4 p q) from by cases p <;> cases q <;> first | rfl | (exact absurd rfl h86) | (exact absurd h86 (by decide)) | (exact absurd rfl h90) | (exact absurd h90 (by decide))) rfl ⟨_, rfl, rfl, rfl⟩ dX1_wanted_98
    · refine g_iload_n C dX1_wanted_89 rfl ?_
      refine g_if_ne C 97 dX1_wanted_90 (by decide) (b2_r _) (fun h90 => ?_) (fun h90 => ?_)
      · refine g_iconst C dX1_wanted_97 ?_
        exact g_zret C _ (show _ = b2 (wnt 4 p q) from by cases p <;> cases q <;> first | rfl | (exact absurd rfl h86) | (exact absurd h86 (by decide)) | (exact absurd rfl h90) | (exact absurd h90 (by decide))) rfl ⟨_, rfl, rfl, rfl⟩ dX1_wanted_98
      · refine g_iconst C dX1_wanted_93 ?_
        refine g_goto C 98 dX1_wanted_94 (by decide) ?_
        exact g_zret C _ (show _ = b2 (wnt 4 p q) from by cases p <;> cases q <;> first | rfl | (exact absurd rfl h86) | (exact absurd h86 (by decide)) | (exact absurd rfl h90) | (exact absurd h90 (by decide))) rfl ⟨_, rfl, rfl, rfl⟩ dX1_wanted_98
def prQ (x y : Int) : Int := 201 * (if x < 0 then 200 else x) + (if y < 0 then 200 else y)
theorem cO_pair {Z : Zk} {wr : va_W} {x y : Int} (x0 : -1 ≤ x) (x1 : x < 200) (y0 : -1 ≤ y) (y1 : y < 200) : Ct Z yX1_pair hX1_pair 1 60 [vI x, vI y] wr 0 0 (Ri fun r w => r = prQ x y ∧ w = wr) := by
  refine Ct.of RX1 "pair" (by decide +kernel) rfl rfl hkX1_pair (Nat.le_of_ble_eq_true rfl) (fun X hZ C => ?_)
  subst hZ
  refine g_sipush C dX1_pair_0 (by decide) ?_
  refine g_iload_n C dX1_pair_3 rfl ?_
  refine g_if_ge C 13 dX1_pair_4 (by decide) (by omega) (fun h4 => ?_) (fun h4 => ?_)
  · refine g_iload_n C dX1_pair_13 rfl ?_
    refine g_imul C dX1_pair_14 ?_
    refine g_iload_n C dX1_pair_15 rfl ?_
    refine g_if_ge C 25 dX1_pair_16 (by decide) (by omega) (fun h16 => ?_) (fun h16 => ?_)
    · refine g_iload_n C dX1_pair_25 rfl ?_
      refine g_iadd C dX1_pair_26 ?_
      exact g_iret C rfl ⟨_, rfl, (by unfold prQ; first | (rw [if_pos (by omega), if_pos (by omega)]) | (rw [if_pos (by omega), if_neg (by omega)]) | (rw [if_neg (by omega), if_pos (by omega)]) | (rw [if_neg (by omega), if_neg (by omega)])), rfl⟩ dX1_pair_27
    · refine g_sipush C dX1_pair_19 (by decide) ?_
      refine g_goto C 26 dX1_pair_22 (by decide) ?_
      refine g_iadd C dX1_pair_26 ?_
      exact g_iret C rfl ⟨_, rfl, (by unfold prQ; first | (rw [if_pos (by omega), if_pos (by omega)]) | (rw [if_pos (by omega), if_neg (by omega)]) | (rw [if_neg (by omega), if_pos (by omega)]) | (rw [if_neg (by omega), if_neg (by omega)])), rfl⟩ dX1_pair_27
  · refine g_sipush C dX1_pair_7 (by decide) ?_
    refine g_goto C 14 dX1_pair_10 (by decide) ?_
    refine g_imul C dX1_pair_14 ?_
    refine g_iload_n C dX1_pair_15 rfl ?_
    refine g_if_ge C 25 dX1_pair_16 (by decide) (by omega) (fun h16 => ?_) (fun h16 => ?_)
    · refine g_iload_n C dX1_pair_25 rfl ?_
      refine g_iadd C dX1_pair_26 ?_
      exact g_iret C rfl ⟨_, rfl, (by unfold prQ; first | (rw [if_pos (by omega), if_pos (by omega)]) | (rw [if_pos (by omega), if_neg (by omega)]) | (rw [if_neg (by omega), if_pos (by omega)]) | (rw [if_neg (by omega), if_neg (by omega)])), rfl⟩ dX1_pair_27
    · refine g_sipush C dX1_pair_19 (by decide) ?_
      refine g_goto C 26 dX1_pair_22 (by decide) ?_
      refine g_iadd C dX1_pair_26 ?_
      exact g_iret C rfl ⟨_, rfl, (by unfold prQ; first | (rw [if_pos (by omega), if_pos (by omega)]) | (rw [if_pos (by omega), if_neg (by omega)]) | (rw [if_neg (by omega), if_pos (by omega)]) | (rw [if_neg (by omega), if_neg (by omega)])), rfl⟩ dX1_pair_27
/-- four bytes of a number -/
def fdO (v k : Int) : Int := i2b (i2b (iushr v k))
def put4 (g : Int → Int → Int) (tape : Int → Int) (t v : Int) : Int → Int := up (up (up (up tape t (g v 24)) (t + 1) (g v 16)) (t + 1 + 1) (g v 8)) (t + 1 + 1 + 1) (g v 0)
theorem cO_put {Z : Zk} {wr : va_W} {a : Nat → Nat} {tape : Int → Int} {rf : Nat} {rs : Nat} {rp : Nat} {seen : Int → Bool} {queue : Int → Int} {before : Int → Int} {by_ : Int → Int} {text : Int → Int} {ways : Int → Int64} {next : Int → Int64} {length : Int} {taped : Int} {place : Int} {v : Int} (h0 : 0 ≤ taped) (h1 : taped ≤ 2044) : Ct Z yX1_put hX1_put 1 60 [.ref (a 0), vI v] (wO Z a tape rf rs rp seen queue before by_ text ways next length taped place ++ wr) 0 0 (Rv fun w => w = wO Z a (put4 fdO tape taped v) rf rs rp seen queue before by_ text ways next length (taped + 4) place ++ wr) := by
  refine Ct.of RX1 "put" (by decide +kernel) rfl rfl hkX1_put (Nat.le_of_ble_eq_true rfl) (fun X hZ C => ?_)
  subst hZ
  have step : ∀ (tp : Int → Int) (t q : Int), 0 ≤ q → q ≤ 24 → 0 ≤ t → t < 2048 → G X 3 0 0 (wO X.Z a (up tp t (fdO v q)) rf rs rp seen queue before by_ text ways next length (t + 1) place ++ wr) 3 [(0, .ref (a 0)), (1, vI v), (2, vI (q - 8))] [] → G X 3 0 0 (wO X.Z a tp rf rs rp seen queue before by_ text ways next length t place ++ wr) 3 [(0, .ref (a 0)), (1, vI v), (2, vI q)] [] := by
    intro tp t q q0 q1 t0 t1 hg
    refine g_iload_n C dX1_put_3 rfl ?_
    refine g_if_lt C 36 dX1_put_4 (by decide) (by omega) (fun h4 => ?_) (fun h4 => ?_)
    · exact absurd h4 (by omega)
    · refine g_aload_n C dX1_put_7 rfl ?_
      refine gO_tape C dX1_put_8 ?_
      refine g_aload_n C dX1_put_11 rfl ?_
      refine gO_taped C dX1_put_12 ?_
      refine g_iload_n C dX1_put_15 rfl ?_
      refine g_iload_n C dX1_put_16 rfl ?_
      refine g_iushr C dX1_put_17 ?_
      refine g_i2b C dX1_put_18 ?_
      refine sO_tape C (by omega) dX1_put_19 ?_
      refine g_aload_n C dX1_put_20 rfl ?_
      refine g_dup C dX1_put_21 rfl ?_
      refine gO_taped C dX1_put_22 ?_
      refine g_iconst C dX1_put_25 ?_
      refine g_iadd C dX1_put_26 ?_
      refine pO_taped C dX1_put_27 ?_
      refine g_iinc C dX1_put_30 rfl (by decide) ?_
      refine g_goto C 3 dX1_put_33 (by decide) ?_
      exact g_locR rfl hg
  refine g_bipush C dX1_put_0 (by decide) ?_
  refine g_istore_n C dX1_put_2 (by decide) ?_
  refine g_locR (L' := [(0, .ref (a 0)), (1, vI v), (2, vI 24)]) rfl ?_
  refine step _ _ 24 (by decide) (by decide) (by omega) (by omega) ?_
  refine step _ _ 16 (by decide) (by decide) (by omega) (by omega) ?_
  refine step _ _ 8 (by decide) (by decide) (by omega) (by omega) ?_
  refine step _ _ 0 (by decide) (by decide) (by omega) (by omega) ?_
  refine g_iload_n C dX1_put_3 rfl ?_
  refine g_if_lt C 36 dX1_put_4 (by decide) (by omega) (fun h4 => ?_) (fun h4 => ?_)
  · exact g_vret C rfl ⟨rfl, by unfold put4; rw [show taped + 1 + 1 + 1 + 1 = taped + 4 by omega]⟩ dX1_put_36
  · exact absurd (show (0 - 8 : Int) < 0 by decide) (by omega)
theorem cO_feed {Z : Zk} {wr : va_W} (hfl : Z.l.flags = pinnedFlags ++ [noTraceFlag]) {a : Nat → Nat} {tape : Int → Int} {rf : Nat} {rs : Nat} {rp : Nat} {seen : Int → Bool} {queue : Int → Int} {before : Int → Int} {by_ : Int → Int} {text : Int → Int} {ways : Int → Int64} {next : Int → Int64} {length : Int} {taped : Int} {place : Int} {p1 p2 p3 p4 p5 : Int} (h0 : 0 ≤ taped) (h1 : taped ≤ 2048) : Ct Z yX1_feed hX1_feed 7 160 [.ref (a 0), vI p1, vI p2, vI p3, vI p4, vI p5] (wO Z a tape rf rs rp seen queue before by_ text ways next length taped place ++ wr) 1 6 (Th (Ri fun r w => taped ≤ 2028 ∧ r = taped + 20 ∧ w = wO Z a (put4 fdO (put4 fdO (put4 fdO (put4 fdO (put4 fdO tape taped p1) (taped + 4) p2) (taped + 4 + 4) p3) (taped + 4 + 4 + 4) p4) (taped + 4 + 4 + 4 + 4) p5) rf rs rp seen queue before by_ text ways next length (taped + 20) place ++ wr) (fun x w => 2028 < taped ∧ ∃ fs, w = (wO Z a tape rf rs rp seen queue before by_ text ways next length taped place ++ wr) ++ [(x, eO 7 fs)])) := by
  refine Ct.of RX1 "feed" (by decide +kernel) rfl rfl hkX1_feed (Nat.le_of_ble_eq_true rfl) (fun X hZ C => ?_)
  subst hZ
  have main : taped ≤ 2028 → G X 6 1 6 (wO X.Z a tape rf rs rp seen queue before by_ text ways next length taped place ++ wr) 21 [(0, .ref (a 0)), (1, vI p1), (2, vI p2), (3, vI p3), (4, vI p4), (5, vI p5)] [] := by
    intro h2
    refine g_aload_n C dX1_feed_21 rfl ?_
    refine g_iload_n C dX1_feed_22 rfl ?_
    refine g_cVWv C [_] _ 0 cal_X1_73 (cO_put (by omega) (by omega)) rfl rfl rfl rfl (Nat.le_of_ble_eq_true rfl) (room_b rfl) dX1_feed_23 (fun w hw23 => ?_)
    subst hw23
    refine g_aload_n C dX1_feed_26 rfl ?_
    refine g_iload_n C dX1_feed_27 rfl ?_
    refine g_cVWv C [_] _ 0 cal_X1_73 (cO_put (by omega) (by omega)) rfl rfl rfl rfl (Nat.le_of_ble_eq_true rfl) (room_b rfl) dX1_feed_28 (fun w hw28 => ?_)
    subst hw28
    refine g_aload_n C dX1_feed_31 rfl ?_
    refine g_iload_n C dX1_feed_32 rfl ?_
    refine g_cVWv C [_] _ 0 cal_X1_73 (cO_put (by omega) (by omega)) rfl rfl rfl rfl (Nat.le_of_ble_eq_true rfl) (room_b rfl) dX1_feed_33 (fun w hw33 => ?_)
    subst hw33
    refine g_aload_n C dX1_feed_36 rfl ?_
    refine g_iload C dX1_feed_37 rfl ?_
    refine g_cVWv C [_] _ 0 cal_X1_73 (cO_put (by omega) (by omega)) rfl rfl rfl rfl (Nat.le_of_ble_eq_true rfl) (room_b rfl) dX1_feed_39 (fun w hw39 => ?_)
    subst hw39
    refine g_aload_n C dX1_feed_42 rfl ?_
    refine g_iload C dX1_feed_43 rfl ?_
    refine g_cVWv C [_] _ 0 cal_X1_73 (cO_put (by omega) (by omega)) rfl rfl rfl rfl (Nat.le_of_ble_eq_true rfl) (room_b rfl) dX1_feed_45 (fun w hw45 => ?_)
    subst hw45
    refine g_aload_n C dX1_feed_48 rfl ?_
    refine gO_taped C dX1_feed_49 ?_
    exact g_iret C rfl (Or.inl ⟨_, rfl, h2, by omega, by rw [show taped + 4 + 4 + 4 + 4 + 4 = taped + 20 by omega]⟩) dX1_feed_52
  refine g_aload_n C dX1_feed_0 rfl ?_
  refine gO_taped C dX1_feed_1 ?_
  refine g_bipush C dX1_feed_4 (by decide) ?_
  refine g_iadd C dX1_feed_6 ?_
  refine g_sipush C dX1_feed_7 (by decide) ?_
  refine g_icmp_gt C 17 dX1_feed_10 (by decide) (by omega) (fun h10 => ?_) (fun h10 => ?_)
  · refine g_iconst C dX1_feed_17 ?_
    refine g_top (show _ = b2 (decide (taped ≤ 2028)) from by first | (rw [decide_eq_true (show taped ≤ 2028 by omega)]; rfl) | (rw [decide_eq_false (show ¬ taped ≤ 2028 by omega)]; rfl)) ?_
    refine g_cSWvT C [_] _ cal_X1_69 (cO_room hfl) rfl rfl (Nat.le_of_ble_eq_true rfl) (room_b rfl) dX1_feed_18 (fun w hw18 => ?_) (fun x18 w hw18 => ?_)
    · obtain ⟨hy, rfl⟩ := hw18
      exact main (of_decide_eq_true hy)
      skip
    · obtain ⟨hy, fs, rfl⟩ := hw18
      exact gt_out C rfl (Or.inr ⟨_, rfl, by have := of_decide_eq_false hy; omega, _, rfl⟩)
  · refine g_iconst C dX1_feed_13 ?_
    refine g_goto C 18 dX1_feed_14 (by decide) ?_
    refine g_top (show _ = b2 (decide (taped ≤ 2028)) from by first | (rw [decide_eq_true (show taped ≤ 2028 by omega)]; rfl) | (rw [decide_eq_false (show ¬ taped ≤ 2028 by omega)]; rfl)) ?_
    refine g_cSWvT C [_] _ cal_X1_69 (cO_room hfl) rfl rfl (Nat.le_of_ble_eq_true rfl) (room_b rfl) dX1_feed_18 (fun w hw18 => ?_) (fun x18 w hw18 => ?_)
    · obtain ⟨hy, rfl⟩ := hw18
      exact main (of_decide_eq_true hy)
      skip
    · obtain ⟨hy, fs, rfl⟩ := hw18
      exact gt_out C rfl (Or.inr ⟨_, rfl, by have := of_decide_eq_false hy; omega, _, rfl⟩)
theorem cO_end {Z : Zk} {wr : va_W} (hfl : Z.l.flags = pinnedFlags ++ [noTraceFlag]) {a : Nat → Nat} {tape : Int → Int} {rf : Nat} {rs : Nat} {rp : Nat} {seen : Int → Bool} {queue : Int → Int} {before : Int → Int} {by_ : Int → Int} {text : Int → Int} {ways : Int → Int64} {next : Int → Int64} {length : Int} {taped : Int} {place : Int} {m : Int} (hm : inR m) (h0 : 0 ≤ taped) (h1 : taped ≤ 2048) : Ct Z yX1_end hX1_end 7 160 [.ref (a 0), vI m] (wO Z a tape rf rs rp seen queue before by_ text ways next length taped place ++ wr) 1 6 (Th (Ri fun r w => (0 ≤ m ∧ m ≤ taped) ∧ r = m ∧ w = wO Z a tape rf rs rp seen queue before by_ text ways next length m place ++ wr) (fun x w => ¬ (0 ≤ m ∧ m ≤ taped) ∧ ∃ fs, w = (wO Z a tape rf rs rp seen queue before by_ text ways next length taped place ++ wr) ++ [(x, eO 6 fs)])) := by
  refine Ct.of RX1 "end" (by decide +kernel) rfl rfl hkX1_end (Nat.le_of_ble_eq_true rfl) (fun X hZ C => ?_)
  subst hZ
  have main : (0 ≤ m ∧ m ≤ taped) → G X 2 1 6 (wO X.Z a tape rf rs rp seen queue before by_ text ways next length taped place ++ wr) 20 [(0, .ref (a 0)), (1, vI m)] [] := by
    intro h2
    refine g_aload_n C dX1_end_20 rfl ?_
    refine g_iload_n C dX1_end_21 rfl ?_
    refine pO_taped C dX1_end_22 ?_
    refine g_iload_n C dX1_end_25 rfl ?_
    exact g_iret C rfl (Or.inl ⟨_, rfl, h2, rfl, rfl⟩) dX1_end_26
  refine g_iload_n C dX1_end_0 rfl ?_
  refine g_if_lt C 16 dX1_end_1 (by decide) (by omega) (fun h1 => ?_) (fun h1 => ?_)
  · refine g_iconst C dX1_end_16 ?_
    refine g_top (show _ = b2 (decide (0 ≤ m ∧ m ≤ taped)) from by first | (rw [decide_eq_true (show 0 ≤ m ∧ m ≤ taped by omega)]; rfl) | (rw [decide_eq_false (show ¬ (0 ≤ m ∧ m ≤ taped) by omega)]; rfl)) ?_
    refine g_cSWvT C [_] _ cal_X1_77 (cO_in hfl) rfl rfl (Nat.le_of_ble_eq_true rfl) (room_b rfl) dX1_end_17 (fun w hw17 => ?_) (fun x17 w hw17 => ?_)
    · obtain ⟨hy, rfl⟩ := hw17
      exact main (of_decide_eq_true hy)
      skip
    · obtain ⟨hy, fs, rfl⟩ := hw17
      exact gt_out C rfl (Or.inr ⟨_, rfl, of_decide_eq_false hy, _, rfl⟩)
  · refine g_iload_n C dX1_end_4 rfl ?_
    refine g_aload_n C dX1_end_5 rfl ?_
    refine gO_taped C dX1_end_6 ?_
    refine g_icmp_gt C 16 dX1_end_9 (by decide) (by omega) (fun h9 => ?_) (fun h9 => ?_)
    · refine g_iconst C dX1_end_16 ?_
      refine g_top (show _ = b2 (decide (0 ≤ m ∧ m ≤ taped)) from by first | (rw [decide_eq_true (show 0 ≤ m ∧ m ≤ taped by omega)]; rfl) | (rw [decide_eq_false (show ¬ (0 ≤ m ∧ m ≤ taped) by omega)]; rfl)) ?_
      refine g_cSWvT C [_] _ cal_X1_77 (cO_in hfl) rfl rfl (Nat.le_of_ble_eq_true rfl) (room_b rfl) dX1_end_17 (fun w hw17 => ?_) (fun x17 w hw17 => ?_)
      · obtain ⟨hy, rfl⟩ := hw17
        exact main (of_decide_eq_true hy)
        skip
      · obtain ⟨hy, fs, rfl⟩ := hw17
        exact gt_out C rfl (Or.inr ⟨_, rfl, of_decide_eq_false hy, _, rfl⟩)
    · refine g_iconst C dX1_end_12 ?_
      refine g_goto C 17 dX1_end_13 (by decide) ?_
      refine g_top (show _ = b2 (decide (0 ≤ m ∧ m ≤ taped)) from by first | (rw [decide_eq_true (show 0 ≤ m ∧ m ≤ taped by omega)]; rfl) | (rw [decide_eq_false (show ¬ (0 ≤ m ∧ m ≤ taped) by omega)]; rfl)) ?_
      refine g_cSWvT C [_] _ cal_X1_77 (cO_in hfl) rfl rfl (Nat.le_of_ble_eq_true rfl) (room_b rfl) dX1_end_17 (fun w hw17 => ?_) (fun x17 w hw17 => ?_)
      · obtain ⟨hy, rfl⟩ := hw17
        exact main (of_decide_eq_true hy)
        skip
      · obtain ⟨hy, fs, rfl⟩ := hw17
        exact gt_out C rfl (Or.inr ⟨_, rfl, of_decide_eq_false hy, _, rfl⟩)
theorem cO_pattern {Z : Zk} {wr : va_W} (hfl : Z.l.flags = pinnedFlags ++ [noTraceFlag]) {a : Nat → Nat} {tape : Int → Int} {rf : Nat} {rs : Nat} {rp : Nat} {seen : Int → Bool} {queue : Int → Int} {before : Int → Int} {by_ : Int → Int} {text : Int → Int} {ways : Int → Int64} {next : Int → Int64} {length : Int} {taped : Int} {place : Int} {which : Int} (hm : inR which) : Ct Z yX1_pattern hX1_pattern 7 160 [.ref (a 0), vI which] (wO Z a tape rf rs rp seen queue before by_ text ways next length taped place ++ wr) 1 6 (Th (Rr fun r w => (which = 0 ∨ which = 1) ∧ r = (if which = 0 then rf else rs) ∧ w = wO Z a tape rf rs rp seen queue before by_ text ways next length taped place ++ wr) (fun x w => ¬ (which = 0 ∨ which = 1) ∧ ∃ fs, w = (wO Z a tape rf rs rp seen queue before by_ text ways next length taped place ++ wr) ++ [(x, eO 6 fs)])) := by
  refine Ct.of RX1 "pattern" (by decide +kernel) rfl rfl hkX1_pattern (Nat.le_of_ble_eq_true rfl) (fun X hZ C => ?_)
  subst hZ
  have main : (which = 0 ∨ which = 1) → G X 2 1 6 (wO X.Z a tape rf rs rp seen queue before by_ text ways next length taped place ++ wr) 17 [(0, .ref (a 0)), (1, vI which)] [] := by
    intro h2
    refine g_iload_n C dX1_pattern_17 rfl ?_
    refine g_if_ne C 28 dX1_pattern_18 (by decide) (by omega) (fun h18 => ?_) (fun h18 => ?_)
    · refine g_aload_n C dX1_pattern_28 rfl ?_
      refine gO_second C dX1_pattern_29 ?_
      exact g_aret C rfl (Or.inl ⟨_, rfl⟩) (Or.inl ⟨_, rfl, h2, by first | (rw [if_pos (by omega)]) | (rw [if_neg (by omega)]), rfl⟩) dX1_pattern_32
    · refine g_aload_n C dX1_pattern_21 rfl ?_
      refine gO_first C dX1_pattern_22 ?_
      refine g_goto C 32 dX1_pattern_25 (by decide) ?_
      exact g_aret C rfl (Or.inl ⟨_, rfl⟩) (Or.inl ⟨_, rfl, h2, by first | (rw [if_pos (by omega)]) | (rw [if_neg (by omega)]), rfl⟩) dX1_pattern_32
  refine g_iload_n C dX1_pattern_0 rfl ?_
  refine g_if_eq C 9 dX1_pattern_1 (by decide) (by omega) (fun h1 => ?_) (fun h1 => ?_)
  · refine g_iconst C dX1_pattern_9 ?_
    refine g_goto C 14 dX1_pattern_10 (by decide) ?_
    refine g_top (show _ = b2 (decide (which = 0 ∨ which = 1)) from by first | (rw [decide_eq_true (show which = 0 ∨ which = 1 by omega)]; rfl) | (rw [decide_eq_false (show ¬ (which = 0 ∨ which = 1) by omega)]; rfl)) ?_
    refine g_cSWvT C [_] _ cal_X1_77 (cO_in hfl) rfl rfl (Nat.le_of_ble_eq_true rfl) (room_b rfl) dX1_pattern_14 (fun w hw14 => ?_) (fun x14 w hw14 => ?_)
    · obtain ⟨hy, rfl⟩ := hw14
      exact main (of_decide_eq_true hy)
      skip
    · obtain ⟨hy, fs, rfl⟩ := hw14
      exact gt_out C rfl (Or.inr ⟨_, rfl, of_decide_eq_false hy, _, rfl⟩)
  · refine g_iload_n C dX1_pattern_4 rfl ?_
    refine g_iconst C dX1_pattern_5 ?_
    refine g_icmp_ne C 13 dX1_pattern_6 (by decide) (by omega) (fun h6 => ?_) (fun h6 => ?_)
    · refine g_iconst C dX1_pattern_13 ?_
      refine g_top (show _ = b2 (decide (which = 0 ∨ which = 1)) from by first | (rw [decide_eq_true (show which = 0 ∨ which = 1 by omega)]; rfl) | (rw [decide_eq_false (show ¬ (which = 0 ∨ which = 1) by omega)]; rfl)) ?_
      refine g_cSWvT C [_] _ cal_X1_77 (cO_in hfl) rfl rfl (Nat.le_of_ble_eq_true rfl) (room_b rfl) dX1_pattern_14 (fun w hw14 => ?_) (fun x14 w hw14 => ?_)
      · obtain ⟨hy, rfl⟩ := hw14
        exact main (of_decide_eq_true hy)
        skip
      · obtain ⟨hy, fs, rfl⟩ := hw14
        exact gt_out C rfl (Or.inr ⟨_, rfl, of_decide_eq_false hy, _, rfl⟩)
    · refine g_iconst C dX1_pattern_9 ?_
      refine g_goto C 14 dX1_pattern_10 (by decide) ?_
      refine g_top (show _ = b2 (decide (which = 0 ∨ which = 1)) from by first | (rw [decide_eq_true (show which = 0 ∨ which = 1 by omega)]; rfl) | (rw [decide_eq_false (show ¬ (which = 0 ∨ which = 1) by omega)]; rfl)) ?_
      refine g_cSWvT C [_] _ cal_X1_77 (cO_in hfl) rfl rfl (Nat.le_of_ble_eq_true rfl) (room_b rfl) dX1_pattern_14 (fun w hw14 => ?_) (fun x14 w hw14 => ?_)
      · obtain ⟨hy, rfl⟩ := hw14
        exact main (of_decide_eq_true hy)
        skip
      · obtain ⟨hy, fs, rfl⟩ := hw14
        exact gt_out C rfl (Or.inr ⟨_, rfl, of_decide_eq_false hy, _, rfl⟩)
theorem cO_octet {Z : Zk} {wr : va_W} (hfl : Z.l.flags = pinnedFlags ++ [noTraceFlag]) {a : Nat → Nat} {tape : Int → Int} {rf : Nat} {rs : Nat} {rp : Nat} {seen : Int → Bool} {queue : Int → Int} {before : Int → Int} {by_ : Int → Int} {text : Int → Int} {ways : Int → Int64} {next : Int → Int64} {length : Int} {taped : Int} {place : Int} {i : Int} (hm : inR i) (h0 : 0 ≤ length) (h1 : length ≤ 40402) : Ct Z yX1_octet hX1_octet 6 160 [.ref (a 0), vI i] (wO Z a tape rf rs rp seen queue before by_ text ways next length taped place ++ wr) 1 6 (Th (Ri fun r w => (0 ≤ i ∧ i < length) ∧ r = text i ∧ w = wO Z a tape rf rs rp seen queue before by_ text ways next length taped place ++ wr) (fun x w => ¬ (0 ≤ i ∧ i < length) ∧ ∃ fs, w = (wO Z a tape rf rs rp seen queue before by_ text ways next length taped place ++ wr) ++ [(x, eO 9 fs)])) := by
  refine Ct.of RX1 "octet" (by decide +kernel) rfl rfl hkX1_octet (Nat.le_of_ble_eq_true rfl) (fun X hZ C => ?_)
  subst hZ
  refine g_iload_n C dX1_octet_0 rfl ?_
  refine g_if_lt C 12 dX1_octet_1 (by decide) (by omega) (fun h1 => ?_) (fun h1 => ?_)
  · refine g_thrJ16 C hfl dX1_octet_12 dX1_octet_15 dX1_octet_16 ⟨(Nat.le_of_ble_eq_true rfl), (Nat.le_of_ble_eq_true rfl)⟩ ⟨(Nat.le_of_ble_eq_true rfl), (Nat.le_of_ble_eq_true rfl)⟩ (fun q fs => ?_)
    refine g_athrow C dX1_octet_19 ?_
    exact gt_out C rfl (Or.inr ⟨_, rfl, by omega, _, rfl⟩)
  · refine g_iload_n C dX1_octet_4 rfl ?_
    refine g_aload_n C dX1_octet_5 rfl ?_
    refine gO_length C dX1_octet_6 ?_
    refine g_icmp_lt C 20 dX1_octet_9 (by decide) (by omega) (fun h9 => ?_) (fun h9 => ?_)
    · refine g_widen (k' := 1) (n' := 6) (by decide) (by decide) ?_
      refine g_aload_n C dX1_octet_20 rfl ?_
      refine gO_text C dX1_octet_21 ?_
      refine g_iload_n C dX1_octet_24 rfl ?_
      refine lO_text C (by omega) dX1_octet_25 ?_
      exact g_iret C rfl (Or.inl ⟨_, rfl, by omega, rfl, rfl⟩) dX1_octet_26
    · refine g_thrJ16 C hfl dX1_octet_12 dX1_octet_15 dX1_octet_16 ⟨(Nat.le_of_ble_eq_true rfl), (Nat.le_of_ble_eq_true rfl)⟩ ⟨(Nat.le_of_ble_eq_true rfl), (Nat.le_of_ble_eq_true rfl)⟩ (fun q fs => ?_)
      refine g_athrow C dX1_octet_19 ?_
      exact gt_out C rfl (Or.inr ⟨_, rfl, by omega, _, rfl⟩)
