/-! Automaton: the small methods, gather -/
theorem cA_states {Z : Zk} {wr : va_W} {a : Nat → Nat} {pa : Nat} {sets : Int → Int64} {moves : Int → Int} {accepts : Int → Int} {heads : Int → Int} {chain : Int → Int} {groups : Int → Int} {news : Int → Int} {lives : Int → Bool} {cnt : Int} {table : Int → Int} {tells : Int → Int} {states : Int} {strt : Int} : Ct Z yX5_states hX5_states 1 20 [.ref (a 0)] (wA Z a pa sets moves accepts heads chain groups news lives cnt table tells states strt ++ wr) 0 0 (Ri fun r w => r = states ∧ w = wA Z a pa sets moves accepts heads chain groups news lives cnt table tells states strt ++ wr) := by
  refine Ct.of RX5 "states" (by decide +kernel) rfl rfl hkX5_states (Nat.le_of_ble_eq_true rfl) (fun X hZ C => ?_)
  subst hZ
  refine g_aload_n C dX5_states_0 rfl ?_
  refine gA_states C dX5_states_1 ?_
  exact g_iret C rfl ⟨_, rfl, rfl, rfl⟩ dX5_states_4
theorem cA_start {Z : Zk} {wr : va_W} {a : Nat → Nat} {pa : Nat} {sets : Int → Int64} {moves : Int → Int} {accepts : Int → Int} {heads : Int → Int} {chain : Int → Int} {groups : Int → Int} {news : Int → Int} {lives : Int → Bool} {cnt : Int} {table : Int → Int} {tells : Int → Int} {states : Int} {strt : Int} : Ct Z yX5_start hX5_start 1 20 [.ref (a 0)] (wA Z a pa sets moves accepts heads chain groups news lives cnt table tells states strt ++ wr) 0 0 (Ri fun r w => r = strt ∧ w = wA Z a pa sets moves accepts heads chain groups news lives cnt table tells states strt ++ wr) := by
  refine Ct.of RX5 "start" (by decide +kernel) rfl rfl hkX5_start (Nat.le_of_ble_eq_true rfl) (fun X hZ C => ?_)
  subst hZ
  refine g_aload_n C dX5_start_0 rfl ?_
  refine gA_start C dX5_start_1 ?_
  exact g_iret C rfl ⟨_, rfl, rfl, rfl⟩ dX5_start_4
theorem cA_move {Z : Zk} {wr : va_W} {a : Nat → Nat} {pa : Nat} {sets : Int → Int64} {moves : Int → Int} {accepts : Int → Int} {heads : Int → Int} {chain : Int → Int} {groups : Int → Int} {news : Int → Int} {lives : Int → Bool} {cnt : Int} {table : Int → Int} {tells : Int → Int} {states : Int} {strt : Int} {s b : Int} (hs0 : 0 ≤ s) (hs1 : s < 200) (hb0 : 0 ≤ b) (hb1 : b < 128) : Ct Z yX5_move hX5_move 1 20 [.ref (a 0), vI s, vI b] (wA Z a pa sets moves accepts heads chain groups news lives cnt table tells states strt ++ wr) 0 0 (Ri fun r w => r = table (128 * s + b) ∧ w = wA Z a pa sets moves accepts heads chain groups news lives cnt table tells states strt ++ wr) := by
  refine Ct.of RX5 "move" (by decide +kernel) rfl rfl hkX5_move (Nat.le_of_ble_eq_true rfl) (fun X hZ C => ?_)
  subst hZ
  refine g_aload_n C dX5_move_0 rfl ?_
  refine gA_table C dX5_move_1 ?_
  refine g_sipush C dX5_move_4 (by decide) ?_
  refine g_iload_n C dX5_move_7 rfl ?_
  refine g_imul C dX5_move_8 ?_
  refine g_iload_n C dX5_move_9 rfl ?_
  refine g_iadd C dX5_move_10 ?_
  refine lA_table C (by omega) dX5_move_11 ?_
  exact g_iret C rfl ⟨_, rfl, rfl, rfl⟩ dX5_move_12
theorem cA_tells {Z : Zk} {wr : va_W} {a : Nat → Nat} {pa : Nat} {sets : Int → Int64} {moves : Int → Int} {accepts : Int → Int} {heads : Int → Int} {chain : Int → Int} {groups : Int → Int} {news : Int → Int} {lives : Int → Bool} {cnt : Int} {table : Int → Int} {tells : Int → Int} {states : Int} {strt : Int} {s : Int} (hs0 : 0 ≤ s) (hs1 : s < 200) : Ct Z yX5_tells hX5_tells 1 20 [.ref (a 0), vI s] (wA Z a pa sets moves accepts heads chain groups news lives cnt table tells states strt ++ wr) 0 0 (Ri fun r w => r = tells s ∧ w = wA Z a pa sets moves accepts heads chain groups news lives cnt table tells states strt ++ wr) := by
  refine Ct.of RX5 "tells" (by decide +kernel) rfl rfl hkX5_tells (Nat.le_of_ble_eq_true rfl) (fun X hZ C => ?_)
  subst hZ
  refine g_aload_n C dX5_tells_0 rfl ?_
  refine gA_tells C dX5_tells_1 ?_
  refine g_iload_n C dX5_tells_4 rfl ?_
  refine lA_tells C (by omega) dX5_tells_5 ?_
  exact g_iret C rfl ⟨_, rfl, rfl, rfl⟩ dX5_tells_6
/-- what gather has done, where D says which places were handled -/
def GatQ (sets row : Int → Int64) (low high : Int → Int64) (frm to b : Int) (D : Int → Bool) (sets1 : Int → Int64) : Prop := (∀ j, j < to ∨ to + 7 ≤ j → sets1 j = sets j) ∧ ∀ p, 0 ≤ p → p < 448 → hasB sets1 to p = (hasB sets to p || (hasB row frm p && (tkB low high p b && D p)))
theorem GatQ.congr {sets row : Int → Int64} {low high : Int → Int64} {frm to b : Int} {D D' : Int → Bool} {sets1 : Int → Int64} (h : GatQ sets row low high frm to b D sets1) (e : ∀ p, 0 ≤ p → p < 448 → hasB row frm p = true → D p = D' p) : GatQ sets row low high frm to b D' sets1 := by
  refine ⟨h.1, fun p p0 p1 => ?_⟩
  rw [h.2 p p0 p1]
  cases hb : hasB row frm p with
  | false => rfl
  | true => rw [e p p0 p1 hb]
theorem GatQ.set {sets row : Int → Int64} {low high : Int → Int64} {frm to b : Int} {D : Int → Bool} {sets1 : Int → Int64} {q : Int} (h : GatQ sets row low high frm to b D sets1) (q0 : 0 ≤ q) (q1 : q < 448) (hr : hasB row frm q = true) (ht : tkB low high q b = true) : GatQ sets row low high frm to b (fun p => D p || decide (q = p)) (up sets1 (to + q / 64) (sets1 (to + q / 64) ||| lshl 1 (q % 64))) := by
  refine ⟨fun j hj => ?_, fun p p0 p1 => ?_⟩
  · rw [up_ne _ _ (by omega)]; exact h.1 j hj
  · rw [hasB_set (f := sets1) q0 q1 p0 p1 (fun m => by unfold up; by_cases e : m = to + q / 64 <;> simp [e]), h.2 p p0 p1]
    by_cases e : q = p
    · subst e; simp [hr, ht]
    · simp [e]
theorem GatQ.not {sets row : Int → Int64} {low high : Int → Int64} {frm to b : Int} {D : Int → Bool} {sets1 : Int → Int64} {q : Int} (h : GatQ sets row low high frm to b D sets1) (ht : tkB low high q b = false) : GatQ sets row low high frm to b (fun p => D p || decide (q = p)) sets1 := by
  refine ⟨h.1, fun p p0 p1 => ?_⟩
  rw [h.2 p p0 p1]
  by_cases e : q = p
  · subst e; simp [ht]
  · simp [e]
def dn (k : Int) (left : Int64) : Int → Bool := fun p => decide (p < 64 * k) || (decide (p / 64 = k) && !bt left (p % 64))
theorem dn_clr {k i : Int} {left : Int64} (i0 : 0 ≤ i) (i1 : i < 64) (h : bt left i = true) (p : Int) : (dn k left p || decide (64 * k + i = p)) = dn k (left ^^^ lshl 1 i) p := by
  unfold dn
  rw [bt_clr i0 i1 (by omega) (by omega) h]
  by_cases e : 64 * k + i = p
  · subst e
    have e1 : (64 * k + i) / 64 = k := by omega
    have e2 : (64 * k + i) % 64 = i := by omega
    simp [e1, e2]
  · by_cases q : p / 64 = k
    · have : p % 64 ≠ i := by omega
      simp [e, q, this]
    · simp [e, q]
theorem dn_0 {k p : Int} : dn k 0 p = decide (p < 64 * (k + 1)) := by
  unfold dn
  rw [bt_0]
  by_cases q : p < 64 * k
  · have : p < 64 * (k + 1) := by omega
    simp [q, this]
  · by_cases e : p / 64 = k
    · have : p < 64 * (k + 1) := by omega
      simp [e, this]
    · have : ¬ p < 64 * (k + 1) := by omega
      simp [q, e, this]
theorem dn_full {k frm p : Int} {row : Int → Int64} (h : hasB row frm p = true) : dn k (row (frm + k)) p = decide (p < 64 * k) := by
  unfold dn
  by_cases e : p / 64 = k
  · unfold hasB at h
    rw [e] at h
    simp [e, h]
  · simp [e]
theorem cA_gather {Z : Zk} {wr : va_W} {a : Nat → Nat} {sets : Int → Int64} {moves : Int → Int} {accepts : Int → Int} {heads : Int → Int} {chain : Int → Int} {groups : Int → Int} {news : Int → Int} {lives : Int → Bool} {cnt : Int} {table : Int → Int} {tells : Int → Int} {states : Int} {strt : Int} {tx : Value} {len : Int} {wrong : Int} {low : Int → Int64} {high : Int → Int64} {owners : Int → Int} {follows : Int → Int64} {isLast : Int → Bool} {start : Int → Int64} {places : Int} {count : Int} {empty : Int → Bool} {firsts : Int → Int64} {lasts : Int → Int64} {top : Int} {opn : Int} {cur : Int} {ap : Nat → Nat} {r N q : Nat} {row : Int → Int64} {frm b to : Int} (hq : ∀ sets, (wA Z a (ap 0) sets moves accepts heads chain groups news lives cnt table tells states strt ++ (wP Z ap tx len wrong low high owners follows isLast start places count empty firsts lasts top opn cur ++ wr))[q]? = some (r, eJ Z N row)) (hf0 : 0 ≤ frm) (hf1 : frm + 7 ≤ N) (hN : N < 2147483648) (hb0 : 0 ≤ b) (hb1 : b < 128) (ht0 : 0 ≤ to) (ht1 : to + 7 ≤ 2814) (hrow : ∀ p, 0 ≤ p → p < 448 → hasB row frm p = true → p < 400) :
    Ct Z yX5_gather hX5_gather 3 90 [.ref (a 0), .ref r, vI frm, vI b, vI to] (wA Z a (ap 0) sets moves accepts heads chain groups news lives cnt table tells states strt ++ (wP Z ap tx len wrong low high owners follows isLast start places count empty firsts lasts top opn cur ++ wr)) 0 0 (Rv fun w => ∃ sets1, GatQ sets row low high frm to b (fun _ => true) sets1 ∧ w = wA Z a (ap 0) sets1 moves accepts heads chain groups news lives cnt table tells states strt ++ (wP Z ap tx len wrong low high owners follows isLast start places count empty firsts lasts top opn cur ++ wr)) := by
  refine Ct.of RX5 "gather" (by decide +kernel) rfl rfl hkX5_gather (Nat.le_of_ble_eq_true rfl) (fun X hZ C => ?_)
  subst hZ
  have lp := loopZ (fun k => ∀ sets1, GatQ sets row low high frm to b (fun p => decide (p < 64 * k)) sets1 → G X 9 0 0 (wA X.Z a (ap 0) sets1 moves accepts heads chain groups news lives cnt table tells states strt ++ (wP X.Z ap tx len wrong low high owners follows isLast start places count empty firsts lasts top opn cur ++ wr)) 3 [(0, .ref (a 0)), (1, .ref r), (2, vI frm), (3, vI b), (4, vI to), (5, vI k)] []) 0 7 (by omega) (fun sets1 hg => ?_) (fun k hk0 hk1 ih sets1 hg => ?_)
  · show G _ _ _ _ _ _ _ _
    refine g_iconst C dX5_gather_0 ?_
    refine g_istore C dX5_gather_1 (by decide) ?_
    exact g_locR rfl (lp sets ⟨fun _ _ => rfl, fun p p0 p1 => by simp; intro _ _ h9; omega⟩)
  · show G _ _ _ _ _ _ _ _
    refine g_iload C dX5_gather_3 rfl ?_
    refine g_bipush C dX5_gather_5 (by decide) ?_
    refine g_icmp_ge C 95 dX5_gather_7 (by decide) (by omega) (fun h7 => ?_) (fun h7 => ?_)
    · exact g_vret C rfl ⟨rfl, _, hg.congr (fun p p0 p1 _ => by simp; omega), rfl⟩ dX5_gather_95
    · exact absurd h7 (by omega)
  · show G _ _ _ _ _ _ _ _
    have ilp : ∀ (n : Nat) (left : Int64) (sets1 : Int → Int64), pop left < n → (∀ i, 0 ≤ i → i < 64 → bt left i = true → bt (row (frm + k)) i = true) → GatQ sets row low high frm to b (dn k left) sets1 → G X 9 0 0 (wA X.Z a (ap 0) sets1 moves accepts heads chain groups news lives cnt table tells states strt ++ (wP X.Z ap tx len wrong low high owners follows isLast start places count empty firsts lasts top opn cur ++ wr)) 18 [(0, .ref (a 0)), (1, .ref r), (2, vI frm), (3, vI b), (4, vI to), (5, vI k), (6, .long left)] [] := by
      intro n
      induction n with
      | zero => intro left sets1 h; omega
      | succ n ihn =>
        intro left sets1 hp hsub hg
        refine g_lload C dX5_gather_18 rfl ?_
        refine g_lconst C 0 dX5_gather_20 rfl ?_
        refine g_lcmp C dX5_gather_21 ?_
        refine g_if_eq C 89 dX5_gather_22 (by decide) (lcmp_r _ _) (fun h22 => ?_) (fun h22 => ?_)
        · have hl0 : left = 0 := (lcmp_0 _ _).mp h22
          subst hl0
          refine g_iinc C dX5_gather_89 rfl (by decide) ?_
          refine g_goto C 3 dX5_gather_92 (by decide) ?_
          exact g_locR rfl (ih sets1 (hg.congr (fun p p0 p1 _ => dn_0)))
        · have hl0 : left ≠ 0 := fun e => h22 ((lcmp_0 _ _).mpr e)
          refine g_bipush C dX5_gather_25 (by decide) ?_
          refine g_iload C dX5_gather_27 rfl ?_
          refine g_imul C dX5_gather_29 ?_
          refine g_bipush C dX5_gather_30 (by decide) ?_
          refine g_iadd C dX5_gather_32 ?_
          refine g_lload C dX5_gather_33 rfl ?_
          refine g_cSPi C [_] _ [] cal_X5_75 (cJ_nlz hl0) (by decide) rfl rfl rfl (Nat.le_of_ble_eq_true rfl) (room_b rfl) dX5_gather_35 (fun r35 hw35 => ?_)
          obtain ⟨r0, r1, hbit⟩ := hw35
          have e1 : (64 * k + 63 - r35) / 64 = k := by omega
          have e2 : (64 * k + 63 - r35) % 64 = 63 - r35 := by omega
          have e3 : 64 * k + (63 - r35) = 64 * k + 63 - r35 := by omega
          have hrq : hasB row frm (64 * k + 63 - r35) = true := by unfold hasB; rw [e1, e2]; exact hsub _ (by omega) (by omega) hbit
          have hp4 := hrow _ (by omega) (by omega) hrq
          refine g_isub C dX5_gather_38 ?_
          refine g_istore C dX5_gather_39 (by decide) ?_
          refine g_lload C dX5_gather_41 rfl ?_
          refine g_lconst C 1 dX5_gather_43 rfl ?_
          refine g_iload C dX5_gather_44 rfl ?_
          refine g_bipush C dX5_gather_46 (by decide) ?_
          refine g_irem C dX5_gather_48 (by omega) ?_
          rw [e2]
          refine g_lshl C dX5_gather_49 ?_
          refine g_lxor C dX5_gather_50 ?_
          refine g_lstore C dX5_gather_51 (by decide) ?_
          refine g_aload_n C dX5_gather_53 rfl ?_
          refine gA_patterns C dX5_gather_54 ?_
          refine g_iload C dX5_gather_57 rfl ?_
          refine g_iload_n C dX5_gather_59 rfl ?_
          refine g_cVPz C [_, _] _ 11 [11, 12, 13, 14, 15, 16, 17, 18, 19, 20, 21] cal_X5_88 (cP_takes (wr := []) (by omega) hp4 hb0 hb1) rfl rfl (by decide) rfl rfl rfl (Nat.le_of_ble_eq_true rfl) (room_b rfl) dX5_gather_60 (fun r60 hw60 => ?_)
          have hpop := pop_clr (by omega) (by omega) hbit
          have hsub2 : ∀ i, 0 ≤ i → i < 64 → bt (left ^^^ lshl 1 (63 - r35)) i = true → bt (row (frm + k)) i = true := fun i i0 i1 hi => hsub i i0 i1 (by rw [bt_clr (by omega) (by omega) i0 i1 hbit] at hi; simp at hi; exact hi.1)
          refine g_if_eq C 86 dX5_gather_63 (by decide) (b2_r _) (fun h63 => ?_) (fun h63 => ?_)
          · have htk : tkB low high (64 * k + 63 - r35) b = false := by rw [← hw60]; exact (b2_0 _).mp h63
            refine g_goto C 18 dX5_gather_86 (by decide) ?_
            first | exact g_locR rfl (ihn _ _ (by omega) hsub2 ((hg.not htk).congr (fun p p0 p1 _ => by rw [← e3]; exact dn_clr (by omega) (by omega) hbit p))) | exact g_locR rfl (ihn _ _ (by omega) hsub2 (by have hs := (hg.set (by omega) (by omega) hrq htk).congr (D' := dn k (left ^^^ lshl 1 (63 - r35))) (fun p p0 p1 _ => by rw [← e3]; exact dn_clr (by omega) (by omega) hbit p); rw [e1] at hs; exact hs))
          · have htk : tkB low high (64 * k + 63 - r35) b = true := by rw [← hw60]; exact (b2_ne0 _).mp h63
            refine g_aload_n C dX5_gather_66 rfl ?_
            refine gA_sets C dX5_gather_67 ?_
            refine g_iload C dX5_gather_70 rfl ?_
            refine g_iload C dX5_gather_72 rfl ?_
            refine g_iadd C dX5_gather_74 ?_
            refine g_dup2_11 C dX5_gather_75 rfl rfl ?_
            refine lA_sets C (by omega) dX5_gather_76 ?_
            refine g_lconst C 1 dX5_gather_77 rfl ?_
            refine g_iload C dX5_gather_78 rfl ?_
            refine g_bipush C dX5_gather_80 (by decide) ?_
            refine g_irem C dX5_gather_82 (by omega) ?_
            refine g_lshl C dX5_gather_83 ?_
            refine g_lor C dX5_gather_84 ?_
            refine sA_sets C (by omega) dX5_gather_85 ?_
            refine g_goto C 18 dX5_gather_86 (by decide) ?_
            first | exact g_locR rfl (ihn _ _ (by omega) hsub2 ((hg.not htk).congr (fun p p0 p1 _ => by rw [← e3]; exact dn_clr (by omega) (by omega) hbit p))) | exact g_locR rfl (ihn _ _ (by omega) hsub2 (by have hs := (hg.set (by omega) (by omega) hrq htk).congr (D' := dn k (left ^^^ lshl 1 (63 - r35))) (fun p p0 p1 _ => by rw [← e3]; exact dn_clr (by omega) (by omega) hbit p); rw [e1] at hs; exact hs))
    refine g_iload C dX5_gather_3 rfl ?_
    refine g_bipush C dX5_gather_5 (by decide) ?_
    refine g_icmp_ge C 95 dX5_gather_7 (by decide) (by omega) (fun h7 => ?_) (fun h7 => ?_)
    · exact absurd h7 (by omega)
    · refine g_aload_n C dX5_gather_10 rfl ?_
      refine g_iload_n C dX5_gather_11 rfl ?_
      refine g_iload C dX5_gather_12 rfl ?_
      refine g_iadd C dX5_gather_14 ?_
      refine g_lald C q (hq _) (by omega) dX5_gather_15 ?_
      refine g_lstore C dX5_gather_16 (by decide) ?_
      exact g_locR rfl (ilp _ (row (frm + k)) sets1 (Nat.lt_succ_self _) (fun _ _ _ h => h) (hg.congr (fun p p0 p1 hp => (dn_full hp).symm)))
