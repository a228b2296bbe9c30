/-! Pattern: wrong, has, move, make -/
theorem cQ_wrong {Z : Zk} {wr : va_W} {aq aA ap : Nat → Nat} {isE : Bool} {sets : Int → Int64} {moves : Int → Int} {accepts : Int → Int} {heads : Int → Int} {chain : Int → Int} {groups : Int → Int} {news : Int → Int} {lives : Int → Bool} {cnt : Int} {table : Int → Int} {tells : Int → Int} {states : Int} {strt : Int} {tx : Value} {len : Int} {wrong : Int} {low : Int → Int64} {high : Int → Int64} {owners : Int → Int} {follows : Int → Int64} {isLast : Int → Bool} {start : Int → Int64} {places : Int} {count : Int} {empty : Int → Bool} {firsts : Int → Int64} {lasts : Int → Int64} {top : Int} {opn : Int} {cur : Int} : Ct Z yX2_wrong hX2_wrong 2 60 [.ref (aq 0)] (wQ Z aq (ap 0) (aA 0) isE ++ (wA Z aA (ap 0) sets moves accepts heads chain groups news lives cnt table tells states strt ++ (wP Z ap tx len wrong low high owners follows isLast start places count empty firsts lasts top opn cur ++ wr))) 0 0 (Ri fun r w => r = wrong ∧ w = wQ Z aq (ap 0) (aA 0) isE ++ (wA Z aA (ap 0) sets moves accepts heads chain groups news lives cnt table tells states strt ++ (wP Z ap tx len wrong low high owners follows isLast start places count empty firsts lasts top opn cur ++ wr))) := by
  refine Ct.of RX2 "wrong" (by decide +kernel) rfl rfl hkX2_wrong (Nat.le_of_ble_eq_true rfl) (fun X hZ C => ?_)
  subst hZ
  refine g_aload_n C dX2_wrong_0 rfl ?_
  refine gQ_patterns C dX2_wrong_1 ?_
  refine g_cVPi C [] _ 12 [12, 13, 14, 15, 16, 17, 18, 19, 20, 21, 22] cal_X2_42 (cP_wrong (wr := [])) rfl rfl (by decide) rfl rfl rfl (Nat.le_of_ble_eq_true rfl) (room_b rfl) dX2_wrong_4 (fun r4 hw4 => ?_)
  subst hw4
  exact g_iret C rfl ⟨_, rfl, rfl, rfl⟩ dX2_wrong_7
/-- what a state tells -/
def hasQ (isE : Bool) (tells : Int → Int) (s : Int) (st : Bool) : Bool := bif st then isE else decide (0 ≤ s) && decide (0 ≤ tells s)
theorem cQ_has {Z : Zk} {wr : va_W} {aq aA ap : Nat → Nat} {isE : Bool} {sets : Int → Int64} {moves : Int → Int} {accepts : Int → Int} {heads : Int → Int} {chain : Int → Int} {groups : Int → Int} {news : Int → Int} {lives : Int → Bool} {cnt : Int} {table : Int → Int} {tells : Int → Int} {states : Int} {strt : Int} {s : Int} {st : Bool} (hs0 : -1 ≤ s) (hs1 : s < 200) (ht : 0 ≤ s → inR (tells s)) : Ct Z yX2_has hX2_has 2 60 [.ref (aq 0), vI s, vI (b2 st)] (wQ Z aq (ap 0) (aA 0) isE ++ (wA Z aA (ap 0) sets moves accepts heads chain groups news lives cnt table tells states strt ++ wr)) 0 0 (Rz fun r w => r = hasQ isE tells s st ∧ w = wQ Z aq (ap 0) (aA 0) isE ++ (wA Z aA (ap 0) sets moves accepts heads chain groups news lives cnt table tells states strt ++ wr)) := by
  refine Ct.of RX2 "has" (by decide +kernel) rfl rfl hkX2_has (Nat.le_of_ble_eq_true rfl) (fun X hZ C => ?_)
  subst hZ
  have h2 := ht
  refine g_iload_n C dX2_has_0 rfl ?_
  refine g_if_eq C 11 dX2_has_1 (by decide) (b2_r _) (fun h1 => ?_) (fun h1 => ?_)
  · have hst := (b2_0 _).mp h1
    refine g_iload_n C dX2_has_11 rfl ?_
    refine g_if_lt C 30 dX2_has_12 (by decide) (by omega) (fun h12 => ?_) (fun h12 => ?_)
    · refine g_iconst C dX2_has_30 ?_
      exact g_zret C _ (show _ = b2 (hasQ isE tells s st) from by rw [hst]; unfold hasQ; first | rfl | (rw [decide_eq_true (show 0 ≤ s by omega), decide_eq_true (show 0 ≤ tells s by omega)]; rfl) | (rw [decide_eq_false (show ¬ 0 ≤ tells s by omega), Bool.and_false]; rfl) | (rw [decide_eq_false (show ¬ 0 ≤ s by omega)]; rfl)) rfl ⟨_, rfl, rfl, rfl⟩ dX2_has_31
    · refine g_aload_n C dX2_has_15 rfl ?_
      refine gQ_automaton C dX2_has_16 ?_
      refine g_iload_n C dX2_has_19 rfl ?_
      refine g_cVPi C [_] _ 1 [1, 2, 3, 4, 5, 6, 7, 8, 9, 10, 11] cal_X2_46 (cA_tells (wr := []) (by omega) hs1) rfl rfl (by decide) rfl rfl rfl (Nat.le_of_ble_eq_true rfl) (room_b rfl) dX2_has_20 (fun r20 hw20 => ?_)
      subst hw20
      refine g_if_lt C 30 dX2_has_23 (by decide) (by omega) (fun h23 => ?_) (fun h23 => ?_)
      · refine g_iconst C dX2_has_30 ?_
        exact g_zret C _ (show _ = b2 (hasQ isE tells s st) from by rw [hst]; unfold hasQ; first | rfl | (rw [decide_eq_true (show 0 ≤ s by omega), decide_eq_true (show 0 ≤ tells s by omega)]; rfl) | (rw [decide_eq_false (show ¬ 0 ≤ tells s by omega), Bool.and_false]; rfl) | (rw [decide_eq_false (show ¬ 0 ≤ s by omega)]; rfl)) rfl ⟨_, rfl, rfl, rfl⟩ dX2_has_31
      · refine g_iconst C dX2_has_26 ?_
        refine g_goto C 31 dX2_has_27 (by decide) ?_
        exact g_zret C _ (show _ = b2 (hasQ isE tells s st) from by rw [hst]; unfold hasQ; first | rfl | (rw [decide_eq_true (show 0 ≤ s by omega), decide_eq_true (show 0 ≤ tells s by omega)]; rfl) | (rw [decide_eq_false (show ¬ 0 ≤ tells s by omega), Bool.and_false]; rfl) | (rw [decide_eq_false (show ¬ 0 ≤ s by omega)]; rfl)) rfl ⟨_, rfl, rfl, rfl⟩ dX2_has_31
  · have hst := (b2_ne0 _).mp h1
    refine g_aload_n C dX2_has_4 rfl ?_
    refine gQ_isEmpty C dX2_has_5 ?_
    refine g_goto C 31 dX2_has_8 (by decide) ?_
    exact g_zret C _ (show _ = b2 (hasQ isE tells s st) from by rw [hst]; unfold hasQ; first | rfl | (rw [decide_eq_true (show 0 ≤ s by omega), decide_eq_true (show 0 ≤ tells s by omega)]; rfl) | (rw [decide_eq_false (show ¬ 0 ≤ tells s by omega), Bool.and_false]; rfl) | (rw [decide_eq_false (show ¬ 0 ≤ s by omega)]; rfl)) rfl ⟨_, rfl, rfl, rfl⟩ dX2_has_31
/-- the state to which one goes -/
def movQ (table : Int → Int) (s b : Int) : Int := if s < 0 then -1 else table (128 * s + b)
theorem cQ_move {Z : Zk} {wr : va_W} {aq aA ap : Nat → Nat} {isE : Bool} {sets : Int → Int64} {moves : Int → Int} {accepts : Int → Int} {heads : Int → Int} {chain : Int → Int} {groups : Int → Int} {news : Int → Int} {lives : Int → Bool} {cnt : Int} {table : Int → Int} {tells : Int → Int} {states : Int} {strt : Int} {s b : Int} (hs0 : -1 ≤ s) (hs1 : s < 200) (hb0 : 0 ≤ b) (hb1 : b < 128) : Ct Z yX2_move hX2_move 2 60 [.ref (aq 0), vI s, vI b] (wQ Z aq (ap 0) (aA 0) isE ++ (wA Z aA (ap 0) sets moves accepts heads chain groups news lives cnt table tells states strt ++ wr)) 0 0 (Ri fun r w => r = movQ table s b ∧ w = wQ Z aq (ap 0) (aA 0) isE ++ (wA Z aA (ap 0) sets moves accepts heads chain groups news lives cnt table tells states strt ++ wr)) := by
  refine Ct.of RX2 "move" (by decide +kernel) rfl rfl hkX2_move (Nat.le_of_ble_eq_true rfl) (fun X hZ C => ?_)
  subst hZ
  refine g_iload_n C dX2_move_0 rfl ?_
  refine g_if_ge C 8 dX2_move_1 (by decide) (by omega) (fun h1 => ?_) (fun h1 => ?_)
  · refine g_aload_n C dX2_move_8 rfl ?_
    refine gQ_automaton C dX2_move_9 ?_
    refine g_iload_n C dX2_move_12 rfl ?_
    refine g_iload_n C dX2_move_13 rfl ?_
    refine g_cVPi C [_, _] _ 1 [1, 2, 3, 4, 5, 6, 7, 8, 9, 10, 11] cal_X2_50 (cA_move (wr := []) (by omega) hs1 hb0 hb1) rfl rfl (by decide) rfl rfl rfl (Nat.le_of_ble_eq_true rfl) (room_b rfl) dX2_move_14 (fun r14 hw14 => ?_)
    subst hw14
    exact g_iret C rfl ⟨_, rfl, by unfold movQ; first | rw [if_neg (by omega)] | rw [if_pos (by omega)], rfl⟩ dX2_move_17
  · refine g_iconst C dX2_move_4 ?_
    refine g_goto C 17 dX2_move_5 (by decide) ?_
    exact g_iret C rfl ⟨_, rfl, by unfold movQ; first | rw [if_neg (by omega)] | rw [if_pos (by omega)], rfl⟩ dX2_move_17
theorem MkP.congr {tg : (Int → Int → Bool) → Int → Int → Int → Bool} {la la' : Int → Bool} {N : Int} {r : Bool} {table tells : Int → Int} {states strt : Int} (e : ∀ p, 0 ≤ p → p < N → la p = la' p) (h : MkP tg la N r table tells states strt) : MkP tg la' N r table tells states strt := by
  have q : ∀ e9 : Ex, accS la N e9 = accS la' N e9 := by
    intro e9
    funext s
    unfold accS
    rw [anyB_congr (fun p p0 p1 => by rw [e p p0 p1])]
  rcases h with ⟨h1, e9, h2, h3, h4⟩ | ⟨h1, h2 | ⟨e9, h2, h3, h4⟩⟩
  · exact Or.inl ⟨h1, e9, h2, h3, by rw [← q]; exact h4⟩
  · exact Or.inr ⟨h1, Or.inl h2⟩
  · exact Or.inr ⟨h1, Or.inr ⟨e9, h2, h3, by rw [← q]; exact h4⟩⟩
theorem prsT_r {t : Int → Int} {n : Int} {lo hi : Int → Int64} {s1 : St} {B : PV} (hn : 0 ≤ n) (h : prsT t n lo hi = .ok (s1, B)) : 0 ≤ s1.N ∧ s1.N ≤ 400 ∧ (∀ p, B.fi p = true → p < s1.N) ∧ ∀ p q, B.fo p q = true → q < s1.N := by
  unfold prsT at h
  split at h
  · cases h
  · next s2 B2 q =>
    split at h
    · cases h
    · cases h
      have hr := prs_r _ _ _ _ _ _ _ (show ((0 : Int), (0 : Int), lo, hi).1 ≤ n from hn) (show (0 : Int) ≤ 400 by decide) q
      have hs := prs_supp _ _ _ _ _ _ _ 0 (show ((0 : Int), (0 : Int), lo, hi).1 ≤ n from hn) (show (0 : Int) ≤ 400 by decide) (Int.le_refl _) (supp_eps _ _) q
      exact ⟨hr.2.2.1, hr.2.2.2.1, fun p hp => (hs.1 p hp).2, fun p q hq => (hs.2.2 p q hq).2.2⟩
/-- a Patterns after a reading -/
def ParW (Z : Zk) (ap : Nat → Nat) (w : va_W) (wrong : Int) : Prop := ∃ (tx : Value) (len : Int) (low high : Int → Int64) (owners : Int → Int) (follows : Int → Int64) (isLast : Int → Bool) (start : Int → Int64) (places count : Int) (empty : Int → Bool) (firsts lasts : Int → Int64) (top opn cur : Int), w = wP Z ap tx len wrong low high owners follows isLast start places count empty firsts lasts top opn cur
def AutW (Z : Zk) (aA : Nat → Nat) (pa : Nat) (table tells : Int → Int) (states strt : Int) (w : va_W) : Prop := ∃ (sets : Int → Int64) (moves accepts heads chain groups news : Int → Int) (lives : Int → Bool) (cnt : Int), w = wA Z aA pa sets moves accepts heads chain groups news lives cnt table tells states strt
theorem cQ_make {Z : Zk} {tape : Int → Int} {n : Int} {aq aA ap : Nat → Nat} {isE : Bool} {sets : Int → Int64} {moves : Int → Int} {accepts : Int → Int} {heads : Int → Int} {chain : Int → Int} {groups : Int → Int} {news : Int → Int} {lives : Int → Bool} {cnt : Int} {table : Int → Int} {tells : Int → Int} {states : Int} {strt : Int} {tx : Value} {len : Int} {wrong : Int} {low : Int → Int64} {high : Int → Int64} {owners : Int → Int} {follows : Int → Int64} {isLast : Int → Bool} {start : Int → Int64} {places : Int} {count : Int} {empty : Int → Bool} {firsts : Int → Int64} {lasts : Int → Int64} {top : Int} {opn : Int} {cur : Int} (h1 : 0 ≤ n) (h2 : n ≤ 2048) : Ct Z yX2_make hX2_make 174 4460 [.ref (aq 0), .ref (ap 2), vI n] (wQ Z aq (ap 0) (aA 0) isE ++ (wA Z aA (ap 0) sets moves accepts heads chain groups news lives cnt table tells states strt ++ (wP Z ap tx len wrong low high owners follows isLast start places count empty firsts lasts top opn cur ++ [(ap 2, eB Z 2048 tape)]))) 0 0
    (Th (Rz fun r w => ∃ s1 B wA1 wP1 table1 tells1 states1 strt1 wrong1, prsT tape n low high = .ok (s1, B) ∧ MkP (tgt B.fi B.fo (tkB s1.lo s1.hi)) B.la s1.N r table1 tells1 states1 strt1 ∧ AutW Z aA (ap 0) table1 tells1 states1 strt1 wA1 ∧ ParW Z ap wP1 wrong1 ∧ w = wQ Z aq (ap 0) (aA 0) B.nul ++ (wA1 ++ (wP1 ++ [(ap 2, eB Z 2048 tape)])))
      (fun x w => ∃ e wP1, prsT tape n low high = .error e ∧ x = ap 1 ∧ ParW Z ap wP1 e ∧ w = wQ Z aq (ap 0) (aA 0) isE ++ (wA Z aA (ap 0) sets moves accepts heads chain groups news lives cnt table tells states strt ++ (wP1 ++ [(ap 2, eB Z 2048 tape)])))) := by
  refine Ct.of RX2 "make" (by decide +kernel) rfl rfl hkX2_make (Nat.le_of_ble_eq_true rfl) (fun X hZ C => ?_)
  subst hZ
  refine g_aload_n C dX2_make_0 rfl ?_
  refine gQ_patterns C dX2_make_1 ?_
  refine g_cVJv C [] _ 12 [12, 13, 14, 15, 16, 17, 18, 19, 20, 21, 22, 23] cal_X2_25 (cP_clear (wr := [(ap 2, eB X.Z 2048 tape)])) rfl rfl (by decide) rfl (fun w h => by subst h; exact Nat.le_refl _) rfl rfl (Nat.le_of_ble_eq_true rfl) (room_b rfl) dX2_make_4 (fun w hw4 => ?_)
  subst hw4
  refine g_ws (plug_2 rfl rfl) ?_
  refine g_aload_n C dX2_make_7 rfl ?_
  refine gQ_patterns C dX2_make_8 ?_
  refine g_aload_n C dX2_make_11 rfl ?_
  refine g_iload_n C dX2_make_12 rfl ?_
  refine g_cVJvT C [_, _] _ 12 [12, 13, 14, 15, 16, 17, 18, 19, 20, 21, 22, 23] cal_X2_28 (cP_read h1 h2 (fun k k0 k1 => upTo_at0 _ _ k0 k1)) rfl rfl (by decide) rfl (fun w h => by obtain ⟨s1, B, _, _, _, _, _, _, _, _, _, rfl, _⟩ := h; exact Nat.le_refl _) (fun x w h => by obtain ⟨_, _, _, _, _, _, _, _, _, _, _, _, _, _, _, _, _, _, rfl⟩ := h; exact Nat.le_refl _) rfl rfl (Nat.le_of_ble_eq_true rfl) (room_b rfl) dX2_make_13 (fun w hw13 => ?_) (fun x13 w hw13 => ?_)
  · obtain ⟨s1, B, q1, owners1, follows1, isLast1, start1, empty1, firsts1, lasts1, opn1, rfl, hok⟩ := hw13
    have hN := prsT_r h1 q1
    refine g_ws (plug_2 rfl rfl) ?_
    refine g_aload_n C dX2_make_16 rfl ?_
    refine g_aload_n C dX2_make_17 rfl ?_
    refine gQ_patterns C dX2_make_18 ?_
    refine g_cVPz C [] _ 12 [12, 13, 14, 15, 16, 17, 18, 19, 20, 21, 22] cal_X2_32 (cP_isEmpty (wr := [])) rfl rfl (by decide) rfl rfl rfl (Nat.le_of_ble_eq_true rfl) (room_b rfl) dX2_make_21 (fun r21 hw21 => ?_)
    subst hw21
    refine pQ_isEmpty C _ rfl dX2_make_24 ?_
    refine g_aload_n C dX2_make_27 rfl ?_
    refine gQ_automaton C dX2_make_28 ?_
    refine g_cVJz C [] _ 1 [1, 2, 3, 4, 5, 6, 7, 8, 9, 10, 11, 12, 13, 14, 15, 16, 17, 18, 19, 20, 21, 22, 23] cal_X2_39 (cA_make (wr := [(ap 2, eB X.Z 2048 tape)]) (fi := B.fi) (fo := B.fo) hN.1 hN.2.1 (fun p p0 p1 => (hok.2.2.2 p p0 p1).1) hok.2.1 hok.2.2.1 hN.2.2.1 hN.2.2.2) rfl rfl (by decide) rfl (fun r w h => by obtain ⟨_, _, _, _, _, _, _, _, _, _, _, _, _, rfl, _⟩ := h; exact Nat.le_refl _) rfl rfl (Nat.le_of_ble_eq_true rfl) (room_b rfl) dX2_make_31 (fun r31 w hw31 => ?_)
    obtain ⟨sets1, moves1, accepts1, heads1, chain1, groups1, news1, lives1, cnt1, table1, tells1, states1, strt1, rfl, hm⟩ := hw31
    rw [hok.1]
    refine g_ws (plug_1 rfl rfl) ?_
    exact g_zret C _ rfl rfl (Or.inl ⟨_, rfl, s1, B, _, _, table1, tells1, states1, strt1, wrong, q1, hm.congr (fun p p0 p1 => (hok.2.2.2 p p0 p1).2), ⟨_, _, _, _, _, _, _, _, _, rfl⟩, ⟨_, _, _, _, _, _, _, _, _, _, _, _, _, _, _, _, rfl⟩, rfl⟩) dX2_make_34
  · obtain ⟨e, q1, rfl, len1, low1, high1, owners1, follows1, isLast1, start1, places1, count1, empty1, firsts1, lasts1, top1, opn1, cur1, rfl⟩ := hw13
    refine gt_ws (plug_2 rfl rfl) ?_
    exact gt_out C rfl (Or.inr ⟨_, rfl, e, _, q1, rfl, ⟨_, _, _, _, _, _, _, _, _, _, _, _, _, _, _, _, rfl⟩, rfl⟩)
