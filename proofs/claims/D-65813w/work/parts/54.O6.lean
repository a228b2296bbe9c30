/-! PatternPairs: set -/
def wOr (Z : Zk) (a : Nat → Nat) (seen : Int → Bool) (queue : Int → Int) (before : Int → Int) (by_ : Int → Int) (text : Int → Int) (ways : Int → Int64) (next : Int → Int64) : va_W := [(a 14, eZ Z 40401 seen), (a 15, eI Z 40402 queue), (a 16, eI Z 40402 before), (a 17, eB Z 40402 by_), (a 18, eB Z 40402 text), (a 19, eJ Z 200 ways), (a 20, eJ Z 200 next)]
theorem wO_cut {Z : Zk} {a : Nat → Nat} {tape : Int → Int} {rf : Nat} {rs : Nat} {rp : Nat} {seen : Int → Bool} {queue : Int → Int} {before : Int → Int} {by_ : Int → Int} {text : Int → Int} {ways : Int → Int64} {next : Int → Int64} {length : Int} {taped : Int} {place : Int} : wO Z a tape rf rs rp seen queue before by_ text ways next length taped place = [(a 0, eO 0 [.ref (a 10), .ref rf, .ref rs, .ref rp, .ref (a 14), .ref (a 15), .ref (a 16), .ref (a 17), .ref (a 18), .ref (a 19), .ref (a 20), vI length, vI taped, vI place])] ++ ([(a 10, eB Z 2048 tape)] ++ wOr Z a seen queue before by_ text ways next) := rfl
theorem plug_0 {js : List Nat} {mid w post : va_W} (hjs : js = List.range' 0 mid.length) (hl : w.length = mid.length) : plug js w (mid ++ post) = w ++ post := by
  subst hjs
  exact plug_mid mid w [] post hl
/-- the spare side and the tape come first -/
theorem pm_in {α : Type} (o t r f g f2 g2 f3 g3 p s : List α) : ((f3 ++ (g3 ++ (p ++ t))) ++ (o ++ (r ++ (f ++ (g ++ (f2 ++ (g2 ++ s))))))).Perm ((o ++ (t ++ r)) ++ (f ++ (g ++ (f2 ++ (g2 ++ (f3 ++ (g3 ++ (p ++ s)))))))) :=
  pm_of (fun x => by simp only [List.count_append]; omega)
theorem pm_out {α : Type} (o t r f g f2 g2 f3 g3 p s : List α) : ((o ++ (t ++ r)) ++ (f ++ (g ++ (f2 ++ (g2 ++ (f3 ++ (g3 ++ (p ++ s)))))))).Perm ((f3 ++ (g3 ++ (p ++ t))) ++ (o ++ (r ++ (f ++ (g ++ (f2 ++ (g2 ++ s))))))) := (pm_in o t r f g f2 g2 f3 g3 p s).symm
theorem pm_set0 {α : Type} (o f g f2 g2 f3 g3 p pF pS : List α) : (o ++ (f3 ++ (g3 ++ (f2 ++ (g2 ++ (f ++ (g ++ (pF ++ (p ++ pS))))))))).Perm (o ++ (f ++ (g ++ (f2 ++ (g2 ++ (f3 ++ (g3 ++ (p ++ (pF ++ pS))))))))) :=
  pm_of (fun x => by simp only [List.count_append]; omega)
theorem pm_set1 {α : Type} (o f g f2 g2 f3 g3 p pF pS : List α) : (o ++ (f ++ (g ++ (f3 ++ (g3 ++ (f2 ++ (g2 ++ (pS ++ (pF ++ p))))))))).Perm (o ++ (f ++ (g ++ (f2 ++ (g2 ++ (f3 ++ (g3 ++ (p ++ (pF ++ pS))))))))) :=
  pm_of (fun x => by simp only [List.count_append]; omega)
theorem cO_set {Z : Zk} (hfl : Z.l.flags = pinnedFlags ++ [noTraceFlag]) {a : Nat → Nat} {tape : Int → Int} {seen : Int → Bool} {queue : Int → Int} {before : Int → Int} {by_ : Int → Int} {text : Int → Int} {ways : Int → Int64} {next : Int → Int64} {length : Int} {taped : Int} {place : Int} {aq aA ap : Nat → Nat} {isE : Bool} {sets : Int → Int64} {moves : Int → Int} {accepts : Int → Int} {heads : Int → Int} {chain : Int → Int} {groups : Int → Int} {news : Int → Int} {lives : Int → Bool} {cnt : Int} {table : Int → Int} {tells : Int → Int} {states : Int} {strt : Int} {bq bA bp : Nat → Nat} {isE' : Bool} {sets' : Int → Int64} {moves' accepts' heads' chain' groups' news' : Int → Int} {lives' : Int → Bool} {cnt' : Int} {table' tells' : Int → Int} {states' strt' : Int} {cq cA cp : Nat → Nat} {isE'' : Bool} {sets'' : Int → Int64} {moves'' accepts'' heads'' chain'' groups'' news'' : Int → Int} {lives'' : Int → Bool} {cnt'' : Int} {table'' tells'' : Int → Int} {states'' strt'' : Int} {tx : Value} {len : Int} {wrong : Int} {low : Int → Int64} {high : Int → Int64} {owners : Int → Int} {follows : Int → Int64} {isLast : Int → Bool} {start : Int → Int64} {places : Int} {count : Int} {empty : Int → Bool} {firsts : Int → Int64} {lasts : Int → Int64} {top : Int} {opn : Int} {cur : Int} {pF pS : va_W} {which : Int} (hm : inR which) (t0 : 0 ≤ taped) (t1 : taped ≤ 2048) (h10 : a 10 = cp 2) :
    Ct Z yX1_set hX1_set 176 4560 [.ref (a 0), vI which] (wO Z a tape (aq 0) (bq 0) (cq 0) seen queue before by_ text ways next length taped place ++ (wQ Z aq (ap 0) (aA 0) isE ++ (wA Z aA (ap 0) sets moves accepts heads chain groups news lives cnt table tells states strt ++ (wQ Z bq (bp 0) (bA 0) isE' ++ (wA Z bA (bp 0) sets' moves' accepts' heads' chain' groups' news' lives' cnt' table' tells' states' strt' ++ (wQ Z cq (cp 0) (cA 0) isE'' ++ (wA Z cA (cp 0) sets'' moves'' accepts'' heads'' chain'' groups'' news'' lives'' cnt'' table'' tells'' states'' strt'' ++ (wP Z cp tx len wrong low high owners follows isLast start places count empty firsts lasts top opn cur ++ (pF ++ pS))))))))) 2 12 (Th (Ri fun r w => (which = 0 ∨ which = 1) ∧ ∃ s1 B sets1 moves1 accepts1 heads1 chain1 groups1 news1 lives1 cnt1 table1 tells1 states1 strt1 wP1 wrong1, prsT tape taped low high = .ok (s1, B) ∧ MkP (tgt B.fi B.fo (tkB s1.lo s1.hi)) B.la s1.N true table1 tells1 states1 strt1 ∧ ParW Z cp wP1 wrong1 ∧ r = states1 ∧ w = (if which = 0 then wO Z a tape (cq 0) (bq 0) (aq 0) seen queue before by_ text ways next length 0 (-1) ++ (wQ Z cq (cp 0) (cA 0) B.nul ++ (wA Z cA (cp 0) sets1 moves1 accepts1 heads1 chain1 groups1 news1 lives1 cnt1 table1 tells1 states1 strt1 ++ (wQ Z bq (bp 0) (bA 0) isE' ++ (wA Z bA (bp 0) sets' moves' accepts' heads' chain' groups' news' lives' cnt' table' tells' states' strt' ++ (wQ Z aq (ap 0) (aA 0) isE ++ (wA Z aA (ap 0) sets moves accepts heads chain groups news lives cnt table tells states strt ++ (pF ++ (wP1 ++ pS)))))))) else wO Z a tape (aq 0) (cq 0) (bq 0) seen queue before by_ text ways next length 0 (-1) ++ (wQ Z aq (ap 0) (aA 0) isE ++ (wA Z aA (ap 0) sets moves accepts heads chain groups news lives cnt table tells states strt ++ (wQ Z cq (cp 0) (cA 0) B.nul ++ (wA Z cA (cp 0) sets1 moves1 accepts1 heads1 chain1 groups1 news1 lives1 cnt1 table1 tells1 states1 strt1 ++ (wQ Z bq (bp 0) (bA 0) isE' ++ (wA Z bA (bp 0) sets' moves' accepts' heads' chain' groups' news' lives' cnt' table' tells' states' strt' ++ (pS ++ (pF ++ wP1))))))))))
      (fun x w => (¬ (which = 0 ∨ which = 1) ∧ ∃ fs, w = (wO Z a tape (aq 0) (bq 0) (cq 0) seen queue before by_ text ways next length 0 place ++ (wQ Z aq (ap 0) (aA 0) isE ++ (wA Z aA (ap 0) sets moves accepts heads chain groups news lives cnt table tells states strt ++ (wQ Z bq (bp 0) (bA 0) isE' ++ (wA Z bA (bp 0) sets' moves' accepts' heads' chain' groups' news' lives' cnt' table' tells' states' strt' ++ (wQ Z cq (cp 0) (cA 0) isE'' ++ (wA Z cA (cp 0) sets'' moves'' accepts'' heads'' chain'' groups'' news'' lives'' cnt'' table'' tells'' states'' strt'' ++ (wP Z cp tx len wrong low high owners follows isLast start places count empty firsts lasts top opn cur ++ (pF ++ pS))))))))) ++ [(x, eO 6 fs)]) ∨ (which = 0 ∨ which = 1) ∧ ((∃ e wP1 fs, prsT tape taped low high = .error e ∧ ParW Z cp wP1 e ∧ w = (wO Z a tape (aq 0) (bq 0) (cq 0) seen queue before by_ text ways next length 0 e ++ (wQ Z aq (ap 0) (aA 0) isE ++ (wA Z aA (ap 0) sets moves accepts heads chain groups news lives cnt table tells states strt ++ (wQ Z bq (bp 0) (bA 0) isE' ++ (wA Z bA (bp 0) sets' moves' accepts' heads' chain' groups' news' lives' cnt' table' tells' states' strt' ++ (wQ Z cq (cp 0) (cA 0) isE'' ++ (wA Z cA (cp 0) sets'' moves'' accepts'' heads'' chain'' groups'' news'' lives'' cnt'' table'' tells'' states'' strt'' ++ (wP1 ++ (pF ++ pS))))))))) ++ [(x, eO 8 fs)]) ∨
        ∃ s1 B sets1 moves1 accepts1 heads1 chain1 groups1 news1 lives1 cnt1 table1 tells1 states1 strt1 wP1 wrong1 fs, prsT tape taped low high = .ok (s1, B) ∧ MkP (tgt B.fi B.fo (tkB s1.lo s1.hi)) B.la s1.N false table1 tells1 states1 strt1 ∧ ParW Z cp wP1 wrong1 ∧ w = (wO Z a tape (aq 0) (bq 0) (cq 0) seen queue before by_ text ways next length 0 (-1) ++ (wQ Z aq (ap 0) (aA 0) isE ++ (wA Z aA (ap 0) sets moves accepts heads chain groups news lives cnt table tells states strt ++ (wQ Z bq (bp 0) (bA 0) isE' ++ (wA Z bA (bp 0) sets' moves' accepts' heads' chain' groups' news' lives' cnt' table' tells' states' strt' ++ (wQ Z cq (cp 0) (cA 0) B.nul ++ (wA Z cA (cp 0) sets1 moves1 accepts1 heads1 chain1 groups1 news1 lives1 cnt1 table1 tells1 states1 strt1 ++ (wP1 ++ (pF ++ pS))))))))) ++ [(x, eO 7 fs)]))) := by
  refine Ct.of RX1 "set" (by decide +kernel) rfl rfl hkX1_set (Nat.le_of_ble_eq_true rfl) (fun X hZ C => ?_)
  subst hZ
  have tF : (which = 0 ∨ which = 1) → ∀ (s1 : St) (B : PV) (sets1 : Int → Int64) (moves1 accepts1 heads1 chain1 groups1 news1 : Int → Int) (lives1 : Int → Bool) (cnt1 : Int) (table1 tells1 : Int → Int) (states1 strt1 : Int) (wP1 : va_W) (wrong1 : Int), prsT tape taped low high = .ok (s1, B) → MkP (tgt B.fi B.fo (tkB s1.lo s1.hi)) B.la s1.N false table1 tells1 states1 strt1 → ParW X.Z cp wP1 wrong1 → G X 6 1 6 (wO X.Z a tape (aq 0) (bq 0) (cq 0) seen queue before by_ text ways next length 0 (-1) ++ (wQ X.Z aq (ap 0) (aA 0) isE ++ (wA X.Z aA (ap 0) sets moves accepts heads chain groups news lives cnt table tells states strt ++ (wQ X.Z bq (bp 0) (bA 0) isE' ++ (wA X.Z bA (bp 0) sets' moves' accepts' heads' chain' groups' news' lives' cnt' table' tells' states' strt' ++ (wQ X.Z cq (cp 0) (cA 0) B.nul ++ (wA X.Z cA (cp 0) sets1 moves1 accepts1 heads1 chain1 groups1 news1 lives1 cnt1 table1 tells1 states1 strt1 ++ (wP1 ++ (pF ++ pS))))))))) 59 [(0, .ref (a 0)), (1, vI which), (2, vI taped), (3, .ref (if which = 0 then aq 0 else bq 0)), (4, vI (b2 false))] [] := by
    intro hwh s1 B sets1 moves1 accepts1 heads1 chain1 groups1 news1 lives1 cnt1 table1 tells1 states1 strt1 wP1 wrong1 q1 q2 q3
    refine g_iload C dX1_set_59 rfl ?_
    refine g_cSWvT C [_] _ cal_X1_69 (cO_room (y := false) hfl) rfl rfl (Nat.le_of_ble_eq_true rfl) (room_b rfl) dX1_set_61 (fun w hw61 => ?_) (fun x61 w hw61 => ?_)
    · exact absurd hw61.1 (by decide)
      skip
    · obtain ⟨hy, fs, rfl⟩ := hw61
      exact gt_out C rfl (Or.inr ⟨_, rfl, Or.inr ⟨hwh, Or.inr ⟨s1, B, _, _, _, _, _, _, _, _, _, _, _, _, _, _, _, _, q1, q2, q3, rfl⟩⟩⟩)
  have tA : which = 0 → ∀ (s1 : St) (B : PV) (sets1 : Int → Int64) (moves1 accepts1 heads1 chain1 groups1 news1 : Int → Int) (lives1 : Int → Bool) (cnt1 : Int) (table1 tells1 : Int → Int) (states1 strt1 : Int) (wP1 : va_W) (wrong1 : Int), prsT tape taped low high = .ok (s1, B) → MkP (tgt B.fi B.fo (tkB s1.lo s1.hi)) B.la s1.N true table1 tells1 states1 strt1 → ParW X.Z cp wP1 wrong1 → G X 6 1 6 (wO X.Z a tape (aq 0) (bq 0) (cq 0) seen queue before by_ text ways next length 0 (-1) ++ (wQ X.Z cq (cp 0) (cA 0) B.nul ++ (wA X.Z cA (cp 0) sets1 moves1 accepts1 heads1 chain1 groups1 news1 lives1 cnt1 table1 tells1 states1 strt1 ++ (wQ X.Z bq (bp 0) (bA 0) isE' ++ (wA X.Z bA (bp 0) sets' moves' accepts' heads' chain' groups' news' lives' cnt' table' tells' states' strt' ++ (wQ X.Z aq (ap 0) (aA 0) isE ++ (wA X.Z aA (ap 0) sets moves accepts heads chain groups news lives cnt table tells states strt ++ (pF ++ (wP1 ++ pS))))))))) 59 [(0, .ref (a 0)), (1, vI which), (2, vI taped), (3, .ref (aq 0)), (4, vI (b2 true))] [] := by
    intro hwh s1 B sets1 moves1 accepts1 heads1 chain1 groups1 news1 lives1 cnt1 table1 tells1 states1 strt1 wP1 wrong1 q1 q2 q3
    refine g_iload C dX1_set_59 rfl ?_
    refine g_cSWvT C [_] _ cal_X1_69 (cO_room (y := true) hfl) rfl rfl (Nat.le_of_ble_eq_true rfl) (room_b rfl) dX1_set_61 (fun w hw61 => ?_) (fun x61 w hw61 => ?_)
    · obtain ⟨hy, rfl⟩ := hw61
      refine g_iload_n C dX1_set_64 rfl ?_
      refine g_if_ne C 79 dX1_set_65 (by decide) (by omega) (fun h65 => ?_) (fun h65 => ?_)
      · exact absurd hwh h65
      · refine g_aload_n C dX1_set_68 rfl ?_
        refine g_aload_n C dX1_set_69 rfl ?_
        refine gO_spare C dX1_set_70 ?_
        refine pO_first C dX1_set_73 ?_
        refine g_goto C 87 dX1_set_76 (by decide) ?_
        refine g_aload_n C dX1_set_87 rfl ?_
        refine gO_spare C dX1_set_88 ?_
        refine g_getN C 9 1 in_X2 rfl rfl (by decide) (List.mem_of_getElem? (i := 1) rfl) rfl rfl dX1_set_91 ?_
        refine g_cVPi C [] _ 10 [10, 11, 12, 13, 14, 15, 16, 17, 18, 19, 20] cal_X1_97 (cA_states (wr := [])) rfl rfl (by decide) rfl rfl rfl (Nat.le_of_ble_eq_true rfl) (room_b rfl) dX1_set_94 (fun r94 hw94 => ?_)
        subst r94
        refine g_istore C dX1_set_97 (by decide) ?_
        refine g_aload_n C dX1_set_99 rfl ?_
        refine g_aload_n C dX1_set_100 rfl ?_
        refine pO_spare C dX1_set_101 ?_
        refine g_iload C dX1_set_104 rfl ?_
        exact g_iret C rfl (Or.inl ⟨_, rfl, Or.inl hwh, s1, B, _, _, _, _, _, _, _, _, _, _, _, _, _, _, _, q1, q2, q3, rfl, by rw [if_pos hwh]⟩) dX1_set_106
    · exact absurd hw61.1 (by decide)
  have tB : which = 1 → ∀ (s1 : St) (B : PV) (sets1 : Int → Int64) (moves1 accepts1 heads1 chain1 groups1 news1 : Int → Int) (lives1 : Int → Bool) (cnt1 : Int) (table1 tells1 : Int → Int) (states1 strt1 : Int) (wP1 : va_W) (wrong1 : Int), prsT tape taped low high = .ok (s1, B) → MkP (tgt B.fi B.fo (tkB s1.lo s1.hi)) B.la s1.N true table1 tells1 states1 strt1 → ParW X.Z cp wP1 wrong1 → G X 6 1 6 (wO X.Z a tape (aq 0) (bq 0) (cq 0) seen queue before by_ text ways next length 0 (-1) ++ (wQ X.Z aq (ap 0) (aA 0) isE ++ (wA X.Z aA (ap 0) sets moves accepts heads chain groups news lives cnt table tells states strt ++ (wQ X.Z cq (cp 0) (cA 0) B.nul ++ (wA X.Z cA (cp 0) sets1 moves1 accepts1 heads1 chain1 groups1 news1 lives1 cnt1 table1 tells1 states1 strt1 ++ (wQ X.Z bq (bp 0) (bA 0) isE' ++ (wA X.Z bA (bp 0) sets' moves' accepts' heads' chain' groups' news' lives' cnt' table' tells' states' strt' ++ (pS ++ (pF ++ wP1))))))))) 59 [(0, .ref (a 0)), (1, vI which), (2, vI taped), (3, .ref (bq 0)), (4, vI (b2 true))] [] := by
    intro hwh s1 B sets1 moves1 accepts1 heads1 chain1 groups1 news1 lives1 cnt1 table1 tells1 states1 strt1 wP1 wrong1 q1 q2 q3
    refine g_iload C dX1_set_59 rfl ?_
    refine g_cSWvT C [_] _ cal_X1_69 (cO_room (y := true) hfl) rfl rfl (Nat.le_of_ble_eq_true rfl) (room_b rfl) dX1_set_61 (fun w hw61 => ?_) (fun x61 w hw61 => ?_)
    · obtain ⟨hy, rfl⟩ := hw61
      refine g_iload_n C dX1_set_64 rfl ?_
      refine g_if_ne C 79 dX1_set_65 (by decide) (by omega) (fun h65 => ?_) (fun h65 => ?_)
      · refine g_aload_n C dX1_set_79 rfl ?_
        refine g_aload_n C dX1_set_80 rfl ?_
        refine gO_spare C dX1_set_81 ?_
        refine pO_second C dX1_set_84 ?_
        refine g_aload_n C dX1_set_87 rfl ?_
        refine gO_spare C dX1_set_88 ?_
        refine g_getN C 21 1 in_X2 rfl rfl (by decide) (List.mem_of_getElem? (i := 1) rfl) rfl rfl dX1_set_91 ?_
        refine g_cVPi C [] _ 22 [22, 23, 24, 25, 26, 27, 28, 29, 30, 31, 32] cal_X1_97 (cA_states (wr := [])) rfl rfl (by decide) rfl rfl rfl (Nat.le_of_ble_eq_true rfl) (room_b rfl) dX1_set_94 (fun r94 hw94 => ?_)
        subst r94
        refine g_istore C dX1_set_97 (by decide) ?_
        refine g_aload_n C dX1_set_99 rfl ?_
        refine g_aload_n C dX1_set_100 rfl ?_
        refine pO_spare C dX1_set_101 ?_
        refine g_iload C dX1_set_104 rfl ?_
        exact g_iret C rfl (Or.inl ⟨_, rfl, Or.inr hwh, s1, B, _, _, _, _, _, _, _, _, _, _, _, _, _, _, _, q1, q2, q3, rfl, by rw [if_neg (by omega)]⟩) dX1_set_106
      · exact absurd h65 (by omega)
    · exact absurd hw61.1 (by decide)
  have hnd : (which = 0 ∨ which = 1) → ∀ (e : Int) (wP1 : va_W) (L : List (Nat × Value)), prsT tape taped low high = .error e → ParW X.Z cp wP1 e → G X 6 1 6 (wO X.Z a tape (aq 0) (bq 0) (cq 0) seen queue before by_ text ways next length 0 (-1) ++ (wQ X.Z aq (ap 0) (aA 0) isE ++ (wA X.Z aA (ap 0) sets moves accepts heads chain groups news lives cnt table tells states strt ++ (wQ X.Z bq (bp 0) (bA 0) isE' ++ (wA X.Z bA (bp 0) sets' moves' accepts' heads' chain' groups' news' lives' cnt' table' tells' states' strt' ++ (wQ X.Z cq (cp 0) (cA 0) isE'' ++ (wA X.Z cA (cp 0) sets'' moves'' accepts'' heads'' chain'' groups'' news'' lives'' cnt'' table'' tells'' states'' strt'' ++ (wP1 ++ (pF ++ pS))))))))) 38 [(0, .ref (a 0)), (1, vI which), (2, vI taped), (3, .ref (if which = 0 then aq 0 else bq 0))] [.ref (cp 1)] := by
    intro hwh e wP1 L q1 q2
    have q3 := q2
    obtain ⟨tx1, len1, low1, high1, owners1, follows1, isLast1, start1, places1, count1, empty1, firsts1, lasts1, top1, opn1, cur1, rfl⟩ := q3
    refine g_astore C dX1_set_38 (by decide) ?_
    refine g_aload_n C dX1_set_40 rfl ?_
    refine g_aload_n C dX1_set_41 rfl ?_
    refine gO_spare C dX1_set_42 ?_
    refine g_cVPi C [] _ 33 [33, 34, 35, 36, 37, 38, 39, 40, 41, 42, 43, 44, 45, 46, 47, 48, 49, 50, 51, 52, 53, 54, 55] cal_X1_86 (cQ_wrong (wr := [])) rfl rfl (by decide) rfl rfl rfl (Nat.le_of_ble_eq_true rfl) (room_b rfl) dX1_set_45 (fun r45 hw45 => ?_)
    subst r45
    refine pO_place C dX1_set_48 ?_
    refine g_thrJ15 C hfl dX1_set_51 dX1_set_54 dX1_set_55 ⟨(Nat.le_of_ble_eq_true rfl), (Nat.le_of_ble_eq_true rfl)⟩ ⟨(Nat.le_of_ble_eq_true rfl), (Nat.le_of_ble_eq_true rfl)⟩ (fun q fs => ?_)
    refine g_athrow C dX1_set_58 ?_
    exact gt_out C rfl (Or.inr ⟨_, rfl, Or.inr ⟨hwh, Or.inl ⟨e, _, fs, q1, q2, rfl⟩⟩⟩)
  refine g_aload_n C dX1_set_0 rfl ?_
  refine gO_taped C dX1_set_1 ?_
  refine g_istore_n C dX1_set_4 (by decide) ?_
  refine g_aload_n C dX1_set_5 rfl ?_
  refine g_iconst C dX1_set_6 ?_
  refine pO_taped C dX1_set_7 ?_
  refine g_aload_n C dX1_set_10 rfl ?_
  refine g_iload_n C dX1_set_11 rfl ?_
  refine g_cVWrT C [_] _ 0 cal_X1_80 (cO_pattern hfl hm) rfl rfl rfl rfl (Nat.le_of_ble_eq_true rfl) (room_b rfl) dX1_set_12 (fun r12 w hw12 => ?_) (fun x12 w hw12 => ?_)
  · obtain ⟨hwh, hr, rfl⟩ := hw12
    subst hr
    refine g_astore_n C dX1_set_15 (by decide) ?_
    refine g_aload_n C dX1_set_16 rfl ?_
    refine g_iconst C dX1_set_17 ?_
    refine pO_place C dX1_set_18 ?_
    refine g_aload_n C dX1_set_21 rfl ?_
    refine gO_spare C dX1_set_22 ?_
    refine g_aload_n C dX1_set_25 rfl ?_
    refine gO_tape C dX1_set_26 ?_
    refine g_iload_n C dX1_set_29 rfl ?_
    rw [wO_cut, h10]
    refine g_perm (pm_in _ _ _ _ _ _ _ _ _ _ _) ?_
    refine g_cVJzT C [_, _] _ 0 [0, 1, 2, 3, 4, 5, 6, 7, 8, 9, 10, 11, 12, 13, 14, 15, 16, 17, 18, 19, 20, 21, 22, 23] cal_X1_56 (cQ_make (tape := tape) (n := taped) (aq := cq) (aA := cA) (ap := cp) (isE := isE'') (sets := sets'') (moves := moves'') (accepts := accepts'') (heads := heads'') (chain := chain'') (groups := groups'') (news := news'') (lives := lives'') (cnt := cnt'') (table := table'') (tells := tells'') (states := states'') (strt := strt'') (tx := tx) (len := len) (wrong := wrong) (low := low) (high := high) (owners := owners) (follows := follows) (isLast := isLast) (start := start) (places := places) (count := count) (empty := empty) (firsts := firsts) (lasts := lasts) (top := top) (opn := opn) (cur := cur) t0 t1) rfl rfl (by decide) rfl (fun r w h => ?_) (fun x w h => ?_) rfl rfl (Nat.le_of_ble_eq_true rfl) (room_b rfl) dX1_set_30 (fun r w hw => ?_) (fun x w hw => ?_)
    · obtain ⟨s1, B, wA1, wP1, table1, tells1, states1, strt1, wrong1, q1, q2, ⟨_, _, _, _, _, _, _, _, _, rfl⟩, ⟨_, _, _, _, _, _, _, _, _, _, _, _, _, _, _, _, rfl⟩, rfl⟩ := h
      exact Nat.le_of_ble_eq_true rfl
    · obtain ⟨e, wP1, q1, q2, ⟨_, _, _, _, _, _, _, _, _, _, _, _, _, _, _, _, rfl⟩, rfl⟩ := h
      exact Nat.le_of_ble_eq_true rfl
    · obtain ⟨s1, B, wA1, wP1, table1, tells1, states1, strt1, wrong1, q1, q2, ⟨_, _, _, _, _, _, _, _, _, rfl⟩, q4, rfl⟩ := hw
      have q5 := q4
      obtain ⟨_, _, _, _, _, _, _, _, _, _, _, _, _, _, _, _, rfl⟩ := q5
      refine g_ws (plug_0 rfl rfl) ?_
      refine g_perm (pm_out _ _ _ _ _ _ _ _ _ _ _) ?_
      rw [← h10]
      refine g_istore C dX1_set_33 (by decide) ?_
      refine g_goto C 59 dX1_set_35 (by decide) ?_
      cases r with
      | false => exact g_locR rfl (tF hwh s1 B _ _ _ _ _ _ _ _ _ table1 tells1 states1 strt1 _ wrong1 q1 q2 q4)
      | true =>
        by_cases e : which = 0
        · rw [if_pos e]
          refine g_perm (pm_set0 _ _ _ _ _ _ _ _ _ _) ?_
          exact g_locR rfl (tA e s1 B _ _ _ _ _ _ _ _ _ table1 tells1 states1 strt1 _ wrong1 q1 q2 q4)
        · rw [if_neg e]
          refine g_perm (pm_set1 _ _ _ _ _ _ _ _ _ _) ?_
          exact g_locR rfl (tB (by omega) s1 B _ _ _ _ _ _ _ _ _ table1 tells1 states1 strt1 _ wrong1 q1 q2 q4)
    · obtain ⟨e, wP1, q1, rfl, q4, rfl⟩ := hw
      have q5 := q4
      obtain ⟨_, _, _, _, _, _, _, _, _, _, _, _, _, _, _, _, rfl⟩ := q5
      refine gt_ws (plug_0 rfl rfl) ?_
      refine gt_perm (pm_out _ _ _ _ _ _ _ _ _ _ _) ?_
      rw [← h10]
      exact gt_catch C 46 38 rfl rfl (Or.inr (Or.inl ⟨rfl, by decide, q678, rfl⟩)) (g_locR rfl (hnd hwh e _ [] q1 q4))
  · obtain ⟨hy, fs, rfl⟩ := hw12
    refine gt_widen (k' := 2) (n' := 12) (by decide) (by decide) ?_
    exact gt_out C rfl (Or.inr ⟨_, rfl, Or.inl ⟨hy, _, rfl⟩⟩)
