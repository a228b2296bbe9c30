/-! Automaton: step -/
theorem AcS.sets {cnt N : Int} {S : Int → Int → Bool} {la : Int → Bool} {sets sets1 : Int → Int64} {accepts heads chain : Int → Int} (h : AcS cnt S N la sets accepts heads chain) (e : ∀ j, j < 7 * cnt → sets1 j = sets j) : AcS cnt S N la sets1 accepts heads chain := by
  obtain ⟨h1, h2, h3, h4, h5, h6⟩ := h
  refine ⟨h1, fun s s0 s1 p p0 p1 => ?_, h3, h4, h5.mono (fun _ _ _ => Iff.rfl) (fun t t0 t1 _ => slotA_congr (fun m m0 m1 => e _ (by omega))), h6⟩
  rw [← h2 s s0 s1 p p0 p1]
  exact hasB_eq (fun m m0 m1 => e _ (by omega)) p0 p1
/-- the union of what may follow, as far as D says -/
def UniQ (sets : Int → Int64) (Ss : Int → Bool) (fo : Int → Int → Bool) (tk : Int → Bool) (to : Int) (D : Int → Bool) (sets1 : Int → Int64) : Prop := (∀ j, j < to ∨ to + 7 ≤ j → sets1 j = sets j) ∧ ∀ q, 0 ≤ q → q < 448 → hasB sets1 to q = (tr (∃ p, 0 ≤ p ∧ p < 448 ∧ Ss p = true ∧ fo p q = true ∧ D p = true) && tk q)
theorem UniQ.congr {sets : Int → Int64} {Ss : Int → Bool} {fo : Int → Int → Bool} {tk : Int → Bool} {to : Int} {D D' : Int → Bool} {sets1 : Int → Int64} (h : UniQ sets Ss fo tk to D sets1) (e : ∀ p, 0 ≤ p → p < 448 → Ss p = true → D p = D' p) : UniQ sets Ss fo tk to D' sets1 := by
  refine ⟨h.1, fun q q0 q1 => ?_⟩
  rw [h.2 q q0 q1]
  congr 1
  apply Bool.eq_iff_iff.mpr
  rw [tr_iff, tr_iff]
  constructor
  · rintro ⟨p, h1, h2, h3, h4, h5⟩
    exact ⟨p, h1, h2, h3, h4, by rw [← e p h1 h2 h3]; exact h5⟩
  · rintro ⟨p, h1, h2, h3, h4, h5⟩
    exact ⟨p, h1, h2, h3, h4, by rw [e p h1 h2 h3]; exact h5⟩
theorem UniQ.add {sets : Int → Int64} {Ss : Int → Bool} {fo : Int → Int → Bool} {low high follows : Int → Int64} {b to : Int} {D : Int → Bool} {sets1 sets2 : Int → Int64} {p : Int} (h : UniQ sets Ss fo (fun q => tkB low high q b) to D sets1) (p0 : 0 ≤ p) (p1 : p < 448) (hs : Ss p = true) (hf : ∀ q, 0 ≤ q → q < 448 → hasB follows (7 * p) q = fo p q) (g : GatQ sets1 follows low high (7 * p) to b (fun _ => true) sets2) : UniQ sets Ss fo (fun q => tkB low high q b) to (fun x => D x || decide (p = x)) sets2 := by
  refine ⟨fun j hj => (g.1 j hj).trans (h.1 j hj), fun q q0 q1 => ?_⟩
  rw [g.2 q q0 q1, h.2 q q0 q1, hf q q0 q1, Bool.and_true]
  dsimp only
  rw [← Bool.and_or_distrib_right]
  congr 1
  apply Bool.eq_iff_iff.mpr
  rw [Bool.or_eq_true, tr_iff, tr_iff]
  constructor
  · rintro (⟨x, h1, h2, h3, h4, h5⟩ | h5)
    · exact ⟨x, h1, h2, h3, h4, by rw [h5]; rfl⟩
    · exact ⟨p, p0, p1, hs, h5, by simp⟩
  · rintro ⟨x, h1, h2, h3, h4, h5⟩
    rw [Bool.or_eq_true] at h5
    rcases h5 with h5 | h5
    · exact Or.inl ⟨x, h1, h2, h3, h4, h5⟩
    · have := of_decide_eq_true h5
      subst this
      exact Or.inr h4
theorem cA_step {Z : Zk} {wr : va_W} {a : Nat → Nat} {sets : Int → Int64} {moves : Int → Int} {accepts : Int → Int} {heads : Int → Int} {chain : Int → Int} {groups : Int → Int} {news : Int → Int} {lives : Int → Bool} {cnt : Int} {table : Int → Int} {tells : Int → Int} {states : Int} {strt : Int} {tx : Value} {len : Int} {wrong : Int} {low : Int → Int64} {high : Int → Int64} {owners : Int → Int} {follows : Int → Int64} {isLast : Int → Bool} {start : Int → Int64} {places : Int} {count : Int} {empty : Int → Bool} {firsts : Int → Int64} {lasts : Int → Int64} {top : Int} {opn : Int} {cur : Int} {ap : Nat → Nat} {S : Int → Int → Bool} {fi : Int → Bool} {fo : Int → Int → Bool} {s b : Int} (hA1 : AcS cnt S places isLast sets accepts heads chain) (hs0 : 0 ≤ s) (hs1 : s < cnt) (hb0 : 0 ≤ b) (hb1 : b < 128) (hp0 : 0 ≤ places) (hp1 : places ≤ 400) (hown : ∀ p, 0 ≤ p → p < places → owners p = 0) (hst : ∀ p, 0 ≤ p → p < 448 → hasB start 0 p = fi p) (hfo : FolP follows places fo) (hfi1 : ∀ p, fi p = true → p < places) (hfo1 : ∀ p q, fo p q = true → q < places) :
    Ct Z yX5_step hX5_step 4 130 [.ref (a 0), vI s, vI b] (wA Z a (ap 0) sets moves accepts heads chain groups news lives cnt table tells states strt ++ (wP Z ap tx len wrong low high owners follows isLast start places count empty firsts lasts top opn cur ++ wr)) 0 0 (Ri fun r w => ∃ sets1 accepts1 heads1 chain1 cnt1 S1, w = wA Z a (ap 0) sets1 moves accepts1 heads1 chain1 groups news lives cnt1 table tells states strt ++ (wP Z ap tx len wrong low high owners follows isLast start places count empty firsts lasts top opn cur ++ wr) ∧ ((r = -1 ∧ ∀ mv, exStep (tgt fi fo (tkB low high)) (128 * s + b) (cnt, S, mv) = none) ∨ (1 ≤ r ∧ r < cnt1 ∧ AcS cnt1 S1 places isLast sets1 accepts1 heads1 chain1 ∧ cnt ≤ cnt1 ∧ ∀ mv, exStep (tgt fi fo (tkB low high)) (128 * s + b) (cnt, S, mv) = some (cnt1, S1, up mv (128 * s + b) r)))) := by
  refine Ct.of RX5 "step" (by decide +kernel) rfl rfl hkX5_step (Nat.le_of_ble_eq_true rfl) (fun X hZ C => ?_)
  subst hZ
  have ⟨⟨hc1, hc2⟩, hS, hSN, _⟩ := hA1
  have e1 : (128 * s + b) / 128 = s := by omega
  have e2 : (128 * s + b) % 128 = b := by omega
  have tgtN : ∀ p, 0 ≤ p → p < 448 → tgt fi fo (tkB low high) S s b p = true → p < places := by
    intro p p0 p1 h
    unfold tgt at h
    rw [Bool.and_eq_true] at h
    have h := h.1
    split at h
    · exact hfi1 p h
    · obtain ⟨x, _, _, _, h4⟩ := tr_iff.mp h
      exact hfo1 x p h4
  have fin : ∀ sets1 : Int → Int64, (∀ j, j < 7 * cnt → sets1 j = sets j) → (∀ q, 0 ≤ q → q < 448 → hasB sets1 (7 * cnt) q = tgt fi fo (tkB low high) S s b q) → G X 8 0 0 (wA X.Z a (ap 0) sets1 moves accepts heads chain groups news lives cnt table tells states strt ++ (wP X.Z ap tx len wrong low high owners follows isLast start places count empty firsts lasts top opn cur ++ wr)) 141 [(0, .ref (a 0))] [] := by
    intro sets1 h1 h2
    refine g_aload_n C dX5_step_141 rfl ?_
    refine g_cVWi C [] _ 0 cal_X5_84 (cA_found (S := S) (R := tgt fi fo (tkB low high) S s b) (hA1.sets h1) h2 tgtN hp0 hp1 hown) rfl rfl rfl rfl (Nat.le_of_ble_eq_true rfl) (room_b rfl) dX5_step_142 (fun r142 w hw142 => ?_)
    rcases hw142 with ⟨hm, rfl⟩ | ⟨hn, hc, rfl, rfl⟩ | ⟨hn, hc, rfl, accepts1, heads1, chain1, hA2, rfl⟩
    · exact g_iret C rfl ⟨_, rfl, sets1, accepts, heads, chain, cnt, S, rfl, Or.inr ⟨by have := hm.1; omega, hm.2.1, hA1.sets h1, Int.le_refl _, fun mv => exStep_old (e := (cnt, S, mv)) hA1.2.2.2.1 (by rw [e1, e2]; exact hm)⟩⟩ dX5_step_145
    · exact g_iret C rfl ⟨_, rfl, sets1, accepts, heads, chain, cnt, S, rfl, Or.inl ⟨rfl, fun mv => exStep_full (e := (cnt, S, mv)) (by intro m; rw [e1, e2]; exact hn m) hc⟩⟩ dX5_step_145
    · exact g_iret C rfl ⟨_, rfl, sets1, accepts1, heads1, chain1, r142 + 1, _, rfl, Or.inr ⟨by omega, by omega, hA2, by omega, fun mv => by have h := exStep_new (tg := tgt fi fo (tkB low high)) (j := 128 * s + b) (e := (r142, S, mv)) (by intro m; rw [e1, e2]; exact hn m) (by show ¬ 400 < r142; omega); rw [e1, e2] at h; exact h⟩⟩ dX5_step_145
  -- over the longs of the set
  have big : ∀ sets0 : Int → Int64, 1 ≤ s → (∀ j, j < 7 * cnt → sets0 j = sets j) → (∀ q, 0 ≤ q → q < 448 → hasB sets0 (7 * cnt) q = false) → G X 8 0 0 (wA X.Z a (ap 0) sets0 moves accepts heads chain groups news lives cnt table tells states strt ++ (wP X.Z ap tx len wrong low high owners follows isLast start places count empty firsts lasts top opn cur ++ wr)) 58 [(0, .ref (a 0)), (1, vI s), (2, vI b), (3, vI (7 * cnt)), (4, vI 0)] [] := by
    intro sets0 hs hs2 hz
    have lp := loopZ (fun k => ∀ sets1, UniQ sets0 (S s) fo (fun q => tkB low high q b) (7 * cnt) (fun p => decide (p < 64 * k)) sets1 → G X 8 0 0 (wA X.Z a (ap 0) sets1 moves accepts heads chain groups news lives cnt table tells states strt ++ (wP X.Z ap tx len wrong low high owners follows isLast start places count empty firsts lasts top opn cur ++ wr)) 58 [(0, .ref (a 0)), (1, vI s), (2, vI b), (3, vI (7 * cnt)), (4, vI k)] []) 0 7 (by omega) (fun sets1 hg => ?_) (fun k hk0 hk1 ih sets1 hg => ?_)
    · refine lp sets0 ⟨fun _ _ => rfl, fun q q0 q1 => ?_⟩
      rw [hz q q0 q1]
      cases ht : tr (∃ p, 0 ≤ p ∧ p < 448 ∧ S s p = true ∧ fo p q = true ∧ decide (p < 64 * 0) = true) with
      | false => rfl
      | true => obtain ⟨p, h1, _, _, _, h5⟩ := tr_iff.mp ht; have := of_decide_eq_true h5; omega
    · show G _ _ _ _ _ _ _ _
      refine g_iload C dX5_step_58 rfl ?_
      refine g_bipush C dX5_step_60 (by decide) ?_
      refine g_icmp_ge C 141 dX5_step_62 (by decide) (by omega) (fun h62 => ?_) (fun h62 => ?_)
      · refine g_locR rfl (fin sets1 (fun j hj => (hg.1 j (Or.inl hj)).trans (hs2 j hj)) (fun q q0 q1 => ?_))
        rw [hg.2 q q0 q1]
        unfold tgt
        rw [if_neg (by omega)]
        congr 1
        apply Bool.eq_iff_iff.mpr
        rw [tr_iff, tr_iff]
        exact ⟨fun ⟨p, h1, h2, h3, h4, _⟩ => ⟨p, h1, h2, h3, h4⟩, fun ⟨p, h1, h2, h3, h4⟩ => ⟨p, h1, h2, h3, h4, decide_eq_true (by omega)⟩⟩
      · exact absurd h62 (by omega)
    · show G _ _ _ _ _ _ _ _
      have hrow : ∀ i, 0 ≤ i → i < 64 → bt (sets (7 * s + k)) i = S s (64 * k + i) := by
        intro i i0 i1
        rw [← hS s hs hs1 (64 * k + i) (by omega) (by omega)]
        unfold hasB
        rw [show (64 * k + i) / 64 = k by omega, show (64 * k + i) % 64 = i by omega]
      have ilp : ∀ (n : Nat) (left : Int64) (sets1 : Int → Int64), pop left < n → (∀ i, 0 ≤ i → i < 64 → bt left i = true → bt (sets (7 * s + k)) i = true) → UniQ sets0 (S s) fo (fun q => tkB low high q b) (7 * cnt) (dn k left) sets1 → G X 8 0 0 (wA X.Z a (ap 0) sets1 moves accepts heads chain groups news lives cnt table tells states strt ++ (wP X.Z ap tx len wrong low high owners follows isLast start places count empty firsts lasts top opn cur ++ wr)) 79 [(0, .ref (a 0)), (1, vI s), (2, vI b), (3, vI (7 * cnt)), (4, vI k), (5, .long left)] [] := by
        intro n
        induction n with
        | zero => intro left sets1 h; omega
        | succ n ihn =>
          intro left sets1 hp hsub hg
          refine g_lload C dX5_step_79 rfl ?_
          refine g_lconst C 0 dX5_step_81 rfl ?_
          refine g_lcmp C dX5_step_82 ?_
          refine g_if_eq C 135 dX5_step_83 (by decide) (lcmp_r _ _) (fun h83 => ?_) (fun h83 => ?_)
          · have hl0 : left = 0 := (lcmp_0 _ _).mp h83
            subst hl0
            refine g_iinc C dX5_step_135 rfl (by decide) ?_
            refine g_goto C 58 dX5_step_138 (by decide) ?_
            exact g_locR rfl (ih sets1 (hg.congr (fun p p0 p1 _ => dn_0)))
          · have hl0 : left ≠ 0 := fun e => h83 ((lcmp_0 _ _).mpr e)
            refine g_bipush C dX5_step_86 (by decide) ?_
            refine g_iload C dX5_step_88 rfl ?_
            refine g_imul C dX5_step_90 ?_
            refine g_bipush C dX5_step_91 (by decide) ?_
            refine g_iadd C dX5_step_93 ?_
            refine g_lload C dX5_step_94 rfl ?_
            refine g_cSPi C [_] _ [] cal_X5_75 (cJ_nlz hl0) (by decide) rfl rfl rfl (Nat.le_of_ble_eq_true rfl) (room_b rfl) dX5_step_96 (fun r96 hw96 => ?_)
            obtain ⟨r0, r1, hbit⟩ := hw96
            have e3 : 64 * k + (63 - r96) = 64 * k + 63 - r96 := by omega
            have hSp : S s (64 * k + 63 - r96) = true := by rw [← e3, ← hrow _ (by omega) (by omega)]; exact hsub _ (by omega) (by omega) hbit
            have hpN := hSN s hs hs1 _ (by omega) (by omega) hSp
            refine g_isub C dX5_step_99 ?_
            refine g_istore C dX5_step_100 (by decide) ?_
            refine g_lload C dX5_step_102 rfl ?_
            refine g_lconst C 1 dX5_step_104 rfl ?_
            refine g_iload C dX5_step_105 rfl ?_
            refine g_bipush C dX5_step_107 (by decide) ?_
            refine g_irem C dX5_step_109 (by omega) ?_
            rw [show (64 * k + 63 - r96) % 64 = 63 - r96 by omega]
            refine g_lshl C dX5_step_110 ?_
            refine g_lxor C dX5_step_111 ?_
            refine g_lstore C dX5_step_112 (by decide) ?_
            refine g_aload_n C dX5_step_114 rfl ?_
            refine g_aload_n C dX5_step_115 rfl ?_
            refine gA_patterns C dX5_step_116 ?_
            refine g_getN C 11 7 in_X3 rfl rfl (by decide) (List.mem_of_getElem? (i := 5) rfl) rfl rfl dX5_step_119 ?_
            refine g_bipush C dX5_step_122 (by decide) ?_
            refine g_iload C dX5_step_124 rfl ?_
            refine g_imul C dX5_step_126 ?_
            refine g_iload_n C dX5_step_127 rfl ?_
            refine g_iload_n C dX5_step_128 rfl ?_
            refine g_cVWv C [_, _, _, _] _ 0 cal_X5_71 (cA_gather (q := 16) (row := follows) (frm := 7 * (64 * k + 63 - r96)) (fun _ => rfl) (by omega) (by omega) (by omega) hb0 hb1 (by omega) (by omega) (fun q q0 q1 hq => by rw [hfo _ q (by omega) hpN q0 q1] at hq; have := hfo1 _ _ hq; omega)) rfl rfl rfl rfl (Nat.le_of_ble_eq_true rfl) (room_b rfl) dX5_step_129 (fun w hw129 => ?_)
            obtain ⟨sets2, hg2, rfl⟩ := hw129
            have hpop := pop_clr (by omega) (by omega) hbit
            have hsub2 : ∀ i, 0 ≤ i → i < 64 → bt (left ^^^ lshl 1 (63 - r96)) i = true → bt (sets (7 * s + k)) i = true := fun i i0 i1 hi => hsub i i0 i1 (by rw [bt_clr (by omega) (by omega) i0 i1 hbit] at hi; simp at hi; exact hi.1)
            refine g_goto C 79 dX5_step_132 (by decide) ?_
            exact g_locR rfl (ihn _ sets2 (by omega) hsub2 ((hg.add (by omega) (by omega) hSp (fun q q0 q1 => hfo _ q (by omega) hpN q0 q1) hg2).congr (D' := dn k (left ^^^ lshl 1 (63 - r96))) (fun p p0 p1 _ => by rw [← e3]; exact dn_clr (by omega) (by omega) hbit p)))
      refine g_iload C dX5_step_58 rfl ?_
      refine g_bipush C dX5_step_60 (by decide) ?_
      refine g_icmp_ge C 141 dX5_step_62 (by decide) (by omega) (fun h62 => ?_) (fun h62 => ?_)
      · exact absurd h62 (by omega)
      · refine g_aload_n C dX5_step_65 rfl ?_
        refine gA_sets C dX5_step_66 ?_
        refine g_bipush C dX5_step_69 (by decide) ?_
        refine g_iload_n C dX5_step_71 rfl ?_
        refine g_imul C dX5_step_72 ?_
        refine g_iload C dX5_step_73 rfl ?_
        refine g_iadd C dX5_step_75 ?_
        refine lA_sets C (by omega) dX5_step_76 ?_
        rw [hg.1 _ (by omega), hs2 _ (by omega)]
        refine g_lstore C dX5_step_77 (by decide) ?_
        refine g_locR rfl (ilp _ (sets (7 * s + k)) sets1 (Nat.lt_succ_self _) (fun _ _ _ h => h) (hg.congr (fun p p0 p1 hp => ?_)))
        unfold dn
        by_cases e : p / 64 = k
        · have hb : bt (sets (7 * s + k)) (p % 64) = true := by rw [hrow _ (by omega) (by omega), show 64 * k + p % 64 = p by omega]; exact hp
          simp [hb]
        · simp [e]
  have lp := loopZ (fun k => ∀ sets1, (∀ j, j < 7 * cnt → sets1 j = sets j) → (∀ m, 0 ≤ m → m < k → sets1 (7 * cnt + m) = 0) → G X 8 0 0 (wA X.Z a (ap 0) sets1 moves accepts heads chain groups news lives cnt table tells states strt ++ (wP X.Z ap tx len wrong low high owners follows isLast start places count empty firsts lasts top opn cur ++ wr)) 11 [(0, .ref (a 0)), (1, vI s), (2, vI b), (3, vI (7 * cnt)), (4, vI k)] []) 0 7 (by omega) (fun sets1 h1 h2 => ?_) (fun k k0 k1 ih sets1 h1 h2 => ?_)
  · show G _ _ _ _ _ _ _ _
    refine g_bipush C dX5_step_0 (by decide) ?_
    refine g_aload_n C dX5_step_2 rfl ?_
    refine gA_count C dX5_step_3 ?_
    refine g_imul C dX5_step_6 ?_
    refine g_istore_n C dX5_step_7 (by decide) ?_
    refine g_iconst C dX5_step_8 ?_
    refine g_istore C dX5_step_9 (by decide) ?_
    exact g_locR rfl (lp sets (fun _ _ => rfl) (fun m m0 m1 => by omega))
  · show G _ _ _ _ _ _ _ _
    have hz : ∀ q, 0 ≤ q → q < 448 → hasB sets1 (7 * cnt) q = false := by
      intro q q0 q1
      unfold hasB
      rw [h2 _ (by omega) (by omega), bt_0]
    refine g_iload C dX5_step_11 rfl ?_
    refine g_bipush C dX5_step_13 (by decide) ?_
    refine g_icmp_ge C 34 dX5_step_15 (by decide) (by omega) (fun h15 => ?_) (fun h15 => ?_)
    · refine g_iload_n C dX5_step_34 rfl ?_
      refine g_if_ne C 55 dX5_step_35 (by decide) (by omega) (fun h35 => ?_) (fun h35 => ?_)
      · refine g_iconst C dX5_step_55 ?_
        refine g_istore C dX5_step_56 (by decide) ?_
        exact g_locR rfl (big sets1 (by omega) h1 hz)
      · refine g_aload_n C dX5_step_38 rfl ?_
        refine g_aload_n C dX5_step_39 rfl ?_
        refine gA_patterns C dX5_step_40 ?_
        refine g_getN C 11 9 in_X3 rfl rfl (by decide) (List.mem_of_getElem? (i := 7) rfl) rfl rfl dX5_step_43 ?_
        refine g_iconst C dX5_step_46 ?_
        refine g_iload_n C dX5_step_47 rfl ?_
        refine g_iload_n C dX5_step_48 rfl ?_
        refine g_cVWv C [_, _, _, _] _ 0 cal_X5_71 (cA_gather (q := 18) (row := start) (frm := 0) (fun _ => rfl) (by omega) (by omega) (by omega) hb0 hb1 (by omega) (by omega) (fun q q0 q1 hq => by rw [hst q q0 q1] at hq; have := hfi1 _ hq; omega)) rfl rfl rfl rfl (Nat.le_of_ble_eq_true rfl) (room_b rfl) dX5_step_49 (fun w hw49 => ?_)
        obtain ⟨sets2, hg2, rfl⟩ := hw49
        refine g_goto C 141 dX5_step_52 (by decide) ?_
        exact g_locR rfl (fin sets2 (fun j hj => (hg2.1 j (Or.inl hj)).trans (h1 j hj)) (fun q q0 q1 => by rw [hg2.2 q q0 q1, hz q q0 q1, hst q q0 q1]; unfold tgt; rw [if_pos (by omega)]; simp))
    · exact absurd h15 (by omega)
  · show G _ _ _ _ _ _ _ _
    refine g_iload C dX5_step_11 rfl ?_
    refine g_bipush C dX5_step_13 (by decide) ?_
    refine g_icmp_ge C 34 dX5_step_15 (by decide) (by omega) (fun h15 => ?_) (fun h15 => ?_)
    · exact absurd h15 (by omega)
    · refine g_aload_n C dX5_step_18 rfl ?_
      refine gA_sets C dX5_step_19 ?_
      refine g_iload_n C dX5_step_22 rfl ?_
      refine g_iload C dX5_step_23 rfl ?_
      refine g_iadd C dX5_step_25 ?_
      refine g_lconst C 0 dX5_step_26 rfl ?_
      refine sA_sets C (by omega) dX5_step_27 ?_
      refine g_iinc C dX5_step_28 rfl (by decide) ?_
      refine g_goto C 11 dX5_step_31 (by decide) ?_
      exact g_locR rfl (ih _ (fun j hj => by rw [up_ne _ _ (by omega)]; exact h1 j hj) (fun m m0 m1 => by by_cases e : m = k; subst e; exact up_same _ _ _; rw [up_ne _ _ (by omega)]; exact h2 m m0 (by omega)))
