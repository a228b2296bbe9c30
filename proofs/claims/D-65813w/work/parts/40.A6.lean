/-! Automaton: split -/
def hG (groups mv : Int → Int) (s : Int) : Nat → Int
  | 0 => groups s
  | n + 1 => 31 * hG groups mv s n + groups (mv (128 * s + n))
def slotG (groups mv : Int → Int) (s : Int) : Int := iand (ixor (hG groups mv s 128) (iushr (hG groups mv s 128) 16)) 511
theorem slotG_r (g mv : Int → Int) (s : Int) : 0 ≤ slotG g mv s ∧ slotG g mv s < 512 := by
  have h := iand_low (ixor (hG g mv s 128) (iushr (hG g mv s 128) 16)) (m := 511) (by decide)
  have e : slotG g mv s = iand (ixor (hG g mv s 128) (iushr (hG g mv s 128) 16)) ((511 : Nat) : Int) := rfl
  omega
theorem hG_alk {g mv : Int → Int} {s t : Int} (h : Alk g mv s t) : ∀ n : Nat, n ≤ 128 → hG g mv s n = hG g mv t n
  | 0, _ => h.1
  | n + 1, hn => by unfold hG; rw [hG_alk h n (by omega), h.2 n (by omega) (by omega)]
theorem slotG_alk {g mv : Int → Int} {s t : Int} (h : Alk g mv s t) : slotG g mv s = slotG g mv t := by unfold slotG; rw [hG_alk h 128 (by omega)]
def SplI (groups mv : Int → Int) (s many : Int) (news heads chain : Int → Int) : Prop :=
  (0 ≤ many ∧ many ≤ s) ∧ (∀ t, 0 ≤ t → t < s → 0 ≤ news t ∧ news t < many) ∧ (∀ t u, 0 ≤ t → t < s → 0 ≤ u → u < s → (news t = news u ↔ Alk groups mv t u)) ∧ ∃ rp : Int → Int, (∀ k, 0 ≤ k → k < many → 0 ≤ rp k ∧ rp k < s ∧ news (rp k) = k) ∧ ChOk heads chain 512 s (fun t => rp (news t) = t) (slotG groups mv)
theorem SplI.old {g mv : Int → Int} {s many t0 : Int} {news heads chain : Int → Int} (h : SplI g mv s many news heads chain) (t1 : 0 ≤ t0) (t2 : t0 < s) (ha : Alk g mv s t0) : SplI g mv (s + 1) many (up news s (news t0)) heads chain := by
  obtain ⟨h1, h2, h3, rp, h4, h5⟩ := h
  refine ⟨⟨h1.1, by omega⟩, fun t t0' t1' => ?_, fun t u a0 a1 b0 b1 => ?_, rp, fun k k0 k1 => ?_, h5.skip ?_ (fun t a0 a1 => ?_) (fun _ _ _ _ => rfl)⟩
  · by_cases e : t = s
    · subst e; rw [up_same]; exact h2 t0 t1 t2
    · rw [up_ne _ _ e]; exact h2 t t0' (by omega)
  · by_cases e : t = s
    · by_cases e2 : u = s
      · subst e; subst e2; exact ⟨fun _ => Alk.rf, fun _ => rfl⟩
      · subst e
        rw [up_same, up_ne _ _ e2, h3 t0 u t1 t2 b0 (by omega)]
        exact ⟨fun h => ha.trans h, fun h => ha.symm.trans h⟩
    · by_cases e2 : u = s
      · subst e2
        rw [up_same, up_ne _ _ e, h3 t t0 a0 (by omega) t1 t2]
        exact ⟨fun h => h.trans ha.symm, fun h => h.trans ha⟩
      · rw [up_ne _ _ e, up_ne _ _ e2]; exact h3 t u a0 (by omega) b0 (by omega)
  · have := h4 k k0 k1
    exact ⟨this.1, by omega, by rw [up_ne _ _ (by omega)]; exact this.2.2⟩
  · rw [up_same]
    have hn := h2 t0 t1 t2
    have := h4 _ hn.1 hn.2
    omega
  · rw [up_ne _ _ (by omega)]
theorem SplI.new {g mv : Int → Int} {s many : Int} {news heads chain : Int → Int} (h : SplI g mv s many news heads chain) (s0 : 0 ≤ s) (hno : ∀ t, 0 ≤ t → t < s → ¬ Alk g mv s t) : SplI g mv (s + 1) (many + 1) (up news s many) (up heads (slotG g mv s) s) (up chain s (heads (slotG g mv s))) := by
  obtain ⟨h1, h2, h3, rp, h4, h5⟩ := h
  refine ⟨⟨by omega, by omega⟩, fun t t0' t1' => ?_, fun t u a0 a1 b0 b1 => ?_, up rp many s, fun k k0 k1 => ?_, h5.add s0 rfl (by rw [up_same, up_same]) (fun t a0 a1 => ?_) (fun _ _ _ _ => rfl)⟩
  · by_cases e : t = s
    · subst e; rw [up_same]; omega
    · rw [up_ne _ _ e]; have := h2 t t0' (by omega); omega
  · by_cases e : t = s
    · by_cases e2 : u = s
      · subst e; subst e2; exact ⟨fun _ => Alk.rf, fun _ => rfl⟩
      · subst e
        rw [up_same, up_ne _ _ e2]
        have := h2 u b0 (by omega)
        exact ⟨fun h => by omega, fun h => absurd h (hno u b0 (by omega))⟩
    · by_cases e2 : u = s
      · subst e2
        rw [up_same, up_ne _ _ e]
        have := h2 t a0 (by omega)
        exact ⟨fun h => by omega, fun h => absurd h.symm (hno t a0 (by omega))⟩
      · rw [up_ne _ _ e, up_ne _ _ e2]; exact h3 t u a0 (by omega) b0 (by omega)
  · by_cases e : k = many
    · subst e; rw [up_same, up_same]; omega
    · have := h4 k k0 (by omega)
      rw [up_ne _ _ e]
      exact ⟨this.1, by omega, by rw [up_ne _ _ (by omega)]; exact this.2.2⟩
  · have := h2 t a0 a1
    rw [up_ne news _ (by omega), up_ne rp _ (by omega)]
theorem cA_split {Z : Zk} {wr : va_W} {a : Nat → Nat} {pa : Nat} {sets : Int → Int64} {moves : Int → Int} {accepts : Int → Int} {heads : Int → Int} {chain : Int → Int} {groups : Int → Int} {news : Int → Int} {lives : Int → Bool} {cnt : Int} {table : Int → Int} {tells : Int → Int} {states : Int} {strt : Int} (hc1 : 1 ≤ cnt) (hc2 : cnt ≤ 401) (hmv : MvOk cnt moves) (hgr : ∀ s, 0 ≤ s → s < cnt → 0 ≤ groups s ∧ groups s ≤ 401) : Ct Z yX5_split hX5_split 2 50 [.ref (a 0)] (wA Z a pa sets moves accepts heads chain groups news lives cnt table tells states strt ++ wr) 0 0 (Ri fun r w => ∃ news1 heads1 chain1, w = wA Z a pa sets moves accepts heads1 chain1 (upTo groups 0 cnt news1) news1 lives cnt table tells states strt ++ wr ∧ r ≤ cnt ∧ Onto (fun s => 0 ≤ s ∧ s < cnt) news1 r ∧ ∀ t u, 0 ≤ t → t < cnt → 0 ≤ u → u < cnt → (news1 t = news1 u ↔ Alk groups moves t u)) := by
  refine Ct.of RX5 "split" (by decide +kernel) rfl rfl hkX5_split (Nat.le_of_ble_eq_true rfl) (fun X hZ C => ?_)
  subst hZ
  -- the end: groups are the new ones
  have fin : ∀ many (news1 heads1 chain1 : Int → Int), SplI groups moves cnt many news1 heads1 chain1 → G X 6 0 0 (wA X.Z a pa sets moves accepts heads1 chain1 groups news1 lives cnt table tells states strt ++ wr) 196 [(0, .ref (a 0)), (1, vI many), (2, vI 0)] [] := by
    intro many news1 heads1 chain1 hI
    have lp := loopZ (fun k => G X 6 0 0 (wA X.Z a pa sets moves accepts heads1 chain1 (upTo groups 0 k news1) news1 lives cnt table tells states strt ++ wr) 196 [(0, .ref (a 0)), (1, vI many), (2, vI k)] []) 0 cnt (by omega) ?_ (fun k k0 k1 ih => ?_)
    · rw [upTo_0] at lp
      exact lp
    · show G _ _ _ _ _ _ _ _
      refine g_iload_n C dX5_split_196 rfl ?_
      refine g_aload_n C dX5_split_197 rfl ?_
      refine gA_count C dX5_split_198 ?_
      refine g_icmp_ge C 222 dX5_split_201 (by decide) (by omega) (fun h201 => ?_) (fun h201 => ?_)
      · refine g_iload_n C dX5_split_222 rfl ?_
        exact g_iret C rfl ⟨_, rfl, news1, heads1, chain1, rfl, hI.1.2, ⟨hI.1.1, fun s hs => hI.2.1 s hs.1 hs.2, fun y y0 y1 => by obtain ⟨rp, h4, _⟩ := hI.2.2.2; have := h4 y y0 y1; exact ⟨rp y, ⟨this.1, this.2.1⟩, this.2.2⟩⟩, hI.2.2.1⟩ dX5_split_223
      · exact absurd h201 (by omega)
    · show G _ _ _ _ _ _ _ _
      refine g_iload_n C dX5_split_196 rfl ?_
      refine g_aload_n C dX5_split_197 rfl ?_
      refine gA_count C dX5_split_198 ?_
      refine g_icmp_ge C 222 dX5_split_201 (by decide) (by omega) (fun h201 => ?_) (fun h201 => ?_)
      · exact absurd h201 (by omega)
      · refine g_aload_n C dX5_split_204 rfl ?_
        refine gA_groups C dX5_split_205 ?_
        refine g_iload_n C dX5_split_208 rfl ?_
        refine g_aload_n C dX5_split_209 rfl ?_
        refine gA_news C dX5_split_210 ?_
        refine g_iload_n C dX5_split_213 rfl ?_
        refine lA_news C (by omega) dX5_split_214 ?_
        refine sA_groups C (by omega) dX5_split_215 ?_
        refine g_iinc C dX5_split_216 rfl (by decide) ?_
        refine g_goto C 196 dX5_split_219 (by decide) ?_
        rw [upTo_s0 _ news1 k0]
        exact g_locR rfl ih
  have big := loopZ (fun s => ∀ many (news1 heads1 chain1 : Int → Int), SplI groups moves s many news1 heads1 chain1 → G X 6 0 0 (wA X.Z a pa sets moves accepts heads1 chain1 groups news1 lives cnt table tells states strt ++ wr) 28 [(0, .ref (a 0)), (1, vI many), (2, vI s)] []) 0 cnt (by omega) (fun many news1 heads1 chain1 hI => ?_) (fun s s0 s1 ih many news1 heads1 chain1 hI => ?_)
  · have lp := loopZ (fun k => G X 6 0 0 (wA X.Z a pa sets moves accepts (upTo heads 0 k (fun _ => -1)) chain groups news lives cnt table tells states strt ++ wr) 4 [(0, .ref (a 0)), (1, vI 0), (2, vI k)] []) 0 512 (by omega) ?_ (fun k k0 k1 ihk => ?_)
    · rw [upTo_0] at lp
      refine g_iconst C dX5_split_0 ?_
      refine g_istore_n C dX5_split_1 (by decide) ?_
      refine g_iconst C dX5_split_2 ?_
      refine g_istore_n C dX5_split_3 (by decide) ?_
      exact g_locR rfl lp
    · show G _ _ _ _ _ _ _ _
      refine g_iload_n C dX5_split_4 rfl ?_
      refine g_aload_n C dX5_split_5 rfl ?_
      refine gA_heads C dX5_split_6 ?_
      refine nA_heads C dX5_split_9 ?_
      refine g_icmp_ge C 26 dX5_split_10 (by decide) (by omega) (fun h10 => ?_) (fun h10 => ?_)
      · refine g_iconst C dX5_split_26 ?_
        refine g_istore_n C dX5_split_27 (by decide) ?_
        exact g_locR rfl (big 0 news _ chain ⟨by omega, fun t _ _ => by omega, fun t _ _ _ => by omega, fun _ => 0, fun k _ _ => by omega, ChOk.new (fun i i0 i1 => upTo_at0 _ _ i0 i1) (fun t _ _ => by omega)⟩)
      · exact absurd h10 (by omega)
    · show G _ _ _ _ _ _ _ _
      refine g_iload_n C dX5_split_4 rfl ?_
      refine g_aload_n C dX5_split_5 rfl ?_
      refine gA_heads C dX5_split_6 ?_
      refine nA_heads C dX5_split_9 ?_
      refine g_icmp_ge C 26 dX5_split_10 (by decide) (by omega) (fun h10 => ?_) (fun h10 => ?_)
      · exact absurd h10 (by omega)
      · refine g_aload_n C dX5_split_13 rfl ?_
        refine gA_heads C dX5_split_14 ?_
        refine g_iload_n C dX5_split_17 rfl ?_
        refine g_iconst C dX5_split_18 ?_
        refine sA_heads C (by omega) dX5_split_19 ?_
        refine g_iinc C dX5_split_20 rfl (by decide) ?_
        refine g_goto C 4 dX5_split_23 (by decide) ?_
        rw [upTo_s0 _ (fun _ => -1) k0]
        exact g_locR rfl ihk
  · show G _ _ _ _ _ _ _ _
    refine g_iload_n C dX5_split_28 rfl ?_
    refine g_aload_n C dX5_split_29 rfl ?_
    refine gA_count C dX5_split_30 ?_
    refine g_icmp_ge C 194 dX5_split_33 (by decide) (by omega) (fun h33 => ?_) (fun h33 => ?_)
    · refine g_iconst C dX5_split_194 ?_
      refine g_istore_n C dX5_split_195 (by decide) ?_
      exact g_locR rfl (fin many _ _ _ hI)
    · exact absurd h33 (by omega)
  · show G _ _ _ _ _ _ _ _
    have hI2 := hI
    obtain ⟨g1, g2, g3, rp, g4, B, hB⟩ := hI
    have hsr := slotG_r groups moves s
    obtain ⟨hb1, hb2, hb3⟩ := hB _ hsr.1 hsr.2
    have srch : ∀ (l : List Int) (h : Int), Lst chain1 h l → (∀ t, t ∈ l → 0 ≤ t ∧ t < s ∧ rp (news1 t) = t) → (∀ t, 0 ≤ t → t < s → rp (news1 t) = t → Alk groups moves s t → t ∈ l) → G X 6 0 0 (wA X.Z a pa sets moves accepts heads1 chain1 groups news1 lives cnt table tells states strt ++ wr) 109 [(0, .ref (a 0)), (1, vI many), (2, vI s), (3, vI (hG groups moves s 128)), (4, vI (slotG groups moves s)), (5, vI h)] [] := by
      intro l
      induction l with
      | nil =>
        intro h hl ht hm
        have hl : h = -1 := hl
        subst hl
        have hno : ∀ t, 0 ≤ t → t < s → ¬ Alk groups moves s t := by
          intro t t0 t1 ha
          have hk := g2 t t0 t1
          have hu := g4 _ hk.1 hk.2
          have hau := (g3 _ _ hu.1 hu.2.1 t0 t1).mp hu.2.2
          exact absurd (hm _ hu.1 hu.2.1 (by rw [hu.2.2]) (ha.trans hau.symm)) List.not_mem_nil
        refine g_iload C dX5_split_109 rfl ?_
        refine g_if_lt C 136 dX5_split_111 (by decide) (by omega) (fun h111 => ?_) (fun h111 => ?_)
        · refine g_iload C dX5_split_136 rfl ?_
          refine g_if_lt C 157 dX5_split_138 (by decide) (by omega) (fun h138 => ?_) (fun h138 => ?_)
          · refine g_aload_n C dX5_split_157 rfl ?_
            refine gA_news C dX5_split_158 ?_
            refine g_iload_n C dX5_split_161 rfl ?_
            refine g_iload_n C dX5_split_162 rfl ?_
            refine sA_news C (by omega) dX5_split_163 ?_
            refine g_iinc C dX5_split_164 rfl (by decide) ?_
            refine g_aload_n C dX5_split_167 rfl ?_
            refine gA_chain C dX5_split_168 ?_
            refine g_iload_n C dX5_split_171 rfl ?_
            refine g_aload_n C dX5_split_172 rfl ?_
            refine gA_heads C dX5_split_173 ?_
            refine g_iload C dX5_split_176 rfl ?_
            refine lA_heads C (by omega) dX5_split_178 ?_
            refine sA_chain C (by omega) dX5_split_179 ?_
            refine g_aload_n C dX5_split_180 rfl ?_
            refine gA_heads C dX5_split_181 ?_
            refine g_iload C dX5_split_184 rfl ?_
            refine g_iload_n C dX5_split_186 rfl ?_
            refine sA_heads C (by omega) dX5_split_187 ?_
            refine g_iinc C dX5_split_188 rfl (by decide) ?_
            refine g_goto C 28 dX5_split_191 (by decide) ?_
            exact g_locR rfl (ih _ _ _ _ (hI2.new s0 hno))
          · exact absurd (by assumption) (by decide)
        · exact absurd (by assumption) (by decide)
      | cons x l ihl =>
        intro h hl ht hm
        obtain ⟨rfl, hx0, hl2⟩ := hl
        have hxt := ht h (List.mem_cons_self ..)
        refine g_iload C dX5_split_109 rfl ?_
        refine g_if_lt C 136 dX5_split_111 (by decide) (by omega) (fun h111 => ?_) (fun h111 => ?_)
        · exact absurd (by assumption) (by omega)
        · refine g_aload_n C dX5_split_114 rfl ?_
          refine g_iload_n C dX5_split_115 rfl ?_
          refine g_iload C dX5_split_116 rfl ?_
          refine g_cVWz C [_, _] _ 0 cal_X5_120 (cA_alike hc2 hmv hgr s0 s1 hx0 (by omega)) rfl rfl rfl rfl (Nat.le_of_ble_eq_true rfl) (room_b rfl) dX5_split_118 (fun r118 w hw118 => ?_)
          obtain ⟨hr118, rfl⟩ := hw118
          refine g_if_ne C 136 dX5_split_121 (by decide) (b2_r _) (fun h121 => ?_) (fun h121 => ?_)
          · have hy : Alk groups moves s h := tr_iff.mp (by rw [← hr118]; exact (b2_ne0 _).mp h121)
            refine g_iload C dX5_split_136 rfl ?_
            refine g_if_lt C 157 dX5_split_138 (by decide) (by omega) (fun h138 => ?_) (fun h138 => ?_)
            · exact absurd (by assumption) (by omega)
            · refine g_aload_n C dX5_split_141 rfl ?_
              refine gA_news C dX5_split_142 ?_
              refine g_iload_n C dX5_split_145 rfl ?_
              refine g_aload_n C dX5_split_146 rfl ?_
              refine gA_news C dX5_split_147 ?_
              refine g_iload C dX5_split_150 rfl ?_
              refine lA_news C (by omega) dX5_split_152 ?_
              refine sA_news C (by omega) dX5_split_153 ?_
              refine g_goto C 188 dX5_split_154 (by decide) ?_
              refine g_iinc C dX5_split_188 rfl (by decide) ?_
              refine g_goto C 28 dX5_split_191 (by decide) ?_
              exact g_locR rfl (ih _ _ _ _ (hI2.old hx0 hxt.2.1 hy))
          · have hn : ¬ Alk groups moves s h := fun e => by have e2 := tr_iff.mpr e; rw [← hr118, (b2_0 _).mp h121] at e2; exact absurd e2 (by decide)
            refine g_aload_n C dX5_split_124 rfl ?_
            refine gA_chain C dX5_split_125 ?_
            refine g_iload C dX5_split_128 rfl ?_
            refine lA_chain C (by omega) dX5_split_130 ?_
            refine g_istore C dX5_split_131 (by decide) ?_
            refine g_goto C 109 dX5_split_133 (by decide) ?_
            exact g_locR rfl (ihl _ hl2 (fun t ht2 => ht t (List.mem_cons_of_mem _ ht2)) (fun t t0 t1 hrp hta => by rcases List.mem_cons.mp (hm t t0 t1 hrp hta) with e | e; exact absurd (e ▸ hta) hn; exact e))
    have go : G X 6 0 0 (wA X.Z a pa sets moves accepts heads1 chain1 groups news1 lives cnt table tells states strt ++ wr) 84 [(0, .ref (a 0)), (1, vI many), (2, vI s), (3, vI (hG groups moves s 128))] [] := by
      refine g_iload_n C dX5_split_84 rfl ?_
      refine g_iload_n C dX5_split_85 rfl ?_
      refine g_bipush C dX5_split_86 (by decide) ?_
      refine g_iushr C dX5_split_88 ?_
      refine g_ixor C dX5_split_89 ?_
      refine g_aload_n C dX5_split_90 rfl ?_
      refine gA_heads C dX5_split_91 ?_
      refine nA_heads C dX5_split_94 ?_
      refine g_iconst C dX5_split_95 ?_
      refine g_isub C dX5_split_96 ?_
      refine g_iand C dX5_split_97 ?_
      refine g_top (show _ = slotG groups moves s from rfl) ?_
      refine g_istore C dX5_split_98 (by decide) ?_
      refine g_aload_n C dX5_split_100 rfl ?_
      refine gA_heads C dX5_split_101 ?_
      refine g_iload C dX5_split_104 rfl ?_
      refine lA_heads C (by omega) dX5_split_106 ?_
      refine g_istore C dX5_split_107 (by decide) ?_
      exact g_locR rfl (srch _ _ hb1 hb2 (fun t t0 t1 hrp hta => hb3 t t0 t1 hrp (slotG_alk hta.symm)))
    have hlp := loopZ (fun b => G X 6 0 0 (wA X.Z a pa sets moves accepts heads1 chain1 groups news1 lives cnt table tells states strt ++ wr) 46 [(0, .ref (a 0)), (1, vI many), (2, vI s), (3, vI (hG groups moves s b.toNat)), (4, vI b)] []) 0 128 (by omega) ?_ (fun b b0 b1 ihb => ?_)
    · show G _ _ _ _ _ _ _ _
      refine g_iload_n C dX5_split_28 rfl ?_
      refine g_aload_n C dX5_split_29 rfl ?_
      refine gA_count C dX5_split_30 ?_
      refine g_icmp_ge C 194 dX5_split_33 (by decide) (by omega) (fun h33 => ?_) (fun h33 => ?_)
      · exact absurd h33 (by omega)
      · refine g_aload_n C dX5_split_36 rfl ?_
        refine gA_groups C dX5_split_37 ?_
        refine g_iload_n C dX5_split_40 rfl ?_
        refine lA_groups C (by omega) dX5_split_41 ?_
        refine g_istore_n C dX5_split_42 (by decide) ?_
        refine g_iconst C dX5_split_43 ?_
        refine g_istore C dX5_split_44 (by decide) ?_
        exact g_locR rfl hlp
    · show G _ _ _ _ _ _ _ _
      refine g_iload C dX5_split_46 rfl ?_
      refine g_sipush C dX5_split_48 (by decide) ?_
      refine g_icmp_ge C 84 dX5_split_51 (by decide) (by omega) (fun h51 => ?_) (fun h51 => ?_)
      · exact g_locR rfl go
      · exact absurd h51 (by omega)
    · show G _ _ _ _ _ _ _ _
      have hm := hmv.at s0 s1 b0 b1
      rw [show (b + 1).toNat = b.toNat + 1 by omega] at ihb
      unfold hG at ihb
      rw [Int.toNat_of_nonneg b0] at ihb
      refine g_iload C dX5_split_46 rfl ?_
      refine g_sipush C dX5_split_48 (by decide) ?_
      refine g_icmp_ge C 84 dX5_split_51 (by decide) (by omega) (fun h51 => ?_) (fun h51 => ?_)
      · exact absurd h51 (by omega)
      · refine g_bipush C dX5_split_54 (by decide) ?_
        refine g_iload_n C dX5_split_56 rfl ?_
        refine g_imul C dX5_split_57 ?_
        refine g_aload_n C dX5_split_58 rfl ?_
        refine gA_groups C dX5_split_59 ?_
        refine g_aload_n C dX5_split_62 rfl ?_
        refine gA_moves C dX5_split_63 ?_
        refine g_sipush C dX5_split_66 (by decide) ?_
        refine g_iload_n C dX5_split_69 rfl ?_
        refine g_imul C dX5_split_70 ?_
        refine g_iload C dX5_split_71 rfl ?_
        refine g_iadd C dX5_split_73 ?_
        refine lA_moves C (by omega) dX5_split_74 ?_
        refine lA_groups C (by omega) dX5_split_75 ?_
        refine g_iadd C dX5_split_76 ?_
        refine g_istore_n C dX5_split_77 (by decide) ?_
        refine g_iinc C dX5_split_78 rfl (by decide) ?_
        refine g_goto C 46 dX5_split_81 (by decide) ?_
        exact g_locR rfl ihb
