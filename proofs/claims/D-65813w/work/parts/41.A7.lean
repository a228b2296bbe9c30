/-! Automaton: number -/
def NumI (cnt : Int) (lives : Int → Bool) (groups accepts : Int → Int) (s n : Int) (news tells : Int → Int) : Prop :=
  (0 ≤ n ∧ n ≤ 200) ∧ (∀ g, 0 ≤ g → g < cnt → news g = -1 ∨ (0 ≤ news g ∧ news g < n)) ∧ (∀ t, 0 ≤ t → t < s → lives t = true → 0 ≤ news (groups t)) ∧
  ∃ rp : Int → Int, (∀ k, 0 ≤ k → k < n → (0 ≤ rp k ∧ rp k < s ∧ lives (rp k) = true) ∧ news (groups (rp k)) = k ∧ tells k = accepts (rp k)) ∧ ∀ g, 0 ≤ g → g < cnt → 0 ≤ news g → groups (rp (news g)) = g
theorem NumI.skip {cnt : Int} {lives : Int → Bool} {groups accepts : Int → Int} {s n : Int} {news tells : Int → Int} (h : NumI cnt lives groups accepts s n news tells) (hs : lives s = true → 0 ≤ news (groups s)) : NumI cnt lives groups accepts (s + 1) n news tells := by
  obtain ⟨h1, h2, h3, rp, h4, h5⟩ := h
  refine ⟨h1, h2, fun t t0 t1 hl => ?_, rp, fun k k0 k1 => ?_, h5⟩
  · by_cases e : t = s
    · subst e; exact hs hl
    · exact h3 t t0 (by omega) hl
  · have := h4 k k0 k1
    exact ⟨⟨this.1.1, by omega, this.1.2.2⟩, this.2⟩
theorem NumI.new {cnt : Int} {lives : Int → Bool} {groups accepts : Int → Int} {s n : Int} {news tells : Int → Int} (h : NumI cnt lives groups accepts s n news tells) (s0 : 0 ≤ s) (s1 : s < cnt) (hl : lives s = true) (hn : ¬ 0 ≤ news (groups s)) (hg : ∀ s, 0 ≤ s → s < cnt → 0 ≤ groups s ∧ groups s < cnt) (hn2 : n ≠ 200) : NumI cnt lives groups accepts (s + 1) (n + 1) (up news (groups s) n) (up tells n (accepts s)) := by
  obtain ⟨h1, h2, h3, rp, h4, h5⟩ := h
  refine ⟨by omega, fun g g0 g1 => ?_, fun t t0 t1 hl => ?_, up rp n s, fun k k0 k1 => ?_, fun g g0 g1 hgn => ?_⟩
  · by_cases e : g = groups s
    · subst e; rw [up_same]; omega
    · rw [up_ne _ _ e]; have := h2 g g0 g1; omega
  · by_cases e : groups t = groups s
    · rw [e, up_same]; omega
    · rw [up_ne _ _ e]
      exact h3 t t0 (by have : t ≠ s := fun q => e (by rw [q]); omega) hl
  · by_cases e : k = n
    · subst e; rw [up_same, up_same, up_same]; exact ⟨⟨s0, by omega, hl⟩, rfl, rfl⟩
    · have := h4 k k0 (by omega)
      rw [up_ne rp _ e, up_ne tells _ e]
      refine ⟨⟨this.1.1, by omega, this.1.2.2⟩, ?_, this.2.2⟩
      rw [up_ne _ _ (fun q => hn (by rw [← q, this.2.1]; exact k0))]
      exact this.2.1
  · by_cases e : g = groups s
    · subst e; rw [up_same, up_same]
    · rw [up_ne news _ e] at hgn ⊢
      have := h2 g g0 g1
      rw [up_ne rp _ (by omega)]
      exact h5 g g0 g1 hgn
theorem NumI.no {cnt : Int} {lives : Int → Bool} {groups accepts : Int → Int} {s : Int} {news tells : Int → Int} (h : NumI cnt lives groups accepts s 200 news tells) (s0 : 0 ≤ s) (s1 : s < cnt) (hl : lives s = true) (hn : ¬ 0 ≤ news (groups s)) : ∃ g : Int → Int, (∀ i, 0 ≤ i → i < 201 → 0 ≤ g i ∧ g i < cnt ∧ lives (g i) = true) ∧ ∀ i j, 0 ≤ i → i < 201 → 0 ≤ j → j < 201 → groups (g i) = groups (g j) → i = j := by
  obtain ⟨h1, h2, h3, rp, h4, h5⟩ := h
  refine ⟨up rp 200 s, fun i i0 i1 => ?_, fun i j i0 i1 j0 j1 he => ?_⟩
  · by_cases e : i = 200
    · subst e; rw [up_same]; exact ⟨s0, s1, hl⟩
    · rw [up_ne _ _ e]
      have := h4 i i0 (by omega)
      exact ⟨this.1.1, by omega, this.1.2.2⟩
  · by_cases e : i = 200
    · by_cases e2 : j = 200
      · omega
      · subst e
        rw [up_same, up_ne _ _ e2] at he
        have := h4 j j0 (by omega)
        rw [he, this.2.1] at hn
        exact absurd j0 hn
    · by_cases e2 : j = 200
      · subst e2
        rw [up_same, up_ne _ _ e] at he
        have := h4 i i0 (by omega)
        rw [← he, this.2.1] at hn
        exact absurd i0 hn
      · rw [up_ne _ _ e, up_ne _ _ e2] at he
        have a1 := h4 i i0 (by omega)
        have a2 := h4 j j0 (by omega)
        rw [← a1.2.1, ← a2.2.1, he]
/-- the table of the classes -/
def NumOk (cnt : Int) (mv : Int → Int) (lives : Int → Bool) (groups accepts table tells : Int → Int) (states strt : Int) : Prop :=
  states ≤ 200 ∧ ∃ cls : Int → Int, Onto (fun s => 0 ≤ s ∧ s < cnt ∧ lives s = true) cls states ∧ (∀ s t, (0 ≤ s ∧ s < cnt ∧ lives s = true) → (0 ≤ t ∧ t < cnt ∧ lives t = true) → (cls s = cls t ↔ groups s = groups t)) ∧
  (∀ s, (0 ≤ s ∧ s < cnt ∧ lives s = true) → (∀ b, 0 ≤ b → b < 128 → table (128 * cls s + b) = if lives (mv (128 * s + b)) = true then cls (mv (128 * s + b)) else -1) ∧ tells (cls s) = accepts s) ∧ strt = if lives 0 = true then cls 0 else -1
def NumNo (cnt : Int) (lives : Int → Bool) (groups : Int → Int) : Prop := ∃ g : Int → Int, (∀ i, 0 ≤ i → i < 201 → 0 ≤ g i ∧ g i < cnt ∧ lives (g i) = true) ∧ ∀ i j, 0 ≤ i → i < 201 → 0 ≤ j → j < 201 → groups (g i) = groups (g j) → i = j
theorem cA_number {Z : Zk} {wr : va_W} {a : Nat → Nat} {pa : Nat} {sets : Int → Int64} {moves : Int → Int} {accepts : Int → Int} {heads : Int → Int} {chain : Int → Int} {groups : Int → Int} {news : Int → Int} {lives : Int → Bool} {cnt : Int} {table : Int → Int} {tells : Int → Int} {states : Int} {strt : Int} (hc1 : 1 ≤ cnt) (hc2 : cnt ≤ 401) (hmv : MvOk cnt moves) (hg : ∀ s, 0 ≤ s → s < cnt → 0 ≤ groups s ∧ groups s < cnt) (hac : ∀ s, 0 ≤ s → s < cnt → -1 ≤ accepts s ∧ accepts s ≤ 0)
    (href : ∀ s t, 0 ≤ s → s < cnt → 0 ≤ t → t < cnt → groups s = groups t → lives s = lives t ∧ accepts s = accepts t ∧ ∀ b, 0 ≤ b → b < 128 → groups (moves (128 * s + b)) = groups (moves (128 * t + b))) :
    Ct Z yX5_number hX5_number 1 20 [.ref (a 0)] (wA Z a pa sets moves accepts heads chain groups news lives cnt table tells states strt ++ wr) 0 0 (Rz fun r w => ∃ news1 table1 tells1 states1 strt1, w = wA Z a pa sets moves accepts heads chain groups news1 lives cnt table1 tells1 states1 strt1 ++ wr ∧ ((r = true ∧ NumOk cnt moves lives groups accepts table1 tells1 states1 strt1) ∨ (r = false ∧ NumNo cnt lives groups))) := by
  refine Ct.of RX5 "number" (by decide +kernel) rfl rfl hkX5_number (Nat.le_of_ble_eq_true rfl) (fun X hZ C => ?_)
  subst hZ
  have lv : ∀ s t, 0 ≤ s → s < cnt → 0 ≤ t → t < cnt → groups s = groups t → ∀ b, 0 ≤ b → b < 128 → lives (moves (128 * s + b)) = lives (moves (128 * t + b)) ∧ groups (moves (128 * s + b)) = groups (moves (128 * t + b)) := by
    intro s t s0 s1 t0 t1 he b b0 b1
    have m1 := hmv.at s0 s1 b0 b1
    have m2 := hmv.at t0 t1 b0 b1
    have h := (href s t s0 s1 t0 t1 he).2.2 b b0 b1
    exact ⟨(href _ _ (by omega) m1.2 (by omega) m2.2 h).1, h⟩
  -- the table
  have tab : ∀ (states1 : Int) (news1 tells1 : Int → Int), NumI cnt lives groups accepts cnt states1 news1 tells1 → G X 5 0 0 (wA X.Z a pa sets moves accepts heads chain groups news1 lives cnt table tells1 states1 strt ++ wr) 124 [(0, .ref (a 0)), (1, vI 0)] [] := by
    intro states1 news1 tells1 hI
    obtain ⟨h1, h2, h3, rp, h4, h5⟩ := hI
    have nr : ∀ s, 0 ≤ s → s < cnt → lives s = true → 0 ≤ news1 (groups s) ∧ news1 (groups s) < states1 := by
      intro s s0 s1 hl
      have a1 := h3 s s0 s1 hl
      have g1 := hg s s0 s1
      have a2 := h2 _ g1.1 g1.2
      omega
    have inj : ∀ s t, 0 ≤ s → s < cnt → lives s = true → 0 ≤ t → t < cnt → lives t = true → news1 (groups s) = news1 (groups t) → groups s = groups t := by
      intro s t s0 s1 hl t0 t1 hl2 he
      have g1 := hg s s0 s1
      have g2 := hg t t0 t1
      rw [← h5 _ g1.1 g1.2 (nr s s0 s1 hl).1, he, h5 _ g2.1 g2.2 (nr t t0 t1 hl2).1]
    have lp := loopZ (fun s => ∀ table1 : Int → Int, (∀ t, 0 ≤ t → t < s → lives t = true → ∀ b, 0 ≤ b → b < 128 → table1 (128 * news1 (groups t) + b) = if lives (moves (128 * t + b)) = true then news1 (groups (moves (128 * t + b))) else -1) → G X 5 0 0 (wA X.Z a pa sets moves accepts heads chain groups news1 lives cnt table1 tells1 states1 strt ++ wr) 124 [(0, .ref (a 0)), (1, vI s)] []) 0 cnt (by omega) (fun table1 ht => ?_) (fun s s0 s1 ih table1 ht => ?_)
    · exact lp table (fun t _ _ => by omega)
    · show G _ _ _ _ _ _ _ _
      have fin : ∀ strt1, strt1 = (if lives 0 = true then news1 (groups 0) else -1) → NumOk cnt moves lives groups accepts table1 tells1 states1 strt1 := by
        intro strt1 hs
        refine ⟨h1.2, fun s => news1 (groups s), ⟨h1.1, fun s hs => nr s hs.1 hs.2.1 hs.2.2, fun y y0 y1 => ?_⟩, fun s t hs ht => ⟨inj s t hs.1 hs.2.1 hs.2.2 ht.1 ht.2.1 ht.2.2, fun h => congrArg news1 h⟩, fun s hs => ⟨fun b b0 b1 => ht s hs.1 hs.2.1 hs.2.2 b b0 b1, ?_⟩, hs⟩
        · have := h4 y y0 y1
          exact ⟨rp y, this.1, this.2.1⟩
        · have hn := nr s hs.1 hs.2.1 hs.2.2
          have := h4 _ hn.1 hn.2
          have hgr := inj _ _ this.1.1 this.1.2.1 this.1.2.2 hs.1 hs.2.1 hs.2.2 this.2.1
          rw [this.2.2]
          exact (href _ _ this.1.1 this.1.2.1 hs.1 hs.2.1 hgr).2.1
      have hg0 := hg 0 (by omega) (by omega)
      refine g_iload_n C dX5_number_124 rfl ?_
      refine g_aload_n C dX5_number_125 rfl ?_
      refine gA_count C dX5_number_126 ?_
      refine g_icmp_ge C 229 dX5_number_129 (by decide) (by omega) (fun h129 => ?_) (fun h129 => ?_)
      · refine g_aload_n C dX5_number_229 rfl ?_
        refine g_aload_n C dX5_number_230 rfl ?_
        refine gA_lives C dX5_number_231 ?_
        refine g_iconst C dX5_number_234 ?_
        refine lA_lives C (by omega) dX5_number_235 ?_
        refine g_if_eq C 253 dX5_number_236 (by decide) (b2_r _) (fun h236 => ?_) (fun h236 => ?_)
        · refine g_iconst C dX5_number_253 ?_
          refine pA_start C dX5_number_254 ?_
          refine g_iconst C dX5_number_257 ?_
          exact g_zret C true rfl rfl ⟨_, rfl, _, _, _, _, _, rfl, Or.inl ⟨rfl, fin _ (by first | rw [if_neg (by rw [(b2_0 _).mp h236]; decide)] | rw [if_pos ((b2_ne0 _).mp h236)])⟩⟩ dX5_number_258
        · refine g_aload_n C dX5_number_239 rfl ?_
          refine gA_news C dX5_number_240 ?_
          refine g_aload_n C dX5_number_243 rfl ?_
          refine gA_groups C dX5_number_244 ?_
          refine g_iconst C dX5_number_247 ?_
          refine lA_groups C (by omega) dX5_number_248 ?_
          refine lA_news C (by omega) dX5_number_249 ?_
          refine g_goto C 254 dX5_number_250 (by decide) ?_
          refine pA_start C dX5_number_254 ?_
          refine g_iconst C dX5_number_257 ?_
          exact g_zret C true rfl rfl ⟨_, rfl, _, _, _, _, _, rfl, Or.inl ⟨rfl, fin _ (by first | rw [if_neg (by rw [(b2_0 _).mp h236]; decide)] | rw [if_pos ((b2_ne0 _).mp h236)])⟩⟩ dX5_number_258
      · exact absurd h129 (by omega)
    · show G _ _ _ _ _ _ _ _
      have nxt : ∀ (L : List (Nat × Value)) (table1 : Int → Int), (∀ t, 0 ≤ t → t < s + 1 → lives t = true → ∀ b, 0 ≤ b → b < 128 → table1 (128 * news1 (groups t) + b) = if lives (moves (128 * t + b)) = true then news1 (groups (moves (128 * t + b))) else -1) → G X 5 0 0 (wA X.Z a pa sets moves accepts heads chain groups news1 lives cnt table1 tells1 states1 strt ++ wr) 223 [(0, .ref (a 0)), (1, vI s)] [] := by
        intro L table1 ht
        refine g_iinc C dX5_number_223 rfl (by decide) ?_
        refine g_goto C 124 dX5_number_226 (by decide) ?_
        exact g_locR rfl (ih table1 ht)
      have row : lives s = true → G X 5 0 0 (wA X.Z a pa sets moves accepts heads chain groups news1 lives cnt table1 tells1 states1 strt ++ wr) 162 [(0, .ref (a 0)), (1, vI s), (2, vI (128 * news1 (groups s))), (3, vI 0)] [] := by
        intro hl
        have hn := nr s s0 s1 hl
        have bl := loopZ (fun b => ∀ table1 : Int → Int, (∀ t, 0 ≤ t → t < s → lives t = true → ∀ b, 0 ≤ b → b < 128 → table1 (128 * news1 (groups t) + b) = if lives (moves (128 * t + b)) = true then news1 (groups (moves (128 * t + b))) else -1) → (∀ c, 0 ≤ c → c < b → table1 (128 * news1 (groups s) + c) = if lives (moves (128 * s + c)) = true then news1 (groups (moves (128 * s + c))) else -1) → G X 5 0 0 (wA X.Z a pa sets moves accepts heads chain groups news1 lives cnt table1 tells1 states1 strt ++ wr) 162 [(0, .ref (a 0)), (1, vI s), (2, vI (128 * news1 (groups s))), (3, vI b)] []) 0 128 (by omega) (fun table1 ht hc => ?_) (fun b b0 b1 ihb table1 ht hc => ?_)
        · exact bl table1 ht (fun c _ _ => by omega)
        · show G _ _ _ _ _ _ _ _
          refine g_iload_n C dX5_number_162 rfl ?_
          refine g_sipush C dX5_number_163 (by decide) ?_
          refine g_icmp_ge C 223 dX5_number_166 (by decide) (by omega) (fun h166 => ?_) (fun h166 => ?_)
          · exact g_locR rfl (nxt [] table1 (fun t t0 t1 hlt b b0 b1 => by by_cases e : t = s; subst e; exact hc b b0 b1; exact ht t t0 (by omega) hlt b b0 b1))
          · exact absurd h166 (by omega)
        · show G _ _ _ _ _ _ _ _
          have m1 := hmv.at s0 s1 b0 b1
          have g1 := hg _ (by omega) m1.2
          have stp : ∀ v, v = (if lives (moves (128 * s + b)) = true then news1 (groups (moves (128 * s + b))) else -1) → G X 5 0 0 (wA X.Z a pa sets moves accepts heads chain groups news1 lives cnt (up table1 (128 * news1 (groups s) + b) v) tells1 states1 strt ++ wr) 162 [(0, .ref (a 0)), (1, vI s), (2, vI (128 * news1 (groups s))), (3, vI (b + 1))] [] := by
            intro v hv
            refine ihb _ (fun t t0 t1 hlt c c0 c1 => ?_) (fun c c0 c1 => ?_)
            · by_cases e : 128 * news1 (groups t) + c = 128 * news1 (groups s) + b
              · have ec : c = b := by omega
                have en : news1 (groups t) = news1 (groups s) := by omega
                subst ec
                rw [e, up_same, hv]
                have h := lv t s t0 (by omega) s0 s1 (inj t s t0 (by omega) hlt s0 s1 hl en) c c0 c1
                rw [h.1, h.2]
              · rw [up_ne _ _ e]; exact ht t t0 t1 hlt c c0 c1
            · by_cases e : c = b
              · subst e; rw [up_same]; exact hv
              · rw [up_ne _ _ (by omega)]; exact hc c c0 (by omega)
          refine g_iload_n C dX5_number_162 rfl ?_
          refine g_sipush C dX5_number_163 (by decide) ?_
          refine g_icmp_ge C 223 dX5_number_166 (by decide) (by omega) (fun h166 => ?_) (fun h166 => ?_)
          · exact absurd h166 (by omega)
          · refine g_aload_n C dX5_number_169 rfl ?_
            refine gA_moves C dX5_number_170 ?_
            refine g_sipush C dX5_number_173 (by decide) ?_
            refine g_iload_n C dX5_number_176 rfl ?_
            refine g_imul C dX5_number_177 ?_
            refine g_iload_n C dX5_number_178 rfl ?_
            refine g_iadd C dX5_number_179 ?_
            refine lA_moves C (by omega) dX5_number_180 ?_
            refine g_istore C dX5_number_181 (by decide) ?_
            refine g_aload_n C dX5_number_183 rfl ?_
            refine gA_table C dX5_number_184 ?_
            refine g_iload_n C dX5_number_187 rfl ?_
            refine g_iload_n C dX5_number_188 rfl ?_
            refine g_iadd C dX5_number_189 ?_
            refine g_aload_n C dX5_number_190 rfl ?_
            refine gA_lives C dX5_number_191 ?_
            refine g_iload C dX5_number_194 rfl ?_
            refine lA_lives C (by omega) dX5_number_196 ?_
            refine g_if_eq C 215 dX5_number_197 (by decide) (b2_r _) (fun h197 => ?_) (fun h197 => ?_)
            · refine g_iconst C dX5_number_215 ?_
              refine sA_table C (by omega) dX5_number_216 ?_
              refine g_iinc C dX5_number_217 rfl (by decide) ?_
              refine g_goto C 162 dX5_number_220 (by decide) ?_
              first | exact g_locR rfl (stp _ (by rw [if_neg (by rw [(b2_0 _).mp h197]; decide)])) | exact g_locR rfl (stp _ (by rw [if_pos ((b2_ne0 _).mp h197)]))
            · refine g_aload_n C dX5_number_200 rfl ?_
              refine gA_news C dX5_number_201 ?_
              refine g_aload_n C dX5_number_204 rfl ?_
              refine gA_groups C dX5_number_205 ?_
              refine g_iload C dX5_number_208 rfl ?_
              refine lA_groups C (by omega) dX5_number_210 ?_
              refine lA_news C (by omega) dX5_number_211 ?_
              refine g_goto C 216 dX5_number_212 (by decide) ?_
              refine sA_table C (by omega) dX5_number_216 ?_
              refine g_iinc C dX5_number_217 rfl (by decide) ?_
              refine g_goto C 162 dX5_number_220 (by decide) ?_
              first | exact g_locR rfl (stp _ (by rw [if_neg (by rw [(b2_0 _).mp h197]; decide)])) | exact g_locR rfl (stp _ (by rw [if_pos ((b2_ne0 _).mp h197)]))
      have g1 := hg s s0 s1
      refine g_iload_n C dX5_number_124 rfl ?_
      refine g_aload_n C dX5_number_125 rfl ?_
      refine gA_count C dX5_number_126 ?_
      refine g_icmp_ge C 229 dX5_number_129 (by decide) (by omega) (fun h129 => ?_) (fun h129 => ?_)
      · exact absurd h129 (by omega)
      · refine g_aload_n C dX5_number_132 rfl ?_
        refine gA_lives C dX5_number_133 ?_
        refine g_iload_n C dX5_number_136 rfl ?_
        refine lA_lives C (by omega) dX5_number_137 ?_
        refine g_if_ne C 144 dX5_number_138 (by decide) (b2_r _) (fun h138 => ?_) (fun h138 => ?_)
        · have hl := (b2_ne0 _).mp h138
          have hn := nr s s0 s1 hl
          refine g_sipush C dX5_number_144 (by decide) ?_
          refine g_aload_n C dX5_number_147 rfl ?_
          refine gA_news C dX5_number_148 ?_
          refine g_aload_n C dX5_number_151 rfl ?_
          refine gA_groups C dX5_number_152 ?_
          refine g_iload_n C dX5_number_155 rfl ?_
          refine lA_groups C (by omega) dX5_number_156 ?_
          refine lA_news C (by omega) dX5_number_157 ?_
          refine g_imul C dX5_number_158 ?_
          refine g_istore_n C dX5_number_159 (by decide) ?_
          refine g_iconst C dX5_number_160 ?_
          refine g_istore_n C dX5_number_161 (by decide) ?_
          exact g_locR rfl (row hl)
        · have hl := (b2_0 _).mp h138
          refine g_goto C 223 dX5_number_141 (by decide) ?_
          exact nxt [] table1 (fun t t0 t1 hlt => by by_cases e : t = s; subst e; rw [hl] at hlt; exact absurd hlt (by decide); exact ht t t0 (by omega) hlt)
  have lp2 := loopZ (fun s => ∀ (states1 : Int) (news1 tells1 : Int → Int), NumI cnt lives groups accepts s states1 news1 tells1 → G X 5 0 0 (wA X.Z a pa sets moves accepts heads chain groups news1 lives cnt table tells1 states1 strt ++ wr) 30 [(0, .ref (a 0)), (1, vI s)] []) 0 cnt (by omega) (fun states1 news1 tells1 hI => ?_) (fun s s0 s1 ih states1 news1 tells1 hI => ?_)
  · have lp := loopZ (fun k => G X 5 0 0 (wA X.Z a pa sets moves accepts heads chain groups (upTo news 0 k (fun _ => -1)) lives cnt table tells 0 strt ++ wr) 7 [(0, .ref (a 0)), (1, vI k)] []) 0 cnt (by omega) ?_ (fun k k0 k1 ihk => ?_)
    · rw [upTo_0] at lp
      refine g_aload_n C dX5_number_0 rfl ?_
      refine g_iconst C dX5_number_1 ?_
      refine pA_states C dX5_number_2 ?_
      refine g_iconst C dX5_number_5 ?_
      refine g_istore_n C dX5_number_6 (by decide) ?_
      exact g_locR rfl lp
    · show G _ _ _ _ _ _ _ _
      refine g_iload_n C dX5_number_7 rfl ?_
      refine g_aload_n C dX5_number_8 rfl ?_
      refine gA_count C dX5_number_9 ?_
      refine g_icmp_ge C 28 dX5_number_12 (by decide) (by omega) (fun h12 => ?_) (fun h12 => ?_)
      · refine g_iconst C dX5_number_28 ?_
        refine g_istore_n C dX5_number_29 (by decide) ?_
        exact g_locR rfl (lp2 0 _ tells ⟨by omega, fun g g0 g1 => Or.inl (upTo_at0 _ _ g0 g1), fun t _ _ => by omega, fun _ => 0, fun k _ _ => by omega, fun g g0 g1 h => by rw [upTo_at0 _ _ g0 g1] at h; exact absurd h (by decide)⟩)
      · exact absurd h12 (by omega)
    · show G _ _ _ _ _ _ _ _
      refine g_iload_n C dX5_number_7 rfl ?_
      refine g_aload_n C dX5_number_8 rfl ?_
      refine gA_count C dX5_number_9 ?_
      refine g_icmp_ge C 28 dX5_number_12 (by decide) (by omega) (fun h12 => ?_) (fun h12 => ?_)
      · exact absurd h12 (by omega)
      · refine g_aload_n C dX5_number_15 rfl ?_
        refine gA_news C dX5_number_16 ?_
        refine g_iload_n C dX5_number_19 rfl ?_
        refine g_iconst C dX5_number_20 ?_
        refine sA_news C (by omega) dX5_number_21 ?_
        refine g_iinc C dX5_number_22 rfl (by decide) ?_
        refine g_goto C 7 dX5_number_25 (by decide) ?_
        rw [upTo_s0 _ (fun _ => -1) k0]
        exact g_locR rfl ihk
  · show G _ _ _ _ _ _ _ _
    refine g_iload_n C dX5_number_30 rfl ?_
    refine g_aload_n C dX5_number_31 rfl ?_
    refine gA_count C dX5_number_32 ?_
    refine g_icmp_ge C 122 dX5_number_35 (by decide) (by omega) (fun h35 => ?_) (fun h35 => ?_)
    · refine g_iconst C dX5_number_122 ?_
      refine g_istore_n C dX5_number_123 (by decide) ?_
      exact g_locR rfl (tab states1 _ _ hI)
    · exact absurd h35 (by omega)
  · show G _ _ _ _ _ _ _ _
    have g1 := hg s s0 s1
    have nw := hI.2.1 _ g1.1 g1.2
    have ns := hI.1
    refine g_iload_n C dX5_number_30 rfl ?_
    refine g_aload_n C dX5_number_31 rfl ?_
    refine gA_count C dX5_number_32 ?_
    refine g_icmp_ge C 122 dX5_number_35 (by decide) (by omega) (fun h35 => ?_) (fun h35 => ?_)
    · exact absurd h35 (by omega)
    · refine g_aload_n C dX5_number_38 rfl ?_
      refine gA_lives C dX5_number_39 ?_
      refine g_iload_n C dX5_number_42 rfl ?_
      refine lA_lives C (by omega) dX5_number_43 ?_
      refine g_if_eq C 116 dX5_number_44 (by decide) (b2_r _) (fun h44 => ?_) (fun h44 => ?_)
      · have hl := (b2_0 _).mp h44
        refine g_iinc C dX5_number_116 rfl (by decide) ?_
        refine g_goto C 30 dX5_number_119 (by decide) ?_
        first | exact g_locR rfl (ih _ _ _ (hI.new s0 s1 hl (by omega) hg (by omega))) | exact g_locR rfl (ih _ _ _ (hI.skip (fun h => by omega))) | exact g_locR rfl (ih _ _ _ (hI.skip (fun h => by rw [hl] at h; exact absurd h (by decide))))
      · have hl := (b2_ne0 _).mp h44
        refine g_aload_n C dX5_number_47 rfl ?_
        refine gA_news C dX5_number_48 ?_
        refine g_aload_n C dX5_number_51 rfl ?_
        refine gA_groups C dX5_number_52 ?_
        refine g_iload_n C dX5_number_55 rfl ?_
        refine lA_groups C (by omega) dX5_number_56 ?_
        refine lA_news C (by omega) dX5_number_57 ?_
        refine g_if_lt C 64 dX5_number_58 (by decide) (by omega) (fun h58 => ?_) (fun h58 => ?_)
        · refine g_aload_n C dX5_number_64 rfl ?_
          refine gA_states C dX5_number_65 ?_
          refine g_sipush C dX5_number_68 (by decide) ?_
          refine g_icmp_ne C 76 dX5_number_71 (by decide) (by omega) (fun h71 => ?_) (fun h71 => ?_)
          · refine g_aload_n C dX5_number_76 rfl ?_
            refine gA_news C dX5_number_77 ?_
            refine g_aload_n C dX5_number_80 rfl ?_
            refine gA_groups C dX5_number_81 ?_
            refine g_iload_n C dX5_number_84 rfl ?_
            refine lA_groups C (by omega) dX5_number_85 ?_
            refine g_aload_n C dX5_number_86 rfl ?_
            refine gA_states C dX5_number_87 ?_
            refine sA_news C (by omega) dX5_number_90 ?_
            refine g_aload_n C dX5_number_91 rfl ?_
            refine gA_tells C dX5_number_92 ?_
            refine g_aload_n C dX5_number_95 rfl ?_
            refine gA_states C dX5_number_96 ?_
            refine g_aload_n C dX5_number_99 rfl ?_
            refine gA_accepts C dX5_number_100 ?_
            refine g_iload_n C dX5_number_103 rfl ?_
            refine lA_accepts C (by omega) dX5_number_104 ?_
            refine sA_tells C (by omega) dX5_number_105 ?_
            refine g_aload_n C dX5_number_106 rfl ?_
            refine g_dup C dX5_number_107 rfl ?_
            refine gA_states C dX5_number_108 ?_
            refine g_iconst C dX5_number_111 ?_
            refine g_iadd C dX5_number_112 ?_
            refine pA_states C dX5_number_113 ?_
            refine g_iinc C dX5_number_116 rfl (by decide) ?_
            refine g_goto C 30 dX5_number_119 (by decide) ?_
            first | exact g_locR rfl (ih _ _ _ (hI.new s0 s1 hl (by omega) hg (by omega))) | exact g_locR rfl (ih _ _ _ (hI.skip (fun h => by omega))) | exact g_locR rfl (ih _ _ _ (hI.skip (fun h => by rw [hl] at h; exact absurd h (by decide))))
          · refine g_iconst C dX5_number_74 ?_
            exact g_zret C false rfl rfl ⟨_, rfl, news1, table, tells1, states1, strt, rfl, Or.inr ⟨rfl, NumI.no (by rw [show (200 : Int) = states1 by omega]; exact hI) s0 s1 hl (by omega)⟩⟩ dX5_number_75
        · refine g_goto C 116 dX5_number_61 (by decide) ?_
          refine g_iinc C dX5_number_116 rfl (by decide) ?_
          refine g_goto C 30 dX5_number_119 (by decide) ?_
          first | exact g_locR rfl (ih _ _ _ (hI.new s0 s1 hl (by omega) hg (by omega))) | exact g_locR rfl (ih _ _ _ (hI.skip (fun h => by omega))) | exact g_locR rfl (ih _ _ _ (hI.skip (fun h => by rw [hl] at h; exact absurd h (by decide))))
