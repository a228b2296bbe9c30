/-! Automaton: found -/
/-- the sets that were found -/
def AcS (cnt : Int) (S : Int → Int → Bool) (N : Int) (la : Int → Bool) (sets : Int → Int64) (accepts heads chain : Int → Int) : Prop :=
  (1 ≤ cnt ∧ cnt ≤ 401) ∧ (∀ s, 1 ≤ s → s < cnt → ∀ p, 0 ≤ p → p < 448 → hasB sets (7 * s) p = S s p) ∧ (∀ s, 1 ≤ s → s < cnt → ∀ p, 0 ≤ p → p < 448 → S s p = true → p < N) ∧ Dis (cnt, S, fun _ => 0) ∧
  ChOk heads chain 512 cnt (fun t => 1 ≤ t) (fun t => slotA sets (7 * t)) ∧ accepts 0 = -1 ∧ ∀ s, 1 ≤ s → s < cnt → accepts s = bacc (anyB (fun p => S s p && la p) N)
theorem AcS.add {cnt N : Int} {S : Int → Int → Bool} {la : Int → Bool} {sets : Int → Int64} {accepts heads chain : Int → Int} {R : Int → Bool} (h : AcS cnt S N la sets accepts heads chain) (hc : cnt ≤ 400) (hR : ∀ p, 0 ≤ p → p < 448 → hasB sets (7 * cnt) p = R p) (hRN : ∀ p, 0 ≤ p → p < 448 → R p = true → p < N) (hN : N ≤ 400) (hno : ∀ m, ¬ Mat (cnt, S, fun _ => 0) R m) :
    AcS (cnt + 1) (up S cnt R) N la sets (up accepts cnt (bacc (anyB (fun p => hasB sets (7 * cnt) p && la p) N))) (up heads (slotA sets (7 * cnt)) cnt) (up chain cnt (heads (slotA sets (7 * cnt)))) := by
  obtain ⟨⟨h1, h2⟩, h3, h4, h5, h6, h7, h8⟩ := h
  refine ⟨⟨by omega, by omega⟩, fun s s0 s1 p p0 p1 => ?_, fun s s0 s1 p p0 p1 => ?_, h5.new hno, h6.add (by omega) rfl h1 (fun _ _ _ => Iff.rfl) (fun _ _ _ _ => rfl), ?_, fun s s0 s1 => ?_⟩
  · by_cases e : s = cnt
    · subst e; rw [up_same]; exact hR p p0 p1
    · rw [up_ne _ _ e]; exact h3 s s0 (by omega) p p0 p1
  · by_cases e : s = cnt
    · subst e; rw [up_same]; exact hRN p p0 p1
    · rw [up_ne _ _ e]; exact h4 s s0 (by omega) p p0 p1
  · rw [up_ne _ _ (by omega)]; exact h7
  · by_cases e : s = cnt
    · subst e
      rw [up_same, up_same]
      exact congrArg bacc (anyB_congr (fun p p0 p1 => by rw [hR p p0 (by omega)]))
    · rw [up_ne _ _ e, up_ne _ _ e]; exact h8 s s0 (by omega)
theorem cA_found {Z : Zk} {wr : va_W} {a : Nat → Nat} {sets : Int → Int64} {moves : Int → Int} {accepts : Int → Int} {heads : Int → Int} {chain : Int → Int} {groups : Int → Int} {news : Int → Int} {lives : Int → Bool} {cnt : Int} {table : Int → Int} {tells : Int → Int} {states : Int} {strt : Int} {tx : Value} {len : Int} {wrong : Int} {low : Int → Int64} {high : Int → Int64} {owners : Int → Int} {follows : Int → Int64} {isLast : Int → Bool} {start : Int → Int64} {places : Int} {count : Int} {empty : Int → Bool} {firsts : Int → Int64} {lasts : Int → Int64} {top : Int} {opn : Int} {cur : Int} {ap : Nat → Nat} {S : Int → Int → Bool} {R : Int → Bool} (hA1 : AcS cnt S places isLast sets accepts heads chain) (hR : ∀ p, 0 ≤ p → p < 448 → hasB sets (7 * cnt) p = R p) (hRN : ∀ p, 0 ≤ p → p < 448 → R p = true → p < places) (hp0 : 0 ≤ places) (hp1 : places ≤ 400) (hown : ∀ p, 0 ≤ p → p < places → owners p = 0) :
    Ct Z yX5_found hX5_found 3 90 [.ref (a 0)] (wA Z a (ap 0) sets moves accepts heads chain groups news lives cnt table tells states strt ++ (wP Z ap tx len wrong low high owners follows isLast start places count empty firsts lasts top opn cur ++ wr)) 0 0 (Ri fun r w => (Mat (cnt, S, fun _ => 0) R r ∧ w = wA Z a (ap 0) sets moves accepts heads chain groups news lives cnt table tells states strt ++ (wP Z ap tx len wrong low high owners follows isLast start places count empty firsts lasts top opn cur ++ wr)) ∨ ((∀ m, ¬ Mat (cnt, S, fun _ => 0) R m) ∧ 400 < cnt ∧ r = -1 ∧ w = wA Z a (ap 0) sets moves accepts heads chain groups news lives cnt table tells states strt ++ (wP Z ap tx len wrong low high owners follows isLast start places count empty firsts lasts top opn cur ++ wr)) ∨ ((∀ m, ¬ Mat (cnt, S, fun _ => 0) R m) ∧ cnt ≤ 400 ∧ r = cnt ∧ ∃ accepts1 heads1 chain1, AcS (cnt + 1) (up S cnt R) places isLast sets accepts1 heads1 chain1 ∧ w = wA Z a (ap 0) sets moves accepts1 heads1 chain1 groups news lives (cnt + 1) table tells states strt ++ (wP Z ap tx len wrong low high owners follows isLast start places count empty firsts lasts top opn cur ++ wr))) := by
  refine Ct.of RX5 "found" (by decide +kernel) rfl rfl hkX5_found (Nat.le_of_ble_eq_true rfl) (fun X hZ C => ?_)
  subst hZ
  have hA2 := hA1
  obtain ⟨⟨hc1, hc2⟩, hS, hSN, hDis, ⟨B, hB⟩, hac0, hac⟩ := hA1
  have hsr := slotA_r sets (7 * cnt)
  obtain ⟨hb1, hb2, hb3⟩ := hB _ hsr.1 hsr.2
  have eqv : ∀ x, 1 ≤ x → x < cnt → (Mat (cnt, S, fun _ => 0) R x ↔ ∀ m, 0 ≤ m → m < 7 → sets (7 * x + m) = sets (7 * cnt + m)) := by
    intro x x0 x1
    constructor
    · intro hm
      exact row_ext (fun p p0 p1 => by rw [hS x x0 x1 p p0 p1, hR p p0 p1]; exact hm.2.2 p p0 p1)
    · intro hm
      refine ⟨x0, x1, fun p p0 p1 => ?_⟩
      show S x p = R p
      rw [← hS x x0 x1 p p0 p1, ← hR p p0 p1]
      exact hasB_eq hm p0 p1
  have srch : ∀ (l : List Int) (h : Int), Lst chain h l → (∀ t, t ∈ l → 0 ≤ t ∧ t < cnt ∧ 1 ≤ t) → (∀ t, Mat (cnt, S, fun _ => 0) R t → t ∈ l) → G X 7 0 0 (wA X.Z a (ap 0) sets moves accepts heads chain groups news lives cnt table tells states strt ++ (wP X.Z ap tx len wrong low high owners follows isLast start places count empty firsts lasts top opn cur ++ wr)) 66 [(0, .ref (a 0)), (1, .long (hA sets (7 * cnt) 7)), (3, vI (slotA sets (7 * cnt))), (4, vI h)] [] := by
    intro l
    induction l with
    | nil =>
      intro h hl ht hm
      have hl : h = -1 := hl
      subst hl
      have hno : ∀ m, ¬ Mat (cnt, S, fun _ => 0) R m := fun m hmm => absurd (hm m hmm) List.not_mem_nil
      refine g_iload C dX5_found_66 rfl ?_
      refine g_if_lt C 154 dX5_found_68 (by decide) (by omega) (fun h68 => ?_) (fun h68 => ?_)
      · refine g_aload_n C dX5_found_154 rfl ?_
        refine gA_count C dX5_found_155 ?_
        refine g_sipush C dX5_found_158 (by decide) ?_
        refine g_icmp_le C 166 dX5_found_161 (by decide) (by omega) (fun h161 => ?_) (fun h161 => ?_)
        · refine g_aload_n C dX5_found_166 rfl ?_
          refine gA_chain C dX5_found_167 ?_
          refine g_aload_n C dX5_found_170 rfl ?_
          refine gA_count C dX5_found_171 ?_
          refine g_aload_n C dX5_found_174 rfl ?_
          refine gA_heads C dX5_found_175 ?_
          refine g_iload_n C dX5_found_178 rfl ?_
          refine lA_heads C (by omega) dX5_found_179 ?_
          refine sA_chain C (by omega) dX5_found_180 ?_
          refine g_aload_n C dX5_found_181 rfl ?_
          refine gA_heads C dX5_found_182 ?_
          refine g_iload_n C dX5_found_185 rfl ?_
          refine g_aload_n C dX5_found_186 rfl ?_
          refine gA_count C dX5_found_187 ?_
          refine sA_heads C (by omega) dX5_found_190 ?_
          refine g_aload_n C dX5_found_191 rfl ?_
          refine gA_accepts C dX5_found_192 ?_
          refine g_aload_n C dX5_found_195 rfl ?_
          refine gA_count C dX5_found_196 ?_
          refine g_aload_n C dX5_found_199 rfl ?_
          refine g_aload_n C dX5_found_200 rfl ?_
          refine gA_count C dX5_found_201 ?_
          refine g_cVWi C [_] _ 0 cal_X5_94 (cA_pattern (by omega) (by omega) hp0 hp1 hown) rfl rfl rfl rfl (Nat.le_of_ble_eq_true rfl) (room_b rfl) dX5_found_204 (fun r204 w hw204 => ?_)
          obtain ⟨rfl, rfl⟩ := hw204
          refine sA_accepts C (by omega) dX5_found_207 ?_
          refine g_aload_n C dX5_found_208 rfl ?_
          refine g_dup C dX5_found_209 rfl ?_
          refine gA_count C dX5_found_210 ?_
          refine g_iconst C dX5_found_213 ?_
          refine g_iadd C dX5_found_214 ?_
          refine pA_count C dX5_found_215 ?_
          refine g_aload_n C dX5_found_218 rfl ?_
          refine gA_count C dX5_found_219 ?_
          refine g_iconst C dX5_found_222 ?_
          refine g_isub C dX5_found_223 ?_
          exact g_iret C rfl ⟨_, rfl, Or.inr (Or.inr ⟨hno, by omega, by omega, _, _, _, AcS.add hA2 (by omega) hR hRN hp1 hno, rfl⟩)⟩ dX5_found_224
        · refine g_iconst C dX5_found_164 ?_
          exact g_iret C rfl ⟨_, rfl, Or.inr (Or.inl ⟨hno, by omega, rfl, rfl⟩)⟩ dX5_found_165
      · exact absurd h68 (by omega)
    | cons x l ihl =>
      intro h hl ht hm
      obtain ⟨rfl, hx0, hl2⟩ := hl
      have hxt := ht h (List.mem_cons_self ..)
      have nx : ¬ Mat (cnt, S, fun _ => 0) R h → ∀ k q, G X 7 0 0 (wA X.Z a (ap 0) sets moves accepts heads chain groups news lives cnt table tells states strt ++ (wP X.Z ap tx len wrong low high owners follows isLast start places count empty firsts lasts top opn cur ++ wr)) 142 [(0, .ref (a 0)), (1, .long (hA sets (7 * cnt) 7)), (3, vI (slotA sets (7 * cnt))), (4, vI h), (5, vI q), (6, vI k)] [] := by
        intro hn k q
        refine g_aload_n C dX5_found_142 rfl ?_
        refine gA_chain C dX5_found_143 ?_
        refine g_iload C dX5_found_146 rfl ?_
        refine lA_chain C (by omega) dX5_found_148 ?_
        refine g_istore C dX5_found_149 (by decide) ?_
        refine g_goto C 66 dX5_found_151 (by decide) ?_
        exact g_locR rfl (ihl _ hl2 (fun t ht2 => ht t (List.mem_cons_of_mem _ ht2)) (fun t htm => by rcases List.mem_cons.mp (hm t htm) with e | e; exact absurd (e ▸ htm) hn; exact e))
      have mis : ¬ Mat (cnt, S, fun _ => 0) R h → ∀ k, 0 ≤ k → k ≤ 7 → G X 7 0 0 (wA X.Z a (ap 0) sets moves accepts heads chain groups news lives cnt table tells states strt ++ (wP X.Z ap tx len wrong low high owners follows isLast start places count empty firsts lasts top opn cur ++ wr)) 77 [(0, .ref (a 0)), (1, .long (hA sets (7 * cnt) 7)), (3, vI (slotA sets (7 * cnt))), (4, vI h), (5, vI 0), (6, vI k)] [] := by
        intro hn k k0 k1
        refine g_iload C dX5_found_77 rfl ?_
        refine g_bipush C dX5_found_79 (by decide) ?_
        refine g_icmp_ge C 134 dX5_found_81 (by decide) (by omega) (fun h81 => ?_) (fun h81 => ?_)
        · refine g_iload C dX5_found_134 rfl ?_
          refine g_if_eq C 142 dX5_found_136 (by decide) (by omega) (fun h136 => ?_) (fun h136 => ?_)
          · exact nx hn k 0
          · exact absurd rfl h136
        · refine g_iload C dX5_found_84 rfl ?_
          refine g_if_eq C 134 dX5_found_86 (by decide) (by omega) (fun h86 => ?_) (fun h86 => ?_)
          · refine g_iload C dX5_found_134 rfl ?_
            refine g_if_eq C 142 dX5_found_136 (by decide) (by omega) (fun h136 => ?_) (fun h136 => ?_)
            · exact nx hn k 0
            · exact absurd rfl h136
          · exact absurd rfl h86
      have cmp := loopZ (fun k => (∀ m, 0 ≤ m → m < k → sets (7 * h + m) = sets (7 * cnt + m)) → G X 7 0 0 (wA X.Z a (ap 0) sets moves accepts heads chain groups news lives cnt table tells states strt ++ (wP X.Z ap tx len wrong low high owners follows isLast start places count empty firsts lasts top opn cur ++ wr)) 77 [(0, .ref (a 0)), (1, .long (hA sets (7 * cnt) 7)), (3, vI (slotA sets (7 * cnt))), (4, vI h), (5, vI 1), (6, vI k)] []) 0 7 (by omega) (fun he => ?_) (fun k k0 k1 ih he => ?_)
      · show G _ _ _ _ _ _ _ _
        refine g_iload C dX5_found_66 rfl ?_
        refine g_if_lt C 154 dX5_found_68 (by decide) (by omega) (fun h68 => ?_) (fun h68 => ?_)
        · exact absurd h68 (by omega)
        · refine g_iconst C dX5_found_71 ?_
          refine g_istore C dX5_found_72 (by decide) ?_
          refine g_iconst C dX5_found_74 ?_
          refine g_istore C dX5_found_75 (by decide) ?_
          exact g_locR rfl (cmp (fun m m0 m1 => by omega))
      · show G _ _ _ _ _ _ _ _
        refine g_iload C dX5_found_77 rfl ?_
        refine g_bipush C dX5_found_79 (by decide) ?_
        refine g_icmp_ge C 134 dX5_found_81 (by decide) (by omega) (fun h81 => ?_) (fun h81 => ?_)
        · refine g_iload C dX5_found_134 rfl ?_
          refine g_if_eq C 142 dX5_found_136 (by decide) (by omega) (fun h136 => ?_) (fun h136 => ?_)
          · exact absurd h136 (by decide)
          · refine g_iload C dX5_found_139 rfl ?_
            exact g_iret C rfl ⟨_, rfl, Or.inl ⟨(eqv h hxt.2.2 hxt.2.1).mpr he, rfl⟩⟩ dX5_found_141
        · exact absurd h81 (by omega)
      · show G _ _ _ _ _ _ _ _
        refine g_iload C dX5_found_77 rfl ?_
        refine g_bipush C dX5_found_79 (by decide) ?_
        refine g_icmp_ge C 134 dX5_found_81 (by decide) (by omega) (fun h81 => ?_) (fun h81 => ?_)
        · exact absurd h81 (by omega)
        · refine g_iload C dX5_found_84 rfl ?_
          refine g_if_eq C 134 dX5_found_86 (by decide) (by omega) (fun h86 => ?_) (fun h86 => ?_)
          · exact absurd h86 (by decide)
          · refine g_aload_n C dX5_found_89 rfl ?_
            refine gA_sets C dX5_found_90 ?_
            refine g_bipush C dX5_found_93 (by decide) ?_
            refine g_iload C dX5_found_95 rfl ?_
            refine g_imul C dX5_found_97 ?_
            refine g_iload C dX5_found_98 rfl ?_
            refine g_iadd C dX5_found_100 ?_
            refine lA_sets C (by omega) dX5_found_101 ?_
            refine g_aload_n C dX5_found_102 rfl ?_
            refine gA_sets C dX5_found_103 ?_
            refine g_bipush C dX5_found_106 (by decide) ?_
            refine g_aload_n C dX5_found_108 rfl ?_
            refine gA_count C dX5_found_109 ?_
            refine g_imul C dX5_found_112 ?_
            refine g_iload C dX5_found_113 rfl ?_
            refine g_iadd C dX5_found_115 ?_
            refine lA_sets C (by omega) dX5_found_116 ?_
            refine g_lcmp C dX5_found_117 ?_
            refine g_if_ne C 125 dX5_found_118 (by decide) (lcmp_r _ _) (fun h118 => ?_) (fun h118 => ?_)
            · have hn : ¬ Mat (cnt, S, fun _ => 0) R h := fun hmm => h118 ((lcmp_0 _ _).mpr ((eqv h hxt.2.2 hxt.2.1).mp hmm k k0 k1))
              refine g_iconst C dX5_found_125 ?_
              refine g_istore C dX5_found_126 (by decide) ?_
              refine g_iinc C dX5_found_128 rfl (by decide) ?_
              refine g_goto C 77 dX5_found_131 (by decide) ?_
              first | exact g_locR rfl (mis hn (k + 1) (by omega) (by omega)) | exact g_locR rfl (ih (fun m m0 m1 => by by_cases e : m = k; subst e; exact hy; exact he m m0 (by omega)))
            · have hy : sets (7 * h + k) = sets (7 * cnt + k) := (lcmp_0 _ _).mp h118
              refine g_iconst C dX5_found_121 ?_
              refine g_goto C 126 dX5_found_122 (by decide) ?_
              refine g_istore C dX5_found_126 (by decide) ?_
              refine g_iinc C dX5_found_128 rfl (by decide) ?_
              refine g_goto C 77 dX5_found_131 (by decide) ?_
              first | exact g_locR rfl (mis hn (k + 1) (by omega) (by omega)) | exact g_locR rfl (ih (fun m m0 m1 => by by_cases e : m = k; subst e; exact hy; exact he m m0 (by omega)))
  have go : G X 7 0 0 (wA X.Z a (ap 0) sets moves accepts heads chain groups news lives cnt table tells states strt ++ (wP X.Z ap tx len wrong low high owners follows isLast start places count empty firsts lasts top opn cur ++ wr)) 58 [(0, .ref (a 0)), (1, .long (hA sets (7 * cnt) 7)), (3, vI (slotA sets (7 * cnt)))] [] := by
    refine g_aload_n C dX5_found_58 rfl ?_
    refine gA_heads C dX5_found_59 ?_
    refine g_iload_n C dX5_found_62 rfl ?_
    refine lA_heads C (by omega) dX5_found_63 ?_
    refine g_istore C dX5_found_64 (by decide) ?_
    exact g_locR rfl (srch _ _ hb1 hb2 (fun t htm => hb3 t (by have := htm.1; omega) htm.2.1 htm.1 (slotA_congr ((eqv t htm.1 htm.2.1).mp htm))))
  have lp := loopZ (fun k => G X 7 0 0 (wA X.Z a (ap 0) sets moves accepts heads chain groups news lives cnt table tells states strt ++ (wP X.Z ap tx len wrong low high owners follows isLast start places count empty firsts lasts top opn cur ++ wr)) 4 [(0, .ref (a 0)), (1, .long (hA sets (7 * cnt) k.toNat)), (3, vI k)] []) 0 7 (by omega) ?_ (fun k k0 k1 ih => ?_)
  · show G _ _ _ _ _ _ _ _
    refine g_lconst C 0 dX5_found_0 rfl ?_
    refine g_lstore_n C dX5_found_1 (by decide) ?_
    refine g_iconst C dX5_found_2 ?_
    refine g_istore_n C dX5_found_3 (by decide) ?_
    exact g_locR rfl lp
  · show G _ _ _ _ _ _ _ _
    refine g_iload_n C dX5_found_4 rfl ?_
    refine g_bipush C dX5_found_5 (by decide) ?_
    refine g_icmp_ge C 37 dX5_found_7 (by decide) (by omega) (fun h7 => ?_) (fun h7 => ?_)
    · refine g_lload_n C dX5_found_37 rfl ?_
      refine g_lload_n C dX5_found_38 rfl ?_
      refine g_bipush C dX5_found_39 (by decide) ?_
      refine g_lushr C dX5_found_41 ?_
      refine g_lxor C dX5_found_42 ?_
      refine g_lload_n C dX5_found_43 rfl ?_
      refine g_bipush C dX5_found_44 (by decide) ?_
      refine g_lushr C dX5_found_46 ?_
      refine g_lxor C dX5_found_47 ?_
      refine g_l2i C dX5_found_48 ?_
      refine g_aload_n C dX5_found_49 rfl ?_
      refine gA_heads C dX5_found_50 ?_
      refine nA_heads C dX5_found_53 ?_
      refine g_iconst C dX5_found_54 ?_
      refine g_isub C dX5_found_55 ?_
      refine g_iand C dX5_found_56 ?_
      refine g_istore_n C dX5_found_57 (by decide) ?_
      exact g_locR rfl go
    · exact absurd h7 (by omega)
  · show G _ _ _ _ _ _ _ _
    rw [show (k + 1).toNat = k.toNat + 1 by omega] at ih
    unfold hA at ih
    rw [Int.toNat_of_nonneg k0] at ih
    refine g_iload_n C dX5_found_4 rfl ?_
    refine g_bipush C dX5_found_5 (by decide) ?_
    refine g_icmp_ge C 37 dX5_found_7 (by decide) (by omega) (fun h7 => ?_) (fun h7 => ?_)
    · exact absurd h7 (by omega)
    · refine g_ldc2 C q504 dX5_found_10 ?_
      refine g_lload_n C dX5_found_13 rfl ?_
      refine g_lmul C dX5_found_14 ?_
      refine g_aload_n C dX5_found_15 rfl ?_
      refine gA_sets C dX5_found_16 ?_
      refine g_bipush C dX5_found_19 (by decide) ?_
      refine g_aload_n C dX5_found_21 rfl ?_
      refine gA_count C dX5_found_22 ?_
      refine g_imul C dX5_found_25 ?_
      refine g_iload_n C dX5_found_26 rfl ?_
      refine g_iadd C dX5_found_27 ?_
      refine lA_sets C (by omega) dX5_found_28 ?_
      refine g_ladd C dX5_found_29 ?_
      refine g_lstore_n C dX5_found_30 (by decide) ?_
      refine g_iinc C dX5_found_31 rfl (by decide) ?_
      refine g_goto C 4 dX5_found_34 (by decide) ?_
      exact g_locR rfl ih
