/-! Automaton: alive, alike -/
def accB (accepts : Int → Int) (s : Int) : Bool := decide (0 ≤ accepts s)
/-- what the search for living ones keeps -/
def LvI (cnt : Int) (mv : Int → Int) (acc L : Int → Bool) : Prop := ∀ s, 0 ≤ s → s < cnt → (L s = true → Liv mv acc s) ∧ (acc s = true → L s = true)
theorem LvI.set {cnt : Int} {mv : Int → Int} {acc L : Int → Bool} {s b : Int} (h : LvI cnt mv acc L) (hmv : MvOk cnt mv) (s0 : 0 ≤ s) (s1 : s < cnt) (b0 : 0 ≤ b) (b1 : b < 128) (hb : L (mv (128 * s + b)) = true) : LvI cnt mv acc (up L s true) := by
  intro t t0 t1
  by_cases e : t = s
  · subst e
    rw [up_same]
    have hm := hmv.at t0 t1 b0 b1
    exact ⟨fun _ => Liv.step b0 b1 ((h _ (by omega) hm.2).1 hb), fun _ => rfl⟩
  · rw [up_ne _ _ e]
    exact h t t0 t1
def Shut (mv : Int → Int) (L : Int → Bool) (s : Int) : Prop := ∀ b, 0 ≤ b → b < 128 → L (mv (128 * s + b)) = true → L s = true
theorem cA_alive {Z : Zk} {wr : va_W} {a : Nat → Nat} {pa : Nat} {sets : Int → Int64} {moves : Int → Int} {accepts : Int → Int} {heads : Int → Int} {chain : Int → Int} {groups : Int → Int} {news : Int → Int} {lives : Int → Bool} {cnt : Int} {table : Int → Int} {tells : Int → Int} {states : Int} {strt : Int} (hc1 : 1 ≤ cnt) (hc2 : cnt ≤ 401) (hmv : MvOk cnt moves) (hac : ∀ s, 0 ≤ s → s < cnt → -1 ≤ accepts s ∧ accepts s ≤ 0) : Ct Z yX5_alive hX5_alive 1 20 [.ref (a 0)] (wA Z a pa sets moves accepts heads chain groups news lives cnt table tells states strt ++ wr) 0 0 (Rv fun w => ∃ lives1, (∀ s, 0 ≤ s → s < cnt → lives1 s = tr (Liv moves (accB accepts) s)) ∧ w = wA Z a pa sets moves accepts heads chain groups news lives1 cnt table tells states strt ++ wr) := by
  refine Ct.of RX5 "alive" (by decide +kernel) rfl rfl hkX5_alive (Nat.le_of_ble_eq_true rfl) (fun X hZ C => ?_)
  subst hZ
  -- the passes
  have ps : ∀ (n : Nat) (L : Int → Bool), cF L cnt < n → LvI cnt moves (accB accepts) L → G X 4 0 0 (wA X.Z a pa sets moves accepts heads chain groups news L cnt table tells states strt ++ wr) 38 [(0, .ref (a 0)), (1, vI (b2 true))] [] := by
    intro n
    induction n with
    | zero => intro L h; omega
    | succ n ihn =>
      intro L0 hn0 hL0
      have sl := loopD (fun s => ∀ L m, LvI cnt moves (accB accepts) L → ((m = true ∧ cF L cnt < n) ∨ (m = false ∧ cF L cnt < n + 1 ∧ ∀ t, s < t → t < cnt → Shut moves L t)) → G X 4 0 0 (wA X.Z a pa sets moves accepts heads chain groups news L cnt table tells states strt ++ wr) 51 [(0, .ref (a 0)), (1, vI (b2 m)), (2, vI s)] []) (-1) (cnt - 1) (by omega) (fun L m hL hm => ?_) (fun s s0 s1 ih L m hL hm => ?_)
      · show G _ _ _ _ _ _ _ _
        refine g_iload_n C dX5_alive_38 rfl ?_
        refine g_if_eq C 120 dX5_alive_39 (by decide) (b2_r _) (fun h39 => ?_) (fun h39 => ?_)
        · exact absurd h39 (by decide)
        · refine g_iconst C dX5_alive_42 ?_
          refine g_istore_n C dX5_alive_43 (by decide) ?_
          refine g_aload_n C dX5_alive_44 rfl ?_
          refine gA_count C dX5_alive_45 ?_
          refine g_iconst C dX5_alive_48 ?_
          refine g_isub C dX5_alive_49 ?_
          refine g_istore_n C dX5_alive_50 (by decide) ?_
          exact g_locR rfl (sl L0 false hL0 (Or.inr ⟨rfl, hn0, fun t h1 h2 => by omega⟩))
      · show G _ _ _ _ _ _ _ _
        have ex : m = false → G X 4 0 0 (wA X.Z a pa sets moves accepts heads chain groups news L cnt table tells states strt ++ wr) 38 [(0, .ref (a 0)), (1, vI (b2 m))] [] := by
          intro hmf
          subst hmf
          rcases hm with ⟨h1, _⟩ | ⟨_, _, hsh⟩
          · exact absurd h1 (by decide)
          refine g_iload_n C dX5_alive_38 rfl ?_
          refine g_if_eq C 120 dX5_alive_39 (by decide) (b2_r _) (fun h39 => ?_) (fun h39 => ?_)
          · exact g_vret C rfl ⟨rfl, L, fun s s0 s1 => Bool.eq_iff_iff.mpr (by rw [tr_iff]; exact ⟨(hL s s0 s1).1, fun ⟨w, w1, w2⟩ => liv_of hmv (fun t t0 t1 => (hL t t0 t1).2) (fun t t0 t1 => hsh t (by omega) t1) w s s0 s1 w1 w2⟩), rfl⟩ dX5_alive_120
          · exact absurd rfl h39
        refine g_iload_n C dX5_alive_51 rfl ?_
        refine g_if_lt C 117 dX5_alive_52 (by decide) (by omega) (fun h52 => ?_) (fun h52 => ?_)
        · refine g_goto C 38 dX5_alive_117 (by decide) ?_
          cases m with
          | true => exact g_locR rfl (ihn L (by rcases hm with h | h; exact h.2; exact absurd h.1 (by decide)) hL)
          | false => exact g_locR rfl (ex rfl)
        · exact absurd h52 (by omega)
      · show G _ _ _ _ _ _ _ _
        have nx : ∀ (L : Int → Bool) (m : Bool) (b : Int), LvI cnt moves (accB accepts) L → ((m = true ∧ cF L cnt < n) ∨ (m = false ∧ cF L cnt < n + 1 ∧ (∀ t, s < t → t < cnt → Shut moves L t) ∧ Shut moves L s)) → G X 4 0 0 (wA X.Z a pa sets moves accepts heads chain groups news L cnt table tells states strt ++ wr) 111 [(0, .ref (a 0)), (1, vI (b2 m)), (2, vI s), (3, vI b)] [] := by
          intro L m b hL hm
          refine g_iinc C dX5_alive_111 rfl (by decide) ?_
          refine g_goto C 51 dX5_alive_114 (by decide) ?_
          exact g_locR (L' := [(0, .ref (a 0)), (1, vI (b2 m)), (2, vI (s - 1))]) rfl (ih L m hL (hm.imp id (fun h => ⟨h.1, h.2.1, fun t h1 h2 => by by_cases e : t = s; subst e; exact h.2.2.2; exact h.2.2.1 t (by omega) h2⟩)))
        have bl := loopZ (fun b => ∀ L m, LvI cnt moves (accB accepts) L → ((m = true ∧ cF L cnt < n) ∨ (m = false ∧ cF L cnt < n + 1 ∧ (∀ t, s < t → t < cnt → Shut moves L t) ∧ ∀ c, 0 ≤ c → c < b → L (moves (128 * s + c)) = false)) → G X 4 0 0 (wA X.Z a pa sets moves accepts heads chain groups news L cnt table tells states strt ++ wr) 57 [(0, .ref (a 0)), (1, vI (b2 m)), (2, vI s), (3, vI b)] []) 0 128 (by omega) (fun L m hL hm => ?_) (fun b b0 b1 ihb L m hL hm => ?_)
        · show G _ _ _ _ _ _ _ _
          refine g_iload_n C dX5_alive_51 rfl ?_
          refine g_if_lt C 117 dX5_alive_52 (by decide) (by omega) (fun h52 => ?_) (fun h52 => ?_)
          · exact absurd h52 (by omega)
          · refine g_iconst C dX5_alive_55 ?_
            refine g_istore_n C dX5_alive_56 (by decide) ?_
            exact g_locR rfl (bl L m hL (hm.imp id (fun h => ⟨h.1, h.2.1, h.2.2, fun c c0 c1 => by omega⟩)))
        · show G _ _ _ _ _ _ _ _
          refine g_iload_n C dX5_alive_57 rfl ?_
          refine g_sipush C dX5_alive_58 (by decide) ?_
          refine g_icmp_ge C 111 dX5_alive_61 (by decide) (by omega) (fun h61 => ?_) (fun h61 => ?_)
          · exact nx L m 128 hL (hm.imp id (fun h => ⟨h.1, h.2.1, h.2.2.1, fun c c0 c1 hcc => by rw [h.2.2.2 c c0 c1] at hcc; exact absurd hcc (by decide)⟩))
          · exact absurd h61 (by omega)
        · show G _ _ _ _ _ _ _ _
          have hmb := hmv.at (by omega) (by omega) b0 b1 (s := s)
          refine g_iload_n C dX5_alive_57 rfl ?_
          refine g_sipush C dX5_alive_58 (by decide) ?_
          refine g_icmp_ge C 111 dX5_alive_61 (by decide) (by omega) (fun h61 => ?_) (fun h61 => ?_)
          · exact absurd h61 (by omega)
          · refine g_aload_n C dX5_alive_64 rfl ?_
            refine gA_lives C dX5_alive_65 ?_
            refine g_iload_n C dX5_alive_68 rfl ?_
            refine lA_lives C (by omega) dX5_alive_69 ?_
            refine g_if_ne C 111 dX5_alive_70 (by decide) (b2_r _) (fun h70 => ?_) (fun h70 => ?_)
            · have hs := (b2_ne0 _).mp h70
              exact nx L m b hL (hm.imp id (fun h => ⟨h.1, h.2.1, h.2.2.1, fun c c0 c1 _ => hs⟩))
            · have hs := (b2_0 _).mp h70
              refine g_aload_n C dX5_alive_73 rfl ?_
              refine gA_lives C dX5_alive_74 ?_
              refine g_aload_n C dX5_alive_77 rfl ?_
              refine gA_moves C dX5_alive_78 ?_
              refine g_sipush C dX5_alive_81 (by decide) ?_
              refine g_iload_n C dX5_alive_84 rfl ?_
              refine g_imul C dX5_alive_85 ?_
              refine g_iload_n C dX5_alive_86 rfl ?_
              refine g_iadd C dX5_alive_87 ?_
              refine lA_moves C (by omega) dX5_alive_88 ?_
              refine lA_lives C (by omega) dX5_alive_89 ?_
              refine g_if_ne C 96 dX5_alive_90 (by decide) (b2_r _) (fun h90 => ?_) (fun h90 => ?_)
              · have ht := (b2_ne0 _).mp h90
                refine g_aload_n C dX5_alive_96 rfl ?_
                refine gA_lives C dX5_alive_97 ?_
                refine g_iload_n C dX5_alive_100 rfl ?_
                refine g_iconst C dX5_alive_101 ?_
                refine sA_lives C true (by omega) rfl dX5_alive_102 ?_
                refine g_iconst C dX5_alive_103 ?_
                refine g_istore_n C dX5_alive_104 (by decide) ?_
                refine g_iinc C dX5_alive_105 rfl (by decide) ?_
                refine g_goto C 57 dX5_alive_108 (by decide) ?_
                first | exact g_locR rfl (ihb L m hL (hm.imp id (fun h => ⟨h.1, h.2.1, h.2.2.1, fun c c0 c1 => by by_cases e : c = b; subst e; exact ht; exact h.2.2.2 c c0 (by omega)⟩))) | exact g_locR rfl (ihb (up L s true) true (hL.set hmv (by omega) (by omega) b0 b1 ht) (Or.inl ⟨rfl, by have hcf := cF_up (n := cnt) (by omega) (by omega) hs; omega⟩))
              · have ht := (b2_0 _).mp h90
                refine g_goto C 105 dX5_alive_93 (by decide) ?_
                refine g_iinc C dX5_alive_105 rfl (by decide) ?_
                refine g_goto C 57 dX5_alive_108 (by decide) ?_
                first | exact g_locR rfl (ihb L m hL (hm.imp id (fun h => ⟨h.1, h.2.1, h.2.2.1, fun c c0 c1 => by by_cases e : c = b; subst e; exact ht; exact h.2.2.2 c c0 (by omega)⟩))) | exact g_locR rfl (ihb (up L s true) true (hL.set hmv (by omega) (by omega) b0 b1 ht) (Or.inl ⟨rfl, by have hcf := cF_up (n := cnt) (by omega) (by omega) hs; omega⟩))
  have lp := loopZ (fun k => G X 4 0 0 (wA X.Z a pa sets moves accepts heads chain groups news (upTo lives 0 k (accB accepts)) cnt table tells states strt ++ wr) 2 [(0, .ref (a 0)), (1, vI k)] []) 0 cnt (by omega) ?_ (fun k k0 k1 ih => ?_)
  · show G _ _ _ _ _ _ _ _
    rw [upTo_0] at lp
    refine g_iconst C dX5_alive_0 ?_
    refine g_istore_n C dX5_alive_1 (by decide) ?_
    exact g_locR rfl lp
  · show G _ _ _ _ _ _ _ _
    refine g_iload_n C dX5_alive_2 rfl ?_
    refine g_aload_n C dX5_alive_3 rfl ?_
    refine gA_count C dX5_alive_4 ?_
    refine g_icmp_ge C 36 dX5_alive_7 (by decide) (by omega) (fun h7 => ?_) (fun h7 => ?_)
    · refine g_iconst C dX5_alive_36 ?_
      refine g_istore_n C dX5_alive_37 (by decide) ?_
      exact g_locR rfl (ps _ _ (Nat.lt_succ_self _) (fun s s0 s1 => by rw [upTo_at0 _ _ s0 s1]; exact ⟨fun h => Liv.base h, fun h => h⟩))
    · exact absurd h7 (by omega)
  · show G _ _ _ _ _ _ _ _
    have ha := hac k k0 k1
    refine g_iload_n C dX5_alive_2 rfl ?_
    refine g_aload_n C dX5_alive_3 rfl ?_
    refine gA_count C dX5_alive_4 ?_
    refine g_icmp_ge C 36 dX5_alive_7 (by decide) (by omega) (fun h7 => ?_) (fun h7 => ?_)
    · exact absurd h7 (by omega)
    · refine g_aload_n C dX5_alive_10 rfl ?_
      refine gA_lives C dX5_alive_11 ?_
      refine g_iload_n C dX5_alive_14 rfl ?_
      refine g_aload_n C dX5_alive_15 rfl ?_
      refine gA_accepts C dX5_alive_16 ?_
      refine g_iload_n C dX5_alive_19 rfl ?_
      refine lA_accepts C (by omega) dX5_alive_20 ?_
      refine g_if_lt C 28 dX5_alive_21 (by decide) (by omega) (fun h21 => ?_) (fun h21 => ?_)
      · refine g_iconst C dX5_alive_28 ?_
        refine sA_lives C _ (by omega) (show _ = b2 (accB accepts k) from by unfold accB; first | (rw [decide_eq_false (by omega)]; rfl) | (rw [decide_eq_true (by omega)]; rfl)) dX5_alive_29 ?_
        refine g_iinc C dX5_alive_30 rfl (by decide) ?_
        refine g_goto C 2 dX5_alive_33 (by decide) ?_
        rw [upTo_s0 _ (accB accepts) k0]
        exact g_locR rfl ih
      · refine g_iconst C dX5_alive_24 ?_
        refine g_goto C 29 dX5_alive_25 (by decide) ?_
        refine sA_lives C _ (by omega) (show _ = b2 (accB accepts k) from by unfold accB; first | (rw [decide_eq_false (by omega)]; rfl) | (rw [decide_eq_true (by omega)]; rfl)) dX5_alive_29 ?_
        refine g_iinc C dX5_alive_30 rfl (by decide) ?_
        refine g_goto C 2 dX5_alive_33 (by decide) ?_
        rw [upTo_s0 _ (accB accepts) k0]
        exact g_locR rfl ih
theorem cA_alike {Z : Zk} {wr : va_W} {a : Nat → Nat} {pa : Nat} {sets : Int → Int64} {moves : Int → Int} {accepts : Int → Int} {heads : Int → Int} {chain : Int → Int} {groups : Int → Int} {news : Int → Int} {lives : Int → Bool} {cnt : Int} {table : Int → Int} {tells : Int → Int} {states : Int} {strt : Int} {s t : Int} (hc2 : cnt ≤ 401) (hmv : MvOk cnt moves) (hgr : ∀ s, 0 ≤ s → s < cnt → 0 ≤ groups s ∧ groups s ≤ 401) (s0 : 0 ≤ s) (s1 : s < cnt) (t0 : 0 ≤ t) (t1 : t < cnt) : Ct Z yX5_alike hX5_alike 1 20 [.ref (a 0), vI s, vI t] (wA Z a pa sets moves accepts heads chain groups news lives cnt table tells states strt ++ wr) 0 0 (Rz fun r w => r = tr (Alk groups moves s t) ∧ w = wA Z a pa sets moves accepts heads chain groups news lives cnt table tells states strt ++ wr) := by
  refine Ct.of RX5 "alike" (by decide +kernel) rfl rfl hkX5_alike (Nat.le_of_ble_eq_true rfl) (fun X hZ C => ?_)
  subst hZ
  have hg1 := hgr s s0 s1
  have hg2 := hgr t t0 t1
  have no : ¬ Alk groups moves s t → tr (Alk groups moves s t) = false := fun h => Bool.eq_false_iff.mpr (fun e => h (tr_iff.mp e))
  have lp := loopZ (fun b => groups s = groups t → (∀ c, 0 ≤ c → c < b → groups (moves (128 * s + c)) = groups (moves (128 * t + c))) → G X 4 0 0 (wA X.Z a pa sets moves accepts heads chain groups news lives cnt table tells states strt ++ wr) 19 [(0, .ref (a 0)), (1, vI s), (2, vI t), (3, vI b)] []) 0 128 (by omega) (fun he hb => ?_) (fun b b0 b1 ih he hb => ?_)
  · show G _ _ _ _ _ _ _ _
    refine g_aload_n C dX5_alike_0 rfl ?_
    refine gA_groups C dX5_alike_1 ?_
    refine g_iload_n C dX5_alike_4 rfl ?_
    refine lA_groups C (by omega) dX5_alike_5 ?_
    refine g_aload_n C dX5_alike_6 rfl ?_
    refine gA_groups C dX5_alike_7 ?_
    refine g_iload_n C dX5_alike_10 rfl ?_
    refine lA_groups C (by omega) dX5_alike_11 ?_
    refine g_icmp_eq C 17 dX5_alike_12 (by decide) (by omega) (fun h12 => ?_) (fun h12 => ?_)
    · refine g_iconst C dX5_alike_17 ?_
      refine g_istore_n C dX5_alike_18 (by decide) ?_
      exact g_locR rfl (lp (by omega) (fun c c0 c1 => by omega))
    · refine g_iconst C dX5_alike_15 ?_
      exact g_zret C false rfl rfl ⟨_, rfl, (no (fun h => absurd h.1 (by omega))).symm, rfl⟩ dX5_alike_16
  · show G _ _ _ _ _ _ _ _
    refine g_iload_n C dX5_alike_19 rfl ?_
    refine g_sipush C dX5_alike_20 (by decide) ?_
    refine g_icmp_ge C 71 dX5_alike_23 (by decide) (by omega) (fun h23 => ?_) (fun h23 => ?_)
    · refine g_iconst C dX5_alike_71 ?_
      exact g_zret C true rfl rfl ⟨_, rfl, (tr_iff.mpr ⟨he, hb⟩).symm, rfl⟩ dX5_alike_72
    · exact absurd h23 (by omega)
  · show G _ _ _ _ _ _ _ _
    have hm1 := hmv.at s0 s1 b0 b1
    have hm2 := hmv.at t0 t1 b0 b1
    have hg3 := hgr _ (by omega) hm1.2
    have hg4 := hgr _ (by omega) hm2.2
    refine g_iload_n C dX5_alike_19 rfl ?_
    refine g_sipush C dX5_alike_20 (by decide) ?_
    refine g_icmp_ge C 71 dX5_alike_23 (by decide) (by omega) (fun h23 => ?_) (fun h23 => ?_)
    · exact absurd h23 (by omega)
    · refine g_aload_n C dX5_alike_26 rfl ?_
      refine gA_groups C dX5_alike_27 ?_
      refine g_aload_n C dX5_alike_30 rfl ?_
      refine gA_moves C dX5_alike_31 ?_
      refine g_sipush C dX5_alike_34 (by decide) ?_
      refine g_iload_n C dX5_alike_37 rfl ?_
      refine g_imul C dX5_alike_38 ?_
      refine g_iload_n C dX5_alike_39 rfl ?_
      refine g_iadd C dX5_alike_40 ?_
      refine lA_moves C (by omega) dX5_alike_41 ?_
      refine lA_groups C (by omega) dX5_alike_42 ?_
      refine g_aload_n C dX5_alike_43 rfl ?_
      refine gA_groups C dX5_alike_44 ?_
      refine g_aload_n C dX5_alike_47 rfl ?_
      refine gA_moves C dX5_alike_48 ?_
      refine g_sipush C dX5_alike_51 (by decide) ?_
      refine g_iload_n C dX5_alike_54 rfl ?_
      refine g_imul C dX5_alike_55 ?_
      refine g_iload_n C dX5_alike_56 rfl ?_
      refine g_iadd C dX5_alike_57 ?_
      refine lA_moves C (by omega) dX5_alike_58 ?_
      refine lA_groups C (by omega) dX5_alike_59 ?_
      refine g_icmp_eq C 65 dX5_alike_60 (by decide) (by omega) (fun h60 => ?_) (fun h60 => ?_)
      · refine g_iinc C dX5_alike_65 rfl (by decide) ?_
        refine g_goto C 19 dX5_alike_68 (by decide) ?_
        exact g_locR rfl (ih he (fun c c0 c1 => by by_cases e : c = b; subst e; omega; exact hb c c0 (by omega)))
      · refine g_iconst C dX5_alike_63 ?_
        exact g_zret C false rfl rfl ⟨_, rfl, (no (fun h => absurd (h.2 b b0 b1) (by omega))).symm, rfl⟩ dX5_alike_64
