/-! Model: count, tell -/
def bkM (leads : Int → Int) (ends : Int → Bool) (off : Int) (k : Nat) (s : Int) : Int64 := NL k (fun u => ends (off + dq (fun s b => leads (128 * (off + s) + b)) s u))
theorem bkM_succ (leads : Int → Int) (ends : Int → Bool) (off : Int) (k : Nat) (s : Int) : bkM leads ends off (k + 1) s = sm (fun b => bkM leads ends off k (leads (128 * (off + s) + b))) 128 := by
  unfold bkM
  rw [NL]
  exact sm_congr 128 (fun b _ _ => NL_congr k (fun u _ _ => by rw [dq_snoc]))
theorem cM_count {Z : Zk} {wr : va_W} {a : Nat → Nat} {tape : Int → Int} {taped : Int} {place : Int} {thrown : Int} {r_op : Nat} {no : Nat} {op : Int → Int} {r_arg : Nat} {arg : Int → Int} {many : Int} {low : Int → Int64} {high : Int → Int64} {masks : Int} {cur : Int} {readLow : Int64} {readHigh : Int64} {group : Int → Int} {choice : Int → Int} {chain : Int → Int} {hasEmpty : Int → Bool} {sset : Int → Int64} {label : Int → Int} {next : Int → Int} {states : Int} {r_stamp : Nat} {ns : Nat} {stamp : Int → Int} {r_stack : Nat} {stack : Int → Int} {stamps : Int} {piled : Int} {reading : Int → Int} {readings : Int} {wher : Int → Int} {built : Int → Int64} {heads : Int → Int} {chained : Int → Int} {isE : Bool} {lives : Int → Bool} {kind : Int → Int} {newKind : Int → Int} {first : Int → Int} {kinds : Int} {leads : Int → Int} {sideStates : Int → Int} {ends : Int → Bool} {text : Int → Int} {textLong : Int} {queue : Int → Int} {frm : Int → Int} {by_ : Int → Int} {ways : Int → Int64} {before : Int → Int64} {which n all : Int} {Lg : List Int → Bool} (hw9 : inR which) (hn9 : inR n) (hM : (which = 0 ∨ which = 1) → SideM leads ends (402 * which) all Lg ∧ sideStates which = all) : Ct Z yX6_count hX6_count 2 100 [.ref (a 0), vI which, vI n] (wM Z a tape taped place thrown r_op no op r_arg arg many low high masks cur readLow readHigh group choice chain hasEmpty sset label next states r_stamp ns stamp r_stack stack stamps piled reading readings wher built heads chained isE lives kind newKind first kinds leads sideStates ends text textLong queue frm by_ ways before ++ wr) 0 0 (Rl fun r w => (((which = 0 ∨ which = 1) ∧ 0 ≤ n ∧ n ≤ 12) ∧ r = NL n.toNat Lg ∧ ∃ wy bf, w = wM Z a tape taped place 0 r_op no op r_arg arg many low high masks cur readLow readHigh group choice chain hasEmpty sset label next states r_stamp ns stamp r_stack stack stamps piled reading readings wher built heads chained isE lives kind newKind first kinds leads sideStates ends text textLong queue frm by_ wy bf ++ wr) ∨ (¬ ((which = 0 ∨ which = 1) ∧ 0 ≤ n ∧ n ≤ 12) ∧ w = wM Z a tape taped place 1 r_op no op r_arg arg many low high masks cur readLow readHigh group choice chain hasEmpty sset label next states r_stamp ns stamp r_stack stack stamps piled reading readings wher built heads chained isE lives kind newKind first kinds leads sideStates ends text textLong queue frm by_ ways before ++ wr)) := by
  refine Ct.of RX6 "count" (by decide +kernel) rfl rfl hkX6_count (Nat.le_of_ble_eq_true rfl) (fun X hZ C => ?_)
  subst hZ
  have main : ((which = 0 ∨ which = 1) ∧ 0 ≤ n ∧ n ≤ 12) → G X 7 0 0 (wM X.Z a tape taped place 0 r_op no op r_arg arg many low high masks cur readLow readHigh group choice chain hasEmpty sset label next states r_stamp ns stamp r_stack stack stamps piled reading readings wher built heads chained isE lives kind newKind first kinds leads sideStates ends text textLong queue frm by_ ways before ++ wr) 31 [(0, .ref (a 0)), (1, vI which), (2, vI n)] [] := by
    intro hcd
    obtain ⟨hS, hside⟩ := hM hcd.1
    have hal := hS.1
    have bl : ∀ (k s : Nat) (bf : Int → Int64), (s : Int) < all → (∀ t, 0 ≤ t → t < all → bf t = bkM leads ends (402 * which) k t) → (∀ wy, wy (s : Int) = bkM leads ends (402 * which) (k + 1) s → (∀ t, 0 ≤ t → t < (s : Int) → wy t = bkM leads ends (402 * which) (k + 1) t) → G X 7 0 0 (wM X.Z a tape taped place 0 r_op no op r_arg arg many low high masks cur readLow readHigh group choice chain hasEmpty sset label next states r_stamp ns stamp r_stack stack stamps piled reading readings wher built heads chained isE lives kind newKind first kinds leads sideStates ends text textLong queue frm by_ wy bf ++ wr) 122 [(0, .ref (a 0)), (1, vI which), (2, vI n), (3, vI all), (4, vI (k : Int)), (5, vI ((s : Int) + 1))] []) → ∀ (f b : Nat) (wy : Int → Int64), (b : Int) + (f : Int) = 128 → wy (s : Int) = sm (fun b => bkM leads ends (402 * which) k (leads (128 * (402 * which + s) + b))) b → (∀ t, 0 ≤ t → t < (s : Int) → wy t = bkM leads ends (402 * which) (k + 1) t) → G X 7 0 0 (wM X.Z a tape taped place 0 r_op no op r_arg arg many low high masks cur readLow readHigh group choice chain hasEmpty sset label next states r_stamp ns stamp r_stack stack stamps piled reading readings wher built heads chained isE lives kind newKind first kinds leads sideStates ends text textLong queue frm by_ wy bf ++ wr) 139 [(0, .ref (a 0)), (1, vI which), (2, vI n), (3, vI all), (4, vI (k : Int)), (5, vI (s : Int)), (6, vI (b : Int))] [] := by
      intro k s bf hs hbf hk f
      induction f with
      | zero =>
        intro b wy hb h1 h2
        have h3 := hk wy (by rw [h1, bkM_succ, show b = 128 by omega]) h2
        refine g_iload C dX6_count_139 rfl ?_
        refine g_sipush C dX6_count_141 (by decide) ?_
        refine g_icmp_ge C 188 dX6_count_144 (by decide) (by omega) (fun h144 => ?_) (fun h144 => ?_)
        · refine g_iinc C dX6_count_188 rfl (by decide) ?_
          refine g_goto C 122 dX6_count_191 (by decide) ?_
          exact g_locR rfl h3
        · exact absurd h144 (by omega)
      | succ f ih =>
        intro b wy hb h1 h2
        have hlr := hS.2.1 s b (by omega) hs (by omega) (by omega)
        have h3 := ih (b + 1) (up wy s (wy s + bf (leads (128 * (402 * which + s) + b)))) (by omega) (by rw [up_same, sm, h1, hbf _ hlr.1 hlr.2]) (fun t t0 t1 => by rw [up_ne _ _ (by omega)]; exact h2 t t0 t1)
        refine g_iload C dX6_count_139 rfl ?_
        refine g_sipush C dX6_count_141 (by decide) ?_
        refine g_icmp_ge C 188 dX6_count_144 (by decide) (by omega) (fun h144 => ?_) (fun h144 => ?_)
        · exact absurd h144 (by omega)
        · refine g_aload_n C dX6_count_147 rfl ?_
          refine gM_ways C dX6_count_148 ?_
          refine g_iload C dX6_count_151 rfl ?_
          refine g_dup2_11 C dX6_count_153 rfl rfl ?_
          refine lM_ways C (by omega) dX6_count_154 ?_
          refine g_aload_n C dX6_count_155 rfl ?_
          refine gM_before C dX6_count_156 ?_
          refine g_aload_n C dX6_count_159 rfl ?_
          refine gM_leads C dX6_count_160 ?_
          refine g_sipush C dX6_count_163 (by decide) ?_
          refine g_sipush C dX6_count_166 (by decide) ?_
          refine g_iload_n C dX6_count_169 rfl ?_
          refine g_imul C dX6_count_170 ?_
          refine g_iload C dX6_count_171 rfl ?_
          refine g_iadd C dX6_count_173 ?_
          refine g_imul C dX6_count_174 ?_
          refine g_iload C dX6_count_175 rfl ?_
          refine g_iadd C dX6_count_177 ?_
          refine lM_leads C (by omega) dX6_count_178 ?_
          refine lM_before C (by omega) dX6_count_179 ?_
          refine g_ladd C dX6_count_180 ?_
          refine sM_ways C (by omega) dX6_count_181 ?_
          refine g_iinc C dX6_count_182 rfl (by decide) ?_
          refine g_goto C 139 dX6_count_185 (by decide) ?_
          exact g_locR rfl h3
    have sl : ∀ (k : Nat) (bf : Int → Int64), (∀ t, 0 ≤ t → t < all → bf t = bkM leads ends (402 * which) k t) → (∀ wy, (∀ t, 0 ≤ t → t < all → wy t = bkM leads ends (402 * which) (k + 1) t) → G X 7 0 0 (wM X.Z a tape taped place 0 r_op no op r_arg arg many low high masks cur readLow readHigh group choice chain hasEmpty sset label next states r_stamp ns stamp r_stack stack stamps piled reading readings wher built heads chained isE lives kind newKind first kinds leads sideStates ends text textLong queue frm by_ wy bf ++ wr) 84 [(0, .ref (a 0)), (1, vI which), (2, vI n), (3, vI all), (4, vI ((k : Int) + 1))] []) → ∀ (f s : Nat) (wy : Int → Int64), (s : Int) + (f : Int) = all → (∀ t, 0 ≤ t → t < (s : Int) → wy t = bkM leads ends (402 * which) (k + 1) t) → G X 7 0 0 (wM X.Z a tape taped place 0 r_op no op r_arg arg many low high masks cur readLow readHigh group choice chain hasEmpty sset label next states r_stamp ns stamp r_stack stack stamps piled reading readings wher built heads chained isE lives kind newKind first kinds leads sideStates ends text textLong queue frm by_ wy bf ++ wr) 122 [(0, .ref (a 0)), (1, vI which), (2, vI n), (3, vI all), (4, vI (k : Int)), (5, vI (s : Int))] [] := by
      intro k bf hbf hk f
      induction f with
      | zero =>
        intro s wy hs h1
        have h3 := hk wy (fun t t0 t1 => h1 t t0 (by omega))
        refine g_iload C dX6_count_122 rfl ?_
        refine g_iload_n C dX6_count_124 rfl ?_
        refine g_icmp_ge C 194 dX6_count_125 (by decide) (by omega) (fun h125 => ?_) (fun h125 => ?_)
        · refine g_iinc C dX6_count_194 rfl (by decide) ?_
          refine g_goto C 84 dX6_count_197 (by decide) ?_
          exact g_locR rfl h3
        · exact absurd h125 (by omega)
      | succ f ih =>
        intro s wy hs h1
        refine g_iload C dX6_count_122 rfl ?_
        refine g_iload_n C dX6_count_124 rfl ?_
        refine g_icmp_ge C 194 dX6_count_125 (by decide) (by omega) (fun h125 => ?_) (fun h125 => ?_)
        · exact absurd h125 (by omega)
        · refine g_aload_n C dX6_count_128 rfl ?_
          refine gM_ways C dX6_count_129 ?_
          refine g_iload C dX6_count_132 rfl ?_
          refine g_lconst C 0 dX6_count_134 rfl ?_
          refine sM_ways C (by omega) dX6_count_135 ?_
          refine g_iconst C dX6_count_136 ?_
          refine g_istore C dX6_count_137 (by decide) ?_
          exact g_locR rfl (bl k s bf (by omega) hbf (fun wy2 g1 g2 => by (have := ih (s + 1) wy2 (by omega) (fun t t0 t1 => by by_cases e : t = (s : Int); (rw [e]; exact g1); exact g2 t t0 (by omega)); exact this)) 128 0 _ (by decide) (up_same _ _ _) (fun t t0 t1 => by rw [up_ne _ _ (by omega)]; exact h1 t t0 t1))
    have cp : ∀ (k : Nat) (wy : Int → Int64), (∀ t, 0 ≤ t → t < all → wy t = bkM leads ends (402 * which) k t) → (∀ bf, (∀ t, 0 ≤ t → t < all → bf t = bkM leads ends (402 * which) k t) → G X 7 0 0 (wM X.Z a tape taped place 0 r_op no op r_arg arg many low high masks cur readLow readHigh group choice chain hasEmpty sset label next states r_stamp ns stamp r_stack stack stamps piled reading readings wher built heads chained isE lives kind newKind first kinds leads sideStates ends text textLong queue frm by_ wy bf ++ wr) 122 [(0, .ref (a 0)), (1, vI which), (2, vI n), (3, vI all), (4, vI (k : Int)), (5, vI 0)] []) → ∀ (f : Nat) (s : Int) (bf : Int → Int64), 0 ≤ s → s + (f : Int) = all → (∀ t, 0 ≤ t → t < s → bf t = bkM leads ends (402 * which) k t) → G X 7 0 0 (wM X.Z a tape taped place 0 r_op no op r_arg arg many low high masks cur readLow readHigh group choice chain hasEmpty sset label next states r_stamp ns stamp r_stack stack stamps piled reading readings wher built heads chained isE lives kind newKind first kinds leads sideStates ends text textLong queue frm by_ wy bf ++ wr) 93 [(0, .ref (a 0)), (1, vI which), (2, vI n), (3, vI all), (4, vI (k : Int)), (5, vI s)] [] := by
      intro k wy hwy hk f
      induction f with
      | zero =>
        intro s bf s0 hs h1
        have h3 := hk bf (fun t t0 t1 => h1 t t0 (by omega))
        refine g_iload C dX6_count_93 rfl ?_
        refine g_iload_n C dX6_count_95 rfl ?_
        refine g_icmp_ge C 119 dX6_count_96 (by decide) (by omega) (fun h96 => ?_) (fun h96 => ?_)
        · refine g_iconst C dX6_count_119 ?_
          refine g_istore C dX6_count_120 (by decide) ?_
          exact g_locR rfl h3
        · exact absurd h96 (by omega)
      | succ f ih =>
        intro s bf s0 hs h1
        refine g_iload C dX6_count_93 rfl ?_
        refine g_iload_n C dX6_count_95 rfl ?_
        refine g_icmp_ge C 119 dX6_count_96 (by decide) (by omega) (fun h96 => ?_) (fun h96 => ?_)
        · exact absurd h96 (by omega)
        · refine g_aload_n C dX6_count_99 rfl ?_
          refine gM_before C dX6_count_100 ?_
          refine g_iload C dX6_count_103 rfl ?_
          refine g_aload_n C dX6_count_105 rfl ?_
          refine gM_ways C dX6_count_106 ?_
          refine g_iload C dX6_count_109 rfl ?_
          refine lM_ways C (by omega) dX6_count_111 ?_
          refine sM_before C (by omega) dX6_count_112 ?_
          refine g_iinc C dX6_count_113 rfl (by decide) ?_
          refine g_goto C 93 dX6_count_116 (by decide) ?_
          exact g_locR rfl (ih (s + 1) _ (by omega) (by omega) (fun t t0 t1 => by by_cases e : t = s; (rw [e, up_same]; exact hwy s s0 (by omega)); (rw [up_ne _ _ e]; exact h1 t t0 (by omega))))
    have kl : ∀ (f k : Nat) (wy bf : Int → Int64), (k : Int) + (f : Int) = n → (∀ t, 0 ≤ t → t < all → wy t = bkM leads ends (402 * which) k t) → G X 7 0 0 (wM X.Z a tape taped place 0 r_op no op r_arg arg many low high masks cur readLow readHigh group choice chain hasEmpty sset label next states r_stamp ns stamp r_stack stack stamps piled reading readings wher built heads chained isE lives kind newKind first kinds leads sideStates ends text textLong queue frm by_ wy bf ++ wr) 84 [(0, .ref (a 0)), (1, vI which), (2, vI n), (3, vI all), (4, vI (k : Int))] [] := by
      intro f
      induction f with
      | zero =>
        intro k wy bf hk hwy
        have hv : wy 0 = NL n.toNat Lg := by
          rw [hwy 0 (Int.le_refl _) (by omega), show n.toNat = k by omega]
          exact NL_congr k (fun u hu _ => (hS.2.2 u hu).symm)
        refine g_iload C dX6_count_84 rfl ?_
        refine g_iload_n C dX6_count_86 rfl ?_
        refine g_icmp_ge C 200 dX6_count_87 (by decide) (by omega) (fun h87 => ?_) (fun h87 => ?_)
        · refine g_aload_n C dX6_count_200 rfl ?_
          refine gM_ways C dX6_count_201 ?_
          refine g_iconst C dX6_count_204 ?_
          refine lM_ways C (by omega) dX6_count_205 ?_
          exact g_lret C rfl ⟨_, rfl, Or.inl ⟨hcd, hv, wy, bf, rfl⟩⟩ dX6_count_206
        · exact absurd h87 (by omega)
      | succ f ih =>
        intro k wy bf hk hwy
        refine g_iload C dX6_count_84 rfl ?_
        refine g_iload_n C dX6_count_86 rfl ?_
        refine g_icmp_ge C 200 dX6_count_87 (by decide) (by omega) (fun h87 => ?_) (fun h87 => ?_)
        · exact absurd h87 (by omega)
        · refine g_iconst C dX6_count_90 ?_
          refine g_istore C dX6_count_91 (by decide) ?_
          exact g_locR rfl (cp k wy hwy (fun bf2 hb2 => sl k bf2 hb2 (fun wy2 hw2 => ih (k + 1) wy2 bf2 (by omega) hw2) all.toNat 0 wy (by omega) (fun t t0 t1 => by omega)) all.toNat 0 bf (by decide) (by omega) (fun t t0 t1 => by omega))
    have il : ∀ (f : Nat) (s : Int) (wy bf : Int → Int64), 0 ≤ s → s + (f : Int) = all → (∀ t, 0 ≤ t → t < s → wy t = bkM leads ends (402 * which) 0 t) → G X 7 0 0 (wM X.Z a tape taped place 0 r_op no op r_arg arg many low high masks cur readLow readHigh group choice chain hasEmpty sset label next states r_stamp ns stamp r_stack stack stamps piled reading readings wher built heads chained isE lives kind newKind first kinds leads sideStates ends text textLong queue frm by_ wy bf ++ wr) 41 [(0, .ref (a 0)), (1, vI which), (2, vI n), (3, vI all), (4, vI s)] [] := by
      intro f
      induction f with
      | zero =>
        intro s wy bf s0 hs h1
        refine g_iload C dX6_count_41 rfl ?_
        refine g_iload_n C dX6_count_43 rfl ?_
        refine g_icmp_ge C 81 dX6_count_44 (by decide) (by omega) (fun h44 => ?_) (fun h44 => ?_)
        · refine g_iconst C dX6_count_81 ?_
          refine g_istore C dX6_count_82 (by decide) ?_
          exact g_locR rfl (kl n.toNat 0 wy bf (by omega) (fun t t0 t1 => h1 t t0 (by omega)))
        · exact absurd h44 (by omega)
      | succ f ih =>
        intro s wy bf s0 hs h1
        have hb0 : ∀ v : Int64, v = (if ends (402 * which + s) = true then 1 else 0) → G X 7 0 0 (wM X.Z a tape taped place 0 r_op no op r_arg arg many low high masks cur readLow readHigh group choice chain hasEmpty sset label next states r_stamp ns stamp r_stack stack stamps piled reading readings wher built heads chained isE lives kind newKind first kinds leads sideStates ends text textLong queue frm by_ (up wy s v) bf ++ wr) 41 [(0, .ref (a 0)), (1, vI which), (2, vI n), (3, vI all), (4, vI (s + 1))] [] := fun v hv =>
          ih (s + 1) _ bf (by omega) (by omega) (fun t t0 t1 => by by_cases e : t = s; (rw [e, up_same, hv]; rfl); (rw [up_ne _ _ e]; exact h1 t t0 (by omega)))
        refine g_iload C dX6_count_41 rfl ?_
        refine g_iload_n C dX6_count_43 rfl ?_
        refine g_icmp_ge C 81 dX6_count_44 (by decide) (by omega) (fun h44 => ?_) (fun h44 => ?_)
        · exact absurd h44 (by omega)
        · refine g_aload_n C dX6_count_47 rfl ?_
          refine gM_ways C dX6_count_48 ?_
          refine g_iload C dX6_count_51 rfl ?_
          refine g_aload_n C dX6_count_53 rfl ?_
          refine gM_ends C dX6_count_54 ?_
          refine g_sipush C dX6_count_57 (by decide) ?_
          refine g_iload_n C dX6_count_60 rfl ?_
          refine g_imul C dX6_count_61 ?_
          refine g_iload C dX6_count_62 rfl ?_
          refine g_iadd C dX6_count_64 ?_
          refine lM_ends C (by omega) dX6_count_65 ?_
          refine g_if_eq C 73 dX6_count_66 (by decide) (b2_r _) (fun h66 => ?_) (fun h66 => ?_)
          · have hv : (0 : Int64) = (if ends (402 * which + s) = true then 1 else 0) := by rw [(b2_0 _).mp h66]; rfl
            refine g_lconst C 0 dX6_count_73 rfl ?_
            refine sM_ways C (by omega) dX6_count_74 ?_
            refine g_iinc C dX6_count_75 rfl (by decide) ?_
            refine g_goto C 41 dX6_count_78 (by decide) ?_
            exact g_locR rfl (hb0 _ hv)
          · have hv : (1 : Int64) = (if ends (402 * which + s) = true then 1 else 0) := by rw [(b2_ne0 _).mp h66]; rfl
            refine g_lconst C 1 dX6_count_69 rfl ?_
            refine g_goto C 74 dX6_count_70 (by decide) ?_
            refine sM_ways C (by omega) dX6_count_74 ?_
            refine g_iinc C dX6_count_75 rfl (by decide) ?_
            refine g_goto C 41 dX6_count_78 (by decide) ?_
            exact g_locR rfl (hb0 _ hv)
    refine g_aload_n C dX6_count_31 rfl ?_
    refine gM_sideStates C dX6_count_32 ?_
    refine g_iload_n C dX6_count_35 rfl ?_
    refine lM_sideStates C (by omega) dX6_count_36 ?_
    refine g_top hside ?_
    refine g_istore_n C dX6_count_37 (by decide) ?_
    refine g_iconst C dX6_count_38 ?_
    refine g_istore C dX6_count_39 (by decide) ?_
    exact g_locR rfl (il all.toNat 0 ways before (by decide) (by omega) (fun t t0 t1 => by omega))
  refine g_aload_n C dX6_count_0 rfl ?_
  refine g_iconst C dX6_count_1 ?_
  refine pM_thrown C dX6_count_2 ?_
  refine g_iload_n C dX6_count_5 rfl ?_
  refine g_if_eq C 14 dX6_count_6 (by decide) (by omega) (fun h6 => ?_) (fun h6 => ?_)
  · refine g_iload_n C dX6_count_14 rfl ?_
    refine g_if_lt C 24 dX6_count_15 (by decide) (by omega) (fun h15 => ?_) (fun h15 => ?_)
    · refine g_aload_n C dX6_count_24 rfl ?_
      refine g_iconst C dX6_count_25 ?_
      refine g_cVWi C [_] _ 0 cal_X6_267 cM_refuse rfl rfl rfl rfl (Nat.le_of_ble_eq_true rfl) (room_b rfl) dX6_count_26 (fun r26 w hw26 => ?_)
      obtain ⟨rfl, rfl⟩ := hw26
      refine g_i2l C dX6_count_29 ?_
      exact g_lret C rfl ⟨_, rfl, Or.inr ⟨by omega, rfl⟩⟩ dX6_count_30
    · refine g_iload_n C dX6_count_18 rfl ?_
      refine g_bipush C dX6_count_19 (by decide) ?_
      refine g_icmp_le C 31 dX6_count_21 (by decide) (by omega) (fun h21 => ?_) (fun h21 => ?_)
      · exact g_locR rfl (main (by omega))
      · refine g_aload_n C dX6_count_24 rfl ?_
        refine g_iconst C dX6_count_25 ?_
        refine g_cVWi C [_] _ 0 cal_X6_267 cM_refuse rfl rfl rfl rfl (Nat.le_of_ble_eq_true rfl) (room_b rfl) dX6_count_26 (fun r26 w hw26 => ?_)
        obtain ⟨rfl, rfl⟩ := hw26
        refine g_i2l C dX6_count_29 ?_
        exact g_lret C rfl ⟨_, rfl, Or.inr ⟨by omega, rfl⟩⟩ dX6_count_30
  · refine g_iload_n C dX6_count_9 rfl ?_
    refine g_iconst C dX6_count_10 ?_
    refine g_icmp_ne C 24 dX6_count_11 (by decide) (by omega) (fun h11 => ?_) (fun h11 => ?_)
    · refine g_aload_n C dX6_count_24 rfl ?_
      refine g_iconst C dX6_count_25 ?_
      refine g_cVWi C [_] _ 0 cal_X6_267 cM_refuse rfl rfl rfl rfl (Nat.le_of_ble_eq_true rfl) (room_b rfl) dX6_count_26 (fun r26 w hw26 => ?_)
      obtain ⟨rfl, rfl⟩ := hw26
      refine g_i2l C dX6_count_29 ?_
      exact g_lret C rfl ⟨_, rfl, Or.inr ⟨by omega, rfl⟩⟩ dX6_count_30
    · refine g_iload_n C dX6_count_14 rfl ?_
      refine g_if_lt C 24 dX6_count_15 (by decide) (by omega) (fun h15 => ?_) (fun h15 => ?_)
      · refine g_aload_n C dX6_count_24 rfl ?_
        refine g_iconst C dX6_count_25 ?_
        refine g_cVWi C [_] _ 0 cal_X6_267 cM_refuse rfl rfl rfl rfl (Nat.le_of_ble_eq_true rfl) (room_b rfl) dX6_count_26 (fun r26 w hw26 => ?_)
        obtain ⟨rfl, rfl⟩ := hw26
        refine g_i2l C dX6_count_29 ?_
        exact g_lret C rfl ⟨_, rfl, Or.inr ⟨by omega, rfl⟩⟩ dX6_count_30
      · refine g_iload_n C dX6_count_18 rfl ?_
        refine g_bipush C dX6_count_19 (by decide) ?_
        refine g_icmp_le C 31 dX6_count_21 (by decide) (by omega) (fun h21 => ?_) (fun h21 => ?_)
        · exact g_locR rfl (main (by omega))
        · refine g_aload_n C dX6_count_24 rfl ?_
          refine g_iconst C dX6_count_25 ?_
          refine g_cVWi C [_] _ 0 cal_X6_267 cM_refuse rfl rfl rfl rfl (Nat.le_of_ble_eq_true rfl) (room_b rfl) dX6_count_26 (fun r26 w hw26 => ?_)
          obtain ⟨rfl, rfl⟩ := hw26
          refine g_i2l C dX6_count_29 ?_
          exact g_lret C rfl ⟨_, rfl, Or.inr ⟨by omega, rfl⟩⟩ dX6_count_30
/-- the text by which one came to a pair -/
theorem cM_tell {Z : Zk} {wr : va_W} {a : Nat → Nat} {tape : Int → Int} {taped : Int} {place : Int} {thrown : Int} {r_op : Nat} {no : Nat} {op : Int → Int} {r_arg : Nat} {arg : Int → Int} {many : Int} {low : Int → Int64} {high : Int → Int64} {masks : Int} {cur : Int} {readLow : Int64} {readHigh : Int64} {group : Int → Int} {choice : Int → Int} {chain : Int → Int} {hasEmpty : Int → Bool} {sset : Int → Int64} {label : Int → Int} {next : Int → Int} {states : Int} {r_stamp : Nat} {ns : Nat} {stamp : Int → Int} {r_stack : Nat} {stack : Int → Int} {stamps : Int} {piled : Int} {reading : Int → Int} {readings : Int} {wher : Int → Int} {built : Int → Int64} {heads : Int → Int} {chained : Int → Int} {isE : Bool} {lives : Int → Bool} {kind : Int → Int} {newKind : Int → Int} {first : Int → Int} {kinds : Int} {leads : Int → Int} {sideStates : Int → Int} {ends : Int → Bool} {text : Int → Int} {textLong : Int} {queue : Int → Int} {frm : Int → Int} {by_ : Int → Int} {ways : Int → Int64} {before : Int → Int64} {q n : Int} {d : Int → Int → Int} {bf byg : Int → Int} {we : Int → List Int} (hq0 : 0 ≤ q) (hq1 : q < n) (hn : n ≤ 161604) (hb : Bq d 0 n queue bf byg we) (hin : ∀ i j, 0 ≤ i → i < n → 0 ≤ j → j < n → queue i = queue j → i = j) (hqr : ∀ j, 0 ≤ j → j < n → 0 ≤ queue j ∧ queue j < 161604) (hfr : ∀ j, 1 ≤ j → j < n → frm (queue j) = queue (bf j) ∧ by_ (queue j) = byg j) (hl : textLong = 0) : Ct Z yX6_tell hX6_tell 1 60 [.ref (a 0), vI (queue q)] (wM Z a tape taped place thrown r_op no op r_arg arg many low high masks cur readLow readHigh group choice chain hasEmpty sset label next states r_stamp ns stamp r_stack stack stamps piled reading readings wher built heads chained isE lives kind newKind first kinds leads sideStates ends text textLong queue frm by_ ways before ++ wr) 0 0 (Ri fun r w => ∃ text', r = ((we q).length : Int) ∧ seg text' 0 (we q).length = we q ∧ w = wM Z a tape taped place thrown r_op no op r_arg arg many low high masks cur readLow readHigh group choice chain hasEmpty sset label next states r_stamp ns stamp r_stack stack stamps piled reading readings wher built heads chained isE lives kind newKind first kinds leads sideStates ends text' (((we q).length : Int)) queue frm by_ ways before ++ wr) := by
  refine Ct.of RX6 "tell" (by decide +kernel) rfl rfl hkX6_tell (Nat.le_of_ble_eq_true rfl) (fun X hZ C => ?_)
  subst hZ
  have hle : ∀ j, 0 ≤ j → j < n → ((we j).length : Int) ≤ j := fun j h0 h1 => hb.len j.toNat j (by omega) h0 h1
  obtain ⟨b1, b2', b3, b4, b5⟩ := hb
  have h00 : queue 0 = 0 := by rw [(b3 0 (Int.le_refl _) (by omega)).1, b2']; rfl
  have hlq := hle q hq0 hq1
  have z : ∀ i, 0 ≤ i → i < n → (queue i = 0 → we i = []) ∧ (queue i ≠ 0 → 1 ≤ i ∧ 0 ≤ bf i ∧ bf i < i ∧ we i = by_ (queue i) :: we (bf i) ∧ frm (queue i) = queue (bf i) ∧ i2b (by_ (queue i)) = by_ (queue i)) := by
    intro i i0 i1
    refine ⟨fun e => ?_, fun e => ?_⟩
    · have := hin i 0 i0 i1 (Int.le_refl _) (by omega) (by rw [e, h00])
      rw [this]; exact b2'
    · have hi : 1 ≤ i := by
        by_cases e2 : i = 0
        · rw [e2, h00] at e; exact absurd rfl e
        · omega
      have p := b4 i hi i1
      have f := hfr i hi i1
      have hw := (b3 i i0 i1).2
      rw [p.2.2] at hw
      exact ⟨hi, p.1, p.2.1, by rw [f.2]; exact p.2.2, f.1, by rw [f.2]; exact i2b_id hw.cons.1.1 hw.cons.1.2⟩
  have two : ∀ (f : Nat) (i m : Int) (t : Int → Int) (p : List Int), i ≤ f → 0 ≤ i → i < n → m = ((we i).length : Int) → we q = p ++ we i → seg t m p.length = p → G X 4 0 0 (wM X.Z a tape taped place thrown r_op no op r_arg arg many low high masks cur readLow readHigh group choice chain hasEmpty sset label next states r_stamp ns stamp r_stack stack stamps piled reading readings wher built heads chained isE lives kind newKind first kinds leads sideStates ends t (((we q).length : Int)) queue frm by_ ways before ++ wr) 33 [(0, .ref (a 0)), (1, vI (queue q)), (2, vI m), (3, vI (queue i))] [] := by
    intro f
    induction f with
    | zero =>
      intro i m t p hf i0 i1 hm hp hs
      have ei : i = 0 := by omega
      subst ei
      have hqi := hqr 0 (Int.le_refl _) i1
      refine g_iload_n C dX6_tell_33 rfl ?_
      refine g_if_eq C 62 dX6_tell_34 (by decide) (by omega) (fun h34 => ?_) (fun h34 => ?_)
      · refine g_aload_n C dX6_tell_62 rfl ?_
        refine gM_textLong C dX6_tell_63 ?_
        exact g_iret C rfl ⟨_, rfl, t, rfl, (by rw [b2', List.append_nil] at hp; rw [show m = 0 by rw [hm, b2']; rfl] at hs; rw [hp]; exact hs), rfl⟩ dX6_tell_66
      · exact absurd h00 h34
    | succ f ih =>
      intro i m t p hf i0 i1 hm hp hs
      have hx := z i i0 i1
      have hli := hle i i0 i1
      have hqi := hqr i i0 i1
      refine g_iload_n C dX6_tell_33 rfl ?_
      refine g_if_eq C 62 dX6_tell_34 (by decide) (by omega) (fun h34 => ?_) (fun h34 => ?_)
      · have hw0 := hx.1 (by omega)
        refine g_aload_n C dX6_tell_62 rfl ?_
        refine gM_textLong C dX6_tell_63 ?_
        exact g_iret C rfl ⟨_, rfl, t, rfl, (by rw [hw0, List.append_nil] at hp; rw [show m = 0 by rw [hm, hw0]; rfl] at hs; rw [hp]; exact hs), rfl⟩ dX6_tell_66
      · have hw0 := hx.2 (by omega)
        have hm1 : m = ((we (bf i)).length : Int) + 1 := by rw [hm, hw0.2.2.2.1, List.length_cons]; omega
        have h2 := ih (bf i) (m - 1) (up t (m - 1) (i2b (by_ (queue i)))) (p ++ [by_ (queue i)]) (by omega) hw0.2.1 (by omega) (by omega) (by rw [hp, hw0.2.2.2.1, List.append_assoc]; rfl) (by rw [List.length_append, hw0.2.2.2.2.2]; exact (seg_back t m _ p.length).trans (by rw [hs]))
        rw [← hw0.2.2.2.2.1] at h2
        refine g_iinc C dX6_tell_37 rfl (by decide) ?_
        refine g_aload_n C dX6_tell_40 rfl ?_
        refine gM_text C dX6_tell_41 ?_
        refine g_iload_n C dX6_tell_44 rfl ?_
        refine g_aload_n C dX6_tell_45 rfl ?_
        refine gM_by C dX6_tell_46 ?_
        refine g_iload_n C dX6_tell_49 rfl ?_
        refine lM_by C (by omega) dX6_tell_50 ?_
        refine sM_text C (by omega) dX6_tell_51 ?_
        refine g_aload_n C dX6_tell_52 rfl ?_
        refine gM_from C dX6_tell_53 ?_
        refine g_iload_n C dX6_tell_56 rfl ?_
        refine lM_from C (by omega) dX6_tell_57 ?_
        refine g_istore_n C dX6_tell_58 (by decide) ?_
        refine g_goto C 33 dX6_tell_59 (by decide) ?_
        refine g_locR (L' := [(0, .ref (a 0)), (1, vI (queue q)), (2, vI (m - 1)), (3, vI (frm (queue i)))]) rfl ?_
        exact h2
  have one : ∀ (f : Nat) (i m : Int), i ≤ f → 0 ≤ i → i < n → m + ((we i).length : Int) = ((we q).length : Int) → 0 ≤ m → G X 4 0 0 (wM X.Z a tape taped place thrown r_op no op r_arg arg many low high masks cur readLow readHigh group choice chain hasEmpty sset label next states r_stamp ns stamp r_stack stack stamps piled reading readings wher built heads chained isE lives kind newKind first kinds leads sideStates ends text m queue frm by_ ways before ++ wr) 2 [(0, .ref (a 0)), (1, vI (queue q)), (2, vI (queue i))] [] := by
    intro f
    induction f with
    | zero =>
      intro i m hf i0 i1 hm m0
      have ei : i = 0 := by omega
      subst ei
      have hqi := hqr 0 (Int.le_refl _) i1
      refine g_iload_n C dX6_tell_2 rfl ?_
      refine g_if_eq C 26 dX6_tell_3 (by decide) (by omega) (fun h3 => ?_) (fun h3 => ?_)
      · refine g_aload_n C dX6_tell_26 rfl ?_
        refine gM_textLong C dX6_tell_27 ?_
        refine g_istore_n C dX6_tell_30 (by decide) ?_
        refine g_iload_n C dX6_tell_31 rfl ?_
        refine g_istore_n C dX6_tell_32 (by decide) ?_
        have em : m = ((we q).length : Int) := by rw [b2'] at hm; simpa using hm
        subst em
        exact g_locR rfl (two q.toNat q _ _ [] (by omega) hq0 hq1 rfl rfl rfl)
      · exact absurd h00 h3
    | succ f ih =>
      intro i m hf i0 i1 hm m0
      have hx := z i i0 i1
      have hli := hle i i0 i1
      have hqi := hqr i i0 i1
      refine g_iload_n C dX6_tell_2 rfl ?_
      refine g_if_eq C 26 dX6_tell_3 (by decide) (by omega) (fun h3 => ?_) (fun h3 => ?_)
      · have hw0 := hx.1 (by omega)
        refine g_aload_n C dX6_tell_26 rfl ?_
        refine gM_textLong C dX6_tell_27 ?_
        refine g_istore_n C dX6_tell_30 (by decide) ?_
        refine g_iload_n C dX6_tell_31 rfl ?_
        refine g_istore_n C dX6_tell_32 (by decide) ?_
        have em : m = ((we q).length : Int) := by rw [hw0] at hm; simpa using hm
        subst em
        exact g_locR rfl (two q.toNat q _ _ [] (by omega) hq0 hq1 rfl rfl rfl)
      · have hw0 := hx.2 (by omega)
        have hm1 : ((we i).length : Int) = ((we (bf i)).length : Int) + 1 := by rw [hw0.2.2.2.1, List.length_cons]; omega
        have h2 := ih (bf i) (m + 1) (by omega) hw0.2.1 (by omega) (by omega) (by omega)
        rw [← hw0.2.2.2.2.1] at h2
        refine g_aload_n C dX6_tell_6 rfl ?_
        refine g_dup C dX6_tell_7 rfl ?_
        refine gM_textLong C dX6_tell_8 ?_
        refine g_iconst C dX6_tell_11 ?_
        refine g_iadd C dX6_tell_12 ?_
        refine pM_textLong C dX6_tell_13 ?_
        refine g_aload_n C dX6_tell_16 rfl ?_
        refine gM_from C dX6_tell_17 ?_
        refine g_iload_n C dX6_tell_20 rfl ?_
        refine lM_from C (by omega) dX6_tell_21 ?_
        refine g_istore_n C dX6_tell_22 (by decide) ?_
        refine g_goto C 2 dX6_tell_23 (by decide) ?_
        exact g_locR rfl h2
  subst hl
  refine g_iload_n C dX6_tell_0 rfl ?_
  refine g_istore_n C dX6_tell_1 (by decide) ?_
  exact g_locR rfl (one q.toNat q 0 (by omega) hq0 hq1 (by omega) (by omega))
