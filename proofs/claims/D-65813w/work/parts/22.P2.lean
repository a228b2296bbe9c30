/-! Patterns: link, behind, set, takes -/
theorem cP_link {Z : Zk} {wr : va_W} {a : Nat → Nat} {tx : Value} {len : Int} {wrong : Int} {low : Int → Int64} {high : Int → Int64} {owners : Int → Int} {follows : Int → Int64} {isLast : Int → Bool} {start : Int → Int64} {places : Int} {count : Int} {empty : Int → Bool} {firsts : Int → Int64} {lasts : Int → Int64} {top : Int} {opn : Int} {cur : Int} {x y : Int} (hx0 : 0 ≤ x) (hx1 : x < 160) (hy0 : 0 ≤ y) (hy1 : y < 160) (hp0 : 0 ≤ places) (hp1 : places ≤ 400) : Ct Z yX3_link hX3_link 2 50 [.ref (a 0), vI x, vI y] (wP Z a tx len wrong low high owners follows isLast start places count empty firsts lasts top opn cur ++ wr) 0 0 (Rv fun w => w = wP Z a tx len wrong low high owners (linkF follows lasts firsts x y places) isLast start places count empty firsts lasts top opn cur ++ wr) := by
  refine Ct.of RX3 "link" (by decide +kernel) rfl rfl hkX3_link (Nat.le_of_ble_eq_true rfl) (fun X hZ C => ?_)
  subst hZ
  have lp : G X 5 0 0 (wP X.Z a tx len wrong low high owners (linkF follows lasts firsts x y 0) isLast start places count empty firsts lasts top opn cur ++ wr) 2 [(0, .ref (a 0)), (1, vI x), (2, vI y), (3, vI 0)] [] := by
    refine loopZ (fun p => G X 5 0 0 (wP X.Z a tx len wrong low high owners (linkF follows lasts firsts x y p) isLast start places count empty firsts lasts top opn cur ++ wr) 2 [(0, .ref (a 0)), (1, vI x), (2, vI y), (3, vI p)] []) 0 places (by omega) ?_ (fun p hp2 hp3 ih => ?_)
    · show G _ _ _ _ _ _ _ _
      refine g_iload_n C dX3_link_2 rfl ?_
      refine g_aload_n C dX3_link_3 rfl ?_
      refine gP_places C dX3_link_4 ?_
      refine g_icmp_ge C 77 dX3_link_7 (by decide) (by omega) (fun h7 => ?_) (fun h7 => ?_)
      · exact g_vret C rfl ⟨rfl, rfl⟩ dX3_link_77
      · exact absurd h7 (by omega)
    · show G _ _ _ _ _ _ _ _
      have next : G X 5 0 0 (wP X.Z a tx len wrong low high owners (linkF follows lasts firsts x y (p + 1)) isLast start places count empty firsts lasts top opn cur ++ wr) 71 [(0, .ref (a 0)), (1, vI x), (2, vI y), (3, vI p)] [] := by
        refine g_iinc C dX3_link_71 rfl (by decide) ?_
        refine g_goto C 2 dX3_link_74 (by decide) ?_
        refine g_locR (L' := [(0, .ref (a 0)), (1, vI x), (2, vI y), (3, vI (p + 1))]) rfl ?_
        exact ih
      have lq : hasB lasts (7 * x) p = true → G X 5 0 0 (wP X.Z a tx len wrong low high owners (upTo (linkF follows lasts firsts x y p) (7 * p) 0 (fun k => linkF follows lasts firsts x y p (7 * p + k) ||| firsts (7 * y + k))) isLast start places count empty firsts lasts top opn cur ++ wr) 31 [(0, .ref (a 0)), (1, vI x), (2, vI y), (3, vI p), (4, vI 0)] [] := by
        intro hyes
        refine loopZ (fun k => G X 5 0 0 (wP X.Z a tx len wrong low high owners (upTo (linkF follows lasts firsts x y p) (7 * p) k (fun k => linkF follows lasts firsts x y p (7 * p + k) ||| firsts (7 * y + k))) isLast start places count empty firsts lasts top opn cur ++ wr) 31 [(0, .ref (a 0)), (1, vI x), (2, vI y), (3, vI p), (4, vI k)] []) 0 7 (by omega) ?_ (fun k hk0 hk1 ih2 => ?_)
        · show G _ _ _ _ _ _ _ _
          refine g_iload C dX3_link_31 rfl ?_
          refine g_bipush C dX3_link_33 (by decide) ?_
          refine g_icmp_ge C 71 dX3_link_35 (by decide) (by omega) (fun h35 => ?_) (fun h35 => ?_)
          · refine g_locR (L' := [(0, .ref (a 0)), (1, vI x), (2, vI y), (3, vI p)]) rfl ?_
            rw [linkF_yes hp2 hyes]
            exact next
          · exact absurd h35 (by omega)
        · show G _ _ _ _ _ _ _ _
          refine g_iload C dX3_link_31 rfl ?_
          refine g_bipush C dX3_link_33 (by decide) ?_
          refine g_icmp_ge C 71 dX3_link_35 (by decide) (by omega) (fun h35 => ?_) (fun h35 => ?_)
          · exact absurd h35 (by omega)
          · refine g_aload_n C dX3_link_38 rfl ?_
            refine gP_follows C dX3_link_39 ?_
            refine g_bipush C dX3_link_42 (by decide) ?_
            refine g_iload_n C dX3_link_44 rfl ?_
            refine g_imul C dX3_link_45 ?_
            refine g_iload C dX3_link_46 rfl ?_
            refine g_iadd C dX3_link_48 ?_
            refine g_dup2_11 C dX3_link_49 rfl rfl ?_
            refine lP_follows C (by omega) dX3_link_50 ?_
            refine g_aload_n C dX3_link_51 rfl ?_
            refine gP_firsts C dX3_link_52 ?_
            refine g_bipush C dX3_link_55 (by decide) ?_
            refine g_iload_n C dX3_link_57 rfl ?_
            refine g_imul C dX3_link_58 ?_
            refine g_iload C dX3_link_59 rfl ?_
            refine g_iadd C dX3_link_61 ?_
            refine lP_firsts C (by omega) dX3_link_62 ?_
            rw [upTo_out _ _ (Or.inr (Int.le_refl _))]
            refine g_lor C dX3_link_63 ?_
            refine sP_follows C (by omega) dX3_link_64 ?_
            refine g_iinc C dX3_link_65 rfl (by decide) ?_
            refine g_goto C 31 dX3_link_68 (by decide) ?_
            refine g_locR (L' := [(0, .ref (a 0)), (1, vI x), (2, vI y), (3, vI p), (4, vI (k + 1))]) rfl ?_
            rw [upTo_s _ (7 * p) (fun k => linkF follows lasts firsts x y p (7 * p + k) ||| firsts (7 * y + k)) hk0]
            exact ih2
      refine g_iload_n C dX3_link_2 rfl ?_
      refine g_aload_n C dX3_link_3 rfl ?_
      refine gP_places C dX3_link_4 ?_
      refine g_icmp_ge C 77 dX3_link_7 (by decide) (by omega) (fun h7 => ?_) (fun h7 => ?_)
      · exact absurd h7 (by omega)
      · refine g_aload_n C dX3_link_10 rfl ?_
        refine gP_lasts C dX3_link_11 ?_
        refine g_bipush C dX3_link_14 (by decide) ?_
        refine g_iload_n C dX3_link_16 rfl ?_
        refine g_imul C dX3_link_17 ?_
        refine g_iload_n C dX3_link_18 rfl ?_
        refine g_cSPz C [_, _, _] _ [10] cal_X3_91 (cP_has (f := lasts) hp2 (by omega) (by omega) (by omega) (by omega)) (by decide) rfl rfl rfl (by decide) (room_b rfl) dX3_link_19 (fun r19 hw19 => ?_)
        refine g_if_ne C 28 dX3_link_22 (by decide) (b2_r _) (fun h22 => ?_) (fun h22 => ?_)
        · have hyes : hasB lasts (7 * x) p = true := by rw [← hw19]; exact (b2_ne0 _).mp h22
          refine g_iconst C dX3_link_28 ?_
          refine g_istore C dX3_link_29 (by decide) ?_
          refine g_locR (L' := [(0, .ref (a 0)), (1, vI x), (2, vI y), (3, vI p), (4, vI 0)]) rfl ?_
          have lq := lq hyes
          rw [upTo_0] at lq
          exact lq
        · have hno : hasB lasts (7 * x) p = false := by rw [← hw19]; exact (b2_0 _).mp h22
          refine g_goto C 71 dX3_link_25 (by decide) ?_
          refine g_locR (L' := [(0, .ref (a 0)), (1, vI x), (2, vI y), (3, vI p)]) rfl ?_
          rw [linkF_no hno] at next
          exact next
  rw [linkF_0] at lp
  refine g_iconst C dX3_link_0 ?_
  refine g_istore_n C dX3_link_1 (by decide) ?_
  refine g_locR (L' := [(0, .ref (a 0)), (1, vI x), (2, vI y), (3, vI 0)]) rfl ?_
  exact lp
def behL (em : Bool) (la : Int → Int64) (x y k : Int) : Int64 := if em then la (7 * y + k) ||| la (7 * x + k) else la (7 * y + k)
theorem cP_behind {Z : Zk} {wr : va_W} {a : Nat → Nat} {tx : Value} {len : Int} {wrong : Int} {low : Int → Int64} {high : Int → Int64} {owners : Int → Int} {follows : Int → Int64} {isLast : Int → Bool} {start : Int → Int64} {places : Int} {count : Int} {empty : Int → Bool} {firsts : Int → Int64} {lasts : Int → Int64} {top : Int} {opn : Int} {cur : Int} {x y : Int} (hx0 : 0 ≤ x) (hx1 : x < 160) (hy0 : 0 ≤ y) (hy1 : y < 160) (hxy : x ≠ y) (hp0 : 0 ≤ places) (hp1 : places ≤ 400) : Ct Z yX3_behind hX3_behind 3 90 [.ref (a 0), vI x, vI y] (wP Z a tx len wrong low high owners follows isLast start places count empty firsts lasts top opn cur ++ wr) 0 0 (Rv fun w => w = wP Z a tx len wrong low high owners (linkF follows lasts firsts x y places) isLast start places count (up empty x (empty x && empty y)) ((if empty x then upTo firsts (7 * x) 7 (fun k => firsts (7 * x + k) ||| firsts (7 * y + k)) else firsts)) (upTo (upTo lasts (7 * y) 7 (behL (empty y) lasts x y)) (7 * x) 7 (behL (empty y) lasts x y)) top opn cur ++ wr) := by
  refine Ct.of RX3 "behind" (by decide +kernel) rfl rfl hkX3_behind (Nat.le_of_ble_eq_true rfl) (fun X hZ C => ?_)
  subst hZ
  have lp : G X 4 0 0 (wP X.Z a tx len wrong low high owners (linkF follows lasts firsts x y places) isLast start places count empty ((if empty x then upTo firsts (7 * x) 0 (fun k => firsts (7 * x + k) ||| firsts (7 * y + k)) else firsts)) (upTo (upTo lasts (7 * y) 0 (behL (empty y) lasts x y)) (7 * x) 0 (behL (empty y) lasts x y)) top opn cur ++ wr) 8 [(0, .ref (a 0)), (1, vI x), (2, vI y), (3, vI 0)] [] := by
    refine loopZ (fun k => G X 4 0 0 (wP X.Z a tx len wrong low high owners (linkF follows lasts firsts x y places) isLast start places count empty ((if empty x then upTo firsts (7 * x) k (fun k => firsts (7 * x + k) ||| firsts (7 * y + k)) else firsts)) (upTo (upTo lasts (7 * y) k (behL (empty y) lasts x y)) (7 * x) k (behL (empty y) lasts x y)) top opn cur ++ wr) 8 [(0, .ref (a 0)), (1, vI x), (2, vI y), (3, vI k)] []) 0 7 (by omega) ?_ (fun k hk0 hk1 ih => ?_)
    · show G _ _ _ _ _ _ _ _
      refine g_iload_n C dX3_behind_8 rfl ?_
      refine g_bipush C dX3_behind_9 (by decide) ?_
      refine g_icmp_ge C 110 dX3_behind_11 (by decide) (by omega) (fun h11 => ?_) (fun h11 => ?_)
      · refine g_aload_n C dX3_behind_110 rfl ?_
        refine gP_empty C dX3_behind_111 ?_
        refine g_iload_n C dX3_behind_114 rfl ?_
        refine g_dup2_11 C dX3_behind_115 rfl rfl ?_
        refine lP_empty C (by omega) dX3_behind_116 ?_
        refine g_aload_n C dX3_behind_117 rfl ?_
        refine gP_empty C dX3_behind_118 ?_
        refine g_iload_n C dX3_behind_121 rfl ?_
        refine lP_empty C (by omega) dX3_behind_122 ?_
        refine g_iand C dX3_behind_123 ?_
        rw [iand_b2]
        refine sP_empty C _ (by omega) rfl dX3_behind_124 ?_
        exact g_vret C rfl ⟨rfl, rfl⟩ dX3_behind_125
      · exact absurd h11 (by omega)
    · show G _ _ _ _ _ _ _ _
      -- behind the first question
      have q2 : G X 4 0 0 (wP X.Z a tx len wrong low high owners (linkF follows lasts firsts x y places) isLast start places count empty ((if empty x then upTo firsts (7 * x) (k + 1) (fun k => firsts (7 * x + k) ||| firsts (7 * y + k)) else firsts)) (upTo (upTo lasts (7 * y) k (behL (empty y) lasts x y)) (7 * x) k (behL (empty y) lasts x y)) top opn cur ++ wr) 48 [(0, .ref (a 0)), (1, vI x), (2, vI y), (3, vI k)] [] := by
        have q3 : G X 4 0 0 (wP X.Z a tx len wrong low high owners (linkF follows lasts firsts x y places) isLast start places count empty ((if empty x then upTo firsts (7 * x) (k + 1) (fun k => firsts (7 * x + k) ||| firsts (7 * y + k)) else firsts)) (upTo (upTo lasts (7 * y) (k + 1) (behL (empty y) lasts x y)) (7 * x) k (behL (empty y) lasts x y)) top opn cur ++ wr) 82 [(0, .ref (a 0)), (1, vI x), (2, vI y), (3, vI k)] [] := by
          refine g_aload_n C dX3_behind_82 rfl ?_
          refine gP_lasts C dX3_behind_83 ?_
          refine g_bipush C dX3_behind_86 (by decide) ?_
          refine g_iload_n C dX3_behind_88 rfl ?_
          refine g_imul C dX3_behind_89 ?_
          refine g_iload_n C dX3_behind_90 rfl ?_
          refine g_iadd C dX3_behind_91 ?_
          refine g_aload_n C dX3_behind_92 rfl ?_
          refine gP_lasts C dX3_behind_93 ?_
          refine g_bipush C dX3_behind_96 (by decide) ?_
          refine g_iload_n C dX3_behind_98 rfl ?_
          refine g_imul C dX3_behind_99 ?_
          refine g_iload_n C dX3_behind_100 rfl ?_
          refine g_iadd C dX3_behind_101 ?_
          refine lP_lasts C (by omega) dX3_behind_102 ?_
          rw [show upTo (upTo lasts (7 * y) (k + 1) (behL (empty y) lasts x y)) (7 * x) k (behL (empty y) lasts x y) (7 * y + k) = behL (empty y) lasts x y k from by rw [upTo_out _ _ (by omega), upTo_at _ _ hk0 (by omega)]]
          refine sP_lasts C (by omega) dX3_behind_103 ?_
          refine g_iinc C dX3_behind_104 rfl (by decide) ?_
          refine g_goto C 8 dX3_behind_107 (by decide) ?_
          refine g_locR (L' := [(0, .ref (a 0)), (1, vI x), (2, vI y), (3, vI (k + 1))]) rfl ?_
          rw [upTo_s _ (7 * x) (behL (empty y) lasts x y) hk0]
          exact ih
        have ey : upTo (upTo lasts (7 * y) k (behL (empty y) lasts x y)) (7 * x) k (behL (empty y) lasts x y) (7 * y + k) = lasts (7 * y + k) := by rw [upTo_out _ _ (by omega), upTo_out _ _ (by omega)]
        have ex : upTo (upTo lasts (7 * y) k (behL (empty y) lasts x y)) (7 * x) k (behL (empty y) lasts x y) (7 * x + k) = lasts (7 * x + k) := by rw [upTo_out _ _ (by omega), upTo_out _ _ (by omega)]
        have eup : ∀ v, v = behL (empty y) lasts x y k → up (upTo (upTo lasts (7 * y) k (behL (empty y) lasts x y)) (7 * x) k (behL (empty y) lasts x y)) (7 * y + k) v = upTo (upTo lasts (7 * y) (k + 1) (behL (empty y) lasts x y)) (7 * x) k (behL (empty y) lasts x y) := by
          intro v hv
          rw [← upTo_s _ (7 * y) (behL (empty y) lasts x y) hk0, hv]
          funext j
          simp only [up, upTo]
          (repeat' split) <;> first | rfl | omega
        refine g_aload_n C dX3_behind_48 rfl ?_
        refine gP_empty C dX3_behind_49 ?_
        refine g_iload_n C dX3_behind_52 rfl ?_
        refine lP_empty C (by omega) dX3_behind_53 ?_
        refine g_if_eq C 82 dX3_behind_54 (by decide) (b2_r _) (fun h54 => ?_) (fun h54 => ?_)
        · have hb : empty y = false := (b2_0 _).mp h54
          first | (rw [eup _ (by unfold behL; rw [hb]; rfl)]; exact q3) | (rw [← eup (lasts (7 * y + k)) (by unfold behL; rw [hb]; rfl), ← ey, up_id] at q3; exact q3)
        · have hb : empty y = true := (b2_ne0 _).mp h54
          refine g_aload_n C dX3_behind_57 rfl ?_
          refine gP_lasts C dX3_behind_58 ?_
          refine g_bipush C dX3_behind_61 (by decide) ?_
          refine g_iload_n C dX3_behind_63 rfl ?_
          refine g_imul C dX3_behind_64 ?_
          refine g_iload_n C dX3_behind_65 rfl ?_
          refine g_iadd C dX3_behind_66 ?_
          refine g_dup2_11 C dX3_behind_67 rfl rfl ?_
          refine lP_lasts C (by omega) dX3_behind_68 ?_
          refine g_aload_n C dX3_behind_69 rfl ?_
          refine gP_lasts C dX3_behind_70 ?_
          refine g_bipush C dX3_behind_73 (by decide) ?_
          refine g_iload_n C dX3_behind_75 rfl ?_
          refine g_imul C dX3_behind_76 ?_
          refine g_iload_n C dX3_behind_77 rfl ?_
          refine g_iadd C dX3_behind_78 ?_
          refine lP_lasts C (by omega) dX3_behind_79 ?_
          rw [ey, ex]
          refine g_lor C dX3_behind_80 ?_
          refine sP_lasts C (by omega) dX3_behind_81 ?_
          first | (rw [eup _ (by unfold behL; rw [hb]; rfl)]; exact q3) | (rw [← eup (lasts (7 * y + k)) (by unfold behL; rw [hb]; rfl), ← ey, up_id] at q3; exact q3)
      refine g_iload_n C dX3_behind_8 rfl ?_
      refine g_bipush C dX3_behind_9 (by decide) ?_
      refine g_icmp_ge C 110 dX3_behind_11 (by decide) (by omega) (fun h11 => ?_) (fun h11 => ?_)
      · exact absurd h11 (by omega)
      · refine g_aload_n C dX3_behind_14 rfl ?_
        refine gP_empty C dX3_behind_15 ?_
        refine g_iload_n C dX3_behind_18 rfl ?_
        refine lP_empty C (by omega) dX3_behind_19 ?_
        refine g_if_eq C 48 dX3_behind_20 (by decide) (b2_r _) (fun h20 => ?_) (fun h20 => ?_)
        · have hb : empty x = false := (b2_0 _).mp h20
          rw [hb] at q2 ⊢
          first | (rw [upTo_s _ (7 * x) (fun k => firsts (7 * x + k) ||| firsts (7 * y + k)) hk0]; exact q2) | exact q2
        · have hb : empty x = true := (b2_ne0 _).mp h20
          rw [hb] at q2 ⊢
          have ex2 : upTo firsts (7 * x) k (fun k => firsts (7 * x + k) ||| firsts (7 * y + k)) (7 * x + k) = firsts (7 * x + k) := upTo_out _ _ (by omega)
          have ey2 : upTo firsts (7 * x) k (fun k => firsts (7 * x + k) ||| firsts (7 * y + k)) (7 * y + k) = firsts (7 * y + k) := upTo_out _ _ (by omega)
          simp only [if_true] at q2 ⊢
          refine g_aload_n C dX3_behind_23 rfl ?_
          refine gP_firsts C dX3_behind_24 ?_
          refine g_bipush C dX3_behind_27 (by decide) ?_
          refine g_iload_n C dX3_behind_29 rfl ?_
          refine g_imul C dX3_behind_30 ?_
          refine g_iload_n C dX3_behind_31 rfl ?_
          refine g_iadd C dX3_behind_32 ?_
          refine g_dup2_11 C dX3_behind_33 rfl rfl ?_
          refine lP_firsts C (by omega) dX3_behind_34 ?_
          refine g_aload_n C dX3_behind_35 rfl ?_
          refine gP_firsts C dX3_behind_36 ?_
          refine g_bipush C dX3_behind_39 (by decide) ?_
          refine g_iload_n C dX3_behind_41 rfl ?_
          refine g_imul C dX3_behind_42 ?_
          refine g_iload_n C dX3_behind_43 rfl ?_
          refine g_iadd C dX3_behind_44 ?_
          refine lP_firsts C (by omega) dX3_behind_45 ?_
          rw [ex2, ey2]
          refine g_lor C dX3_behind_46 ?_
          refine sP_firsts C (by omega) dX3_behind_47 ?_
          first | (rw [upTo_s _ (7 * x) (fun k => firsts (7 * x + k) ||| firsts (7 * y + k)) hk0]; exact q2) | exact q2
  rw [upTo_0, upTo_0, upTo_0, ite_self] at lp
  refine g_aload_n C dX3_behind_0 rfl ?_
  refine g_iload_n C dX3_behind_1 rfl ?_
  refine g_iload_n C dX3_behind_2 rfl ?_
  refine g_cVWv C [_, _] _ 0 cal_X3_113 (cP_link hx0 hx1 hy0 hy1 hp0 hp1) rfl rfl rfl rfl (by decide) (room_b rfl) dX3_behind_3 (fun w hw3 => ?_)
  subst hw3
  refine g_iconst C dX3_behind_6 ?_
  refine g_istore_n C dX3_behind_7 (by decide) ?_
  refine g_locR (L' := [(0, .ref (a 0)), (1, vI x), (2, vI y), (3, vI 0)]) rfl ?_
  exact lp
theorem cP_takes {Z : Zk} {wr : va_W} {a : Nat → Nat} {tx : Value} {len : Int} {wrong : Int} {low : Int → Int64} {high : Int → Int64} {owners : Int → Int} {follows : Int → Int64} {isLast : Int → Bool} {start : Int → Int64} {places : Int} {count : Int} {empty : Int → Bool} {firsts : Int → Int64} {lasts : Int → Int64} {top : Int} {opn : Int} {cur : Int} {p b : Int} (hp0 : 0 ≤ p) (hp1 : p < 400) (hb0 : 0 ≤ b) (hb1 : b < 128) : Ct Z yX3_takes hX3_takes 1 20 [.ref (a 0), vI p, vI b] (wP Z a tx len wrong low high owners follows isLast start places count empty firsts lasts top opn cur ++ wr) 0 0 (Rz fun r w => r = tkB low high p b ∧ w = wP Z a tx len wrong low high owners follows isLast start places count empty firsts lasts top opn cur ++ wr) := by
  refine Ct.of RX3 "takes" (by decide +kernel) rfl rfl hkX3_takes (Nat.le_of_ble_eq_true rfl) (fun X hZ C => ?_)
  subst hZ
  refine g_iload_n C dX3_takes_0 rfl ?_
  refine g_bipush C dX3_takes_1 (by decide) ?_
  refine g_icmp_ge C 15 dX3_takes_3 (by decide) (by omega) (fun h3 => ?_) (fun h3 => ?_)
  · refine g_aload_n C dX3_takes_15 rfl ?_
    refine gP_high C dX3_takes_16 ?_
    refine g_iload_n C dX3_takes_19 rfl ?_
    refine lP_high C (by omega) dX3_takes_20 ?_
    refine g_iload_n C dX3_takes_21 rfl ?_
    refine g_bipush C dX3_takes_22 (by decide) ?_
    refine g_irem C dX3_takes_24 (by omega) ?_
    refine g_lshr C dX3_takes_25 ?_
    refine g_lconst C 1 dX3_takes_26 rfl ?_
    refine g_land C dX3_takes_27 ?_
    refine g_lconst C 1 dX3_takes_28 rfl ?_
    refine g_lcmp C dX3_takes_29 ?_
    refine g_if_ne C 37 dX3_takes_30 (by decide) (lcmp_r _ _) (fun h30 => ?_) (fun h30 => ?_)
    · refine g_iconst C dX3_takes_37 ?_
      exact g_zret C _ (by first | exact (show (1 : Int) = b2 true from rfl) | exact (show (0 : Int) = b2 false from rfl)) rfl ⟨_, rfl, by unfold tkB; (first | rw [if_pos h3] | rw [if_neg (by omega)]); first | exact ((bit_eq (by omega) (by omega)).mp ((lcmp_0 _ _).mp h30)).symm | exact (eq_false_of_ne_true (fun hb => absurd ((lcmp_0 _ _).mpr ((bit_eq (by omega) (by omega)).mpr hb)) h30)).symm, rfl⟩ dX3_takes_38
    · refine g_iconst C dX3_takes_33 ?_
      refine g_goto C 38 dX3_takes_34 (by decide) ?_
      exact g_zret C _ (by first | exact (show (1 : Int) = b2 true from rfl) | exact (show (0 : Int) = b2 false from rfl)) rfl ⟨_, rfl, by unfold tkB; (first | rw [if_pos h3] | rw [if_neg (by omega)]); first | exact ((bit_eq (by omega) (by omega)).mp ((lcmp_0 _ _).mp h30)).symm | exact (eq_false_of_ne_true (fun hb => absurd ((lcmp_0 _ _).mpr ((bit_eq (by omega) (by omega)).mpr hb)) h30)).symm, rfl⟩ dX3_takes_38
  · refine g_aload_n C dX3_takes_6 rfl ?_
    refine gP_low C dX3_takes_7 ?_
    refine g_iload_n C dX3_takes_10 rfl ?_
    refine lP_low C (by omega) dX3_takes_11 ?_
    refine g_goto C 21 dX3_takes_12 (by decide) ?_
    refine g_iload_n C dX3_takes_21 rfl ?_
    refine g_bipush C dX3_takes_22 (by decide) ?_
    refine g_irem C dX3_takes_24 (by omega) ?_
    refine g_lshr C dX3_takes_25 ?_
    refine g_lconst C 1 dX3_takes_26 rfl ?_
    refine g_land C dX3_takes_27 ?_
    refine g_lconst C 1 dX3_takes_28 rfl ?_
    refine g_lcmp C dX3_takes_29 ?_
    refine g_if_ne C 37 dX3_takes_30 (by decide) (lcmp_r _ _) (fun h30 => ?_) (fun h30 => ?_)
    · refine g_iconst C dX3_takes_37 ?_
      exact g_zret C _ (by first | exact (show (1 : Int) = b2 true from rfl) | exact (show (0 : Int) = b2 false from rfl)) rfl ⟨_, rfl, by unfold tkB; (first | rw [if_pos h3] | rw [if_neg (by omega)]); first | exact ((bit_eq (by omega) (by omega)).mp ((lcmp_0 _ _).mp h30)).symm | exact (eq_false_of_ne_true (fun hb => absurd ((lcmp_0 _ _).mpr ((bit_eq (by omega) (by omega)).mpr hb)) h30)).symm, rfl⟩ dX3_takes_38
    · refine g_iconst C dX3_takes_33 ?_
      refine g_goto C 38 dX3_takes_34 (by decide) ?_
      exact g_zret C _ (by first | exact (show (1 : Int) = b2 true from rfl) | exact (show (0 : Int) = b2 false from rfl)) rfl ⟨_, rfl, by unfold tkB; (first | rw [if_pos h3] | rw [if_neg (by omega)]); first | exact ((bit_eq (by omega) (by omega)).mp ((lcmp_0 _ _).mp h30)).symm | exact (eq_false_of_ne_true (fun hb => absurd ((lcmp_0 _ _).mpr ((bit_eq (by omega) (by omega)).mpr hb)) h30)).symm, rfl⟩ dX3_takes_38
theorem cP_set {Z : Zk} {wr : va_W} {a : Nat → Nat} {tx : Value} {len : Int} {wrong : Int} {low : Int → Int64} {high : Int → Int64} {owners : Int → Int} {follows : Int → Int64} {isLast : Int → Bool} {start : Int → Int64} {places : Int} {count : Int} {empty : Int → Bool} {firsts : Int → Int64} {lasts : Int → Int64} {top : Int} {opn : Int} {cur : Int} {p f t : Int} (hp0 : 0 ≤ p) (hp1 : p < 400) (hf0 : 0 ≤ f) (hft : f ≤ t + 1) (ht : t < 128) : Ct Z yX3_set hX3_set 1 20 [.ref (a 0), vI p, vI f, vI t] (wP Z a tx len wrong low high owners follows isLast start places count empty firsts lasts top opn cur ++ wr) 0 0 (Rv fun w => w = wP Z a tx len wrong (up low p (lowBits (low p) f (t + 1 - f).toNat)) (up high p (highBits (high p) f (t + 1 - f).toNat)) owners follows isLast start places count empty firsts lasts top opn cur ++ wr) := by
  refine Ct.of RX3 "set" (by decide +kernel) rfl rfl hkX3_set (Nat.le_of_ble_eq_true rfl) (fun X hZ C => ?_)
  subst hZ
  have lp : G X 5 0 0 (wP X.Z a tx len wrong (up low p (lowBits (low p) f (f - f).toNat)) (up high p (highBits (high p) f (f - f).toNat)) owners follows isLast start places count empty firsts lasts top opn cur ++ wr) 3 [(0, .ref (a 0)), (1, vI p), (3, vI t), (4, vI f)] [] := by
    refine loopZ (fun k => G X 5 0 0 (wP X.Z a tx len wrong (up low p (lowBits (low p) f (k - f).toNat)) (up high p (highBits (high p) f (k - f).toNat)) owners follows isLast start places count empty firsts lasts top opn cur ++ wr) 3 [(0, .ref (a 0)), (1, vI p), (3, vI t), (4, vI k)] []) f (t + 1) (by omega) ?_ (fun k hk0 hk1 ih => ?_)
    · show G _ _ _ _ _ _ _ _
      refine g_iload C dX3_set_3 rfl ?_
      refine g_iload_n C dX3_set_5 rfl ?_
      refine g_icmp_gt C 54 dX3_set_6 (by decide) (by omega) (fun h6 => ?_) (fun h6 => ?_)
      · exact g_vret C rfl ⟨rfl, rfl⟩ dX3_set_54
      · exact absurd h6 (by omega)
    · show G _ _ _ _ _ _ _ _
      have en : (k + 1 - f).toNat = (k - f).toNat + 1 := by omega
      have ef : f + ((k - f).toNat : Int) = k := by omega
      rw [en] at ih
      unfold lowBits highBits at ih
      rw [ef] at ih
      refine g_iload C dX3_set_3 rfl ?_
      refine g_iload_n C dX3_set_5 rfl ?_
      refine g_icmp_gt C 54 dX3_set_6 (by decide) (by omega) (fun h6 => ?_) (fun h6 => ?_)
      · exact absurd h6 (by omega)
      · refine g_iload C dX3_set_9 rfl ?_
        refine g_bipush C dX3_set_11 (by decide) ?_
        refine g_icmp_ge C 32 dX3_set_13 (by decide) (by omega) (fun h13 => ?_) (fun h13 => ?_)
        · rw [if_neg (by omega), if_neg (by omega)] at ih
          refine g_aload_n C dX3_set_32 rfl ?_
          refine gP_high C dX3_set_33 ?_
          refine g_iload_n C dX3_set_36 rfl ?_
          refine g_dup2_11 C dX3_set_37 rfl rfl ?_
          refine lP_high C (by omega) dX3_set_38 ?_
          refine g_lconst C 1 dX3_set_39 rfl ?_
          refine g_iload C dX3_set_40 rfl ?_
          refine g_bipush C dX3_set_42 (by decide) ?_
          refine g_isub C dX3_set_44 ?_
          refine g_lshl C dX3_set_45 ?_
          rw [up_same]
          refine g_lor C dX3_set_46 ?_
          refine sP_high C (by omega) dX3_set_47 ?_
          refine g_iinc C dX3_set_48 rfl (by decide) ?_
          refine g_goto C 3 dX3_set_51 (by decide) ?_
          refine g_locR (L' := [(0, .ref (a 0)), (1, vI p), (3, vI t), (4, vI (k + 1))]) rfl ?_
          rw [up_up]
          exact ih
        · rw [if_pos h13, if_pos h13] at ih
          refine g_aload_n C dX3_set_16 rfl ?_
          refine gP_low C dX3_set_17 ?_
          refine g_iload_n C dX3_set_20 rfl ?_
          refine g_dup2_11 C dX3_set_21 rfl rfl ?_
          refine lP_low C (by omega) dX3_set_22 ?_
          refine g_lconst C 1 dX3_set_23 rfl ?_
          refine g_iload C dX3_set_24 rfl ?_
          refine g_lshl C dX3_set_26 ?_
          rw [up_same]
          refine g_lor C dX3_set_27 ?_
          refine sP_low C (by omega) dX3_set_28 ?_
          refine g_goto C 48 dX3_set_29 (by decide) ?_
          refine g_iinc C dX3_set_48 rfl (by decide) ?_
          refine g_goto C 3 dX3_set_51 (by decide) ?_
          refine g_locR (L' := [(0, .ref (a 0)), (1, vI p), (3, vI t), (4, vI (k + 1))]) rfl ?_
          rw [up_up]
          exact ih
  have e0 : (f - f).toNat = 0 := by omega
  rw [e0] at lp
  unfold lowBits highBits at lp
  rw [up_id, up_id] at lp
  refine g_iload_n C dX3_set_0 rfl ?_
  refine g_istore C dX3_set_1 (by decide) ?_
  refine g_locR (L' := [(0, .ref (a 0)), (1, vI p), (3, vI t), (4, vI f)]) rfl ?_
  exact lp
