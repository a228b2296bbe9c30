/-! Model: findLiving, kindOf, isAlike, mixtureOf -/
theorem up_idb {L : Int → Bool} {s : Int} {v : Bool} (h : L s = v) : up L s v = L := by
  funext j
  unfold up
  by_cases e : j = s
  · rw [if_pos e, e]; exact h.symm
  · rw [if_neg e]
theorem cM_findLiving {Z : Zk} {wr : va_W} {a : Nat → Nat} {tape : Int → Int} {taped : Int} {place : Int} {thrown : Int} {r_op : Nat} {no : Nat} {op : Int → Int} {r_arg : Nat} {arg : Int → Int} {many : Int} {low : Int → Int64} {high : Int → Int64} {masks : Int} {cur : Int} {readLow : Int64} {readHigh : Int64} {group : Int → Int} {choice : Int → Int} {chain : Int → Int} {hasEmpty : Int → Bool} {sset : Int → Int64} {label : Int → Int} {next : Int → Int} {states : Int} {r_stamp : Nat} {ns : Nat} {stamp : Int → Int} {r_stack : Nat} {stack : Int → Int} {stamps : Int} {piled : Int} {reading : Int → Int} {readings : Int} {wher : Int → Int} {built : Int → Int64} {heads : Int → Int} {chained : Int → Int} {isE : Bool} {lives : Int → Bool} {kind : Int → Int} {newKind : Int → Int} {first : Int → Int} {kinds : Int} {leads : Int → Int} {sideStates : Int → Int} {ends : Int → Bool} {text : Int → Int} {textLong : Int} {queue : Int → Int} {frm : Int → Int} {by_ : Int → Int} {ways : Int → Int64} {before : Int → Int64} (hc1 : 1 ≤ states) (hc2 : states ≤ 401) (hmv : MvOk states next) (hac : ∀ s, 0 ≤ s → s < states → -1 ≤ label s ∧ label s ≤ 0) : Ct Z yX6_findLiving hX6_findLiving 1 60 [.ref (a 0)] (wM Z a tape taped place thrown r_op no op r_arg arg many low high masks cur readLow readHigh group choice chain hasEmpty sset label next states r_stamp ns stamp r_stack stack stamps piled reading readings wher built heads chained isE lives kind newKind first kinds leads sideStates ends text textLong queue frm by_ ways before ++ wr) 0 0 (Rv fun w => ∃ lives1, (∀ s, 0 ≤ s → s < states → lives1 s = tr (Liv next (accB label) s)) ∧ w = wM Z a tape taped place thrown r_op no op r_arg arg many low high masks cur readLow readHigh group choice chain hasEmpty sset label next states r_stamp ns stamp r_stack stack stamps piled reading readings wher built heads chained isE lives1 kind newKind first kinds leads sideStates ends text textLong queue frm by_ ways before ++ wr) := by
  refine Ct.of RX6 "findLiving" (by decide +kernel) rfl rfl hkX6_findLiving (Nat.le_of_ble_eq_true rfl) (fun X hZ C => ?_)
  subst hZ
  have ps : ∀ (n : Nat) (L : Int → Bool), cF L states < n → LvI states next (accB label) L → G X 4 0 0 (wM X.Z a tape taped place thrown r_op no op r_arg arg many low high masks cur readLow readHigh group choice chain hasEmpty sset label next states r_stamp ns stamp r_stack stack stamps piled reading readings wher built heads chained isE L kind newKind first kinds leads sideStates ends text textLong queue frm by_ ways before ++ wr) 39 [(0, .ref (a 0)), (1, vI (b2 true))] [] := by
    intro n
    induction n with
    | zero => intro L h; omega
    | succ n ihn =>
      intro L0 hn0 hL0
      have sl := loopD (fun s => ∀ L m, LvI states next (accB label) L → ((m = true ∧ cF L states < n) ∨ (m = false ∧ cF L states < n + 1 ∧ ∀ t, s < t → t < states → Shut next L t)) → G X 4 0 0 (wM X.Z a tape taped place thrown r_op no op r_arg arg many low high masks cur readLow readHigh group choice chain hasEmpty sset label next states r_stamp ns stamp r_stack stack stamps piled reading readings wher built heads chained isE L kind newKind first kinds leads sideStates ends text textLong queue frm by_ ways before ++ wr) 52 [(0, .ref (a 0)), (1, vI (b2 m)), (2, vI s)] []) (-1) (states - 1) (by omega) (fun L m hL hm => ?_) (fun s hs0 hs1 ih L m hL hm => ?_)
      · show G _ _ _ _ _ _ _ _
        refine g_iload_n C dX6_findLiving_39 rfl ?_
        refine g_if_eq C 131 dX6_findLiving_40 (by decide) (b2_r _) (fun h40 => ?_) (fun h40 => ?_)
        · exact absurd h40 (by decide)
        · refine g_iconst C dX6_findLiving_43 ?_
          refine g_istore_n C dX6_findLiving_44 (by decide) ?_
          refine g_aload_n C dX6_findLiving_45 rfl ?_
          refine gM_states C dX6_findLiving_46 ?_
          refine g_iconst C dX6_findLiving_49 ?_
          refine g_isub C dX6_findLiving_50 ?_
          refine g_istore_n C dX6_findLiving_51 (by decide) ?_
          exact g_locR rfl (sl L0 false hL0 (Or.inr ⟨rfl, hn0, fun t h1 h2 => by omega⟩))
      · show G _ _ _ _ _ _ _ _
        have ex : m = false → G X 4 0 0 (wM X.Z a tape taped place thrown r_op no op r_arg arg many low high masks cur readLow readHigh group choice chain hasEmpty sset label next states r_stamp ns stamp r_stack stack stamps piled reading readings wher built heads chained isE L kind newKind first kinds leads sideStates ends text textLong queue frm by_ ways before ++ wr) 39 [(0, .ref (a 0)), (1, vI (b2 m))] [] := by
          intro hmf
          subst hmf
          rcases hm with ⟨h1, _⟩ | ⟨_, _, hsh⟩
          · exact absurd h1 (by decide)
          refine g_iload_n C dX6_findLiving_39 rfl ?_
          refine g_if_eq C 131 dX6_findLiving_40 (by decide) (b2_r _) (fun h40 => ?_) (fun h40 => ?_)
          · exact g_vret C rfl ⟨rfl, L, fun s s0 s1 => Bool.eq_iff_iff.mpr (by rw [tr_iff]; exact ⟨(hL s s0 s1).1, fun ⟨w, w1, w2⟩ => liv_of hmv (fun t t0 t1 => (hL t t0 t1).2) (fun t t0 t1 => hsh t (by omega) t1) w s s0 s1 w1 w2⟩), rfl⟩ dX6_findLiving_131
          · exact absurd rfl h40
        refine g_iload_n C dX6_findLiving_52 rfl ?_
        refine g_if_lt C 128 dX6_findLiving_53 (by decide) (by omega) (fun h53 => ?_) (fun h53 => ?_)
        · refine g_goto C 39 dX6_findLiving_128 (by decide) ?_
          cases m with
          | true => exact g_locR rfl (ihn L (by rcases hm with h | h; exact h.2; exact absurd h.1 (by decide)) hL)
          | false => exact g_locR rfl (ex rfl)
        · exact absurd h53 (by omega)
      · show G _ _ _ _ _ _ _ _
        have nx : ∀ (L : Int → Bool) (m : Bool) (b : Int), LvI states next (accB label) L → ((m = true ∧ cF L states < n) ∨ (m = false ∧ cF L states < n + 1 ∧ (∀ t, s < t → t < states → Shut next L t) ∧ Shut next L s)) → G X 4 0 0 (wM X.Z a tape taped place thrown r_op no op r_arg arg many low high masks cur readLow readHigh group choice chain hasEmpty sset label next states r_stamp ns stamp r_stack stack stamps piled reading readings wher built heads chained isE L kind newKind first kinds leads sideStates ends text textLong queue frm by_ ways before ++ wr) 122 [(0, .ref (a 0)), (1, vI (b2 m)), (2, vI s), (3, vI b)] [] := by
          intro L m b hL hm
          refine g_iinc C dX6_findLiving_122 rfl (by decide) ?_
          refine g_goto C 52 dX6_findLiving_125 (by decide) ?_
          exact g_locR (L' := [(0, .ref (a 0)), (1, vI (b2 m)), (2, vI (s - 1))]) rfl (ih L m hL (hm.imp id (fun h => ⟨h.1, h.2.1, fun t h1 h2 => by by_cases e : t = s; subst e; exact h.2.2.2; exact h.2.2.1 t (by omega) h2⟩)))
        have bl := loopZ (fun b => ∀ L m, LvI states next (accB label) L → ((m = true ∧ cF L states < n) ∨ (m = false ∧ cF L states < n + 1 ∧ (∀ t, s < t → t < states → Shut next L t) ∧ ∀ c, 0 ≤ c → c < b → L (next (128 * s + c)) = false)) → G X 4 0 0 (wM X.Z a tape taped place thrown r_op no op r_arg arg many low high masks cur readLow readHigh group choice chain hasEmpty sset label next states r_stamp ns stamp r_stack stack stamps piled reading readings wher built heads chained isE L kind newKind first kinds leads sideStates ends text textLong queue frm by_ ways before ++ wr) 58 [(0, .ref (a 0)), (1, vI (b2 m)), (2, vI s), (3, vI b)] []) 0 128 (by omega) (fun L m hL hm => ?_) (fun b b0 b1 ihb L m hL hm => ?_)
        · show G _ _ _ _ _ _ _ _
          refine g_iload_n C dX6_findLiving_52 rfl ?_
          refine g_if_lt C 128 dX6_findLiving_53 (by decide) (by omega) (fun h53 => ?_) (fun h53 => ?_)
          · exact absurd h53 (by omega)
          · refine g_iconst C dX6_findLiving_56 ?_
            refine g_istore_n C dX6_findLiving_57 (by decide) ?_
            exact g_locR rfl (bl L m hL (hm.imp id (fun h => ⟨h.1, h.2.1, h.2.2, fun c c0 c1 => by omega⟩)))
        · show G _ _ _ _ _ _ _ _
          refine g_iload_n C dX6_findLiving_58 rfl ?_
          refine g_sipush C dX6_findLiving_59 (by decide) ?_
          refine g_icmp_ge C 122 dX6_findLiving_62 (by decide) (by omega) (fun h62 => ?_) (fun h62 => ?_)
          · exact nx L m 128 hL (hm.imp id (fun h => ⟨h.1, h.2.1, h.2.2.1, fun c c0 c1 hcc => by rw [h.2.2.2 c c0 c1] at hcc; exact absurd hcc (by decide)⟩))
          · exact absurd h62 (by omega)
        · show G _ _ _ _ _ _ _ _
          have hmb := hmv.at (by omega) (by omega) b0 b1 (s := s)
          have t97 : ∀ (v : Bool), L s = false → L (next (128 * s + b)) = v → G X 4 0 0 (wM X.Z a tape taped place thrown r_op no op r_arg arg many low high masks cur readLow readHigh group choice chain hasEmpty sset label next states r_stamp ns stamp r_stack stack stamps piled reading readings wher built heads chained isE (up L s v) kind newKind first kinds leads sideStates ends text textLong queue frm by_ ways before ++ wr) 97 [(0, .ref (a 0)), (1, vI (b2 m)), (2, vI s), (3, vI b)] [] := by
            intro v hs hv
            cases v with
            | false =>
              rw [up_idb hs]
              have h2 := ihb L m hL (hm.imp id (fun h => ⟨h.1, h.2.1, h.2.2.1, fun c c0 c1 => by by_cases e : c = b; subst e; exact hv; exact h.2.2.2 c c0 (by omega)⟩))
              refine g_iload_n C dX6_findLiving_97 rfl ?_
              refine g_if_ne C 110 dX6_findLiving_98 (by decide) (b2_r _) (fun h98 => ?_) (fun h98 => ?_)
              · refine g_iconst C dX6_findLiving_110 ?_
                refine g_goto C 115 dX6_findLiving_111 (by decide) ?_
                refine g_top (show _ = b2 m from by first | (rw [(b2_ne0 _).mp h98]; rfl) | (rw [(b2_0 _).mp h98]; rfl)) ?_
                refine g_istore_n C dX6_findLiving_115 (by decide) ?_
                refine g_iinc C dX6_findLiving_116 rfl (by decide) ?_
                refine g_goto C 58 dX6_findLiving_119 (by decide) ?_
                exact g_locR rfl h2
              · refine g_aload_n C dX6_findLiving_101 rfl ?_
                refine gM_lives C dX6_findLiving_102 ?_
                refine g_iload_n C dX6_findLiving_105 rfl ?_
                refine lM_lives C (by omega) dX6_findLiving_106 ?_
                refine g_if_eq C 114 dX6_findLiving_107 (by decide) (b2_r _) (fun h107 => ?_) (fun h107 => ?_)
                · refine g_iconst C dX6_findLiving_114 ?_
                  refine g_top (show _ = b2 m from by first | (rw [(b2_ne0 _).mp h98]; rfl) | (rw [(b2_0 _).mp h98]; rfl)) ?_
                  refine g_istore_n C dX6_findLiving_115 (by decide) ?_
                  refine g_iinc C dX6_findLiving_116 rfl (by decide) ?_
                  refine g_goto C 58 dX6_findLiving_119 (by decide) ?_
                  exact g_locR rfl h2
                · exact absurd (show b2 (L s) = 0 by rw [hs]; rfl) h107
            | true =>
              have h2 := ihb (up L s true) true (hL.set hmv (by omega) (by omega) b0 b1 hv) (Or.inl ⟨rfl, by have hcf := cF_up (n := states) (by omega) (by omega) hs; omega⟩)
              have hsame : up L s true s = true := up_same _ _ _
              refine g_iload_n C dX6_findLiving_97 rfl ?_
              refine g_if_ne C 110 dX6_findLiving_98 (by decide) (b2_r _) (fun h98 => ?_) (fun h98 => ?_)
              · refine g_iconst C dX6_findLiving_110 ?_
                refine g_goto C 115 dX6_findLiving_111 (by decide) ?_
                refine g_istore_n C dX6_findLiving_115 (by decide) ?_
                refine g_iinc C dX6_findLiving_116 rfl (by decide) ?_
                refine g_goto C 58 dX6_findLiving_119 (by decide) ?_
                exact g_locR rfl h2
              · refine g_aload_n C dX6_findLiving_101 rfl ?_
                refine gM_lives C dX6_findLiving_102 ?_
                refine g_iload_n C dX6_findLiving_105 rfl ?_
                refine lM_lives C (by omega) dX6_findLiving_106 ?_
                refine g_if_eq C 114 dX6_findLiving_107 (by decide) (b2_r _) (fun h107 => ?_) (fun h107 => ?_)
                · exact absurd h107 (by rw [hsame]; decide)
                · refine g_iconst C dX6_findLiving_110 ?_
                  refine g_goto C 115 dX6_findLiving_111 (by decide) ?_
                  refine g_istore_n C dX6_findLiving_115 (by decide) ?_
                  refine g_iinc C dX6_findLiving_116 rfl (by decide) ?_
                  refine g_goto C 58 dX6_findLiving_119 (by decide) ?_
                  exact g_locR rfl h2
          refine g_iload_n C dX6_findLiving_58 rfl ?_
          refine g_sipush C dX6_findLiving_59 (by decide) ?_
          refine g_icmp_ge C 122 dX6_findLiving_62 (by decide) (by omega) (fun h62 => ?_) (fun h62 => ?_)
          · exact absurd h62 (by omega)
          · refine g_aload_n C dX6_findLiving_65 rfl ?_
            refine gM_lives C dX6_findLiving_66 ?_
            refine g_iload_n C dX6_findLiving_69 rfl ?_
            refine lM_lives C (by omega) dX6_findLiving_70 ?_
            refine g_if_ne C 122 dX6_findLiving_71 (by decide) (b2_r _) (fun h71 => ?_) (fun h71 => ?_)
            · have hs := (b2_ne0 _).mp h71
              exact nx L m b hL (hm.imp id (fun h => ⟨h.1, h.2.1, h.2.2.1, fun c c0 c1 _ => hs⟩))
            · have hs := (b2_0 _).mp h71
              refine g_aload_n C dX6_findLiving_74 rfl ?_
              refine gM_lives C dX6_findLiving_75 ?_
              refine g_iload_n C dX6_findLiving_78 rfl ?_
              refine g_aload_n C dX6_findLiving_79 rfl ?_
              refine gM_lives C dX6_findLiving_80 ?_
              refine g_aload_n C dX6_findLiving_83 rfl ?_
              refine gM_next C dX6_findLiving_84 ?_
              refine g_sipush C dX6_findLiving_87 (by decide) ?_
              refine g_iload_n C dX6_findLiving_90 rfl ?_
              refine g_imul C dX6_findLiving_91 ?_
              refine g_iload_n C dX6_findLiving_92 rfl ?_
              refine g_iadd C dX6_findLiving_93 ?_
              refine lM_next C (by omega) dX6_findLiving_94 ?_
              refine lM_lives C (by omega) dX6_findLiving_95 ?_
              refine sM_lives C _ (by omega) rfl dX6_findLiving_96 ?_
              exact g_locR rfl (t97 _ hs rfl)
  have lp := loopZ (fun k => G X 4 0 0 (wM X.Z a tape taped place thrown r_op no op r_arg arg many low high masks cur readLow readHigh group choice chain hasEmpty sset label next states r_stamp ns stamp r_stack stack stamps piled reading readings wher built heads chained isE (upTo lives 0 k (accB label)) kind newKind first kinds leads sideStates ends text textLong queue frm by_ ways before ++ wr) 2 [(0, .ref (a 0)), (1, vI k)] []) 0 states (by omega) ?_ (fun k k0 k1 ih => ?_)
  · show G _ _ _ _ _ _ _ _
    rw [upTo_0] at lp
    refine g_iconst C dX6_findLiving_0 ?_
    refine g_istore_n C dX6_findLiving_1 (by decide) ?_
    exact g_locR rfl lp
  · show G _ _ _ _ _ _ _ _
    refine g_iload_n C dX6_findLiving_2 rfl ?_
    refine g_aload_n C dX6_findLiving_3 rfl ?_
    refine gM_states C dX6_findLiving_4 ?_
    refine g_icmp_ge C 37 dX6_findLiving_7 (by decide) (by omega) (fun h7 => ?_) (fun h7 => ?_)
    · refine g_iconst C dX6_findLiving_37 ?_
      refine g_istore_n C dX6_findLiving_38 (by decide) ?_
      exact g_locR rfl (ps _ _ (Nat.lt_succ_self _) (fun s s0 s1 => by rw [upTo_at0 _ _ s0 s1]; exact ⟨fun h => Liv.base h, fun h => h⟩))
    · exact absurd h7 (by omega)
  · show G _ _ _ _ _ _ _ _
    have ha := hac k k0 k1
    refine g_iload_n C dX6_findLiving_2 rfl ?_
    refine g_aload_n C dX6_findLiving_3 rfl ?_
    refine gM_states C dX6_findLiving_4 ?_
    refine g_icmp_ge C 37 dX6_findLiving_7 (by decide) (by omega) (fun h7 => ?_) (fun h7 => ?_)
    · exact absurd h7 (by omega)
    · refine g_aload_n C dX6_findLiving_10 rfl ?_
      refine gM_lives C dX6_findLiving_11 ?_
      refine g_iload_n C dX6_findLiving_14 rfl ?_
      refine g_aload_n C dX6_findLiving_15 rfl ?_
      refine gM_label C dX6_findLiving_16 ?_
      refine g_iload_n C dX6_findLiving_19 rfl ?_
      refine lM_label C (by omega) dX6_findLiving_20 ?_
      refine g_iconst C dX6_findLiving_21 ?_
      refine g_icmp_eq C 29 dX6_findLiving_22 (by decide) (by omega) (fun h22 => ?_) (fun h22 => ?_)
      · refine g_iconst C dX6_findLiving_29 ?_
        refine sM_lives C _ (by omega) (show _ = b2 (accB label k) from by unfold accB; first | (rw [decide_eq_false (by omega)]; rfl) | (rw [decide_eq_true (by omega)]; rfl)) dX6_findLiving_30 ?_
        refine g_iinc C dX6_findLiving_31 rfl (by decide) ?_
        refine g_goto C 2 dX6_findLiving_34 (by decide) ?_
        rw [upTo_s0 _ (accB label) k0]
        exact g_locR rfl ih
      · refine g_iconst C dX6_findLiving_25 ?_
        refine g_goto C 30 dX6_findLiving_26 (by decide) ?_
        refine sM_lives C _ (by omega) (show _ = b2 (accB label k) from by unfold accB; first | (rw [decide_eq_false (by omega)]; rfl) | (rw [decide_eq_true (by omega)]; rfl)) dX6_findLiving_30 ?_
        refine g_iinc C dX6_findLiving_31 rfl (by decide) ?_
        refine g_goto C 2 dX6_findLiving_34 (by decide) ?_
        rw [upTo_s0 _ (accB label) k0]
        exact g_locR rfl ih
def kO (lives : Int → Bool) (kind : Int → Int) (s : Int) : Int := bif lives s then kind s else -1
theorem cM_kindOf {Z : Zk} {wr : va_W} {a : Nat → Nat} {tape : Int → Int} {taped : Int} {place : Int} {thrown : Int} {r_op : Nat} {no : Nat} {op : Int → Int} {r_arg : Nat} {arg : Int → Int} {many : Int} {low : Int → Int64} {high : Int → Int64} {masks : Int} {cur : Int} {readLow : Int64} {readHigh : Int64} {group : Int → Int} {choice : Int → Int} {chain : Int → Int} {hasEmpty : Int → Bool} {sset : Int → Int64} {label : Int → Int} {next : Int → Int} {states : Int} {r_stamp : Nat} {ns : Nat} {stamp : Int → Int} {r_stack : Nat} {stack : Int → Int} {stamps : Int} {piled : Int} {reading : Int → Int} {readings : Int} {wher : Int → Int} {built : Int → Int64} {heads : Int → Int} {chained : Int → Int} {isE : Bool} {lives : Int → Bool} {kind : Int → Int} {newKind : Int → Int} {first : Int → Int} {kinds : Int} {leads : Int → Int} {sideStates : Int → Int} {ends : Int → Bool} {text : Int → Int} {textLong : Int} {queue : Int → Int} {frm : Int → Int} {by_ : Int → Int} {ways : Int → Int64} {before : Int → Int64} {s : Int} (s0 : 0 ≤ s) (s1 : s < 401) : Ct Z yX6_kindOf hX6_kindOf 1 60 [.ref (a 0), vI s] (wM Z a tape taped place thrown r_op no op r_arg arg many low high masks cur readLow readHigh group choice chain hasEmpty sset label next states r_stamp ns stamp r_stack stack stamps piled reading readings wher built heads chained isE lives kind newKind first kinds leads sideStates ends text textLong queue frm by_ ways before ++ wr) 0 0 (Ri fun r w => r = kO lives kind s ∧ w = wM Z a tape taped place thrown r_op no op r_arg arg many low high masks cur readLow readHigh group choice chain hasEmpty sset label next states r_stamp ns stamp r_stack stack stamps piled reading readings wher built heads chained isE lives kind newKind first kinds leads sideStates ends text textLong queue frm by_ ways before ++ wr) := by
  refine Ct.of RX6 "kindOf" (by decide +kernel) rfl rfl hkX6_kindOf (Nat.le_of_ble_eq_true rfl) (fun X hZ C => ?_)
  subst hZ
  refine g_aload_n C dX6_kindOf_0 rfl ?_
  refine gM_lives C dX6_kindOf_1 ?_
  refine g_iload_n C dX6_kindOf_4 rfl ?_
  refine lM_lives C (by omega) dX6_kindOf_5 ?_
  refine g_if_eq C 18 dX6_kindOf_6 (by decide) (b2_r _) (fun h6 => ?_) (fun h6 => ?_)
  · refine g_iconst C dX6_kindOf_18 ?_
    exact g_iret C rfl ⟨_, rfl, (by unfold kO; first | (rw [(b2_0 _).mp h6]; rfl) | (rw [(b2_ne0 _).mp h6]; rfl)), rfl⟩ dX6_kindOf_19
  · refine g_aload_n C dX6_kindOf_9 rfl ?_
    refine gM_kind C dX6_kindOf_10 ?_
    refine g_iload_n C dX6_kindOf_13 rfl ?_
    refine lM_kind C (by omega) dX6_kindOf_14 ?_
    refine g_goto C 19 dX6_kindOf_15 (by decide) ?_
    exact g_iret C rfl ⟨_, rfl, (by unfold kO; first | (rw [(b2_0 _).mp h6]; rfl) | (rw [(b2_ne0 _).mp h6]; rfl)), rfl⟩ dX6_kindOf_19
theorem kO_live {lives : Int → Bool} {kind : Int → Int} {s : Int} (h : lives s = true) : kO lives kind s = kind s := by unfold kO; rw [h]; rfl
theorem kO_dead {lives : Int → Bool} {kind : Int → Int} {s : Int} (h : lives s = false) : kO lives kind s = -1 := by unfold kO; rw [h]; rfl
theorem cM_isAlike {Z : Zk} {wr : va_W} {a : Nat → Nat} {tape : Int → Int} {taped : Int} {place : Int} {thrown : Int} {r_op : Nat} {no : Nat} {op : Int → Int} {r_arg : Nat} {arg : Int → Int} {many : Int} {low : Int → Int64} {high : Int → Int64} {masks : Int} {cur : Int} {readLow : Int64} {readHigh : Int64} {group : Int → Int} {choice : Int → Int} {chain : Int → Int} {hasEmpty : Int → Bool} {sset : Int → Int64} {label : Int → Int} {next : Int → Int} {states : Int} {r_stamp : Nat} {ns : Nat} {stamp : Int → Int} {r_stack : Nat} {stack : Int → Int} {stamps : Int} {piled : Int} {reading : Int → Int} {readings : Int} {wher : Int → Int} {built : Int → Int64} {heads : Int → Int} {chained : Int → Int} {isE : Bool} {lives : Int → Bool} {kind : Int → Int} {newKind : Int → Int} {first : Int → Int} {kinds : Int} {leads : Int → Int} {sideStates : Int → Int} {ends : Int → Bool} {text : Int → Int} {textLong : Int} {queue : Int → Int} {frm : Int → Int} {by_ : Int → Int} {ways : Int → Int64} {before : Int → Int64} {s t : Int} (hc2 : states ≤ 401) (hmv : MvOk states next) (hgr : ∀ s, 0 ≤ s → s < states → -1 ≤ kO lives kind s ∧ kO lives kind s ≤ 401) (s0 : 0 ≤ s) (s1 : s < states) (t0 : 0 ≤ t) (t1 : t < states) (ls : lives s = true) (lt : lives t = true) : Ct Z yX6_isAlike hX6_isAlike 2 120 [.ref (a 0), vI s, vI t] (wM Z a tape taped place thrown r_op no op r_arg arg many low high masks cur readLow readHigh group choice chain hasEmpty sset label next states r_stamp ns stamp r_stack stack stamps piled reading readings wher built heads chained isE lives kind newKind first kinds leads sideStates ends text textLong queue frm by_ ways before ++ wr) 0 0 (Rz fun r w => r = tr (Alk (kO lives kind) next s t) ∧ w = wM Z a tape taped place thrown r_op no op r_arg arg many low high masks cur readLow readHigh group choice chain hasEmpty sset label next states r_stamp ns stamp r_stack stack stamps piled reading readings wher built heads chained isE lives kind newKind first kinds leads sideStates ends text textLong queue frm by_ ways before ++ wr) := by
  refine Ct.of RX6 "isAlike" (by decide +kernel) rfl rfl hkX6_isAlike (Nat.le_of_ble_eq_true rfl) (fun X hZ C => ?_)
  subst hZ
  have hg1 := hgr s s0 s1
  have hg2 := hgr t t0 t1
  rw [kO_live ls] at hg1
  rw [kO_live lt] at hg2
  have nal : ¬ Alk (kO lives kind) next s t → tr (Alk (kO lives kind) next s t) = false := fun h => Bool.eq_false_iff.mpr (fun e => h (tr_iff.mp e))
  have lp := loopZ (fun b => kind s = kind t → (∀ c, 0 ≤ c → c < b → kO lives kind (next (128 * s + c)) = kO lives kind (next (128 * t + c))) → G X 4 0 0 (wM X.Z a tape taped place thrown r_op no op r_arg arg many low high masks cur readLow readHigh group choice chain hasEmpty sset label next states r_stamp ns stamp r_stack stack stamps piled reading readings wher built heads chained isE lives kind newKind first kinds leads sideStates ends text textLong queue frm by_ ways before ++ wr) 19 [(0, .ref (a 0)), (1, vI s), (2, vI t), (3, vI b)] []) 0 128 (by omega) (fun he hb => ?_) (fun b b0 b1 ih he hb => ?_)
  · show G _ _ _ _ _ _ _ _
    refine g_aload_n C dX6_isAlike_0 rfl ?_
    refine gM_kind C dX6_isAlike_1 ?_
    refine g_iload_n C dX6_isAlike_4 rfl ?_
    refine lM_kind C (by omega) dX6_isAlike_5 ?_
    refine g_aload_n C dX6_isAlike_6 rfl ?_
    refine gM_kind C dX6_isAlike_7 ?_
    refine g_iload_n C dX6_isAlike_10 rfl ?_
    refine lM_kind C (by omega) dX6_isAlike_11 ?_
    refine g_icmp_eq C 17 dX6_isAlike_12 (by decide) (by omega) (fun h12 => ?_) (fun h12 => ?_)
    · refine g_iconst C dX6_isAlike_17 ?_
      refine g_istore_n C dX6_isAlike_18 (by decide) ?_
      exact g_locR rfl (lp h12 (fun c c0 c1 => by omega))
    · refine g_iconst C dX6_isAlike_15 ?_
      exact g_zret C false rfl rfl ⟨_, rfl, (nal (fun h => absurd (by have := h.1; rw [kO_live ls, kO_live lt] at this; exact this) h12)).symm, rfl⟩ dX6_isAlike_16
  · show G _ _ _ _ _ _ _ _
    refine g_iload_n C dX6_isAlike_19 rfl ?_
    refine g_sipush C dX6_isAlike_20 (by decide) ?_
    refine g_icmp_ge C 69 dX6_isAlike_23 (by decide) (by omega) (fun h23 => ?_) (fun h23 => ?_)
    · refine g_iconst C dX6_isAlike_69 ?_
      exact g_zret C true rfl rfl ⟨_, rfl, (tr_iff.mpr ⟨by rw [kO_live ls, kO_live lt]; exact he, hb⟩).symm, rfl⟩ dX6_isAlike_70
    · exact absurd h23 (by omega)
  · show G _ _ _ _ _ _ _ _
    have hm1 := hmv.at s0 s1 b0 b1
    have hm2 := hmv.at t0 t1 b0 b1
    have hg3 := hgr _ (by omega) hm1.2
    have hg4 := hgr _ (by omega) hm2.2
    refine g_iload_n C dX6_isAlike_19 rfl ?_
    refine g_sipush C dX6_isAlike_20 (by decide) ?_
    refine g_icmp_ge C 69 dX6_isAlike_23 (by decide) (by omega) (fun h23 => ?_) (fun h23 => ?_)
    · exact absurd h23 (by omega)
    · refine g_aload_n C dX6_isAlike_26 rfl ?_
      refine g_aload_n C dX6_isAlike_27 rfl ?_
      refine gM_next C dX6_isAlike_28 ?_
      refine g_sipush C dX6_isAlike_31 (by decide) ?_
      refine g_iload_n C dX6_isAlike_34 rfl ?_
      refine g_imul C dX6_isAlike_35 ?_
      refine g_iload_n C dX6_isAlike_36 rfl ?_
      refine g_iadd C dX6_isAlike_37 ?_
      refine lM_next C (by omega) dX6_isAlike_38 ?_
      refine g_cVWi C [_] _ 0 cal_X6_190 (cM_kindOf (by omega) (by omega)) rfl rfl rfl rfl (Nat.le_of_ble_eq_true rfl) (room_b rfl) dX6_isAlike_39 (fun r39 w hw39 => ?_)
      obtain ⟨rfl, rfl⟩ := hw39
      refine g_aload_n C dX6_isAlike_42 rfl ?_
      refine g_aload_n C dX6_isAlike_43 rfl ?_
      refine gM_next C dX6_isAlike_44 ?_
      refine g_sipush C dX6_isAlike_47 (by decide) ?_
      refine g_iload_n C dX6_isAlike_50 rfl ?_
      refine g_imul C dX6_isAlike_51 ?_
      refine g_iload_n C dX6_isAlike_52 rfl ?_
      refine g_iadd C dX6_isAlike_53 ?_
      refine lM_next C (by omega) dX6_isAlike_54 ?_
      refine g_cVWi C [_] _ 0 cal_X6_190 (cM_kindOf (by omega) (by omega)) rfl rfl rfl rfl (Nat.le_of_ble_eq_true rfl) (room_b rfl) dX6_isAlike_55 (fun r55 w hw55 => ?_)
      obtain ⟨rfl, rfl⟩ := hw55
      refine g_icmp_eq C 63 dX6_isAlike_58 (by decide) (by omega) (fun h58 => ?_) (fun h58 => ?_)
      · refine g_iinc C dX6_isAlike_63 rfl (by decide) ?_
        refine g_goto C 19 dX6_isAlike_66 (by decide) ?_
        exact g_locR rfl (ih he (fun c c0 c1 => by by_cases e : c = b; (subst e; exact h58); exact hb c c0 (by omega)))
      · refine g_iconst C dX6_isAlike_61 ?_
        exact g_zret C false rfl rfl ⟨_, rfl, (nal (fun h => absurd (h.2 b b0 b1) h58)).symm, rfl⟩ dX6_isAlike_62
def hK (g mv : Int → Int) (s : Int) : Nat → Int
  | 0 => g s
  | n + 1 => 31 * hK g mv s n + g (mv (128 * s + n))
def slotK (g mv : Int → Int) (s : Int) : Int := iand (ixor (hK g mv s 128) (iushr (hK g mv s 128) 15)) 1023
theorem slotK_r (g mv : Int → Int) (s : Int) : 0 ≤ slotK g mv s ∧ slotK g mv s < 1024 := by
  have h := iand_low (ixor (hK g mv s 128) (iushr (hK g mv s 128) 15)) (m := 1023) (by decide)
  have e : slotK g mv s = iand (ixor (hK g mv s 128) (iushr (hK g mv s 128) 15)) ((1023 : Nat) : Int) := rfl
  omega
theorem hK_alk {g mv : Int → Int} {s t : Int} (h : Alk g mv s t) : ∀ n : Nat, n ≤ 128 → hK g mv s n = hK g mv t n
  | 0, _ => h.1
  | n + 1, hn => by rw [hK, hK, hK_alk h n (by omega), h.2 n (by omega) (by omega)]
theorem slotK_alk {g mv : Int → Int} {s t : Int} (h : Alk g mv s t) : slotK g mv s = slotK g mv t := by unfold slotK; rw [hK_alk h 128 (by omega)]
theorem cM_mixtureOf {Z : Zk} {wr : va_W} {a : Nat → Nat} {tape : Int → Int} {taped : Int} {place : Int} {thrown : Int} {r_op : Nat} {no : Nat} {op : Int → Int} {r_arg : Nat} {arg : Int → Int} {many : Int} {low : Int → Int64} {high : Int → Int64} {masks : Int} {cur : Int} {readLow : Int64} {readHigh : Int64} {group : Int → Int} {choice : Int → Int} {chain : Int → Int} {hasEmpty : Int → Bool} {sset : Int → Int64} {label : Int → Int} {next : Int → Int} {states : Int} {r_stamp : Nat} {ns : Nat} {stamp : Int → Int} {r_stack : Nat} {stack : Int → Int} {stamps : Int} {piled : Int} {reading : Int → Int} {readings : Int} {wher : Int → Int} {built : Int → Int64} {heads : Int → Int} {chained : Int → Int} {isE : Bool} {lives : Int → Bool} {kind : Int → Int} {newKind : Int → Int} {first : Int → Int} {kinds : Int} {leads : Int → Int} {sideStates : Int → Int} {ends : Int → Bool} {text : Int → Int} {textLong : Int} {queue : Int → Int} {frm : Int → Int} {by_ : Int → Int} {ways : Int → Int64} {before : Int → Int64} {s : Int} (hc2 : states ≤ 401) (hmv : MvOk states next) (s0 : 0 ≤ s) (s1 : s < states) (ls : lives s = true) : Ct Z yX6_mixtureOf hX6_mixtureOf 2 120 [.ref (a 0), vI s] (wM Z a tape taped place thrown r_op no op r_arg arg many low high masks cur readLow readHigh group choice chain hasEmpty sset label next states r_stamp ns stamp r_stack stack stamps piled reading readings wher built heads chained isE lives kind newKind first kinds leads sideStates ends text textLong queue frm by_ ways before ++ wr) 0 0 (Ri fun r w => r = slotK (kO lives kind) next s ∧ w = wM Z a tape taped place thrown r_op no op r_arg arg many low high masks cur readLow readHigh group choice chain hasEmpty sset label next states r_stamp ns stamp r_stack stack stamps piled reading readings wher built heads chained isE lives kind newKind first kinds leads sideStates ends text textLong queue frm by_ ways before ++ wr) := by
  refine Ct.of RX6 "mixtureOf" (by decide +kernel) rfl rfl hkX6_mixtureOf (Nat.le_of_ble_eq_true rfl) (fun X hZ C => ?_)
  subst hZ
  have lp := loopZ (fun b => G X 4 0 0 (wM X.Z a tape taped place thrown r_op no op r_arg arg many low high masks cur readLow readHigh group choice chain hasEmpty sset label next states r_stamp ns stamp r_stack stack stamps piled reading readings wher built heads chained isE lives kind newKind first kinds leads sideStates ends text textLong queue frm by_ ways before ++ wr) 9 [(0, .ref (a 0)), (1, vI s), (2, vI (hK (kO lives kind) next s b.toNat)), (3, vI b)] []) 0 128 (by omega) ?_ (fun b b0 b1 ih => ?_)
  · show G _ _ _ _ _ _ _ _
    rw [show hK (kO lives kind) next s (0 : Int).toNat = kind s from kO_live ls] at lp
    refine g_aload_n C dX6_mixtureOf_0 rfl ?_
    refine gM_kind C dX6_mixtureOf_1 ?_
    refine g_iload_n C dX6_mixtureOf_4 rfl ?_
    refine lM_kind C (by omega) dX6_mixtureOf_5 ?_
    refine g_istore_n C dX6_mixtureOf_6 (by decide) ?_
    refine g_iconst C dX6_mixtureOf_7 ?_
    refine g_istore_n C dX6_mixtureOf_8 (by decide) ?_
    exact g_locR rfl lp
  · show G _ _ _ _ _ _ _ _
    refine g_iload_n C dX6_mixtureOf_9 rfl ?_
    refine g_sipush C dX6_mixtureOf_10 (by decide) ?_
    refine g_icmp_ge C 44 dX6_mixtureOf_13 (by decide) (by omega) (fun h13 => ?_) (fun h13 => ?_)
    · refine g_iload_n C dX6_mixtureOf_44 rfl ?_
      refine g_iload_n C dX6_mixtureOf_45 rfl ?_
      refine g_bipush C dX6_mixtureOf_46 (by decide) ?_
      refine g_iushr C dX6_mixtureOf_48 ?_
      refine g_ixor C dX6_mixtureOf_49 ?_
      refine g_sipush C dX6_mixtureOf_50 (by decide) ?_
      refine g_iand C dX6_mixtureOf_53 ?_
      exact g_iret C rfl ⟨_, rfl, rfl, rfl⟩ dX6_mixtureOf_54
    · exact absurd h13 (by omega)
  · show G _ _ _ _ _ _ _ _
    have hm := hmv.at s0 s1 b0 b1
    rw [show (b + 1).toNat = b.toNat + 1 by omega, hK, Int.toNat_of_nonneg b0] at ih
    refine g_iload_n C dX6_mixtureOf_9 rfl ?_
    refine g_sipush C dX6_mixtureOf_10 (by decide) ?_
    refine g_icmp_ge C 44 dX6_mixtureOf_13 (by decide) (by omega) (fun h13 => ?_) (fun h13 => ?_)
    · exact absurd h13 (by omega)
    · refine g_bipush C dX6_mixtureOf_16 (by decide) ?_
      refine g_iload_n C dX6_mixtureOf_18 rfl ?_
      refine g_imul C dX6_mixtureOf_19 ?_
      refine g_aload_n C dX6_mixtureOf_20 rfl ?_
      refine g_aload_n C dX6_mixtureOf_21 rfl ?_
      refine gM_next C dX6_mixtureOf_22 ?_
      refine g_sipush C dX6_mixtureOf_25 (by decide) ?_
      refine g_iload_n C dX6_mixtureOf_28 rfl ?_
      refine g_imul C dX6_mixtureOf_29 ?_
      refine g_iload_n C dX6_mixtureOf_30 rfl ?_
      refine g_iadd C dX6_mixtureOf_31 ?_
      refine lM_next C (by omega) dX6_mixtureOf_32 ?_
      refine g_cVWi C [_] _ 0 cal_X6_190 (cM_kindOf (by omega) (by omega)) rfl rfl rfl rfl (Nat.le_of_ble_eq_true rfl) (room_b rfl) dX6_mixtureOf_33 (fun r33 w hw33 => ?_)
      obtain ⟨rfl, rfl⟩ := hw33
      refine g_iadd C dX6_mixtureOf_36 ?_
      refine g_istore_n C dX6_mixtureOf_37 (by decide) ?_
      refine g_iinc C dX6_mixtureOf_38 rfl (by decide) ?_
      refine g_goto C 9 dX6_mixtureOf_41 (by decide) ?_
      exact g_locR rfl ih
