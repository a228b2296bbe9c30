/-! Model: begin, isSet, mixture, stateOf -/
theorem cM_isSet {Z : Zk} {wr : va_W} {a : Nat → Nat} {tape : Int → Int} {taped : Int} {place : Int} {thrown : Int} {r_op : Nat} {no : Nat} {op : Int → Int} {r_arg : Nat} {arg : Int → Int} {many : Int} {low : Int → Int64} {high : Int → Int64} {masks : Int} {cur : Int} {readLow : Int64} {readHigh : Int64} {group : Int → Int} {choice : Int → Int} {chain : Int → Int} {hasEmpty : Int → Bool} {sset : Int → Int64} {label : Int → Int} {next : Int → Int} {states : Int} {r_stamp : Nat} {ns : Nat} {stamp : Int → Int} {r_stack : Nat} {stack : Int → Int} {stamps : Int} {piled : Int} {reading : Int → Int} {readings : Int} {wher : Int → Int} {built : Int → Int64} {heads : Int → Int} {chained : Int → Int} {isE : Bool} {lives : Int → Bool} {kind : Int → Int} {newKind : Int → Int} {first : Int → Int} {kinds : Int} {leads : Int → Int} {sideStates : Int → Int} {ends : Int → Bool} {text : Int → Int} {textLong : Int} {queue : Int → Int} {frm : Int → Int} {by_ : Int → Int} {ways : Int → Int64} {before : Int → Int64} {s : Int} (s0 : 0 ≤ s) (s1 : s < 401) : Ct Z yX6_isSet hX6_isSet 1 60 [.ref (a 0), vI s] (wM Z a tape taped place thrown r_op no op r_arg arg many low high masks cur readLow readHigh group choice chain hasEmpty sset label next states r_stamp ns stamp r_stack stack stamps piled reading readings wher built heads chained isE lives kind newKind first kinds leads sideStates ends text textLong queue frm by_ ways before ++ wr) 0 0 (Rz fun r w => (r = true ↔ ∀ m, 0 ≤ m → m < 7 → sset (7 * s + m) = built (0 + m)) ∧ w = wM Z a tape taped place thrown r_op no op r_arg arg many low high masks cur readLow readHigh group choice chain hasEmpty sset label next states r_stamp ns stamp r_stack stack stamps piled reading readings wher built heads chained isE lives kind newKind first kinds leads sideStates ends text textLong queue frm by_ ways before ++ wr) := by
  refine Ct.of RX6 "isSet" (by decide +kernel) rfl rfl hkX6_isSet (Nat.le_of_ble_eq_true rfl) (fun X hZ C => ?_)
  subst hZ
  have lp := loopZ (fun k => (∀ m, 0 ≤ m → m < k → sset (7 * s + m) = built (0 + m)) → G X 3 0 0 (wM X.Z a tape taped place thrown r_op no op r_arg arg many low high masks cur readLow readHigh group choice chain hasEmpty sset label next states r_stamp ns stamp r_stack stack stamps piled reading readings wher built heads chained isE lives kind newKind first kinds leads sideStates ends text textLong queue frm by_ ways before ++ wr) 2 [(0, .ref (a 0)), (1, vI s), (2, vI k)] []) 0 7 (by omega) (fun he => ?_) (fun k k0 k1 ih he => ?_)
  · show G _ _ _ _ _ _ _ _
    refine g_iconst C dX6_isSet_0 ?_
    refine g_istore_n C dX6_isSet_1 (by decide) ?_
    exact g_locR rfl (lp (fun m m0 m1 => by omega))
  · show G _ _ _ _ _ _ _ _
    refine g_iload_n C dX6_isSet_2 rfl ?_
    refine g_bipush C dX6_isSet_3 (by decide) ?_
    refine g_icmp_ge C 37 dX6_isSet_5 (by decide) (by omega) (fun h5 => ?_) (fun h5 => ?_)
    · refine g_iconst C dX6_isSet_37 ?_
      exact g_zret C true rfl rfl ⟨_, rfl, ⟨fun _ => he, fun _ => rfl⟩, rfl⟩ dX6_isSet_38
    · exact absurd h5 (by omega)
  · show G _ _ _ _ _ _ _ _
    refine g_iload_n C dX6_isSet_2 rfl ?_
    refine g_bipush C dX6_isSet_3 (by decide) ?_
    refine g_icmp_ge C 37 dX6_isSet_5 (by decide) (by omega) (fun h5 => ?_) (fun h5 => ?_)
    · exact absurd h5 (by omega)
    · refine g_aload_n C dX6_isSet_8 rfl ?_
      refine gM_set C dX6_isSet_9 ?_
      refine g_bipush C dX6_isSet_12 (by decide) ?_
      refine g_iload_n C dX6_isSet_14 rfl ?_
      refine g_imul C dX6_isSet_15 ?_
      refine g_iload_n C dX6_isSet_16 rfl ?_
      refine g_iadd C dX6_isSet_17 ?_
      refine lM_set C (by omega) dX6_isSet_18 ?_
      refine g_aload_n C dX6_isSet_19 rfl ?_
      refine gM_built C dX6_isSet_20 ?_
      refine g_iload_n C dX6_isSet_23 rfl ?_
      refine lM_built C (by omega) dX6_isSet_24 ?_
      refine g_lcmp C dX6_isSet_25 ?_
      refine g_if_eq C 31 dX6_isSet_26 (by decide) (lcmp_r _ _) (fun h26 => ?_) (fun h26 => ?_)
      · have hy : sset (7 * s + k) = built k := (lcmp_0 _ _).mp h26
        refine g_iinc C dX6_isSet_31 rfl (by decide) ?_
        refine g_goto C 2 dX6_isSet_34 (by decide) ?_
        exact g_locR rfl (ih (fun m m0 m1 => by by_cases e : m = k; (rw [e, Int.zero_add]; exact hy); exact he m m0 (by omega)))
      · have hn : sset (7 * s + k) ≠ built k := fun e => h26 ((lcmp_0 _ _).mpr e)
        refine g_iconst C dX6_isSet_29 ?_
        exact g_zret C false rfl rfl ⟨_, rfl, ⟨fun h => (by cases h), fun h => absurd ((h k k0 k1).trans (by rw [Int.zero_add])) hn⟩, rfl⟩ dX6_isSet_30
def hM (f : Int → Int64) (i : Int) : Nat → Int64
  | 0 => 17
  | n + 1 => 31 * hM f i n + (f (i + n) ^^^ lushr (f (i + n)) 29)
def slotM (f : Int → Int64) (i : Int) : Int := iand (l2i (hM f i 7 ^^^ lushr (hM f i 7) 17)) 1023
theorem hM_congr {f g : Int → Int64} {i j : Int} : ∀ n : Nat, (∀ m, 0 ≤ m → m < (n : Int) → f (i + m) = g (j + m)) → hM f i n = hM g j n
  | 0, _ => rfl
  | n + 1, h => by rw [hM, hM, hM_congr n (fun m m0 m1 => h m m0 (by omega)), h n (by omega) (by omega)]
theorem slotM_congr {f g : Int → Int64} {i j : Int} (h : ∀ m, 0 ≤ m → m < 7 → f (i + m) = g (j + m)) : slotM f i = slotM g j := by
  unfold slotM
  rw [hM_congr 7 h]
theorem slotM_r (f : Int → Int64) (i : Int) : 0 ≤ slotM f i ∧ slotM f i < 1024 := by
  have h := iand_low (l2i (hM f i 7 ^^^ lushr (hM f i 7) 17)) (m := 1023) (by decide)
  have e : slotM f i = iand (l2i (hM f i 7 ^^^ lushr (hM f i 7) 17)) ((1023 : Nat) : Int) := rfl
  omega
theorem cM_mixture {Z : Zk} {wr : va_W} {a : Nat → Nat} {tape : Int → Int} {taped : Int} {place : Int} {thrown : Int} {r_op : Nat} {no : Nat} {op : Int → Int} {r_arg : Nat} {arg : Int → Int} {many : Int} {low : Int → Int64} {high : Int → Int64} {masks : Int} {cur : Int} {readLow : Int64} {readHigh : Int64} {group : Int → Int} {choice : Int → Int} {chain : Int → Int} {hasEmpty : Int → Bool} {sset : Int → Int64} {label : Int → Int} {next : Int → Int} {states : Int} {r_stamp : Nat} {ns : Nat} {stamp : Int → Int} {r_stack : Nat} {stack : Int → Int} {stamps : Int} {piled : Int} {reading : Int → Int} {readings : Int} {wher : Int → Int} {built : Int → Int64} {heads : Int → Int} {chained : Int → Int} {isE : Bool} {lives : Int → Bool} {kind : Int → Int} {newKind : Int → Int} {first : Int → Int} {kinds : Int} {leads : Int → Int} {sideStates : Int → Int} {ends : Int → Bool} {text : Int → Int} {textLong : Int} {queue : Int → Int} {frm : Int → Int} {by_ : Int → Int} {ways : Int → Int64} {before : Int → Int64} : Ct Z yX6_mixture hX6_mixture 1 60 [.ref (a 0)] (wM Z a tape taped place thrown r_op no op r_arg arg many low high masks cur readLow readHigh group choice chain hasEmpty sset label next states r_stamp ns stamp r_stack stack stamps piled reading readings wher built heads chained isE lives kind newKind first kinds leads sideStates ends text textLong queue frm by_ ways before ++ wr) 0 0 (Ri fun r w => r = slotM built 0 ∧ w = wM Z a tape taped place thrown r_op no op r_arg arg many low high masks cur readLow readHigh group choice chain hasEmpty sset label next states r_stamp ns stamp r_stack stack stamps piled reading readings wher built heads chained isE lives kind newKind first kinds leads sideStates ends text textLong queue frm by_ ways before ++ wr) := by
  refine Ct.of RX6 "mixture" (by decide +kernel) rfl rfl hkX6_mixture (Nat.le_of_ble_eq_true rfl) (fun X hZ C => ?_)
  subst hZ
  have lp := loopZ (fun k => G X 4 0 0 (wM X.Z a tape taped place thrown r_op no op r_arg arg many low high masks cur readLow readHigh group choice chain hasEmpty sset label next states r_stamp ns stamp r_stack stack stamps piled reading readings wher built heads chained isE lives kind newKind first kinds leads sideStates ends text textLong queue frm by_ ways before ++ wr) 6 [(0, .ref (a 0)), (1, .long (hM built 0 k.toNat)), (3, vI k)] []) 0 7 (by omega) ?_ (fun k k0 k1 ih => ?_)
  · show G _ _ _ _ _ _ _ _
    refine g_ldc2 C q900 dX6_mixture_0 ?_
    refine g_lstore_n C dX6_mixture_3 (by decide) ?_
    refine g_iconst C dX6_mixture_4 ?_
    refine g_istore_n C dX6_mixture_5 (by decide) ?_
    exact g_locR rfl lp
  · show G _ _ _ _ _ _ _ _
    refine g_iload_n C dX6_mixture_6 rfl ?_
    refine g_bipush C dX6_mixture_7 (by decide) ?_
    refine g_icmp_ge C 41 dX6_mixture_9 (by decide) (by omega) (fun h9 => ?_) (fun h9 => ?_)
    · refine g_lload_n C dX6_mixture_41 rfl ?_
      refine g_lload_n C dX6_mixture_42 rfl ?_
      refine g_bipush C dX6_mixture_43 (by decide) ?_
      refine g_lushr C dX6_mixture_45 ?_
      refine g_lxor C dX6_mixture_46 ?_
      refine g_l2i C dX6_mixture_47 ?_
      refine g_sipush C dX6_mixture_48 (by decide) ?_
      refine g_iand C dX6_mixture_51 ?_
      exact g_iret C rfl ⟨_, rfl, rfl, rfl⟩ dX6_mixture_52
    · exact absurd h9 (by omega)
  · show G _ _ _ _ _ _ _ _
    rw [show (k + 1).toNat = k.toNat + 1 by omega, hM, Int.toNat_of_nonneg k0, Int.zero_add] at ih
    refine g_iload_n C dX6_mixture_6 rfl ?_
    refine g_bipush C dX6_mixture_7 (by decide) ?_
    refine g_icmp_ge C 41 dX6_mixture_9 (by decide) (by omega) (fun h9 => ?_) (fun h9 => ?_)
    · exact absurd h9 (by omega)
    · refine g_ldc2 C q901 dX6_mixture_12 ?_
      refine g_lload_n C dX6_mixture_15 rfl ?_
      refine g_lmul C dX6_mixture_16 ?_
      refine g_aload_n C dX6_mixture_17 rfl ?_
      refine gM_built C dX6_mixture_18 ?_
      refine g_iload_n C dX6_mixture_21 rfl ?_
      refine lM_built C (by omega) dX6_mixture_22 ?_
      refine g_aload_n C dX6_mixture_23 rfl ?_
      refine gM_built C dX6_mixture_24 ?_
      refine g_iload_n C dX6_mixture_27 rfl ?_
      refine lM_built C (by omega) dX6_mixture_28 ?_
      refine g_bipush C dX6_mixture_29 (by decide) ?_
      refine g_lushr C dX6_mixture_31 ?_
      refine g_lxor C dX6_mixture_32 ?_
      refine g_ladd C dX6_mixture_33 ?_
      refine g_lstore_n C dX6_mixture_34 (by decide) ?_
      refine g_iinc C dX6_mixture_35 rfl (by decide) ?_
      refine g_goto C 6 dX6_mixture_38 (by decide) ?_
      exact g_locR rfl ih
/-- the sets that were found -/
def MsS (cnt : Int) (S : Int → Int → Bool) (N : Int) (sset : Int → Int64) (heads chained : Int → Int) : Prop :=
  (1 ≤ cnt ∧ cnt ≤ 401) ∧ (∀ s, 1 ≤ s → s < cnt → ∀ p, 0 ≤ p → p < 448 → hasB sset (7 * s) p = S s p) ∧ (∀ s, 1 ≤ s → s < cnt → ∀ p, 0 ≤ p → p < 448 → S s p = true → p < N) ∧ Dis (cnt, S, fun _ => 0) ∧ ChOk heads chained 1024 cnt (fun t => 1 ≤ t) (fun t => slotM sset (7 * t))
theorem MsS.add {cnt N : Int} {S : Int → Int → Bool} {sset sset1 built : Int → Int64} {heads chained : Int → Int} {R : Int → Bool} (h : MsS cnt S N sset heads chained) (hc : cnt ≤ 400) (h1 : ∀ m, m < 7 * cnt → sset1 m = sset m) (h2 : ∀ m, 0 ≤ m → m < 7 → sset1 (7 * cnt + m) = built (0 + m)) (hR : ∀ p, 0 ≤ p → p < 448 → hasB built 0 p = R p) (hRN : ∀ p, 0 ≤ p → p < 448 → R p = true → p < N) (hno : ∀ m, ¬ Mat (cnt, S, fun _ => 0) R m) :
    MsS (cnt + 1) (up S cnt R) N sset1 (up heads (slotM built 0) cnt) (up chained cnt (heads (slotM built 0))) := by
  obtain ⟨⟨g1, g2⟩, g3, g4, g5, g6⟩ := h
  have e1 : slotM sset1 (7 * cnt) = slotM built 0 := slotM_congr h2
  refine ⟨⟨by omega, by omega⟩, fun s s0 s1 p p0 p1 => ?_, fun s s0 s1 p p0 p1 => ?_, g5.new hno, ?_⟩
  · by_cases e : s = cnt
    · subst e; rw [up_same, ← hR p p0 p1]; exact hasB_eq h2 p0 p1
    · rw [up_ne _ _ e, ← g3 s s0 (by omega) p p0 p1]
      exact hasB_eq (fun m m0 m1 => h1 _ (by omega)) p0 p1
  · by_cases e : s = cnt
    · subst e; rw [up_same]; exact hRN p p0 p1
    · rw [up_ne _ _ e]; exact g4 s s0 (by omega) p p0 p1
  · exact g6.add (by omega) e1 g1 (fun _ _ _ => Iff.rfl) (fun t t0 t1 _ => slotM_congr (fun m m0 m1 => h1 _ (by omega)))
theorem cM_stateOf {Z : Zk} {wr : va_W} {a : Nat → Nat} {tape : Int → Int} {taped : Int} {place : Int} {thrown : Int} {r_op : Nat} {no : Nat} {op : Int → Int} {r_arg : Nat} {arg : Int → Int} {many : Int} {low : Int → Int64} {high : Int → Int64} {masks : Int} {cur : Int} {readLow : Int64} {readHigh : Int64} {group : Int → Int} {choice : Int → Int} {chain : Int → Int} {hasEmpty : Int → Bool} {sset : Int → Int64} {label : Int → Int} {next : Int → Int} {states : Int} {r_stamp : Nat} {ns : Nat} {stamp : Int → Int} {r_stack : Nat} {stack : Int → Int} {stamps : Int} {piled : Int} {reading : Int → Int} {readings : Int} {wher : Int → Int} {built : Int → Int64} {heads : Int → Int} {chained : Int → Int} {isE : Bool} {lives : Int → Bool} {kind : Int → Int} {newKind : Int → Int} {first : Int → Int} {kinds : Int} {leads : Int → Int} {sideStates : Int → Int} {ends : Int → Bool} {text : Int → Int} {textLong : Int} {queue : Int → Int} {frm : Int → Int} {by_ : Int → Int} {ways : Int → Int64} {before : Int → Int64} {S : Int → Int → Bool} {R : Int → Bool} {N : Int} (hA1 : MsS states S N sset heads chained) (hR : ∀ p, 0 ≤ p → p < 448 → hasB built 0 p = R p) (hRN : ∀ p, 0 ≤ p → p < 448 → R p = true → p < N) :
    Ct Z yX6_stateOf hX6_stateOf 2 100 [.ref (a 0)] (wM Z a tape taped place thrown r_op no op r_arg arg many low high masks cur readLow readHigh group choice chain hasEmpty sset label next states r_stamp ns stamp r_stack stack stamps piled reading readings wher built heads chained isE lives kind newKind first kinds leads sideStates ends text textLong queue frm by_ ways before ++ wr) 0 0 (Ri fun r w => (Mat (states, S, fun _ => 0) R r ∧ w = wM Z a tape taped place thrown r_op no op r_arg arg many low high masks cur readLow readHigh group choice chain hasEmpty sset label next states r_stamp ns stamp r_stack stack stamps piled reading readings wher built heads chained isE lives kind newKind first kinds leads sideStates ends text textLong queue frm by_ ways before ++ wr) ∨ ((∀ m, ¬ Mat (states, S, fun _ => 0) R m) ∧ 400 < states ∧ r = -1 ∧ w = wM Z a tape taped place thrown r_op no op r_arg arg many low high masks cur readLow readHigh group choice chain hasEmpty sset label next states r_stamp ns stamp r_stack stack stamps piled reading readings wher built heads chained isE lives kind newKind first kinds leads sideStates ends text textLong queue frm by_ ways before ++ wr) ∨ ((∀ m, ¬ Mat (states, S, fun _ => 0) R m) ∧ states ≤ 400 ∧ r = states ∧ ∃ sset1 heads1 chained1, MsS (states + 1) (up S states R) N sset1 heads1 chained1 ∧ w = wM Z a tape taped place thrown r_op no op r_arg arg many low high masks cur readLow readHigh group choice chain hasEmpty sset1 label next (states + 1) r_stamp ns stamp r_stack stack stamps piled reading readings wher built heads1 chained1 isE lives kind newKind first kinds leads sideStates ends text textLong queue frm by_ ways before ++ wr)) := by
  refine Ct.of RX6 "stateOf" (by decide +kernel) rfl rfl hkX6_stateOf (Nat.le_of_ble_eq_true rfl) (fun X hZ C => ?_)
  subst hZ
  have hA2 := hA1
  obtain ⟨⟨hc1, hc2⟩, hS, hSN, hDis, ⟨B, hB⟩⟩ := hA1
  have hsr := slotM_r built 0
  obtain ⟨hb1, hb2, hb3⟩ := hB _ hsr.1 hsr.2
  have eqv : ∀ x, 1 ≤ x → x < states → (Mat (states, S, fun _ => 0) R x ↔ ∀ m, 0 ≤ m → m < 7 → sset (7 * x + m) = built (0 + m)) := by
    intro x x0 x1
    constructor
    · intro hm
      exact row_ext (fun p p0 p1 => by rw [hS x x0 x1 p p0 p1, hR p p0 p1]; exact hm.2.2 p p0 p1)
    · intro hm
      refine ⟨x0, x1, fun p p0 p1 => ?_⟩
      show S x p = R p
      rw [← hS x x0 x1 p p0 p1, ← hR p p0 p1]
      exact hasB_eq hm p0 p1
  have new : (∀ m, ¬ Mat (states, S, fun _ => 0) R m) → states ≤ 400 → ∀ (f : Nat) (k : Int) (ss : Int → Int64), k + (f : Int) = 7 → 0 ≤ k → (∀ m, m < 7 * states → ss m = sset m) → (∀ m, 0 ≤ m → m < k → ss (7 * states + m) = built (0 + m)) → G X 3 0 0 (wM X.Z a tape taped place thrown r_op no op r_arg arg many low high masks cur readLow readHigh group choice chain hasEmpty ss label next states r_stamp ns stamp r_stack stack stamps piled reading readings wher built heads chained isE lives kind newKind first kinds leads sideStates ends text textLong queue frm by_ ways before ++ wr) 51 [(0, .ref (a 0)), (1, vI (slotM built 0)), (2, vI k)] [] := by
    intro hno hcn f
    induction f with
    | zero =>
      intro k ss hk k0 h1 h2
      have ek : k = 7 := by omega
      subst ek
      refine g_iload_n C dX6_stateOf_51 rfl ?_
      refine g_bipush C dX6_stateOf_52 (by decide) ?_
      refine g_icmp_ge C 83 dX6_stateOf_54 (by decide) (by omega) (fun h54 => ?_) (fun h54 => ?_)
      · refine g_aload_n C dX6_stateOf_83 rfl ?_
        refine gM_chained C dX6_stateOf_84 ?_
        refine g_aload_n C dX6_stateOf_87 rfl ?_
        refine gM_states C dX6_stateOf_88 ?_
        refine g_aload_n C dX6_stateOf_91 rfl ?_
        refine gM_heads C dX6_stateOf_92 ?_
        refine g_iload_n C dX6_stateOf_95 rfl ?_
        refine lM_heads C (by omega) dX6_stateOf_96 ?_
        refine sM_chained C (by omega) dX6_stateOf_97 ?_
        refine g_aload_n C dX6_stateOf_98 rfl ?_
        refine gM_heads C dX6_stateOf_99 ?_
        refine g_iload_n C dX6_stateOf_102 rfl ?_
        refine g_aload_n C dX6_stateOf_103 rfl ?_
        refine gM_states C dX6_stateOf_104 ?_
        refine sM_heads C (by omega) dX6_stateOf_107 ?_
        refine g_aload_n C dX6_stateOf_108 rfl ?_
        refine g_dup C dX6_stateOf_109 rfl ?_
        refine gM_states C dX6_stateOf_110 ?_
        refine g_iconst C dX6_stateOf_113 ?_
        refine g_iadd C dX6_stateOf_114 ?_
        refine pM_states C dX6_stateOf_115 ?_
        refine g_aload_n C dX6_stateOf_118 rfl ?_
        refine gM_states C dX6_stateOf_119 ?_
        refine g_iconst C dX6_stateOf_122 ?_
        refine g_isub C dX6_stateOf_123 ?_
        exact g_iret C rfl ⟨_, rfl, Or.inr (Or.inr ⟨hno, hcn, by omega, _, _, _, hA2.add hcn h1 h2 hR hRN hno, rfl⟩)⟩ dX6_stateOf_124
      · exact absurd h54 (by omega)
    | succ f ih =>
      intro k ss hk k0 h1 h2
      refine g_iload_n C dX6_stateOf_51 rfl ?_
      refine g_bipush C dX6_stateOf_52 (by decide) ?_
      refine g_icmp_ge C 83 dX6_stateOf_54 (by decide) (by omega) (fun h54 => ?_) (fun h54 => ?_)
      · exact absurd h54 (by omega)
      · refine g_aload_n C dX6_stateOf_57 rfl ?_
        refine gM_set C dX6_stateOf_58 ?_
        refine g_bipush C dX6_stateOf_61 (by decide) ?_
        refine g_aload_n C dX6_stateOf_63 rfl ?_
        refine gM_states C dX6_stateOf_64 ?_
        refine g_imul C dX6_stateOf_67 ?_
        refine g_iload_n C dX6_stateOf_68 rfl ?_
        refine g_iadd C dX6_stateOf_69 ?_
        refine g_aload_n C dX6_stateOf_70 rfl ?_
        refine gM_built C dX6_stateOf_71 ?_
        refine g_iload_n C dX6_stateOf_74 rfl ?_
        refine lM_built C (by omega) dX6_stateOf_75 ?_
        refine sM_set C (by omega) dX6_stateOf_76 ?_
        refine g_iinc C dX6_stateOf_77 rfl (by decide) ?_
        refine g_goto C 51 dX6_stateOf_80 (by decide) ?_
        exact g_locR rfl (ih (k + 1) _ (by omega) (by omega) (fun m hm => by rw [up_ne _ _ (by omega)]; exact h1 m hm) (fun m m0 m1 => by by_cases e : m = k; (rw [e, up_same, Int.zero_add]); (rw [up_ne _ _ (by omega)]; exact h2 m m0 (by omega))))
  have srch : ∀ (l : List Int) (h : Int), Lst chained h l → (∀ t, t ∈ l → 0 ≤ t ∧ t < states ∧ 1 ≤ t) → (∀ t, Mat (states, S, fun _ => 0) R t → t ∈ l) → G X 3 0 0 (wM X.Z a tape taped place thrown r_op no op r_arg arg many low high masks cur readLow readHigh group choice chain hasEmpty sset label next states r_stamp ns stamp r_stack stack stamps piled reading readings wher built heads chained isE lives kind newKind first kinds leads sideStates ends text textLong queue frm by_ ways before ++ wr) 12 [(0, .ref (a 0)), (1, vI (slotM built 0)), (2, vI h)] [] := by
    intro l
    induction l with
    | nil =>
      intro h hl ht hm
      have hl : h = -1 := hl
      subst hl
      have hno : ∀ m, ¬ Mat (states, S, fun _ => 0) R m := fun m hmm => absurd (hm m hmm) List.not_mem_nil
      refine g_iload_n C dX6_stateOf_12 rfl ?_
      refine g_iconst C dX6_stateOf_13 ?_
      refine g_icmp_eq C 37 dX6_stateOf_14 (by decide) (by omega) (fun h14 => ?_) (fun h14 => ?_)
      · refine g_aload_n C dX6_stateOf_37 rfl ?_
        refine gM_states C dX6_stateOf_38 ?_
        refine g_sipush C dX6_stateOf_41 (by decide) ?_
        refine g_icmp_le C 49 dX6_stateOf_44 (by decide) (by omega) (fun h44 => ?_) (fun h44 => ?_)
        · refine g_iconst C dX6_stateOf_49 ?_
          refine g_istore_n C dX6_stateOf_50 (by decide) ?_
          exact g_locR rfl (new hno (by omega) 7 0 sset (by decide) (by decide) (fun _ _ => rfl) (fun m m0 m1 => by omega))
        · refine g_iconst C dX6_stateOf_47 ?_
          exact g_iret C rfl ⟨_, rfl, Or.inr (Or.inl ⟨hno, by omega, rfl, rfl⟩)⟩ dX6_stateOf_48
      · exact absurd rfl h14
    | cons x l ihl =>
      intro h hl ht hm
      obtain ⟨rfl, hx0, hl2⟩ := hl
      have hxt := ht h (List.mem_cons_self ..)
      refine g_iload_n C dX6_stateOf_12 rfl ?_
      refine g_iconst C dX6_stateOf_13 ?_
      refine g_icmp_eq C 37 dX6_stateOf_14 (by decide) (by omega) (fun h14 => ?_) (fun h14 => ?_)
      · exact absurd h14 (by omega)
      · refine g_aload_n C dX6_stateOf_17 rfl ?_
        refine g_iload_n C dX6_stateOf_18 rfl ?_
        refine g_cVWz C [_] _ 0 cal_X6_153 (cM_isSet (by omega) (by omega)) rfl rfl rfl rfl (Nat.le_of_ble_eq_true rfl) (room_b rfl) dX6_stateOf_19 (fun r19 w hw19 => ?_)
        obtain ⟨hq, rfl⟩ := hw19
        refine g_if_eq C 27 dX6_stateOf_22 (by decide) (b2_r _) (fun h22 => ?_) (fun h22 => ?_)
        · have hn : ¬ Mat (states, S, fun _ => 0) R h := fun hmm => by have := hq.mpr ((eqv h hxt.2.2 hxt.2.1).mp hmm); rw [(b2_0 _).mp h22] at this; cases this
          refine g_aload_n C dX6_stateOf_27 rfl ?_
          refine gM_chained C dX6_stateOf_28 ?_
          refine g_iload_n C dX6_stateOf_31 rfl ?_
          refine lM_chained C (by omega) dX6_stateOf_32 ?_
          refine g_istore_n C dX6_stateOf_33 (by decide) ?_
          refine g_goto C 12 dX6_stateOf_34 (by decide) ?_
          exact g_locR rfl (ihl _ hl2 (fun t ht2 => ht t (List.mem_cons_of_mem _ ht2)) (fun t htm => by rcases List.mem_cons.mp (hm t htm) with e | e; exact absurd (e ▸ htm) hn; exact e))
        · have hy := hq.mp ((b2_ne0 _).mp h22)
          refine g_iload_n C dX6_stateOf_25 rfl ?_
          exact g_iret C rfl ⟨_, rfl, Or.inl ⟨(eqv h hxt.2.2 hxt.2.1).mpr hy, rfl⟩⟩ dX6_stateOf_26
  refine g_aload_n C dX6_stateOf_0 rfl ?_
  refine g_cVWi C [] _ 0 cal_X6_146 cM_mixture rfl rfl rfl rfl (Nat.le_of_ble_eq_true rfl) (room_b rfl) dX6_stateOf_1 (fun r1 w hw1 => ?_)
  obtain ⟨rfl, rfl⟩ := hw1
  refine g_istore_n C dX6_stateOf_4 (by decide) ?_
  refine g_aload_n C dX6_stateOf_5 rfl ?_
  refine gM_heads C dX6_stateOf_6 ?_
  refine g_iload_n C dX6_stateOf_9 rfl ?_
  refine lM_heads C (by omega) dX6_stateOf_10 ?_
  refine g_istore_n C dX6_stateOf_11 (by decide) ?_
  exact g_locR rfl (srch _ _ hb1 hb2 (fun t htm => hb3 t (by have := htm.1; omega) htm.2.1 htm.1 (slotM_congr ((eqv t htm.1 htm.2.1).mp htm))))
def bC (many : Int) (ns : Nat) : Nat := if (ns : Int) < many + 1 then 2 else 0
def bS (many : Int) (ns : Nat) : Nat := if (ns : Int) < many + 1 then 4 * many.toNat else 0
theorem pm_beg {α : Type} (o f x y b w n1 n2 : List α) : (((o ++ (f ++ (n1 ++ (n2 ++ b)))) ++ w) ++ (x ++ y)).Perm ((((o ++ (f ++ (x ++ (y ++ b)))) ++ w) ++ n1) ++ n2) :=
  pm_of (fun z => by simp only [List.count_append]; omega)
theorem cM_begin {Z : Zk} {wr : va_W} {a : Nat → Nat} {tape : Int → Int} {taped : Int} {place : Int} {thrown : Int} {r_op : Nat} {no : Nat} {op : Int → Int} {r_arg : Nat} {arg : Int → Int} {many : Int} {low : Int → Int64} {high : Int → Int64} {masks : Int} {cur : Int} {readLow : Int64} {readHigh : Int64} {group : Int → Int} {choice : Int → Int} {chain : Int → Int} {hasEmpty : Int → Bool} {sset : Int → Int64} {label : Int → Int} {next : Int → Int} {states : Int} {r_stamp : Nat} {ns : Nat} {stamp : Int → Int} {r_stack : Nat} {stack : Int → Int} {stamps : Int} {piled : Int} {reading : Int → Int} {readings : Int} {wher : Int → Int} {built : Int → Int64} {heads : Int → Int} {chained : Int → Int} {isE : Bool} {lives : Int → Bool} {kind : Int → Int} {newKind : Int → Int} {first : Int → Int} {kinds : Int} {leads : Int → Int} {sideStates : Int → Int} {ends : Int → Bool} {text : Int → Int} {textLong : Int} {queue : Int → Int} {frm : Int → Int} {by_ : Int → Int} {ways : Int → Int64} {before : Int → Int64} (m0 : 1 ≤ many) (m1 : many ≤ 4097) (n1 : ns ≤ 8194) (hs0 : 0 ≤ stamps) (hs1 : stamps < 2000000000) (hst : StOk stamp stamps) : Ct Z yX6_begin hX6_begin 1 60 [.ref (a 0)] (wM Z a tape taped place thrown r_op no op r_arg arg many low high masks cur readLow readHigh group choice chain hasEmpty sset label next states r_stamp ns stamp r_stack stack stamps piled reading readings wher built heads chained isE lives kind newKind first kinds leads sideStates ends text textLong queue frm by_ ways before ++ wr) (bC many ns) (bS many ns) (Rv fun w => ∃ r1 r2 ns1 stamp1 stack1 st1, (many + 1 ≤ ((ns1 : Nat) : Int) ∧ ns1 ≤ 8194 ∧ ns ≤ ns1) ∧ (∀ i, 0 ≤ stamp1 i ∧ stamp1 i < st1) ∧ (1 ≤ st1 ∧ st1 ≤ stamps + 1) ∧ w = wM Z a tape taped place thrown r_op no op r_arg arg many low high masks cur readLow readHigh group choice chain hasEmpty sset label next states r1 ns1 stamp1 r2 stack1 st1 0 reading readings wher built heads chained isE lives kind newKind first kinds leads sideStates ends text textLong queue frm by_ ways before ++ wr) := by
  refine Ct.of RX6 "begin" (by decide +kernel) rfl rfl hkX6_begin (Nat.le_of_ble_eq_true rfl) (fun X hZ C => ?_)
  subst hZ
  have fin : ∀ (r1 r2 ns1 : Nat) (stamp1 stack1 : Int → Int) (st1 : Int) (k m : Nat), k ≤ bC many ns → m ≤ bS many ns → (many + 1 ≤ ((ns1 : Nat) : Int) ∧ ns1 ≤ 8194 ∧ ns ≤ ns1) → (∀ i, 0 ≤ stamp1 i ∧ stamp1 i < st1 + 1) → (0 ≤ st1 ∧ st1 ≤ stamps) → G X 1 k m (wM X.Z a tape taped place thrown r_op no op r_arg arg many low high masks cur readLow readHigh group choice chain hasEmpty sset label next states r1 ns1 stamp1 r2 stack1 st1 piled reading readings wher built heads chained isE lives kind newKind first kinds leads sideStates ends text textLong queue frm by_ ways before ++ wr) 43 [(0, .ref (a 0))] [] := by
    intro r1 r2 ns1 stamp1 stack1 st1 k m hk hm h1 h2 h3
    refine g_widen hk hm ?_
    refine g_aload_n C dX6_begin_43 rfl ?_
    refine g_dup C dX6_begin_44 rfl ?_
    refine gM_stamps C dX6_begin_45 ?_
    refine g_iconst C dX6_begin_48 ?_
    refine g_iadd C dX6_begin_49 ?_
    refine pM_stamps C dX6_begin_50 ?_
    refine g_aload_n C dX6_begin_53 rfl ?_
    refine g_iconst C dX6_begin_54 ?_
    refine pM_piled C dX6_begin_55 ?_
    exact g_vret C rfl ⟨rfl, r1, r2, ns1, stamp1, stack1, _, h1, h2, by omega, rfl⟩ dX6_begin_58
  refine g_aload_n C dX6_begin_0 rfl ?_
  refine gM_stamp C dX6_begin_1 ?_
  refine nM_stamp C dX6_begin_4 ?_
  refine g_aload_n C dX6_begin_5 rfl ?_
  refine gM_many C dX6_begin_6 ?_
  refine g_iconst C dX6_begin_9 ?_
  refine g_iadd C dX6_begin_10 ?_
  refine g_icmp_ge C 43 dX6_begin_11 (by decide) (by omega) (fun h11 => ?_) (fun h11 => ?_)
  · exact g_locR rfl (fin _ _ ns _ _ _ 0 0 (by omega) (by omega) ⟨by omega, n1, Nat.le_refl _⟩ (fun i => by have := hst i; omega) (by omega))
  · have e1 : bC many ns = 2 := if_pos (by omega)
    have e2 : bS many ns = 4 * many.toNat := if_pos (by omega)
    refine g_aload_n C dX6_begin_14 rfl ?_
    refine g_iconst C dX6_begin_15 ?_
    refine g_aload_n C dX6_begin_16 rfl ?_
    refine gM_many C dX6_begin_17 ?_
    refine g_imul C dX6_begin_20 ?_
    refine g_newI C (2 * many.toNat) (by omega) (by omega) q234 ⟨by show 0 + 1 ≤ bC many ns; omega, by show 0 + 2 * many.toNat ≤ bS many ns; omega⟩ dX6_begin_21 (fun r1 => ?_)
    refine g_put C 0 21 tyX6 in_X6 tyX6_ok nmX6 rfl rfl rfl (by decide) q947 rfl rfl rfl rfl rfl (Nat.le_of_ble_eq_true rfl) dX6_begin_23 ?_
    refine g_aload_n C dX6_begin_26 rfl ?_
    refine g_iconst C dX6_begin_27 ?_
    refine g_aload_n C dX6_begin_28 rfl ?_
    refine g_get C 0 6 in_X6 rfl rfl (by decide) q932 rfl rfl dX6_begin_29 ?_
    refine g_imul C dX6_begin_32 ?_
    refine g_newI C (2 * many.toNat) (by omega) (by omega) q234 ⟨by show 0 + 1 + 1 ≤ bC many ns; omega, by show 0 + 2 * many.toNat + 2 * many.toNat ≤ bS many ns; omega⟩ dX6_begin_33 (fun r2 => ?_)
    refine g_put C 0 22 tyX6 in_X6 tyX6_ok nmX6 rfl rfl rfl (by decide) q948 rfl rfl rfl rfl rfl (Nat.le_of_ble_eq_true rfl) dX6_begin_35 ?_
    refine g_drop ([(r_stamp, eI X.Z ns stamp)] ++ [(r_stack, eI X.Z ns stack)]) (ws' := wM X.Z a tape taped place thrown r_op no op r_arg arg many low high masks cur readLow readHigh group choice chain hasEmpty sset label next states r1 (2 * many.toNat) ((fun _ => 0)) r2 ((fun _ => 0)) stamps piled reading readings wher built heads chained isE lives kind newKind first kinds leads sideStates ends text textLong queue frm by_ ways before ++ wr) ?_ ?_
    · exact pm_beg [_] (wMf X.Z a tape r_op no op r_arg arg low high group choice chain hasEmpty sset label next) [_] [_] (wMb X.Z a reading wher built heads chained lives kind newKind first leads sideStates ends text queue frm by_ ways before) wr [_] [_]
    refine g_aload_n C dX6_begin_38 rfl ?_
    refine g_iconst C dX6_begin_39 ?_
    refine pM_stamps C dX6_begin_40 ?_
    exact g_locR rfl (fin r1 r2 (2 * many.toNat) _ _ 0 _ _ (by omega) (by omega) ⟨by omega, by omega, by omega⟩ (fun i => by omega) (by omega))
