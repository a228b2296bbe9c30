/-! Automaton: make -/
theorem rn_congr {cnt : Int} {mv mv' : Int → Int} (hmv : MvOk cnt mv) (e : ∀ j, 0 ≤ j → j < 128 * cnt → mv j = mv' j) : ∀ (w : List Int) (s : Int), 0 ≤ s → s < cnt → Wd w → rn mv s w = rn mv' s w
  | [], _, _, _, _ => rfl
  | b :: w, s, s0, s1, hw => by
    have m := hmv.at s0 s1 hw.cons.1.1 hw.cons.1.2
    rw [rn_cons, rn_cons, ← e _ (by have := hw.cons.1; omega) (by have := hw.cons.1; omega)]
    exact rn_congr hmv e w _ (by omega) m.2 hw.cons.2
theorem acc_congr {cnt : Int} {mv mv' : Int → Int} {acc acc' : Int → Bool} (hmv : MvOk cnt mv) (e : ∀ j, 0 ≤ j → j < 128 * cnt → mv j = mv' j) (ea : ∀ s, 0 ≤ s → s < cnt → acc s = acc' s) {s : Int} (s0 : 0 ≤ s) (s1 : s < cnt) {w : List Int} (hw : Wd w) : acc (rn mv s w) = acc' (rn mv' s w) := by
  have r := rn_r hmv w s s0 s1 hw
  rw [ea _ r.1 r.2, rn_congr hmv e w s s0 s1 hw]
theorem liv_congr {cnt : Int} {mv mv' : Int → Int} {acc acc' : Int → Bool} (hmv : MvOk cnt mv) (e : ∀ j, 0 ≤ j → j < 128 * cnt → mv j = mv' j) (ea : ∀ s, 0 ≤ s → s < cnt → acc s = acc' s) {s : Int} (s0 : 0 ≤ s) (s1 : s < cnt) : Liv mv acc s ↔ Liv mv' acc' s :=
  ⟨fun ⟨w, h1, h2⟩ => ⟨w, h1, by rw [← acc_congr hmv e ea s0 s1 h1]; exact h2⟩, fun ⟨w, h1, h2⟩ => ⟨w, h1, by rw [acc_congr hmv e ea s0 s1 h1]; exact h2⟩⟩
theorem eqv_congr {cnt : Int} {mv mv' : Int → Int} {acc acc' : Int → Bool} (hmv : MvOk cnt mv) (e : ∀ j, 0 ≤ j → j < 128 * cnt → mv j = mv' j) (ea : ∀ s, 0 ≤ s → s < cnt → acc s = acc' s) {s t : Int} (s0 : 0 ≤ s) (s1 : s < cnt) (t0 : 0 ≤ t) (t1 : t < cnt) : Eqv mv acc s t ↔ Eqv mv' acc' s t :=
  ⟨fun h w hw => by rw [← acc_congr hmv e ea s0 s1 hw, ← acc_congr hmv e ea t0 t1 hw]; exact h w hw, fun h w hw => by rw [acc_congr hmv e ea s0 s1 hw, acc_congr hmv e ea t0 t1 hw]; exact h w hw⟩
theorem lvS_congr {cnt : Int} {mv mv' : Int → Int} {acc acc' : Int → Bool} (hmv : MvOk cnt mv) (e : ∀ j, 0 ≤ j → j < 128 * cnt → mv j = mv' j) (ea : ∀ s, 0 ≤ s → s < cnt → acc s = acc' s) (s : Int) : LvS cnt mv acc s ↔ LvS cnt mv' acc' s :=
  ⟨fun h => ⟨h.1, h.2.1, (liv_congr hmv e ea h.1 h.2.1).mp h.2.2⟩, fun h => ⟨h.1, h.2.1, (liv_congr hmv e ea h.1 h.2.1).mpr h.2.2⟩⟩
theorem MinOk.congr {cnt : Int} {mv mv' : Int → Int} {acc acc' : Int → Bool} (hmv : MvOk cnt mv) (e : ∀ j, 0 ≤ j → j < 128 * cnt → mv j = mv' j) (ea : ∀ s, 0 ≤ s → s < cnt → acc s = acc' s) {table tells : Int → Int} {states strt : Int} (hc : 1 ≤ cnt) (h : MinOk cnt mv acc table tells states strt) : MinOk cnt mv' acc' table tells states strt := by
  obtain ⟨h1, cls, h2, h3, h4, h5, h6⟩ := h
  have L := lvS_congr hmv e ea
  have L0 := liv_congr hmv e ea (s := 0) (by omega) (by omega)
  refine ⟨h1, cls, ⟨h2.1, fun s hs => h2.2.1 s ((L s).mpr hs), fun y y0 y1 => ?_⟩, fun s t hs ht => ?_, fun s hs => ⟨fun b b0 b1 => ?_, ?_⟩, fun q => h5 (L0.mpr q), fun q => h6 (fun q2 => q (L0.mp q2))⟩
  · obtain ⟨s, hs, he⟩ := h2.2.2 y y0 y1
    exact ⟨s, (L s).mp hs, he⟩
  · rw [h3 s t ((L s).mpr hs) ((L t).mpr ht)]
    exact eqv_congr hmv e ea hs.1 hs.2.1 ht.1 ht.2.1
  · have m := hmv.at hs.1 hs.2.1 b0 b1
    have hh := (h4 s ((L s).mpr hs)).1 b b0 b1
    have hl := liv_congr hmv e ea (s := mv (128 * s + b)) (by omega) m.2
    have em := e (128 * s + b) (by have := hs.1; omega) (by have := hs.2.1; omega)
    rw [← em]
    exact ⟨fun q => hh.1 (hl.mpr q), fun q => hh.2 (fun q2 => q (hl.mp q2))⟩
  · rw [(h4 s ((L s).mpr hs)).2, ea s hs.1 hs.2.1]
theorem MinNo.congr {cnt : Int} {mv mv' : Int → Int} {acc acc' : Int → Bool} (hmv : MvOk cnt mv) (e : ∀ j, 0 ≤ j → j < 128 * cnt → mv j = mv' j) (ea : ∀ s, 0 ≤ s → s < cnt → acc s = acc' s) (h : MinNo cnt mv acc) : MinNo cnt mv' acc' := by
  obtain ⟨g, h1, h2⟩ := h
  have L := lvS_congr hmv e ea
  refine ⟨g, fun i i0 i1 => (L _).mp (h1 i i0 i1), fun i j i0 i1 j0 j1 he => ?_⟩
  have a1 := h1 i i0 i1
  have a2 := h1 j j0 j1
  exact h2 i j i0 i1 j0 j1 ((eqv_congr hmv e ea a1.1 a1.2.1 a2.1 a2.2.1).mpr he)
theorem exRun_none {tg : (Int → Int → Bool) → Int → Int → Int → Bool} {f : Nat} {j : Int} {e : Ex} (h : j < 128 * e.cnt) (hs : exStep tg j e = none) : exRun tg (f + 1) j e = none := by
  unfold exRun
  rw [if_pos h, hs]
theorem exRun_some {tg : (Int → Int → Bool) → Int → Int → Int → Bool} {f : Nat} {j : Int} {e e' : Ex} (h : j < 128 * e.cnt) (hs : exStep tg j e = some e') : exRun tg (f + 1) j e = exRun tg f (j + 1) e' := by
  show (if j < 128 * e.cnt then _ else _) = _
  rw [if_pos h, hs]
/-- what the states of the sets accept -/
noncomputable def accS (la : Int → Bool) (N : Int) (e : Ex) (s : Int) : Bool := decide (1 ≤ s) && anyB (fun p => e.S s p && la p) N
def exOk (e : Ex) : Prop := (1 ≤ e.cnt ∧ e.cnt ≤ 401) ∧ MvOk e.cnt e.mv
theorem AcS.acc {cnt N : Int} {S : Int → Int → Bool} {la : Int → Bool} {sets : Int → Int64} {accepts heads chain : Int → Int} {mv : Int → Int} (h : AcS cnt S N la sets accepts heads chain) : (∀ s, 0 ≤ s → s < cnt → -1 ≤ accepts s ∧ accepts s ≤ 0) ∧ ∀ s, 0 ≤ s → s < cnt → accB accepts s = accS la N (cnt, S, mv) s := by
  have h6 := h.2.2.2.2.2
  refine ⟨fun s s0 s1 => ?_, fun s s0 s1 => ?_⟩
  · by_cases q : s = 0
    · subst q; rw [h6.1]; decide
    · rw [h6.2 s (by omega) s1]; exact bacc_r _
  · unfold accB accS
    by_cases q : s = 0
    · subst q; rw [h6.1]; rfl
    · rw [h6.2 s (by omega) s1, decide_eq_true (show 1 ≤ s by omega), Bool.true_and]
      show decide (0 ≤ bacc (anyB (fun p => S s p && la p) N)) = anyB (fun p => S s p && la p) N
      cases anyB (fun p => S s p && la p) N <;> rfl
/-- what make leaves: the least automaton of the sets, or there are too many of them -/
def MkP (tg : (Int → Int → Bool) → Int → Int → Int → Bool) (la : Int → Bool) (N : Int) (r : Bool) (table tells : Int → Int) (states strt : Int) : Prop :=
  (r = true ∧ ∃ e, exRun tg 51329 0 (1, (fun _ _ => false), (fun _ => 0)) = some e ∧ exOk e ∧ MinOk e.cnt e.mv (accS la N e) table tells states strt) ∨ (r = false ∧ (exRun tg 51329 0 (1, (fun _ _ => false), (fun _ => 0)) = none ∨ ∃ e, exRun tg 51329 0 (1, (fun _ _ => false), (fun _ => 0)) = some e ∧ exOk e ∧ MinNo e.cnt e.mv (accS la N e)))
theorem cA_make {Z : Zk} {wr : va_W} {a : Nat → Nat} {sets : Int → Int64} {moves : Int → Int} {accepts : Int → Int} {heads : Int → Int} {chain : Int → Int} {groups : Int → Int} {news : Int → Int} {lives : Int → Bool} {cnt : Int} {table : Int → Int} {tells : Int → Int} {states : Int} {strt : Int} {tx : Value} {len : Int} {wrong : Int} {low : Int → Int64} {high : Int → Int64} {owners : Int → Int} {follows : Int → Int64} {isLast : Int → Bool} {start : Int → Int64} {places : Int} {count : Int} {empty : Int → Bool} {firsts : Int → Int64} {lasts : Int → Int64} {top : Int} {opn : Int} {cur : Int} {ap : Nat → Nat} {fi : Int → Bool} {fo : Int → Int → Bool} (hp0 : 0 ≤ places) (hp1 : places ≤ 400) (hown : ∀ p, 0 ≤ p → p < places → owners p = 0) (hst : ∀ p, 0 ≤ p → p < 448 → hasB start 0 p = fi p) (hfo : FolP follows places fo) (hfi1 : ∀ p, fi p = true → p < places) (hfo1 : ∀ p q, fo p q = true → q < places) :
    Ct Z yX5_make hX5_make 5 170 [.ref (a 0)] (wA Z a (ap 0) sets moves accepts heads chain groups news lives cnt table tells states strt ++ (wP Z ap tx len wrong low high owners follows isLast start places count empty firsts lasts top opn cur ++ wr)) 0 0 (Rz fun r w => ∃ sets1 moves1 accepts1 heads1 chain1 groups1 news1 lives1 cnt1 table1 tells1 states1 strt1, w = wA Z a (ap 0) sets1 moves1 accepts1 heads1 chain1 groups1 news1 lives1 cnt1 table1 tells1 states1 strt1 ++ (wP Z ap tx len wrong low high owners follows isLast start places count empty firsts lasts top opn cur ++ wr) ∧ MkP (tgt fi fo (tkB low high)) isLast places r table1 tells1 states1 strt1) := by
  refine Ct.of RX5 "make" (by decide +kernel) rfl rfl hkX5_make (Nat.le_of_ble_eq_true rfl) (fun X hZ C => ?_)
  subst hZ
  have B : ∀ (f : Nat), (∀ (s b cnt1 : Int) (S : Int → Int → Bool) (mv : Int → Int) (sets1 : Int → Int64) (moves1 accepts1 heads1 chain1 : Int → Int), 0 ≤ s → s < cnt1 → 0 ≤ b → b < 128 → AcS cnt1 S places isLast sets1 accepts1 heads1 chain1 → (∀ j, 0 ≤ j → j < 128 * s + b → moves1 j = mv j ∧ 1 ≤ mv j ∧ mv j < cnt1) → exRun (tgt fi fo (tkB low high)) f (128 * s + b) (cnt1, S, mv) = exRun (tgt fi fo (tkB low high)) 51329 0 (1, (fun _ _ => false), (fun _ => 0)) → (f : Int) + (128 * s + b) = 51329 → G X 4 0 0 (wA X.Z a (ap 0) sets1 moves1 accepts1 heads1 chain1 groups news lives cnt1 table tells states strt ++ (wP X.Z ap tx len wrong low high owners follows isLast start places count empty firsts lasts top opn cur ++ wr)) 48 [(0, .ref (a 0)), (1, vI s), (2, vI b)] []) →
      ∀ (s cnt1 : Int) (S : Int → Int → Bool) (mv : Int → Int) (sets1 : Int → Int64) (moves1 accepts1 heads1 chain1 : Int → Int), 0 ≤ s → s ≤ cnt1 → AcS cnt1 S places isLast sets1 accepts1 heads1 chain1 → (∀ j, 0 ≤ j → j < 128 * s → moves1 j = mv j ∧ 1 ≤ mv j ∧ mv j < cnt1) → exRun (tgt fi fo (tkB low high)) f (128 * s) (cnt1, S, mv) = exRun (tgt fi fo (tkB low high)) 51329 0 (1, (fun _ _ => false), (fun _ => 0)) → (f : Int) + 128 * s = 51329 → G X 4 0 0 (wA X.Z a (ap 0) sets1 moves1 accepts1 heads1 chain1 groups news lives cnt1 table tells states strt ++ (wP X.Z ap tx len wrong low high owners follows isLast start places count empty firsts lasts top opn cur ++ wr)) 38 [(0, .ref (a 0)), (1, vI s)] [] := by
    intro f hA s cnt1 S mv sets1 moves1 accepts1 heads1 chain1 s0 s1 hAc hmo hex hf
    have hc := hAc.1
    refine g_iload_n C dX5_make_38 rfl ?_
    refine g_aload_n C dX5_make_39 rfl ?_
    refine gA_count C dX5_make_40 ?_
    refine g_icmp_ge C 93 dX5_make_43 (by decide) (by omega) (fun h43 => ?_) (fun h43 => ?_)
    · have es : s = cnt1 := by omega
      subst es
      have hmv : MvOk s moves1 := fun j j0 j1 => by have := hmo j j0 j1; omega
      have hmv2 : MvOk s mv := fun j j0 j1 => (hmo j j0 j1).2
      have hacc := hAc.acc (mv := mv)
      have hres : exRun (tgt fi fo (tkB low high)) 51329 0 (1, (fun _ _ => false), (fun _ => 0)) = some (s, S, mv) := by rw [← hex]; cases f with | zero => rfl | succ f => unfold exRun; rw [if_neg (show ¬ 128 * s < 128 * s by omega)]
      refine g_aload_n C dX5_make_93 rfl ?_
      refine g_cVWz C [] _ 0 cal_X5_63 (cA_least hc.1 hc.2 hmv hacc.1) rfl rfl rfl rfl (Nat.le_of_ble_eq_true rfl) (room_b rfl) dX5_make_94 (fun r94 w hw94 => ?_)
      obtain ⟨lives1, groups1, heads2, chain2, news1, table1, tells1, states1, strt1, rfl, hr⟩ := hw94
      exact g_zret C _ rfl rfl ⟨_, rfl, _, _, _, _, _, _, _, _, _, _, _, _, _, rfl, hr.imp (fun h => ⟨h.1, _, hres, ⟨hc, hmv2⟩, MinOk.congr hmv (fun j j0 j1 => (hmo j j0 j1).1) hacc.2 hc.1 h.2⟩) (fun h => ⟨h.1, Or.inr ⟨_, hres, ⟨hc, hmv2⟩, MinNo.congr hmv (fun j j0 j1 => (hmo j j0 j1).1) hacc.2 h.2⟩⟩)⟩ dX5_make_97
    · refine g_iconst C dX5_make_46 ?_
      refine g_istore_n C dX5_make_47 (by decide) ?_
      exact g_locR rfl (hA s 0 cnt1 S mv sets1 moves1 accepts1 heads1 chain1 s0 (by omega) (by omega) (by omega) hAc (fun j j0 j1 => hmo j j0 (by omega)) (by rw [Int.add_zero]; exact hex) (by omega))
  have A : ∀ (f : Nat) (s b cnt1 : Int) (S : Int → Int → Bool) (mv : Int → Int) (sets1 : Int → Int64) (moves1 accepts1 heads1 chain1 : Int → Int), 0 ≤ s → s < cnt1 → 0 ≤ b → b < 128 → AcS cnt1 S places isLast sets1 accepts1 heads1 chain1 → (∀ j, 0 ≤ j → j < 128 * s + b → moves1 j = mv j ∧ 1 ≤ mv j ∧ mv j < cnt1) → exRun (tgt fi fo (tkB low high)) f (128 * s + b) (cnt1, S, mv) = exRun (tgt fi fo (tkB low high)) 51329 0 (1, (fun _ _ => false), (fun _ => 0)) → (f : Int) + (128 * s + b) = 51329 → G X 4 0 0 (wA X.Z a (ap 0) sets1 moves1 accepts1 heads1 chain1 groups news lives cnt1 table tells states strt ++ (wP X.Z ap tx len wrong low high owners follows isLast start places count empty firsts lasts top opn cur ++ wr)) 48 [(0, .ref (a 0)), (1, vI s), (2, vI b)] [] := by
    intro f
    induction f with
    | zero => intro s b cnt1 S mv sets1 moves1 accepts1 heads1 chain1 s0 s1 b0 b1 hAc; have := hAc.1; intro _ _ h; omega
    | succ f ihf =>
      intro s b cnt1 S mv sets1 moves1 accepts1 heads1 chain1 s0 s1 b0 b1 hAc hmo hex hf
      have hc := hAc.1
      -- behind the last byte of a set
      have e128 : ∀ (cnt1 : Int) (S : Int → Int → Bool) (mv : Int → Int) (sets1 : Int → Int64) (moves1 accepts1 heads1 chain1 : Int → Int), b = 127 → s < cnt1 → AcS cnt1 S places isLast sets1 accepts1 heads1 chain1 → (∀ j, 0 ≤ j → j < 128 * s + b + 1 → moves1 j = mv j ∧ 1 ≤ mv j ∧ mv j < cnt1) → exRun (tgt fi fo (tkB low high)) f (128 * s + b + 1) (cnt1, S, mv) = exRun (tgt fi fo (tkB low high)) 51329 0 (1, (fun _ _ => false), (fun _ => 0)) → G X 4 0 0 (wA X.Z a (ap 0) sets1 moves1 accepts1 heads1 chain1 groups news lives cnt1 table tells states strt ++ (wP X.Z ap tx len wrong low high owners follows isLast start places count empty firsts lasts top opn cur ++ wr)) 48 [(0, .ref (a 0)), (1, vI s), (2, vI (b + 1))] [] := by
        intro cnt1 S mv sets1 moves1 accepts1 heads1 chain1 hb hs hAc hmo hex
        refine g_iload_n C dX5_make_48 rfl ?_
        refine g_sipush C dX5_make_49 (by decide) ?_
        refine g_icmp_ge C 87 dX5_make_52 (by decide) (by omega) (fun h52 => ?_) (fun h52 => ?_)
        · refine g_iinc C dX5_make_87 rfl (by decide) ?_
          refine g_goto C 38 dX5_make_90 (by decide) ?_
          exact g_locR rfl (B f ihf (s + 1) cnt1 S mv sets1 moves1 accepts1 heads1 chain1 (by omega) (by omega) hAc (fun j j0 j1 => hmo j j0 (by omega)) (by rw [show 128 * (s + 1) = 128 * s + b + 1 by omega]; exact hex) (by omega))
        · exact absurd h52 (by omega)
      refine g_iload_n C dX5_make_48 rfl ?_
      refine g_sipush C dX5_make_49 (by decide) ?_
      refine g_icmp_ge C 87 dX5_make_52 (by decide) (by omega) (fun h52 => ?_) (fun h52 => ?_)
      · exact absurd h52 (by omega)
      · refine g_aload_n C dX5_make_55 rfl ?_
        refine g_iload_n C dX5_make_56 rfl ?_
        refine g_iload_n C dX5_make_57 rfl ?_
        refine g_cVWi C [_, _] _ 0 cal_X5_59 (cA_step (S := S) hAc s0 s1 b0 b1 hp0 hp1 hown hst hfo hfi1 hfo1) rfl rfl rfl rfl (Nat.le_of_ble_eq_true rfl) (room_b rfl) dX5_make_58 (fun r58 w hw58 => ?_)
        obtain ⟨sets2, accepts2, heads2, chain2, cnt2, S2, rfl, hr⟩ := hw58
        refine g_istore_n C dX5_make_61 (by decide) ?_
        refine g_iload_n C dX5_make_62 rfl ?_
        refine g_if_ge C 68 dX5_make_63 (by decide) (by rcases hr with h | h; omega; have := h.2.2.1.1; omega) (fun h63 => ?_) (fun h63 => ?_)
        · have hr2 := hr.resolve_left (fun h => by omega)
          obtain ⟨q1, q2, q3, q4, q5⟩ := hr2
          have q3c := q3.1
          rw [exRun_some (show 128 * s + b < 128 * cnt1 by omega) (q5 mv)] at hex
          refine g_aload_n C dX5_make_68 rfl ?_
          refine gA_moves C dX5_make_69 ?_
          refine g_sipush C dX5_make_72 (by decide) ?_
          refine g_iload_n C dX5_make_75 rfl ?_
          refine g_imul C dX5_make_76 ?_
          refine g_iload_n C dX5_make_77 rfl ?_
          refine g_iadd C dX5_make_78 ?_
          refine g_iload_n C dX5_make_79 rfl ?_
          refine sA_moves C (by omega) dX5_make_80 ?_
          refine g_iinc C dX5_make_81 rfl (by decide) ?_
          refine g_goto C 48 dX5_make_84 (by decide) ?_
          have hmo2 : ∀ j, 0 ≤ j → j < 128 * s + b + 1 → up moves1 (128 * s + b) r58 j = up mv (128 * s + b) r58 j ∧ 1 ≤ up mv (128 * s + b) r58 j ∧ up mv (128 * s + b) r58 j < cnt2 := by
            intro j j0 j1
            by_cases e : j = 128 * s + b
            · subst e; rw [up_same, up_same]; exact ⟨rfl, q1, q2⟩
            · rw [up_ne _ _ e, up_ne _ _ e]; have := hmo j j0 (by omega); omega
          by_cases hb : b = 127
          · exact g_locR rfl (e128 cnt2 S2 _ sets2 _ accepts2 heads2 chain2 hb (by omega) q3 hmo2 hex)
          · exact g_locR rfl (ihf s (b + 1) cnt2 S2 _ sets2 _ accepts2 heads2 chain2 s0 (by omega) (by omega) (by omega) q3 (fun j j0 j1 => hmo2 j j0 (by omega)) (by rw [← Int.add_assoc]; exact hex) (by omega))
        · refine g_iconst C dX5_make_66 ?_
          exact g_zret C false rfl rfl ⟨_, rfl, _, _, _, _, _, _, _, _, _, _, _, _, _, rfl, Or.inr ⟨rfl, Or.inl (by rcases hr with h | h; rw [← hex]; exact exRun_none (show 128 * s + b < 128 * cnt1 by omega) (h.2 mv); omega)⟩⟩ dX5_make_67
  have lp := loopZ (fun k => G X 4 0 0 (wA X.Z a (ap 0) sets moves accepts (upTo heads 0 k (fun _ => -1)) chain groups news lives cnt table tells states strt ++ (wP X.Z ap tx len wrong low high owners follows isLast start places count empty firsts lasts top opn cur ++ wr)) 2 [(0, .ref (a 0)), (1, vI k)] []) 0 512 (by omega) ?_ (fun k k0 k1 ih => ?_)
  · show G _ _ _ _ _ _ _ _
    rw [upTo_0] at lp
    refine g_iconst C dX5_make_0 ?_
    refine g_istore_n C dX5_make_1 (by decide) ?_
    exact g_locR rfl lp
  · show G _ _ _ _ _ _ _ _
    refine g_iload_n C dX5_make_2 rfl ?_
    refine g_aload_n C dX5_make_3 rfl ?_
    refine gA_heads C dX5_make_4 ?_
    refine nA_heads C dX5_make_7 ?_
    refine g_icmp_ge C 24 dX5_make_8 (by decide) (by omega) (fun h8 => ?_) (fun h8 => ?_)
    · refine g_aload_n C dX5_make_24 rfl ?_
      refine g_iconst C dX5_make_25 ?_
      refine pA_count C dX5_make_26 ?_
      refine g_aload_n C dX5_make_29 rfl ?_
      refine gA_accepts C dX5_make_30 ?_
      refine g_iconst C dX5_make_33 ?_
      refine g_iconst C dX5_make_34 ?_
      refine sA_accepts C (by omega) dX5_make_35 ?_
      refine g_iconst C dX5_make_36 ?_
      refine g_istore_n C dX5_make_37 (by decide) ?_
      exact g_locR rfl (B 51329 (A 51329) 0 1 (fun _ _ => false) (fun _ => 0) sets moves _ _ chain (by omega) (by omega) ⟨⟨by omega, by omega⟩, fun s _ _ => by omega, fun s _ _ => by omega, fun m n _ h => by have h : m < 1 := h; omega, ChOk.new (fun i i0 i1 => upTo_at0 _ _ i0 i1) (fun t _ _ h => by omega), up_same _ _ _, fun s _ _ => by omega⟩ (fun j _ _ => by omega) rfl (by omega))
    · exact absurd h8 (by omega)
  · show G _ _ _ _ _ _ _ _
    refine g_iload_n C dX5_make_2 rfl ?_
    refine g_aload_n C dX5_make_3 rfl ?_
    refine gA_heads C dX5_make_4 ?_
    refine nA_heads C dX5_make_7 ?_
    refine g_icmp_ge C 24 dX5_make_8 (by decide) (by omega) (fun h8 => ?_) (fun h8 => ?_)
    · exact absurd h8 (by omega)
    · refine g_aload_n C dX5_make_11 rfl ?_
      refine gA_heads C dX5_make_12 ?_
      refine g_iload_n C dX5_make_15 rfl ?_
      refine g_iconst C dX5_make_16 ?_
      refine sA_heads C (by omega) dX5_make_17 ?_
      refine g_iinc C dX5_make_18 rfl (by decide) ?_
      refine g_goto C 2 dX5_make_21 (by decide) ?_
      rw [upTo_s0 _ (fun _ => -1) k0]
      exact g_locR rfl ih
