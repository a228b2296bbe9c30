/-! Model: parsed -/
/-- a reference: what it works with is hidden -/
def ModW (Z : Zk) (a : Nat → Nat) (tape : Int → Int) (taped place thrown : Int) (leads sideStates : Int → Int) (ends : Int → Bool) (text : Int → Int) (textLong : Int) (queue frm by_ : Int → Int) (ways before : Int → Int64) (stB : Int) (w : va_W) : Prop :=
  ∃ (r_op : Nat) (no : Nat) (op : Int → Int) (r_arg : Nat) (arg : Int → Int) (many : Int) (low : Int → Int64) (high : Int → Int64) (masks : Int) (cur : Int) (readLow : Int64) (readHigh : Int64) (group : Int → Int) (choice : Int → Int) (chain : Int → Int) (hasEmpty : Int → Bool) (sset : Int → Int64) (label : Int → Int) (next : Int → Int) (states : Int) (r_stamp : Nat) (ns : Nat) (stamp : Int → Int) (r_stack : Nat) (stack : Int → Int) (stamps : Int) (piled : Int) (reading : Int → Int) (readings : Int) (wher : Int → Int) (built : Int → Int64) (heads : Int → Int) (chained : Int → Int) (isE : Bool) (lives : Int → Bool) (kind : Int → Int) (newKind : Int → Int) (first : Int → Int) (kinds : Int), (256 ≤ no ∧ no ≤ 8192) ∧ ns ≤ 8194 ∧ StOk stamp stamps ∧ (0 ≤ stamps ∧ stamps ≤ stB) ∧ w = wM Z a tape taped place thrown r_op no op r_arg arg many low high masks cur readLow readHigh group choice chain hasEmpty sset label next states r_stamp ns stamp r_stack stack stamps piled reading readings wher built heads chained isE lives kind newKind first kinds leads sideStates ends text textLong queue frm by_ ways before
theorem prsT_supp {t : Int → Int} {n : Int} {lo hi : Int → Int64} {s1 : St} {B : PV} (hn : 0 ≤ n) (h : prsT t n lo hi = .ok (s1, B)) : supp 0 s1.N B := by
  unfold prsT at h
  split at h
  · cases h
  · next s2 B2 q =>
    split at h
    · cases h
    · cases h
      exact prs_supp _ _ _ _ _ _ _ 0 (show ((0 : Int), (0 : Int), lo, hi).1 ≤ n from hn) (show (0 : Int) ≤ 400 by decide) (Int.le_refl _) (supp_eps _ _) q
/-- a side's table has the language Lg -/
def SideM (leads : Int → Int) (ends : Int → Bool) (off all : Int) (Lg : List Int → Bool) : Prop :=
  (1 ≤ all ∧ all ≤ 402) ∧ (∀ s b, 0 ≤ s → s < all → 0 ≤ b → b < 128 → 0 ≤ leads (128 * (off + s) + b) ∧ leads (128 * (off + s) + b) < all) ∧ ∀ u, Wd u → Lg u = ends (off + dq (fun s b => leads (128 * (off + s) + b)) 0 u)
theorem sideM_of {e : Ex} {la : Int → Bool} {N : Int} {nul : Bool} {leads : Int → Int} {ends lives : Int → Bool} {off : Int} (he : exOk e) (hl : ∀ s, 0 ≤ s → s < e.cnt → lives s = tr (Liv e.mv (accS la N e) s)) (h1 : ∀ s, 0 ≤ s → s < e.cnt → ends (off + s) = (if s = 0 then nul else accS la N e s)) (h2 : ends (off + e.cnt) = false) (h3 : ∀ s b, 0 ≤ s → s < e.cnt → 0 ≤ b → b < 128 → leads (128 * (off + s) + b) = bif lives (e.mv (128 * s + b)) then e.mv (128 * s + b) else e.cnt) (h4 : ∀ b, 0 ≤ b → b < 128 → leads (128 * (off + e.cnt) + b) = e.cnt) : SideM leads ends off (e.cnt + 1) (LgE nul la N e) := by
  have hc := he.1
  have key : ∀ u, Wd u → (dq (fun s b => leads (128 * (off + s) + b)) 0 u = dq (fun s b => e.mv (128 * s + b)) 0 u ∧ (u ≠ [] → Liv e.mv (accS la N e) (dq (fun s b => e.mv (128 * s + b)) 0 u))) ∨ (dq (fun s b => leads (128 * (off + s) + b)) 0 u = e.cnt ∧ u ≠ [] ∧ ¬ Liv e.mv (accS la N e) (dq (fun s b => e.mv (128 * s + b)) 0 u)) := by
    intro u
    induction u with
    | nil => exact fun _ => Or.inl ⟨rfl, fun h => absurd rfl h⟩
    | cons b v ih =>
      intro hu
      have hv := hu.cons
      have hr := dq_e he v hv.2
      have hm := he.2.at hr.1 hr.2 hv.1.1 hv.1.2
      show (leads (128 * (off + dq (fun s b => leads (128 * (off + s) + b)) 0 v) + b) = e.mv (128 * dq (fun s b => e.mv (128 * s + b)) 0 v + b) ∧ (b :: v ≠ [] → Liv e.mv (accS la N e) (e.mv (128 * dq (fun s b => e.mv (128 * s + b)) 0 v + b)))) ∨ (leads (128 * (off + dq (fun s b => leads (128 * (off + s) + b)) 0 v) + b) = e.cnt ∧ b :: v ≠ [] ∧ ¬ Liv e.mv (accS la N e) (e.mv (128 * dq (fun s b => e.mv (128 * s + b)) 0 v + b)))
      rcases ih hv.2 with ⟨q1, q2⟩ | ⟨q1, q2, q3⟩
      · rw [q1, h3 _ _ hr.1 hr.2 hv.1.1 hv.1.2, hl _ (by omega) hm.2]
        cases ht : tr (Liv e.mv (accS la N e) (e.mv (128 * dq (fun s b => e.mv (128 * s + b)) 0 v + b))) with
        | true => exact Or.inl ⟨rfl, fun _ => tr_iff.mp ht⟩
        | false => exact Or.inr ⟨rfl, List.cons_ne_nil _ _, fun h => by rw [tr_iff.mpr h] at ht; cases ht⟩
      · rw [q1, h4 b hv.1.1 hv.1.2]
        exact Or.inr ⟨rfl, List.cons_ne_nil _ _, fun h => q3 (Liv.step hv.1.1 hv.1.2 h)⟩
  refine ⟨by omega, fun s b s0 s1 b0 b1 => ?_, fun u hu => ?_⟩
  · by_cases es : s = e.cnt
    · rw [es, h4 b b0 b1]; omega
    · have hm := he.2.at s0 (show s < e.cnt by omega) b0 b1
      rw [h3 s b s0 (by omega) b0 b1]
      cases lives (e.mv (128 * s + b)) with
      | true => show 0 ≤ e.mv (128 * s + b) ∧ e.mv (128 * s + b) < e.cnt + 1; omega
      | false => show 0 ≤ e.cnt ∧ e.cnt < e.cnt + 1; omega
  · cases u with
    | nil =>
      show nul = ends (off + 0)
      rw [h1 0 (Int.le_refl _) (by omega), if_pos rfl]
    | cons b v =>
      show accS la N e (dq (fun s b => e.mv (128 * s + b)) 0 (b :: v)) = _
      have hr := dq_e he (b :: v) hu
      rcases key (b :: v) hu with ⟨q1, q2⟩ | ⟨q1, q2, q3⟩
      · rw [q1, h1 _ hr.1 hr.2, if_neg]
        have hv := dq_e he v hu.cons.2
        have hm := he.2.at hv.1 hv.2 hu.cons.1.1 hu.cons.1.2
        show ¬ e.mv (128 * dq (fun s b => e.mv (128 * s + b)) 0 v + b) = 0
        omega
      · rw [q1, h2]
        cases ha : accS la N e (dq (fun s b => e.mv (128 * s + b)) 0 (b :: v)) with
        | false => rfl
        | true => exact absurd (Liv.base ha) q3
/-- what comes of the tape's first n bytes as a pattern -/
def PatR (t : Int → Int) (n : Int) (bad : Int → Prop) (big : Prop) (good : Int → (List Int → Bool) → Int → Prop) : Prop :=
  (∃ e, pat0 t n = .error e ∧ 0 ≤ e ∧ e ≤ n ∧ bad e) ∨ ∃ s1 B, pat0 t n = .ok (s1, B) ∧ ((exRun (tgB s1 B) 51329 0 (1, (fun _ _ => false), (fun _ => 0)) = none ∧ big) ∨
    ∃ e, exRun (tgB s1 B) 51329 0 (1, (fun _ _ => false), (fun _ => 0)) = some e ∧ exOk e ∧ ∃ nk K, Onto (LvS e.cnt e.mv (accS B.la s1.N e)) nk K ∧ (∀ s t, LvS e.cnt e.mv (accS B.la s1.N e) s → LvS e.cnt e.mv (accS B.la s1.N e) t → (nk s = nk t ↔ Eqv e.mv (accS B.la s1.N e) s t)) ∧ ((200 < K ∧ big) ∨ (K ≤ 200 ∧ good K (LgE B.nul B.la s1.N e) (e.cnt + 1))))
