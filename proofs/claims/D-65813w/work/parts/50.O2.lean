/-! PatternPairs: worlds in another order; sides; tell, fits, empty -/
theorem perm_nd {ws ws' : va_W} {A : Nat → Prop} (hp : ws'.Perm ws) (h : va_D A ws) : va_D A ws' := by
  have h1 : (ws.map (fun q : Nat × va_E => q.1)).Nodup := by
    rw [List.Nodup, List.pairwise_iff_getElem]
    intro i j hi hj hij he
    have hi' : i < ws.length := by simpa using hi
    have hj' : j < ws.length := by simpa using hj
    rw [List.getElem_map, List.getElem_map] at he
    have := h.1 i j _ _ (List.getElem?_eq_getElem hi') (List.getElem?_eq_getElem hj') he
    omega
  have h2 : (ws'.map (fun q : Nat × va_E => q.1)).Nodup := ((hp.map _).nodup_iff).mpr h1
  refine ⟨fun i j p q hi hj he => ?_, fun k q hk => ?_⟩
  · have e1 : (ws'.map (fun q : Nat × va_E => q.1))[i]? = some p.1 := by rw [List.getElem?_map, hi]; rfl
    have e2 : (ws'.map (fun q : Nat × va_E => q.1))[j]? = some q.1 := by rw [List.getElem?_map, hj]; rfl
    exact (List.getElem?_inj (List.getElem?_eq_some_iff.mp e1).1 h2).mp (by rw [e1, e2, he])
  · obtain ⟨i, hi⟩ := List.getElem?_of_mem (hp.mem_iff.mp (List.mem_of_getElem? hk))
    exact h.2 i q hi
theorem perm_at {ws ws' : va_W} {D : va_G} {H : Heap} (hp : ws'.Perm ws) (h : va_P D vwCl ws H) : va_P D vwCl ws' H := fun k q hk => by
  obtain ⟨i, hi⟩ := List.getElem?_of_mem (hp.mem_iff.mp (List.mem_of_getElem? hk))
  exact h i q hi
section PERM
variable {X : Cx} {nL k n pc : Nat} {ws : va_W} {L : List (Nat × Value)} {st : List Value}
theorem g_perm {ws' : va_W} (hp : ws'.Perm ws) (h : G X nL k n ws' pc L st) : G X nL k n ws pc L st :=
  fun H locs ls hP hD hS hl => h H locs ls (perm_at hp hP) (perm_nd hp hD) hS hl
theorem gt_perm {ws' : va_W} {x : Nat} (hp : ws'.Perm ws) (h : GT X nL k n ws' pc L x) : GT X nL k n ws pc L x :=
  fun H locs ls st hP hD hS hl => h H locs ls st (perm_at hp hP) (perm_nd hp hD) hS hl
end PERM
theorem pm_of {α : Type} {l₁ l₂ : List α} (h : ∀ [BEq α] [LawfulBEq α] (x : α), l₁.count x = l₂.count x) : l₁.Perm l₂ := by
  haveI : DecidableEq α := fun x y => Classical.propDecidable (x = y)
  exact List.perm_iff_count.mpr (fun x => h x)
/-- the two sides change places -/
theorem pm_swap {α : Type} (o q a q' a' r : List α) : (o ++ (q' ++ (a' ++ (q ++ (a ++ r))))).Perm (o ++ (q ++ (a ++ (q' ++ (a' ++ r))))) :=
  pm_of (fun x => by simp only [List.count_append]; omega)
/-- a side's table has the language Lg -/
def SideO (isE : Bool) (table tells : Int → Int) (states strt : Int) (Lg : List Int → Bool) : Prop :=
  (0 ≤ states ∧ states ≤ 200) ∧ (-1 ≤ strt ∧ strt < states) ∧ (∀ s b, 0 ≤ s → s < states → 0 ≤ b → b < 128 → -1 ≤ table (128 * s + b) ∧ table (128 * s + b) < states) ∧ (∀ s, 0 ≤ s → s < states → inR (tells s)) ∧
  Lg [] = isE ∧ ∀ b u, Wd (b :: u) → Lg (b :: u) = hasQ isE tells (dq (movQ table) strt (b :: u)) false
theorem SideO.mv {isE : Bool} {table tells : Int → Int} {states strt : Int} {Lg : List Int → Bool} (h : SideO isE table tells states strt Lg) {s b : Int} (s0 : -1 ≤ s) (s1 : s < states) (b0 : 0 ≤ b) (b1 : b < 128) : -1 ≤ movQ table s b ∧ movQ table s b < states := by
  unfold movQ
  have h1 := h.1.1
  split
  · omega
  · exact h.2.2.1 s b (by omega) s1 b0 b1
/-- what a text on the tape tells -/
noncomputable def fitV (Lg : List Int → Bool) (tape : Int → Int) (n : Int) : Bool := tr (Wd (seg tape 0 n.toNat)) && Lg (seg tape 0 n.toNat)
def fitS (table tape : Int → Int) (strt : Int) : Nat → Int
  | 0 => strt
  | k + 1 => if tape k < 0 then -1 else movQ table (fitS table tape strt k) (tape k)
theorem fitS_r {isE : Bool} {table tells tape : Int → Int} {states strt : Int} {Lg : List Int → Bool} (h : SideO isE table tells states strt Lg) : ∀ k : Nat, (∀ i, 0 ≤ i → i < (k : Int) → tape i < 128) → -1 ≤ fitS table tape strt k ∧ fitS table tape strt k < states
  | 0, _ => h.2.1
  | k + 1, ht => by
    have ih := fitS_r h k (fun i h0 h1 => ht i h0 (by omega))
    rw [fitS]
    split
    · have := h.1.1; omega
    · exact h.mv ih.1 ih.2 (by omega) (ht k (by omega) (by omega))
theorem fitS_eq {table tape : Int → Int} {strt : Int} : ∀ k : Nat, (Wd (seg tape 0 k) → fitS table tape strt k = dq (movQ table) strt (seg tape 0 k)) ∧ ((∀ i, 0 ≤ i → i < (k : Int) → tape i < 128) → ¬ Wd (seg tape 0 k) → fitS table tape strt k = -1)
  | 0 => ⟨fun _ => rfl, fun _ h => absurd Wd.nil h⟩
  | k + 1 => by
    have ih := fitS_eq (table := table) (tape := tape) (strt := strt) k
    have e : (0 : Int) + (k : Nat) = k := by omega
    refine ⟨fun hw => ?_, fun ht hw => ?_⟩
    · rw [seg, e] at hw
      rw [fitS, seg, e, if_neg (by have := hw.cons.1; omega), ih.1 hw.cons.2]
      rfl
    · rw [fitS]
      by_cases h : tape k < 0
      · rw [if_pos h]
      · rw [if_neg h]
        have hn : ¬ Wd (seg tape 0 k) := fun hx => hw (by rw [seg, e]; exact Wd.mk (by omega) (ht k (by omega) (by omega)) hx)
        rw [ih.2 (fun i h0 h1 => ht i h0 (by omega)) hn]
        rfl
theorem fitS_has {isE : Bool} {table tells tape : Int → Int} {states strt n : Int} {Lg : List Int → Bool} (h : SideO isE table tells states strt Lg) (n0 : 0 ≤ n) (ht : ∀ i, 0 ≤ i → i < n → tape i < 128) : hasQ isE tells (fitS table tape strt n.toNat) (decide (n = 0)) = fitV Lg tape n := by
  have hq := fitS_eq (table := table) (tape := tape) (strt := strt) n.toNat
  unfold fitV
  cases hk : n.toNat with
  | zero =>
    rw [decide_eq_true (by omega), show seg tape 0 0 = [] from rfl, tr_iff.mpr Wd.nil, h.2.2.2.2.1]
    rfl
  | succ k =>
    rw [hk] at hq
    rw [decide_eq_false (by omega)]
    by_cases hw : Wd (seg tape 0 (k + 1))
    · rw [tr_iff.mpr hw, hq.1 hw]
      have := h.2.2.2.2.2 (tape (0 + k)) (seg tape 0 k) hw
      rw [seg, this]
      rfl
    · rw [hq.2 (fun i h0 h1 => ht i h0 (by omega)) hw, show tr (Wd (seg tape 0 (k + 1))) = false from by cases e : tr (Wd (seg tape 0 (k + 1))) with | false => rfl | true => exact absurd (tr_iff.mp e) hw]
      rfl
theorem i2b_id {x : Int} (h0 : 0 ≤ x) (h1 : x < 128) : i2b x = x := by
  have h := i2b_small x.toNat (by omega)
  rw [if_pos (by omega), Int.toNat_of_nonneg h0] at h
  exact h
theorem Bq.len {d : Int → Int → Int} {s0 n : Int} {nd bf by_ : Int → Int} {we : Int → List Int} (h : Bq d s0 n nd bf by_ we) : ∀ (f : Nat) (j : Int), j ≤ f → 0 ≤ j → j < n → ((we j).length : Int) ≤ j
  | f, j, hf, h0, h1 => by
    by_cases e : j = 0
    · rw [e, h.2.1]; exact Int.le_refl _
    · have := h.2.2.2.1 j (by omega) h1
      cases f with
      | zero => omega
      | succ f =>
        have ih := Bq.len h f (bf j) (by omega) this.1 (by omega)
        rw [this.2.2, List.length_cons]
        omega
/-- the text by which one came to an entry -/
theorem cO_tell {Z : Zk} {wr : va_W} {a : Nat → Nat} {tape : Int → Int} {rf : Nat} {rs : Nat} {rp : Nat} {seen : Int → Bool} {queue : Int → Int} {before : Int → Int} {by_ : Int → Int} {text : Int → Int} {ways : Int → Int64} {next : Int → Int64} {length : Int} {taped : Int} {place : Int} {q n : Int} {d : Int → Int → Int} {s0 : Int} {we : Int → List Int} (hq0 : 0 ≤ q) (hq1 : q < n) (hn : n ≤ 40402) (hb : Bq d s0 n queue before by_ we) (hb0 : before 0 = -1) (hl : length = 0) : Ct Z yX1_tell hX1_tell 1 60 [.ref (a 0), vI q] (wO Z a tape rf rs rp seen queue before by_ text ways next length taped place ++ wr) 0 0 (Ri fun r w => ∃ text', r = ((we q).length : Int) ∧ seg text' 0 (we q).length = we q ∧ w = wO Z a tape rf rs rp seen queue before by_ text' ways next (((we q).length : Int)) taped place ++ wr) := by
  refine Ct.of RX1 "tell" (by decide +kernel) rfl rfl hkX1_tell (Nat.le_of_ble_eq_true rfl) (fun X hZ C => ?_)
  subst hZ
  have hle : ∀ j, 0 ≤ j → j < n → ((we j).length : Int) ≤ j := fun j h0 h1 => hb.len j.toNat j (by omega) h0 h1
  obtain ⟨b1, b2', b3, b4, b5⟩ := hb
  have nx : ∀ i, 0 ≤ i → i < n → (before i < 0 → we i = []) ∧ (¬ before i < 0 → 0 ≤ before i ∧ before i < i ∧ we i = by_ i :: we (before i) ∧ i2b (by_ i) = by_ i) ∧ -1 ≤ before i ∧ before i < 40402 := by
    intro i i0 i1
    by_cases e : i = 0
    · rw [e]
      exact ⟨fun _ => b2', fun h => by omega, by omega, by omega⟩
    · have := b4 i (by omega) i1
      have hw := (b3 i i0 i1).2
      rw [this.2.2] at hw
      exact ⟨fun h => by omega, fun _ => ⟨this.1, this.2.1, this.2.2, i2b_id hw.cons.1.1 hw.cons.1.2⟩, by omega, by omega⟩
  have hlq := hle q hq0 hq1
  have two : ∀ (f : Nat) (i m : Int) (t : Int → Int) (p : List Int), i ≤ f → 0 ≤ i → i < n → m = ((we i).length : Int) → we q = p ++ we i → seg t m p.length = p → G X 4 0 0 (wO X.Z a tape rf rs rp seen queue before by_ t ways next (((we q).length : Int)) taped place ++ wr) 38 [(0, .ref (a 0)), (1, vI q), (2, vI m), (3, vI i)] [] := by
    intro f
    induction f with
    | zero =>
      intro i m t p hf i0 i1 hm hp hs
      have ei : i = 0 := by omega
      subst ei
      refine g_aload_n C dX1_tell_38 rfl ?_
      refine gO_before C dX1_tell_39 ?_
      refine g_iload_n C dX1_tell_42 rfl ?_
      refine lO_before C (by omega) dX1_tell_43 ?_
      refine g_if_lt C 72 dX1_tell_44 (by decide) (by omega) (fun h44 => ?_) (fun h44 => ?_)
      · refine g_aload_n C dX1_tell_72 rfl ?_
        refine gO_length C dX1_tell_73 ?_
        exact g_iret C rfl ⟨_, rfl, t, rfl, (by rw [b2', List.append_nil] at hp; rw [show m = 0 by rw [hm, b2']; rfl] at hs; rw [hp]; exact hs), rfl⟩ dX1_tell_76
      · exact absurd h44 (by omega)
    | succ f ih =>
      intro i m t p hf i0 i1 hm hp hs
      have hx := nx i i0 i1
      have hli := hle i i0 i1
      refine g_aload_n C dX1_tell_38 rfl ?_
      refine gO_before C dX1_tell_39 ?_
      refine g_iload_n C dX1_tell_42 rfl ?_
      refine lO_before C (by omega) dX1_tell_43 ?_
      refine g_if_lt C 72 dX1_tell_44 (by decide) (by omega) (fun h44 => ?_) (fun h44 => ?_)
      · have hw0 := hx.1 h44
        refine g_aload_n C dX1_tell_72 rfl ?_
        refine gO_length C dX1_tell_73 ?_
        exact g_iret C rfl ⟨_, rfl, t, rfl, (by rw [hw0, List.append_nil] at hp; rw [show m = 0 by rw [hm, hw0]; rfl] at hs; rw [hp]; exact hs), rfl⟩ dX1_tell_76
      · have hw0 := hx.2.1 (by omega)
        have hm1 : m = ((we (before i)).length : Int) + 1 := by rw [hm, hw0.2.2.1, List.length_cons]; omega
        refine g_iinc C dX1_tell_47 rfl (by decide) ?_
        refine g_aload_n C dX1_tell_50 rfl ?_
        refine gO_text C dX1_tell_51 ?_
        refine g_iload_n C dX1_tell_54 rfl ?_
        refine g_aload_n C dX1_tell_55 rfl ?_
        refine gO_by C dX1_tell_56 ?_
        refine g_iload_n C dX1_tell_59 rfl ?_
        refine lO_by C (by omega) dX1_tell_60 ?_
        refine sO_text C (by omega) dX1_tell_61 ?_
        refine g_aload_n C dX1_tell_62 rfl ?_
        refine gO_before C dX1_tell_63 ?_
        refine g_iload_n C dX1_tell_66 rfl ?_
        refine lO_before C (by omega) dX1_tell_67 ?_
        refine g_istore_n C dX1_tell_68 (by decide) ?_
        refine g_goto C 38 dX1_tell_69 (by decide) ?_
        refine g_locR (L' := [(0, .ref (a 0)), (1, vI q), (2, vI (m - 1)), (3, vI (before i))]) rfl ?_
        exact ih (before i) (m - 1) _ (p ++ [by_ i]) (by omega) hw0.1 (by omega) (by omega) (by rw [hp, hw0.2.2.1, List.append_assoc]; rfl) (by rw [List.length_append, hw0.2.2.2]; exact (seg_back t m _ p.length).trans (by rw [hs]))
  have one : ∀ (f : Nat) (i m : Int), i ≤ f → 0 ≤ i → i < n → m + ((we i).length : Int) = ((we q).length : Int) → 0 ≤ m → G X 4 0 0 (wO X.Z a tape rf rs rp seen queue before by_ text ways next m taped place ++ wr) 2 [(0, .ref (a 0)), (1, vI q), (2, vI i)] [] := by
    intro f
    induction f with
    | zero =>
      intro i m hf i0 i1 hm m0
      have ei : i = 0 := by omega
      subst ei
      refine g_aload_n C dX1_tell_2 rfl ?_
      refine gO_before C dX1_tell_3 ?_
      refine g_iload_n C dX1_tell_6 rfl ?_
      refine lO_before C (by omega) dX1_tell_7 ?_
      refine g_if_lt C 31 dX1_tell_8 (by decide) (by omega) (fun h8 => ?_) (fun h8 => ?_)
      · refine g_aload_n C dX1_tell_31 rfl ?_
        refine gO_length C dX1_tell_32 ?_
        refine g_istore_n C dX1_tell_35 (by decide) ?_
        refine g_iload_n C dX1_tell_36 rfl ?_
        refine g_istore_n C dX1_tell_37 (by decide) ?_
        have em : m = ((we q).length : Int) := by rw [b2'] at hm; simpa using hm
        subst em
        exact g_locR rfl (two q.toNat q _ _ [] (by omega) hq0 hq1 rfl rfl rfl)
      · exact absurd h8 (by omega)
    | succ f ih =>
      intro i m hf i0 i1 hm m0
      have hx := nx i i0 i1
      have hli := hle i i0 i1
      refine g_aload_n C dX1_tell_2 rfl ?_
      refine gO_before C dX1_tell_3 ?_
      refine g_iload_n C dX1_tell_6 rfl ?_
      refine lO_before C (by omega) dX1_tell_7 ?_
      refine g_if_lt C 31 dX1_tell_8 (by decide) (by omega) (fun h8 => ?_) (fun h8 => ?_)
      · have hw0 := hx.1 h8
        refine g_aload_n C dX1_tell_31 rfl ?_
        refine gO_length C dX1_tell_32 ?_
        refine g_istore_n C dX1_tell_35 (by decide) ?_
        refine g_iload_n C dX1_tell_36 rfl ?_
        refine g_istore_n C dX1_tell_37 (by decide) ?_
        have em : m = ((we q).length : Int) := by rw [hw0] at hm; simpa using hm
        subst em
        exact g_locR rfl (two q.toNat q _ _ [] (by omega) hq0 hq1 rfl rfl rfl)
      · have hw0 := hx.2.1 (by omega)
        have hm1 : ((we i).length : Int) = ((we (before i)).length : Int) + 1 := by rw [hw0.2.2.1, List.length_cons]; omega
        refine g_aload_n C dX1_tell_11 rfl ?_
        refine g_dup C dX1_tell_12 rfl ?_
        refine gO_length C dX1_tell_13 ?_
        refine g_iconst C dX1_tell_16 ?_
        refine g_iadd C dX1_tell_17 ?_
        refine pO_length C dX1_tell_18 ?_
        refine g_aload_n C dX1_tell_21 rfl ?_
        refine gO_before C dX1_tell_22 ?_
        refine g_iload_n C dX1_tell_25 rfl ?_
        refine lO_before C (by omega) dX1_tell_26 ?_
        refine g_istore_n C dX1_tell_27 (by decide) ?_
        refine g_goto C 2 dX1_tell_28 (by decide) ?_
        exact g_locR rfl (ih (before i) (m + 1) (by omega) hw0.1 (by omega) (by omega) (by omega))
  subst hl
  refine g_iload_n C dX1_tell_0 rfl ?_
  refine g_istore_n C dX1_tell_1 (by decide) ?_
  exact g_locR rfl (one q.toNat q 0 (by omega) hq0 hq1 (by omega) (by omega))
