/-! Model: what is reached without a byte -/
theorem cM_reach {Z : Zk} {wr : va_W} {a : Nat → Nat} {tape : Int → Int} {taped : Int} {place : Int} {thrown : Int} {r_op : Nat} {no : Nat} {op : Int → Int} {r_arg : Nat} {arg : Int → Int} {many : Int} {low : Int → Int64} {high : Int → Int64} {masks : Int} {cur : Int} {readLow : Int64} {readHigh : Int64} {group : Int → Int} {choice : Int → Int} {chain : Int → Int} {hasEmpty : Int → Bool} {sset : Int → Int64} {label : Int → Int} {next : Int → Int} {states : Int} {r_stamp : Nat} {ns : Nat} {stamp : Int → Int} {r_stack : Nat} {stack : Int → Int} {stamps : Int} {piled : Int} {reading : Int → Int} {readings : Int} {wher : Int → Int} {built : Int → Int64} {heads : Int → Int} {chained : Int → Int} {isE : Bool} {lives : Int → Bool} {kind : Int → Int} {newKind : Int → Int} {first : Int → Int} {kinds : Int} {leads : Int → Int} {sideStates : Int → Int} {ends : Int → Bool} {text : Int → Int} {textLong : Int} {queue : Int → Int} {frm : Int → Int} {by_ : Int → Int} {ways : Int → Int64} {before : Int → Int64} {i : Int} (i0 : 0 ≤ i) (i1 : i < (ns : Int)) (n1 : ns ≤ 100000) (hs : inR stamps) (hsi : inR (stamp i)) (p0 : 0 ≤ piled) (hp : stamp i ≠ stamps → piled < (ns : Int)) : Ct Z yX6_reach hX6_reach 1 60 [.ref (a 0), vI i] (wM Z a tape taped place thrown r_op no op r_arg arg many low high masks cur readLow readHigh group choice chain hasEmpty sset label next states r_stamp ns stamp r_stack stack stamps piled reading readings wher built heads chained isE lives kind newKind first kinds leads sideStates ends text textLong queue frm by_ ways before ++ wr) 0 0 (Rv fun w => w = (if stamp i = stamps then wM Z a tape taped place thrown r_op no op r_arg arg many low high masks cur readLow readHigh group choice chain hasEmpty sset label next states r_stamp ns stamp r_stack stack stamps piled reading readings wher built heads chained isE lives kind newKind first kinds leads sideStates ends text textLong queue frm by_ ways before ++ wr else wM Z a tape taped place thrown r_op no op r_arg arg many low high masks cur readLow readHigh group choice chain hasEmpty sset label next states r_stamp ns (up stamp i stamps) r_stack (up stack piled i) stamps (piled + 1) reading readings wher built heads chained isE lives kind newKind first kinds leads sideStates ends text textLong queue frm by_ ways before ++ wr)) := by
  refine Ct.of RX6 "reach" (by decide +kernel) rfl rfl hkX6_reach (Nat.le_of_ble_eq_true rfl) (fun X hZ C => ?_)
  subst hZ
  refine g_aload_n C dX6_reach_0 rfl ?_
  refine gM_stamp C dX6_reach_1 ?_
  refine g_iload_n C dX6_reach_4 rfl ?_
  refine lM_stamp C (by omega) dX6_reach_5 ?_
  refine g_aload_n C dX6_reach_6 rfl ?_
  refine gM_stamps C dX6_reach_7 ?_
  refine g_icmp_ne C 14 dX6_reach_10 (by decide) (by omega) (fun h10 => ?_) (fun h10 => ?_)
  · have hp1 := hp h10
    refine g_aload_n C dX6_reach_14 rfl ?_
    refine gM_stamp C dX6_reach_15 ?_
    refine g_iload_n C dX6_reach_18 rfl ?_
    refine g_aload_n C dX6_reach_19 rfl ?_
    refine gM_stamps C dX6_reach_20 ?_
    refine sM_stamp C (by omega) dX6_reach_23 ?_
    refine g_aload_n C dX6_reach_24 rfl ?_
    refine gM_stack C dX6_reach_25 ?_
    refine g_aload_n C dX6_reach_28 rfl ?_
    refine gM_piled C dX6_reach_29 ?_
    refine g_iload_n C dX6_reach_32 rfl ?_
    refine sM_stack C (by omega) dX6_reach_33 ?_
    refine g_aload_n C dX6_reach_34 rfl ?_
    refine g_dup C dX6_reach_35 rfl ?_
    refine gM_piled C dX6_reach_36 ?_
    refine g_iconst C dX6_reach_39 ?_
    refine g_iadd C dX6_reach_40 ?_
    refine pM_piled C dX6_reach_41 ?_
    exact g_vret C rfl ⟨rfl, by rw [if_neg h10]⟩ dX6_reach_44
  · exact g_vret C rfl ⟨rfl, by rw [if_pos h10]⟩ dX6_reach_13
def CdOk (op arg : Int → Int) (many masks : Int) : Prop := (0 ≤ masks ∧ masks ≤ 400) ∧ (∀ i, 0 ≤ i → i < many → (op i = 0 ∨ op i = 1 ∨ op i = 2 ∨ op i = 3) ∧ (op i = 0 → 0 ≤ arg i ∧ arg i < masks) ∧ (op i = 3 → arg i = 0) ∧ ∀ j, stp op arg i j → 0 ≤ j ∧ j < many) ∧ ∀ i j, 0 ≤ i → i < many → 0 ≤ j → j < many → op i = 0 → op j = 0 → arg i = arg j → i = j
def Rch (op arg : Int → Int) (many : Int) (S0 : Int → Prop) (i : Int) : Prop := ∃ x, S0 x ∧ Rc op arg 0 many x i
/-- while the stack is worked off; x: the one at hand -/
def ClI (op arg : Int → Int) (many : Int) (S0 : Int → Prop) (stamp stack reading : Int → Int) (stamps piled readings best : Int) (dn : Int → Int) (x : Int) : Prop :=
  (0 ≤ piled ∧ (∀ k, 0 ≤ k → k < piled → 0 ≤ stack k ∧ stack k < many ∧ stamp (stack k) = stamps ∧ stack k ≠ x) ∧ ∀ j k, 0 ≤ j → j < piled → 0 ≤ k → k < piled → stack j = stack k → j = k) ∧
  (0 ≤ readings ∧ (∀ k, 0 ≤ k → k < readings → 0 ≤ dn k ∧ dn k < many ∧ op (dn k) = 0 ∧ reading k = arg (dn k) ∧ stamp (dn k) = stamps ∧ dn k ≠ x ∧ ∀ j, 0 ≤ j → j < piled → stack j ≠ dn k) ∧ ∀ j k, 0 ≤ j → j < readings → 0 ≤ k → k < readings → dn j = dn k → j = k) ∧
  (∀ y, S0 y → 0 ≤ y ∧ y < many ∧ stamp y = stamps) ∧
  (∀ i, 0 ≤ i → i < many → stamp i = stamps → Rch op arg many S0 i ∧ ((∃ k, 0 ≤ k ∧ k < piled ∧ stack k = i) ∨ i = x ∨ ((∀ j, stp op arg i j → stamp j = stamps) ∧ (op i = 0 → ∃ k, 0 ≤ k ∧ k < readings ∧ dn k = i) ∧ (op i = 3 → best = 0)))) ∧
  (best = -1 ∨ best = 0 ∧ ∃ i, 0 ≤ i ∧ i < many ∧ op i = 3 ∧ stamp i = stamps)
section CLI
variable {op arg : Int → Int} {many masks : Int} {S0 : Int → Prop} {stamp stack reading : Int → Int} {stamps piled readings best : Int} {dn : Int → Int} {x : Int}
theorem ClI.pop (h : ClI op arg many S0 stamp stack reading stamps piled readings best dn (-1)) (hp : 0 < piled) : ClI op arg many S0 stamp stack reading stamps (piled - 1) readings best dn (stack (piled - 1)) ∧ 0 ≤ stack (piled - 1) ∧ stack (piled - 1) < many ∧ stamp (stack (piled - 1)) = stamps := by
  obtain ⟨⟨a1, a2, a3⟩, ⟨b1, b2, b3⟩, c, d, e⟩ := h
  have q := a2 (piled - 1) (by omega) (by omega)
  refine ⟨⟨⟨by omega, fun k k0 k1 => ?_, fun j k j0 j1 k0 k1 => a3 j k j0 (by omega) k0 (by omega)⟩, ⟨b1, fun k k0 k1 => ?_, b3⟩, c, fun i i0 i1 hi => ?_, e⟩, q.1, q.2.1, q.2.2.1⟩
  · have := a2 k k0 (by omega)
    exact ⟨this.1, this.2.1, this.2.2.1, fun he => by have := a3 k (piled - 1) k0 (by omega) (by omega) (by omega) he; omega⟩
  · have := b2 k k0 k1
    exact ⟨this.1, this.2.1, this.2.2.1, this.2.2.2.1, this.2.2.2.2.1, fun he => this.2.2.2.2.2.2 (piled - 1) (by omega) (by omega) he.symm, fun j j0 j1 => this.2.2.2.2.2.2 j j0 (by omega)⟩
  · have := d i i0 i1 hi
    refine ⟨this.1, ?_⟩
    rcases this.2 with ⟨k, k0, k1, k2⟩ | r | r
    · by_cases ek : k = piled - 1
      · exact Or.inr (Or.inl (by rw [← k2, ek]))
      · exact Or.inl ⟨k, k0, by omega, k2⟩
    · omega
    · exact Or.inr (Or.inr r)
theorem ClI.room (h : ClI op arg many S0 stamp stack reading stamps piled readings best dn x) (h0 : 0 ≤ many) {i : Int} (i0 : 0 ≤ i) (i1 : i < many) (hi : stamp i ≠ stamps) : piled < many := by
  obtain ⟨⟨a1, a2, a3⟩, -⟩ := h
  have hn : ∀ k, 0 ≤ k → k < piled → stack k ≠ i := fun k k0 k1 e => hi (by rw [← e]; exact (a2 k k0 k1).2.2.1)
  have := inj_le (f := fun k => if k = piled then i else stack k) (n := piled + 1) (m := many) h0 (fun k k0 k1 => by
      show 0 ≤ (if k = piled then i else stack k) ∧ (if k = piled then i else stack k) < many
      split
      · exact ⟨i0, i1⟩
      · have := a2 k k0 (by omega); exact ⟨this.1, this.2.1⟩) (fun j k j0 j1 k0 k1 e => by
      have e : (if j = piled then i else stack j) = (if k = piled then i else stack k) := e
      split at e
      · split at e
        · omega
        · exact absurd e.symm (hn k k0 (by omega))
      · split at e
        · exact absurd e (hn j j0 (by omega))
        · exact a3 j k j0 (by omega) k0 (by omega) e)
  omega
theorem ClI.reach (h : ClI op arg many S0 stamp stack reading stamps piled readings best dn x) {i : Int} (i0 : 0 ≤ i) (i1 : i < many) (hr : Rch op arg many S0 i) (hi : stamp i ≠ stamps) (hx : x = -1 ∨ stamp x = stamps) : ClI op arg many S0 (up stamp i stamps) (up stack piled i) reading stamps (piled + 1) readings best dn x := by
  obtain ⟨⟨a1, a2, a3⟩, ⟨b1, b2, b3⟩, c, d, e⟩ := h
  have keep : ∀ y, stamp y = stamps → up stamp i stamps y = stamps := fun y hy => by
    by_cases q : y = i
    · rw [q, up_same]
    · rw [up_ne _ _ q]; exact hy
  refine ⟨⟨by omega, fun k k0 k1 => ?_, fun j k j0 j1 k0 k1 he => ?_⟩, ⟨b1, fun k k0 k1 => ?_, b3⟩, fun y hy => ⟨(c y hy).1, (c y hy).2.1, keep y (c y hy).2.2⟩, fun y y0 y1 hy => ?_, ?_⟩
  · by_cases q : k = piled
    · rw [q, up_same, up_same]
      refine ⟨i0, i1, rfl, fun he => ?_⟩
      rcases hx with hx | hx
      · omega
      · exact hi (by rw [he]; exact hx)
    · rw [up_ne _ _ q]
      have := a2 k k0 (by omega)
      exact ⟨this.1, this.2.1, keep _ this.2.2.1, this.2.2.2⟩
  · by_cases q : j = piled
    · by_cases r : k = piled
      · omega
      · rw [q, up_same, up_ne _ _ r] at he
        exact absurd (by rw [he]; exact (a2 k k0 (by omega)).2.2.1) hi
    · by_cases r : k = piled
      · rw [r, up_same, up_ne _ _ q] at he
        exact absurd (by rw [← he]; exact (a2 j j0 (by omega)).2.2.1) hi
      · rw [up_ne _ _ q, up_ne _ _ r] at he
        exact a3 j k j0 (by omega) k0 (by omega) he
  · have := b2 k k0 k1
    refine ⟨this.1, this.2.1, this.2.2.1, this.2.2.2.1, keep _ this.2.2.2.2.1, this.2.2.2.2.2.1, fun j j0 j1 => ?_⟩
    by_cases q : j = piled
    · rw [q, up_same]
      exact fun he => hi (by rw [he]; exact this.2.2.2.2.1)
    · rw [up_ne _ _ q]
      exact this.2.2.2.2.2.2 j j0 (by omega)
  · by_cases q : y = i
    · exact ⟨by rw [q]; exact hr, Or.inl ⟨piled, a1, by omega, by rw [up_same, q]⟩⟩
    · rw [up_ne _ _ q] at hy
      have := d y y0 y1 hy
      refine ⟨this.1, ?_⟩
      rcases this.2 with ⟨k, k0, k1, k2⟩ | r | ⟨r1, r2⟩
      · exact Or.inl ⟨k, k0, by omega, by rw [up_ne _ _ (by omega)]; exact k2⟩
      · exact Or.inr (Or.inl r)
      · exact Or.inr (Or.inr ⟨fun j hj => keep j (r1 j hj), r2⟩)
  · rcases e with e | ⟨e1, y, y0, y1, y2, y3⟩
    · exact Or.inl e
    · exact Or.inr ⟨e1, y, y0, y1, y2, keep y y3⟩
theorem ClI.byte (hc : CdOk op arg many masks) (h : ClI op arg many S0 stamp stack reading stamps piled readings best dn x) (x0 : 0 ≤ x) (x1 : x < many) (hx : stamp x = stamps) (ho : op x = 0) : readings < masks ∧ ClI op arg many S0 stamp stack (up reading readings (arg x)) stamps piled (readings + 1) best (up dn readings x) (-1) := by
  obtain ⟨⟨a1, a2, a3⟩, ⟨b1, b2, b3⟩, c, d, e⟩ := h
  have hlt : readings < masks := by
    have := inj_le (f := fun k => if k = readings then arg x else reading k) (n := readings + 1) (m := masks) hc.1.1 (fun k k0 k1 => by
        show 0 ≤ (if k = readings then arg x else reading k) ∧ (if k = readings then arg x else reading k) < masks
        split
        · exact (hc.2.1 x x0 x1).2.1 ho
        · have := b2 k k0 (by omega)
          rw [this.2.2.2.1]
          exact (hc.2.1 (dn k) this.1 this.2.1).2.1 this.2.2.1) (fun j k j0 j1 k0 k1 he => by
        have he : (if j = readings then arg x else reading j) = (if k = readings then arg x else reading k) := he
        split at he
        · split at he
          · omega
          · have := b2 k k0 (by omega)
            rw [this.2.2.2.1] at he
            exact absurd (hc.2.2 x (dn k) x0 x1 this.1 this.2.1 ho this.2.2.1 he).symm this.2.2.2.2.2.1
        · have q := b2 j j0 (by omega)
          rw [q.2.2.2.1] at he
          split at he
          · exact absurd (hc.2.2 (dn j) x q.1 q.2.1 x0 x1 q.2.2.1 ho he) q.2.2.2.2.2.1
          · have := b2 k k0 (by omega)
            rw [this.2.2.2.1] at he
            exact b3 j k j0 (by omega) k0 (by omega) (hc.2.2 (dn j) (dn k) q.1 q.2.1 this.1 this.2.1 q.2.2.1 this.2.2.1 he))
    omega
  refine ⟨hlt, ⟨a1, fun k k0 k1 => ?_, a3⟩, ⟨by omega, fun k k0 k1 => ?_, fun j k j0 j1 k0 k1 he => ?_⟩, c, fun i i0 i1 hi => ?_, e⟩
  · have := a2 k k0 k1
    exact ⟨this.1, this.2.1, this.2.2.1, by omega⟩
  · by_cases q : k = readings
    · rw [q, up_same, up_same]
      exact ⟨x0, x1, ho, rfl, hx, by omega, fun j j0 j1 => (a2 j j0 j1).2.2.2⟩
    · rw [up_ne _ _ q, up_ne _ _ q]
      have := b2 k k0 (by omega)
      exact ⟨this.1, this.2.1, this.2.2.1, this.2.2.2.1, this.2.2.2.2.1, by omega, this.2.2.2.2.2.2⟩
  · by_cases q : j = readings
    · by_cases r : k = readings
      · omega
      · rw [q, up_same, up_ne _ _ r] at he
        exact absurd he.symm (b2 k k0 (by omega)).2.2.2.2.2.1
    · by_cases r : k = readings
      · rw [r, up_same, up_ne _ _ q] at he
        exact absurd he (b2 j j0 (by omega)).2.2.2.2.2.1
      · rw [up_ne _ _ q, up_ne _ _ r] at he
        exact b3 j k j0 (by omega) k0 (by omega) he
  · have := d i i0 i1 hi
    refine ⟨this.1, ?_⟩
    rcases this.2 with r | r | ⟨r1, r2, r3⟩
    · exact Or.inl r
    · subst r
      refine Or.inr (Or.inr ⟨fun j hj => ?_, fun _ => ⟨readings, b1, by omega, up_same _ _ _⟩, fun h => by omega⟩)
      rcases hj with ⟨q, _⟩ | ⟨q, _⟩ <;> omega
    · exact Or.inr (Or.inr ⟨r1, fun h0 => by (obtain ⟨k, k0, k1, k2⟩ := r2 h0; exact ⟨k, k0, by omega, by rw [up_ne _ _ (by omega)]; exact k2⟩), r3⟩)
theorem ClI.match_ (h : ClI op arg many S0 stamp stack reading stamps piled readings best dn x) (x0 : 0 ≤ x) (x1 : x < many) (hx : stamp x = stamps) (ho : op x = 3) : ClI op arg many S0 stamp stack reading stamps piled readings 0 dn (-1) := by
  obtain ⟨⟨a1, a2, a3⟩, ⟨b1, b2, b3⟩, c, d, e⟩ := h
  refine ⟨⟨a1, fun k k0 k1 => ?_, a3⟩, ⟨b1, fun k k0 k1 => ?_, b3⟩, c, fun i i0 i1 hi => ?_, Or.inr ⟨rfl, x, x0, x1, ho, hx⟩⟩
  · have := a2 k k0 k1
    exact ⟨this.1, this.2.1, this.2.2.1, by omega⟩
  · have := b2 k k0 k1
    exact ⟨this.1, this.2.1, this.2.2.1, this.2.2.2.1, this.2.2.2.2.1, by omega, this.2.2.2.2.2.2⟩
  · have := d i i0 i1 hi
    refine ⟨this.1, ?_⟩
    rcases this.2 with r | r | ⟨r1, r2, r3⟩
    · exact Or.inl r
    · subst r
      refine Or.inr (Or.inr ⟨fun j hj => ?_, fun h => by omega, fun _ => rfl⟩)
      rcases hj with ⟨q, _⟩ | ⟨q, _⟩ <;> omega
    · exact Or.inr (Or.inr ⟨r1, r2, fun _ => rfl⟩)
theorem ClI.done (h : ClI op arg many S0 stamp stack reading stamps piled readings best dn x) (ho : op x = 1 ∨ op x = 2) (hs : ∀ j, stp op arg x j → stamp j = stamps) : ClI op arg many S0 stamp stack reading stamps piled readings best dn (-1) := by
  obtain ⟨⟨a1, a2, a3⟩, ⟨b1, b2, b3⟩, c, d, e⟩ := h
  refine ⟨⟨a1, fun k k0 k1 => ?_, a3⟩, ⟨b1, fun k k0 k1 => ?_, b3⟩, c, fun i i0 i1 hi => ?_, e⟩
  · have := a2 k k0 k1
    exact ⟨this.1, this.2.1, this.2.2.1, by omega⟩
  · have := b2 k k0 k1
    exact ⟨this.1, this.2.1, this.2.2.1, this.2.2.2.1, this.2.2.2.2.1, by omega, this.2.2.2.2.2.2⟩
  · have := d i i0 i1 hi
    refine ⟨this.1, ?_⟩
    rcases this.2 with r | r | r
    · exact Or.inl r
    · subst r
      exact Or.inr (Or.inr ⟨hs, fun h => absurd h (by rcases ho with e | e <;> rw [e] <;> decide), fun h => absurd h (by rcases ho with e | e <;> rw [e] <;> decide)⟩)
    · exact Or.inr (Or.inr r)
theorem ClI.fin (hc : CdOk op arg many masks) (h : ClI op arg many S0 stamp stack reading stamps 0 readings best dn (-1)) : (0 ≤ readings ∧ readings ≤ masks) ∧ (∀ k, 0 ≤ k → k < readings → 0 ≤ reading k ∧ reading k < masks) ∧ (∀ q, (∃ k, 0 ≤ k ∧ k < readings ∧ reading k = q) ↔ ∃ i, 0 ≤ i ∧ i < many ∧ Rch op arg many S0 i ∧ op i = 0 ∧ arg i = q) ∧ (best = -1 ∨ best = 0) ∧ (best = 0 ↔ ∃ i, 0 ≤ i ∧ i < many ∧ Rch op arg many S0 i ∧ op i = 3) := by
  obtain ⟨⟨a1, a2, a3⟩, ⟨b1, b2, b3⟩, c, d, e⟩ := h
  have all : ∀ {y i : Int}, Rc op arg 0 many y i → 0 ≤ y → y < many → stamp y = stamps → 0 ≤ i ∧ i < many ∧ stamp i = stamps := by
    intro y i hr
    induction hr using Rc.ind with
    | rf z => exact fun h0 h1 h2 => ⟨h0, h1, h2⟩
    | @st z j k g0 g1 hs _ ih =>
      intro h0 h1 h2
      have hj := (hc.2.1 z h0 h1).2.2.2 j hs
      refine ih hj.1 hj.2 ?_
      rcases (d z h0 h1 h2).2 with ⟨k, k0, k1, _⟩ | r | ⟨r1, _⟩
      · omega
      · omega
      · exact r1 j hs
  have mk : ∀ i, Rch op arg many S0 i → 0 ≤ i ∧ i < many ∧ stamp i = stamps := fun i ⟨y, hy, hr⟩ => all hr (c y hy).1 (c y hy).2.1 (c y hy).2.2
  have dne : ∀ i, 0 ≤ i → i < many → stamp i = stamps → (op i = 0 → ∃ k, 0 ≤ k ∧ k < readings ∧ dn k = i) ∧ (op i = 3 → best = 0) := fun i i0 i1 hi => by
    rcases (d i i0 i1 hi).2 with ⟨k, k0, k1, _⟩ | r | ⟨_, r⟩
    · omega
    · omega
    · exact r
  have rng : ∀ k, 0 ≤ k → k < readings → 0 ≤ reading k ∧ reading k < masks := fun k k0 k1 => by
    have := b2 k k0 k1
    rw [this.2.2.2.1]
    exact (hc.2.1 (dn k) this.1 this.2.1).2.1 this.2.2.1
  refine ⟨⟨b1, ?_⟩, rng, fun q => ⟨fun ⟨k, k0, k1, k2⟩ => ?_, fun ⟨i, i0, i1, i2, i3, i4⟩ => ?_⟩, by omega, fun hb => ?_, fun ⟨i, i0, i1, i2, i3⟩ => (dne i i0 i1 (mk i i2).2.2).2 i3⟩
  · exact inj_le (f := reading) hc.1.1 rng (fun j k j0 j1 k0 k1 he => by
      have p := b2 j j0 j1
      have q := b2 k k0 k1
      rw [p.2.2.2.1, q.2.2.2.1] at he
      exact b3 j k j0 j1 k0 k1 (hc.2.2 (dn j) (dn k) p.1 p.2.1 q.1 q.2.1 p.2.2.1 q.2.2.1 he))
  · have := b2 k k0 k1
    exact ⟨dn k, this.1, this.2.1, (d (dn k) this.1 this.2.1 this.2.2.2.2.1).1, this.2.2.1, by rw [← this.2.2.2.1]; exact k2⟩
  · obtain ⟨k, k0, k1, k2⟩ := (dne i i0 i1 (mk i i2).2.2).1 i3
    exact ⟨k, k0, k1, by rw [(b2 k k0 k1).2.2.2.1, k2]; exact i4⟩
  · rcases e with e | ⟨_, i, i0, i1, i2, i3⟩
    · omega
    · exact ⟨i, i0, i1, (d i i0 i1 i3).1, i2⟩
end CLI
def mkB (stamp : Int → Int) (stamps : Int) : Int → Bool := fun i => decide (stamp i = stamps)
theorem mkB_up (stamp : Int → Int) (stamps i : Int) : mkB (up stamp i stamps) stamps = up (mkB stamp stamps) i true := by
  funext j
  unfold mkB up
  by_cases e : j = i
  · rw [if_pos e, if_pos e]; exact decide_eq_true rfl
  · rw [if_neg e, if_neg e]
def StOk (stamp : Int → Int) (stamps : Int) : Prop := ∀ i, 0 ≤ stamp i ∧ stamp i ≤ stamps
theorem StOk.up {stamp : Int → Int} {stamps i : Int} (h : StOk stamp stamps) (h0 : 0 ≤ stamps) : StOk (up stamp i stamps) stamps := fun j => by
  by_cases e : j = i
  · rw [e, up_same]; exact ⟨h0, Int.le_refl _⟩
  · rw [up_ne _ _ e]; exact h j
theorem cM_closure {Z : Zk} {wr : va_W} {a : Nat → Nat} {tape : Int → Int} {taped : Int} {place : Int} {thrown : Int} {r_op : Nat} {no : Nat} {op : Int → Int} {r_arg : Nat} {arg : Int → Int} {many : Int} {low : Int → Int64} {high : Int → Int64} {masks : Int} {cur : Int} {readLow : Int64} {readHigh : Int64} {group : Int → Int} {choice : Int → Int} {chain : Int → Int} {hasEmpty : Int → Bool} {sset : Int → Int64} {label : Int → Int} {next : Int → Int} {states : Int} {r_stamp : Nat} {ns : Nat} {stamp : Int → Int} {r_stack : Nat} {stack : Int → Int} {stamps : Int} {piled : Int} {reading : Int → Int} {readings : Int} {wher : Int → Int} {built : Int → Int64} {heads : Int → Int} {chained : Int → Int} {isE : Bool} {lives : Int → Bool} {kind : Int → Int} {newKind : Int → Int} {first : Int → Int} {kinds : Int} {leads : Int → Int} {sideStates : Int → Int} {ends : Int → Bool} {text : Int → Int} {textLong : Int} {queue : Int → Int} {frm : Int → Int} {by_ : Int → Int} {ways : Int → Int64} {before : Int → Int64} {S0 : Int → Prop} (hc : CdOk op arg many masks) (m0 : 0 ≤ many) (m1 : many ≤ (ns : Int)) (m2 : many ≤ (no : Int)) (n1 : ns ≤ 100000) (n2 : no ≤ 100000) (hs : inR stamps) (hs0 : 0 ≤ stamps) (hst : StOk stamp stamps) (hI : ClI op arg many S0 stamp stack reading stamps piled 0 (-1) (fun _ => 0) (-1)) : Ct Z yX6_closure hX6_closure 2 120 [.ref (a 0)] (wM Z a tape taped place thrown r_op no op r_arg arg many low high masks cur readLow readHigh group choice chain hasEmpty sset label next states r_stamp ns stamp r_stack stack stamps piled reading readings wher built heads chained isE lives kind newKind first kinds leads sideStates ends text textLong queue frm by_ ways before ++ wr) 0 0 (Ri (fun r w => ∃ stamp1 stack1 reading1 readings1, StOk stamp1 stamps ∧ ((0 ≤ readings1 ∧ readings1 ≤ masks) ∧ (∀ k, 0 ≤ k → k < readings1 → 0 ≤ reading1 k ∧ reading1 k < masks) ∧ (∀ q, (∃ k, 0 ≤ k ∧ k < readings1 ∧ reading1 k = q) ↔ ∃ i, 0 ≤ i ∧ i < many ∧ Rch op arg many S0 i ∧ op i = 0 ∧ arg i = q) ∧ (r = -1 ∨ r = 0) ∧ (r = 0 ↔ ∃ i, 0 ≤ i ∧ i < many ∧ Rch op arg many S0 i ∧ op i = 3)) ∧ w = wM Z a tape taped place thrown r_op no op r_arg arg many low high masks cur readLow readHigh group choice chain hasEmpty sset label next states r_stamp ns stamp1 r_stack stack1 stamps 0 reading1 readings1 wher built heads chained isE lives kind newKind first kinds leads sideStates ends text textLong queue frm by_ ways before ++ wr)) := by
  refine Ct.of RX6 "closure" (by decide +kernel) rfl rfl hkX6_closure (Nat.le_of_ble_eq_true rfl) (fun X hZ C => ?_)
  subst hZ
  have lp : ∀ (f : Nat) (stamp stack reading : Int → Int) (piled readings best : Int) (dn : Int → Int), 2 * cF (mkB stamp stamps) many + piled.toNat ≤ f → StOk stamp stamps → ClI op arg many S0 stamp stack reading stamps piled readings best dn (-1) → G X 3 0 0 (wM X.Z a tape taped place thrown r_op no op r_arg arg many low high masks cur readLow readHigh group choice chain hasEmpty sset label next states r_stamp ns stamp r_stack stack stamps piled reading readings wher built heads chained isE lives kind newKind first kinds leads sideStates ends text textLong queue frm by_ ways before ++ wr) 7 [(0, .ref (a 0)), (1, vI best)] [] := by
    intro f
    induction f with
    | zero =>
      intro stamp stack reading piled readings best dn hf hst hI
      have hp := hI.1.1
      have e : piled = 0 := by omega
      subst e
      refine g_aload_n C dX6_closure_7 rfl ?_
      refine gM_piled C dX6_closure_8 ?_
      refine g_if_le C 138 dX6_closure_11 (by decide) (by omega) (fun h11 => ?_) (fun h11 => ?_)
      · refine g_iload_n C dX6_closure_138 rfl ?_
        exact g_iret C rfl ⟨_, rfl, _, _, _, _, hst, hI.fin hc, rfl⟩ dX6_closure_139
      · exact absurd h11 (by omega)
    | succ f ih =>
      intro stamp stack reading piled readings best dn hf hst hI
      have hp := hI.1.1
      have hb : best = -1 ∨ best = 0 := by rcases hI.2.2.2.2 with h | h <;> omega
      by_cases hp0 : piled = 0
      · subst hp0
        refine g_aload_n C dX6_closure_7 rfl ?_
        refine gM_piled C dX6_closure_8 ?_
        refine g_if_le C 138 dX6_closure_11 (by decide) (by omega) (fun h11 => ?_) (fun h11 => ?_)
        · refine g_iload_n C dX6_closure_138 rfl ?_
          exact g_iret C rfl ⟨_, rfl, _, _, _, _, hst, hI.fin hc, rfl⟩ dX6_closure_139
        · exact absurd h11 (by omega)
      obtain ⟨hJ, x0, x1, x2⟩ := hI.pop (by omega)
      obtain ⟨x, hx⟩ : ∃ x, x = stack (piled - 1) := ⟨_, rfl⟩
      rw [← hx] at hJ x0 x1 x2
      have hpm : piled ≤ many := by
        by_cases e : piled ≤ many
        · exact e
        · have := inj_le (f := stack) (n := piled) (m := many) m0 (fun k k0 k1 => by have := hI.1.2.1 k k0 k1; exact ⟨this.1, this.2.1⟩) hI.1.2.2
          omega
      have hcx := hc.2.1 x x0 x1
      have hrx := (hJ.2.2.2.1 x x0 x1 x2).1
      have rch : ∀ j, stp op arg x j → Rch op arg many S0 j := fun j hj => by
        obtain ⟨y, hy, hr⟩ := hrx
        exact ⟨y, hy, hr.trans (.one x0 x1 hj)⟩
      -- one more place that is reached
      have nx : ∀ (stamp stack : Int → Int) (q j : Int), StOk stamp stamps → stamp x = stamps → ClI op arg many S0 stamp stack reading stamps q readings best dn x → stp op arg x j → 2 * cF (mkB stamp stamps) many + q.toNat ≤ f → ∃ stamp1 stack1 q1, (∀ (w : va_W), w = (if stamp j = stamps then wM X.Z a tape taped place thrown r_op no op r_arg arg many low high masks cur readLow readHigh group choice chain hasEmpty sset label next states r_stamp ns stamp r_stack stack stamps q reading readings wher built heads chained isE lives kind newKind first kinds leads sideStates ends text textLong queue frm by_ ways before ++ wr else wM X.Z a tape taped place thrown r_op no op r_arg arg many low high masks cur readLow readHigh group choice chain hasEmpty sset label next states r_stamp ns (up stamp j stamps) r_stack (up stack q j) stamps (q + 1) reading readings wher built heads chained isE lives kind newKind first kinds leads sideStates ends text textLong queue frm by_ ways before ++ wr) → w = wM X.Z a tape taped place thrown r_op no op r_arg arg many low high masks cur readLow readHigh group choice chain hasEmpty sset label next states r_stamp ns stamp1 r_stack stack1 stamps q1 reading readings wher built heads chained isE lives kind newKind first kinds leads sideStates ends text textLong queue frm by_ ways before ++ wr) ∧ StOk stamp1 stamps ∧ stamp1 x = stamps ∧ stamp1 j = stamps ∧ (∀ y, stamp y = stamps → stamp1 y = stamps) ∧ ClI op arg many S0 stamp1 stack1 reading stamps q1 readings best dn x ∧ 2 * cF (mkB stamp1 stamps) many + q1.toNat ≤ f := by
        intro stamp stack q j hst hxs hK hj hf
        have hjr := hcx.2.2.2 j hj
        by_cases e : stamp j = stamps
        · exact ⟨stamp, stack, q, fun w hw => by rw [hw, if_pos e], hst, hxs, e, fun _ h => h, hK, hf⟩
        · have hq := hK.1.1
          refine ⟨up stamp j stamps, up stack q j, q + 1, fun w hw => by rw [hw, if_neg e], hst.up hs0, ?_, up_same _ _ _, fun y hy => ?_, hK.reach hjr.1 hjr.2 (rch j hj) e (Or.inr hxs), ?_⟩
          · rw [up_ne _ _ (fun h => e (by rw [← h]; exact hxs))]; exact hxs
          · by_cases ey : y = j
            · rw [ey, up_same]
            · rw [up_ne _ _ ey]; exact hy
          · rw [mkB_up]
            have := cF_up (L := mkB stamp stamps) hjr.1 hjr.2 (decide_eq_false e)
            omega
      have hf1 : 2 * cF (mkB stamp stamps) many + (piled - 1).toNat ≤ f := by omega
      have hroom : ∀ (stamp1 stack1 : Int → Int) (q1 j : Int), ClI op arg many S0 stamp1 stack1 reading stamps q1 readings best dn x → stp op arg x j → stamp1 j ≠ stamps → q1 < (ns : Int) := fun stamp1 stack1 q1 j hK hj he => by
        have hjr := hcx.2.2.2 j hj
        have := hK.room m0 hjr.1 hjr.2 he
        omega
      refine g_aload_n C dX6_closure_7 rfl ?_
      refine gM_piled C dX6_closure_8 ?_
      refine g_if_le C 138 dX6_closure_11 (by decide) (by omega) (fun h11 => ?_) (fun h11 => ?_)
      · exact absurd h11 (by omega)
      · refine g_aload_n C dX6_closure_14 rfl ?_
        refine g_dup C dX6_closure_15 rfl ?_
        refine gM_piled C dX6_closure_16 ?_
        refine g_iconst C dX6_closure_19 ?_
        refine g_isub C dX6_closure_20 ?_
        refine pM_piled C dX6_closure_21 ?_
        refine g_aload_n C dX6_closure_24 rfl ?_
        refine gM_stack C dX6_closure_25 ?_
        refine g_aload_n C dX6_closure_28 rfl ?_
        refine gM_piled C dX6_closure_29 ?_
        refine lM_stack C (by omega) dX6_closure_32 ?_
        refine g_top hx.symm ?_
        refine g_istore_n C dX6_closure_33 (by decide) ?_
        refine g_aload_n C dX6_closure_34 rfl ?_
        refine gM_op C dX6_closure_35 ?_
        refine g_iload_n C dX6_closure_38 rfl ?_
        refine lM_op C (by omega) dX6_closure_39 ?_
        refine g_if_ne C 71 dX6_closure_40 (by decide) (by have := hcx.1; omega) (fun h40 => ?_) (fun h40 => ?_)
        · have hr0 := hJ.2.1.1
          refine g_aload_n C dX6_closure_71 rfl ?_
          refine gM_op C dX6_closure_72 ?_
          refine g_iload_n C dX6_closure_75 rfl ?_
          refine lM_op C (by omega) dX6_closure_76 ?_
          refine g_iconst C dX6_closure_77 ?_
          refine g_icmp_ne C 106 dX6_closure_78 (by decide) (by have := hcx.1; omega) (fun h78 => ?_) (fun h78 => ?_)
          · have hs1 : stp op arg x (x + arg x) := by rcases hcx.1 with e | e | e | e; (omega); (exact Or.inr ⟨e, Or.inl rfl⟩); (exact Or.inl ⟨e, rfl⟩); (omega)
            have hj1 := hcx.2.2.2 _ hs1
            refine g_aload_n C dX6_closure_106 rfl ?_
            refine g_iload_n C dX6_closure_107 rfl ?_
            refine g_aload_n C dX6_closure_108 rfl ?_
            refine gM_arg C dX6_closure_109 ?_
            refine g_iload_n C dX6_closure_112 rfl ?_
            refine lM_arg C (by omega) dX6_closure_113 ?_
            refine g_iadd C dX6_closure_114 ?_
            refine g_cVWv C [_] _ 0 cal_X6_133 (cM_reach (i := x + arg x) (piled := piled - 1) hj1.1 (by omega) n1 hs (by have := hst (x + arg x); omega) hJ.1.1 (fun he => hroom _ _ _ _ hJ hs1 he)) rfl rfl rfl rfl (Nat.le_of_ble_eq_true rfl) (room_b rfl) dX6_closure_115 (fun w hw115 => ?_)
            obtain ⟨stamp1, stack1, q1, hww, s1, s2, s3, s4, s5, s6⟩ := nx stamp stack (piled - 1) (x + arg x) hst x2 hJ hs1 hf1
            obtain rfl := hww w hw115
            refine g_aload_n C dX6_closure_118 rfl ?_
            refine gM_op C dX6_closure_119 ?_
            refine g_iload_n C dX6_closure_122 rfl ?_
            refine lM_op C (by omega) dX6_closure_123 ?_
            refine g_iconst C dX6_closure_124 ?_
            refine g_icmp_ne C 135 dX6_closure_125 (by decide) (by have := hcx.1; omega) (fun h125 => ?_) (fun h125 => ?_)
            · have s7 := s5.done (by have := hcx.1; omega) (fun j hj => by rcases hj with ⟨_, e⟩ | ⟨e, _⟩; (rw [e]; exact s3); (exact absurd e h125))
              refine g_goto C 7 dX6_closure_135 (by decide) ?_
              first | exact g_locR rfl (ih _ _ _ _ _ _ _ hf1 hst hJ2) | (rw [ea]; exact g_locR rfl (ih _ _ _ _ _ _ _ hf1 hst hJ3)) | (rw [show best = 0 by omega] at *; exact g_locR rfl (ih _ _ _ _ _ _ _ hf1 hst hJ3)) | exact g_locR rfl (ih _ _ _ _ _ _ _ s6 s1 s7) | exact g_locR rfl (ih _ _ _ _ _ _ _ t6 t1 t7)
            · have hs2 : stp op arg x (x + 1) := Or.inr ⟨by omega, Or.inr rfl⟩
              have hj2 := hcx.2.2.2 _ hs2
              refine g_aload_n C dX6_closure_128 rfl ?_
              refine g_iload_n C dX6_closure_129 rfl ?_
              refine g_iconst C dX6_closure_130 ?_
              refine g_iadd C dX6_closure_131 ?_
              refine g_cVWv C [_] _ 0 cal_X6_133 (cM_reach (i := x + 1) (piled := q1) hj2.1 (by omega) n1 hs (by have := s1 (x + 1); omega) s5.1.1 (fun he => hroom _ _ _ _ s5 hs2 he)) rfl rfl rfl rfl (Nat.le_of_ble_eq_true rfl) (room_b rfl) dX6_closure_132 (fun w hw132 => ?_)
              obtain ⟨stamp2, stack2, q2, hww2, t1, t2, t3, t4, t5, t6⟩ := nx stamp1 stack1 q1 (x + 1) s1 s2 s5 hs2 s6
              obtain rfl := hww2 w hw132
              have t7 := t5.done (by have := hcx.1; omega) (fun j hj => by rcases hj with ⟨_, e⟩ | ⟨_, e | e⟩; (rw [e]; exact t4 _ s3); (rw [e]; exact t4 _ s3); (rw [e]; exact t3))
              refine g_goto C 7 dX6_closure_135 (by decide) ?_
              first | exact g_locR rfl (ih _ _ _ _ _ _ _ hf1 hst hJ2) | (rw [ea]; exact g_locR rfl (ih _ _ _ _ _ _ _ hf1 hst hJ3)) | (rw [show best = 0 by omega] at *; exact g_locR rfl (ih _ _ _ _ _ _ _ hf1 hst hJ3)) | exact g_locR rfl (ih _ _ _ _ _ _ _ s6 s1 s7) | exact g_locR rfl (ih _ _ _ _ _ _ _ t6 t1 t7)
          · have ea : arg x = 0 := hcx.2.2.1 (by omega)
            have hJ3 := hJ.match_ x0 x1 x2 (by omega)
            refine g_iload_n C dX6_closure_81 rfl ?_
            refine g_iconst C dX6_closure_82 ?_
            refine g_icmp_eq C 96 dX6_closure_83 (by decide) (by omega) (fun h83 => ?_) (fun h83 => ?_)
            · refine g_aload_n C dX6_closure_96 rfl ?_
              refine gM_arg C dX6_closure_97 ?_
              refine g_iload_n C dX6_closure_100 rfl ?_
              refine lM_arg C (by omega) dX6_closure_101 ?_
              refine g_istore_n C dX6_closure_102 (by decide) ?_
              refine g_goto C 135 dX6_closure_103 (by decide) ?_
              refine g_goto C 7 dX6_closure_135 (by decide) ?_
              first | exact g_locR rfl (ih _ _ _ _ _ _ _ hf1 hst hJ2) | (rw [ea]; exact g_locR rfl (ih _ _ _ _ _ _ _ hf1 hst hJ3)) | (rw [show best = 0 by omega] at *; exact g_locR rfl (ih _ _ _ _ _ _ _ hf1 hst hJ3)) | exact g_locR rfl (ih _ _ _ _ _ _ _ s6 s1 s7) | exact g_locR rfl (ih _ _ _ _ _ _ _ t6 t1 t7)
            · refine g_aload_n C dX6_closure_86 rfl ?_
              refine gM_arg C dX6_closure_87 ?_
              refine g_iload_n C dX6_closure_90 rfl ?_
              refine lM_arg C (by omega) dX6_closure_91 ?_
              refine g_iload_n C dX6_closure_92 rfl ?_
              refine g_icmp_ge C 135 dX6_closure_93 (by decide) (by omega) (fun h93 => ?_) (fun h93 => ?_)
              · refine g_goto C 7 dX6_closure_135 (by decide) ?_
                first | exact g_locR rfl (ih _ _ _ _ _ _ _ hf1 hst hJ2) | (rw [ea]; exact g_locR rfl (ih _ _ _ _ _ _ _ hf1 hst hJ3)) | (rw [show best = 0 by omega] at *; exact g_locR rfl (ih _ _ _ _ _ _ _ hf1 hst hJ3)) | exact g_locR rfl (ih _ _ _ _ _ _ _ s6 s1 s7) | exact g_locR rfl (ih _ _ _ _ _ _ _ t6 t1 t7)
              · refine g_aload_n C dX6_closure_96 rfl ?_
                refine gM_arg C dX6_closure_97 ?_
                refine g_iload_n C dX6_closure_100 rfl ?_
                refine lM_arg C (by omega) dX6_closure_101 ?_
                refine g_istore_n C dX6_closure_102 (by decide) ?_
                refine g_goto C 135 dX6_closure_103 (by decide) ?_
                refine g_goto C 7 dX6_closure_135 (by decide) ?_
                first | exact g_locR rfl (ih _ _ _ _ _ _ _ hf1 hst hJ2) | (rw [ea]; exact g_locR rfl (ih _ _ _ _ _ _ _ hf1 hst hJ3)) | (rw [show best = 0 by omega] at *; exact g_locR rfl (ih _ _ _ _ _ _ _ hf1 hst hJ3)) | exact g_locR rfl (ih _ _ _ _ _ _ _ s6 s1 s7) | exact g_locR rfl (ih _ _ _ _ _ _ _ t6 t1 t7)
        · obtain ⟨hrl, hJ2⟩ := hJ.byte hc x0 x1 x2 (by omega)
          have hr0 := hJ.2.1.1
          refine g_aload_n C dX6_closure_43 rfl ?_
          refine gM_reading C dX6_closure_44 ?_
          refine g_aload_n C dX6_closure_47 rfl ?_
          refine gM_readings C dX6_closure_48 ?_
          refine g_aload_n C dX6_closure_51 rfl ?_
          refine gM_arg C dX6_closure_52 ?_
          refine g_iload_n C dX6_closure_55 rfl ?_
          refine lM_arg C (by omega) dX6_closure_56 ?_
          refine sM_reading C (by have := hc.1; omega) dX6_closure_57 ?_
          refine g_aload_n C dX6_closure_58 rfl ?_
          refine g_dup C dX6_closure_59 rfl ?_
          refine gM_readings C dX6_closure_60 ?_
          refine g_iconst C dX6_closure_63 ?_
          refine g_iadd C dX6_closure_64 ?_
          refine pM_readings C dX6_closure_65 ?_
          refine g_goto C 135 dX6_closure_68 (by decide) ?_
          refine g_goto C 7 dX6_closure_135 (by decide) ?_
          first | exact g_locR rfl (ih _ _ _ _ _ _ _ hf1 hst hJ2) | (rw [ea]; exact g_locR rfl (ih _ _ _ _ _ _ _ hf1 hst hJ3)) | (rw [show best = 0 by omega] at *; exact g_locR rfl (ih _ _ _ _ _ _ _ hf1 hst hJ3)) | exact g_locR rfl (ih _ _ _ _ _ _ _ s6 s1 s7) | exact g_locR rfl (ih _ _ _ _ _ _ _ t6 t1 t7)
  refine g_iconst C dX6_closure_0 ?_
  refine g_istore_n C dX6_closure_1 (by decide) ?_
  refine g_aload_n C dX6_closure_2 rfl ?_
  refine g_iconst C dX6_closure_3 ?_
  refine pM_readings C dX6_closure_4 ?_
  exact g_locR rfl (lp _ _ _ _ _ _ _ _ (Nat.le_refl _) hst hI)
