/-! Model: land, parse -/
theorem cM_land {Z : Zk} {wr : va_W} {a : Nat → Nat} {tape : Int → Int} {taped : Int} {place : Int} {thrown : Int} {r_op : Nat} {no : Nat} {op : Int → Int} {r_arg : Nat} {arg : Int → Int} {many : Int} {low : Int → Int64} {high : Int → Int64} {masks : Int} {cur : Int} {readLow : Int64} {readHigh : Int64} {group : Int → Int} {choice : Int → Int} {chain : Int → Int} {hasEmpty : Int → Bool} {sset : Int → Int64} {label : Int → Int} {next : Int → Int} {states : Int} {r_stamp : Nat} {ns : Nat} {stamp : Int → Int} {r_stack : Nat} {stack : Int → Int} {stamps : Int} {piled : Int} {reading : Int → Int} {readings : Int} {wher : Int → Int} {built : Int → Int64} {heads : Int → Int} {chained : Int → Int} {isE : Bool} {lives : Int → Bool} {kind : Int → Int} {newKind : Int → Int} {first : Int → Int} {kinds : Int} {leads : Int → Int} {sideStates : Int → Int} {ends : Int → Bool} {text : Int → Int} {textLong : Int} {queue : Int → Int} {frm : Int → Int} {by_ : Int → Int} {ways : Int → Int64} {before : Int → Int64} {d : Int} {As : List PV} (d0 : 0 ≤ d) (d1 : d ≤ 40) (hp : Pend op arg (group d) (-1) As (choice d) (chain d)) (g0 : 0 ≤ group d) (cm : choice d ≤ many) (m1 : many ≤ (no : Int)) (n1 : no ≤ 8192) : Ct Z yX6_land hX6_land 1 60 [.ref (a 0), vI d] (wM Z a tape taped place thrown r_op no op r_arg arg many low high masks cur readLow readHigh group choice chain hasEmpty sset label next states r_stamp ns stamp r_stack stack stamps piled reading readings wher built heads chained isE lives kind newKind first kinds leads sideStates ends text textLong queue frm by_ ways before ++ wr) 0 0 (Rv fun w => ∃ arg1, LdR op arg arg1 many (group d) As (choice d) ∧ w = wM Z a tape taped place thrown r_op no op r_arg arg1 many low high masks cur readLow readHigh group choice chain hasEmpty sset label next states r_stamp ns stamp r_stack stack stamps piled reading readings wher built heads chained isE lives kind newKind first kinds leads sideStates ends text textLong queue frm by_ ways before ++ wr) := by
  refine Ct.of RX6 "land" (by decide +kernel) rfl rfl hkX6_land (Nat.le_of_ble_eq_true rfl) (fun X hZ C => ?_)
  subst hZ
  have lp : ∀ (As : List PV) (g prev ch : Int), 0 ≤ g → -1 ≤ prev → prev < g → Pend op arg g prev As (choice d) ch → (∀ arg2, LdR op arg arg2 many g As (choice d) → G X 4 0 0 (wM X.Z a tape taped place thrown r_op no op r_arg arg2 many low high masks cur readLow readHigh group choice chain hasEmpty sset label next states r_stamp ns stamp r_stack stack stamps piled reading readings wher built heads chained isE lives kind newKind first kinds leads sideStates ends text textLong queue frm by_ ways before ++ wr) 7 [(0, .ref (a 0)), (1, vI d), (2, vI prev)] []) → G X 4 0 0 (wM X.Z a tape taped place thrown r_op no op r_arg arg many low high masks cur readLow readHigh group choice chain hasEmpty sset label next states r_stamp ns stamp r_stack stack stamps piled reading readings wher built heads chained isE lives kind newKind first kinds leads sideStates ends text textLong queue frm by_ ways before ++ wr) 7 [(0, .ref (a 0)), (1, vI d), (2, vI ch)] [] := by
    intro As
    induction As with
    | nil =>
      intro g prev ch g0 p0 p1 hp hk
      obtain ⟨e1, e2⟩ := hp
      have h2 := hk arg (by rw [e1]; exact LdR.nil)
      rw [e2]
      exact h2
    | cons A As ih =>
      intro g prev ch g0 p0 p1 hp hk
      obtain ⟨m, q1, q2, q3, q4, q5, q6, q7⟩ := hp
      have hl := Pend.le q7
      refine ih (m + 1) m ch (by omega) (by omega) (by omega) q7 (fun arg2 hL => ?_)
      have e : arg2 m = prev := by rw [hL.1 m (by omega)]; exact q6
      have h2 : G X 4 0 0 (wM X.Z a tape taped place thrown r_op no op r_arg (up arg2 m (many - m)) many low high masks cur readLow readHigh group choice chain hasEmpty sset label next states r_stamp ns stamp r_stack stack stamps piled reading readings wher built heads chained isE lives kind newKind first kinds leads sideStates ends text textLong queue frm by_ ways before ++ wr) 7 [(0, .ref (a 0)), (1, vI d), (2, vI (arg2 m))] [] := by
        rw [e]
        exact hk _ (LdR.cons q1 q2 q3 q4 q5 q7 cm hL)
      refine g_iload_n C dX6_land_7 rfl ?_
      refine g_iconst C dX6_land_8 ?_
      refine g_icmp_eq C 36 dX6_land_9 (by decide) (by omega) (fun h9 => ?_) (fun h9 => ?_)
      · exact absurd h9 (by omega)
      · refine g_aload_n C dX6_land_12 rfl ?_
        refine gM_arg C dX6_land_13 ?_
        refine g_iload_n C dX6_land_16 rfl ?_
        refine lM_arg C (by omega) dX6_land_17 ?_
        refine g_istore_n C dX6_land_18 (by decide) ?_
        refine g_aload_n C dX6_land_19 rfl ?_
        refine gM_arg C dX6_land_20 ?_
        refine g_iload_n C dX6_land_23 rfl ?_
        refine g_aload_n C dX6_land_24 rfl ?_
        refine gM_many C dX6_land_25 ?_
        refine g_iload_n C dX6_land_28 rfl ?_
        refine g_isub C dX6_land_29 ?_
        refine sM_arg C (by omega) dX6_land_30 ?_
        refine g_iload_n C dX6_land_31 rfl ?_
        refine g_istore_n C dX6_land_32 (by decide) ?_
        refine g_goto C 7 dX6_land_33 (by decide) ?_
        exact g_locR rfl h2
  have hl := Pend.le hp
  refine g_aload_n C dX6_land_0 rfl ?_
  refine gM_chain C dX6_land_1 ?_
  refine g_iload_n C dX6_land_4 rfl ?_
  refine lM_chain C (by omega) dX6_land_5 ?_
  refine g_istore_n C dX6_land_6 (by decide) ?_
  refine g_locR rfl (lp As (group d) (-1) (chain d) g0 (by decide) (by omega) hp (fun arg2 hL => ?_))
  have h2 : G X 4 0 0 (wM X.Z a tape taped place thrown r_op no op r_arg arg2 many low high masks cur readLow readHigh group choice chain hasEmpty sset label next states r_stamp ns stamp r_stack stack stamps piled reading readings wher built heads chained isE lives kind newKind first kinds leads sideStates ends text textLong queue frm by_ ways before ++ wr) 36 [(0, .ref (a 0)), (1, vI d), (2, vI (-1))] [] := g_vret C rfl ⟨rfl, arg2, hL, rfl⟩ dX6_land_36
  refine g_iload_n C dX6_land_7 rfl ?_
  refine g_iconst C dX6_land_8 ?_
  exact g_icmp_eq C 36 dX6_land_9 (by decide) (by decide) (fun _ => h2) (fun h => absurd rfl h)
theorem chcL_err {t : Int → Int} {n : Int} : ∀ (f : Nat) (i : Int) (lo hi : Int64) (e : Int), 0 ≤ i → i ≤ n → chcL t n f i lo hi = .error e → 0 ≤ e ∧ e ≤ n := by
  intro f
  induction f with
  | zero => intro i lo hi e h0 h1 h; cases h; exact ⟨h0, h1⟩
  | succ f ih =>
    intro i lo hi e h0 h1 h
    unfold chcL at h
    split at h
    · next ho =>
      have hl := chrOk_lt ho
      split at h
      · next hc =>
        have hl2 := chr_lt (t := t) (n := n) (i := chrN t n i) (by omega)
        split at h
        · next ho2 =>
          have hl3 := chrOk_lt ho2
          split at h
          · cases h; omega
          · split at h
            · cases h
            · exact ih _ _ _ _ (by omega) (by omega) h
        · cases h
          exact chrE_r (by omega) (by omega)
      · split at h
        · cases h
        · exact ih _ _ _ _ (by omega) (by omega) h
    · cases h
      exact chrE_r h0 h1
theorem sngl_err {t : Int → Int} {n i e : Int} (i0 : 0 ≤ i) (i1 : i < n) (h : sngl t n i = .error e) : 0 ≤ e ∧ e ≤ n := by
  unfold sngl at h
  split at h
  · unfold clsR at h
    split at h
    · next hc =>
      have hl := chr_lt (t := t) (n := n) (i := i + 1) (by omega)
      generalize hq : chcL t n ((n - i).toNat + 1) (i + 2) 0 0 = q at h
      rcases q with e2 | ⟨j, l, hh⟩
      · cases h; exact chcL_err _ _ _ _ _ (by omega) (by omega) hq
      · cases h
    · generalize hq : chcL t n ((n - i).toNat + 1) (i + 1) 0 0 = q at h
      rcases q with e2 | ⟨j, l, hh⟩
      · cases h; exact chcL_err _ _ _ _ _ (by omega) (by omega) hq
      · cases h
  · split at h
    · cases h
    · split at h
      · cases h
      · cases h
        exact chrE_r i0 (by omega)
/-- what the reading of a pattern leaves -/
def ParR (R : Rs) (n num r : Int) (op arg : Int → Int) (many masks : Int) (no : Nat) (low high : Int → Int64) : Prop := match R with
  | .error e => r = e ∧ 0 ≤ e ∧ e ≤ n
  | .ok (s1, B) => r = -1 ∧ s1.N = masks ∧ s1.lo = low ∧ s1.hi = high ∧ (0 ≤ masks ∧ masks ≤ 400) ∧ ∃ m, many = m + 1 ∧ 0 ≤ m ∧ m ≤ 4096 ∧ RepA op arg 0 m B ∧ op m = 3 ∧ arg m = num ∧ BytOk op arg m masks ∧ many ≤ (no : Int)
theorem gK {many : Int} {no : Nat} (h1 : 256 ≤ no) (h2 : no ≤ 8192) (hm : many ≤ 4096) (hn : many ≤ (no : Int)) : (no / 64 + gC many no ≤ 130 ∧ 4 * no + gS many no ≤ 32768) ∧ (no / 64 + gC many no ≤ gN many no / 64 ∧ 4 * no + gS many no ≤ 4 * gN many no) ∧ 256 ≤ gN many no ∧ gN many no ≤ 8192 ∧ many < (gN many no : Int) := by
  unfold gC gS gN
  split <;> omega
theorem cM_parse {Z : Zk} {wr : va_W} {a : Nat → Nat} {tape : Int → Int} {taped : Int} {place : Int} {thrown : Int} {r_op : Nat} {no : Nat} {op : Int → Int} {r_arg : Nat} {arg : Int → Int} {low : Int → Int64} {high : Int → Int64} {cur : Int} {readLow : Int64} {readHigh : Int64} {group : Int → Int} {choice : Int → Int} {chain : Int → Int} {hasEmpty : Int → Bool} {sset : Int → Int64} {label : Int → Int} {next : Int → Int} {states : Int} {r_stamp : Nat} {ns : Nat} {stamp : Int → Int} {r_stack : Nat} {stack : Int → Int} {stamps : Int} {piled : Int} {reading : Int → Int} {readings : Int} {wher : Int → Int} {built : Int → Int64} {heads : Int → Int} {chained : Int → Int} {isE : Bool} {lives : Int → Bool} {kind : Int → Int} {newKind : Int → Int} {first : Int → Int} {kinds : Int} {leads : Int → Int} {sideStates : Int → Int} {ends : Int → Bool} {text : Int → Int} {textLong : Int} {queue : Int → Int} {frm : Int → Int} {by_ : Int → Int} {ways : Int → Int64} {before : Int → Int64} {n : Int} (hT : BytT tape) (n0 : 0 ≤ n) (n1 : n ≤ 2048) (o0 : 256 ≤ no) (o1 : no ≤ 8192) : Ct Z yX6_parse hX6_parse 11 480 [.ref (a 0), vI n, vI 0] (wM Z a tape taped place thrown r_op no op r_arg arg 0 low high 0 cur readLow readHigh group choice chain hasEmpty sset label next states r_stamp ns stamp r_stack stack stamps piled reading readings wher built heads chained isE lives kind newKind first kinds leads sideStates ends text textLong queue frm by_ ways before ++ wr) 130 32768 (Ri (fun r w => ∃ r1 r2 no1 op1 arg1 many1 low1 high1 masks1 cur1 rl rh gr1 ci1 cn1 he1, (256 ≤ no1 ∧ no1 ≤ 8192) ∧ ParR (prsT tape n low high) n 0 r op1 arg1 many1 masks1 no1 low1 high1 ∧ w = wM Z a tape taped place thrown r1 no1 op1 r2 arg1 many1 low1 high1 masks1 cur1 rl rh gr1 ci1 cn1 he1 sset label next states r_stamp ns stamp r_stack stack stamps piled reading readings wher built heads chained isE lives kind newKind first kinds leads sideStates ends text textLong queue frm by_ ways before ++ wr)) := by
  refine Ct.of RX6 "parse" (by decide +kernel) rfl rfl hkX6_parse (Nat.le_of_ble_eq_true rfl) (fun X hZ C => ?_)
  subst hZ
  obtain ⟨R, hRd⟩ : ∃ R, R = prsT tape n low high := ⟨_, rfl⟩
  rw [← hRd] at C
  have ret : ∀ (r_op no : Nat) (op : Int → Int) (r_arg : Nat) (arg : Int → Int) (many : Int) (low high : Int → Int64) (masks cur : Int) (readLow readHigh : Int64) (group choice chain : Int → Int) (hasEmpty : Int → Bool) (pc : Nat) (L : List (Nat × Value)) (k m : Nat) (r : Int), k ≤ 130 → m ≤ 32768 → decode cX6_parse pc = .ok (.ireturn, 1) → 256 ≤ no → no ≤ 8192 → ParR R n 0 r op arg many masks no low high → G X 8 k m (wM X.Z a tape taped place thrown r_op no op r_arg arg many low high masks cur readLow readHigh group choice chain hasEmpty sset label next states r_stamp ns stamp r_stack stack stamps piled reading readings wher built heads chained isE lives kind newKind first kinds leads sideStates ends text textLong queue frm by_ ways before ++ wr) pc L [vI r] := by
    intro r_op no op r_arg arg many low high masks cur readLow readHigh group choice chain hasEmpty pc L k m r hk hm hd o0 o1 hp
    refine g_widen (k' := 130) (n' := 32768) hk hm ?_
    exact g_iret C rfl ⟨_, rfl, _, _, no, op, arg, many, low, high, masks, _, _, _, _, _, _, _, ⟨o0, o1⟩, hp, rfl⟩ hd
  have fin : ∀ (r_op no : Nat) (op : Int → Int) (r_arg : Nat) (arg : Int → Int) (many : Int) (low high : Int → Int64) (masks cur : Int) (readLow readHigh : Int64) (group choice chain : Int → Int) (hasEmpty : Int → Bool) (depth atom how : Int), cur = n → 256 ≤ no → no ≤ 8192 → many ≤ (no : Int) → inR how → PC n op arg many cur masks depth → PNo tape n R op arg group choice chain hasEmpty many cur masks low high depth → G X 8 (no / 64) (4 * no) (wM X.Z a tape taped place thrown r_op no op r_arg arg many low high masks cur readLow readHigh group choice chain hasEmpty sset label next states r_stamp ns stamp r_stack stack stamps piled reading readings wher built heads chained isE lives kind newKind first kinds leads sideStates ends text textLong queue frm by_ ways before ++ wr) 47 [(0, .ref (a 0)), (1, vI n), (2, vI 0), (3, vI depth), (4, vI atom), (5, vI how)] [] := by
    intro r_op no op r_arg arg many low high masks cur readLow readHigh group choice chain hasEmpty depth atom how hcn o0 o1 mo hw hC hN
    obtain ⟨c1, c2, c3, c4, c5⟩ := hC
    have hf := hN.fin_ hcn c4.2
    have hk := gK o0 o1 (show many ≤ 4096 by omega) mo
    refine g_aload_n C dX6_parse_47 rfl ?_
    refine gM_at C dX6_parse_48 ?_
    refine g_iload_n C dX6_parse_51 rfl ?_
    refine g_icmp_ge C 546 dX6_parse_52 (by decide) (by omega) (fun h52 => ?_) (fun h52 => ?_)
    · refine g_iload_n C dX6_parse_546 rfl ?_
      refine g_if_le C 552 dX6_parse_547 (by decide) (by omega) (fun h547 => ?_) (fun h547 => ?_)
      · have ed : depth = 0 := by omega
        obtain ⟨As, Cc, B, p1, p2, p3, p4, p5, p6⟩ := hf.2 ed
        refine g_aload_n C dX6_parse_552 rfl ?_
        refine g_iconst C dX6_parse_553 ?_
        refine g_cVWv C [_] _ 0 cal_X6_91 (cM_land (d := 0) (by decide) (by decide) p1 (by omega) p3 mo o1) rfl rfl rfl rfl (Nat.le_of_ble_eq_true rfl) ⟨⟨Nat.le_of_ble_eq_true rfl, Nat.le_of_ble_eq_true rfl⟩, by show no / 64 + 0 ≤ 130; omega, by show 4 * no + 0 ≤ 32768; omega⟩ dX6_parse_554 (fun w hw554 => ?_)
        obtain ⟨arg1, hL, rfl⟩ := hw554
        refine g_aload_n C dX6_parse_557 rfl ?_
        refine g_iconst C dX6_parse_558 ?_
        refine g_iload_n C dX6_parse_559 rfl ?_
        refine g_cVWv C [_, _] _ 0 cal_X6_98 (cM_lay (by omega) mo (by omega) o1) rfl rfl rfl rfl (Nat.le_of_ble_eq_true rfl) ⟨⟨Nat.le_of_ble_eq_true rfl, Nat.le_of_ble_eq_true rfl⟩, hk.1.1, hk.1.2⟩ dX6_parse_560 (fun w hw560 => ?_)
        obtain ⟨r1, r2, op1, arg2, l1, l2, rfl⟩ := hw560
        refine g_iconst C dX6_parse_563 ?_
        have hb := c5.arg hL.2.1
        have hrep := p6 arg1 hL
        exact ret _ _ _ _ _ _ _ _ _ _ _ _ _ _ _ _ 564 _ _ _ _ (by omega) (by omega) dX6_parse_564 hk.2.2.1 hk.2.2.2.1 (by rw [p4]; exact ⟨rfl, rfl, rfl, rfl, c4, many, rfl, c3.1, by omega, hrep.congr (fun i i0 i1 => ⟨l1.1 i i0 i1, l2.1 i i0 i1⟩), l1.2, l2.2, ⟨fun i i0 i1 => by rw [l1.1 i i0 i1, l2.1 i i0 i1]; exact hb.1 i i0 i1, fun p p0 p1 => by (obtain ⟨i, i0, i1, i2, i3⟩ := hb.2.1 p p0 p1; exact ⟨i, i0, i1, by rw [l1.1 i i0 i1]; exact i2, by rw [l2.1 i i0 i1]; exact i3⟩), fun i j i0 i1 j0 j1 a b c => by (rw [l1.1 i i0 i1] at a; rw [l1.1 j j0 j1] at b; rw [l2.1 i i0 i1, l2.1 j j0 j1] at c; exact hb.2.2 i j i0 i1 j0 j1 a b c)⟩, by have := hk.2.2.2.2; omega⟩)
      · refine g_iload_n C dX6_parse_550 rfl ?_
        exact ret _ _ _ _ _ _ _ _ _ _ _ _ _ _ _ _ 551 _ _ _ _ (by omega) (by omega) dX6_parse_551 o0 o1 (by rw [hf.1 (by omega)]; exact ⟨hcn.symm, by omega, by omega⟩)
    · exact absurd h52 (by omega)
  have post0 : ∀ (cur : Int), 0 ≤ cur → cur = n → ¬ isPost (chr tape n cur) = true := by
    intro cur c0 hc
    have : chr tape n cur = -1 := by unfold chr; rw [if_neg (by omega)]
    rw [this]; decide
  have lp : ∀ (f : Nat) (r_op no : Nat) (op : Int → Int) (r_arg : Nat) (arg : Int → Int) (many : Int) (low high : Int → Int64) (masks cur : Int) (readLow readHigh : Int64) (group choice chain : Int → Int) (hasEmpty : Int → Bool) (depth atom how : Int), (n - cur).toNat ≤ f → 256 ≤ no → no ≤ 8192 → many ≤ (no : Int) → inR how → PC n op arg many cur masks depth → (atom = -1 ∧ PNo tape n R op arg group choice chain hasEmpty many cur masks low high depth ∨ (0 ≤ atom ∧ atom ≤ many) ∧ PAt tape n R op arg group choice chain hasEmpty many cur masks low high depth atom how) → G X 8 (no / 64) (4 * no) (wM X.Z a tape taped place thrown r_op no op r_arg arg many low high masks cur readLow readHigh group choice chain hasEmpty sset label next states r_stamp ns stamp r_stack stack stamps piled reading readings wher built heads chained isE lives kind newKind first kinds leads sideStates ends text textLong queue frm by_ ways before ++ wr) 47 [(0, .ref (a 0)), (1, vI n), (2, vI 0), (3, vI depth), (4, vI atom), (5, vI how)] [] := by
    intro f
    induction f with
    | zero =>
      intro r_op no op r_arg arg many low high masks cur readLow readHigh group choice chain hasEmpty depth atom how hf o0 o1 mo hw hC hS
      have hcn : cur = n := by have := hC.2.1; omega
      refine fin _ _ _ _ _ _ _ _ _ _ _ _ _ _ _ _ _ _ _ hcn o0 o1 mo hw hC ?_
      rcases hS with h | h
      · exact h.2
      · exact h.2.merge (post0 cur (by omega) hcn)
    | succ f ih =>
      intro r_op no op r_arg arg many low high masks cur readLow readHigh group choice chain hasEmpty depth atom how hf o0 o1 mo hw hC hS
      by_cases hcn : cur = n
      · refine fin _ _ _ _ _ _ _ _ _ _ _ _ _ _ _ _ _ _ _ hcn o0 o1 mo hw hC ?_
        rcases hS with h | h
        · exact h.2
        · exact h.2.merge (post0 cur (by have := hC.2.1; omega) hcn)
      obtain ⟨c1, c2, c3, c4, c5⟩ := hC
      have hlt : cur < n := by omega
      have hmc : mch tape n cur = tape cur := if_pos hlt
      have hch := mch_chr hT n1 c2.1
      rw [hmc] at hch
      have hb := hT cur c2.1 (by omega)
      have hk := gK o0 o1 (show many ≤ 4096 by omega) mo
      have hpost : isPost (chr tape n cur) = true ↔ (tape cur = 42 ∨ tape cur = 43 ∨ tape cur = 63) := by
        unfold isPost
        simp
        omega
      have hno : ¬ (tape cur = 42 ∨ tape cur = 43 ∨ tape cur = 63) → PNo tape n R op arg group choice chain hasEmpty many cur masks low high depth := by
        intro h
        rcases hS with h2 | h2
        · exact h2.2
        · exact h2.2.merge (fun hx => h (hpost.mp hx))
      have hat : -1 ≤ atom ∧ atom ≤ many := by rcases hS with h | h <;> omega
      have opn : tape cur = 40 → G X 8 (no / 64) (4 * no) (wM X.Z a tape taped place thrown r_op no op r_arg arg many low high masks cur readLow readHigh group choice chain hasEmpty sset label next states r_stamp ns stamp r_stack stack stamps piled reading readings wher built heads chained isE lives kind newKind first kinds leads sideStates ends text textLong queue frm by_ ways before ++ wr) 73 [(0, .ref (a 0)), (1, vI n), (2, vI 0), (3, vI depth), (4, vI atom), (5, vI how), (6, vI (tape cur))] [] := by
        intro hc
        have h := (hno (by omega)).open_ (by omega) hlt c4.2 c3.1
        refine g_iload_n C dX6_parse_73 rfl ?_
        refine g_bipush C dX6_parse_74 (by decide) ?_
        refine g_icmp_ne C 84 dX6_parse_76 (by decide) (by omega) (fun h76 => ?_) (fun h76 => ?_)
        · refine g_iinc C dX6_parse_84 rfl (by decide) ?_
          refine g_aload_n C dX6_parse_87 rfl ?_
          refine gM_group C dX6_parse_88 ?_
          refine g_iload_n C dX6_parse_91 rfl ?_
          refine g_aload_n C dX6_parse_92 rfl ?_
          refine gM_many C dX6_parse_93 ?_
          refine sM_group C (by omega) dX6_parse_96 ?_
          refine g_aload_n C dX6_parse_97 rfl ?_
          refine gM_choice C dX6_parse_98 ?_
          refine g_iload_n C dX6_parse_101 rfl ?_
          refine g_aload_n C dX6_parse_102 rfl ?_
          refine gM_many C dX6_parse_103 ?_
          refine sM_choice C (by omega) dX6_parse_106 ?_
          refine g_aload_n C dX6_parse_107 rfl ?_
          refine gM_chain C dX6_parse_108 ?_
          refine g_iload_n C dX6_parse_111 rfl ?_
          refine g_iconst C dX6_parse_112 ?_
          refine sM_chain C (by omega) dX6_parse_113 ?_
          refine g_aload_n C dX6_parse_114 rfl ?_
          refine gM_hasEmpty C dX6_parse_115 ?_
          refine g_iload_n C dX6_parse_118 rfl ?_
          refine g_iconst C dX6_parse_119 ?_
          refine sM_hasEmpty C false (by omega) rfl dX6_parse_120 ?_
          refine g_iconst C dX6_parse_121 ?_
          refine g_istore C dX6_parse_122 (by decide) ?_
          refine g_aload_n C dX6_parse_124 rfl ?_
          refine g_dup C dX6_parse_125 rfl ?_
          refine gM_at C dX6_parse_126 ?_
          refine g_iconst C dX6_parse_129 ?_
          refine g_iadd C dX6_parse_130 ?_
          refine pM_at C dX6_parse_131 ?_
          refine g_goto C 543 dX6_parse_134 (by decide) ?_
          refine g_goto C 47 dX6_parse_543 (by decide) ?_
          exact g_locR rfl (ih _ _ _ _ _ _ _ _ _ (cur + 1) _ _ _ _ _ _ (depth + 1) (-1) how (by omega) o0 o1 mo hw ⟨by omega, by omega, by omega, c4, c5⟩ (Or.inl ⟨rfl, h.2 (by omega)⟩))
        · refine g_aload_n C dX6_parse_79 rfl ?_
          refine gM_at C dX6_parse_80 ?_
          exact ret _ _ _ _ _ _ _ _ _ _ _ _ _ _ _ _ 83 _ _ _ _ (by omega) (by omega) dX6_parse_83 o0 o1 (by rw [h.1 (by omega)]; exact ⟨rfl, by omega, by omega⟩)
      have cls : tape cur = 41 → G X 8 (no / 64) (4 * no) (wM X.Z a tape taped place thrown r_op no op r_arg arg many low high masks cur readLow readHigh group choice chain hasEmpty sset label next states r_stamp ns stamp r_stack stack stamps piled reading readings wher built heads chained isE lives kind newKind first kinds leads sideStates ends text textLong queue frm by_ ways before ++ wr) 144 [(0, .ref (a 0)), (1, vI n), (2, vI 0), (3, vI depth), (4, vI atom), (5, vI how), (6, vI (tape cur))] [] := by
        intro hc
        obtain ⟨h1, As, p1, p2, p3, p4⟩ := (hno (by omega)).close_ (by omega) hlt c4.2
        have hl := Pend.le p1
        refine g_iload_n C dX6_parse_144 rfl ?_
        refine g_if_ne C 153 dX6_parse_145 (by decide) (by omega) (fun h145 => ?_) (fun h145 => ?_)
        · refine g_aload_n C dX6_parse_153 rfl ?_
          refine g_iload_n C dX6_parse_154 rfl ?_
          refine g_cVWv C [_] _ 0 cal_X6_91 (cM_land (d := depth) (by omega) (by omega) p1 p2 p3 mo o1) rfl rfl rfl rfl (Nat.le_of_ble_eq_true rfl) ⟨⟨Nat.le_of_ble_eq_true rfl, Nat.le_of_ble_eq_true rfl⟩, by show no / 64 + 0 ≤ 130; omega, by show 4 * no + 0 ≤ 32768; omega⟩ dX6_parse_155 (fun w hw155 => ?_)
          obtain ⟨arg1, hL, rfl⟩ := hw155
          have h2 := p4 (by omega) arg1 hL
          refine g_aload_n C dX6_parse_158 rfl ?_
          refine gM_group C dX6_parse_159 ?_
          refine g_iload_n C dX6_parse_162 rfl ?_
          refine lM_group C (by omega) dX6_parse_163 ?_
          refine g_istore C dX6_parse_164 (by decide) ?_
          refine g_iconst C dX6_parse_166 ?_
          refine g_istore C dX6_parse_167 (by decide) ?_
          refine g_iinc C dX6_parse_169 rfl (by decide) ?_
          refine g_aload_n C dX6_parse_172 rfl ?_
          refine g_dup C dX6_parse_173 rfl ?_
          refine gM_at C dX6_parse_174 ?_
          refine g_iconst C dX6_parse_177 ?_
          refine g_iadd C dX6_parse_178 ?_
          refine pM_at C dX6_parse_179 ?_
          refine g_goto C 543 dX6_parse_182 (by decide) ?_
          refine g_goto C 47 dX6_parse_543 (by decide) ?_
          exact g_locR rfl (ih _ _ _ _ _ _ _ _ _ (cur + 1) _ _ _ _ _ _ (depth - 1) (group depth) 0 (by omega) o0 o1 mo (by decide) ⟨by omega, by omega, by omega, c4, c5.arg hL.2.1⟩ (Or.inr ⟨⟨p2, h2.2⟩, h2.1⟩))
        · refine g_aload_n C dX6_parse_148 rfl ?_
          refine gM_at C dX6_parse_149 ?_
          exact ret _ _ _ _ _ _ _ _ _ _ _ _ _ _ _ _ 152 _ _ _ _ (by omega) (by omega) dX6_parse_152 o0 o1 (by rw [h1 (by omega)]; exact ⟨rfl, by omega, by omega⟩)
      have bar : tape cur = 124 → G X 8 (no / 64) (4 * no) (wM X.Z a tape taped place thrown r_op no op r_arg arg many low high masks cur readLow readHigh group choice chain hasEmpty sset label next states r_stamp ns stamp r_stack stack stamps piled reading readings wher built heads chained isE lives kind newKind first kinds leads sideStates ends text textLong queue frm by_ ways before ++ wr) 192 [(0, .ref (a 0)), (1, vI n), (2, vI 0), (3, vI depth), (4, vI atom), (5, vI how), (6, vI (tape cur))] [] := by
        intro hc
        obtain ⟨e1, e2, e3⟩ := (hno (by omega)).bar_ (by omega) hlt c4.2
        have t283 : ∀ (emp : Bool) (r_op no : Nat) (op : Int → Int) (r_arg : Nat) (arg : Int → Int) (many : Int) (choice chain : Int → Int), 256 ≤ no → no ≤ 8192 → many ≤ (no : Int) → 0 ≤ many → many ≤ 2 * (cur + 1) → BytOk op arg many masks → PNo tape n R op arg group choice chain (up hasEmpty depth (hasEmpty depth || emp)) many (cur + 1) masks low high depth → G X 8 (no / 64) (4 * no) (wM X.Z a tape taped place thrown r_op no op r_arg arg many low high masks cur readLow readHigh group choice chain hasEmpty sset label next states r_stamp ns stamp r_stack stack stamps piled reading readings wher built heads chained isE lives kind newKind first kinds leads sideStates ends text textLong queue frm by_ ways before ++ wr) 283 [(0, .ref (a 0)), (1, vI n), (2, vI 0), (3, vI depth), (4, vI atom), (5, vI how), (6, vI (tape cur)), (7, vI (b2 emp))] [] := by
          intro emp r_op no op r_arg arg many choice chain o0 o1 mo m0 m2 hB hN
          obtain ⟨hb9, hbd⟩ : ∃ x, x = (hasEmpty depth || emp) := ⟨_, rfl⟩
          rw [← hbd] at hN
          refine g_aload_n C dX6_parse_283 rfl ?_
          refine gM_hasEmpty C dX6_parse_284 ?_
          refine g_iload_n C dX6_parse_287 rfl ?_
          refine g_aload_n C dX6_parse_288 rfl ?_
          refine gM_hasEmpty C dX6_parse_289 ?_
          refine g_iload_n C dX6_parse_292 rfl ?_
          refine lM_hasEmpty C (by omega) dX6_parse_293 ?_
          refine g_if_ne C 302 dX6_parse_294 (by decide) (b2_r _) (fun h294 => ?_) (fun h294 => ?_)
          · refine g_iconst C dX6_parse_302 ?_
            refine g_goto C 307 dX6_parse_303 (by decide) ?_
            refine sM_hasEmpty C hb9 (by omega) (by rw [hbd]; first | (rw [(b2_0 _).mp h294, (b2_ne0 _).mp h299]; rfl) | (rw [(b2_0 _).mp h294, (b2_0 _).mp h299]; rfl) | (rw [(b2_ne0 _).mp h294]; rfl)) dX6_parse_307 ?_
            refine g_iconst C dX6_parse_308 ?_
            refine g_istore C dX6_parse_309 (by decide) ?_
            refine g_aload_n C dX6_parse_311 rfl ?_
            refine g_dup C dX6_parse_312 rfl ?_
            refine gM_at C dX6_parse_313 ?_
            refine g_iconst C dX6_parse_316 ?_
            refine g_iadd C dX6_parse_317 ?_
            refine pM_at C dX6_parse_318 ?_
            refine g_goto C 543 dX6_parse_321 (by decide) ?_
            refine g_goto C 47 dX6_parse_543 (by decide) ?_
            exact g_locR rfl (ih _ _ _ _ _ _ _ _ _ (cur + 1) _ _ _ _ _ _ depth (-1) how (by omega) o0 o1 mo hw ⟨c1, by omega, ⟨m0, m2⟩, c4, hB⟩ (Or.inl ⟨rfl, hN⟩))
          · refine g_iload C dX6_parse_297 rfl ?_
            refine g_if_eq C 306 dX6_parse_299 (by decide) (b2_r _) (fun h299 => ?_) (fun h299 => ?_)
            · refine g_iconst C dX6_parse_306 ?_
              refine sM_hasEmpty C hb9 (by omega) (by rw [hbd]; first | (rw [(b2_0 _).mp h294, (b2_ne0 _).mp h299]; rfl) | (rw [(b2_0 _).mp h294, (b2_0 _).mp h299]; rfl) | (rw [(b2_ne0 _).mp h294]; rfl)) dX6_parse_307 ?_
              refine g_iconst C dX6_parse_308 ?_
              refine g_istore C dX6_parse_309 (by decide) ?_
              refine g_aload_n C dX6_parse_311 rfl ?_
              refine g_dup C dX6_parse_312 rfl ?_
              refine gM_at C dX6_parse_313 ?_
              refine g_iconst C dX6_parse_316 ?_
              refine g_iadd C dX6_parse_317 ?_
              refine pM_at C dX6_parse_318 ?_
              refine g_goto C 543 dX6_parse_321 (by decide) ?_
              refine g_goto C 47 dX6_parse_543 (by decide) ?_
              exact g_locR rfl (ih _ _ _ _ _ _ _ _ _ (cur + 1) _ _ _ _ _ _ depth (-1) how (by omega) o0 o1 mo hw ⟨c1, by omega, ⟨m0, m2⟩, c4, hB⟩ (Or.inl ⟨rfl, hN⟩))
            · refine g_iconst C dX6_parse_302 ?_
              refine g_goto C 307 dX6_parse_303 (by decide) ?_
              refine sM_hasEmpty C hb9 (by omega) (by rw [hbd]; first | (rw [(b2_0 _).mp h294, (b2_ne0 _).mp h299]; rfl) | (rw [(b2_0 _).mp h294, (b2_0 _).mp h299]; rfl) | (rw [(b2_ne0 _).mp h294]; rfl)) dX6_parse_307 ?_
              refine g_iconst C dX6_parse_308 ?_
              refine g_istore C dX6_parse_309 (by decide) ?_
              refine g_aload_n C dX6_parse_311 rfl ?_
              refine g_dup C dX6_parse_312 rfl ?_
              refine gM_at C dX6_parse_313 ?_
              refine g_iconst C dX6_parse_316 ?_
              refine g_iadd C dX6_parse_317 ?_
              refine pM_at C dX6_parse_318 ?_
              refine g_goto C 543 dX6_parse_321 (by decide) ?_
              refine g_goto C 47 dX6_parse_543 (by decide) ?_
              exact g_locR rfl (ih _ _ _ _ _ _ _ _ _ (cur + 1) _ _ _ _ _ _ depth (-1) how (by omega) o0 o1 mo hw ⟨c1, by omega, ⟨m0, m2⟩, c4, hB⟩ (Or.inl ⟨rfl, hN⟩))
        have t226 : ∀ (emp : Bool), (emp = true → many = choice depth) → G X 8 (no / 64) (4 * no) (wM X.Z a tape taped place thrown r_op no op r_arg arg many low high masks cur readLow readHigh group choice chain hasEmpty sset label next states r_stamp ns stamp r_stack stack stamps piled reading readings wher built heads chained isE lives kind newKind first kinds leads sideStates ends text textLong queue frm by_ ways before ++ wr) 226 [(0, .ref (a 0)), (1, vI n), (2, vI 0), (3, vI depth), (4, vI atom), (5, vI how), (6, vI (tape cur)), (7, vI (b2 emp))] [] := by
          intro emp he
          refine g_aload_n C dX6_parse_226 rfl ?_
          refine g_aload_n C dX6_parse_227 rfl ?_
          refine gM_choice C dX6_parse_228 ?_
          refine g_iload_n C dX6_parse_231 rfl ?_
          refine lM_choice C (by omega) dX6_parse_232 ?_
          refine g_iconst C dX6_parse_233 ?_
          refine g_aload_n C dX6_parse_234 rfl ?_
          refine gM_many C dX6_parse_235 ?_
          refine g_aload_n C dX6_parse_238 rfl ?_
          refine gM_choice C dX6_parse_239 ?_
          refine g_iload_n C dX6_parse_242 rfl ?_
          refine lM_choice C (by omega) dX6_parse_243 ?_
          refine g_isub C dX6_parse_244 ?_
          refine g_iconst C dX6_parse_245 ?_
          refine g_iadd C dX6_parse_246 ?_
          refine g_cVWv C [_, _, _] _ 0 cal_X6_94 (cM_insert e1.1 e1.2 mo (by omega) o1) rfl rfl rfl rfl (Nat.le_of_ble_eq_true rfl) ⟨⟨Nat.le_of_ble_eq_true rfl, Nat.le_of_ble_eq_true rfl⟩, hk.1.1, hk.1.2⟩ dX6_parse_247 (fun w hw247 => ?_)
          obtain ⟨r1, r2, op1, arg1, i1, i2, rfl⟩ := hw247
          have hk2 := gK hk.2.2.1 hk.2.2.2.1 (show many + 1 ≤ 4096 by omega) (show many + 1 ≤ (gN many no : Int) by have := hk.2.2.2.2; omega)
          refine g_widen hk.2.1.1 hk.2.1.2 ?_
          refine g_aload_n C dX6_parse_250 rfl ?_
          refine g_iconst C dX6_parse_251 ?_
          refine g_aload_n C dX6_parse_252 rfl ?_
          refine gM_chain C dX6_parse_253 ?_
          refine g_iload_n C dX6_parse_256 rfl ?_
          refine lM_chain C (by omega) dX6_parse_257 ?_
          refine g_cVWv C [_, _] _ 0 cal_X6_98 (cM_lay (by omega) (show many + 1 ≤ (gN many no : Int) by have := hk.2.2.2.2; omega) (by have := hk.2.2.1; omega) hk.2.2.2.1) rfl rfl rfl rfl (Nat.le_of_ble_eq_true rfl) ⟨⟨Nat.le_of_ble_eq_true rfl, Nat.le_of_ble_eq_true rfl⟩, hk2.1.1, hk2.1.2⟩ dX6_parse_258 (fun w hw258 => ?_)
          obtain ⟨r3, r4, op2, arg2, l1, l2, rfl⟩ := hw258
          refine g_widen hk2.2.1.1 hk2.2.1.2 ?_
          refine g_aload_n C dX6_parse_261 rfl ?_
          refine gM_chain C dX6_parse_262 ?_
          refine g_iload_n C dX6_parse_265 rfl ?_
          refine g_aload_n C dX6_parse_266 rfl ?_
          refine gM_many C dX6_parse_267 ?_
          refine g_iconst C dX6_parse_270 ?_
          refine g_isub C dX6_parse_271 ?_
          refine sM_chain C (by omega) dX6_parse_272 ?_
          refine g_aload_n C dX6_parse_273 rfl ?_
          refine gM_choice C dX6_parse_274 ?_
          refine g_iload_n C dX6_parse_277 rfl ?_
          refine g_aload_n C dX6_parse_278 rfl ?_
          refine gM_many C dX6_parse_279 ?_
          refine sM_choice C (by omega) dX6_parse_282 ?_
          rw [show many + 1 + 1 - 1 = many + 1 by omega, show many + 1 + 1 = many + 2 by omega]
          have hB := ((c5.ins e1.1 e1.2 i1 i2 (Or.inl rfl)).lay (by omega) l1 l2 (Or.inr rfl))
          rw [show many + 1 + 1 = many + 2 by omega] at hB
          exact g_locR rfl (t283 emp _ _ _ _ _ _ _ _ hk2.2.2.1 hk2.2.2.2.1 (by have := hk2.2.2.2.2; omega) (by omega) (by omega) hB (e3 op1 arg1 op2 arg2 _ i1 i2 l1 l2 (fun hx => by (cases hh : hasEmpty depth with | true => exact Or.inl rfl | false => (rw [hh] at hx; exact Or.inr (he hx))))))
        refine g_aload_n C dX6_parse_192 rfl ?_
        refine gM_many C dX6_parse_193 ?_
        refine g_aload_n C dX6_parse_196 rfl ?_
        refine gM_choice C dX6_parse_197 ?_
        refine g_iload_n C dX6_parse_200 rfl ?_
        refine lM_choice C (by omega) dX6_parse_201 ?_
        refine g_icmp_ne C 209 dX6_parse_202 (by decide) (by omega) (fun h202 => ?_) (fun h202 => ?_)
        · refine g_iconst C dX6_parse_209 ?_
          refine g_istore C dX6_parse_210 (by decide) ?_
          refine g_iload C dX6_parse_212 rfl ?_
          exact g_if_eq C 226 dX6_parse_214 (by decide) (by decide) (fun _ => g_locR rfl (t226 false (fun h => by cases h))) (fun h => absurd rfl h)
        · refine g_iconst C dX6_parse_205 ?_
          refine g_goto C 210 dX6_parse_206 (by decide) ?_
          refine g_istore C dX6_parse_210 (by decide) ?_
          refine g_iload C dX6_parse_212 rfl ?_
          refine g_if_eq C 226 dX6_parse_214 (by decide) (by omega) (fun h214 => ?_) (fun h214 => ?_)
          · exact absurd h214 (by decide)
          · refine g_aload_n C dX6_parse_217 rfl ?_
            refine gM_hasEmpty C dX6_parse_218 ?_
            refine g_iload_n C dX6_parse_221 rfl ?_
            refine lM_hasEmpty C (by omega) dX6_parse_222 ?_
            refine g_if_ne C 283 dX6_parse_223 (by decide) (b2_r _) (fun h223 => ?_) (fun h223 => ?_)
            · have hh := (b2_ne0 _).mp h223
              exact g_locR rfl (t283 true _ _ _ _ _ _ _ _ o0 o1 mo c3.1 (by omega) c5 (e2 (by omega) hh _ (by rw [hh]; rfl)))
            · exact g_locR rfl (t226 true (fun _ => by omega))
      have rep : (tape cur = 42 ∨ tape cur = 43 ∨ tape cur = 63) → G X 8 (no / 64) (4 * no) (wM X.Z a tape taped place thrown r_op no op r_arg arg many low high masks cur readLow readHigh group choice chain hasEmpty sset label next states r_stamp ns stamp r_stack stack stamps piled reading readings wher built heads chained isE lives kind newKind first kinds leads sideStates ends text textLong queue frm by_ ways before ++ wr) 345 [(0, .ref (a 0)), (1, vI n), (2, vI 0), (3, vI depth), (4, vI atom), (5, vI how), (6, vI (tape cur))] [] := by
        intro hcc
        have t453 : ∀ (r_op no : Nat) (op : Int → Int) (r_arg : Nat) (arg : Int → Int) (many how : Int) (L : List (Nat × Value)), 256 ≤ no → no ≤ 8192 → many ≤ (no : Int) → 0 ≤ many → many ≤ 2 * (cur + 1) → inR how → 0 ≤ atom → atom ≤ many → BytOk op arg many masks → PAt tape n R op arg group choice chain hasEmpty many (cur + 1) masks low high depth atom how → G X 8 (no / 64) (4 * no) (wM X.Z a tape taped place thrown r_op no op r_arg arg many low high masks cur readLow readHigh group choice chain hasEmpty sset label next states r_stamp ns stamp r_stack stack stamps piled reading readings wher built heads chained isE lives kind newKind first kinds leads sideStates ends text textLong queue frm by_ ways before ++ wr) 453 [(0, .ref (a 0)), (1, vI n), (2, vI 0), (3, vI depth), (4, vI atom), (5, vI how)] [] := by
          intro r_op no op r_arg arg many how L o0 o1 mo m0 m2 hw a0 a1 hB hN
          refine g_aload_n C dX6_parse_453 rfl ?_
          refine g_dup C dX6_parse_454 rfl ?_
          refine gM_at C dX6_parse_455 ?_
          refine g_iconst C dX6_parse_458 ?_
          refine g_iadd C dX6_parse_459 ?_
          refine pM_at C dX6_parse_460 ?_
          refine g_goto C 543 dX6_parse_463 (by decide) ?_
          refine g_goto C 47 dX6_parse_543 (by decide) ?_
          exact g_locR rfl (ih _ _ _ _ _ _ _ _ _ (cur + 1) _ _ _ _ _ _ depth atom how (by omega) o0 o1 mo hw ⟨c1, by omega, ⟨m0, m2⟩, c4, hB⟩ (Or.inr ⟨⟨a0, a1⟩, hN⟩))
        have t439 : ∀ (r_op no : Nat) (op : Int → Int) (r_arg : Nat) (arg : Int → Int) (many : Int), 256 ≤ no → no ≤ 8192 → many ≤ (no : Int) → 0 ≤ many → many ≤ 2 * (cur + 1) → 0 ≤ atom → atom ≤ many → BytOk op arg many masks → PAt tape n R op arg group choice chain hasEmpty many (cur + 1) masks low high depth atom (if how = 0 then tape cur else 42) → G X 8 (no / 64) (4 * no) (wM X.Z a tape taped place thrown r_op no op r_arg arg many low high masks cur readLow readHigh group choice chain hasEmpty sset label next states r_stamp ns stamp r_stack stack stamps piled reading readings wher built heads chained isE lives kind newKind first kinds leads sideStates ends text textLong queue frm by_ ways before ++ wr) 439 [(0, .ref (a 0)), (1, vI n), (2, vI 0), (3, vI depth), (4, vI atom), (5, vI how), (6, vI (tape cur))] [] := by
          intro r_op no op r_arg arg many o0 o1 mo m0 m2 a0 a1 hB hN
          refine g_iload C dX6_parse_439 rfl ?_
          refine g_if_ne C 449 dX6_parse_441 (by decide) (by omega) (fun h441 => ?_) (fun h441 => ?_)
          · rw [if_neg h441] at hN
            refine g_bipush C dX6_parse_449 (by decide) ?_
            refine g_istore C dX6_parse_451 (by decide) ?_
            exact g_locR rfl (t453 _ _ _ _ _ _ _ [] o0 o1 mo m0 m2 (by omega) a0 a1 hB hN)
          · rw [if_pos (by omega)] at hN
            refine g_iload C dX6_parse_444 rfl ?_
            refine g_goto C 451 dX6_parse_446 (by decide) ?_
            refine g_istore C dX6_parse_451 (by decide) ?_
            exact g_locR rfl (t453 _ _ _ _ _ _ _ [] o0 o1 mo m0 m2 (by omega) a0 a1 hB hN)
        rcases hS with hS | ⟨⟨ha0, ha1⟩, hP⟩
        · have hR := hS.2.rep0 (hpost.mpr hcc) hlt c4.2
          refine g_iload C dX6_parse_345 rfl ?_
          refine g_iconst C dX6_parse_347 ?_
          refine g_icmp_ne C 356 dX6_parse_348 (by decide) (by omega) (fun h348 => ?_) (fun h348 => ?_)
          · exact absurd hS.1 h348
          · refine g_aload_n C dX6_parse_351 rfl ?_
            refine gM_at C dX6_parse_352 ?_
            exact ret _ _ _ _ _ _ _ _ _ _ _ _ _ _ _ _ 355 _ _ _ _ (by omega) (by omega) dX6_parse_355 o0 o1 (by rw [hR]; exact ⟨rfl, by omega, by omega⟩)
        · obtain ⟨hh, r1, r2⟩ := hP.rep_ ha0 (c := tape cur) (by omega) hcc
          have t419a : how ≠ 42 → how ≠ tape cur → tape cur = 42 → G X 8 (no / 64) (4 * no) (wM X.Z a tape taped place thrown r_op no op r_arg arg many low high masks cur readLow readHigh group choice chain hasEmpty sset label next states r_stamp ns stamp r_stack stack stamps piled reading readings wher built heads chained isE lives kind newKind first kinds leads sideStates ends text textLong queue frm by_ ways before ++ wr) 419 [(0, .ref (a 0)), (1, vI n), (2, vI 0), (3, vI depth), (4, vI atom), (5, vI how), (6, vI (tape cur)), (7, vI (many - atom))] [vI (many - atom + 2), vI 1, vI atom, .ref (a 0)] := by
            intro h1 h2 hc
            refine g_cVWv C [_, _, _] _ 0 cal_X6_94 (cM_insert ha0 ha1 mo (by omega) o1) rfl rfl rfl rfl (Nat.le_of_ble_eq_true rfl) ⟨⟨Nat.le_of_ble_eq_true rfl, Nat.le_of_ble_eq_true rfl⟩, hk.1.1, hk.1.2⟩ dX6_parse_419 (fun w hw419 => ?_)
            obtain ⟨q1, q2, op1, arg1, i1, i2, rfl⟩ := hw419
            have hk2 := gK hk.2.2.1 hk.2.2.2.1 (show many + 1 ≤ 4096 by omega) (show many + 1 ≤ (gN many no : Int) by have := hk.2.2.2.2; omega)
            refine g_widen hk.2.1.1 hk.2.1.2 ?_
            refine g_iload C dX6_parse_422 rfl ?_
            refine g_bipush C dX6_parse_424 (by decide) ?_
            refine g_icmp_ne C 439 dX6_parse_426 (by decide) (by omega) (fun h426 => ?_) (fun h426 => ?_)
            · exact absurd hc h426
            · refine g_aload_n C dX6_parse_429 rfl ?_
              refine g_iconst C dX6_parse_430 ?_
              refine g_iload C dX6_parse_431 rfl ?_
              refine g_ineg C dX6_parse_433 ?_
              refine g_iconst C dX6_parse_434 ?_
              refine g_isub C dX6_parse_435 ?_
              refine g_cVWv C [_, _] _ 0 cal_X6_98 (cM_lay (by omega) (show many + 1 ≤ (gN many no : Int) by have := hk.2.2.2.2; omega) (by have := hk.2.2.1; omega) hk.2.2.2.1) rfl rfl rfl rfl (Nat.le_of_ble_eq_true rfl) ⟨⟨Nat.le_of_ble_eq_true rfl, Nat.le_of_ble_eq_true rfl⟩, hk2.1.1, hk2.1.2⟩ dX6_parse_436 (fun w hw436 => ?_)
              obtain ⟨q3, q4, op2, arg2, l1, l2, rfl⟩ := hw436
              refine g_widen hk2.2.1.1 hk2.2.1.2 ?_
              have hB := ((c5.ins ha0 ha1 i1 i2 (Or.inl rfl)).lay (by omega) l1 l2 (Or.inr rfl))
              rw [show many + 1 + 1 = many + 2 by omega] at hB
              rw [show many + 1 + 1 = many + 2 by omega]
              exact g_locR rfl (t439 _ _ _ _ _ _ hk2.2.2.1 hk2.2.2.2.1 (by have := hk2.2.2.2.2; omega) (by omega) (by omega) ha0 (by omega) hB ((r2 h1 h2).2.2 hc op1 arg1 op2 arg2 i1 i2 l1 l2))
          have t419b : how ≠ 42 → how ≠ tape cur → tape cur = 63 → G X 8 (no / 64) (4 * no) (wM X.Z a tape taped place thrown r_op no op r_arg arg many low high masks cur readLow readHigh group choice chain hasEmpty sset label next states r_stamp ns stamp r_stack stack stamps piled reading readings wher built heads chained isE lives kind newKind first kinds leads sideStates ends text textLong queue frm by_ ways before ++ wr) 419 [(0, .ref (a 0)), (1, vI n), (2, vI 0), (3, vI depth), (4, vI atom), (5, vI how), (6, vI (tape cur)), (7, vI (many - atom))] [vI (many - atom + 1), vI 1, vI atom, .ref (a 0)] := by
            intro h1 h2 hc
            refine g_cVWv C [_, _, _] _ 0 cal_X6_94 (cM_insert ha0 ha1 mo (by omega) o1) rfl rfl rfl rfl (Nat.le_of_ble_eq_true rfl) ⟨⟨Nat.le_of_ble_eq_true rfl, Nat.le_of_ble_eq_true rfl⟩, hk.1.1, hk.1.2⟩ dX6_parse_419 (fun w hw419 => ?_)
            obtain ⟨q1, q2, op1, arg1, i1, i2, rfl⟩ := hw419
            refine g_widen hk.2.1.1 hk.2.1.2 ?_
            refine g_iload C dX6_parse_422 rfl ?_
            refine g_bipush C dX6_parse_424 (by decide) ?_
            refine g_icmp_ne C 439 dX6_parse_426 (by decide) (by omega) (fun h426 => ?_) (fun h426 => ?_)
            · have hB := c5.ins ha0 ha1 i1 i2 (Or.inl rfl)
              exact g_locR rfl (t439 _ _ _ _ _ _ hk.2.2.1 hk.2.2.2.1 (by have := hk.2.2.2.2; omega) (by omega) (by omega) ha0 (by omega) hB ((r2 h1 h2).2.1 hc op1 arg1 i1 i2))
            · exact absurd h426 (by omega)
          refine g_iload C dX6_parse_345 rfl ?_
          refine g_iconst C dX6_parse_347 ?_
          refine g_icmp_ne C 356 dX6_parse_348 (by decide) (by omega) (fun h348 => ?_) (fun h348 => ?_)
          · refine g_aload_n C dX6_parse_356 rfl ?_
            refine gM_many C dX6_parse_357 ?_
            refine g_iload C dX6_parse_360 rfl ?_
            refine g_isub C dX6_parse_362 ?_
            refine g_istore C dX6_parse_363 (by decide) ?_
            refine g_iload C dX6_parse_365 rfl ?_
            refine g_bipush C dX6_parse_367 (by decide) ?_
            refine g_icmp_eq C 453 dX6_parse_369 (by decide) (by omega) (fun h369 => ?_) (fun h369 => ?_)
            · have hs : how = 42 ∨ how = tape cur := Or.inl h369
              exact g_locR rfl (t453 _ _ _ _ _ _ _ [] o0 o1 mo c3.1 (by omega) hw ha0 ha1 c5 (r1 hs))
            · refine g_iload C dX6_parse_372 rfl ?_
              refine g_iload C dX6_parse_374 rfl ?_
              refine g_icmp_eq C 453 dX6_parse_376 (by decide) (by omega) (fun h376 => ?_) (fun h376 => ?_)
              · have hs : how = 42 ∨ how = tape cur := Or.inr h376
                exact g_locR rfl (t453 _ _ _ _ _ _ _ [] o0 o1 mo c3.1 (by omega) hw ha0 ha1 c5 (r1 hs))
              · refine g_iload C dX6_parse_379 rfl ?_
                refine g_bipush C dX6_parse_381 (by decide) ?_
                refine g_icmp_ne C 397 dX6_parse_383 (by decide) (by omega) (fun h383 => ?_) (fun h383 => ?_)
                · refine g_aload_n C dX6_parse_397 rfl ?_
                  refine g_iload C dX6_parse_398 rfl ?_
                  refine g_iconst C dX6_parse_400 ?_
                  refine g_iload C dX6_parse_401 rfl ?_
                  refine g_bipush C dX6_parse_403 (by decide) ?_
                  refine g_icmp_ne C 415 dX6_parse_405 (by decide) (by omega) (fun h405 => ?_) (fun h405 => ?_)
                  · refine g_iload C dX6_parse_415 rfl ?_
                    refine g_iconst C dX6_parse_417 ?_
                    refine g_iadd C dX6_parse_418 ?_
                    first | exact g_locR rfl (t419a h369 h376 (by omega)) | exact g_locR rfl (t419b h369 h376 (by omega))
                  · refine g_iload C dX6_parse_408 rfl ?_
                    refine g_iconst C dX6_parse_410 ?_
                    refine g_iadd C dX6_parse_411 ?_
                    refine g_goto C 419 dX6_parse_412 (by decide) ?_
                    first | exact g_locR rfl (t419a h369 h376 (by omega)) | exact g_locR rfl (t419b h369 h376 (by omega))
                · refine g_aload_n C dX6_parse_386 rfl ?_
                  refine g_iconst C dX6_parse_387 ?_
                  refine g_iload C dX6_parse_388 rfl ?_
                  refine g_ineg C dX6_parse_390 ?_
                  refine g_cVWv C [_, _] _ 0 cal_X6_98 (cM_lay c3.1 mo (by omega) o1) rfl rfl rfl rfl (Nat.le_of_ble_eq_true rfl) ⟨⟨Nat.le_of_ble_eq_true rfl, Nat.le_of_ble_eq_true rfl⟩, hk.1.1, hk.1.2⟩ dX6_parse_391 (fun w hw391 => ?_)
                  obtain ⟨q1, q2, op1, arg1, l1, l2, rfl⟩ := hw391
                  refine g_widen hk.2.1.1 hk.2.1.2 ?_
                  refine g_goto C 439 dX6_parse_394 (by decide) ?_
                  exact g_locR rfl (t439 _ _ _ _ _ _ hk.2.2.1 hk.2.2.2.1 (by have := hk.2.2.2.2; omega) (by omega) (by omega) ha0 (by omega) (c5.lay c3.1 l1 l2 (Or.inl rfl)) ((r2 h369 h376).1 (by omega) op1 arg1 l1 l2))
          · exact absurd h348 (by omega)
      have chp : tape cur ≠ 40 → tape cur ≠ 41 → tape cur ≠ 124 → ¬ (tape cur = 42 ∨ tape cur = 43 ∨ tape cur = 63) → G X 8 (no / 64) (4 * no) (wM X.Z a tape taped place thrown r_op no op r_arg arg many low high masks cur readLow readHigh group choice chain hasEmpty sset label next states r_stamp ns stamp r_stack stack stamps piled reading readings wher built heads chained isE lives kind newKind first kinds leads sideStates ends text textLong queue frm by_ ways before ++ wr) 466 [(0, .ref (a 0)), (1, vI n), (2, vI 0), (3, vI depth), (4, vI atom), (5, vI how), (6, vI (tape cur))] [] := by
        intro n40 n41 n124 npo
        obtain ⟨k1, k2⟩ := (hno npo).char_ hlt c4.2 c3.1 (by omega) (by omega) (by omega)
        have t489 : ∀ (j : Int) (l hh : Int64), masks ≠ 400 → sngl tape n cur = .ok (j, l, hh) → G X 8 (no / 64) (4 * no) (wM X.Z a tape taped place thrown r_op no op r_arg arg many low high masks j l hh group choice chain hasEmpty sset label next states r_stamp ns stamp r_stack stack stamps piled reading readings wher built heads chained isE lives kind newKind first kinds leads sideStates ends text textLong queue frm by_ ways before ++ wr) 489 [(0, .ref (a 0)), (1, vI n), (2, vI 0), (3, vI depth), (4, vI atom), (5, vI how), (6, vI (tape cur))] [] := by
          intro j l hh hm hsn
          have hj := sngl_r hsn
          refine g_aload_n C dX6_parse_489 rfl ?_
          refine gM_many C dX6_parse_490 ?_
          refine g_istore C dX6_parse_493 (by decide) ?_
          refine g_iconst C dX6_parse_495 ?_
          refine g_istore C dX6_parse_496 (by decide) ?_
          refine g_aload_n C dX6_parse_498 rfl ?_
          refine gM_low C dX6_parse_499 ?_
          refine g_aload_n C dX6_parse_502 rfl ?_
          refine gM_masks C dX6_parse_503 ?_
          refine g_aload_n C dX6_parse_506 rfl ?_
          refine gM_readLow C dX6_parse_507 ?_
          refine sM_low C (by omega) dX6_parse_510 ?_
          refine g_aload_n C dX6_parse_511 rfl ?_
          refine gM_high C dX6_parse_512 ?_
          refine g_aload_n C dX6_parse_515 rfl ?_
          refine gM_masks C dX6_parse_516 ?_
          refine g_aload_n C dX6_parse_519 rfl ?_
          refine gM_readHigh C dX6_parse_520 ?_
          refine sM_high C (by omega) dX6_parse_523 ?_
          refine g_aload_n C dX6_parse_524 rfl ?_
          refine g_iconst C dX6_parse_525 ?_
          refine g_aload_n C dX6_parse_526 rfl ?_
          refine gM_masks C dX6_parse_527 ?_
          refine g_cVWv C [_, _] _ 0 cal_X6_98 (cM_lay c3.1 mo (by omega) o1) rfl rfl rfl rfl (Nat.le_of_ble_eq_true rfl) ⟨⟨Nat.le_of_ble_eq_true rfl, Nat.le_of_ble_eq_true rfl⟩, hk.1.1, hk.1.2⟩ dX6_parse_530 (fun w hw530 => ?_)
          obtain ⟨q1, q2, op1, arg1, l1, l2, rfl⟩ := hw530
          refine g_widen hk.2.1.1 hk.2.1.2 ?_
          refine g_aload_n C dX6_parse_533 rfl ?_
          refine g_dup C dX6_parse_534 rfl ?_
          refine gM_masks C dX6_parse_535 ?_
          refine g_iconst C dX6_parse_538 ?_
          refine g_iadd C dX6_parse_539 ?_
          refine pM_masks C dX6_parse_540 ?_
          refine g_goto C 47 dX6_parse_543 (by decide) ?_
          exact g_locR rfl (ih _ _ _ _ _ _ _ _ _ j _ _ _ _ _ _ depth many 0 (by omega) hk.2.2.1 hk.2.2.2.1 (by have := hk.2.2.2.2; omega) (by decide) ⟨c1, by omega, by omega, by omega, c5.byte c3.1 c4.1 l1 l2⟩ (Or.inr ⟨⟨c3.1, by omega⟩, (k2 hm).2 j l hh hsn op1 arg1 l1 l2⟩))
        refine g_aload_n C dX6_parse_466 rfl ?_
        refine gM_masks C dX6_parse_467 ?_
        refine g_sipush C dX6_parse_470 (by decide) ?_
        refine g_icmp_eq C 484 dX6_parse_473 (by decide) (by omega) (fun h473 => ?_) (fun h473 => ?_)
        · refine g_aload_n C dX6_parse_484 rfl ?_
          refine gM_at C dX6_parse_485 ?_
          exact ret _ _ _ _ _ _ _ _ _ _ _ _ _ _ _ _ 488 _ _ _ _ (by omega) (by omega) dX6_parse_488 o0 o1 (by rw [k1 (by omega)]; exact ⟨rfl, by omega, by omega⟩)
        · refine g_aload_n C dX6_parse_476 rfl ?_
          refine g_iload_n C dX6_parse_477 rfl ?_
          refine g_cVWz C [_] _ 0 cal_X6_105 (cM_single hT c2.1 hlt n1) rfl rfl rfl rfl (Nat.le_of_ble_eq_true rfl) ⟨⟨Nat.le_of_ble_eq_true rfl, Nat.le_of_ble_eq_true rfl⟩, by show no / 64 + 0 ≤ 130; omega, by show 4 * no + 0 ≤ 32768; omega⟩ dX6_parse_478 (fun r478 w hw478 => ?_)
          rcases hsn : sngl tape n cur with e | ⟨j, l, hh⟩
          · rw [hsn] at hw478
            obtain ⟨rfl, rl, rh, rfl⟩ := hw478
            have her := sngl_err c2.1 hlt hsn
            refine g_if_ne C 489 dX6_parse_481 (by decide) (b2_r _) (fun h => absurd rfl h) (fun _ => ?_)
            refine g_aload_n C dX6_parse_484 rfl ?_
            refine gM_at C dX6_parse_485 ?_
            exact ret _ _ _ _ _ _ _ _ _ _ _ _ _ _ _ _ 488 _ _ _ _ (by omega) (by omega) dX6_parse_488 o0 o1 (by rw [(k2 (by omega)).1 e hsn]; exact ⟨rfl, her.1, her.2⟩)
          · rw [hsn] at hw478
            obtain ⟨rfl, rfl⟩ := hw478
            exact g_if_ne C 489 dX6_parse_481 (by decide) (b2_r _) (fun _ => g_locR rfl (t489 j l hh (by omega) hsn)) (fun h => absurd h (by decide))
      refine g_aload_n C dX6_parse_47 rfl ?_
      refine gM_at C dX6_parse_48 ?_
      refine g_iload_n C dX6_parse_51 rfl ?_
      refine g_icmp_ge C 546 dX6_parse_52 (by decide) (by omega) (fun h52 => ?_) (fun h52 => ?_)
      · exact absurd h52 (by omega)
      · refine g_aload_n C dX6_parse_55 rfl ?_
        refine gM_tape C dX6_parse_56 ?_
        refine g_aload_n C dX6_parse_59 rfl ?_
        refine gM_at C dX6_parse_60 ?_
        refine lM_tape C (by omega) dX6_parse_63 ?_
        refine g_istore C dX6_parse_64 (by decide) ?_
        refine g_iload C dX6_parse_66 rfl ?_
        refine g_bipush C dX6_parse_68 (by decide) ?_
        refine g_icmp_ne C 137 dX6_parse_70 (by decide) (by omega) (fun h70 => ?_) (fun h70 => ?_)
        · refine g_iload C dX6_parse_137 rfl ?_
          refine g_bipush C dX6_parse_139 (by decide) ?_
          refine g_icmp_ne C 185 dX6_parse_141 (by decide) (by omega) (fun h141 => ?_) (fun h141 => ?_)
          · refine g_iload C dX6_parse_185 rfl ?_
            refine g_bipush C dX6_parse_187 (by decide) ?_
            refine g_icmp_ne C 324 dX6_parse_189 (by decide) (by omega) (fun h189 => ?_) (fun h189 => ?_)
            · refine g_iload C dX6_parse_324 rfl ?_
              refine g_bipush C dX6_parse_326 (by decide) ?_
              refine g_icmp_eq C 345 dX6_parse_328 (by decide) (by omega) (fun h328 => ?_) (fun h328 => ?_)
              · exact g_locR rfl (rep (by omega))
              · refine g_iload C dX6_parse_331 rfl ?_
                refine g_bipush C dX6_parse_333 (by decide) ?_
                refine g_icmp_eq C 345 dX6_parse_335 (by decide) (by omega) (fun h335 => ?_) (fun h335 => ?_)
                · exact g_locR rfl (rep (by omega))
                · refine g_iload C dX6_parse_338 rfl ?_
                  refine g_bipush C dX6_parse_340 (by decide) ?_
                  refine g_icmp_ne C 466 dX6_parse_342 (by decide) (by omega) (fun h342 => ?_) (fun h342 => ?_)
                  · exact g_locR rfl (chp (by omega) (by omega) (by omega) (by omega))
                  · exact g_locR rfl (rep (by omega))
            · exact g_locR rfl (bar (by omega))
          · exact g_locR rfl (cls (by omega))
        · exact g_locR rfl (opn (by omega))
  have h0 := lp n.toNat r_op no op r_arg arg 0 low high 0 0 readLow readHigh (up group 0 0) (up choice 0 0) (up chain 0 (-1)) (up hasEmpty 0 false) 0 (-1) 0 (by omega) o0 o1 (by omega) (by decide) ⟨by omega, by omega, by omega, by omega, fun i i0 i1 => by omega, fun p p0 p1 => by omega, fun i j i0 i1 => by omega⟩ (Or.inl ⟨rfl, by rw [hRd]; exact PNo.start low high n0 (up_same _ _ _) (up_same _ _ _) (up_same _ _ _) (up_same _ _ _)⟩)
  refine g_iconst C dX6_parse_0 ?_
  refine g_istore_n C dX6_parse_1 (by decide) ?_
  refine g_iconst C dX6_parse_2 ?_
  refine g_istore C dX6_parse_3 (by decide) ?_
  refine g_iconst C dX6_parse_5 ?_
  refine g_istore C dX6_parse_6 (by decide) ?_
  refine g_aload_n C dX6_parse_8 rfl ?_
  refine gM_hasEmpty C dX6_parse_9 ?_
  refine g_iconst C dX6_parse_12 ?_
  refine g_iconst C dX6_parse_13 ?_
  refine sM_hasEmpty C false (by omega) rfl dX6_parse_14 ?_
  refine g_aload_n C dX6_parse_15 rfl ?_
  refine gM_group C dX6_parse_16 ?_
  refine g_iconst C dX6_parse_19 ?_
  refine g_aload_n C dX6_parse_20 rfl ?_
  refine gM_many C dX6_parse_21 ?_
  refine sM_group C (by omega) dX6_parse_24 ?_
  refine g_aload_n C dX6_parse_25 rfl ?_
  refine gM_choice C dX6_parse_26 ?_
  refine g_iconst C dX6_parse_29 ?_
  refine g_aload_n C dX6_parse_30 rfl ?_
  refine gM_many C dX6_parse_31 ?_
  refine sM_choice C (by omega) dX6_parse_34 ?_
  refine g_aload_n C dX6_parse_35 rfl ?_
  refine gM_chain C dX6_parse_36 ?_
  refine g_iconst C dX6_parse_39 ?_
  refine g_iconst C dX6_parse_40 ?_
  refine sM_chain C (by omega) dX6_parse_41 ?_
  refine g_aload_n C dX6_parse_42 rfl ?_
  refine g_iconst C dX6_parse_43 ?_
  refine pM_at C dX6_parse_44 ?_
  exact g_locR rfl (g_widen (by omega) (by omega) h0)
