/-! Model: laying of instructions -/
def wMr (Z : Zk) (a : Nat → Nat) (low : Int → Int64) (high : Int → Int64) (group : Int → Int) (choice : Int → Int) (chain : Int → Int) (hasEmpty : Int → Bool) (sset : Int → Int64) (label : Int → Int) (next : Int → Int) (r_stamp : Nat) (ns : Nat) (stamp : Int → Int) (r_stack : Nat) (stack : Int → Int) (reading : Int → Int) (wher : Int → Int) (built : Int → Int64) (heads : Int → Int) (chained : Int → Int) (lives : Int → Bool) (kind : Int → Int) (newKind : Int → Int) (first : Int → Int) (leads : Int → Int) (sideStates : Int → Int) (ends : Int → Bool) (text : Int → Int) (queue : Int → Int) (frm : Int → Int) (by_ : Int → Int) (ways : Int → Int64) (before : Int → Int64) : va_W := [(a 17, eJ Z 512 low), (a 18, eJ Z 512 high), (a 23, eI Z 41 group), (a 24, eI Z 41 choice), (a 25, eI Z 41 chain), (a 26, eZ Z 41 hasEmpty), (a 27, eJ Z 2807 sset), (a 28, eI Z 401 label), (a 29, eI Z 51328 next), (r_stamp, eI Z ns stamp), (r_stack, eI Z ns stack), (a 35, eI Z 400 reading), (a 37, eI Z 400 wher), (a 38, eJ Z 7 built), (a 39, eI Z 1024 heads), (a 40, eI Z 401 chained), (a 42, eZ Z 401 lives), (a 43, eI Z 401 kind), (a 44, eI Z 401 newKind), (a 45, eI Z 401 first), (a 47, eI Z 102912 leads), (a 48, eI Z 2 sideStates), (a 49, eZ Z 804 ends), (a 50, eB Z 161604 text), (a 52, eI Z 161604 queue), (a 53, eI Z 161604 frm), (a 54, eB Z 161604 by_), (a 55, eJ Z 402 ways), (a 56, eJ Z 402 before)]
theorem wM_cut {Z : Zk} {a : Nat → Nat} {tape : Int → Int} {taped : Int} {place : Int} {thrown : Int} {r_op : Nat} {no : Nat} {op : Int → Int} {r_arg : Nat} {arg : Int → Int} {many : Int} {low : Int → Int64} {high : Int → Int64} {masks : Int} {cur : Int} {readLow : Int64} {readHigh : Int64} {group : Int → Int} {choice : Int → Int} {chain : Int → Int} {hasEmpty : Int → Bool} {sset : Int → Int64} {label : Int → Int} {next : Int → Int} {states : Int} {r_stamp : Nat} {ns : Nat} {stamp : Int → Int} {r_stack : Nat} {stack : Int → Int} {stamps : Int} {piled : Int} {reading : Int → Int} {readings : Int} {wher : Int → Int} {built : Int → Int64} {heads : Int → Int} {chained : Int → Int} {isE : Bool} {lives : Int → Bool} {kind : Int → Int} {newKind : Int → Int} {first : Int → Int} {kinds : Int} {leads : Int → Int} {sideStates : Int → Int} {ends : Int → Bool} {text : Int → Int} {textLong : Int} {queue : Int → Int} {frm : Int → Int} {by_ : Int → Int} {ways : Int → Int64} {before : Int → Int64} : wM Z a tape taped place thrown r_op no op r_arg arg many low high masks cur readLow readHigh group choice chain hasEmpty sset label next states r_stamp ns stamp r_stack stack stamps piled reading readings wher built heads chained isE lives kind newKind first kinds leads sideStates ends text textLong queue frm by_ ways before = [(a 0, eO 5 [.ref (a 10), vI taped, vI place, vI thrown, .ref r_op, .ref r_arg, vI many, .ref (a 17), .ref (a 18), vI masks, vI cur, .long readLow, .long readHigh, .ref (a 23), .ref (a 24), .ref (a 25), .ref (a 26), .ref (a 27), .ref (a 28), .ref (a 29), vI states, .ref r_stamp, .ref r_stack, vI stamps, vI piled, .ref (a 35), vI readings, .ref (a 37), .ref (a 38), .ref (a 39), .ref (a 40), vI (b2 isE), .ref (a 42), .ref (a 43), .ref (a 44), .ref (a 45), vI kinds, .ref (a 47), .ref (a 48), .ref (a 49), .ref (a 50), vI textLong, .ref (a 52), .ref (a 53), .ref (a 54), .ref (a 55), .ref (a 56)])] ++ ([(a 10, eB Z 2048 tape)] ++ ([(r_op, eI Z no op)] ++ ([(r_arg, eI Z no arg)] ++ wMr Z a low high group choice chain hasEmpty sset label next r_stamp ns stamp r_stack stack reading wher built heads chained lives kind newKind first leads sideStates ends text queue frm by_ ways before))) := rfl
def wMf (Z : Zk) (a : Nat → Nat) (tape : Int → Int) (r_op : Nat) (no : Nat) (op : Int → Int) (r_arg : Nat) (arg : Int → Int) (low : Int → Int64) (high : Int → Int64) (group : Int → Int) (choice : Int → Int) (chain : Int → Int) (hasEmpty : Int → Bool) (sset : Int → Int64) (label : Int → Int) (next : Int → Int) : va_W := [(a 10, eB Z 2048 tape), (r_op, eI Z no op), (r_arg, eI Z no arg), (a 17, eJ Z 512 low), (a 18, eJ Z 512 high), (a 23, eI Z 41 group), (a 24, eI Z 41 choice), (a 25, eI Z 41 chain), (a 26, eZ Z 41 hasEmpty), (a 27, eJ Z 2807 sset), (a 28, eI Z 401 label), (a 29, eI Z 51328 next)]
def wMb (Z : Zk) (a : Nat → Nat) (reading : Int → Int) (wher : Int → Int) (built : Int → Int64) (heads : Int → Int) (chained : Int → Int) (lives : Int → Bool) (kind : Int → Int) (newKind : Int → Int) (first : Int → Int) (leads : Int → Int) (sideStates : Int → Int) (ends : Int → Bool) (text : Int → Int) (queue : Int → Int) (frm : Int → Int) (by_ : Int → Int) (ways : Int → Int64) (before : Int → Int64) : va_W := [(a 35, eI Z 400 reading), (a 37, eI Z 400 wher), (a 38, eJ Z 7 built), (a 39, eI Z 1024 heads), (a 40, eI Z 401 chained), (a 42, eZ Z 401 lives), (a 43, eI Z 401 kind), (a 44, eI Z 401 newKind), (a 45, eI Z 401 first), (a 47, eI Z 102912 leads), (a 48, eI Z 2 sideStates), (a 49, eZ Z 804 ends), (a 50, eB Z 161604 text), (a 52, eI Z 161604 queue), (a 53, eI Z 161604 frm), (a 54, eB Z 161604 by_), (a 55, eJ Z 402 ways), (a 56, eJ Z 402 before)]
theorem wM_cut2 {Z : Zk} {a : Nat → Nat} {tape : Int → Int} {taped : Int} {place : Int} {thrown : Int} {r_op : Nat} {no : Nat} {op : Int → Int} {r_arg : Nat} {arg : Int → Int} {many : Int} {low : Int → Int64} {high : Int → Int64} {masks : Int} {cur : Int} {readLow : Int64} {readHigh : Int64} {group : Int → Int} {choice : Int → Int} {chain : Int → Int} {hasEmpty : Int → Bool} {sset : Int → Int64} {label : Int → Int} {next : Int → Int} {states : Int} {r_stamp : Nat} {ns : Nat} {stamp : Int → Int} {r_stack : Nat} {stack : Int → Int} {stamps : Int} {piled : Int} {reading : Int → Int} {readings : Int} {wher : Int → Int} {built : Int → Int64} {heads : Int → Int} {chained : Int → Int} {isE : Bool} {lives : Int → Bool} {kind : Int → Int} {newKind : Int → Int} {first : Int → Int} {kinds : Int} {leads : Int → Int} {sideStates : Int → Int} {ends : Int → Bool} {text : Int → Int} {textLong : Int} {queue : Int → Int} {frm : Int → Int} {by_ : Int → Int} {ways : Int → Int64} {before : Int → Int64} : wM Z a tape taped place thrown r_op no op r_arg arg many low high masks cur readLow readHigh group choice chain hasEmpty sset label next states r_stamp ns stamp r_stack stack stamps piled reading readings wher built heads chained isE lives kind newKind first kinds leads sideStates ends text textLong queue frm by_ ways before = [(a 0, eO 5 [.ref (a 10), vI taped, vI place, vI thrown, .ref r_op, .ref r_arg, vI many, .ref (a 17), .ref (a 18), vI masks, vI cur, .long readLow, .long readHigh, .ref (a 23), .ref (a 24), .ref (a 25), .ref (a 26), .ref (a 27), .ref (a 28), .ref (a 29), vI states, .ref r_stamp, .ref r_stack, vI stamps, vI piled, .ref (a 35), vI readings, .ref (a 37), .ref (a 38), .ref (a 39), .ref (a 40), vI (b2 isE), .ref (a 42), .ref (a 43), .ref (a 44), .ref (a 45), vI kinds, .ref (a 47), .ref (a 48), .ref (a 49), .ref (a 50), vI textLong, .ref (a 52), .ref (a 53), .ref (a 54), .ref (a 55), .ref (a 56)])] ++ (wMf Z a tape r_op no op r_arg arg low high group choice chain hasEmpty sset label next ++ ([(r_stamp, eI Z ns stamp)] ++ ([(r_stack, eI Z ns stack)] ++ wMb Z a reading wher built heads chained lives kind newKind first leads sideStates ends text queue frm by_ ways before))) := rfl
section DROP
variable {X : Cx} {nL k n pc : Nat} {ws : va_W} {L : List (Nat × Value)} {st : List Value}
/-- cells that nobody needs any more are forgotten -/
theorem g_drop {ws' : va_W} (ex : va_W) (hp : (ws' ++ ex).Perm ws) (h : G X nL k n ws' pc L st) : G X nL k n ws pc L st := by
  refine g_perm hp (fun H locs ls hP hD hS hl => h H locs ls (fun i q hq => ?_) ⟨fun i j p q hi hj => ?_, fun i q hq => ?_⟩ hS hl)
  · exact hP i q (by rw [List.getElem?_append_left (List.getElem?_eq_some_iff.mp hq).1]; exact hq)
  · exact hD.1 i j p q (by rw [List.getElem?_append_left (List.getElem?_eq_some_iff.mp hi).1]; exact hi) (by rw [List.getElem?_append_left (List.getElem?_eq_some_iff.mp hj).1]; exact hj)
  · exact hD.2 i q (by rw [List.getElem?_append_left (List.getElem?_eq_some_iff.mp hq).1]; exact hq)
end DROP
theorem pm_grow {α : Type} (o t x y r w n1 n2 : List α) : (((o ++ (t ++ (n1 ++ (n2 ++ r)))) ++ w) ++ (x ++ y)).Perm ((((o ++ (t ++ (x ++ (y ++ r)))) ++ w) ++ n1) ++ n2) :=
  pm_of (fun z => by simp only [List.count_append]; omega)
def gC (many : Int) (no : Nat) : Nat := if many < (no : Int) then 0 else 2
def gS (many : Int) (no : Nat) : Nat := if many < (no : Int) then 0 else 4 * no
def gN (many : Int) (no : Nat) : Nat := if many < (no : Int) then no else 2 * no
def SmT (k : Int) (f g : Int → Int) : Prop := ∀ i, 0 ≤ i → i < k → f i = g i
theorem cM_grow {Z : Zk} {wr : va_W} {a : Nat → Nat} {tape : Int → Int} {taped : Int} {place : Int} {thrown : Int} {r_op : Nat} {no : Nat} {op : Int → Int} {r_arg : Nat} {arg : Int → Int} {many : Int} {low : Int → Int64} {high : Int → Int64} {masks : Int} {cur : Int} {readLow : Int64} {readHigh : Int64} {group : Int → Int} {choice : Int → Int} {chain : Int → Int} {hasEmpty : Int → Bool} {sset : Int → Int64} {label : Int → Int} {next : Int → Int} {states : Int} {r_stamp : Nat} {ns : Nat} {stamp : Int → Int} {r_stack : Nat} {stack : Int → Int} {stamps : Int} {piled : Int} {reading : Int → Int} {readings : Int} {wher : Int → Int} {built : Int → Int64} {heads : Int → Int} {chained : Int → Int} {isE : Bool} {lives : Int → Bool} {kind : Int → Int} {newKind : Int → Int} {first : Int → Int} {kinds : Int} {leads : Int → Int} {sideStates : Int → Int} {ends : Int → Bool} {text : Int → Int} {textLong : Int} {queue : Int → Int} {frm : Int → Int} {by_ : Int → Int} {ways : Int → Int64} {before : Int → Int64} (m0 : 0 ≤ many) (m1 : many ≤ (no : Int)) (n0 : 0 < no) (n1 : no ≤ 8192) : Ct Z yX6_grow hX6_grow 4 120 [.ref (a 0)] (wM Z a tape taped place thrown r_op no op r_arg arg many low high masks cur readLow readHigh group choice chain hasEmpty sset label next states r_stamp ns stamp r_stack stack stamps piled reading readings wher built heads chained isE lives kind newKind first kinds leads sideStates ends text textLong queue frm by_ ways before ++ wr) (gC many no) (gS many no) (Rv fun w => ∃ r1 r2 op1 arg1, SmT many op1 op ∧ SmT many arg1 arg ∧ w = wM Z a tape taped place thrown r1 (gN many no) op1 r2 arg1 many low high masks cur readLow readHigh group choice chain hasEmpty sset label next states r_stamp ns stamp r_stack stack stamps piled reading readings wher built heads chained isE lives kind newKind first kinds leads sideStates ends text textLong queue frm by_ ways before ++ wr) := by
  refine Ct.of RX6 "grow" (by decide +kernel) rfl rfl hkX6_grow (Nat.le_of_ble_eq_true rfl) (fun X hZ C => ?_)
  subst hZ
  refine g_aload_n C dX6_grow_0 rfl ?_
  refine gM_many C dX6_grow_1 ?_
  refine g_aload_n C dX6_grow_4 rfl ?_
  refine gM_op C dX6_grow_5 ?_
  refine nM_op C dX6_grow_8 ?_
  refine g_icmp_ge C 13 dX6_grow_9 (by decide) (by omega) (fun h9 => ?_) (fun h9 => ?_)
  · have em : many = (no : Int) := by omega
    have e1 : gC many no = 2 := if_neg (by omega)
    have e2 : gS many no = 4 * no := if_neg (by omega)
    refine g_aload_n C dX6_grow_13 rfl ?_
    refine g_aload_n C dX6_grow_14 rfl ?_
    refine gM_op C dX6_grow_15 ?_
    refine g_iconst C dX6_grow_18 ?_
    refine g_aload_n C dX6_grow_19 rfl ?_
    refine gM_many C dX6_grow_20 ?_
    refine g_imul C dX6_grow_23 ?_
    refine g_top (show _ = ((2 * no : Nat) : Int) from by omega) ?_
    refine g_cSJr C [.ref r_op, vI ((2 * no : Nat) : Int)] [.ref (a 0)] [2] cal_X6_14 (cJ_copyOf (s := r_op) (N := no) (M := 2 * no) (f := op) (by omega) (by omega)) (by decide) rfl (fun r w h => by subst h; exact Nat.le_of_ble_eq_true rfl) rfl rfl (Nat.le_of_ble_eq_true rfl) ⟨⟨Nat.le_of_ble_eq_true rfl, Nat.le_of_ble_eq_true rfl⟩, by show 0 + 1 ≤ gC many no; omega, by show 0 + 2 * no ≤ gS many no; omega⟩ dX6_grow_24 (fun r1 w hw => ?_)
    subst hw
    refine g_ws (ws' := (wM X.Z a tape taped place thrown r_op no op r_arg arg many low high masks cur readLow readHigh group choice chain hasEmpty sset label next states r_stamp ns stamp r_stack stack stamps piled reading readings wher built heads chained isE lives kind newKind first kinds leads sideStates ends text textLong queue frm by_ ways before ++ wr) ++ [(r1, eI X.Z (2 * no) (fun j => if j < (no : Int) then op j else 0))]) rfl ?_
    refine g_put C 0 4 tyX6 in_X6 tyX6_ok nmX6 rfl rfl rfl (by decide) q930 rfl rfl rfl rfl rfl (Nat.le_of_ble_eq_true rfl) dX6_grow_27 ?_
    refine g_aload_n C dX6_grow_30 rfl ?_
    refine g_aload_n C dX6_grow_31 rfl ?_
    refine g_get C 0 5 in_X6 rfl rfl (by decide) q931 rfl rfl dX6_grow_32 ?_
    refine g_iconst C dX6_grow_35 ?_
    refine g_aload_n C dX6_grow_36 rfl ?_
    refine g_get C 0 6 in_X6 rfl rfl (by decide) q932 rfl rfl dX6_grow_37 ?_
    refine g_imul C dX6_grow_40 ?_
    refine g_top (show _ = ((2 * no : Nat) : Int) from by omega) ?_
    refine g_cSJr C [.ref r_arg, vI ((2 * no : Nat) : Int)] [.ref (a 0)] [3] cal_X6_14 (cJ_copyOf (s := r_arg) (N := no) (M := 2 * no) (f := arg) (by omega) (by omega)) (by decide) rfl (fun r w h => by subst h; exact Nat.le_of_ble_eq_true rfl) rfl rfl (Nat.le_of_ble_eq_true rfl) ⟨⟨Nat.le_of_ble_eq_true rfl, Nat.le_of_ble_eq_true rfl⟩, by show 0 + 1 + 1 ≤ gC many no; omega, by show 0 + 2 * no + 2 * no ≤ gS many no; omega⟩ dX6_grow_41 (fun r2 w hw => ?_)
    subst hw
    refine g_put C 0 5 tyX6 in_X6 tyX6_ok nmX6 rfl rfl rfl (by decide) q931 rfl rfl rfl rfl rfl (Nat.le_of_ble_eq_true rfl) dX6_grow_44 ?_
    refine g_drop ([(r_op, eI X.Z no op)] ++ [(r_arg, eI X.Z no arg)]) (ws' := wM X.Z a tape taped place thrown r1 (2 * no) ((fun j => if j < (no : Int) then op j else 0)) r2 ((fun j => if j < (no : Int) then arg j else 0)) many low high masks cur readLow readHigh group choice chain hasEmpty sset label next states r_stamp ns stamp r_stack stack stamps piled reading readings wher built heads chained isE lives kind newKind first kinds leads sideStates ends text textLong queue frm by_ ways before ++ wr) ?_ ?_
    · exact pm_grow [_] [_] [_] [_] _ _ [_] [_]
    refine g_widen (k' := gC many no) (n' := gS many no) (by omega) (by omega) ?_
    exact g_vret C rfl ⟨rfl, r1, r2, (fun j => if j < (no : Int) then op j else 0), (fun j => if j < (no : Int) then arg j else 0), fun i i0 i1 => if_pos (by omega), fun i i0 i1 => if_pos (by omega), by rw [show gN many no = 2 * no from if_neg (by omega)]⟩ dX6_grow_47
  · have e1 : gC many no = 0 := if_pos (by omega)
    have e2 : gS many no = 0 := if_pos (by omega)
    refine g_widen (k' := gC many no) (n' := gS many no) (by omega) (by omega) ?_
    exact g_vret C rfl ⟨rfl, r_op, r_arg, op, arg, fun _ _ _ => rfl, fun _ _ _ => rfl, by rw [show gN many no = no from if_pos (by omega)]⟩ dX6_grow_12
theorem gN_lt {many : Int} {no : Nat} (h : many ≤ (no : Int)) (h0 : 0 < no) : many < (gN many no : Int) ∧ no ≤ gN many no ∧ gN many no ≤ 2 * no := by
  unfold gN
  split <;> omega
theorem cM_lay {Z : Zk} {wr : va_W} {a : Nat → Nat} {tape : Int → Int} {taped : Int} {place : Int} {thrown : Int} {r_op : Nat} {no : Nat} {op : Int → Int} {r_arg : Nat} {arg : Int → Int} {many : Int} {low : Int → Int64} {high : Int → Int64} {masks : Int} {cur : Int} {readLow : Int64} {readHigh : Int64} {group : Int → Int} {choice : Int → Int} {chain : Int → Int} {hasEmpty : Int → Bool} {sset : Int → Int64} {label : Int → Int} {next : Int → Int} {states : Int} {r_stamp : Nat} {ns : Nat} {stamp : Int → Int} {r_stack : Nat} {stack : Int → Int} {stamps : Int} {piled : Int} {reading : Int → Int} {readings : Int} {wher : Int → Int} {built : Int → Int64} {heads : Int → Int} {chained : Int → Int} {isE : Bool} {lives : Int → Bool} {kind : Int → Int} {newKind : Int → Int} {first : Int → Int} {kinds : Int} {leads : Int → Int} {sideStates : Int → Int} {ends : Int → Bool} {text : Int → Int} {textLong : Int} {queue : Int → Int} {frm : Int → Int} {by_ : Int → Int} {ways : Int → Int64} {before : Int → Int64} {what av : Int} (m0 : 0 ≤ many) (m1 : many ≤ (no : Int)) (n0 : 0 < no) (n1 : no ≤ 8192) : Ct Z yX6_lay hX6_lay 5 160 [.ref (a 0), vI what, vI av] (wM Z a tape taped place thrown r_op no op r_arg arg many low high masks cur readLow readHigh group choice chain hasEmpty sset label next states r_stamp ns stamp r_stack stack stamps piled reading readings wher built heads chained isE lives kind newKind first kinds leads sideStates ends text textLong queue frm by_ ways before ++ wr) (gC many no) (gS many no) (Rv fun w => ∃ r1 r2 op1 arg1, (SmT many op1 op ∧ op1 many = what) ∧ (SmT many arg1 arg ∧ arg1 many = av) ∧ w = wM Z a tape taped place thrown r1 (gN many no) op1 r2 arg1 (many + 1) low high masks cur readLow readHigh group choice chain hasEmpty sset label next states r_stamp ns stamp r_stack stack stamps piled reading readings wher built heads chained isE lives kind newKind first kinds leads sideStates ends text textLong queue frm by_ ways before ++ wr) := by
  refine Ct.of RX6 "lay" (by decide +kernel) rfl rfl hkX6_lay (Nat.le_of_ble_eq_true rfl) (fun X hZ C => ?_)
  subst hZ
  have hg := gN_lt m1 n0
  refine g_aload_n C dX6_lay_0 rfl ?_
  refine g_cVWv C [] _ 0 cal_X6_23 (cM_grow m0 m1 n0 n1) rfl rfl rfl rfl (Nat.le_of_ble_eq_true rfl) ⟨⟨Nat.le_of_ble_eq_true rfl, Nat.le_of_ble_eq_true rfl⟩, by show 0 + gC many no ≤ gC many no; omega, by show 0 + gS many no ≤ gS many no; omega⟩ dX6_lay_1 (fun w hw1 => ?_)
  obtain ⟨r1, r2, op1, arg1, h1, h2, rfl⟩ := hw1
  refine g_aload_n C dX6_lay_4 rfl ?_
  refine gM_op C dX6_lay_5 ?_
  refine g_aload_n C dX6_lay_8 rfl ?_
  refine gM_many C dX6_lay_9 ?_
  refine g_iload_n C dX6_lay_12 rfl ?_
  refine sM_op C (by omega) dX6_lay_13 ?_
  refine g_aload_n C dX6_lay_14 rfl ?_
  refine gM_arg C dX6_lay_15 ?_
  refine g_aload_n C dX6_lay_18 rfl ?_
  refine gM_many C dX6_lay_19 ?_
  refine g_iload_n C dX6_lay_22 rfl ?_
  refine sM_arg C (by omega) dX6_lay_23 ?_
  refine g_aload_n C dX6_lay_24 rfl ?_
  refine g_dup C dX6_lay_25 rfl ?_
  refine gM_many C dX6_lay_26 ?_
  refine g_iconst C dX6_lay_29 ?_
  refine g_iadd C dX6_lay_30 ?_
  refine pM_many C dX6_lay_31 ?_
  refine g_widen (k' := gC many no) (n' := gS many no) (by omega) (by omega) ?_
  exact g_vret C rfl ⟨rfl, r1, r2, _, _, ⟨fun i i0 i1 => by rw [up_ne _ _ (by omega)]; exact h1 i i0 i1, up_same _ _ _⟩, ⟨fun i i0 i1 => by rw [up_ne _ _ (by omega)]; exact h2 i i0 i1, up_same _ _ _⟩, rfl⟩ dX6_lay_34
/-- all from p on goes on by one -/
def Ins (p many : Int) (f g : Int → Int) (v : Int) : Prop := SmT p f g ∧ f p = v ∧ ∀ i, p ≤ i → i < many → f (i + 1) = g i
theorem cM_insert {Z : Zk} {wr : va_W} {a : Nat → Nat} {tape : Int → Int} {taped : Int} {place : Int} {thrown : Int} {r_op : Nat} {no : Nat} {op : Int → Int} {r_arg : Nat} {arg : Int → Int} {many : Int} {low : Int → Int64} {high : Int → Int64} {masks : Int} {cur : Int} {readLow : Int64} {readHigh : Int64} {group : Int → Int} {choice : Int → Int} {chain : Int → Int} {hasEmpty : Int → Bool} {sset : Int → Int64} {label : Int → Int} {next : Int → Int} {states : Int} {r_stamp : Nat} {ns : Nat} {stamp : Int → Int} {r_stack : Nat} {stack : Int → Int} {stamps : Int} {piled : Int} {reading : Int → Int} {readings : Int} {wher : Int → Int} {built : Int → Int64} {heads : Int → Int} {chained : Int → Int} {isE : Bool} {lives : Int → Bool} {kind : Int → Int} {newKind : Int → Int} {first : Int → Int} {kinds : Int} {leads : Int → Int} {sideStates : Int → Int} {ends : Int → Bool} {text : Int → Int} {textLong : Int} {queue : Int → Int} {frm : Int → Int} {by_ : Int → Int} {ways : Int → Int64} {before : Int → Int64} {p what av : Int} (p0 : 0 ≤ p) (p1 : p ≤ many) (m1 : many ≤ (no : Int)) (n0 : 0 < no) (n1 : no ≤ 8192) : Ct Z yX6_insert hX6_insert 5 160 [.ref (a 0), vI p, vI what, vI av] (wM Z a tape taped place thrown r_op no op r_arg arg many low high masks cur readLow readHigh group choice chain hasEmpty sset label next states r_stamp ns stamp r_stack stack stamps piled reading readings wher built heads chained isE lives kind newKind first kinds leads sideStates ends text textLong queue frm by_ ways before ++ wr) (gC many no) (gS many no) (Rv fun w => ∃ r1 r2 op1 arg1, Ins p many op1 op what ∧ Ins p many arg1 arg av ∧ w = wM Z a tape taped place thrown r1 (gN many no) op1 r2 arg1 (many + 1) low high masks cur readLow readHigh group choice chain hasEmpty sset label next states r_stamp ns stamp r_stack stack stamps piled reading readings wher built heads chained isE lives kind newKind first kinds leads sideStates ends text textLong queue frm by_ ways before ++ wr) := by
  refine Ct.of RX6 "insert" (by decide +kernel) rfl rfl hkX6_insert (Nat.le_of_ble_eq_true rfl) (fun X hZ C => ?_)
  subst hZ
  have hg := gN_lt m1 n0
  have lp : ∀ (r1 r2 : Nat) (o1 a1 : Int → Int), SmT many o1 op → SmT many a1 arg → ∀ (f : Nat) (k : Int) (o2 a2 : Int → Int), k = p + (f : Int) → k ≤ many → SmT k o2 o1 → SmT k a2 a1 → (∀ i, k ≤ i → i < many → o2 (i + 1) = o1 i) → (∀ i, k ≤ i → i < many → a2 (i + 1) = a1 i) → G X 5 (0 + gC many no) (0 + gS many no) (wM X.Z a tape taped place thrown r1 (gN many no) o2 r2 a2 many low high masks cur readLow readHigh group choice chain hasEmpty sset label next states r_stamp ns stamp r_stack stack stamps piled reading readings wher built heads chained isE lives kind newKind first kinds leads sideStates ends text textLong queue frm by_ ways before ++ wr) 10 [(0, .ref (a 0)), (1, vI p), (2, vI what), (3, vI av), (4, vI k)] [] := by
    intro r1 r2 o1 a1 s1 s2 f
    induction f with
    | zero =>
      intro k o2 a2 hk hkm h1 h2 h3 h4
      have ek : k = p := by omega
      subst ek
      refine g_iload C dX6_insert_10 rfl ?_
      refine g_iload_n C dX6_insert_12 rfl ?_
      refine g_icmp_le C 54 dX6_insert_13 (by decide) (by omega) (fun h13 => ?_) (fun h13 => ?_)
      · refine g_aload_n C dX6_insert_54 rfl ?_
        refine gM_op C dX6_insert_55 ?_
        refine g_iload_n C dX6_insert_58 rfl ?_
        refine g_iload_n C dX6_insert_59 rfl ?_
        refine sM_op C (by omega) dX6_insert_60 ?_
        refine g_aload_n C dX6_insert_61 rfl ?_
        refine gM_arg C dX6_insert_62 ?_
        refine g_iload_n C dX6_insert_65 rfl ?_
        refine g_iload_n C dX6_insert_66 rfl ?_
        refine sM_arg C (by omega) dX6_insert_67 ?_
        refine g_aload_n C dX6_insert_68 rfl ?_
        refine g_dup C dX6_insert_69 rfl ?_
        refine gM_many C dX6_insert_70 ?_
        refine g_iconst C dX6_insert_73 ?_
        refine g_iadd C dX6_insert_74 ?_
        refine pM_many C dX6_insert_75 ?_
        refine g_widen (k' := gC many no) (n' := gS many no) (by omega) (by omega) ?_
        exact g_vret C rfl ⟨rfl, r1, r2, _, _, ⟨fun i i0 i1 => by rw [up_ne _ _ (by omega), h1 i i0 i1]; exact s1 i i0 (by omega), up_same _ _ _, fun i i0 i1 => by rw [up_ne _ _ (by omega), h3 i i0 i1]; exact s1 i (by omega) i1⟩, ⟨fun i i0 i1 => by rw [up_ne _ _ (by omega), h2 i i0 i1]; exact s2 i i0 (by omega), up_same _ _ _, fun i i0 i1 => by rw [up_ne _ _ (by omega), h4 i i0 i1]; exact s2 i (by omega) i1⟩, rfl⟩ dX6_insert_78
      · exact absurd h13 (by omega)
    | succ f ih =>
      intro k o2 a2 hk hkm h1 h2 h3 h4
      have hn := ih (k - 1) (up o2 k (o2 (k - 1))) (up a2 k (a2 (k - 1))) (by omega) (by omega) (fun i i0 i1 => by rw [up_ne _ _ (by omega)]; exact h1 i i0 (by omega)) (fun i i0 i1 => by rw [up_ne _ _ (by omega)]; exact h2 i i0 (by omega)) (fun i i0 i1 => by by_cases e : i + 1 = k; (rw [e, up_same, show k - 1 = i by omega]; exact h1 i (by omega) (by omega)); (rw [up_ne _ _ e]; exact h3 i (by omega) i1)) (fun i i0 i1 => by by_cases e : i + 1 = k; (rw [e, up_same, show k - 1 = i by omega]; exact h2 i (by omega) (by omega)); (rw [up_ne _ _ e]; exact h4 i (by omega) i1))
      refine g_iload C dX6_insert_10 rfl ?_
      refine g_iload_n C dX6_insert_12 rfl ?_
      refine g_icmp_le C 54 dX6_insert_13 (by decide) (by omega) (fun h13 => ?_) (fun h13 => ?_)
      · exact absurd h13 (by omega)
      · refine g_aload_n C dX6_insert_16 rfl ?_
        refine gM_op C dX6_insert_17 ?_
        refine g_iload C dX6_insert_20 rfl ?_
        refine g_aload_n C dX6_insert_22 rfl ?_
        refine gM_op C dX6_insert_23 ?_
        refine g_iload C dX6_insert_26 rfl ?_
        refine g_iconst C dX6_insert_28 ?_
        refine g_isub C dX6_insert_29 ?_
        refine lM_op C (by omega) dX6_insert_30 ?_
        refine sM_op C (by omega) dX6_insert_31 ?_
        refine g_aload_n C dX6_insert_32 rfl ?_
        refine gM_arg C dX6_insert_33 ?_
        refine g_iload C dX6_insert_36 rfl ?_
        refine g_aload_n C dX6_insert_38 rfl ?_
        refine gM_arg C dX6_insert_39 ?_
        refine g_iload C dX6_insert_42 rfl ?_
        refine g_iconst C dX6_insert_44 ?_
        refine g_isub C dX6_insert_45 ?_
        refine lM_arg C (by omega) dX6_insert_46 ?_
        refine sM_arg C (by omega) dX6_insert_47 ?_
        refine g_iinc C dX6_insert_48 rfl (by decide) ?_
        refine g_goto C 10 dX6_insert_51 (by decide) ?_
        exact g_locR rfl hn
  refine g_aload_n C dX6_insert_0 rfl ?_
  refine g_cVWv C [] _ 0 cal_X6_23 (cM_grow (by omega) m1 n0 n1) rfl rfl rfl rfl (Nat.le_of_ble_eq_true rfl) ⟨⟨Nat.le_of_ble_eq_true rfl, Nat.le_of_ble_eq_true rfl⟩, by show 0 + gC many no ≤ gC many no; omega, by show 0 + gS many no ≤ gS many no; omega⟩ dX6_insert_1 (fun w hw1 => ?_)
  obtain ⟨r1, r2, op1, arg1, h1, h2, rfl⟩ := hw1
  refine g_aload_n C dX6_insert_4 rfl ?_
  refine gM_many C dX6_insert_5 ?_
  refine g_istore C dX6_insert_8 (by decide) ?_
  exact g_locR rfl (lp r1 r2 op1 arg1 h1 h2 (many - p).toNat many op1 arg1 (by omega) (by omega) (fun _ _ _ => rfl) (fun _ _ _ => rfl) (fun i i0 i1 => by omega) (fun i i0 i1 => by omega))
