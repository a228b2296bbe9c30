/-! Model: build -/
theorem rc_m {op arg : Int → Int} {m x y : Int} (hm : op m = 3) (h : Rc op arg 0 (m + 1) x y) : Rc op arg 0 m x y := by
  induction h using Rc.ind with
  | rf i => exact .rf _
  | @st i j k h0 h1 hs _ ih =>
    have : i ≠ m := fun e => by rcases hs with ⟨q, _⟩ | ⟨q, _⟩ <;> rw [e] at q <;> omega
    exact .st h0 (by omega) hs ih
/-- the code of a pattern -/
def CdP (op arg : Int → Int) (m masks : Int) (B : PV) : Prop := 0 ≤ m ∧ RepA op arg 0 m B ∧ op m = 3 ∧ arg m = 0 ∧ BytOk op arg m masks ∧ 0 ≤ masks ∧ masks ≤ 400
theorem CdP.ok {op arg : Int → Int} {m masks : Int} {B : PV} (h : CdP op arg m masks B) : CdOk op arg (m + 1) masks := by
  obtain ⟨h0, h1, h2, h3, h4, h5, h6⟩ := h
  have nz : ∀ i, i < m + 1 → op i = 0 → i < m := fun i i1 hi => by
    by_cases e : i = m
    · rw [e] at hi; omega
    · omega
  refine ⟨⟨h5, h6⟩, fun i i0 i1 => ?_, fun i j i0 i1 j0 j1 a b c => h4.2.2 i j i0 (nz i i1 a) j0 (nz j j1 b) a b c⟩
  by_cases e : i = m
  · subst e
    exact ⟨by omega, fun h => by omega, fun _ => h3, fun j hj => by rcases hj with ⟨q, _⟩ | ⟨q, _⟩ <;> omega⟩
  · have := h4.1 i i0 (by omega)
    exact ⟨by omega, this.2, fun h => by omega, fun j hj => by have := h1.2.1 i j i0 (by omega) hj; omega⟩
/-- where one begins: state 0 at the beginning, the others behind the bytes that were read last -/
def S0of (op arg : Int → Int) (m : Int) (S : Int → Int → Bool) (s : Int) (x : Int) : Prop := (s = 0 ∧ x = 0) ∨ (s ≠ 0 ∧ ∃ p i, S s p = true ∧ 0 ≤ i ∧ i < m ∧ op i = 0 ∧ arg i = p ∧ x = i + 1)
theorem rch_byte {op arg : Int → Int} {m masks : Int} {B : PV} {S : Int → Int → Bool} {s q : Int} (h : CdP op arg m masks B) : (∃ i, 0 ≤ i ∧ i < m + 1 ∧ Rch op arg (m + 1) (S0of op arg m S s) i ∧ op i = 0 ∧ arg i = q) ↔ (if s = 0 then B.fi q = true else ∃ p, S s p = true ∧ B.fo p q = true) := by
  obtain ⟨h0, h1, h2, h3, h4, h5, h6⟩ := h
  have nz : ∀ i, i < m + 1 → op i = 0 → i < m := fun i i1 hi => by
    by_cases e : i = m
    · rw [e] at hi; omega
    · omega
  by_cases e : s = 0
  · rw [if_pos e]
    have := h1.2.2 none (some q)
    refine Iff.trans ⟨fun ⟨i, i0, i1, ⟨x, hx, hr⟩, i2, i3⟩ => ?_, fun ⟨x, y, hx, ⟨k1, k2, k3, k4⟩, hr⟩ => ?_⟩ this.symm
    · rcases hx with ⟨_, rfl⟩ | ⟨h, _⟩
      · exact ⟨0, i, rfl, ⟨i0, nz i i1 i2, i2, i3⟩, rc_m h2 hr⟩
      · exact absurd e h
    · have hx : x = 0 := hx
      exact ⟨y, k1, by omega, ⟨x, Or.inl ⟨e, hx⟩, hr.mono (by omega) (by omega)⟩, k3, k4⟩
  · rw [if_neg e]
    refine ⟨fun ⟨i, i0, i1, ⟨x, hx, hr⟩, i2, i3⟩ => ?_, fun ⟨p, hp, hq⟩ => ?_⟩
    · rcases hx with ⟨h, _⟩ | ⟨_, p, j, p1, p2, p3, p4, p5, p6⟩
      · exact absurd h e
      · exact ⟨p, p1, (h1.2.2 (some p) (some q)).mpr ⟨x, i, ⟨j, p2, p3, p4, p5, p6⟩, ⟨i0, nz i i1 i2, i2, i3⟩, rc_m h2 hr⟩⟩
    · obtain ⟨x, y, ⟨j, p2, p3, p4, p5, p6⟩, ⟨k1, k2, k3, k4⟩, hr⟩ := (h1.2.2 (some p) (some q)).mp hq
      exact ⟨y, k1, by omega, ⟨x, Or.inr ⟨e, p, j, hp, p2, p3, p4, p5, p6⟩, hr.mono (by omega) (by omega)⟩, k3, k4⟩
theorem rch_match {op arg : Int → Int} {m masks : Int} {B : PV} {S : Int → Int → Bool} {s : Int} (h : CdP op arg m masks B) : (∃ i, 0 ≤ i ∧ i < m + 1 ∧ Rch op arg (m + 1) (S0of op arg m S s) i ∧ op i = 3) ↔ (if s = 0 then B.nul = true else ∃ p, S s p = true ∧ B.la p = true) := by
  obtain ⟨h0, h1, h2, h3, h4, h5, h6⟩ := h
  have nz : ∀ i, 0 ≤ i → i < m + 1 → op i = 3 → i = m := fun i i0 i1 hi => by
    by_cases e : i = m
    · exact e
    · have := (h4.1 i i0 (by omega)).1; omega
  by_cases e : s = 0
  · rw [if_pos e]
    have := h1.2.2 none none
    refine Iff.trans ⟨fun ⟨i, i0, i1, ⟨x, hx, hr⟩, i2⟩ => ?_, fun ⟨x, y, hx, hy, hr⟩ => ?_⟩ this.symm
    · rcases hx with ⟨_, rfl⟩ | ⟨h, _⟩
      · have ei := nz i i0 i1 i2
        subst ei
        exact ⟨0, i, rfl, rfl, rc_m h2 hr⟩
      · exact absurd e h
    · have hx : x = 0 := hx
      have hy : y = m := hy
      subst hy
      exact ⟨y, h0, by omega, ⟨x, Or.inl ⟨e, hx⟩, hr.mono (by omega) (by omega)⟩, h2⟩
  · rw [if_neg e]
    refine ⟨fun ⟨i, i0, i1, ⟨x, hx, hr⟩, i2⟩ => ?_, fun ⟨p, hp, hq⟩ => ?_⟩
    · rcases hx with ⟨h, _⟩ | ⟨_, p, j, p1, p2, p3, p4, p5, p6⟩
      · exact absurd h e
      · have ei := nz i i0 i1 i2
        subst ei
        exact ⟨p, p1, (h1.2.2 (some p) none).mpr ⟨x, i, ⟨j, p2, p3, p4, p5, p6⟩, rfl, rc_m h2 hr⟩⟩
    · obtain ⟨x, y, ⟨j, p2, p3, p4, p5, p6⟩, hy, hr⟩ := (h1.2.2 (some p) none).mp hq
      have hy : y = m := hy
      subst hy
      exact ⟨y, h0, by omega, ⟨x, Or.inr ⟨e, p, j, hp, p2, p3, p4, p5, p6⟩, hr.mono (by omega) (by omega)⟩, h2⟩
/-- what lies on the stack at first -/
def IniS (many : Int) (stamp stack : Int → Int) (stamps piled : Int) (T : Int → Prop) : Prop := 0 ≤ piled ∧ (∀ k, 0 ≤ k → k < piled → 0 ≤ stack k ∧ stack k < many ∧ T (stack k)) ∧ (∀ j k, 0 ≤ j → j < piled → 0 ≤ k → k < piled → stack j = stack k → j = k) ∧ (∀ i, stamp i = stamps ↔ T i) ∧ ∀ i, T i → ∃ k, 0 ≤ k ∧ k < piled ∧ stack k = i
theorem IniS.cli {op arg stamp stack reading : Int → Int} {many stamps piled : Int} {T : Int → Prop} (h : IniS many stamp stack stamps piled T) : ClI op arg many T stamp stack reading stamps piled 0 (-1) (fun _ => 0) (-1) := by
  obtain ⟨h1, h2, h3, h4, h5⟩ := h
  refine ⟨⟨h1, fun k k0 k1 => ⟨(h2 k k0 k1).1, (h2 k k0 k1).2.1, (h4 _).mpr (h2 k k0 k1).2.2, by have := (h2 k k0 k1).1; omega⟩, h3⟩, ⟨Int.le_refl _, fun k k0 k1 => by omega, fun j k j0 j1 => by omega⟩, fun y hy => ?_, fun i i0 i1 hi => ⟨⟨i, (h4 i).mp hi, .rf _⟩, Or.inl (h5 i ((h4 i).mp hi))⟩, Or.inl rfl⟩
  obtain ⟨k, k0, k1, k2⟩ := h5 y hy
  have := h2 k k0 k1
  rw [k2] at this
  exact ⟨this.1, this.2.1, (h4 y).mpr hy⟩
theorem IniS.zero {many stamps : Int} {stamp stack : Int → Int} (h : ∀ i, 0 ≤ stamp i ∧ stamp i < stamps) : IniS many stamp stack stamps 0 (fun _ => False) := ⟨Int.le_refl _, fun k k0 k1 => by omega, fun j k j0 j1 => by omega, fun i => ⟨fun e => by have := h i; omega, fun e => e.elim⟩, fun i h => h.elim⟩
theorem IniS.room {many stamps piled : Int} {stamp stack : Int → Int} {T : Int → Prop} (h : IniS many stamp stack stamps piled T) (h0 : 0 ≤ many) {i : Int} (i0 : 0 ≤ i) (i1 : i < many) (hi : stamp i ≠ stamps) : piled < many :=
  (h.cli (op := fun _ => 0) (arg := fun _ => 0) (reading := fun _ => 0)).room h0 i0 i1 hi
theorem IniS.same {many stamps piled : Int} {stamp stack : Int → Int} {T T' : Int → Prop} (h : IniS many stamp stack stamps piled T) (e : ∀ i, T i ↔ T' i) : IniS many stamp stack stamps piled T' := by
  rw [show T' = T from funext (fun i => propext (e i).symm)]
  exact h
theorem IniS.add {many stamps piled : Int} {stamp stack : Int → Int} {T : Int → Prop} (h : IniS many stamp stack stamps piled T) {i : Int} (i0 : 0 ≤ i) (i1 : i < many) (hi : stamp i ≠ stamps) : IniS many (up stamp i stamps) (up stack piled i) stamps (piled + 1) (fun y => T y ∨ y = i) := by
  obtain ⟨h1, h2, h3, h4, h5⟩ := h
  have hT : ¬ T i := fun h => hi ((h4 i).mpr h)
  refine ⟨by omega, fun k k0 k1 => ?_, fun j k j0 j1 k0 k1 he => ?_, fun y => ?_, fun y hy => ?_⟩
  · by_cases e : k = piled
    · rw [e, up_same]; exact ⟨i0, i1, Or.inr rfl⟩
    · rw [up_ne _ _ e]
      have := h2 k k0 (by omega)
      exact ⟨this.1, this.2.1, Or.inl this.2.2⟩
  · by_cases ej : j = piled
    · by_cases ek : k = piled
      · omega
      · rw [ej, up_same, up_ne _ _ ek] at he
        exact absurd (by rw [he]; exact (h2 k k0 (by omega)).2.2) hT
    · by_cases ek : k = piled
      · rw [ek, up_same, up_ne _ _ ej] at he
        exact absurd (by rw [← he]; exact (h2 j j0 (by omega)).2.2) hT
      · rw [up_ne _ _ ej, up_ne _ _ ek] at he
        exact h3 j k j0 (by omega) k0 (by omega) he
  · by_cases e : y = i
    · rw [e, up_same]; exact ⟨fun _ => Or.inr rfl, fun _ => rfl⟩
    · rw [up_ne _ _ e, h4]
      exact ⟨Or.inl, fun h => h.resolve_right e⟩
  · rcases hy with hy | hy
    · obtain ⟨k, k0, k1, k2⟩ := h5 y hy
      exact ⟨k, k0, by omega, by rw [up_ne _ _ (by omega)]; exact k2⟩
    · exact ⟨piled, h1, by omega, by rw [up_same, hy]⟩
/-- what a building leaves -/
def BldR (tg : (Int → Int → Bool) → Int → Int → Int → Bool) (la : Int → Bool) (N : Int) (nul : Bool) (r : Bool) (states : Int) (label next : Int → Int) (isE : Bool) : Prop :=
  (r = true ∧ ∃ e : Ex, exRun tg 51329 0 (1, (fun _ _ => false), (fun _ => 0)) = some e ∧ exOk e ∧ e.cnt = states ∧ (∀ j, 0 ≤ j → j < 128 * states → next j = e.mv j) ∧ isE = nul ∧ ∀ s, 0 ≤ s → s < states → label s = bacc (accS la N e s)) ∨ (r = false ∧ exRun tg 51329 0 (1, (fun _ _ => false), (fun _ => 0)) = none)
/-- while the states are gone through: at (s, b); states below s' have what they tell -/
def BLI (la : Int → Bool) (nul : Bool) (masks stamps : Int) (ns : Nat) (s b s' : Int) (S : Int → Int → Bool) (mv : Int → Int) (ns1 : Nat) (stamp1 : Int → Int) (st1 : Int) (sset1 : Int → Int64) (label1 next1 : Int → Int) (states1 : Int) (heads1 chained1 : Int → Int) (isE1 : Bool) : Prop :=
  MsS states1 S masks sset1 heads1 chained1 ∧ (∀ j, 0 ≤ j → j < 128 * s + b → next1 j = mv j ∧ 1 ≤ mv j ∧ mv j < states1) ∧ (∀ t, 0 ≤ t → t < s' → label1 t = bacc (decide (1 ≤ t) && anyB (fun p => S t p && la p) masks)) ∧ (1 ≤ s' → isE1 = nul) ∧ StOk stamp1 st1 ∧ (0 ≤ st1 ∧ st1 ≤ stamps + s') ∧ ns ≤ ns1 ∧ ns1 ≤ 8194
def RdS (fi : Int → Bool) (fo : Int → Int → Bool) (masks s : Int) (S : Int → Int → Bool) (reading : Int → Int) (readings : Int) : Prop := (0 ≤ readings ∧ readings ≤ masks) ∧ (∀ k, 0 ≤ k → k < readings → 0 ≤ reading k ∧ reading k < masks) ∧ ∀ q, (∃ k, 0 ≤ k ∧ k < readings ∧ reading k = q) ↔ (if s = 0 then fi q = true else ∃ p, S s p = true ∧ fo p q = true)
theorem exRun_stop {tg : (Int → Int → Bool) → Int → Int → Int → Bool} {f : Nat} {j : Int} {e : Ex} (h : ¬ j < 128 * e.cnt) : exRun tg f j e = some e := by
  cases f with
  | zero => rfl
  | succ f => rw [exRun, if_neg h]
theorem cM_build {Z : Zk} {wr : va_W} {a : Nat → Nat} {tape : Int → Int} {taped : Int} {place : Int} {thrown : Int} {r_op : Nat} {no : Nat} {op : Int → Int} {r_arg : Nat} {arg : Int → Int} {low : Int → Int64} {high : Int → Int64} {masks : Int} {cur : Int} {readLow : Int64} {readHigh : Int64} {group : Int → Int} {choice : Int → Int} {chain : Int → Int} {hasEmpty : Int → Bool} {sset : Int → Int64} {label : Int → Int} {next : Int → Int} {states : Int} {r_stamp : Nat} {ns : Nat} {stamp : Int → Int} {r_stack : Nat} {stack : Int → Int} {stamps : Int} {piled : Int} {reading : Int → Int} {readings : Int} {wher : Int → Int} {built : Int → Int64} {heads : Int → Int} {chained : Int → Int} {isE : Bool} {lives : Int → Bool} {kind : Int → Int} {newKind : Int → Int} {first : Int → Int} {kinds : Int} {leads : Int → Int} {sideStates : Int → Int} {ends : Int → Bool} {text : Int → Int} {textLong : Int} {queue : Int → Int} {frm : Int → Int} {by_ : Int → Int} {ways : Int → Int64} {before : Int → Int64} {m : Int} {B : PV} (hcd : CdP op arg m masks B) (hsu : supp 0 masks B) (m1 : m ≤ 4096) (mo : m + 1 ≤ (no : Int)) (o1 : no ≤ 8192) (n1 : ns ≤ 8194) (hs0 : 0 ≤ stamps) (hs1 : stamps < 1000000000) (hst : StOk stamp stamps) :
    Ct Z yX6_build hX6_build 4 190 [.ref (a 0)] (wM Z a tape taped place thrown r_op no op r_arg arg (m + 1) low high masks cur readLow readHigh group choice chain hasEmpty sset label next states r_stamp ns stamp r_stack stack stamps piled reading readings wher built heads chained isE lives kind newKind first kinds leads sideStates ends text textLong queue frm by_ ways before ++ wr) 2 16388 (Rz (fun r w => ∃ r1 r2 ns1 stamp1 stack1 st1 pl1 reading1 readings1 wher1 built1 sset1 label1 next1 states1 heads1 chained1 isE1, (StOk stamp1 st1 ∧ 0 ≤ st1 ∧ st1 ≤ stamps + 401 ∧ ns ≤ ns1 ∧ ns1 ≤ 8194) ∧ (1 ≤ states1 ∧ states1 ≤ 401) ∧ BldR (tgt B.fi B.fo (tkB low high)) B.la masks B.nul r states1 label1 next1 isE1 ∧ w = wM Z a tape taped place thrown r_op no op r_arg arg (m + 1) low high masks cur readLow readHigh group choice chain hasEmpty sset1 label1 next1 states1 r1 ns1 stamp1 r2 stack1 st1 pl1 reading1 readings1 wher1 built1 heads1 chained1 isE1 lives kind newKind first kinds leads sideStates ends text textLong queue frm by_ ways before ++ wr)) := by
  refine Ct.of RX6 "build" (by decide +kernel) rfl rfl hkX6_build (Nat.le_of_ble_eq_true rfl) (fun X hZ C => ?_)
  subst hZ
  have hm0 := hcd.1
  have hcok := hcd.ok
  have hb := hcd.2.2.2.2.1
  have hmk := hcd.2.2.2.2.2
  have main : ∀ (wher1 : Int → Int), (∀ j, 0 ≤ j → j < m + 1 → op j = 0 → wher1 (arg j) = j) → ∀ (heads : Int → Int), (∀ j, 0 ≤ j → j < 1024 → heads j = -1) → G X 6 0 0 (wM X.Z a tape taped place thrown r_op no op r_arg arg (m + 1) low high masks cur readLow readHigh group choice chain hasEmpty sset label next states r_stamp ns stamp r_stack stack stamps piled reading readings wher1 built heads chained isE lives kind newKind first kinds leads sideStates ends text textLong queue frm by_ ways before ++ wr) 61 [(0, .ref (a 0))] [] := by
    intro wher1 hwh heads hhd
    have aft : ∀ f : Nat, (∀ (s b best : Int) (S : Int → Int → Bool) (mv : Int → Int) (r1 r2 ns1 : Nat) (stamp1 stack1 : Int → Int) (st1 pl1 : Int) (reading1 : Int → Int) (readings1 : Int) (built1 sset1 : Int → Int64) (label1 next1 : Int → Int) (states1 : Int) (heads1 chained1 : Int → Int) (isE1 : Bool), 0 ≤ s → s < states1 → 0 ≤ b → b < 128 → (f : Int) + (128 * s + b) = 51329 → exRun (tgt B.fi B.fo (tkB low high)) f (128 * s + b) (states1, S, mv) = (exRun (tgt B.fi B.fo (tkB low high)) 51329 0 (1, (fun _ _ => false), (fun _ => 0))) → BLI B.la B.nul masks stamps ns s b (s + 1) S mv ns1 stamp1 st1 sset1 label1 next1 states1 heads1 chained1 isE1 → RdS B.fi B.fo masks s S reading1 readings1 → m + 2 ≤ (ns1 : Int) → G X 6 2 16388 (wM X.Z a tape taped place thrown r_op no op r_arg arg (m + 1) low high masks cur readLow readHigh group choice chain hasEmpty sset1 label1 next1 states1 r1 ns1 stamp1 r2 stack1 st1 pl1 reading1 readings1 wher1 built1 heads1 chained1 isE1 lives kind newKind first kinds leads sideStates ends text textLong queue frm by_ ways before ++ wr) 186 [(0, .ref (a 0)), (1, vI s), (2, vI best), (3, vI b)] []) → (∀ (s : Int) (S : Int → Int → Bool) (mv : Int → Int) (r1 r2 ns1 : Nat) (stamp1 stack1 : Int → Int) (st1 pl1 : Int) (reading1 : Int → Int) (readings1 : Int) (built1 sset1 : Int → Int64) (label1 next1 : Int → Int) (states1 : Int) (heads1 chained1 : Int → Int) (isE1 : Bool), 0 ≤ s → s < states1 → (f : Int) + 128 * s = 51329 → exRun (tgt B.fi B.fo (tkB low high)) f (128 * s) (states1, S, mv) = (exRun (tgt B.fi B.fo (tkB low high)) 51329 0 (1, (fun _ _ => false), (fun _ => 0))) → MsS states1 S masks sset1 heads1 chained1 → (∀ j, 0 ≤ j → j < 128 * s → next1 j = mv j ∧ 1 ≤ mv j ∧ mv j < states1) → (∀ t, 0 ≤ t → t < s → label1 t = bacc (decide (1 ≤ t) && anyB (fun p => S t p && B.la p) masks)) → (1 ≤ s → isE1 = B.nul) → (∀ i, 0 ≤ stamp1 i ∧ stamp1 i < st1) → (1 ≤ st1 ∧ st1 ≤ stamps + s + 1) → (ns ≤ ns1 ∧ ns1 ≤ 8194 ∧ m + 2 ≤ (ns1 : Int)) → pl1 = 0 → G X 6 2 16388 (wM X.Z a tape taped place thrown r_op no op r_arg arg (m + 1) low high masks cur readLow readHigh group choice chain hasEmpty sset1 label1 next1 states1 r1 ns1 stamp1 r2 stack1 st1 pl1 reading1 readings1 wher1 built1 heads1 chained1 isE1 lives kind newKind first kinds leads sideStates ends text textLong queue frm by_ ways before ++ wr) 80 [(0, .ref (a 0)), (1, vI s)] []) := by
      intro f inn s S mv r1 r2 ns1 stamp1 stack1 st1 pl1 reading1 readings1 built1 sset1 label1 next1 states1 heads1 chained1 isE1 s0 s1 hf hE hMs hnx hlab hisE hfr hst1 hns hpl
      subst hpl
      have hfr2 : StOk stamp1 st1 := fun i => by have := hfr i; omega
      have hms := hMs.1
      have t146 : ∀ (stamp1 stack1 : Int → Int) (pl1 : Int), StOk stamp1 st1 → IniS (m + 1) stamp1 stack1 st1 pl1 (S0of op arg m S s) → G X 6 2 16388 (wM X.Z a tape taped place thrown r_op no op r_arg arg (m + 1) low high masks cur readLow readHigh group choice chain hasEmpty sset1 label1 next1 states1 r1 ns1 stamp1 r2 stack1 st1 pl1 reading1 readings1 wher1 built1 heads1 chained1 isE1 lives kind newKind first kinds leads sideStates ends text textLong queue frm by_ ways before ++ wr) 146 [(0, .ref (a 0)), (1, vI s)] [] := by
        intro stamp1 stack1 pl1 hso hI
        by_cases e : s = 0
        · show G _ _ _ _ _ _ _ _
          refine g_aload_n C dX6_build_146 rfl ?_
          refine g_cVWi C [] _ 0 cal_X6_168 (cM_closure (S0 := S0of op arg m S s) hcok (by omega) (by omega) mo (by omega) (by omega) (by omega) (by omega) hso hI.cli) rfl rfl rfl rfl (Nat.le_of_ble_eq_true rfl) (room_b rfl) dX6_build_147 (fun r147 w hw147 => ?_)
          obtain ⟨stamp2, stack2, reading2, readings2, k1, ⟨k2, k3, k4, k5, k6⟩, rfl⟩ := hw147
          refine g_istore_n C dX6_build_150 (by decide) ?_
          refine g_iload_n C dX6_build_151 rfl ?_
          refine g_if_ne C 169 dX6_build_152 (by decide) (by omega) (fun h152 => ?_) (fun h152 => ?_)
          · exact absurd e h152
          · have hnul : r147 = 0 ↔ B.nul = true := by have h := k6.trans (rch_match hcd); rw [if_pos e] at h; exact h
            have hbl : B.nul = decide (r147 ≠ -1) := by (cases hb9 : B.nul with | true => (rw [decide_eq_true (by have := hnul.mpr hb9; omega)]) | false => (rw [decide_eq_false (by intro hx; have := hnul.mp (by omega); rw [hb9] at this; cases this)]))
            refine g_aload_n C dX6_build_155 rfl ?_
            refine g_iload_n C dX6_build_156 rfl ?_
            refine g_iconst C dX6_build_157 ?_
            refine g_icmp_eq C 165 dX6_build_158 (by decide) (by omega) (fun h158 => ?_) (fun h158 => ?_)
            · refine g_iconst C dX6_build_165 ?_
              refine pM_isEmpty C B.nul (by rw [hbl]; first | (rw [decide_eq_true (by omega)]; rfl) | (rw [decide_eq_false (by omega)]; rfl)) dX6_build_166 ?_
              refine g_aload_n C dX6_build_169 rfl ?_
              refine gM_label C dX6_build_170 ?_
              refine g_iload_n C dX6_build_173 rfl ?_
              refine g_iload_n C dX6_build_174 rfl ?_
              refine g_if_ne C 182 dX6_build_175 (by decide) (by omega) (fun h175 => ?_) (fun h175 => ?_)
              · exact absurd e h175
              · refine g_iconst C dX6_build_178 ?_
                refine g_goto C 183 dX6_build_179 (by decide) ?_
                refine sM_label C (by omega) dX6_build_183 ?_
                refine g_iconst C dX6_build_184 ?_
                refine g_istore_n C dX6_build_185 (by decide) ?_
                exact g_locR rfl (inn s 0 _ S mv _ _ _ _ _ _ _ _ _ _ _ _ _ _ _ _ _ s0 s1 (by decide) (by decide) (by omega) (by rw [Int.add_zero]; exact hE) ⟨hMs, fun j j0 j1 => hnx j j0 (by omega), fun t t0 t1 => by (rw [show t = s by omega, up_same, decide_eq_false (by omega)]; rfl), fun _ => rfl, k1, by omega, hns.1, hns.2.1⟩ ⟨k2, k3, fun q => (k4 q).trans (rch_byte hcd)⟩ hns.2.2)
            · refine g_iconst C dX6_build_161 ?_
              refine g_goto C 166 dX6_build_162 (by decide) ?_
              refine pM_isEmpty C B.nul (by rw [hbl]; first | (rw [decide_eq_true (by omega)]; rfl) | (rw [decide_eq_false (by omega)]; rfl)) dX6_build_166 ?_
              refine g_aload_n C dX6_build_169 rfl ?_
              refine gM_label C dX6_build_170 ?_
              refine g_iload_n C dX6_build_173 rfl ?_
              refine g_iload_n C dX6_build_174 rfl ?_
              refine g_if_ne C 182 dX6_build_175 (by decide) (by omega) (fun h175 => ?_) (fun h175 => ?_)
              · exact absurd e h175
              · refine g_iconst C dX6_build_178 ?_
                refine g_goto C 183 dX6_build_179 (by decide) ?_
                refine sM_label C (by omega) dX6_build_183 ?_
                refine g_iconst C dX6_build_184 ?_
                refine g_istore_n C dX6_build_185 (by decide) ?_
                exact g_locR rfl (inn s 0 _ S mv _ _ _ _ _ _ _ _ _ _ _ _ _ _ _ _ _ s0 s1 (by decide) (by decide) (by omega) (by rw [Int.add_zero]; exact hE) ⟨hMs, fun j j0 j1 => hnx j j0 (by omega), fun t t0 t1 => by (rw [show t = s by omega, up_same, decide_eq_false (by omega)]; rfl), fun _ => rfl, k1, by omega, hns.1, hns.2.1⟩ ⟨k2, k3, fun q => (k4 q).trans (rch_byte hcd)⟩ hns.2.2)
        · show G _ _ _ _ _ _ _ _
          refine g_aload_n C dX6_build_146 rfl ?_
          refine g_cVWi C [] _ 0 cal_X6_168 (cM_closure (S0 := S0of op arg m S s) hcok (by omega) (by omega) mo (by omega) (by omega) (by omega) (by omega) hso hI.cli) rfl rfl rfl rfl (Nat.le_of_ble_eq_true rfl) (room_b rfl) dX6_build_147 (fun r147 w hw147 => ?_)
          obtain ⟨stamp2, stack2, reading2, readings2, k1, ⟨k2, k3, k4, k5, k6⟩, rfl⟩ := hw147
          have hmt := k6.trans (rch_match hcd)
          rw [if_neg e] at hmt
          have hbl : r147 = bacc (decide (1 ≤ s) && anyB (fun p => S s p && B.la p) masks) := by (rw [decide_eq_true (by omega), Bool.true_and]; unfold anyB bacc; cases ht : tr (∃ p, 0 ≤ p ∧ p < masks ∧ (S s p && B.la p) = true) with | true => (obtain ⟨p, p0, p1, p2⟩ := tr_iff.mp ht; rw [Bool.and_eq_true] at p2; exact hmt.mpr ⟨p, p2.1, p2.2⟩) | false => (show r147 = -1; rcases k5 with k5 | k5; exact k5; exfalso; obtain ⟨p, p1, p2⟩ := hmt.mp k5; have hp := hsu.2.1 p p2; rw [tr_iff.mpr ⟨p, hp.1, hp.2, by rw [p1, p2]; rfl⟩] at ht; cases ht))
          refine g_istore_n C dX6_build_150 (by decide) ?_
          refine g_iload_n C dX6_build_151 rfl ?_
          refine g_if_ne C 169 dX6_build_152 (by decide) (by omega) (fun h152 => ?_) (fun h152 => ?_)
          · refine g_aload_n C dX6_build_169 rfl ?_
            refine gM_label C dX6_build_170 ?_
            refine g_iload_n C dX6_build_173 rfl ?_
            refine g_iload_n C dX6_build_174 rfl ?_
            refine g_if_ne C 182 dX6_build_175 (by decide) (by omega) (fun h175 => ?_) (fun h175 => ?_)
            · refine g_iload_n C dX6_build_182 rfl ?_
              refine sM_label C (by omega) dX6_build_183 ?_
              refine g_iconst C dX6_build_184 ?_
              refine g_istore_n C dX6_build_185 (by decide) ?_
              exact g_locR rfl (inn s 0 _ S mv _ _ _ _ _ _ _ _ _ _ _ _ _ _ _ _ _ s0 s1 (by decide) (by decide) (by omega) (by rw [Int.add_zero]; exact hE) ⟨hMs, fun j j0 j1 => hnx j j0 (by omega), fun t t0 t1 => by (by_cases et : t = s; (rw [et, up_same]; exact hbl); (rw [up_ne _ _ et]; exact hlab t t0 (by omega))), fun _ => hisE (by omega), k1, by omega, hns.1, hns.2.1⟩ ⟨k2, k3, fun q => (k4 q).trans (rch_byte hcd)⟩ hns.2.2)
            · exact absurd h175 (by omega)
          · exact absurd h152 (by omega)
      by_cases e : s = 0
      · show G _ _ _ _ _ _ _ _
        refine g_iload_n C dX6_build_80 rfl ?_
        refine g_if_ne C 92 dX6_build_81 (by decide) (by omega) (fun h81 => ?_) (fun h81 => ?_)
        · exact absurd e h81
        · refine g_aload_n C dX6_build_84 rfl ?_
          refine g_iconst C dX6_build_85 ?_
          refine g_cVWv C [_] _ 0 cal_X6_133 (cM_reach (i := 0) (piled := 0) (by decide) (by omega) (by omega) (by omega) (by have := hfr 0; omega) (by decide) (fun _ => by omega)) rfl rfl rfl rfl (Nat.le_of_ble_eq_true rfl) (room_b rfl) dX6_build_86 (fun w hw86 => ?_)
          rw [if_neg (by have := hfr 0; omega)] at hw86
          subst hw86
          refine g_goto C 146 dX6_build_89 (by decide) ?_
          exact g_locR rfl (t146 _ _ _ (hfr2.up (by omega)) (((IniS.zero hfr).add (by decide) (by omega) (by have := hfr 0; omega)).same (fun y => ⟨fun h => Or.inl ⟨e, h.resolve_left id⟩, fun h => by rcases h with h | h; (exact Or.inr h.2); (exact absurd e h.1)⟩)))
      · have pl : ∀ (f : Nat) (p : Int) (stamp1 stack1 : Int → Int) (pl1 : Int), 0 ≤ p → p + (f : Int) = masks → StOk stamp1 st1 → IniS (m + 1) stamp1 stack1 st1 pl1 (fun x => ∃ q i, q < p ∧ S s q = true ∧ 0 ≤ i ∧ i < m ∧ op i = 0 ∧ arg i = q ∧ x = i + 1) → G X 6 2 16388 (wM X.Z a tape taped place thrown r_op no op r_arg arg (m + 1) low high masks cur readLow readHigh group choice chain hasEmpty sset1 label1 next1 states1 r1 ns1 stamp1 r2 stack1 st1 pl1 reading1 readings1 wher1 built1 heads1 chained1 isE1 lives kind newKind first kinds leads sideStates ends text textLong queue frm by_ ways before ++ wr) 94 [(0, .ref (a 0)), (1, vI s), (2, vI p)] [] := by
          intro f
          induction f with
          | zero =>
            intro p stamp1 stack1 pl1 p0 hp hso hI
            refine g_iload_n C dX6_build_94 rfl ?_
            refine g_aload_n C dX6_build_95 rfl ?_
            refine gM_masks C dX6_build_96 ?_
            refine g_icmp_ge C 146 dX6_build_99 (by decide) (by omega) (fun h99 => ?_) (fun h99 => ?_)
            · exact g_locR rfl (t146 _ _ _ hso (hI.same (fun y => ⟨fun ⟨q, i, h1, h2, h3, h4, h5, h6, h7⟩ => Or.inr ⟨e, q, i, h2, h3, h4, h5, h6, h7⟩, fun h => by (rcases h with h | ⟨_, q, i, h2, h3, h4, h5, h6, h7⟩; (exact absurd h.1 e); (exact ⟨q, i, by have := (hb.1 i h3 h4).2 h5; omega, h2, h3, h4, h5, h6, h7⟩))⟩)))
            · exact absurd h99 (by omega)
          | succ f ih =>
            intro p stamp1 stack1 pl1 p0 hp hso hI
            obtain ⟨i, i0, i1, i2, i3⟩ := hb.2.1 p p0 (by omega)
            have hwi : wher1 p = i := by have := hwh i i0 (by omega) i2; rw [i3] at this; exact this
            have hbit : hasB sset1 (7 * s) p = S s p := hMs.2.1 s (by omega) s1 p p0 (by omega)
            have hpl := hI.1
            refine g_iload_n C dX6_build_94 rfl ?_
            refine g_aload_n C dX6_build_95 rfl ?_
            refine gM_masks C dX6_build_96 ?_
            refine g_icmp_ge C 146 dX6_build_99 (by decide) (by omega) (fun h99 => ?_) (fun h99 => ?_)
            · exact absurd h99 (by omega)
            · refine g_aload_n C dX6_build_102 rfl ?_
              refine gM_set C dX6_build_103 ?_
              refine g_bipush C dX6_build_106 (by decide) ?_
              refine g_iload_n C dX6_build_108 rfl ?_
              refine g_imul C dX6_build_109 ?_
              refine g_iload_n C dX6_build_110 rfl ?_
              refine g_bipush C dX6_build_111 (by decide) ?_
              refine g_idiv C dX6_build_113 (by omega) ?_
              refine g_iadd C dX6_build_114 ?_
              refine lM_set C (by omega) dX6_build_115 ?_
              refine g_iload_n C dX6_build_116 rfl ?_
              refine g_bipush C dX6_build_117 (by decide) ?_
              refine g_irem C dX6_build_119 (by omega) ?_
              refine g_lshr C dX6_build_120 ?_
              refine g_lconst C 1 dX6_build_121 rfl ?_
              refine g_land C dX6_build_122 ?_
              refine g_lconst C 1 dX6_build_123 rfl ?_
              refine g_lcmp C dX6_build_124 ?_
              refine g_if_ne C 140 dX6_build_125 (by decide) (lcmp_r _ _) (fun h125 => ?_) (fun h125 => ?_)
              · have hf0 : S s p = false := by rw [← hbit]; exact eq_false_of_ne_true (fun hb => h125 ((lcmp_0 _ _).mpr ((bit_eq (by omega) (by omega)).mpr hb)))
                refine g_iinc C dX6_build_140 rfl (by decide) ?_
                refine g_goto C 94 dX6_build_143 (by decide) ?_
                exact g_locR rfl (ih (p + 1) _ _ _ (by omega) (by omega) hso (hI.same (fun y => ⟨fun ⟨q, j, h1, h2⟩ => ⟨q, j, by omega, h2⟩, fun ⟨q, j, h1, h2, h3⟩ => ⟨q, j, by (by_cases eq : q = p; (rw [eq, hf0] at h2; cases h2); omega), h2, h3⟩⟩)))
              · have hf1 : S s p = true := by rw [← hbit]; exact (bit_eq (by omega) (by omega)).mp ((lcmp_0 _ _).mp h125)
                refine g_aload_n C dX6_build_128 rfl ?_
                refine g_aload_n C dX6_build_129 rfl ?_
                refine gM_where C dX6_build_130 ?_
                refine g_iload_n C dX6_build_133 rfl ?_
                refine lM_where C (by omega) dX6_build_134 ?_
                refine g_iconst C dX6_build_135 ?_
                refine g_iadd C dX6_build_136 ?_
                refine g_top (show _ = i + 1 from by rw [hwi]) ?_
                refine g_cVWv C [_] _ 0 cal_X6_133 (cM_reach (i := i + 1) (piled := pl1) (by omega) (by omega) (by omega) (by omega) (by have := hso (i + 1); omega) hpl (fun he => by have := hI.room (by omega) (show 0 ≤ i + 1 by omega) (by omega) he; omega)) rfl rfl rfl rfl (Nat.le_of_ble_eq_true rfl) (room_b rfl) dX6_build_137 (fun w hw137 => ?_)
                refine g_iinc C dX6_build_140 rfl (by decide) ?_
                refine g_goto C 94 dX6_build_143 (by decide) ?_
                by_cases hm9 : stamp1 (i + 1) = st1
                · rw [if_pos hm9] at hw137
                  subst hw137
                  have hT := (hI.2.2.2.1 (i + 1)).mp hm9
                  exact g_locR rfl (ih (p + 1) _ _ _ (by omega) (by omega) hso (hI.same (fun y => ⟨fun ⟨q, j, h1, h2⟩ => ⟨q, j, by omega, h2⟩, fun ⟨q, j, h1, h2, h3, h4, h5, h6, h7⟩ => by (by_cases eq : q = p; (have ej := hb.2.2 j i h3 h4 i0 i1 h5 i2 (by omega); rw [h7, ej]; exact hT); exact ⟨q, j, by omega, h2, h3, h4, h5, h6, h7⟩)⟩)))
                · rw [if_neg hm9] at hw137
                  subst hw137
                  exact g_locR rfl (ih (p + 1) _ _ _ (by omega) (by omega) (hso.up (by omega)) ((hI.add (show 0 ≤ i + 1 by omega) (by omega) hm9).same (fun y => ⟨fun h => by (rcases h with ⟨q, j, h1, h2⟩ | h; (exact ⟨q, j, by omega, h2⟩); (exact ⟨p, i, by omega, hf1, i0, i1, i2, i3, h⟩)), fun ⟨q, j, h1, h2, h3, h4, h5, h6, h7⟩ => by (by_cases eq : q = p; (have ej := hb.2.2 j i h3 h4 i0 i1 h5 i2 (by omega); exact Or.inr (by rw [h7, ej])); exact Or.inl ⟨q, j, by omega, h2, h3, h4, h5, h6, h7⟩)⟩)))
        refine g_iload_n C dX6_build_80 rfl ?_
        refine g_if_ne C 92 dX6_build_81 (by decide) (by omega) (fun h81 => ?_) (fun h81 => ?_)
        · refine g_iconst C dX6_build_92 ?_
          refine g_istore_n C dX6_build_93 (by decide) ?_
          exact g_locR rfl (pl masks.toNat 0 _ _ _ (by decide) (by omega) hfr2 ((IniS.zero hfr).same (fun y => ⟨fun h => h.elim, fun ⟨q, j, h1, h2, h3, h4, h5, h6, h7⟩ => by have := (hb.1 j h3 h4).2 h5; omega⟩)))
        · exact absurd h81 (by omega)
    have hd : ∀ f : Nat, (∀ (s b best : Int) (S : Int → Int → Bool) (mv : Int → Int) (r1 r2 ns1 : Nat) (stamp1 stack1 : Int → Int) (st1 pl1 : Int) (reading1 : Int → Int) (readings1 : Int) (built1 sset1 : Int → Int64) (label1 next1 : Int → Int) (states1 : Int) (heads1 chained1 : Int → Int) (isE1 : Bool), 0 ≤ s → s < states1 → 0 ≤ b → b < 128 → (f : Int) + (128 * s + b) = 51329 → exRun (tgt B.fi B.fo (tkB low high)) f (128 * s + b) (states1, S, mv) = (exRun (tgt B.fi B.fo (tkB low high)) 51329 0 (1, (fun _ _ => false), (fun _ => 0))) → BLI B.la B.nul masks stamps ns s b (s + 1) S mv ns1 stamp1 st1 sset1 label1 next1 states1 heads1 chained1 isE1 → RdS B.fi B.fo masks s S reading1 readings1 → m + 2 ≤ (ns1 : Int) → G X 6 2 16388 (wM X.Z a tape taped place thrown r_op no op r_arg arg (m + 1) low high masks cur readLow readHigh group choice chain hasEmpty sset1 label1 next1 states1 r1 ns1 stamp1 r2 stack1 st1 pl1 reading1 readings1 wher1 built1 heads1 chained1 isE1 lives kind newKind first kinds leads sideStates ends text textLong queue frm by_ ways before ++ wr) 186 [(0, .ref (a 0)), (1, vI s), (2, vI best), (3, vI b)] []) → (∀ (s : Int) (S : Int → Int → Bool) (mv : Int → Int) (r1 r2 ns1 : Nat) (stamp1 stack1 : Int → Int) (st1 pl1 : Int) (reading1 : Int → Int) (readings1 : Int) (built1 sset1 : Int → Int64) (label1 next1 : Int → Int) (states1 : Int) (heads1 chained1 : Int → Int) (isE1 : Bool), 0 ≤ s → s ≤ states1 → (f : Int) + 128 * s = 51329 → exRun (tgt B.fi B.fo (tkB low high)) f (128 * s) (states1, S, mv) = (exRun (tgt B.fi B.fo (tkB low high)) 51329 0 (1, (fun _ _ => false), (fun _ => 0))) → BLI B.la B.nul masks stamps ns s 0 s S mv ns1 stamp1 st1 sset1 label1 next1 states1 heads1 chained1 isE1 → m + 2 ≤ (ns1 : Int) → G X 6 2 16388 (wM X.Z a tape taped place thrown r_op no op r_arg arg (m + 1) low high masks cur readLow readHigh group choice chain hasEmpty sset1 label1 next1 states1 r1 ns1 stamp1 r2 stack1 st1 pl1 reading1 readings1 wher1 built1 heads1 chained1 isE1 lives kind newKind first kinds leads sideStates ends text textLong queue frm by_ ways before ++ wr) 68 [(0, .ref (a 0)), (1, vI s)] []) := by
      intro f inn s S mv r1 r2 ns1 stamp1 stack1 st1 pl1 reading1 readings1 built1 sset1 label1 next1 states1 heads1 chained1 isE1 s0 s1 hf hE hL hns
      obtain ⟨b1, b3, b4, b5, b6, b7, b8, b9⟩ := hL
      have hms := b1.1
      have z1 : bC (m + 1) ns1 = 0 := if_neg (by omega)
      have z2 : bS (m + 1) ns1 = 0 := if_neg (by omega)
      refine g_iload_n C dX6_build_68 rfl ?_
      refine g_aload_n C dX6_build_69 rfl ?_
      refine gM_states C dX6_build_70 ?_
      refine g_icmp_ge C 341 dX6_build_73 (by decide) (by omega) (fun h73 => ?_) (fun h73 => ?_)
      · have es : s = states1 := by omega
        refine g_iconst C dX6_build_341 ?_
        exact g_zret C true rfl rfl ⟨_, rfl, _, _, _, _, _, _, _, _, _, _, _, _, _, _, _, _, _, _, ⟨b6, b7.1, by omega, b8, b9⟩, hms, Or.inl ⟨rfl, (states1, S, mv), by rw [← hE]; exact exRun_stop (by show ¬ 128 * s < 128 * states1; omega), ⟨hms, fun j j0 j1 => (b3 j j0 (by have j1 : j < 128 * states1 := j1; omega)).2⟩, rfl, fun j j0 j1 => (b3 j j0 (by omega)).1, b5 (by omega), fun t t0 t1 => b4 t t0 (by omega)⟩, rfl⟩ dX6_build_342
      · refine g_aload_n C dX6_build_76 rfl ?_
        refine g_cVWv C [] _ 0 cal_X6_165 (cM_begin (by omega) (by omega) b9 b7.1 (by omega) b6) rfl rfl rfl rfl (Nat.le_of_ble_eq_true rfl) ⟨⟨Nat.le_of_ble_eq_true rfl, Nat.le_of_ble_eq_true rfl⟩, by show 2 + bC (m + 1) ns1 ≤ 2; omega, by show 16388 + bS (m + 1) ns1 ≤ 16388; omega⟩ dX6_build_77 (fun w hw77 => ?_)
        obtain ⟨q1, q2, ns2, stamp2, stack2, st2, c1, c2, c3, rfl⟩ := hw77
        refine g_widen (k' := 2) (n' := 16388) (by omega) (by omega) ?_
        exact g_locR rfl (aft f inn s S mv _ _ _ _ _ _ _ _ _ _ _ _ _ _ _ _ _ s0 (by omega) hf hE b1 (fun j j0 j1 => b3 j j0 (by omega)) b4 b5 c2 (by omega) (by omega) rfl)
    have inn : ∀ f : Nat, (∀ (s b best : Int) (S : Int → Int → Bool) (mv : Int → Int) (r1 r2 ns1 : Nat) (stamp1 stack1 : Int → Int) (st1 pl1 : Int) (reading1 : Int → Int) (readings1 : Int) (built1 sset1 : Int → Int64) (label1 next1 : Int → Int) (states1 : Int) (heads1 chained1 : Int → Int) (isE1 : Bool), 0 ≤ s → s < states1 → 0 ≤ b → b < 128 → (f : Int) + (128 * s + b) = 51329 → exRun (tgt B.fi B.fo (tkB low high)) f (128 * s + b) (states1, S, mv) = (exRun (tgt B.fi B.fo (tkB low high)) 51329 0 (1, (fun _ _ => false), (fun _ => 0))) → BLI B.la B.nul masks stamps ns s b (s + 1) S mv ns1 stamp1 st1 sset1 label1 next1 states1 heads1 chained1 isE1 → RdS B.fi B.fo masks s S reading1 readings1 → m + 2 ≤ (ns1 : Int) → G X 6 2 16388 (wM X.Z a tape taped place thrown r_op no op r_arg arg (m + 1) low high masks cur readLow readHigh group choice chain hasEmpty sset1 label1 next1 states1 r1 ns1 stamp1 r2 stack1 st1 pl1 reading1 readings1 wher1 built1 heads1 chained1 isE1 lives kind newKind first kinds leads sideStates ends text textLong queue frm by_ ways before ++ wr) 186 [(0, .ref (a 0)), (1, vI s), (2, vI best), (3, vI b)] []) := by
      intro f
      induction f with
      | zero =>
        intro s b best S mv r1 r2 ns1 stamp1 stack1 st1 pl1 reading1 readings1 built1 sset1 label1 next1 states1 heads1 chained1 isE1 s0 s1 b0 b1 hf hE hL hR hN2
        have := hL.1.1
        omega
      | succ f ih =>
        intro s b best S mv r1 r2 ns1 stamp1 stack1 st1 pl1 reading1 readings1 built1 sset1 label1 next1 states1 heads1 chained1 isE1 s0 s1 b0 b1 hf hE hL hR hN2
        obtain ⟨l1, l3, l4, l5, l6, l7, l8, l9⟩ := hL
        obtain ⟨d1, d2, d3⟩ := hR
        have hms := l1.1
        have hj1 : (128 * s + b) / 128 = s := by omega
        have hj2 : (128 * s + b) % 128 = b := by omega
        have nxt : ∀ (S2 : Int → Int → Bool) (mv2 : Int → Int) (pc built2 : Int → Int64) (sset2 : Int → Int64) (next2 : Int → Int) (states2 : Int) (heads2 chained2 : Int → Int), states1 ≤ states2 → (∀ t, t < states1 → S2 t = S t) → exRun (tgt B.fi B.fo (tkB low high)) f (128 * s + b + 1) (states2, S2, mv2) = (exRun (tgt B.fi B.fo (tkB low high)) 51329 0 (1, (fun _ _ => false), (fun _ => 0))) → MsS states2 S2 masks sset2 heads2 chained2 → (∀ j, 0 ≤ j → j < 128 * s + b + 1 → next2 j = mv2 j ∧ 1 ≤ mv2 j ∧ mv2 j < states2) → m + 2 ≤ (ns1 : Int) → G X 6 2 16388 (wM X.Z a tape taped place thrown r_op no op r_arg arg (m + 1) low high masks cur readLow readHigh group choice chain hasEmpty sset2 label1 next2 states2 r1 ns1 stamp1 r2 stack1 st1 pl1 reading1 readings1 wher1 built2 heads2 chained2 isE1 lives kind newKind first kinds leads sideStates ends text textLong queue frm by_ ways before ++ wr) 186 [(0, .ref (a 0)), (1, vI s), (2, vI best), (3, vI (b + 1))] [] := by
          intro S2 mv2 pc built2 sset2 next2 states2 heads2 chained2 g1 g2 g3 g4 g5 g6
          have hlab : ∀ t, 0 ≤ t → t < s + 1 → label1 t = bacc (decide (1 ≤ t) && anyB (fun p => S2 t p && B.la p) masks) := fun t t0 t1 => by
            rw [g2 t (by omega)]; exact l4 t t0 t1
          by_cases eb : b + 1 < 128
          · exact ih s (b + 1) best S2 mv2 _ _ _ _ _ _ _ _ _ _ _ _ _ _ _ _ _ s0 (by omega) (by omega) eb (by omega) (by rw [show 128 * s + (b + 1) = 128 * s + b + 1 by omega]; exact g3) ⟨g4, fun j j0 j1 => g5 j j0 (by omega), hlab, l5, l6, l7, l8, l9⟩ ⟨d1, d2, fun q => by rw [g2 s s1]; exact d3 q⟩ g6
          · have hh := hd f ih (s + 1) S2 mv2 r1 r2 ns1 stamp1 stack1 st1 pl1 reading1 readings1 built2 sset2 label1 next2 states2 heads2 chained2 isE1 (by omega) (by omega) (by omega) (by rw [show 128 * (s + 1) = 128 * s + b + 1 by omega]; exact g3) ⟨g4, fun j j0 j1 => g5 j j0 (by omega), hlab, l5, l6, by omega, l8, l9⟩ g6
            refine g_iload_n C dX6_build_186 rfl ?_
            refine g_sipush C dX6_build_187 (by decide) ?_
            refine g_icmp_ge C 335 dX6_build_190 (by decide) (by omega) (fun h190 => ?_) (fun h190 => ?_)
            · refine g_iinc C dX6_build_335 rfl (by decide) ?_
              refine g_goto C 68 dX6_build_338 (by decide) ?_
              exact g_locR rfl hh
            · exact absurd h190 (by omega)
        have hsup : ∀ q, (tgt B.fi B.fo (tkB low high)) S s b q = true → q < masks := fun q hq => by
          unfold tgt at hq
          rw [Bool.and_eq_true] at hq
          by_cases e : s = 0
          · rw [if_pos e] at hq; exact (hsu.1 q hq.1).2
          · rw [if_neg e] at hq
            obtain ⟨p, _, _, _, hp⟩ := tr_iff.mp hq.1
            exact (hsu.2.2 p q hp).2.2
        have t305 : ∀ (bu : Int → Int64) (r : Int), 0 ≤ r → r < 402 → ∀ (sset2 : Int → Int64) (states2 : Int) (heads2 chained2 : Int → Int), G X 6 2 16388 (wM X.Z a tape taped place thrown r_op no op r_arg arg (m + 1) low high masks cur readLow readHigh group choice chain hasEmpty sset2 label1 (up next1 (128 * s + b) r) states2 r1 ns1 stamp1 r2 stack1 st1 pl1 reading1 readings1 wher1 bu heads2 chained2 isE1 lives kind newKind first kinds leads sideStates ends text textLong queue frm by_ ways before ++ wr) 186 [(0, .ref (a 0)), (1, vI s), (2, vI best), (3, vI (b + 1))] [] → G X 6 2 16388 (wM X.Z a tape taped place thrown r_op no op r_arg arg (m + 1) low high masks cur readLow readHigh group choice chain hasEmpty sset2 label1 next1 states2 r1 ns1 stamp1 r2 stack1 st1 pl1 reading1 readings1 wher1 bu heads2 chained2 isE1 lives kind newKind first kinds leads sideStates ends text textLong queue frm by_ ways before ++ wr) 305 [(0, .ref (a 0)), (1, vI s), (2, vI best), (3, vI b)] [vI r] := by
          intro bu r h0 h1 sset2 states2 heads2 chained2 hg
          refine g_istore C dX6_build_305 (by decide) ?_
          refine g_iload C dX6_build_307 rfl ?_
          refine g_iconst C dX6_build_309 ?_
          refine g_icmp_ne C 315 dX6_build_310 (by decide) (by omega) (fun h310 => ?_) (fun h310 => ?_)
          · refine g_aload_n C dX6_build_315 rfl ?_
            refine gM_next C dX6_build_316 ?_
            refine g_sipush C dX6_build_319 (by decide) ?_
            refine g_iload_n C dX6_build_322 rfl ?_
            refine g_imul C dX6_build_323 ?_
            refine g_iload_n C dX6_build_324 rfl ?_
            refine g_iadd C dX6_build_325 ?_
            refine g_iload C dX6_build_326 rfl ?_
            refine sM_next C (by omega) dX6_build_328 ?_
            refine g_iinc C dX6_build_329 rfl (by decide) ?_
            refine g_goto C 186 dX6_build_332 (by decide) ?_
            exact g_locR rfl hg
          · exact absurd h310 (by omega)
        have t301 : ∀ (bu : Int → Int64) (k5 k6 : Int), (∀ q, 0 ≤ q → q < 448 → hasB bu 0 q = (tgt B.fi B.fo (tkB low high)) S s b q) → G X 6 2 16388 (wM X.Z a tape taped place thrown r_op no op r_arg arg (m + 1) low high masks cur readLow readHigh group choice chain hasEmpty sset1 label1 next1 states1 r1 ns1 stamp1 r2 stack1 st1 pl1 reading1 readings1 wher1 bu heads1 chained1 isE1 lives kind newKind first kinds leads sideStates ends text textLong queue frm by_ ways before ++ wr) 301 [(0, .ref (a 0)), (1, vI s), (2, vI best), (3, vI b)] [] := by
          intro bu k5 k6 hbu
          refine g_aload_n C dX6_build_301 rfl ?_
          refine g_cVWi C [] _ 0 cal_X6_178 (cM_stateOf (S := S) (R := (tgt B.fi B.fo (tkB low high)) S s b) (N := masks) l1 hbu (fun q _ _ hq => hsup q hq)) rfl rfl rfl rfl (Nat.le_of_ble_eq_true rfl) (room_b rfl) dX6_build_302 (fun r302 w hw302 => ?_)
          rcases hw302 with ⟨hm, rfl⟩ | ⟨hno, h4, rfl, rfl⟩ | ⟨hno, h4, hr9, sset2, heads2, chained2, hM2, rfl⟩
          · have hst := exStep_old (tg := (tgt B.fi B.fo (tkB low high))) (j := 128 * s + b) (m := r302) (e := (states1, S, mv)) l1.2.2.2.1 (by rw [hj1, hj2]; exact hm)
            rw [exRun_some (by show 128 * s + b < 128 * states1; omega) hst] at hE
            have hg := nxt S (up mv (128 * s + b) r302) (fun _ => 0) bu sset1 (up next1 (128 * s + b) r302) states1 heads1 chained1 (Int.le_refl _) (fun _ _ => rfl) hE l1 (fun j j0 j1 => by (by_cases ej : j = 128 * s + b; (rw [ej, up_same, up_same]; exact ⟨rfl, hm.1, hm.2.1⟩); (rw [up_ne _ _ ej, up_ne _ _ ej]; exact l3 j j0 (by omega)))) hN2
            have hm1 := hm.1
            have hm2 : r302 < states1 := hm.2.1
            exact g_locR rfl (t305 bu r302 (by omega) (by omega) _ _ _ _ hg)
          · have hst := exStep_full (tg := (tgt B.fi B.fo (tkB low high))) (j := 128 * s + b) (e := (states1, S, mv)) (by rw [hj1, hj2]; exact hno) h4
            rw [exRun_none (by show 128 * s + b < 128 * states1; omega) hst] at hE
            refine g_istore C dX6_build_305 (by decide) ?_
            refine g_iload C dX6_build_307 rfl ?_
            refine g_iconst C dX6_build_309 ?_
            refine g_icmp_ne C 315 dX6_build_310 (by decide) (by decide) (fun h => absurd rfl h) (fun _ => ?_)
            refine g_iconst C dX6_build_313 ?_
            exact g_zret C false rfl rfl ⟨_, rfl, _, _, _, _, _, _, _, _, _, _, _, _, _, _, _, _, _, _, ⟨l6, l7.1, by omega, l8, l9⟩, hms, Or.inr ⟨rfl, hE.symm⟩, rfl⟩ dX6_build_314
          · subst r302
            have hst := exStep_new (tg := (tgt B.fi B.fo (tkB low high))) (j := 128 * s + b) (e := (states1, S, mv)) (by rw [hj1, hj2]; exact hno) (by show ¬ 400 < states1; omega)
            rw [exRun_some (by show 128 * s + b < 128 * states1; omega) hst] at hE
            have hE : exRun (tgt B.fi B.fo (tkB low high)) f (128 * s + b + 1) (states1 + 1, up S states1 ((tgt B.fi B.fo (tkB low high)) S ((128 * s + b) / 128) ((128 * s + b) % 128)), up mv (128 * s + b) states1) = _ := hE
            rw [hj1, hj2] at hE
            have hg := nxt (up S states1 ((tgt B.fi B.fo (tkB low high)) S s b)) (up mv (128 * s + b) states1) (fun _ => 0) bu sset2 (up next1 (128 * s + b) states1) (states1 + 1) heads2 chained2 (by omega) (fun t ht => up_ne _ _ (by omega)) hE hM2 (fun j j0 j1 => by (by_cases ej : j = 128 * s + b; (rw [ej, up_same, up_same]; exact ⟨rfl, by omega, by omega⟩); (rw [up_ne _ _ ej, up_ne _ _ ej]; have := l3 j j0 (by omega); exact ⟨this.1, this.2.1, by omega⟩))) hN2
            exact g_locR rfl (t305 bu states1 (by omega) (by omega) _ _ _ _ hg)
        have t220 : ∀ (g : Nat) (k : Int) (bu : Int → Int64), 0 ≤ k → k + (g : Int) = readings1 → (∀ q, 0 ≤ q → q < 448 → hasB bu 0 q = tr (∃ k', 0 ≤ k' ∧ k' < k ∧ reading1 k' = q ∧ tkB low high q b = true)) → G X 6 2 16388 (wM X.Z a tape taped place thrown r_op no op r_arg arg (m + 1) low high masks cur readLow readHigh group choice chain hasEmpty sset1 label1 next1 states1 r1 ns1 stamp1 r2 stack1 st1 pl1 reading1 readings1 wher1 bu heads1 chained1 isE1 lives kind newKind first kinds leads sideStates ends text textLong queue frm by_ ways before ++ wr) 220 [(0, .ref (a 0)), (1, vI s), (2, vI best), (3, vI b), (4, vI k)] [] := by
          intro g
          induction g with
          | zero =>
            intro k bu k0 hk hbu
            have ek : k = readings1 := by omega
            subst ek
            refine g_iload C dX6_build_220 rfl ?_
            refine g_aload_n C dX6_build_222 rfl ?_
            refine gM_readings C dX6_build_223 ?_
            refine g_icmp_ge C 301 dX6_build_226 (by decide) (by omega) (fun h226 => ?_) (fun h226 => ?_)
            · exact g_locR rfl (t301 bu 0 0 (fun q q0 q1 => by (rw [hbu q q0 q1]; apply Bool.eq_iff_iff.mpr; rw [tr_iff]; unfold tgt; rw [Bool.and_eq_true]; have h9 := d3 q; by_cases e : s = 0; (rw [if_pos e] at h9 ⊢; exact ⟨fun ⟨k', a, b, c, d⟩ => ⟨h9.mp ⟨k', a, b, c⟩, d⟩, fun ⟨a, b⟩ => (by obtain ⟨k', c, d, e⟩ := h9.mpr a; exact ⟨k', c, d, e, b⟩)⟩); (rw [if_neg e] at h9 ⊢; rw [tr_iff]; exact ⟨fun ⟨k', a, b, c, d⟩ => ⟨(by obtain ⟨p, p1, p2⟩ := h9.mp ⟨k', a, b, c⟩; have hp := (hsu.2.2 p q p2).1; exact ⟨p, hp.1, by omega, p1, p2⟩), d⟩, fun ⟨⟨p, _, _, p1, p2⟩, b⟩ => (by obtain ⟨k', c, d, e⟩ := h9.mpr ⟨p, p1, p2⟩; exact ⟨k', c, d, e, b⟩)⟩))))
            · exact absurd h226 (by omega)
          | succ g ihg =>
            intro k bu k0 hk hbu
            have hrk := d2 k k0 (by omega)
            have no_ : tkB low high (reading1 k) b = false → G X 6 2 16388 (wM X.Z a tape taped place thrown r_op no op r_arg arg (m + 1) low high masks cur readLow readHigh group choice chain hasEmpty sset1 label1 next1 states1 r1 ns1 stamp1 r2 stack1 st1 pl1 reading1 readings1 wher1 bu heads1 chained1 isE1 lives kind newKind first kinds leads sideStates ends text textLong queue frm by_ ways before ++ wr) 220 [(0, .ref (a 0)), (1, vI s), (2, vI best), (3, vI b), (4, vI (k + 1))] [] := fun ht =>
              ihg (k + 1) bu (by omega) (by omega) (fun q q0 q1 => by
                rw [hbu q q0 q1]
                apply Bool.eq_iff_iff.mpr
                rw [tr_iff, tr_iff]
                exact ⟨fun ⟨k', a, b, c⟩ => ⟨k', a, by omega, c⟩, fun ⟨k', a, b, c, d⟩ => ⟨k', a, by (by_cases e : k' = k; (rw [e] at c; rw [← c, ht] at d; cases d); omega), c, d⟩⟩)
            have yes_ : tkB low high (reading1 k) b = true → G X 6 2 16388 (wM X.Z a tape taped place thrown r_op no op r_arg arg (m + 1) low high masks cur readLow readHigh group choice chain hasEmpty sset1 label1 next1 states1 r1 ns1 stamp1 r2 stack1 st1 pl1 reading1 readings1 wher1 (up bu (reading1 k / 64) (bu (reading1 k / 64) ||| lshl 1 (reading1 k % 64))) heads1 chained1 isE1 lives kind newKind first kinds leads sideStates ends text textLong queue frm by_ ways before ++ wr) 220 [(0, .ref (a 0)), (1, vI s), (2, vI best), (3, vI b), (4, vI (k + 1))] [] := fun ht =>
              ihg (k + 1) _ (by omega) (by omega) (fun q q0 q1 => by
                rw [hasB_set (f := bu) (i := 0) (q := reading1 k) hrk.1 (by omega) q0 q1 (fun mm => by unfold up; rw [Int.zero_add]; by_cases e : mm = reading1 k / 64; (rw [if_pos e, if_pos e, e]); (rw [if_neg e, if_neg e])), hbu q q0 q1]
                apply Bool.eq_iff_iff.mpr
                rw [Bool.or_eq_true, tr_iff, tr_iff, decide_eq_true_iff]
                exact ⟨fun h => by (rcases h with ⟨k', a, b, c⟩ | h; (exact ⟨k', a, by omega, c⟩); (exact ⟨k, k0, by omega, by omega, by rw [← h]; exact ht⟩)), fun ⟨k', a, b, c, d⟩ => by (by_cases e : k' = k; (exact Or.inr (by rw [← c, e])); (exact Or.inl ⟨k', a, by omega, c, d⟩))⟩)
            have tk : ∀ z : Int64, (z = (if b < 64 then lshr (low (reading1 k)) b else lshr (high (reading1 k)) (b - 64)) &&& 1) → (z = 1 ↔ tkB low high (reading1 k) b = true) := by
              intro z hz
              rw [hz]
              unfold tkB
              by_cases e : b < 64
              · rw [if_pos e, if_pos e, show b % 64 = b by omega]; exact bit_eq b0 e
              · rw [if_neg e, if_neg e, show b % 64 = b - 64 by omega]; exact bit_eq (by omega) (by omega)
            refine g_iload C dX6_build_220 rfl ?_
            refine g_aload_n C dX6_build_222 rfl ?_
            refine gM_readings C dX6_build_223 ?_
            refine g_icmp_ge C 301 dX6_build_226 (by decide) (by omega) (fun h226 => ?_) (fun h226 => ?_)
            · exact absurd h226 (by omega)
            · refine g_aload_n C dX6_build_229 rfl ?_
              refine gM_reading C dX6_build_230 ?_
              refine g_iload C dX6_build_233 rfl ?_
              refine lM_reading C (by omega) dX6_build_235 ?_
              refine g_istore C dX6_build_236 (by decide) ?_
              refine g_iload_n C dX6_build_238 rfl ?_
              refine g_bipush C dX6_build_239 (by decide) ?_
              refine g_icmp_ge C 256 dX6_build_241 (by decide) (by omega) (fun h241 => ?_) (fun h241 => ?_)
              · have hz := tk _ (show lshr (high (reading1 k)) (b - 64) &&& 1 = _ from by rw [if_neg (by omega)])
                refine g_aload_n C dX6_build_256 rfl ?_
                refine gM_high C dX6_build_257 ?_
                refine g_iload C dX6_build_260 rfl ?_
                refine lM_high C (by omega) dX6_build_262 ?_
                refine g_iload_n C dX6_build_263 rfl ?_
                refine g_bipush C dX6_build_264 (by decide) ?_
                refine g_isub C dX6_build_266 ?_
                refine g_lshr C dX6_build_267 ?_
                refine g_lconst C 1 dX6_build_268 rfl ?_
                refine g_land C dX6_build_269 ?_
                refine g_lconst C 1 dX6_build_270 rfl ?_
                refine g_lcmp C dX6_build_271 ?_
                refine g_if_ne C 295 dX6_build_272 (by decide) (lcmp_r _ _) (fun h272 => ?_) (fun h272 => ?_)
                · refine g_iinc C dX6_build_295 rfl (by decide) ?_
                  refine g_goto C 220 dX6_build_298 (by decide) ?_
                  exact g_locR rfl (no_ (eq_false_of_ne_true (fun hb => h272 ((lcmp_0 _ _).mpr (hz.mpr hb)))))
                · have ht := hz.mp ((lcmp_0 _ _).mp h272)
                  refine g_aload_n C dX6_build_275 rfl ?_
                  refine gM_built C dX6_build_276 ?_
                  refine g_iload C dX6_build_279 rfl ?_
                  refine g_bipush C dX6_build_281 (by decide) ?_
                  refine g_idiv C dX6_build_283 (by omega) ?_
                  refine g_dup2_11 C dX6_build_284 rfl rfl ?_
                  refine lM_built C (by omega) dX6_build_285 ?_
                  refine g_lconst C 1 dX6_build_286 rfl ?_
                  refine g_iload C dX6_build_287 rfl ?_
                  refine g_bipush C dX6_build_289 (by decide) ?_
                  refine g_irem C dX6_build_291 (by omega) ?_
                  refine g_lshl C dX6_build_292 ?_
                  refine g_lor C dX6_build_293 ?_
                  refine sM_built C (by omega) dX6_build_294 ?_
                  refine g_iinc C dX6_build_295 rfl (by decide) ?_
                  refine g_goto C 220 dX6_build_298 (by decide) ?_
                  exact g_locR rfl (yes_ ht)
              · have hz := tk _ (show lshr (low (reading1 k)) b &&& 1 = _ from by rw [if_pos h241])
                refine g_aload_n C dX6_build_244 rfl ?_
                refine gM_low C dX6_build_245 ?_
                refine g_iload C dX6_build_248 rfl ?_
                refine lM_low C (by omega) dX6_build_250 ?_
                refine g_iload_n C dX6_build_251 rfl ?_
                refine g_lshr C dX6_build_252 ?_
                refine g_goto C 268 dX6_build_253 (by decide) ?_
                refine g_lconst C 1 dX6_build_268 rfl ?_
                refine g_land C dX6_build_269 ?_
                refine g_lconst C 1 dX6_build_270 rfl ?_
                refine g_lcmp C dX6_build_271 ?_
                refine g_if_ne C 295 dX6_build_272 (by decide) (lcmp_r _ _) (fun h272 => ?_) (fun h272 => ?_)
                · refine g_iinc C dX6_build_295 rfl (by decide) ?_
                  refine g_goto C 220 dX6_build_298 (by decide) ?_
                  exact g_locR rfl (no_ (eq_false_of_ne_true (fun hb => h272 ((lcmp_0 _ _).mpr (hz.mpr hb)))))
                · have ht := hz.mp ((lcmp_0 _ _).mp h272)
                  refine g_aload_n C dX6_build_275 rfl ?_
                  refine gM_built C dX6_build_276 ?_
                  refine g_iload C dX6_build_279 rfl ?_
                  refine g_bipush C dX6_build_281 (by decide) ?_
                  refine g_idiv C dX6_build_283 (by omega) ?_
                  refine g_dup2_11 C dX6_build_284 rfl rfl ?_
                  refine lM_built C (by omega) dX6_build_285 ?_
                  refine g_lconst C 1 dX6_build_286 rfl ?_
                  refine g_iload C dX6_build_287 rfl ?_
                  refine g_bipush C dX6_build_289 (by decide) ?_
                  refine g_irem C dX6_build_291 (by omega) ?_
                  refine g_lshl C dX6_build_292 ?_
                  refine g_lor C dX6_build_293 ?_
                  refine sM_built C (by omega) dX6_build_294 ?_
                  refine g_iinc C dX6_build_295 rfl (by decide) ?_
                  refine g_goto C 220 dX6_build_298 (by decide) ?_
                  exact g_locR rfl (yes_ ht)
        have t196 : ∀ (g : Nat) (k : Int) (bu : Int → Int64), 0 ≤ k → k + (g : Int) = 7 → (∀ j, 0 ≤ j → j < k → bu j = 0) → G X 6 2 16388 (wM X.Z a tape taped place thrown r_op no op r_arg arg (m + 1) low high masks cur readLow readHigh group choice chain hasEmpty sset1 label1 next1 states1 r1 ns1 stamp1 r2 stack1 st1 pl1 reading1 readings1 wher1 bu heads1 chained1 isE1 lives kind newKind first kinds leads sideStates ends text textLong queue frm by_ ways before ++ wr) 196 [(0, .ref (a 0)), (1, vI s), (2, vI best), (3, vI b), (4, vI k)] [] := by
          intro g
          induction g with
          | zero =>
            intro k bu k0 hk hbu
            refine g_iload C dX6_build_196 rfl ?_
            refine g_bipush C dX6_build_198 (by decide) ?_
            refine g_icmp_ge C 217 dX6_build_200 (by decide) (by omega) (fun h200 => ?_) (fun h200 => ?_)
            · refine g_iconst C dX6_build_217 ?_
              refine g_istore C dX6_build_218 (by decide) ?_
              exact g_locR rfl (t220 readings1.toNat 0 bu (by decide) (by omega) (fun q q0 q1 => by (unfold hasB; rw [hbu (0 + q / 64) (by omega) (by omega), bt_0]; cases ht : tr (∃ k', 0 ≤ k' ∧ k' < 0 ∧ reading1 k' = q ∧ tkB low high q b = true) with | false => rfl | true => (obtain ⟨k', x1, x2, _⟩ := tr_iff.mp ht; omega))))
            · exact absurd h200 (by omega)
          | succ g ihg =>
            intro k bu k0 hk hbu
            refine g_iload C dX6_build_196 rfl ?_
            refine g_bipush C dX6_build_198 (by decide) ?_
            refine g_icmp_ge C 217 dX6_build_200 (by decide) (by omega) (fun h200 => ?_) (fun h200 => ?_)
            · exact absurd h200 (by omega)
            · refine g_aload_n C dX6_build_203 rfl ?_
              refine gM_built C dX6_build_204 ?_
              refine g_iload C dX6_build_207 rfl ?_
              refine g_lconst C 0 dX6_build_209 rfl ?_
              refine sM_built C (by omega) dX6_build_210 ?_
              refine g_iinc C dX6_build_211 rfl (by decide) ?_
              refine g_goto C 196 dX6_build_214 (by decide) ?_
              exact g_locR rfl (ihg (k + 1) _ (by omega) (by omega) (fun j j0 j1 => by by_cases e : j = k; (rw [e, up_same]); (rw [up_ne _ _ e]; exact hbu j j0 (by omega))))
        refine g_iload_n C dX6_build_186 rfl ?_
        refine g_sipush C dX6_build_187 (by decide) ?_
        refine g_icmp_ge C 335 dX6_build_190 (by decide) (by omega) (fun h190 => ?_) (fun h190 => ?_)
        · exact absurd h190 (by omega)
        · refine g_iconst C dX6_build_193 ?_
          refine g_istore C dX6_build_194 (by decide) ?_
          exact g_locR rfl (t196 7 0 built1 (by decide) (by decide) (fun j j0 j1 => by omega))
    have i1 : bC (m + 1) ns ≤ 2 := by unfold bC; split <;> omega
    have i2 : bS (m + 1) ns ≤ 16388 := by unfold bS; split <;> omega
    refine g_aload_n C dX6_build_61 rfl ?_
    refine g_iconst C dX6_build_62 ?_
    refine pM_states C dX6_build_63 ?_
    refine g_iconst C dX6_build_66 ?_
    refine g_istore_n C dX6_build_67 (by decide) ?_
    refine g_iload_n C dX6_build_68 rfl ?_
    refine g_aload_n C dX6_build_69 rfl ?_
    refine gM_states C dX6_build_70 ?_
    refine g_icmp_ge C 341 dX6_build_73 (by decide) (by omega) (fun h73 => ?_) (fun h73 => ?_)
    · exact absurd h73 (by decide)
    · refine g_aload_n C dX6_build_76 rfl ?_
      refine g_cVWv C [] _ 0 cal_X6_165 (cM_begin (by omega) (by omega) n1 hs0 (by omega) hst) rfl rfl rfl rfl (Nat.le_of_ble_eq_true rfl) ⟨⟨Nat.le_of_ble_eq_true rfl, Nat.le_of_ble_eq_true rfl⟩, by show 0 + bC (m + 1) ns ≤ 2; omega, by show 0 + bS (m + 1) ns ≤ 16388; omega⟩ dX6_build_77 (fun w hw77 => ?_)
      obtain ⟨q1, q2, ns2, stamp2, stack2, st2, c1, c2, c3, rfl⟩ := hw77
      refine g_widen (k' := 2) (n' := 16388) (by omega) (by omega) ?_
      exact g_locR rfl (aft 51329 (inn 51329) 0 (fun _ _ => false) (fun _ => 0) _ _ _ _ _ _ _ _ _ _ _ _ _ _ _ _ _ (by decide) (by decide) (by decide) rfl ⟨⟨by decide, by decide⟩, fun s s0 s1 => by omega, fun s s0 s1 => by omega, fun x y x0 x1 => by (have x1 : x < 1 := x1; omega), ChOk.new hhd (fun t t0 t1 => by omega)⟩ (fun j j0 j1 => by omega) (fun t t0 t1 => by omega) (fun h => by omega) c2 (by omega) (by omega) rfl)
  have hdl : ∀ (wher1 : Int → Int), (∀ j, 0 ≤ j → j < m + 1 → op j = 0 → wher1 (arg j) = j) → ∀ (f : Nat) (i : Int) (heads : Int → Int), 0 ≤ i → i + (f : Int) = 1024 → (∀ j, 0 ≤ j → j < i → heads j = -1) → G X 6 0 0 (wM X.Z a tape taped place thrown r_op no op r_arg arg (m + 1) low high masks cur readLow readHigh group choice chain hasEmpty sset label next states r_stamp ns stamp r_stack stack stamps piled reading readings wher1 built heads chained isE lives kind newKind first kinds leads sideStates ends text textLong queue frm by_ ways before ++ wr) 39 [(0, .ref (a 0)), (1, vI i)] [] := by
    intro wher1 hwh f
    induction f with
    | zero =>
      intro i heads i0 hi hh
      refine g_iload_n C dX6_build_39 rfl ?_
      refine g_aload_n C dX6_build_40 rfl ?_
      refine gM_heads C dX6_build_41 ?_
      refine nM_heads C dX6_build_44 ?_
      refine g_icmp_ge C 61 dX6_build_45 (by decide) (by omega) (fun h45 => ?_) (fun h45 => ?_)
      · exact g_locR rfl (main wher1 hwh heads (fun j j0 j1 => hh j j0 (by omega)))
      · exact absurd h45 (by omega)
    | succ f ih =>
      intro i heads i0 hi hh
      refine g_iload_n C dX6_build_39 rfl ?_
      refine g_aload_n C dX6_build_40 rfl ?_
      refine gM_heads C dX6_build_41 ?_
      refine nM_heads C dX6_build_44 ?_
      refine g_icmp_ge C 61 dX6_build_45 (by decide) (by omega) (fun h45 => ?_) (fun h45 => ?_)
      · exact absurd h45 (by omega)
      · refine g_aload_n C dX6_build_48 rfl ?_
        refine gM_heads C dX6_build_49 ?_
        refine g_iload_n C dX6_build_52 rfl ?_
        refine g_iconst C dX6_build_53 ?_
        refine sM_heads C (by omega) dX6_build_54 ?_
        refine g_iinc C dX6_build_55 rfl (by decide) ?_
        refine g_goto C 39 dX6_build_58 (by decide) ?_
        exact g_locR rfl (ih (i + 1) _ (by omega) (by omega) (fun j j0 j1 => by by_cases e : j = i; (rw [e, up_same]); (rw [up_ne _ _ e]; exact hh j j0 (by omega))))
  have whl : ∀ (f : Nat) (i : Int) (wher1 : Int → Int), 0 ≤ i → i + (f : Int) = m + 1 → (∀ j, 0 ≤ j → j < i → op j = 0 → wher1 (arg j) = j) → G X 6 0 0 (wM X.Z a tape taped place thrown r_op no op r_arg arg (m + 1) low high masks cur readLow readHigh group choice chain hasEmpty sset label next states r_stamp ns stamp r_stack stack stamps piled reading readings wher1 built heads chained isE lives kind newKind first kinds leads sideStates ends text textLong queue frm by_ ways before ++ wr) 2 [(0, .ref (a 0)), (1, vI i)] [] := by
    intro f
    induction f with
    | zero =>
      intro i wher1 i0 hi hh
      refine g_iload_n C dX6_build_2 rfl ?_
      refine g_aload_n C dX6_build_3 rfl ?_
      refine gM_many C dX6_build_4 ?_
      refine g_icmp_ge C 37 dX6_build_7 (by decide) (by omega) (fun h7 => ?_) (fun h7 => ?_)
      · refine g_iconst C dX6_build_37 ?_
        refine g_istore_n C dX6_build_38 (by decide) ?_
        exact g_locR rfl (hdl wher1 (fun j j0 j1 => hh j j0 (by omega)) 1024 0 heads (by decide) (by decide) (fun j j0 j1 => by omega))
      · exact absurd h7 (by omega)
    | succ f ih =>
      intro i wher1 i0 hi hh
      have hci := hcok.2.1 i i0 (by omega)
      refine g_iload_n C dX6_build_2 rfl ?_
      refine g_aload_n C dX6_build_3 rfl ?_
      refine gM_many C dX6_build_4 ?_
      refine g_icmp_ge C 37 dX6_build_7 (by decide) (by omega) (fun h7 => ?_) (fun h7 => ?_)
      · exact absurd h7 (by omega)
      · refine g_aload_n C dX6_build_10 rfl ?_
        refine gM_op C dX6_build_11 ?_
        refine g_iload_n C dX6_build_14 rfl ?_
        refine lM_op C (by omega) dX6_build_15 ?_
        refine g_if_ne C 31 dX6_build_16 (by decide) (by have := hci.1; omega) (fun h16 => ?_) (fun h16 => ?_)
        · refine g_iinc C dX6_build_31 rfl (by decide) ?_
          refine g_goto C 2 dX6_build_34 (by decide) ?_
          exact g_locR rfl (ih (i + 1) _ (by omega) (by omega) (fun j j0 j1 h => by by_cases e : j = i; (exact absurd (e ▸ h) h16); (exact hh j j0 (by omega) h)))
        · have hai := hci.2.1 (by omega)
          refine g_aload_n C dX6_build_19 rfl ?_
          refine gM_where C dX6_build_20 ?_
          refine g_aload_n C dX6_build_23 rfl ?_
          refine gM_arg C dX6_build_24 ?_
          refine g_iload_n C dX6_build_27 rfl ?_
          refine lM_arg C (by omega) dX6_build_28 ?_
          refine g_iload_n C dX6_build_29 rfl ?_
          refine sM_where C (by omega) dX6_build_30 ?_
          refine g_iinc C dX6_build_31 rfl (by decide) ?_
          refine g_goto C 2 dX6_build_34 (by decide) ?_
          exact g_locR rfl (ih (i + 1) _ (by omega) (by omega) (fun j j0 j1 h => by by_cases e : j = i; (rw [e, up_same]); (rw [up_ne _ _ (fun ea => e (hcok.2.2 j i j0 (by omega) i0 (by omega) h (by omega) ea))]; exact hh j j0 (by omega) h)))
  refine g_iconst C dX6_build_0 ?_
  refine g_istore_n C dX6_build_1 (by decide) ?_
  exact g_locR rfl (whl (m + 1).toNat 0 wher (by decide) (by omega) (fun j j0 j1 => by omega))
