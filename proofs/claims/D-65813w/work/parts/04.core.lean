/-! the context of a walk, the judgement G, the cells -/
def vwCl : List vw_C := [(RX1, TX1, 14), (RX2, TX2, 3), (RX3, TX3, 18), (RX4, TX4, 6), (RX5, TX5, 14), (RX6, TX6, 47), (RJ14, TJ14, 6), (RJ12, TJ12, 6), (RJ15, TJ15, 6), (RJ16, TJ16, 6)]
abbrev Zk : Type := Launch × va_G × (Nat → ClassId) × (Nat → Nat)
abbrev Zk.l (Z : Zk) : Launch := Z.1
abbrev Zk.D (Z : Zk) : va_G := Z.2.1
abbrev Zk.cA (Z : Zk) : Nat → ClassId := Z.2.2.1
abbrev Zk.K (Z : Zk) : Nat → Nat := Z.2.2.2
def tysZ (Z : Zk) : List (ClassId × FieldType) := [(Z.cA 0, .int), (Z.cA 1, .long), (Z.cA 2, .byte), (Z.cA 3, .boolean)]
def eI (Z : Zk) (n : Nat) (f : Int → Int) : va_E := .inl (Z.cA 0, n, .inl (fun j => iI (f j)))
def eJ (Z : Zk) (n : Nat) (f : Int → Int64) : va_E := .inl (Z.cA 1, n, .inr (.inl (fun j => f j)))
def eB (Z : Zk) (n : Nat) (f : Int → Int) : va_E := .inl (Z.cA 2, n, .inl (fun j => iI (f j)))
def eZ (Z : Zk) (n : Nat) (f : Int → Bool) : va_E := .inl (Z.cA 3, n, .inl (fun j => iI (b2 (f j))))
abbrev eO (ci : Nat) (fs : List Value) : va_E := .inr (ci, fs)
abbrev Cx : Type := Zk × Program × Env × Room × State × MethodId × Array Value × List Frame × Method × Code × (State → Prop) × (Nat → Prop)
abbrev Cx.Z (X : Cx) : Zk := X.1
abbrev Cx.p (X : Cx) : Program := X.2.1
abbrev Cx.e (X : Cx) : Env := X.2.2.1
abbrev Cx.R (X : Cx) : Room := X.2.2.2.1
abbrev Cx.s (X : Cx) : State := X.2.2.2.2.1
abbrev Cx.m (X : Cx) : MethodId := X.2.2.2.2.2.1
abbrev Cx.args (X : Cx) : Array Value := X.2.2.2.2.2.2.1
abbrev Cx.below (X : Cx) : List Frame := X.2.2.2.2.2.2.2.1
abbrev Cx.meth (X : Cx) : Method := X.2.2.2.2.2.2.2.2.1
abbrev Cx.c (X : Cx) : Code := X.2.2.2.2.2.2.2.2.2.1
abbrev Cx.Q (X : Cx) : State → Prop := X.2.2.2.2.2.2.2.2.2.2.1
abbrev Cx.A (X : Cx) : Nat → Prop := X.2.2.2.2.2.2.2.2.2.2.2
/-- the walk, its heap and its locals given -/
def WX (X : Cx) (H : Heap) (locs : List Loc) (k n : Nat) (g : JFrame) : Prop := W X.p X.Z.l X.e X.R X.s X.m X.args X.below X.meth X.c H locs k n X.Q g
/-- from the world ws at pc with locals L and stack st (k cells, n slots made) the walk comes to its end -/
def G (X : Cx) (nL k n : Nat) (ws : va_W) (pc : Nat) (L : List (Nat × Value)) (st : List Value) : Prop :=
  ∀ (H : Heap) (locs : List Loc) (ls : Array Slot), va_P X.Z.D vwCl ws H → va_D X.A ws → va_S X.A X.s.heap H locs → lv_has ls nL L → WX X H locs k n (F0 X.m pc ls st)
/-- words of the tables that do not ride in the list -/
def nestW : List Cond := [(Jvm.Cond.methodLinkNest "PatternPairs" 15 ⟨"PatternPairs$Pattern", "<init>", "()V"⟩ "PatternPairs"), (Jvm.Cond.fieldLinkNest "PatternPairs" 93 "PatternPairs$Pattern" "automaton" "LPatternPairs$Automaton;" "PatternPairs"), (Jvm.Cond.fieldLinkNest "PatternPairs" 102 "PatternPairs$Pattern" "isEmpty" "Z" "PatternPairs"), (Jvm.Cond.methodLinkNest "PatternPairs$Pattern" 9 ⟨"PatternPairs$Patterns", "<init>", "()V"⟩ "PatternPairs"), (Jvm.Cond.fieldLinkNest "PatternPairs$Automaton" 108 "PatternPairs$Patterns" "owners" "[I" "PatternPairs"), (Jvm.Cond.fieldLinkNest "PatternPairs$Automaton" 81 "PatternPairs$Patterns" "follows" "[J" "PatternPairs"), (Jvm.Cond.fieldLinkNest "PatternPairs$Automaton" 105 "PatternPairs$Patterns" "isLast" "[Z" "PatternPairs"), (Jvm.Cond.fieldLinkNest "PatternPairs$Automaton" 67 "PatternPairs$Patterns" "start" "[J" "PatternPairs"), (Jvm.Cond.fieldLinkNest "PatternPairs$Automaton" 98 "PatternPairs$Patterns" "places" "I" "PatternPairs"), (Jvm.Cond.methodLinkNest "PatternPairs$Automaton" 101 ⟨"PatternPairs$Patterns", "has", "([JII)Z"⟩ "PatternPairs"), (Jvm.Cond.declares ⟨"java/lang/RuntimeException", "<init>", "()V"⟩), (Jvm.Cond.declares ⟨"java/lang/Exception", "<init>", "()V"⟩), (Jvm.Cond.declares ⟨"java/lang/Throwable", "<init>", "()V"⟩)]
theorem nestW_tbl : ∀ w ∈ nestW, w ∈ lw_tbl := List.forall_mem_cons.mpr ⟨q93, List.forall_mem_cons.mpr ⟨q288, List.forall_mem_cons.mpr ⟨q290, List.forall_mem_cons.mpr ⟨q99, List.forall_mem_cons.mpr ⟨q180, List.forall_mem_cons.mpr ⟨q182, List.forall_mem_cons.mpr ⟨q184, List.forall_mem_cons.mpr ⟨q186, List.forall_mem_cons.mpr ⟨q188, List.forall_mem_cons.mpr ⟨q509, List.forall_mem_cons.mpr ⟨q106, List.forall_mem_cons.mpr ⟨q108, List.forall_mem_cons.mpr ⟨q110, fun _ h => absurd h List.not_mem_nil⟩⟩⟩⟩⟩⟩⟩⟩⟩⟩⟩⟩⟩

/-- the six String constants: their bytes -/
def strB (i : Nat) : List Int32 := match i with
  | 0 => [47, 92, 93, 45]
  | 1 => [47, 92, 124, 42, 43, 63, 40, 41, 91, 46]
  | 2 => [47, 92, 124, 42, 43, 63, 40, 41, 91, 46, 93, 45, 94]
  | 3 => [47, 92, 124, 42, 43, 63, 40, 41, 91, 46, 93, 45, 94]
  | 4 => [47, 93, 45]
  | _ => [47, 124, 42, 43, 63, 40, 41]
def strO (i : Nat) : String × Nat × String := match i with
  | 0 => ("PatternPairs$Patterns", 141, "/\\]-")
  | 1 => ("PatternPairs$Patterns", 143, "/\\|*+?()[.")
  | 2 => ("PatternPairs$Patterns", 151, "/\\|*+?()[.]-^")
  | 3 => ("PatternPairsModel", 43, "/\\|*+?()[.]-^")
  | 4 => ("PatternPairsModel", 59, "/]-")
  | _ => ("PatternPairsModel", 76, "/|*+?()")
def strF (K : Nat → Nat) (i : Nat) (A : Nat → Prop) (U : State) : Prop := vk_S 1 [(strB i).length] [strB i] (fun _ => K i) (fun _ => K (i + 6)) A U U.heap ∧ vk_R (strO i).1 (strO i).2.1 (strO i).2.2 (K i) U
/-- a static field lies where the tables say -/
def LyS (C n d : String) (U : State) : Prop := (Cond.laysStatic C n d).before #[] U = true
theorem va_Z.ls {C n d : String} {v : Value} {A : Nat → Prop} {s U : State} (hz : va_Z C n d v A s s.heap) (h : LyS C n d s) (hW : s.WarmedH U.vm) (hk : ∀ q : Nat, q < s.heap.size → ¬ A q → U.heap[q]? = s.heap[q]?) : LyS C n d U := by
  obtain ⟨cf, kf, fi, f, a, cell, h1, -, -, h4, h5, -, -, h8⟩ := hz
  have e0 := (hk a (Array.getElem?_eq_some_iff.mp h5).1 h8).trans h5
  obtain ⟨c, k, i, g, b, cel, hc, hi, hst, ha, hcell, hs, hcls, hlt, hty⟩ := Cond.laysStatic_spec h
  have e1 := Option.some.inj (h1.symm.trans hi)
  obtain ⟨rfl, rfl, rfl, rfl⟩ : cf = c ∧ kf = k ∧ fi = i ∧ f = g := by simpa using e1
  cases Option.some.inj (h4.symm.trans ha)
  cases Option.some.inj (h5.symm.trans hcell)
  obtain ⟨c, k, i, g, b, cel, hc, hi, hst, ha, hcell, hs, hcls, hlt, hty⟩ := Cond.laysStatic_spec (Cond.laysStatic_setVm hW.alike h)
  have hi' : U.fieldFound? C n d = some (c, k, i, g) := hi
  obtain ⟨k', hi2, hek⟩ := State.fieldFound?_setVm hW.alike h1
  have e2 : some (_, k', _, _) = some (c, k, i, g) := hi2.symm.trans hi
  obtain ⟨rfl, rfl, rfl, rfl⟩ : cf = c ∧ k' = k ∧ fi = i ∧ f = g := by simpa using e2
  have e3 : kf.statics = some b := by rw [← ha, hek]
  cases Option.some.inj (h4.symm.trans e3)
  have e4 : s.heap[a]? = some cel := hcell
  exact Cond.laysStatic_of (s := U) hc hi' hst ha (e0.trans (h5.symm.trans e4)) hs hcls hlt hty
theorem va_Zq.ls {C n d : String} {A : Nat → Prop} {s U : State} (hz : va_Zq C n d A s s.heap) (h : LyS C n d s) (hW : s.WarmedH U.vm) (hk : ∀ q : Nat, q < s.heap.size → ¬ A q → U.heap[q]? = s.heap[q]?) : LyS C n d U := by
  rcases hz with hz | ⟨t, hz⟩
  · exact hz.ls h hW hk
  · exact hz.ls h hW hk
/-- what the start gives beside the tables' words: nest links, castings that fail, the String constants, statics -/
def EX (K : Nat → Nat) (A : Nat → Prop) (U : State) : Prop :=
  (∀ w ∈ nestW, va_Nw w U) ∧ (va_Nc RJ15 RJ14 U ∧ va_Nc RJ12 RJ14 U ∧ va_Nc RJ12 RJ15 U) ∧ (∀ i, i < 6 → strF K i A U) ∧ va_Z "java/lang/String" "COMPACT_STRINGS" "Z" (.int 1) A U U.heap ∧
  va_Zq "java/lang/Throwable" "UNASSIGNED_STACK" "[Ljava/lang/StackTraceElement;" A U U.heap ∧ (va_Zq "java/lang/Throwable" "SUPPRESSED_SENTINEL" "Ljava/util/List;" A U U.heap ∧ LyS "java/lang/Throwable" "UNASSIGNED_STACK" "[Ljava/lang/StackTraceElement;" U ∧ LyS "java/lang/Throwable" "SUPPRESSED_SENTINEL" "Ljava/util/List;" U)
theorem nest_warm {s U : State} (hW : s.WarmedH U.vm) (h : ∀ w ∈ nestW, va_Nw w s) : ∀ w ∈ nestW, va_Nw w U := by
  intro w hw
  have h1 := h w hw
  simp only [nestW, List.mem_cons, List.not_mem_nil, or_false] at hw
  rcases hw with e | e | e | e | e | e | e | e | e | e | e | e | e <;> subst e <;> first | exact va_Nw.warmM hW h1 | exact va_Nw.warmF hW h1 | exact va_Nw.warmD hW h1
theorem EX.go {K : Nat → Nat} {A B : Nat → Prop} {s U : State} (h : EX K A s) (hW : s.WarmedH U.vm) (hk : ∀ q : Nat, q < s.heap.size → ¬ A q → U.heap[q]? = s.heap[q]?) (hB : ∀ q, B q → A q) : EX K B U := by
  obtain ⟨h1, ⟨h2, h3, h4⟩, h5, h6, h7, h8, h9, h10⟩ := h
  refine ⟨nest_warm hW h1, ⟨h2.moved hW.alike, h3.moved hW.alike, h4.moved hW.alike⟩, fun i hi => ⟨((vk_S.moved hW.alike (h5 i hi).1).kept hk).narrow hB, vk_R.warm hW (h5 i hi).2⟩, ((va_Z.moved hW.alike h6).kept hk).narrow hB, ((va_Zq.moved hW.alike h7).kept hk).narrow hB, ((va_Zq.moved hW.alike h8).kept hk).narrow hB, h7.ls h9 hW hk, h8.ls h10 hW hk⟩
theorem EX.calling {K : Nat → Nat} {A : Nat → Prop} {U : State} (h : EX K A U) (g : JFrame) (mk : MethodId) (a : Array Value) : EX K A (U.calling g mk a) := h.go (State.WarmedH.refl U) (fun _ _ _ => rfl) (fun _ h => h)
abbrev Ek : Type := String × Option FieldType × List (Nat × Nat × Nat × Nat) × Nat × Nat × Nat × Nat × (Outcome → va_W → Prop)
abbrev Ek.nm (E : Ek) : String := E.1
abbrev Ek.ret (E : Ek) : Option FieldType := E.2.1
abbrev Ek.hh (E : Ek) : List (Nat × Nat × Nat × Nat) := E.2.2.1
abbrev Ek.fr (E : Ek) : Nat := E.2.2.2.1
abbrev Ek.lo (E : Ek) : Nat := E.2.2.2.2.1
abbrev Ek.mc (E : Ek) : Nat := E.2.2.2.2.2.1
abbrev Ek.ms (E : Ek) : Nat := E.2.2.2.2.2.2.1
abbrev Ek.Post (E : Ek) : Outcome → va_W → Prop := E.2.2.2.2.2.2.2
abbrev Ek.R (E : Ek) : Room := { frames := E.fr, cells := E.mc, slots := E.ms, locals := E.lo }
/-- a method's end: returned or threw -/
def MT (below : List Frame) (Qc : Array Value → State → Outcome → State → Prop) (a : Array Value) (s : State) (mc ms : Nat) (free : Addr → Prop) : State → Prop := fun t =>
  ∃ o, t.status = .running ∧ Ended t below o ∧ Qc a s o t ∧ s.WarmedH t.vm ∧ ∃ L, s.sameButNew ({ t with vm := s.vm } : State) L mc ms ∧ ∀ q ∈ L, free q.base
theorem MQ_MT {below : List Frame} {Qc : Array Value → State → Outcome → State → Prop} {a : Array Value} {s : State} {mc ms : Nat} {free : Addr → Prop} {t : State} (h : MQ below Qc a s mc ms free t) : MT below Qc a s mc ms free t := by
  obtain ⟨o, h1, h2, h3, L, ⟨_, h4, h5⟩, h6⟩ := h
  exact ⟨o, h1, h2, h3, h4, L, h5, h6⟩
def QP (Z : Zk) (A : Nat → Prop) (Post : Outcome → va_W → Prop) : Array Value → State → Outcome → State → Prop := fun _ st o t => (∃ ws', Post o ws' ∧ va_P Z.D vwCl ws' t.heap ∧ va_D A ws') ∧ va_F A st t
def Ok (X : Cx) (cc : ByteArray) (nL : Nat) (own : String) (E : Ek) : Prop :=
  X.p.tables.exec = Jvm.exec ∧ X.c.code = cc ∧ X.c.maxLocals = nL ∧ X.s.vm.findClass own = some X.m.cls ∧ (∀ w ∈ lw_all, w.before X.args X.s = true) ∧ va_K X.Z.D vwCl (tysZ X.Z) X.s ∧ (∀ q : Nat, X.s.heap.size ≤ q → X.A q) ∧ EX X.Z.K X.A X.s ∧
  X.meth.sig.returnType = E.ret ∧ X.meth.locks = false ∧ X.c.exceptionTable.toList.map (fun h => (h.startPc, h.endPc, h.handlerPc, h.catchType)) = E.hh ∧ X.meth.name = E.nm ∧ X.R = E.R ∧ X.Q = MT X.below (QP X.Z X.A E.Post) X.args X.s E.mc E.ms X.A
section OkAcc
variable {X : Cx} {cc : ByteArray} {nL : Nat} {ow : String} {E : Ek}
theorem Ok.x (C : Ok X cc nL ow E) : X.p.tables.exec = Jvm.exec := C.1
theorem Ok.b (C : Ok X cc nL ow E) : X.c.code = cc := C.2.1
theorem Ok.ml (C : Ok X cc nL ow E) : X.c.maxLocals = nL := C.2.2.1
theorem Ok.own (C : Ok X cc nL ow E) : X.s.vm.findClass ow = some X.m.cls := C.2.2.2.1
theorem Ok.ts (C : Ok X cc nL ow E) : ∀ w ∈ lw_all, w.before X.args X.s = true := C.2.2.2.2.1
theorem Ok.K (C : Ok X cc nL ow E) : va_K X.Z.D vwCl (tysZ X.Z) X.s := C.2.2.2.2.2.1
theorem Ok.A (C : Ok X cc nL ow E) : ∀ q : Nat, X.s.heap.size ≤ q → X.A q := C.2.2.2.2.2.2.1
theorem Ok.ex (C : Ok X cc nL ow E) : EX X.Z.K X.A X.s := C.2.2.2.2.2.2.2.1
theorem Ok.ret (C : Ok X cc nL ow E) : X.meth.sig.returnType = E.ret := C.2.2.2.2.2.2.2.2.1
theorem Ok.lock (C : Ok X cc nL ow E) : X.meth.locks = false := C.2.2.2.2.2.2.2.2.2.1
theorem Ok.tab (C : Ok X cc nL ow E) : X.c.exceptionTable.toList.map (fun h => (h.startPc, h.endPc, h.handlerPc, h.catchType)) = E.hh := C.2.2.2.2.2.2.2.2.2.2.1
theorem Ok.nm (C : Ok X cc nL ow E) : X.meth.name = E.nm := C.2.2.2.2.2.2.2.2.2.2.2.1
theorem Ok.R (C : Ok X cc nL ow E) : X.R = E.R := C.2.2.2.2.2.2.2.2.2.2.2.2.1
theorem Ok.Q (C : Ok X cc nL ow E) : X.Q = MT X.below (QP X.Z X.A E.Post) X.args X.s E.mc E.ms X.A := C.2.2.2.2.2.2.2.2.2.2.2.2.2
end OkAcc
