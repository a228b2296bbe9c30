/-! contracts whose outcome may be a throw; calls of them -/
def Mt (l : Launch) (y : MethodName) (ws : List Cond) (rm : Room) (Pc : Array Value → State → Prop) (Qc : Array Value → State → Outcome → State → Prop) (mc ms : Nat) (free : Addr → Prop) : Prop :=
  MetFree l y (headSpec ws rm) Pc (fun _ _ _ _ _ => True) (fun a st o t => Qc a st o t ∧ st.WarmedH t.vm ∧ ∃ L, st.sameButNew ({ t with vm := st.vm } : State) L mc ms ∧ ∀ q ∈ L, free q.base)
def HdOk (hd : Cond) (y : MethodName) (bytes : ByteArray) (maxL : Nat) (ret : Option FieldType) (hh : List (Nat × Nat × Nat × Nat)) : Prop := (hd = Cond.code y bytes maxL ret ∧ hh = []) ∨ hd = Cond.codeWith y bytes maxL ret hh
theorem hd_spec {hd : Cond} {y : MethodName} {bytes : ByteArray} {maxL : Nat} {ret : Option FieldType} {hh : List (Nat × Nat × Nat × Nat)} (h : HdOk hd y bytes maxL ret hh) {a : Array Value} {U : State} {mk : MethodId} (hb : hd.before a U = true) (hn : U.methodNamed? y = some mk) :
    ∃ meth c, U.vm.method? mk = some meth ∧ meth.code = some c ∧ c.code = bytes ∧ c.maxLocals = maxL ∧ c.exceptionTable.toList.map (fun h => (h.startPc, h.endPc, h.handlerPc, h.catchType)) = hh ∧ meth.sig.returnType = ret ∧ meth.locks = false ∧ parseMethodDescriptor y.desc = some meth.sig := by
  rcases h with ⟨rfl, rfl⟩ | rfl
  · obtain ⟨meth, c, h1, h2, h3, h4, h5, h6, h7, h8⟩ := Cond.code_spec hn hb
    refine ⟨meth, c, h1, h2, h3, h4, ?_, h5, h6, h8⟩
    have : c.exceptionTable = #[] := by simpa using h7
    rw [this]; rfl
  · obtain ⟨m, meth, c, h0, h1, h2, h3, h4, h5, h6, h7, h8⟩ := Cond.codeWith_spec hb
    cases hn.symm.trans h0
    exact ⟨meth, c, h1, h2, h3, h4, h5, h6, h7, h8⟩
theorem hd_named {hd : Cond} {y : MethodName} {bytes : ByteArray} {maxL : Nat} {ret : Option FieldType} {hh : List (Nat × Nat × Nat × Nat)} (h : HdOk hd y bytes maxL ret hh) {a : Array Value} {U : State} (hb : hd.before a U = true) : ∃ mk, U.methodNamed? y = some mk := by
  rcases h with ⟨rfl, rfl⟩ | rfl
  · exact Cond.code_named hb
  · obtain ⟨m, meth, c, h0, -⟩ := Cond.codeWith_spec hb
    exact ⟨m, h0⟩
/-- where a call comes back to -/
def landT (o : Outcome) (U : State) (g : JFrame) (len : Nat) : State := match o with
  | .returned v => U.setTop { g with pc := g.pc + len, stack := v.toList ++ g.stack }
  | .threw x => (U.setTop g).pushFrame (.throwing x)
def BackT (l : Launch) (R : Room) (p : Program) (e : Env) (below : List Frame) (s : State) (sargs : Array Value) (y : MethodName) (len W : Nat)
    (Pre : Pt → Array Value → Prop) (Post : Pt → Array Value → Outcome → Pt → Prop) : Prop :=
  ∀ (m : MethodId) (meth : Method) (c : Code) (A : Pt) (g : JFrame) (ig : Instr) (mk : MethodId) (a : Array Value),
    Stand p l e R s m sargs below meth c A.U A.locs A.cells A.slots → g.method = m → g.locals.size = c.maxLocals → decode c.code g.pc = .ok (ig, len) →
    2 * g.monitorRoom + (g.stack.map fun v => v.category).sum ≤ W → A.U.methodNamed? y = some mk → Pre A a →
    ∃ (o : Outcome) (B : Pt), Stand p l e R s m sargs below meth c B.U B.locs B.cells B.slots ∧ Post A a o B ∧ Steps p.tables e below (doInvoke e (A.U.setTop g) [] mk a).1 (landT o B.U g len)
def PostT (Qc : Array Value → State → Outcome → State → Prop) (mc ms : Nat) (free : Addr → Prop) : Pt → Array Value → Outcome → Pt → Prop := fun A a o B =>
  ∃ (g : JFrame) (mk : MethodId) (t : State) (L : List Loc), B.U.heap = t.heap ∧ B.U.vm = t.vm ∧ Qc a (A.U.calling g mk a) o t ∧ B.locs = A.locs ++ L ∧ (∀ q ∈ L, free q.base) ∧ B.cells = A.cells + mc ∧ B.slots = A.slots + ms
theorem backT {l : Launch} {R : Room} {p : Program} {e : Env} {below : List Frame} {s : State} {sargs : Array Value} {y : MethodName} {len W : Nat} {hd : Cond} {rm : Room} {Pc : Array Value → State → Prop} {Qc : Array Value → State → Outcome → State → Prop} {mc ms : Nat} {free : Addr → Prop} {bytes : ByteArray} {maxL : Nat} {ret : Option FieldType} {hh : List (Nat × Nat × Nat × Nat)}
    (hM : Mt l y (hd :: lw_all) rm Pc Qc mc ms free) (hblind : FrameBlind Pc) (hrc : rm.cells = mc) (hrs : rm.slots = ms)
    (hframes : rm.frames + 1 ≤ R.frames) (hlocals : W + (maxL + 11) + rm.locals ≤ R.locals) (hH : HdOk hd y bytes maxL ret hh)
    (hts : ∀ w ∈ lw_all, w.before sargs s = true) (hhd : hd ∈ lw_all) (hini : Cond.initialized y.cls ∈ lw_all) :
    BackT l R p e below s sargs y len W (PreOf R mc ms Pc) (PostT Qc mc ms free) := by
  have hws : ∀ w ∈ hd :: lw_all, ∀ (a' : Array Value) (U : State), s.WarmedH U.vm → w.before a' U = true := pay_in hts (fun w hw => by
    rcases List.mem_cons.mp hw with q | q
    · rw [q]; exact lw_self _ hhd
    · exact lw_self _ q)
  intro m meth c A g ig mk a X hg hsize hdg hW hn hp
  obtain ⟨U, Ls, c0, s0⟩ := A
  obtain ⟨hp1, hp2, hp3⟩ := hp
  dsimp only [Pt.U, Pt.locs, Pt.cells, Pt.slots] at X hn hp1 hp2 hp3 ⊢
  have h1 : (headSpec (hd :: lw_all) rm).pre.before a U = true := atoms_intro fun w hw => hws w hw _ _ X.warmed
  have h2 := hws hd List.mem_cons_self a U X.warmed
  have h3 := hws _ (List.mem_cons_of_mem _ hini) a U X.warmed
  obtain ⟨methY, cY, hmY, hcY, -, hlY, -, -, -, -⟩ := hd_spec hH h2 hn
  obtain ⟨kY, hkY, -⟩ := className_of_methodNamed hn
  have hinitY : kY.init = .initialized := Cond.initialized_spec (findClass_of_methodNamed hn) hkY h3
  have h : At U g.method c below := by rw [hg]; exact X.here
  have happ : (headSpec (hd :: lw_all) rm).appliesLoose y e.platform (U.calling g mk a) = true :=
    Spec.appliesLoose_calling (g := g) h hdg hn hkY hinitY
      (X.room_calling (g := g) (R' := rm) hsize hmY hcY hframes (by rw [hlY]; omega) (by rw [hrc]; exact hp1) (by rw [hrs]; exact hp2)) h1
  obtain ⟨mid, hmid⟩ := h.above
  have hfr : (U.setTop g).frames = (.java g :: mid) ++ below := by rw [State.frames_setTop' g h.top, hmid]; rfl
  obtain ⟨o, s₂, hsteps, -, hend, hq⟩ := Steps.callFree hM p X.admits X.cas X.clock (acts := []) hfr happ (hblind _ _ _ _ hp3) trivial
  have hq' : Qc a (U.calling g mk a) o s₂ ∧ (U.calling g mk a).WarmedH s₂.vm ∧ ∃ L, (U.calling g mk a).sameButNew ({ s₂ with vm := (U.calling g mk a).vm } : State) L mc ms ∧ ∀ q ∈ L, free q.base := hq
  obtain ⟨hqc, hW₂, L, hsm, hLf⟩ := hq'
  rw [State.frames_setTop' g h.top] at hend
  cases o with
  | threw x =>
    have hend' : Ended s₂ (.java g :: below) (.threw x) := by
      rw [X.tail] at hend
      exact hend
    obtain ⟨T', X', hW', hB, ht⟩ := X.outOfThrown hg hend' hW₂ hsm
    refine ⟨.threw x, ⟨T', Ls ++ L, c0 + mc, s0 + ms⟩, X', ⟨g, mk, s₂, L, ?_, ?_, hqc, rfl, hLf, rfl, rfl⟩, ?_⟩
    · show T'.heap = s₂.heap
      rw [ht]; exact (Stand.throwing_heap T' g x).symm
    · show T'.vm = s₂.vm
      rw [ht]; exact (Stand.throwing_vm T' g x).symm
    · show Steps p.tables e below _ ((T'.setTop g).pushFrame (.throwing x))
      rw [← ht]; exact hsteps
  | returned v =>
    obtain ⟨e2, q2, q3, q4, q5, q6⟩ := hsm
    have e3 : s₂ = ({ (U.calling g mk a).setFrames s₂.frames with heap := s₂.heap, slotsUsed := s₂.slotsUsed } : State).setVm s₂.vm := by
      have : s₂ = ({ s₂ with vm := (U.calling g mk a).vm } : State).setVm s₂.vm := rfl
      rw [e2] at this
      exact this
    obtain ⟨c₂, i₂, len₂, hc₂, hd₂, hf₂⟩ := hend
    have hW' : U.WarmedH s₂.vm := hW₂
    have hcc : c₂ = c := by
      have h1 : s₂.code? g.method = U.code? g.method := by
        rw [State.code?_eq, State.code?_eq, hW'.alike.method?]
      exact Option.some.inj (hc₂.symm.trans (h1.trans h.code))
    subst hcc
    have hlen : len₂ = len := by rw [hdg] at hd₂; cases hd₂; rfl
    subst hlen
    obtain ⟨g₀, hg0⟩ := Option.isSome_iff_exists.mp h.top
    obtain ⟨r, hr⟩ := State.topJava?_eq_some.mp hg0
    have hs₂ : s₂ = (({ U with heap := s₂.heap, slotsUsed := s₂.slotsUsed } : State).setVm s₂.vm).setTop { g with pc := g.pc + len₂, stack := v.toList ++ g.stack } := by
      have hr' : (({ U with heap := s₂.heap, slotsUsed := s₂.slotsUsed } : State).setVm s₂.vm).frames = .java g₀ :: r := hr
      refine e3.trans ?_
      rw [hf₂, State.calling_eq h.top, State.setFrames_setFrames, State.setTop_of_frames _ hr', hr]
      rfl
    have hsame : U.sameButNew ({ U with heap := s₂.heap, slotsUsed := s₂.slotsUsed } : State) L mc ms := by
      refine ⟨?_, q2, q3, q4, q5, q6⟩
      obtain ⟨t, ht, -⟩ := State.frames_cons hr
      show ({ U with heap := s₂.heap, slotsUsed := s₂.slotsUsed } : State) = { U.setFrames U.frames with heap := s₂.heap, slotsUsed := s₂.slotsUsed }
      rw [State.setFrames_self ht]
    subst hg
    refine ⟨.returned v, ⟨(({ U with heap := s₂.heap, slotsUsed := s₂.slotsUsed } : State).setVm s₂.vm), Ls ++ L, c0 + mc, s0 + ms⟩,
      ⟨X.admits, X.cas, X.clock, X.frames, X.room, X.hears, X.method, X.code, (X.here.setHeapUsed s₂.heap s₂.slotsUsed).setVm hW'.alike, X.tail, State.WarmedH.trans X.warmed hW', X.limits, X.bytes, X.same.trans (hsame.setVm s.vm)⟩,
      ⟨g, mk, s₂, L, rfl, rfl, hqc, rfl, hLf, rfl, rfl⟩, ?_⟩
    show Steps p.tables e below _ ((({ U with heap := s₂.heap, slotsUsed := s₂.slotsUsed } : State).setVm s₂.vm).setTop { g with pc := g.pc + len₂, stack := v.toList ++ g.stack })
    rw [← hs₂]
    exact hsteps
section CALLT
variable {p : Program} {l : Launch} {e : Env} {R : Room} {s : State} {m : MethodId} {args : Array Value} {below : List Frame} {meth : Method} {c : Code} {T : State} {locs : List Loc} {cells slots : Nat}
theorem callVT (X : Stand p l e R s m args below meth c T locs cells slots) (hexec : p.tables.exec = Jvm.exec) {own C : String} {index : Nat} {y : MethodName} {hd : Cond} {bytes : ByteArray} {maxL : Nat} {ret : Option FieldType} {hh : List (Nat × Nat × Nat × Nat)}
    (hown : s.vm.findClass own = some m.cls) (hlink : (Cond.methodLink own index y).before args s = true) (hinst : (Cond.instanceMethod y).before args s = true) (hsel : (Cond.selects C y y).before args s = true)
    (hH : HdOk hd y bytes maxL ret hh) (hcode : hd.before args s = true) (hy : y.cls ≠ "java/lang/invoke/MethodHandle" ∧ y.cls ≠ "java/lang/invoke/VarHandle")
    {W : Nat} {Pre : Pt → Array Value → Prop} {Post : Pt → Array Value → Outcome → Pt → Prop} (hK : BackT l R p e below s args y 3 W Pre Post)
    {b : Addr} {cellB : Cell} (hcell : T.heap[b]? = some cellB) (hobj : cellB.vm.isStatics = false) (hcls : s.vm.findClass C = some cellB.cls)
    {g : JFrame} (hg : g.method = m) (hsize : g.locals.size = c.maxLocals) {argsL rest : List Value} (hlen : ∀ sig, parseMethodDescriptor y.desc = some sig → argsL.length = sig.parameters.length)
    (hstack : g.stack = argsL.reverse ++ .ref b :: rest) (hW : 2 * g.monitorRoom + (rest.map fun v => v.category).sum ≤ W) (hdg : decode c.code g.pc = .ok (.invokevirtual index, 3))
    (hpre : ∀ vm₁, s.WarmedH vm₁ → Pre ⟨T.setVm vm₁, locs, cells, slots⟩ (Value.ref b :: argsL).toArray) :
    ∃ (o : Outcome) (vm₁ : Vm) (B : Pt), s.WarmedH vm₁ ∧ Stand p l e R s m args below meth c B.U B.locs B.cells B.slots ∧ Post ⟨T.setVm vm₁, locs, cells, slots⟩ (Value.ref b :: argsL).toArray o B ∧
      ∀ target, Steps p.tables e below (landT o B.U { g with stack := rest } 3) target → Steps p.tables e below (T.setTop g) target := by
  obtain ⟨mk, methM, hnamed, hmethM, hstM, habM⟩ := Cond.instanceMethod_spec hinst
  obtain ⟨methM', cM, hmethM', -, -, -, -, -, -, hsigM⟩ := hd_spec hH hcode hnamed
  cases hmethM.symm.trans hmethM'
  obtain ⟨c2, r2, m2, q1, q2, q3, q4, kP, hkP, hkPi⟩ := Cond.selects_spec hsel
  cases hcls.symm.trans q1
  cases (State.methodFound?_of_named hnamed hy).symm.trans q2
  cases hnamed.symm.trans q3
  have hselP : selectMethod e.platform s.vm cellB.cls mk = .method mk := by rw [Launch.admits_selectMethod X.admits]; exact q4
  obtain ⟨vm₁, X₁, hstep₁⟩ := X.invokevirtual hexec hown hlink hnamed hmethM hstM hkP hkPi hy (a := b) (cell := cellB) hcell
    (fun z h => by rw [h] at hobj; cases hobj) hselP hmethM habM hkP hkPi (g := g) hg (argsL := argsL) (rest := rest) (hlen _ hsigM) hstack hdg
  obtain ⟨v, B, X', hpost, hsteps⟩ := hK m meth c ⟨T.setVm vm₁, locs, cells, slots⟩ { g with stack := rest } (.invokevirtual index) mk (Value.ref b :: argsL).toArray X₁ hg hsize hdg hW (X₁.named hnamed) (hpre vm₁ X₁.warmed)
  exact ⟨v, vm₁, B, X₁.warmed, X', hpost, fun target h => hstep₁ _ fun acts => by rw [doInvoke_state]; exact hsteps.trans h⟩
theorem callST (X : Stand p l e R s m args below meth c T locs cells slots) (hexec : p.tables.exec = Jvm.exec) {own : String} {index : Nat} {y : MethodName} {hd : Cond} {bytes : ByteArray} {maxL : Nat} {ret : Option FieldType} {hh : List (Nat × Nat × Nat × Nat)}
    (hown : s.vm.findClass own = some m.cls) (hlink : (Cond.methodLink own index y).before args s = true) (hstat : (Cond.static y).before args s = true) (hinit : (Cond.initialized y.cls).before args s = true)
    (hH : HdOk hd y bytes maxL ret hh) (hcode : hd.before args s = true) (hy : y.cls ≠ "java/lang/invoke/MethodHandle" ∧ y.cls ≠ "java/lang/invoke/VarHandle")
    {W : Nat} {Pre : Pt → Array Value → Prop} {Post : Pt → Array Value → Outcome → Pt → Prop} (hK : BackT l R p e below s args y 3 W Pre Post)
    {g : JFrame} (hg : g.method = m) (hsize : g.locals.size = c.maxLocals) {argsL rest : List Value} (hlen : ∀ sig, parseMethodDescriptor y.desc = some sig → argsL.length = sig.parameters.length)
    (hstack : g.stack = argsL.reverse ++ rest) (hW : 2 * g.monitorRoom + (rest.map fun v => v.category).sum ≤ W) (hdg : decode c.code g.pc = .ok (.invokestatic index, 3))
    (hpre : ∀ vm₁, s.WarmedH vm₁ → Pre ⟨T.setVm vm₁, locs, cells, slots⟩ argsL.toArray) :
    ∃ (o : Outcome) (vm₁ : Vm) (B : Pt), s.WarmedH vm₁ ∧ Stand p l e R s m args below meth c B.U B.locs B.cells B.slots ∧ Post ⟨T.setVm vm₁, locs, cells, slots⟩ argsL.toArray o B ∧
      ∀ target, Steps p.tables e below (landT o B.U { g with stack := rest } 3) target → Steps p.tables e below (T.setTop g) target := by
  obtain ⟨mk, hnamed⟩ := hd_named hH hcode
  obtain ⟨methM, cM, hmethM, -, -, -, -, -, -, hsigM⟩ := hd_spec hH hcode hnamed
  have hstatic : methM.isStatic = true := Cond.static_spec hnamed hmethM hstat
  obtain ⟨kP, hkP, -⟩ := className_of_methodNamed hnamed
  have hinitP : kP.init = .initialized := Cond.initialized_spec (findClass_of_methodNamed hnamed) hkP hinit
  obtain ⟨vm₁, X₁, hstep₁⟩ := X.invokestatic hexec hown hlink hnamed hmethM hstatic hkP hinitP hy (g := g) hg (argsL := argsL) (rest := rest) (hlen _ hsigM) hstack hdg
  obtain ⟨v, B, X', hpost, hsteps⟩ := hK m meth c ⟨T.setVm vm₁, locs, cells, slots⟩ { g with stack := rest } (.invokestatic index) mk argsL.toArray X₁ hg hsize hdg hW (X₁.named hnamed) (hpre vm₁ X₁.warmed)
  exact ⟨v, vm₁, B, X₁.warmed, X', hpost, fun target h => hstep₁ _ fun acts => by rw [doInvoke_state]; exact hsteps.trans h⟩
theorem callIT (X : Stand p l e R s m args below meth c T locs cells slots) (hexec : p.tables.exec = Jvm.exec) {own : String} {index : Nat} {y : MethodName} {bytes : ByteArray} {maxL : Nat}
    (hown : s.vm.findClass own = some m.cls) (hy1 : y.name = "<init>") (hlink : (Cond.methodLink own index y).before args s = true) (hinst : (Cond.instanceMethod y).before args s = true)
    (hcode : (Cond.code y bytes maxL none).before args s = true) (hy : y.cls ≠ "java/lang/invoke/MethodHandle" ∧ y.cls ≠ "java/lang/invoke/VarHandle")
    {W : Nat} {Pre : Pt → Array Value → Prop} {Post : Pt → Array Value → Outcome → Pt → Prop} (hK : BackT l R p e below s args y 3 W Pre Post)
    {g : JFrame} (hg : g.method = m) (hsize : g.locals.size = c.maxLocals) {a : Addr} {argsL rest : List Value} (hlen : ∀ sig, parseMethodDescriptor y.desc = some sig → argsL.length = sig.parameters.length)
    (hstack : g.stack = argsL.reverse ++ .ref a :: rest) (hW : 2 * g.monitorRoom + (rest.map fun v => v.category).sum ≤ W) (hdg : decode c.code g.pc = .ok (.invokespecial index, 3))
    (hpre : ∀ vm₁, s.WarmedH vm₁ → Pre ⟨T.setVm vm₁, locs, cells, slots⟩ (Value.ref a :: argsL).toArray) :
    ∃ (o : Outcome) (vm₁ : Vm) (B : Pt), s.WarmedH vm₁ ∧ Stand p l e R s m args below meth c B.U B.locs B.cells B.slots ∧ Post ⟨T.setVm vm₁, locs, cells, slots⟩ (Value.ref a :: argsL).toArray o B ∧
      ∀ target, Steps p.tables e below (landT o B.U { g with stack := rest } 3) target → Steps p.tables e below (T.setTop g) target := by
  subst hg
  have hpl : e.platform.magicAccessors = ({} : Platform).magicAccessors := by rw [X.admits.platform]
  obtain ⟨mk, methM, cM, kP, vm₁, hnamed, hmethM, hcodeM, -, hlocalsM, -, hkP, -, hW₁, hstep₁⟩ := Steps.initColdArgs (e := e) X.here hexec X.warmed hpl hown hy1 hy hlink hinst hcode (f := g) rfl hlen hstack hdg
  have X₁ := X.noted hW₁
  obtain ⟨v, B, X', hpost, hsteps⟩ := hK g.method meth c ⟨T.setVm vm₁, locs, cells, slots⟩ { g with stack := rest } (.invokespecial index) mk (Value.ref a :: argsL).toArray X₁ rfl hsize hdg hW (X₁.named hnamed) (hpre vm₁ X₁.warmed)
  exact ⟨v, vm₁, B, X₁.warmed, X', hpost, fun target h => hstep₁ _ fun acts => by rw [doInvoke_state]; exact hsteps.trans h⟩
end CALLT
