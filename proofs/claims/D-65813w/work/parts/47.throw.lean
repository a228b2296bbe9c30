/-! exceptions of java.lang: new X; dup; invokespecial X.<init> -/
theorem zq_get {C n d : String} {A : Nat → Prop} {s : State} (h : va_Zq C n d A s s.heap) {cf : ClassId} {kf : Class} {fi : Nat} {f : Field} {a : Nat} (hi : s.fieldFound? C n d = some (cf, kf, fi, f)) (ha : kf.statics = some a) :
    ∃ (cell : Cell) (u : RefV), s.heap[a]? = some cell ∧ cell.vm.isStatics = true ∧ cell.slots[f.slot]? = some u.v ∧ ¬ A a := by
  have key : ∀ v : Value, v.isRef = true → va_Z C n d v A s s.heap → ∃ (cell : Cell) (u : RefV), s.heap[a]? = some cell ∧ cell.vm.isStatics = true ∧ cell.slots[f.slot]? = some u.v ∧ ¬ A a := by
    intro v hv hz
    obtain ⟨c2, k2, i2, f2, a2, cell, h1, -, -, h4, h5, h6, h7, h8⟩ := hz
    have e1 := Option.some.inj (h1.symm.trans hi)
    obtain ⟨rfl, rfl, rfl, rfl⟩ : c2 = cf ∧ k2 = kf ∧ i2 = fi ∧ f2 = f := by simpa using e1
    cases Option.some.inj (h4.symm.trans ha)
    exact ⟨cell, ⟨v, hv⟩, h5, h6, h7, h8⟩
  rcases h with h | ⟨t, h⟩
  · exact key _ rfl h
  · exact key _ rfl h
/-- what the row asks of the tables -/
def thrW (own : String) (ic : Nat) (X : String) (names : List String) : List Cond :=
  [.methodLink own ic (Bundle.init0 X), .instantiable X 6, .selects X Bundle.tFill0 Bundle.tFill0, .selects X Bundle.tFill Bundle.tFill,
   .lays X Bundle.tN "cause" "Ljava/lang/Throwable;", .lays X Bundle.tN "stackTrace" Bundle.steD, .lays X Bundle.tN "suppressedExceptions" Bundle.listD,
   .fieldLink Bundle.tN 198 Bundle.tN "backtrace" "Ljava/lang/Object;", .lays Bundle.tN Bundle.tN "backtrace" "Ljava/lang/Object;", .lays X Bundle.tN "backtrace" "Ljava/lang/Object;", .instanceMethod (Bundle.init0 X), .code (Bundle.init0 X) Bundle.five 1 none]
section THROWROW
variable {X : Cx} {cc : ByteArray} {nL : Nat} {own : String} {E : Ek} {k n pc : Nat} {ws : va_W} {L : List (Nat × Value)} {st : List Value}
theorem g_thrNew (C : Ok X cc nL own E) (hfl : X.Z.l.flags = pinnedFlags ++ [noTraceFlag]) {cls : String} {Tt : u_T} {ci ix ic : Nat} {names : List String} (ty : Nat → FieldType) (hin : ∀ w ∈ u_ws cls Tt 6, w ∈ lw_all) (hty : ∀ k, k < 6 → parseFieldDescriptor (Tt k).2.2.1 = some (ty k)) (hc : vwCl[ci]? = some (cls, Tt, 6))
    (w1 : Cond.classLink own ix cls ∈ lw_all) (w3 : Cond.initialized cls ∈ lw_all) (hcls : Bundle.fit cls = true) (hnames : ∀ n ∈ names, Bundle.fit n = true)
    (hthr : ∀ w ∈ Bundle.throwableAtoms, w.before X.args X.s = true) (hch : ∀ w ∈ Bundle.chain0Atoms cls names, w.before X.args X.s = true) (hw : ∀ w ∈ thrW own ic cls names, w ∈ lw_all)
    (d0 : decode cc pc = .ok (.new ix, 3)) (d3 : decode cc (pc + 3) = .ok (.dup, 1)) (d4 : decode cc (pc + 4) = .ok (.invokespecial ic, 3))
    (hk : k + 1 ≤ E.mc ∧ n + 6 ≤ E.ms) (hR : names.length + 3 < E.fr ∧ (st.map fun v => v.category).sum + (13 * (names.length + 1) + 42) ≤ E.lo)
    (h : ∀ (q : Nat) (fs : List Value), G X nL (k + 1) (n + 6) (ws ++ [(q, eO ci fs)]) (pc + 7) L (.ref q :: st)) : G X nL k n ws pc L st := by
  intro H locs ls hP hD hS hl
  have hKn := C.K.1 ci _ hc
  have hRx : X.R = E.R := C.R
  have m : ∀ w, w ∈ thrW own ic cls names → w.before X.args X.s = true := fun w h => C.ts _ (hw w h)
  have hmi := m (.instantiable cls 6) (by simp [thrW])
  refine W.newcK C.x C.b C.own (C.ts _ w1) hmi (C.ts _ w3) rfl d0 (by rw [hRx]; exact hk.1) (by rw [hRx]; exact hk.2) hKn.2.1 rfl fun H1 kC hkC e1 z1 o1 => ?_
  refine lv_dup (va := .ref H.size) C.x C.b d3 rfl ?_
  intro T hT X'
  subst hT
  have howns : X.e.platform.frameOwnsMonitors = true := by rw [X'.admits.platform]
  have hfin : X.e.platform.finalization = false := by rw [X'.admits.platform]
  have hpl : X.e.platform.magicAccessors = ({} : Platform).magicAccessors := by rw [X'.admits.platform]
  have htr := Launch.traces_off hfl X'.admits
  obtain ⟨T0, Z0, L0, LZ, Y⟩ := ThrowableC.of_atoms (args := X.args) howns hfin hpl hthr
  obtain ⟨P1, Ps, hlen, L1, hL, hP1m, hlink1, hlink⟩ := Bundle.chain0 (args := X.args) hpl Y.init0 names cls hcls hnames hch
  have hfound : X.s.vm.findClass cls = some P1.m.cls := findClass_of_methodNamed hP1m
  have ec : X.Z.D.1 ci = P1.m.cls := Option.some.inj (hKn.2.1.symm.trans hfound)
  obtain ⟨c1, kX', hc1, hk', hord, -, -, hn6⟩ := Cond.instantiable_spec hmi
  cases Option.some.inj (hc1.symm.trans hfound)
  have hkC' : X.s.vm.classes[P1.m.cls]? = some kC := by rw [← ec]; exact hkC
  cases Option.some.inj (hkC'.symm.trans hk')
  have hsel0 : selectMethod X.e.platform X.s.vm P1.m.cls T0.fill0 = .method T0.fill0 := by
    obtain ⟨c2, r2, m2, q1, q2, q3, q4, -⟩ := Cond.selects_spec (m (.selects cls Bundle.tFill0 Bundle.tFill0) (by simp [thrW]))
    cases Option.some.inj (q1.symm.trans hfound)
    cases Option.some.inj (q2.symm.trans (State.methodFound?_of_named Y.fill0 (by decide)))
    cases Option.some.inj (q3.symm.trans Y.fill0)
    rw [Launch.admits_selectMethod X'.admits]; exact q4
  have hselF : selectMethod X.e.platform X.s.vm P1.m.cls T0.fill = .method T0.fill := by
    obtain ⟨c2, r2, m2, q1, q2, q3, q4, -⟩ := Cond.selects_spec (m (.selects cls Bundle.tFill Bundle.tFill) (by simp [thrW]))
    cases Option.some.inj (q1.symm.trans hfound)
    cases Option.some.inj (q2.symm.trans (State.methodFound?_of_named Y.fill (by decide)))
    cases Option.some.inj (q3.symm.trans Y.fill)
    rw [Launch.admits_selectMethod X'.admits]; exact q4
  obtain ⟨cellS, u0, hcS, hiss, hu0, hnA⟩ := zq_get C.ex.2.2.2.2.1 Y.unassigned L0.statics
  obtain ⟨cellS', sen, hcS', -, hsen, -⟩ := zq_get C.ex.2.2.2.2.2.1 Y.sentinel L0.statics
  cases Option.some.inj (hcS.symm.trans hcS')
  have hltS := (Array.getElem?_eq_some_iff.mp hcS).1
  have hltH : T0.aS < H.size := Nat.lt_of_lt_of_le hltS hS.1
  have hcellS : T.heap[T0.aS]? = some cellS := (o1 _ hltH).trans ((hS.2.1 _ hltS hnA).trans hcS)
  have hknownS : cellS.vm ≠ .unknown := by
    intro hu
    rw [hu] at hiss
    cases hiss
  have hneS : T0.aS ≠ H.size := Nat.ne_of_lt hltH
  obtain ⟨ci198, i198, fB, hk198, hg198, ha198, hsB, -, hnB, htB, hffB⟩ := Cond.ownField (t := .object "java/lang/Object") Y.found L0.cls (by decide +kernel) (m (.fieldLink Bundle.tN 198 Bundle.tN "backtrace" "Ljava/lang/Object;") (by simp [thrW])) (m (.lays Bundle.tN Bundle.tN "backtrace" "Ljava/lang/Object;") (by simp [thrW])) X.e.platform hpl
  obtain ⟨tyC, dC, hdC, hdnC⟩ := Cond.laysAt hfound hk' Y.cause (m (.lays cls Bundle.tN "cause" "Ljava/lang/Throwable;") (by simp [thrW]))
  obtain ⟨tyS, dS, hdS, hdnS⟩ := Cond.laysAt hfound hk' Y.stack (m (.lays cls Bundle.tN "stackTrace" Bundle.steD) (by simp [thrW]))
  obtain ⟨tyP, dP, hdP, hdnP⟩ := Cond.laysAt hfound hk' Y.supp (m (.lays cls Bundle.tN "suppressedExceptions" Bundle.listD) (by simp [thrW]))
  obtain ⟨tyB, dB, hdB, hdnB⟩ := Cond.laysAt hfound hk' hffB (m (.lays cls Bundle.tN "backtrace" "Ljava/lang/Object;") (by simp [thrW]))
  have bC := Cond.laysApart hdB hdC hdnB hdnC (by rw [hnB, Y.causeName]; decide)
  have bS := Cond.laysApart hdB hdS hdnB hdnS (by rw [hnB, Y.stackName]; decide)
  have bP := Cond.laysApart hdB hdP hdnB hdnP (by rw [hnB, Y.suppName]; decide)
  have hskip : SkipFacts T0 X.e.platform X.s (fun u => u) u0 ((preparedCellV T0.toThrowableT (freshCell P1.m.cls kC) H.size u0 sen).withEntry T.cur) :=
    ⟨{ ci198 := ci198, i198 := i198, fBack := fB }, ⟨hk198, hg198, ha198, hsB⟩, by
      have := fresh_default (c := P1.m.cls) tyB
      rw [htB] at this
      simpa [preparedCellV, Cell.setSlot, Cell.withEntry, Array.getElem?_setIfInBounds, bC, bS, bP, bC.symm, bS.symm, bP.symm, defaultValue] using this, fun _ _ => rfl⟩
  have d4' : decode X.c.code (pc + 4) = .ok (.invokespecial ic, 3) := by rw [C.b]; exact d4
  obtain ⟨tm, methC, cdC, kC2, vm₁, hnC, -, -, -, -, -, -, -, hW₁, st1⟩ := Steps.initCold (tb := X.p.tables) (e := X.e) (below := X.below) (s := X.s) (U := T) X'.here C.x X'.warmed hpl C.own (t := Bundle.init0 cls) rfl rfl (Bundle.fit_spec hcls).2
    (m (.methodLink own ic (Bundle.init0 cls)) (by simp [thrW])) (m (.instanceMethod (Bundle.init0 cls)) (by simp [thrW])) (bytes := Bundle.five) (maxL := 1) (m (.code (Bundle.init0 cls) Bundle.five 1 none) (by simp [thrW]))
    (f := F0 X.m (pc + 3 + 1) ls (.ref H.size :: .ref H.size :: st)) rfl (a := H.size) (rest := .ref H.size :: st) rfl d4'
  cases Option.some.inj (hnC.symm.trans hP1m)
  have X₁ := X'.noted hW₁
  have hcell : T.heap[H.size]? = some (freshCell P1.m.cls kC) := by rw [← ec]; exact e1
  obtain ⟨vm₂, X₂, st2⟩ := X₁.ctorPlainOffV C.x (g := F0 X.m (pc + 3 + 1) ls (.ref H.size :: st)) rfl (hl.1.trans C.ml.symm) T0 L0 Z0 LZ (P1 :: Ps)
    (fun P hP => by rcases List.mem_cons.mp hP with rfl | hP; exact L1; exact hL P hP) ⟨hlink1, hlink⟩ (u0 := u0) (sen := sen) (self := H.size) (cell := freshCell P1.m.cls kC) (cellS := cellS)
    hcell (fun _ => by simp) (by simp) rfl rfl hsel0 hselF hcellS hneS hknownS hu0 hsen
    (Takes.of_laid hk' hord tyC (by rw [Y.causeType]; rfl)) (Takes.of_laid hk' hord tyS (by rw [Y.stackType]; exact fits_refV_array _ u0)) (Takes.of_laid hk' hord tyP (by rw [Y.suppType]; exact fits_refV_object _ sen)) Y.objLocals hskip htr [] d4'
    (by rw [hRx, List.length_cons, hlen]; exact hR.1) (by rw [hRx, List.length_cons, hlen, List.map_cons, List.sum_cons]; show 2 * 0 + (1 + _) + _ ≤ E.lo; have := hR.2; omega)
  have hltT : H.size < T.heap.size := by rw [z1]; omega
  have ty0 := u_born ty C.ts hin hKn hkC e1 hty
  obtain ⟨cb, hcb, -, -, hslots⟩ := ty0
  cases Option.some.inj (e1.symm.trans hcb)
  generalize hcx : ((preparedCellV T0.toThrowableT (freshCell P1.m.cls kC) H.size u0 sen).setSlot T0.fStack.slot u0.v) = cx at X₂ st2
  have hcls' : cx.cls = X.Z.D.1 ci := by rw [← hcx, ec]; rfl
  have hvm' : cx.vm = .none := by rw [← hcx]; rfl
  have hsz : cx.slots.size = (blank (X.Z.D.1 ci) kC).slots.size := by rw [← hcx]; simp [preparedCellV, Cell.setSlot, blank]
  have hT2 : (((T.setVm vm₁).setVm vm₂).setCell H.size cx).heap[H.size]? = some cx := heapAt_setCell_self (s := (T.setVm vm₁).setVm vm₂) cx hltT
  have hT3 : ∀ q, q ≠ H.size → (((T.setVm vm₁).setVm vm₂).setCell H.size cx).heap[q]? = T.heap[q]? := by
    intro q hq
    show (T.heap.setIfInBounds H.size cx)[q]? = _
    rw [Array.getElem?_setIfInBounds, if_neg (fun h => hq h.symm)]
  generalize hU : ((T.setVm vm₁).setVm vm₂).setCell H.size cx = U at X₂ st2 hT2 hT3
  have hfs : ∀ j, j < 6 → cx.slots[X.Z.D.2 ci j]? = some (vp_V ((List.range 6).map (fun i => (cx.slots[X.Z.D.2 ci i]?).getD .null)) j) := by
    intro j hj
    have h0 := hslots j hj
    have hlt := (Array.getElem?_eq_some_iff.mp h0).1
    rw [← hsz] at hlt
    have e5 : cx.slots[X.Z.D.2 ci j]? = some (cx.slots[X.Z.D.2 ci j]) := Array.getElem?_eq_getElem hlt
    rw [e5]
    have : j = 0 ∨ j = 1 ∨ j = 2 ∨ j = 3 ∨ j = 4 ∨ j = 5 := by omega
    rcases this with rfl | rfl | rfl | rfl | rfl | rfl <;> simp [vp_V, List.range, List.range.loop, e5]
  have hkk : ∀ (i : Nat) (x : Nat × va_E), ws[i]? = some x → U.heap[x.1]? = H[x.1]? := fun i x hx => by
    have hlt := (hP i x hx).lt
    rw [hT3 _ (Nat.ne_of_lt hlt)]
    exact o1 x.1 hlt
  have hP2 : va_P X.Z.D vwCl (ws ++ [(H.size, eO ci ((List.range 6).map (fun i => (cx.slots[X.Z.D.2 ci i]?).getD .null)))]) U.heap := by
    refine (hP.kept hkk).app (fun i x hx => ?_)
    have hz : i < 1 := (List.getElem?_eq_some_iff.mp hx).1
    rw [show i = 0 by omega] at hx
    cases hx
    exact ⟨_, hc, cx, hT2, hcls', hvm', hfs⟩
  have hUs : U.heap.size = H.size + 1 := by rw [← hU]; show (T.heap.setIfInBounds H.size cx).size = _; rw [Array.size_setIfInBounds, z1]
  have hAn : X.A H.size := C.A _ hS.1
  have hS2 : va_S X.A X.s.heap U.heap (locs ++ [⟨H.size, T0.fCause.slot⟩, ⟨H.size, T0.fStack.slot⟩, ⟨H.size, T0.fSupp.slot⟩, ⟨H.size, T0.fStack.slot⟩]) := by
    refine ⟨by have := hS.1; omega, fun q h1 h2 => ?_, fun l hl' => ?_⟩
    · have hq : q < H.size := Nat.lt_of_lt_of_le h1 hS.1
      rw [hT3 _ (Nat.ne_of_lt hq), o1 q hq]
      exact hS.2.1 q h1 h2
    · rcases List.mem_append.mp hl' with h1 | h1
      · exact hS.2.2 l h1
      · simp only [List.mem_cons, List.not_mem_nil, or_false] at h1
        rcases h1 with rfl | rfl | rfl | rfl <;> exact hAn
  obtain ⟨t, a1, b1⟩ := h H.size _ U.heap _ ls hP2 (hD.push hP rfl hAn) hS2 hl U rfl X₂
  refine ⟨t, st1 _ (fun acts => ?_), b1⟩
  rw [doInvoke_state]
  exact st2 _ a1
end THROWROW
