/-! exceptions caught in the walked method; arrays made -/
theorem go_cold {E : CtlPost} {e : Env} {d : Bool} {acts : List Action} {s : State} {f : JFrame} {a : Addr} {Q : Handler → Pre} {x : ExceptionTableEntry} {t : List ExceptionTableEntry} {c : ClassId} {vm' : Vm} (hx : covers x f.pc = true) (h0 : x.catchType ≠ 0)
    (hg : (Jvm.resolveClass f.method.cls x.catchType).Gives e.toSetting s.vm (.ok c) vm') (hr : vm'.classReady f.method.cls x.catchType c) (hsz : vm'.classes.size ≤ s.vm.classes.size) :
    wp (findHandler.go f a (x :: t)) Q E e d acts s ↔ wp (findHandler.go f a (x :: t)) Q E e d acts (s.setVm vm') := by
  simp only [covers] at hx
  obtain ⟨k, hkd, hres⟩ := hr
  obtain ⟨ha, ht⟩ := hg.op (op := VmOp.resolveClass f.method.cls x.catchType) rfl
  simp [findHandler.go, hx, h0, ha, ht, hsz, resolveClass_memo e hkd hres, VmOp.dirties, VmOp.acts]
  exact Iff.rfl
/-- the handlers of a table, searched for an exception of the class cx -/
def CatchAs (own cx : String) (s : State) (pc hpc : Nat) : List (Nat × Nat × Nat × Nat) → Prop
  | [] => False
  | h :: t => (coversB h pc = false ∧ CatchAs own cx s pc hpc t) ∨ (coversB h pc = true ∧ h.2.2.2 ≠ 0 ∧ Cond.classLink own h.2.2.2 cx ∈ lw_all ∧ h.2.2.1 = hpc) ∨ (coversB h pc = true ∧ h.2.2.2 ≠ 0 ∧ (∃ cn, Cond.classLink own h.2.2.2 cn ∈ lw_all ∧ va_Nc cx cn s) ∧ CatchAs own cx s pc hpc t)
theorem find_catch {e : Env} {s : State} {m : MethodId} {args : Array Value} {own cx : String} (hpl : e.platform.magicAccessors = ({} : Platform).magicAccessors) (hts : ∀ w ∈ lw_all, w.before args s = true) (hown : s.vm.findClass own = some m.cls) {f : JFrame} (hfm : f.method = m) {a : Addr} {cell : Cell} (hobj : cell.vm.isStatics = false) (hcx : s.vm.findClass cx = some cell.cls) {hpc : Nat} :
    ∀ (es : List ExceptionTableEntry) (S : State), S.heap[a]? = some cell → s.WarmedH S.vm → CatchAs own cx s f.pc hpc (es.map (fun h => (h.startPc, h.endPc, h.handlerPc, h.catchType))) →
    ∃ vm', s.WarmedH vm' ∧ ∀ (Q : Handler → Pre) (E : CtlPost) (d : Bool) (acts : List Action), wp (findHandler.go f a es) Q E e d acts S ↔ Q (.found hpc) d acts (S.setVm vm') := by
  subst hfm
  intro es
  induction es with
  | nil => intro S _ _ h; exact h.elim
  | cons x t ih =>
    intro S hc hW h
    have step : ∀ cn : String, covers x f.pc = true → x.catchType ≠ 0 → Cond.classLink own x.catchType cn ∈ lw_all → ∃ (vm' : Vm) (cT : ClassId), s.vm.findClass cn = some cT ∧ s.WarmedH vm' ∧ ∀ (Q : Handler → Pre) (E : CtlPost) (d : Bool) (acts : List Action), wp (findHandler.go f a (x :: t)) Q E e d acts S ↔ (if vm'.assignable cell.cls cT = true then Q (.found x.handlerPc) d acts (S.setVm vm') else wp (findHandler.go f a t) Q E e d acts (S.setVm vm')) := by
      intro cn hx h0 hw
      obtain ⟨cT, hcT, hcl⟩ := Cond.classLink_spec hown (hts _ hw) e.platform hpl
      obtain ⟨dk, _, _, kt, hd, _, _, _, _, hkt, _, hopen⟩ := hcl.here
      have hcl₀ := hW.classLinks hcl
      have hW' : s.WarmedH (S.vm.noted f.method.cls x.catchType (.cls cT)) := hW.noted hd hopen (State.rightAt_cls hcl)
      obtain ⟨ks, hks⟩ := Vm.classAt_of_findClass hcx
      obtain ⟨ks', hks', -⟩ := hW'.alike.2.2 _ _ hks
      obtain ⟨kt', hkt', -⟩ := hW'.alike.2.2 _ _ hkt
      refine ⟨_, cT, hcT, hW', fun Q E d acts => ?_⟩
      rw [go_cold hx h0 (resolveClass_links e.toSetting hcl₀) hcl₀.ready (by no_record)]
      exact W.findHandler_go_class (s := S.setVm (S.vm.noted f.method.cls x.catchType (.cls cT))) hx h0 hcl₀.ready hc (VmData.noStatics_of hobj) ⟨ks', hks'⟩ ⟨kt', hkt'⟩
    rcases h with ⟨h1, h2⟩ | ⟨h1, h2, h3, h4⟩ | ⟨h1, h2, ⟨cn, h3, h5⟩, h4⟩
    · obtain ⟨vm', w1, w2⟩ := ih S hc hW h2
      exact ⟨vm', w1, fun Q E d acts => by rw [W.findHandler_go_skip h1]; exact w2 Q E d acts⟩
    · obtain ⟨vm', cT, k1, k2, k3⟩ := step cx h1 h2 h3
      cases hcx.symm.trans k1
      refine ⟨vm', k2, fun Q E d acts => ?_⟩
      rw [k3, if_pos (va_asg _ _)]
      have h4 : x.handlerPc = hpc := h4
      rw [h4]
    · obtain ⟨vm', cT, k1, k2, k3⟩ := step cn h1 h2 h3
      obtain ⟨c1, t1, j1, j2, j3⟩ := h5
      cases hcx.symm.trans j1
      cases k1.symm.trans j2
      obtain ⟨vm2, w1, w2⟩ := ih (S.setVm vm') hc k2 h4
      refine ⟨vm2, w1, fun Q E d acts => ?_⟩
      rw [k3, if_neg (by rw [k2.alike.assignable, j3]; decide)]
      exact w2 Q E d acts
theorem stepThrowing_catchV {e : Env} {s : State} {a : Addr} {f : JFrame} {r : List Frame} {pc : Nat} {vm' : Vm} (hfind : ∀ (Q : Handler → Pre) (E : CtlPost) (d : Bool) (acts : List Action), wp (findHandler f a) Q E e d acts s ↔ Q (.found pc) d acts (s.setVm vm')) :
    (stepThrowing e s a (.java f :: r)).Is ((s.setVm vm').setFrames (.java { f with pc := pc, stack := [.ref a] } :: r)) [] := by
  simp only [stepThrowing, searchFrame, vmDo]
  generalize hr : Sem.go _ e false [] s = res
  obtain ⟨as, rfl, ha⟩ := Sem.eq_ok_of hr (a := Handler.found pc) (s' := s.setVm vm') (acts' := []) (by simp [hfind _ _ _ _])
  exact ⟨rfl, ha⟩
theorem caughtV {tb : Tables} {e : Env} {s target : State} {g : JFrame} {c : Code} {below : List Frame} {a : Addr} {vm' : Vm} (h : At s g.method c below) {pc : Nat} (hfind : ∀ (Q : Handler → Pre) (E : CtlPost) (d : Bool) (acts : List Action), wp (findHandler g a) Q E e d acts ((s.setTop g).pushFrame (.throwing a)) ↔ Q (.found pc) d acts (((s.setTop g).pushFrame (.throwing a)).setVm vm'))
    (hrest : Steps tb e below ((s.setVm vm').setTop { g with pc := pc, stack := [.ref a] }) target) : Steps tb e below ((s.setTop g).pushFrame (.throwing a)) target := by
  obtain ⟨hgo, hw⟩ := h.throwing a
  refine Steps.head hgo hw ?_
  rw [stepThread_throwing (frames_entered h.top _), (stepThrowing_catchV (s := (s.setTop g).pushFrame (.throwing a)) hfind).1]
  obtain ⟨g₀, hg⟩ := Option.isSome_iff_exists.mp h.top
  obtain ⟨r, hr⟩ := State.topJava?_eq_some.mp hg
  have hr2 : (s.setVm vm').frames = .java g₀ :: r := hr
  have e1 : ((s.setTop g).pushFrame (.throwing a)).setVm vm' = (((s.setVm vm').setTop g).pushFrame (.throwing a)) := rfl
  rw [e1, State.pushFrame, State.setFrames_setFrames, State.setTop_of_frames _ hr2, State.setFrames_setFrames]
  rw [State.setTop_of_frames _ hr2] at hrest
  rw [hr]
  exact hrest
section CATCH
variable {X : Cx} {cc : ByteArray} {nL : Nat} {own : String} {E : Ek} {k n pc : Nat} {ws : va_W} {L : List (Nat × Value)} {st : List Value}
theorem gt_catch (C : Ok X cc nL own E) {x : Nat} (q hpc : Nat) {cx : String} {T : u_T} {N ci : Nat} {fs : List Value} (hx : ws[q]? = some (x, eO ci fs)) (hc : vwCl[ci]? = some (cx, T, N)) (hca : CatchAs own cx X.s pc hpc E.hh) (h : G X nL k n ws hpc L [.ref x]) : GT X nL k n ws pc L x := by
  intro H locs ls st hP hD hS hl T hT X'
  obtain ⟨cell, h1, h2, h3⟩ := va_recv C.K hP hc hx
  have hpl : X.e.platform.magicAccessors = ({} : Platform).magicAccessors := by rw [X'.admits.platform]
  have hca' := hca
  rw [← C.tab] at hca'
  obtain ⟨vm', w1, w2⟩ := find_catch (m := X.m) (f := F0 X.m pc ls st) hpl C.ts C.own rfl (a := x) (cell := cell) h2 h3 (hpc := hpc) X.c.exceptionTable.toList ((T.setTop (F0 X.m pc ls st)).pushFrame (.throwing x)) (by rw [Stand.throwing_heap, hT]; exact h1) (by rw [Stand.throwing_vm]; exact X'.warmed) hca'
  obtain ⟨t, a1, b1⟩ := h H locs ls hP hD hS hl (T.setVm vm') hT (X'.noted w1)
  have hm : ((T.setTop (F0 X.m pc ls st)).pushFrame (.throwing x)).vm.method? X.m = some X.meth := by rw [Stand.throwing_vm]; exact X'.method'
  refine ⟨t, caughtV (g := F0 X.m pc ls st) X'.here (fun Q E d acts => ?_) a1, b1⟩
  rw [W.findHandler_eq (f := F0 X.m pc ls st) hm X'.code]
  exact w2 Q E d acts
theorem newarr_cls {Z : Zk} {s : State} {i : Nat} {ty : FieldType} {cA : ClassId} {tys : List (ClassId × FieldType)} (hne : ∀ c, ty ≠ .object c) (hK : va_K Z.D vwCl (tysZ Z) s) (hi : (tysZ Z)[i]? = some (Z.cA i, ty)) (h2 : va_K Z.D vwCl (tys ++ [(cA, ty)]) s) : cA = Z.cA i := by
  have a1 := (hK.2 i _ hi).2
  have a2 := (h2.2 tys.length (cA, ty) (by simp)).2
  cases ty with
  | object c => exact absurd rfl (hne c)
  | _ => exact Option.some.inj (a2.symm.trans a1)
theorem g_newI (C : Ok X cc nL own E) {z : Int} (N : Nat) (hz : z = N) (hN : N < 100000000) (w : Cond.arrayClass .int ∈ lw_all) (hR : k + 1 ≤ E.mc ∧ n + N ≤ E.ms) (hd : decode cc pc = .ok (.newarray .int, 2)) (h : ∀ q : Nat, G X nL (k + 1) (n + N) (ws ++ [(q, eI X.Z N (fun _ => 0))]) (pc + 2) L (.ref q :: st)) : G X nL k n ws pc L (vI z :: st) := by
  subst hz
  intro H locs ls hP hD hS hl
  have hRx : X.R = E.R := C.R
  refine va_newa (atype := .int) (ty := .int) (N' := N) (a0 := (N, .inl (fun _ => iI 0))) C.x C.b (C.ts _ w) rfl C.K hP hD hS C.A (fun cA => rfl) (by rw [← iI_0, iI_lt ⟨⟨by omega, by omega⟩, by omega, by omega⟩]; omega) (by rw [iI_clamp (by omega) (by omega)]; rfl) (by show N * 4 ≤ _; omega) (by rw [hRx]; exact hR.1) (by rw [hRx]; exact hR.2) hd (fun q cA H1 hK1 hP1 hD1 hS1 => ?_)
  have e := newarr_cls (i := 0) (by intro c h; cases h) C.K rfl hK1
  subst e
  exact h q H1 locs ls hP1 hD1 hS1 hl
theorem g_newJ (C : Ok X cc nL own E) {z : Int} (N : Nat) (hz : z = N) (hN : N < 60000000) (w : Cond.arrayClass .long ∈ lw_all) (hR : k + 1 ≤ E.mc ∧ n + N ≤ E.ms) (hd : decode cc pc = .ok (.newarray .long, 2)) (h : ∀ q : Nat, G X nL (k + 1) (n + N) (ws ++ [(q, eJ X.Z N (fun _ => 0))]) (pc + 2) L (.ref q :: st)) : G X nL k n ws pc L (vI z :: st) := by
  subst hz
  intro H locs ls hP hD hS hl
  have hRx : X.R = E.R := C.R
  refine va_newa (atype := .long) (ty := .long) (N' := N) (a0 := (N, .inr (.inl (fun _ => 0)))) C.x C.b (C.ts _ w) rfl C.K hP hD hS C.A (fun cA => rfl) (by rw [← iI_0, iI_lt ⟨⟨by omega, by omega⟩, by omega, by omega⟩]; omega) (by rw [iI_clamp (by omega) (by omega)]; rfl) (by show N * 8 ≤ _; omega) (by rw [hRx]; exact hR.1) (by rw [hRx]; exact hR.2) hd (fun q cA H1 hK1 hP1 hD1 hS1 => ?_)
  have e := newarr_cls (i := 1) (by intro c h; cases h) C.K rfl hK1
  subst e
  exact h q H1 locs ls hP1 hD1 hS1 hl
theorem g_newB (C : Ok X cc nL own E) {z : Int} (N : Nat) (hz : z = N) (hN : N < 100000000) (w : Cond.arrayClass .byte ∈ lw_all) (hR : k + 1 ≤ E.mc ∧ n + N ≤ E.ms) (hd : decode cc pc = .ok (.newarray .byte, 2)) (h : ∀ q : Nat, G X nL (k + 1) (n + N) (ws ++ [(q, eB X.Z N (fun _ => 0))]) (pc + 2) L (.ref q :: st)) : G X nL k n ws pc L (vI z :: st) := by
  subst hz
  intro H locs ls hP hD hS hl
  have hRx : X.R = E.R := C.R
  refine va_newa (atype := .byte) (ty := .byte) (N' := N) (a0 := (N, .inl (fun _ => iI 0))) C.x C.b (C.ts _ w) rfl C.K hP hD hS C.A (fun cA => rfl) (by rw [← iI_0, iI_lt ⟨⟨by omega, by omega⟩, by omega, by omega⟩]; omega) (by rw [iI_clamp (by omega) (by omega)]; rfl) (by show N * 1 ≤ _; omega) (by rw [hRx]; exact hR.1) (by rw [hRx]; exact hR.2) hd (fun q cA H1 hK1 hP1 hD1 hS1 => ?_)
  have e := newarr_cls (i := 2) (by intro c h; cases h) C.K rfl hK1
  subst e
  exact h q H1 locs ls hP1 hD1 hS1 hl
theorem g_newZ (C : Ok X cc nL own E) {z : Int} (N : Nat) (hz : z = N) (hN : N < 100000000) (w : Cond.arrayClass .boolean ∈ lw_all) (hR : k + 1 ≤ E.mc ∧ n + N ≤ E.ms) (hd : decode cc pc = .ok (.newarray .boolean, 2)) (h : ∀ q : Nat, G X nL (k + 1) (n + N) (ws ++ [(q, eZ X.Z N (fun _ => false))]) (pc + 2) L (.ref q :: st)) : G X nL k n ws pc L (vI z :: st) := by
  subst hz
  intro H locs ls hP hD hS hl
  have hRx : X.R = E.R := C.R
  refine va_newa (atype := .boolean) (ty := .boolean) (N' := N) (a0 := (N, .inl (fun _ => iI (b2 false)))) C.x C.b (C.ts _ w) rfl C.K hP hD hS C.A (fun cA => rfl) (by rw [← iI_0, iI_lt ⟨⟨by omega, by omega⟩, by omega, by omega⟩]; omega) (by rw [iI_clamp (by omega) (by omega)]; rfl) (by show N * 1 ≤ _; omega) (by rw [hRx]; exact hR.1) (by rw [hRx]; exact hR.2) hd (fun q cA H1 hK1 hP1 hD1 hS1 => ?_)
  have e := newarr_cls (i := 3) (by intro c h; cases h) C.K rfl hK1
  subst e
  exact h q H1 locs ls hP1 hD1 hS1 hl
end CATCH
