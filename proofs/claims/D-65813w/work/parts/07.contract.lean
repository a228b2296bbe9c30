/-! contracts over worlds (Ct), their proof from a walk (Ct.of), returns, throws, calls -/
def Ct (Z : Zk) (y : MethodName) (hd : Cond) (fr lo : Nat) (as : List Value) (ws : va_W) (mc ms : Nat) (Post : Outcome → va_W → Prop) : Prop :=
  ∀ sz : Nat, Mt Z.l y (hd :: lw_all) { frames := fr, cells := mc, slots := ms, locals := lo } (va_Pc as (fun U => U.heap.size = sz ∧ va_P Z.D vwCl ws U.heap ∧ va_K Z.D vwCl (tysZ Z) U ∧ va_D (fun _ => True) ws ∧ EX Z.K (va_A ws sz) U)) (QP Z (va_A ws sz) Post) mc ms (va_A ws sz)
theorem Ct.blind {Z : Zk} {as : List Value} {ws : va_W} {sz : Nat} : FrameBlind (va_Pc as (fun U => U.heap.size = sz ∧ va_P Z.D vwCl ws U.heap ∧ va_K Z.D vwCl (tysZ Z) U ∧ va_D (fun _ => True) ws ∧ EX Z.K (va_A ws sz) U)) := by
  intro a U g mk q
  obtain ⟨q0, q1, qP, qK, qD, qE⟩ := q
  exact ⟨q0, q1, qP, va_K.moved (u := U) (U := U.calling g mk a) (Vm.Alike.refl U.vm) qK, qD, qE.calling g mk a⟩
theorem Ct.post {Z : Zk} {y : MethodName} {hd : Cond} {fr lo : Nat} {as : List Value} {ws : va_W} {mc ms : Nat} {Post Post' : Outcome → va_W → Prop} (h : Ct Z y hd fr lo as ws mc ms Post) (hp : ∀ o w, Post o w → Post' o w) : Ct Z y hd fr lo as ws mc ms Post' := by
  intro sz p e ha hc hk s m args below hf happ hP hK
  obtain ⟨n, o, h1, h2, h3, ⟨⟨w, q1, q2⟩, q3⟩, h5⟩ := h sz p e ha hc hk s m args below hf happ hP hK
  exact ⟨n, o, h1, h2, h3, ⟨⟨w, hp _ _ q1, q2⟩, q3⟩, h5⟩
theorem Ct.of {Z : Zk} {y : MethodName} {hd : Cond} {fr lo : Nat} {as : List Value} {ws : va_W} {mc ms : Nat} {Post : Outcome → va_W → Prop} {cc : ByteArray} {nL : Nat} {ret : Option FieldType} {hh : List (Nat × Nat × Nat × Nat)} (own nm : String) (hy : plainFor y = true) (hown : y.cls = own) (hnm : y.name = nm) (hH : HdOk hd y cc nL ret hh) (hl : (lg_sl as).length ≤ nL)
    (body : ∀ X : Cx, X.Z = Z → Ok X cc nL own (nm, ret, hh, fr, lo, mc, ms, Post) → G X nL 0 0 ws 0 (lv_args 0 as) []) : Ct Z y hd fr lo as ws mc ms Post := by
  intro sz
  refine MetFree.of_bodySF (code := cc) (maxLocals := nL) (ret := ret) hy ?_ ?_
  · intro args s m h hn
    obtain ⟨meth, c, h1, h2, h3, h4, -, h5, h6, -⟩ := hd_spec hH (atoms_spec (ws := hd :: lw_all) h _ List.mem_cons_self) hn
    exact ⟨meth, c, h1, h2, h3, h4, h5, h6⟩
  · intro p e s m args below meth c s₁ B hml hP _
    obtain ⟨rfl, rfl, hPw, hK, hD0, hE⟩ := hP
    have hts0 := atoms_spec (ws := hd :: lw_all) B.pre
    have hts : ∀ w ∈ lw_all, w.before as.toArray s = true := fun w h => hts0 w (List.mem_cons_of_mem _ h)
    have hS1 := Stand.of_body B
    obtain ⟨meth', c', h1, h2, -, -, h5, -, -, -⟩ := hd_spec hH (hts0 _ List.mem_cons_self) B.named
    cases B.method.symm.trans h1
    cases hS1.code.symm.trans h2
    have hnm' : meth.name = nm := by rw [← hnm]; exact (name_of_methodNamed B.named B.method).1
    have hown' : s.vm.findClass own = some m.cls := by rw [← hown]; exact findClass_of_methodNamed B.named
    have hh0 : s₁.heap = s.heap := by rw [B.state]; rfl
    have hl0 := lv_entry as (n := nL) hl
    have C : Ok (Z, p, e, { frames := fr, cells := mc, slots := ms, locals := lo }, s, m, as.toArray, below, meth, c, MT below (QP Z (va_A ws s.heap.size) Post) as.toArray s mc ms (va_A ws s.heap.size), va_A ws s.heap.size) cc nL own (nm, ret, hh, fr, lo, mc, ms, Post) :=
      ⟨B.exec, B.bytes, hml, hown', hts, hK, fun q h => Or.inr h, hE, B.returns, B.notSynchronized, h5, hnm', rfl, rfl⟩
    have g0 := body _ rfl C s.heap [] _ hPw (hD0.self (sz := s.heap.size)) va_S.rf hl0
    obtain ⟨t, a1, o, b1, b2, b3, b4, b5⟩ := g0 s₁ hh0 hS1
    refine ⟨t, o, ?_, b1, b2, b3, b4, b5⟩
    rw [lg_entry_eq]
    exact a1
/-- an exception is under way in the frame at pc -/
def GT (X : Cx) (nL k n : Nat) (ws : va_W) (pc : Nat) (L : List (Nat × Value)) (x : Nat) : Prop :=
  ∀ (H : Heap) (locs : List Loc) (ls : Array Slot) (st : List Value), va_P X.Z.D vwCl ws H → va_D X.A ws → va_S X.A X.s.heap H locs → lv_has ls nL L → ∀ T : State, T.heap = H → Stand X.p X.Z.l X.e X.R X.s X.m X.args X.below X.meth X.c T locs k n →
    ∃ t, Steps X.p.tables X.e X.below ((T.setTop (F0 X.m pc ls st)).pushFrame (.throwing x)) t ∧ X.Q t
def coversB (h : Nat × Nat × Nat × Nat) (pc : Nat) : Bool := decide (h.1 ≤ pc) && decide (pc < h.2.1)
section ENDS
variable {X : Cx} {cc : ByteArray} {nL : Nat} {own : String} {E : Ek} {k n pc : Nat} {ws : va_W} {L : List (Nat × Value)} {st : List Value}
theorem g_iret (C : Ok X cc nL own E) {z : Int} (hr : E.ret = some .int) (hp : E.Post (.returned (some (vI z))) ws) (hd : decode cc pc = .ok (.ireturn, 1)) : G X nL E.mc E.ms ws pc L [vI z] := by
  intro H locs ls hP hD hS hl T hT X'
  obtain ⟨t, a, b⟩ := (W.iret (Qc := QP X.Z X.A E.Post) (free := X.A) C.x C.b (C.ret.trans hr) (fun t ht hW => ⟨⟨ws, hp, by rw [ht]; exact hP, hD⟩, hS.F ht⟩) hS.2.2 hd C.lock) T hT X'
  exact ⟨t, a, by rw [C.Q]; exact MQ_MT b⟩
theorem g_zret (C : Ok X cc nL own E) {z : Int} (b : Bool) (hz : z = b2 b) (hr : E.ret = some .boolean) (hp : E.Post (.returned (some (vI (b2 b)))) ws) (hd : decode cc pc = .ok (.ireturn, 1)) : G X nL E.mc E.ms ws pc L [vI z] := by
  subst hz
  intro H locs ls hP hD hS hl T hT X'
  obtain ⟨t, a, b⟩ := (W.zret (Qc := QP X.Z X.A E.Post) (free := X.A) C.x C.b (C.ret.trans hr) (by cases b <;> rfl) (fun t ht hW => ⟨⟨ws, hp, by rw [ht]; exact hP, hD⟩, hS.F ht⟩) hS.2.2 hd C.lock) T hT X'
  exact ⟨t, a, by rw [C.Q]; exact MQ_MT b⟩
theorem g_lret (C : Ok X cc nL own E) {z : Int64} (hr : E.ret = some .long) (hp : E.Post (.returned (some (.long z))) ws) (hd : decode cc pc = .ok (.lreturn, 1)) : G X nL E.mc E.ms ws pc L [.long z] := by
  intro H locs ls hP hD hS hl T hT X'
  obtain ⟨t, a, b⟩ := (W.lret (Qc := QP X.Z X.A E.Post) (free := X.A) C.x C.b (C.ret.trans hr) (fun t ht hW => ⟨⟨ws, hp, by rw [ht]; exact hP, hD⟩, hS.F ht⟩) hS.2.2 hd C.lock) T hT X'
  exact ⟨t, a, by rw [C.Q]; exact MQ_MT b⟩
theorem g_aret (C : Ok X cc nL own E) {a : Nat} {rt : FieldType} (hr : E.ret = some rt) (hrt : (∃ n, rt = .object n) ∨ ∃ t, rt = .array t) (hp : E.Post (.returned (some (.ref a))) ws) (hd : decode cc pc = .ok (.areturn, 1)) : G X nL E.mc E.ms ws pc L [.ref a] := by
  intro H locs ls hP hD hS hl T hT X'
  obtain ⟨t, a, b⟩ := (W.aret (Qc := QP X.Z X.A E.Post) (free := X.A) C.x C.b (C.ret.trans hr) hrt (Or.inr ⟨_, rfl⟩) (fun t ht hW => ⟨⟨ws, hp, by rw [ht]; exact hP, hD⟩, hS.F ht⟩) hS.2.2 hd C.lock) T hT X'
  exact ⟨t, a, by rw [C.Q]; exact MQ_MT b⟩
theorem g_vret (C : Ok X cc nL own E) (hr : E.ret = none) (hp : E.Post (.returned none) ws) (hd : decode cc pc = .ok (.return_, 1)) : G X nL E.mc E.ms ws pc L [] := by
  intro H locs ls hP hD hS hl T hT X'
  obtain ⟨t, a, b⟩ := (W.vret (Qc := QP X.Z X.A E.Post) (free := X.A) C.x C.b (C.ret.trans hr) (fun t ht hW => ⟨⟨ws, hp, by rw [ht]; exact hP, hD⟩, hS.F ht⟩) hS.2.2 hd C.lock) T hT X'
  exact ⟨t, a, by rw [C.Q]; exact MQ_MT b⟩
theorem gt_widen {k' n' : Nat} {x : Nat} (h1 : k ≤ k') (h2 : n ≤ n') (h : GT X nL k' n' ws pc L x) : GT X nL k n ws pc L x :=
  fun H locs ls st hP hD hS hl T hT X' => h H locs ls st hP hD hS hl T hT (stand_widen X' h1 h2)
theorem gt_re {ws' : va_W} {x : Nat} (js : List Nat) (hn : va_nd js = true) (hs : js.map (fun i => ws[i]?) = ws'.map some) (h : GT X nL k n ws' pc L x) : GT X nL k n ws pc L x :=
  fun H locs ls st hP hD hS hl => h H locs ls st (hP.sub js (re_fm hs)) (hD.sub js hn hs) hS hl
/-- nothing catches it: out of the method -/
theorem gt_out (C : Ok X cc nL own E) {x : Nat} (hno : (E.hh.all fun h => !(coversB h pc)) = true) (hp : E.Post (.threw x) ws) : GT X nL E.mc E.ms ws pc L x := by
  intro H locs ls st hP hD hS hl T hT X'
  have hout : ∀ y ∈ X.c.exceptionTable.toList, covers y pc = false := by
    intro y hy
    have h1 : (y.startPc, y.endPc, y.handlerPc, y.catchType) ∈ E.hh := by
      rw [← C.tab]
      exact List.mem_map.mpr ⟨y, hy, rfl⟩
    have h2 := List.all_eq_true.mp hno _ h1
    have h3 : coversB (y.startPc, y.endPc, y.handlerPc, y.catchType) pc = false := by simpa using h2
    exact h3
  obtain ⟨h1, h2, h3, h4, h5⟩ := X'.leaveThrown x (g := F0 X.m pc ls st) rfl rfl rfl hout C.lock
  refine ⟨_, h1, ?_⟩
  rw [C.Q]
  exact ⟨_, h2, h3, ⟨⟨ws, hp, by show va_P X.Z.D vwCl ws T.heap; rw [hT]; exact hP, hD⟩, hS.F hT⟩, h4, locs, h5, hS.2.2⟩
theorem g_athrow (C : Ok X cc nL own E) {x : Nat} (hd : decode cc pc = .ok (.athrow, 1)) (h : GT X nL k n ws pc L x) : G X nL k n ws pc L (.ref x :: st) := by
  intro H locs ls hP hD hS hl T hT X'
  obtain ⟨t, a, b⟩ := h H locs ls st hP hD hS hl T hT X'
  refine ⟨t, ?_, b⟩
  have hdg : decode X.c.code (F0 X.m pc ls (.ref x :: st)).pc = .ok (.athrow, 1) := by rw [C.b]; exact hd
  jvm_step X'.here [C.x, hdg, athrow.wp_sem]
  exact a
end ENDS
