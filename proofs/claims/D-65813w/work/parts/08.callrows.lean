/-! calls, over G -/
def RunT (X : Cx) (H : Heap) (locs : List Loc) (k n mc ms : Nat) (g : JFrame) (rest : List Value) (Qa : State → Outcome → State → Prop) (free : Addr → Prop) : Prop :=
  ∀ T : State, T.heap = H → Stand X.p X.Z.l X.e X.R X.s X.m X.args X.below X.meth X.c T locs k n → ∃ (o : Outcome) (st₀ t T' : State) (L : List Loc), st₀.heap = H ∧ Stand X.p X.Z.l X.e X.R X.s X.m X.args X.below X.meth X.c T' (locs ++ L) (k + mc) (n + ms) ∧ (∀ q ∈ L, free q.base) ∧ T'.heap = t.heap ∧ T'.vm = t.vm ∧ Qa st₀ o t ∧
    ∀ tg, Steps X.p.tables X.e X.below (landT o T' { g with stack := rest } 3) tg → Steps X.p.tables X.e X.below (T.setTop g) tg
theorem app_free {A0 : Nat → Prop} {wc wr : va_W} {H0 H : Heap} {locs : List Loc} (hD : va_D A0 (wc ++ wr)) (hS : va_S A0 H0 H locs) (hA : ∀ q : Nat, H0.size ≤ q → A0 q) : ∀ q, va_A wc H.size q → A0 q := by
  intro q h
  rcases h with ⟨k, e, h⟩ | h
  · have h1 : (wc ++ wr)[k]? = some (q, e) := by rw [List.getElem?_append_left (List.getElem?_eq_some_iff.mp h).1]; exact h
    exact hD.2 k (q, e) h1
  · exact hA q (Nat.le_trans hS.1 h)
theorem app_join {A0 : Nat → Prop} {D : va_G} {cl : List vw_C} {wc wr w1 : va_W} {H H1 : Heap} (hP : va_P D cl (wc ++ wr) H) (hD : va_D A0 (wc ++ wr)) (hk : ∀ q : Nat, q < H.size → ¬ va_A wc H.size q → H1[q]? = H[q]?) (hF : ∀ q, va_A wc H.size q → A0 q) (hP1 : va_P D cl w1 H1) (hD1 : va_D (va_A wc H.size) w1) : va_P D cl (w1 ++ wr) H1 ∧ va_D A0 (w1 ++ wr) := by
  have atR : ∀ (i : Nat) (q : Nat × va_E), wr[i]? = some q → (wc ++ wr)[wc.length + i]? = some q := by
    intro i q hq
    rw [List.getElem?_append_right (Nat.le_add_right _ _), Nat.add_sub_cancel_left]
    exact hq
  have apart : ∀ (i : Nat) (q : Nat × va_E), wr[i]? = some q → q.1 < H.size ∧ ¬ va_A wc H.size q.1 := by
    intro i q hq
    have h2 := atR i q hq
    have hl := (hP _ q h2).lt
    refine ⟨hl, fun h => ?_⟩
    rcases h with ⟨k2, e, h⟩ | h
    · have hk2 := (List.getElem?_eq_some_iff.mp h).1
      have h4 : (wc ++ wr)[k2]? = some (q.1, e) := by rw [List.getElem?_append_left hk2]; exact h
      have hij := hD.1 _ _ q (q.1, e) h2 h4 rfl
      omega
    · omega
  refine ⟨va_P.app hP1 (fun i q hq => ?_), va_D.app (hD1.weaken (fun k q _ h => hF q.1 h)) ⟨fun i j x y hx hy hxy => ?_, fun i q hq => hD.2 _ q (atR i q hq)⟩ (fun i j x y hx hy hxy => ?_)⟩
  · obtain ⟨g1, g2⟩ := apart i q hq
    exact (hP _ q (atR i q hq)).kept (hk q.1 g1 g2)
  · have := hD.1 _ _ x y (atR i x hx) (atR j y hy) hxy
    omega
  · exact (apart j y hy).2 (by rw [← hxy]; exact hD1.2 i x hx)
section CALLG
variable {X : Cx} {cc : ByteArray} {nL : Nat} {own : String} {E : Ek} {k n pc : Nat} {ws : va_W} {L : List (Nat × Value)} {st : List Value}
theorem g_callG (C : Ok X cc nL own E) {as : List Value} {wc wr : va_W} {mc ms : Nat} {Post : Outcome → va_W → Prop} {rest : List Value}
    (hrun : ∀ (H : Heap) (locs : List Loc) (ls : Array Slot), va_P X.Z.D vwCl (wc ++ wr) H → va_D X.A (wc ++ wr) → va_S X.A X.s.heap H locs → lv_has ls nL L → RunT X H locs k n mc ms (F0 X.m pc ls st) rest (QP X.Z (va_A wc H.size) Post as.toArray) (va_A wc H.size))
    (kR : ∀ (v : Option Value) (w1 : va_W), Post (.returned v) w1 → G X nL (k + mc) (n + ms) (w1 ++ wr) (pc + 3) L (v.toList ++ rest))
    (kT : ∀ (x : Nat) (w1 : va_W), Post (.threw x) w1 → GT X nL (k + mc) (n + ms) (w1 ++ wr) pc L x) : G X nL k n (wc ++ wr) pc L st := by
  intro H locs ls hP hD hS hl T hT X'
  obtain ⟨o, st₀, t, T', L', h0, X2, hL, e1, e2, ⟨⟨w1, hpo, hP1, hD1⟩, hz, hk⟩, hst⟩ := hrun H locs ls hP hD hS hl T hT X'
  have hF := app_free hD hS C.A
  rw [h0] at hz hk
  rw [← e1] at hz hk hP1
  obtain ⟨hPn, hDn⟩ := app_join hP hD hk hF hP1 hD1
  have hSn : va_S X.A X.s.heap T'.heap (locs ++ L') := ⟨Nat.le_trans hS.1 hz, fun q h1 h2 => by
      rw [hk q (Nat.lt_of_lt_of_le h1 hS.1) (fun z => h2 (hF q z))]; exact hS.2.1 q h1 h2, fun q hq => by
      rcases List.mem_append.mp hq with h | h
      · exact hS.2.2 q h
      · exact hF _ (hL q h)⟩
  cases o with
  | returned v =>
    obtain ⟨t2, a1, b1⟩ := kR v w1 hpo T'.heap (locs ++ L') ls hPn hDn hSn hl T' rfl X2
    exact ⟨t2, hst t2 a1, b1⟩
  | threw x =>
    obtain ⟨t2, a1, b1⟩ := kT x w1 hpo T'.heap (locs ++ L') ls rest hPn hDn hSn hl T' rfl X2
    exact ⟨t2, hst t2 a1, b1⟩
/-- what the callee's start asks, at the call -/
theorem ct_pre (C : Ok X cc nL own E) {as : List Value} {wc wr : va_W} {H : Heap} {locs : List Loc} (hP : va_P X.Z.D vwCl (wc ++ wr) H) (hD : va_D X.A (wc ++ wr)) (hS : va_S X.A X.s.heap H locs) (U : State) (hU : U.heap = H) (hW : X.s.WarmedH U.vm) :
    va_Pc as (fun U => U.heap.size = H.size ∧ va_P X.Z.D vwCl wc U.heap ∧ va_K X.Z.D vwCl (tysZ X.Z) U ∧ va_D (fun _ => True) wc ∧ EX X.Z.K (va_A wc H.size) U) as.toArray U := by
  have atL : ∀ (i : Nat) (q : Nat × va_E), wc[i]? = some q → (wc ++ wr)[i]? = some q := by
    intro i q hq
    rw [List.getElem?_append_left (List.getElem?_eq_some_iff.mp hq).1]
    exact hq
  refine ⟨rfl, by rw [hU], fun i q hq => by rw [hU]; exact hP i q (atL i q hq), va_K.moved hW.alike C.K, ⟨fun i j x y hx hy hxy => hD.1 i j x y (atL i x hx) (atL j y hy) hxy, fun _ _ _ => trivial⟩, C.ex.go hW (fun q h1 h2 => by rw [hU]; exact hS.2.1 q h1 h2) (app_free hD hS C.A)⟩
def mhOk (y : MethodName) (np : Nat) : Prop := y.cls ≠ "java/lang/invoke/MethodHandle" ∧ y.cls ≠ "java/lang/invoke/VarHandle" ∧ (parseMethodDescriptor y.desc).map (fun d => d.parameters.length) = some np
theorem mhOk.len {y : MethodName} {np : Nat} (h : mhOk y np) {as : List Value} (hn : as.length = np) : ∀ sig, parseMethodDescriptor y.desc = some sig → as.length = sig.parameters.length := by
  intro sig hs
  have h2 := h.2.2
  rw [hs] at h2
  rw [hn]
  exact (Option.some.inj h2).symm
/-- room for the callee -/
abbrev roomOk (E : Ek) (fr lo maxL mc ms k n : Nat) : Prop := (fr + 1 ≤ E.fr ∧ 8 + (maxL + 11) + lo ≤ E.lo) ∧ k + mc ≤ E.mc ∧ n + ms ≤ E.ms
theorem catsum {m : MethodId} {pc : Nat} {ls : Array Slot} {st rest : List Value} (h : (rest.map fun v => v.category).sum ≤ 8) : 2 * (F0 m pc ls st).monitorRoom + (rest.map fun v => v.category).sum ≤ 8 := by
  have : (F0 m pc ls st).monitorRoom = 0 := rfl
  rw [this]; omega
theorem g_callV (C : Ok X cc nL own E) {y : MethodName} {hd : Cond} {bytes : ByteArray} {maxL : Nat} {ret : Option FieldType} {hh : List (Nat × Nat × Nat × Nat)} {fr lo : Nat} (as : List Value) {b : Nat} {wc wr : va_W} {mc ms : Nat} {Post : Outcome → va_W → Prop} (rest : List Value) {c : String} {T : u_T} {N ci ix : Nat} (q0 np : Nat) {fs : List Value}
    (hCt : Ct X.Z y hd fr lo (.ref b :: as) wc mc ms Post) (hH : HdOk hd y bytes maxL ret hh) (hb : wc[q0]? = some (b, eO ci fs)) (hc : vwCl[ci]? = some (c, T, N)) (hyc : y.cls = c)
    (w1 : Cond.methodLink own ix y ∈ lw_all) (w2 : Cond.instanceMethod y ∈ lw_all) (w3 : Cond.selects c y y ∈ lw_all) (w4 : Cond.initialized c ∈ lw_all) (w5 : hd ∈ lw_all) (hm : mhOk y np) (hn : as.length = np) (hst : as.reverse ++ .ref b :: rest = st) (hcat : (rest.map fun v => v.category).sum ≤ 8) (hR : roomOk E fr lo maxL mc ms k n) (hdg : decode cc pc = .ok (.invokevirtual ix, 3))
    (kR : ∀ (v : Option Value) (w1 : va_W), Post (.returned v) w1 → G X nL (k + mc) (n + ms) (w1 ++ wr) (pc + 3) L (v.toList ++ rest))
    (kT : ∀ (x : Nat) (w1 : va_W), Post (.threw x) w1 → GT X nL (k + mc) (n + ms) (w1 ++ wr) pc L x) : G X nL k n (wc ++ wr) pc L st := by
  subst hst
  refine g_callG C (as := .ref b :: as) (fun H locs ls hP hD hS hl => ?_) kR kT
  have hRx : X.R = E.R := C.R
  have hb' : (wc ++ wr)[q0]? = some (b, eO ci fs) := by rw [List.getElem?_append_left (List.getElem?_eq_some_iff.mp hb).1]; exact hb
  obtain ⟨cellB, hcB, hoB, hclB⟩ := va_recv C.K hP hc hb'
  have hK : BackT X.Z.l X.R X.p X.e X.below X.s X.args y 3 8 (PreOf X.R mc ms _) (PostT _ mc ms _) := backT (bytes := bytes) (maxL := maxL) (ret := ret) (hh := hh) (hCt H.size) Ct.blind rfl rfl (by rw [hRx]; exact hR.1.1) (by rw [hRx]; exact hR.1.2) hH C.ts w5 (by rw [hyc]; exact w4)
  intro T hT X'
  obtain ⟨o, vm₁, ⟨U', l2, c2, s2⟩, hW₁, X2, ⟨g', mk, t, L', e1, e2, hq, h1, hL, h2, h3⟩, hst⟩ := callVT X' C.x (C := c) (bytes := bytes) (maxL := maxL) (ret := ret) (hh := hh) C.own (C.ts _ w1) (C.ts _ w2) (C.ts _ w3) hH (C.ts _ w5) ⟨hm.1, hm.2.1⟩ hK (by rw [hT]; exact hcB) hoB hclB (g := F0 X.m pc ls (as.reverse ++ .ref b :: rest)) rfl (hl.1.trans C.ml.symm) (argsL := as) (rest := rest) (hm.len hn) rfl (catsum hcat) (by rw [C.b]; exact hdg)
    (fun vm₁ hW₁ => ⟨by rw [hRx]; exact hR.2.1, by rw [hRx]; exact hR.2.2, ct_pre C hP hD hS (T.setVm vm₁) hT hW₁⟩)
  dsimp only [Pt.U, Pt.locs, Pt.cells, Pt.slots] at X2 e1 e2 h1 h2 h3 hst
  subst h1; subst h2; subst h3
  exact ⟨o, (T.setVm vm₁).calling g' mk (Value.ref b :: as).toArray, t, U', L', hT, X2, hL, e1, e2, hq, hst⟩
theorem g_callS (C : Ok X cc nL own E) {y : MethodName} {hd : Cond} {bytes : ByteArray} {maxL : Nat} {ret : Option FieldType} {hh : List (Nat × Nat × Nat × Nat)} {fr lo : Nat} (as : List Value) {wc wr : va_W} {mc ms : Nat} {Post : Outcome → va_W → Prop} (rest : List Value) {ix : Nat} (np : Nat)
    (hCt : Ct X.Z y hd fr lo as wc mc ms Post) (hH : HdOk hd y bytes maxL ret hh)
    (w1 : Cond.methodLink own ix y ∈ lw_all) (w2 : Cond.static y ∈ lw_all) (w4 : Cond.initialized y.cls ∈ lw_all) (w5 : hd ∈ lw_all) (hm : mhOk y np) (hn : as.length = np) (hst : as.reverse ++ rest = st) (hcat : (rest.map fun v => v.category).sum ≤ 8) (hR : roomOk E fr lo maxL mc ms k n) (hdg : decode cc pc = .ok (.invokestatic ix, 3))
    (kR : ∀ (v : Option Value) (w1 : va_W), Post (.returned v) w1 → G X nL (k + mc) (n + ms) (w1 ++ wr) (pc + 3) L (v.toList ++ rest))
    (kT : ∀ (x : Nat) (w1 : va_W), Post (.threw x) w1 → GT X nL (k + mc) (n + ms) (w1 ++ wr) pc L x) : G X nL k n (wc ++ wr) pc L st := by
  subst hst
  refine g_callG C (as := as) (fun H locs ls hP hD hS hl => ?_) kR kT
  have hRx : X.R = E.R := C.R
  have hK : BackT X.Z.l X.R X.p X.e X.below X.s X.args y 3 8 (PreOf X.R mc ms _) (PostT _ mc ms _) := backT (bytes := bytes) (maxL := maxL) (ret := ret) (hh := hh) (hCt H.size) Ct.blind rfl rfl (by rw [hRx]; exact hR.1.1) (by rw [hRx]; exact hR.1.2) hH C.ts w5 w4
  intro T hT X'
  obtain ⟨o, vm₁, ⟨U', l2, c2, s2⟩, hW₁, X2, ⟨g', mk, t, L', e1, e2, hq, h1, hL, h2, h3⟩, hst⟩ := callST X' C.x (bytes := bytes) (maxL := maxL) (ret := ret) (hh := hh) C.own (C.ts _ w1) (C.ts _ w2) (C.ts _ w4) hH (C.ts _ w5) ⟨hm.1, hm.2.1⟩ hK (g := F0 X.m pc ls (as.reverse ++ rest)) rfl (hl.1.trans C.ml.symm) (argsL := as) (rest := rest) (hm.len hn) rfl (catsum hcat) (by rw [C.b]; exact hdg)
    (fun vm₁ hW₁ => ⟨by rw [hRx]; exact hR.2.1, by rw [hRx]; exact hR.2.2, ct_pre C hP hD hS (T.setVm vm₁) hT hW₁⟩)
  dsimp only [Pt.U, Pt.locs, Pt.cells, Pt.slots] at X2 e1 e2 h1 h2 h3 hst
  subst h1; subst h2; subst h3
  exact ⟨o, (T.setVm vm₁).calling g' mk as.toArray, t, U', L', hT, X2, hL, e1, e2, hq, hst⟩
theorem g_callI (C : Ok X cc nL own E) {y : MethodName} {bytes : ByteArray} {maxL : Nat} {fr lo : Nat} (as : List Value) {b : Nat} {wc wr : va_W} {mc ms : Nat} {Post : Outcome → va_W → Prop} (rest : List Value) {ix : Nat} (np : Nat)
    (hCt : Ct X.Z y (Cond.code y bytes maxL none) fr lo (.ref b :: as) wc mc ms Post) (hy1 : y.name = "<init>")
    (w1 : Cond.methodLink own ix y ∈ lw_all) (w2 : Cond.instanceMethod y ∈ lw_all) (w4 : Cond.initialized y.cls ∈ lw_all) (w5 : Cond.code y bytes maxL none ∈ lw_all) (hm : mhOk y np) (hn : as.length = np) (hst : as.reverse ++ .ref b :: rest = st) (hcat : (rest.map fun v => v.category).sum ≤ 8) (hR : roomOk E fr lo maxL mc ms k n) (hdg : decode cc pc = .ok (.invokespecial ix, 3))
    (kR : ∀ (v : Option Value) (w1 : va_W), Post (.returned v) w1 → G X nL (k + mc) (n + ms) (w1 ++ wr) (pc + 3) L (v.toList ++ rest))
    (kT : ∀ (x : Nat) (w1 : va_W), Post (.threw x) w1 → GT X nL (k + mc) (n + ms) (w1 ++ wr) pc L x) : G X nL k n (wc ++ wr) pc L st := by
  subst hst
  refine g_callG C (as := .ref b :: as) (fun H locs ls hP hD hS hl => ?_) kR kT
  have hRx : X.R = E.R := C.R
  have hK : BackT X.Z.l X.R X.p X.e X.below X.s X.args y 3 8 (PreOf X.R mc ms _) (PostT _ mc ms _) := backT (bytes := bytes) (maxL := maxL) (ret := none) (hh := []) (hCt H.size) Ct.blind rfl rfl (by rw [hRx]; exact hR.1.1) (by rw [hRx]; exact hR.1.2) (Or.inl ⟨rfl, rfl⟩) C.ts w5 w4
  intro T hT X'
  obtain ⟨o, vm₁, ⟨U', l2, c2, s2⟩, hW₁, X2, ⟨g', mk, t, L', e1, e2, hq, h1, hL, h2, h3⟩, hst⟩ := callIT X' C.x (bytes := bytes) (maxL := maxL) C.own hy1 (C.ts _ w1) (C.ts _ w2) (C.ts _ w5) ⟨hm.1, hm.2.1⟩ hK (g := F0 X.m pc ls (as.reverse ++ .ref b :: rest)) rfl (hl.1.trans C.ml.symm) (a := b) (argsL := as) (rest := rest) (hm.len hn) rfl (catsum hcat) (by rw [C.b]; exact hdg)
    (fun vm₁ hW₁ => ⟨by rw [hRx]; exact hR.2.1, by rw [hRx]; exact hR.2.2, ct_pre C hP hD hS (T.setVm vm₁) hT hW₁⟩)
  dsimp only [Pt.U, Pt.locs, Pt.cells, Pt.slots] at X2 e1 e2 h1 h2 h3 hst
  subst h1; subst h2; subst h3
  exact ⟨o, (T.setVm vm₁).calling g' mk (Value.ref b :: as).toArray, t, U', L', hT, X2, hL, e1, e2, hq, hst⟩
/-- Object.<init> -/
theorem g_objInit (C : Ok X cc nL own E) {ix a : Nat} (w1 : Cond.methodLink own ix Lib.objectInit ∈ lw_all) (w2 : Cond.instanceMethod Lib.objectInit ∈ lw_all) (w3 : Cond.code Lib.objectInit ⟨#[0xb1]⟩ 1 none ∈ lw_all) (hR : 1 ≤ E.fr ∧ 20 ≤ E.lo) (hcat : (st.map fun v => v.category).sum ≤ 8) (hd : decode cc pc = .ok (.invokespecial ix, 3)) (h : G X nL k n ws (pc + 3) L st) : G X nL k n ws pc L (.ref a :: st) := by
  intro H locs ls hP hD hS hl
  have hRx : X.R = E.R := C.R
  refine W.objInit C.x C.b C.own (C.ts _ w1) (C.ts _ w2) (C.ts _ w3) rfl (by rw [C.ml]; exact hl.1) rfl hd (by rw [hRx]; exact hR.1) ?_ (h H locs ls hP hD hS hl)
  have h0 : (F0 X.m pc ls (.ref a :: st)).monitorRoom = 0 := rfl
  rw [hRx, h0]
  have := hR.2
  show 2 * 0 + _ + 12 ≤ E.lo
  omega
/-- new -/
theorem g_new (C : Ok X cc nL own E) {c : String} {T : u_T} {N ci ix : Nat} (ty : Nat → FieldType) {fs : List Value} (hin : ∀ w ∈ u_ws c T N, w ∈ lw_all) (hty : ∀ k, k < N → parseFieldDescriptor (T k).2.2.1 = some (ty k)) (w1 : Cond.classLink own ix c ∈ lw_all) (w2 : Cond.instantiable c N ∈ lw_all) (w3 : Cond.initialized c ∈ lw_all) (hc : vwCl[ci]? = some (c, T, N)) (hfs : ∀ j, j < N → defaultValue (ty j) = vp_V fs j) (hR : k + 1 ≤ E.mc ∧ n + N ≤ E.ms) (hd : decode cc pc = .ok (.new ix, 3))
    (h : ∀ q : Nat, G X nL (k + 1) (n + N) (ws ++ [(q, eO ci fs)]) (pc + 3) L (.ref q :: st)) : G X nL k n ws pc L st := by
  intro H locs ls hP hD hS hl
  have hRx : X.R = E.R := C.R
  exact va_new C.x C.b C.ts hin ty hty C.own (C.ts _ w1) (C.ts _ w2) (C.ts _ w3) C.K hP hD hS C.A hc hfs (by rw [hRx]; exact hR.1) (by rw [hRx]; exact hR.2) hd (fun q H1 hP1 hD1 hS1 => h q H1 locs ls hP1 hD1 hS1 hl)
end CALLG
