/-! calls on a part of the world, by places -/
def plug : List Nat → va_W → va_W → va_W
  | [], [], ws => ws
  | [], q :: w, ws => ws ++ (q :: w)
  | _ :: _, [], ws => ws
  | j :: js, q :: w, ws => plug js w (ws.set j q)
def posf (js : List Nat) (len t : Nat) : Nat := if t < js.length then js.getD t 0 else len + (t - js.length)
theorem plug_get : ∀ (js : List Nat) (w ws : va_W), js.length ≤ w.length → (∀ j ∈ js, j < ws.length) → ∀ (i : Nat) (q : Nat × va_E), (plug js w ws)[i]? = some q → (∃ t, w[t]? = some q ∧ i = posf js ws.length t) ∨ (ws[i]? = some q ∧ i ∉ js) := by
  intro js
  induction js with
  | nil =>
    intro w ws _ _ i q h
    cases w with
    | nil =>
      unfold plug at h
      exact Or.inr ⟨h, List.not_mem_nil⟩
    | cons p w =>
    unfold plug at h
    by_cases hi : i < ws.length
    · rw [List.getElem?_append_left hi] at h
      exact Or.inr ⟨h, List.not_mem_nil⟩
    · rw [List.getElem?_append_right (by omega)] at h
      exact Or.inl ⟨i - ws.length, h, by simp [posf]; omega⟩
  | cons j js ih =>
    intro w ws hl hj i q h
    cases w with
    | nil => simp at hl
    | cons p w =>
      unfold plug at h
      have hjl : j < ws.length := hj j List.mem_cons_self
      rcases ih w (ws.set j p) (by simpa using hl) (fun x hx => by rw [List.length_set]; exact hj x (List.mem_cons_of_mem _ hx)) i q h with ⟨t, h1, h2⟩ | ⟨h1, h2⟩
      · refine Or.inl ⟨t + 1, by simpa using h1, ?_⟩
        rw [h2, List.length_set]
        simp only [posf, List.length_cons, Nat.add_lt_add_iff_right, List.getD_cons_succ, Nat.add_sub_add_right]
      · by_cases e : i = j
        · subst e
          rw [List.getElem?_set_self hjl] at h1
          exact Or.inl ⟨0, by simpa using h1, by simp [posf]⟩
        · rw [List.getElem?_set_ne (fun z => e z.symm)] at h1
          exact Or.inr ⟨h1, fun z => by rcases List.mem_cons.mp z with z | z; exact e z; exact h2 z⟩
theorem plug_self : ∀ (js : List Nat) (w ws : va_W), js.map (fun i => ws[i]?) = w.map some → plug js w ws = ws := by
  intro js
  induction js with
  | nil =>
    intro w ws h
    cases w with
    | nil => rfl
    | cons q w => simp at h
  | cons j js ih =>
    intro w ws h
    cases w with
    | nil => simp at h
    | cons q w =>
      simp only [List.map_cons, List.cons.injEq] at h
      unfold plug
      have e : ws.set j q = ws := by
        apply List.ext_getElem?
        intro i
        by_cases hi : j = i
        · subst hi
          rw [List.getElem?_set_self (List.getElem?_eq_some_iff.mp h.1).1, h.1]
        · rw [List.getElem?_set_ne hi]
      rw [e]
      exact ih w ws h.2
theorem plug_join {A0 : Nat → Prop} {D : va_G} {cl : List vw_C} {ws wc w1 : va_W} {H H1 : Heap} (js : List Nat) (hC : js.map (fun i => ws[i]?) = wc.map some) (hlen : js.length ≤ w1.length) (hP : va_P D cl ws H) (hD : va_D A0 ws) (hk : ∀ q : Nat, q < H.size → ¬ va_A wc H.size q → H1[q]? = H[q]?) (hF : ∀ q, va_A wc H.size q → A0 q) (hP1 : va_P D cl w1 H1) (hD1 : va_D (va_A wc H.size) w1) : va_P D cl (plug js w1 ws) H1 ∧ va_D A0 (plug js w1 ws) := by
  have hjl : ∀ j ∈ js, j < ws.length := by
    intro j hj
    have h1 : ws[j]? ∈ js.map (fun i => ws[i]?) := List.mem_map.mpr ⟨j, hj, rfl⟩
    rw [hC] at h1
    obtain ⟨q, -, hq⟩ := List.mem_map.mp h1
    exact (List.getElem?_eq_some_iff.mp hq.symm).1
  have cut := plug_get js w1 ws hlen hjl
  have apart : ∀ (i : Nat) (q : Nat × va_E), ws[i]? = some q → i ∉ js → q.1 < H.size ∧ ¬ va_A wc H.size q.1 := by
    intro i q hq hi
    refine ⟨(hP i q hq).lt, fun h => ?_⟩
    rcases h with ⟨k2, e, h⟩ | h
    · have h1 : (js.map (fun i => ws[i]?))[k2]? = some (some (q.1, e)) := by rw [hC, List.getElem?_map, h]; rfl
      rw [List.getElem?_map] at h1
      cases hj : js[k2]? with
      | none => rw [hj] at h1; cases h1
      | some j =>
        rw [hj] at h1
        have := hD.1 i j q (q.1, e) hq (Option.some.inj h1) rfl
        subst this
        exact hi (List.mem_of_getElem? hj)
    · have := (hP i q hq).lt
      omega
  refine ⟨fun i q hq => ?_, fun i j p q hp hq hpq => ?_, fun i q hq => ?_⟩
  · rcases cut i q hq with ⟨t, h1, -⟩ | ⟨h1, h2⟩
    · exact hP1 t q h1
    · obtain ⟨g1, g2⟩ := apart i q h1 h2
      exact (hP i q h1).kept (hk q.1 g1 g2)
  · rcases cut i p hp with ⟨t, h1, h2⟩ | ⟨h1, h2⟩ <;> rcases cut j q hq with ⟨u, h3, h4⟩ | ⟨h3, h4⟩
    · have := hD1.1 t u p q h1 h3 hpq
      rw [h2, h4, this]
    · exact absurd (by rw [← hpq]; exact hD1.2 t p h1) (apart j q h3 h4).2
    · exact absurd (by rw [hpq]; exact hD1.2 u q h3) (apart i p h1 h2).2
    · exact hD.1 i j p q h1 h3 hpq
  · rcases cut i q hq with ⟨t, h1, -⟩ | ⟨h1, -⟩
    · exact hF _ (hD1.2 t q h1)
    · exact hD.2 i q h1
/-- outcomes -/
def Ri (P : Int → va_W → Prop) : Outcome → va_W → Prop := fun o w => ∃ r, o = .returned (some (vI r)) ∧ P r w
def Rz (P : Bool → va_W → Prop) : Outcome → va_W → Prop := fun o w => ∃ r, o = .returned (some (vI (b2 r))) ∧ P r w
def Rl (P : Int64 → va_W → Prop) : Outcome → va_W → Prop := fun o w => ∃ r, o = .returned (some (.long r)) ∧ P r w
def Rr (P : Nat → va_W → Prop) : Outcome → va_W → Prop := fun o w => ∃ r, o = .returned (some (.ref r)) ∧ P r w
def Rv (P : va_W → Prop) : Outcome → va_W → Prop := fun o w => o = .returned none ∧ P w
def Th (R : Outcome → va_W → Prop) (T : Nat → va_W → Prop) : Outcome → va_W → Prop := fun o w => R o w ∨ ∃ x, o = .threw x ∧ T x w
section RUNS
variable {X : Cx} {cc : ByteArray} {nL : Nat} {own : String} {E : Ek} {k n pc : Nat} {ws : va_W} {L : List (Nat × Value)} {st : List Value}
theorem ct_preJ (C : Ok X cc nL own E) {as : List Value} {wc : va_W} {js : List Nat} (hn : va_nd js = true) (hC : js.map (fun i => ws[i]?) = wc.map some) {H : Heap} {locs : List Loc} (hP : va_P X.Z.D vwCl ws H) (hD : va_D X.A ws) (hS : va_S X.A X.s.heap H locs) (U : State) (hU : U.heap = H) (hW : X.s.WarmedH U.vm) :
    va_Pc as (fun U => U.heap.size = H.size ∧ va_P X.Z.D vwCl wc U.heap ∧ va_K X.Z.D vwCl (tysZ X.Z) U ∧ va_D (fun _ => True) wc ∧ EX X.Z.K (va_A wc H.size) U) as.toArray U :=
  ⟨rfl, by rw [hU], by rw [hU]; exact hP.sub js (re_fm hC), va_K.moved hW.alike C.K, (hD.sub js hn hC).weaken (fun _ _ _ _ => trivial), C.ex.go hW (fun q h1 h2 => by rw [hU]; exact hS.2.1 q h1 h2) (va_free hD hS C.A js hC)⟩
/-- the world behind a call on the part js -/
theorem g_callJ (C : Ok X cc nL own E) {as : List Value} {wc : va_W} {mc ms : Nat} {Post : Outcome → va_W → Prop} {rest : List Value} (js : List Nat) (hn : va_nd js = true) (hC : js.map (fun i => ws[i]?) = wc.map some) (hlen : ∀ o w, Post o w → js.length ≤ w.length)
    (hrun : ∀ (H : Heap) (locs : List Loc) (ls : Array Slot), va_P X.Z.D vwCl ws H → va_D X.A ws → va_S X.A X.s.heap H locs → lv_has ls nL L → RunT X H locs k n mc ms (F0 X.m pc ls st) rest (QP X.Z (va_A wc H.size) Post as.toArray) (va_A wc H.size))
    (kR : ∀ (v : Option Value) (w1 : va_W), Post (.returned v) w1 → G X nL (k + mc) (n + ms) (plug js w1 ws) (pc + 3) L (v.toList ++ rest))
    (kT : ∀ (x : Nat) (w1 : va_W), Post (.threw x) w1 → GT X nL (k + mc) (n + ms) (plug js w1 ws) pc L x) : G X nL k n ws pc L st := by
  intro H locs ls hP hD hS hl T hT X'
  obtain ⟨o, st₀, t, T', L', h0, X2, hL, e1, e2, ⟨⟨w1, hpo, hP1, hD1⟩, hz, hk⟩, hst⟩ := hrun H locs ls hP hD hS hl T hT X'
  have hF := va_free hD hS C.A js hC
  rw [h0] at hz hk
  rw [← e1] at hz hk hP1
  obtain ⟨hPn, hDn⟩ := plug_join js hC (hlen o w1 hpo) hP hD hk hF hP1 hD1
  have hSn : va_S X.A X.s.heap T'.heap (locs ++ L') := ⟨Nat.le_trans hS.1 hz, fun q h1 h2 => by
      rw [hk q (Nat.lt_of_lt_of_le h1 hS.1) (fun z => h2 (hF q z))]; exact hS.2.1 q h1 h2, fun q hq => by
      rcases List.mem_append.mp hq with h | h
      · exact hS.2.2 q h
      · exact hF _ (hL q h)⟩
  cases o with
  | returned v =>
    obtain ⟨t2, a1, b1⟩ := kR v w1 hpo T'.heap (locs ++ L') ls hPn hDn hSn hl T' rfl X2
    exact ⟨t2, hst t2 a1, b1⟩
  | threw x =>
    obtain ⟨t2, a1, b1⟩ := kT x w1 hpo T'.heap (locs ++ L') ls rest hPn hDn hSn hl T' rfl X2
    exact ⟨t2, hst t2 a1, b1⟩
theorem runV (C : Ok X cc nL own E) {y : MethodName} {hd : Cond} {bytes : ByteArray} {maxL : Nat} {ret : Option FieldType} {hh : List (Nat × Nat × Nat × Nat)} {fr lo : Nat} {as : List Value} {b : Nat} {wc : va_W} {mc ms : Nat} {Post : Outcome → va_W → Prop} {rest : List Value} {c : String} {T : u_T} {N ci ix : Nat} (q0 np : Nat) {fs : List Value}
    (hCt : Ct X.Z y hd fr lo (.ref b :: as) wc mc ms Post) (hH : HdOk hd y bytes maxL ret hh) (hb : ws[q0]? = some (b, eO ci fs)) (hc : vwCl[ci]? = some (c, T, N)) (hyc : y.cls = c)
    (w1 : Cond.methodLink own ix y ∈ lw_all) (w2 : Cond.instanceMethod y ∈ lw_all) (w3 : Cond.selects c y y ∈ lw_all) (w4 : Cond.initialized c ∈ lw_all) (w5 : hd ∈ lw_all) (hm : mhOk y np) (hn : as.length = np) (hst : as.reverse ++ .ref b :: rest = st) (hcat : (rest.map fun v => v.category).sum ≤ 8) (hR : roomOk E fr lo maxL mc ms k n) (hdg : decode cc pc = .ok (.invokevirtual ix, 3))
    {H : Heap} {locs : List Loc} {ls : Array Slot} (hP : va_P X.Z.D vwCl ws H) (hl : lv_has ls nL L)
    (hpre : ∀ U : State, U.heap = H → X.s.WarmedH U.vm → va_Pc (.ref b :: as) (fun U => U.heap.size = H.size ∧ va_P X.Z.D vwCl wc U.heap ∧ va_K X.Z.D vwCl (tysZ X.Z) U ∧ va_D (fun _ => True) wc ∧ EX X.Z.K (va_A wc H.size) U) (Value.ref b :: as).toArray U) :
    RunT X H locs k n mc ms (F0 X.m pc ls st) rest (QP X.Z (va_A wc H.size) Post (Value.ref b :: as).toArray) (va_A wc H.size) := by
  subst hst
  have hRx : X.R = E.R := C.R
  obtain ⟨cellB, hcB, hoB, hclB⟩ := va_recv C.K hP hc hb
  have hK : BackT X.Z.l X.R X.p X.e X.below X.s X.args y 3 8 (PreOf X.R mc ms _) (PostT _ mc ms _) := backT (bytes := bytes) (maxL := maxL) (ret := ret) (hh := hh) (hCt H.size) Ct.blind rfl rfl (by rw [hRx]; exact hR.1.1) (by rw [hRx]; exact hR.1.2) hH C.ts w5 (by rw [hyc]; exact w4)
  intro T hT X'
  obtain ⟨o, vm₁, ⟨U', l2, c2, s2⟩, hW₁, X2, ⟨g', mk, t, L', e1, e2, hq, h1, hL, h2, h3⟩, hst⟩ := callVT X' C.x (C := c) (bytes := bytes) (maxL := maxL) (ret := ret) (hh := hh) C.own (C.ts _ w1) (C.ts _ w2) (C.ts _ w3) hH (C.ts _ w5) ⟨hm.1, hm.2.1⟩ hK (by rw [hT]; exact hcB) hoB hclB (g := F0 X.m pc ls (as.reverse ++ .ref b :: rest)) rfl (hl.1.trans C.ml.symm) (argsL := as) (rest := rest) (hm.len hn) rfl (catsum hcat) (by rw [C.b]; exact hdg)
    (fun vm₁ hW₁ => ⟨by rw [hRx]; exact hR.2.1, by rw [hRx]; exact hR.2.2, hpre (T.setVm vm₁) hT hW₁⟩)
  dsimp only [Pt.U, Pt.locs, Pt.cells, Pt.slots] at X2 e1 e2 h1 h2 h3 hst
  subst h1; subst h2; subst h3
  exact ⟨o, (T.setVm vm₁).calling g' mk (Value.ref b :: as).toArray, t, U', L', hT, X2, hL, e1, e2, hq, hst⟩
theorem runS (C : Ok X cc nL own E) {y : MethodName} {hd : Cond} {bytes : ByteArray} {maxL : Nat} {ret : Option FieldType} {hh : List (Nat × Nat × Nat × Nat)} {fr lo : Nat} {as : List Value} {wc : va_W} {mc ms : Nat} {Post : Outcome → va_W → Prop} {rest : List Value} {ix : Nat} (np : Nat)
    (hCt : Ct X.Z y hd fr lo as wc mc ms Post) (hH : HdOk hd y bytes maxL ret hh)
    (w1 : Cond.methodLink own ix y ∈ lw_all) (w2 : Cond.static y ∈ lw_all) (w4 : Cond.initialized y.cls ∈ lw_all) (w5 : hd ∈ lw_all) (hm : mhOk y np) (hn : as.length = np) (hst : as.reverse ++ rest = st) (hcat : (rest.map fun v => v.category).sum ≤ 8) (hR : roomOk E fr lo maxL mc ms k n) (hdg : decode cc pc = .ok (.invokestatic ix, 3))
    {H : Heap} {locs : List Loc} {ls : Array Slot} (hl : lv_has ls nL L)
    (hpre : ∀ U : State, U.heap = H → X.s.WarmedH U.vm → va_Pc as (fun U => U.heap.size = H.size ∧ va_P X.Z.D vwCl wc U.heap ∧ va_K X.Z.D vwCl (tysZ X.Z) U ∧ va_D (fun _ => True) wc ∧ EX X.Z.K (va_A wc H.size) U) as.toArray U) :
    RunT X H locs k n mc ms (F0 X.m pc ls st) rest (QP X.Z (va_A wc H.size) Post as.toArray) (va_A wc H.size) := by
  subst hst
  have hRx : X.R = E.R := C.R
  have hK : BackT X.Z.l X.R X.p X.e X.below X.s X.args y 3 8 (PreOf X.R mc ms _) (PostT _ mc ms _) := backT (bytes := bytes) (maxL := maxL) (ret := ret) (hh := hh) (hCt H.size) Ct.blind rfl rfl (by rw [hRx]; exact hR.1.1) (by rw [hRx]; exact hR.1.2) hH C.ts w5 w4
  intro T hT X'
  obtain ⟨o, vm₁, ⟨U', l2, c2, s2⟩, hW₁, X2, ⟨g', mk, t, L', e1, e2, hq, h1, hL, h2, h3⟩, hst⟩ := callST X' C.x (bytes := bytes) (maxL := maxL) (ret := ret) (hh := hh) C.own (C.ts _ w1) (C.ts _ w2) (C.ts _ w4) hH (C.ts _ w5) ⟨hm.1, hm.2.1⟩ hK (g := F0 X.m pc ls (as.reverse ++ rest)) rfl (hl.1.trans C.ml.symm) (argsL := as) (rest := rest) (hm.len hn) rfl (catsum hcat) (by rw [C.b]; exact hdg)
    (fun vm₁ hW₁ => ⟨by rw [hRx]; exact hR.2.1, by rw [hRx]; exact hR.2.2, hpre (T.setVm vm₁) hT hW₁⟩)
  dsimp only [Pt.U, Pt.locs, Pt.cells, Pt.slots] at X2 e1 e2 h1 h2 h3 hst
  subst h1; subst h2; subst h3
  exact ⟨o, (T.setVm vm₁).calling g' mk as.toArray, t, U', L', hT, X2, hL, e1, e2, hq, hst⟩
theorem runI (C : Ok X cc nL own E) {y : MethodName} {bytes : ByteArray} {maxL : Nat} {fr lo : Nat} {as : List Value} {b : Nat} {wc : va_W} {mc ms : Nat} {Post : Outcome → va_W → Prop} {rest : List Value} {ix : Nat} (np : Nat)
    (hCt : Ct X.Z y (Cond.code y bytes maxL none) fr lo (.ref b :: as) wc mc ms Post) (hy1 : y.name = "<init>")
    (w1 : Cond.methodLink own ix y ∈ lw_all) (w2 : Cond.instanceMethod y ∈ lw_all) (w4 : Cond.initialized y.cls ∈ lw_all) (w5 : Cond.code y bytes maxL none ∈ lw_all) (hm : mhOk y np) (hn : as.length = np) (hst : as.reverse ++ .ref b :: rest = st) (hcat : (rest.map fun v => v.category).sum ≤ 8) (hR : roomOk E fr lo maxL mc ms k n) (hdg : decode cc pc = .ok (.invokespecial ix, 3))
    {H : Heap} {locs : List Loc} {ls : Array Slot} (hl : lv_has ls nL L)
    (hpre : ∀ U : State, U.heap = H → X.s.WarmedH U.vm → va_Pc (.ref b :: as) (fun U => U.heap.size = H.size ∧ va_P X.Z.D vwCl wc U.heap ∧ va_K X.Z.D vwCl (tysZ X.Z) U ∧ va_D (fun _ => True) wc ∧ EX X.Z.K (va_A wc H.size) U) (Value.ref b :: as).toArray U) :
    RunT X H locs k n mc ms (F0 X.m pc ls st) rest (QP X.Z (va_A wc H.size) Post (Value.ref b :: as).toArray) (va_A wc H.size) := by
  subst hst
  have hRx : X.R = E.R := C.R
  have hK : BackT X.Z.l X.R X.p X.e X.below X.s X.args y 3 8 (PreOf X.R mc ms _) (PostT _ mc ms _) := backT (bytes := bytes) (maxL := maxL) (ret := none) (hh := []) (hCt H.size) Ct.blind rfl rfl (by rw [hRx]; exact hR.1.1) (by rw [hRx]; exact hR.1.2) (Or.inl ⟨rfl, rfl⟩) C.ts w5 w4
  intro T hT X'
  obtain ⟨o, vm₁, ⟨U', l2, c2, s2⟩, hW₁, X2, ⟨g', mk, t, L', e1, e2, hq, h1, hL, h2, h3⟩, hst⟩ := callIT X' C.x (bytes := bytes) (maxL := maxL) C.own hy1 (C.ts _ w1) (C.ts _ w2) (C.ts _ w5) ⟨hm.1, hm.2.1⟩ hK (g := F0 X.m pc ls (as.reverse ++ .ref b :: rest)) rfl (hl.1.trans C.ml.symm) (a := b) (argsL := as) (rest := rest) (hm.len hn) rfl (catsum hcat) (by rw [C.b]; exact hdg)
    (fun vm₁ hW₁ => ⟨by rw [hRx]; exact hR.2.1, by rw [hRx]; exact hR.2.2, hpre (T.setVm vm₁) hT hW₁⟩)
  dsimp only [Pt.U, Pt.locs, Pt.cells, Pt.slots] at X2 e1 e2 h1 h2 h3 hst
  subst h1; subst h2; subst h3
  exact ⟨o, (T.setVm vm₁).calling g' mk (Value.ref b :: as).toArray, t, U', L', hT, X2, hL, e1, e2, hq, hst⟩
theorem callSNT {p : Program} {l : Launch} {e : Env} {R : Room} {s : State} {m : MethodId} {args : Array Value} {below : List Frame} {meth : Method} {c : Code} {T : State} {locs : List Loc} {cells slots : Nat} (X : Stand p l e R s m args below meth c T locs cells slots) (hexec : p.tables.exec = Jvm.exec) {own host : String} {index : Nat} {y : MethodName} {hd : Cond} {bytes : ByteArray} {maxL : Nat} {ret : Option FieldType} {hh : List (Nat × Nat × Nat × Nat)}
    (hown : s.vm.findClass own = some m.cls) (hlink : (Cond.methodLinkNest own index y host).before args s = true) (hstat : (Cond.static y).before args s = true) (hinit : (Cond.initialized y.cls).before args s = true)
    (hH : HdOk hd y bytes maxL ret hh) (hcode : hd.before args s = true) (hy : y.cls ≠ "java/lang/invoke/MethodHandle" ∧ y.cls ≠ "java/lang/invoke/VarHandle")
    {W : Nat} {Pre : Pt → Array Value → Prop} {Post : Pt → Array Value → Outcome → Pt → Prop} (hK : BackT l R p e below s args y 3 W Pre Post)
    {g : JFrame} (hg : g.method = m) (hsize : g.locals.size = c.maxLocals) {argsL rest : List Value} (hlen : ∀ sig, parseMethodDescriptor y.desc = some sig → argsL.length = sig.parameters.length)
    (hstack : g.stack = argsL.reverse ++ rest) (hW : 2 * g.monitorRoom + (rest.map fun v => v.category).sum ≤ W) (hdg : decode c.code g.pc = .ok (.invokestatic index, 3))
    (hpre : ∀ vm₁, s.WarmedH vm₁ → Pre ⟨T.setVm vm₁, locs, cells, slots⟩ argsL.toArray) :
    ∃ (o : Outcome) (vm₁ : Vm) (B : Pt), s.WarmedH vm₁ ∧ Stand p l e R s m args below meth c B.U B.locs B.cells B.slots ∧ Post ⟨T.setVm vm₁, locs, cells, slots⟩ argsL.toArray o B ∧
      ∀ target, Steps p.tables e below (landT o B.U { g with stack := rest } 3) target → Steps p.tables e below (T.setTop g) target := by
  obtain ⟨mk, hnamed⟩ := hd_named hH hcode
  obtain ⟨methM, cM, hmethM, -, -, -, -, -, -, hsigM⟩ := hd_spec hH hcode hnamed
  have hstatic : methM.isStatic = true := Cond.static_spec hnamed hmethM hstat
  obtain ⟨kP, hkP, -⟩ := className_of_methodNamed hnamed
  have hinitP : kP.init = .initialized := Cond.initialized_spec (findClass_of_methodNamed hnamed) hkP hinit
  obtain ⟨vm₁, X₁, hstep₁⟩ := X.invokestaticNest hexec hown hlink hnamed hmethM hstatic hkP hinitP hy (g := g) hg (argsL := argsL) (rest := rest) (hlen _ hsigM) hstack hdg
  obtain ⟨v, B, X', hpost, hsteps⟩ := hK m meth c ⟨T.setVm vm₁, locs, cells, slots⟩ { g with stack := rest } (.invokestatic index) mk argsL.toArray X₁ hg hsize hdg hW (X₁.named hnamed) (hpre vm₁ X₁.warmed)
  exact ⟨v, vm₁, B, X₁.warmed, X', hpost, fun target h => hstep₁ _ fun acts => by rw [doInvoke_state]; exact hsteps.trans h⟩
theorem callINT {p : Program} {l : Launch} {e : Env} {R : Room} {s : State} {m : MethodId} {args : Array Value} {below : List Frame} {meth : Method} {c : Code} {T : State} {locs : List Loc} {cells slots : Nat} (X : Stand p l e R s m args below meth c T locs cells slots) (hexec : p.tables.exec = Jvm.exec) {own host : String} {index : Nat} {y : MethodName} {bytes : ByteArray} {maxL : Nat}
    (hown : s.vm.findClass own = some m.cls) (hy1 : y.name = "<init>") (hlink : (Cond.methodLinkNest own index y host).before args s = true) (hinst : (Cond.instanceMethod y).before args s = true)
    (hcode : (Cond.code y bytes maxL none).before args s = true) (hy : y.cls ≠ "java/lang/invoke/MethodHandle" ∧ y.cls ≠ "java/lang/invoke/VarHandle")
    {W : Nat} {Pre : Pt → Array Value → Prop} {Post : Pt → Array Value → Outcome → Pt → Prop} (hK : BackT l R p e below s args y 3 W Pre Post)
    {g : JFrame} (hg : g.method = m) (hsize : g.locals.size = c.maxLocals) {a : Addr} {argsL rest : List Value} (hlen : ∀ sig, parseMethodDescriptor y.desc = some sig → argsL.length = sig.parameters.length)
    (hstack : g.stack = argsL.reverse ++ .ref a :: rest) (hW : 2 * g.monitorRoom + (rest.map fun v => v.category).sum ≤ W) (hdg : decode c.code g.pc = .ok (.invokespecial index, 3))
    (hpre : ∀ vm₁, s.WarmedH vm₁ → Pre ⟨T.setVm vm₁, locs, cells, slots⟩ (Value.ref a :: argsL).toArray) :
    ∃ (o : Outcome) (vm₁ : Vm) (B : Pt), s.WarmedH vm₁ ∧ Stand p l e R s m args below meth c B.U B.locs B.cells B.slots ∧ Post ⟨T.setVm vm₁, locs, cells, slots⟩ (Value.ref a :: argsL).toArray o B ∧
      ∀ target, Steps p.tables e below (landT o B.U { g with stack := rest } 3) target → Steps p.tables e below (T.setTop g) target := by
  subst hg
  have hpl : e.platform.magicAccessors = ({} : Platform).magicAccessors := by rw [X.admits.platform]
  obtain ⟨mk, methM, cM, kP, vm₁, hnamed, hmethM, hcodeM, -, hlocalsM, -, hkP, -, hW₁, hstep₁⟩ := Steps.initColdArgsNest (e := e) X.here hexec X.warmed hpl hown hy1 hy hlink hinst hcode (f := g) rfl hlen hstack hdg
  have X₁ := X.noted hW₁
  obtain ⟨v, B, X', hpost, hsteps⟩ := hK g.method meth c ⟨T.setVm vm₁, locs, cells, slots⟩ { g with stack := rest } (.invokespecial index) mk (Value.ref a :: argsL).toArray X₁ rfl hsize hdg hW (X₁.named hnamed) (hpre vm₁ X₁.warmed)
  exact ⟨v, vm₁, B, X₁.warmed, X', hpost, fun target h => hstep₁ _ fun acts => by rw [doInvoke_state]; exact hsteps.trans h⟩
theorem runSN (C : Ok X cc nL own E) {y : MethodName} {hd : Cond} {bytes : ByteArray} {maxL : Nat} {ret : Option FieldType} {hh : List (Nat × Nat × Nat × Nat)} {fr lo : Nat} {as : List Value} {wc : va_W} {mc ms : Nat} {Post : Outcome → va_W → Prop} {rest : List Value} {host : String} {ix : Nat} (np : Nat)
    (hCt : Ct X.Z y hd fr lo as wc mc ms Post) (hH : HdOk hd y bytes maxL ret hh)
    (w1 : Cond.methodLinkNest own ix y host ∈ nestW) (w2 : Cond.static y ∈ lw_all) (w4 : Cond.initialized y.cls ∈ lw_all) (w5 : hd ∈ lw_all) (hm : mhOk y np) (hn : as.length = np) (hst : as.reverse ++ rest = st) (hcat : (rest.map fun v => v.category).sum ≤ 8) (hR : roomOk E fr lo maxL mc ms k n) (hdg : decode cc pc = .ok (.invokestatic ix, 3))
    {H : Heap} {locs : List Loc} {ls : Array Slot} (hl : lv_has ls nL L)
    (hpre : ∀ U : State, U.heap = H → X.s.WarmedH U.vm → va_Pc as (fun U => U.heap.size = H.size ∧ va_P X.Z.D vwCl wc U.heap ∧ va_K X.Z.D vwCl (tysZ X.Z) U ∧ va_D (fun _ => True) wc ∧ EX X.Z.K (va_A wc H.size) U) as.toArray U) :
    RunT X H locs k n mc ms (F0 X.m pc ls st) rest (QP X.Z (va_A wc H.size) Post as.toArray) (va_A wc H.size) := by
  subst hst
  have hRx : X.R = E.R := C.R
  have hK : BackT X.Z.l X.R X.p X.e X.below X.s X.args y 3 8 (PreOf X.R mc ms _) (PostT _ mc ms _) := backT (bytes := bytes) (maxL := maxL) (ret := ret) (hh := hh) (hCt H.size) Ct.blind rfl rfl (by rw [hRx]; exact hR.1.1) (by rw [hRx]; exact hR.1.2) hH C.ts w5 w4
  intro T hT X'
  obtain ⟨o, vm₁, ⟨U', l2, c2, s2⟩, hW₁, X2, ⟨g', mk, t, L', e1, e2, hq, h1, hL, h2, h3⟩, hst⟩ := callSNT X' C.x (bytes := bytes) (maxL := maxL) (ret := ret) (hh := hh) C.own (va_Nw.use rfl (C.ex.1 _ w1)) (C.ts _ w2) (C.ts _ w4) hH (C.ts _ w5) ⟨hm.1, hm.2.1⟩ hK (g := F0 X.m pc ls (as.reverse ++ rest)) rfl (hl.1.trans C.ml.symm) (argsL := as) (rest := rest) (hm.len hn) rfl (catsum hcat) (by rw [C.b]; exact hdg)
    (fun vm₁ hW₁ => ⟨by rw [hRx]; exact hR.2.1, by rw [hRx]; exact hR.2.2, hpre (T.setVm vm₁) hT hW₁⟩)
  dsimp only [Pt.U, Pt.locs, Pt.cells, Pt.slots] at X2 e1 e2 h1 h2 h3 hst
  subst h1; subst h2; subst h3
  exact ⟨o, (T.setVm vm₁).calling g' mk as.toArray, t, U', L', hT, X2, hL, e1, e2, hq, hst⟩
theorem runIN (C : Ok X cc nL own E) {y : MethodName} {bytes : ByteArray} {maxL : Nat} {fr lo : Nat} {as : List Value} {b : Nat} {wc : va_W} {mc ms : Nat} {Post : Outcome → va_W → Prop} {rest : List Value} {host : String} {ix : Nat} (np : Nat)
    (hCt : Ct X.Z y (Cond.code y bytes maxL none) fr lo (.ref b :: as) wc mc ms Post) (hy1 : y.name = "<init>")
    (w1 : Cond.methodLinkNest own ix y host ∈ nestW) (w2 : Cond.instanceMethod y ∈ lw_all) (w4 : Cond.initialized y.cls ∈ lw_all) (w5 : Cond.code y bytes maxL none ∈ lw_all) (hm : mhOk y np) (hn : as.length = np) (hst : as.reverse ++ .ref b :: rest = st) (hcat : (rest.map fun v => v.category).sum ≤ 8) (hR : roomOk E fr lo maxL mc ms k n) (hdg : decode cc pc = .ok (.invokespecial ix, 3))
    {H : Heap} {locs : List Loc} {ls : Array Slot} (hl : lv_has ls nL L)
    (hpre : ∀ U : State, U.heap = H → X.s.WarmedH U.vm → va_Pc (.ref b :: as) (fun U => U.heap.size = H.size ∧ va_P X.Z.D vwCl wc U.heap ∧ va_K X.Z.D vwCl (tysZ X.Z) U ∧ va_D (fun _ => True) wc ∧ EX X.Z.K (va_A wc H.size) U) (Value.ref b :: as).toArray U) :
    RunT X H locs k n mc ms (F0 X.m pc ls st) rest (QP X.Z (va_A wc H.size) Post (Value.ref b :: as).toArray) (va_A wc H.size) := by
  subst hst
  have hRx : X.R = E.R := C.R
  have hK : BackT X.Z.l X.R X.p X.e X.below X.s X.args y 3 8 (PreOf X.R mc ms _) (PostT _ mc ms _) := backT (bytes := bytes) (maxL := maxL) (ret := none) (hh := []) (hCt H.size) Ct.blind rfl rfl (by rw [hRx]; exact hR.1.1) (by rw [hRx]; exact hR.1.2) (Or.inl ⟨rfl, rfl⟩) C.ts w5 w4
  intro T hT X'
  obtain ⟨o, vm₁, ⟨U', l2, c2, s2⟩, hW₁, X2, ⟨g', mk, t, L', e1, e2, hq, h1, hL, h2, h3⟩, hst⟩ := callINT X' C.x (bytes := bytes) (maxL := maxL) C.own hy1 (va_Nw.use rfl (C.ex.1 _ w1)) (C.ts _ w2) (C.ts _ w5) ⟨hm.1, hm.2.1⟩ hK (g := F0 X.m pc ls (as.reverse ++ .ref b :: rest)) rfl (hl.1.trans C.ml.symm) (a := b) (argsL := as) (rest := rest) (hm.len hn) rfl (catsum hcat) (by rw [C.b]; exact hdg)
    (fun vm₁ hW₁ => ⟨by rw [hRx]; exact hR.2.1, by rw [hRx]; exact hR.2.2, hpre (T.setVm vm₁) hT hW₁⟩)
  dsimp only [Pt.U, Pt.locs, Pt.cells, Pt.slots] at X2 e1 e2 h1 h2 h3 hst
  subst h1; subst h2; subst h3
  exact ⟨o, (T.setVm vm₁).calling g' mk (Value.ref b :: as).toArray, t, U', L', hT, X2, hL, e1, e2, hq, hst⟩
theorem nd_range (n : Nat) : va_nd (List.range n) = true → True := fun _ => trivial
/-- whole-world pre -/
theorem ct_preW (C : Ok X cc nL own E) {as : List Value} {H : Heap} {locs : List Loc} (hP : va_P X.Z.D vwCl ws H) (hD : va_D X.A ws) (hS : va_S X.A X.s.heap H locs) (U : State) (hU : U.heap = H) (hW : X.s.WarmedH U.vm) :
    va_Pc as (fun U => U.heap.size = H.size ∧ va_P X.Z.D vwCl ws U.heap ∧ va_K X.Z.D vwCl (tysZ X.Z) U ∧ va_D (fun _ => True) ws ∧ EX X.Z.K (va_A ws H.size) U) as.toArray U := by
  have := ct_pre C (as := as) (wc := ws) (wr := []) (by rw [List.append_nil]; exact hP) (by rw [List.append_nil]; exact hD) hS U hU hW
  exact this
theorem g_callW (C : Ok X cc nL own E) {as : List Value} {mc ms : Nat} {Post : Outcome → va_W → Prop} {rest : List Value}
    (hrun : ∀ (H : Heap) (locs : List Loc) (ls : Array Slot), va_P X.Z.D vwCl ws H → va_D X.A ws → va_S X.A X.s.heap H locs → lv_has ls nL L → RunT X H locs k n mc ms (F0 X.m pc ls st) rest (QP X.Z (va_A ws H.size) Post as.toArray) (va_A ws H.size))
    (kR : ∀ (v : Option Value) (w1 : va_W), Post (.returned v) w1 → G X nL (k + mc) (n + ms) w1 (pc + 3) L (v.toList ++ rest))
    (kT : ∀ (x : Nat) (w1 : va_W), Post (.threw x) w1 → GT X nL (k + mc) (n + ms) w1 pc L x) : G X nL k n ws pc L st := by
  have h := g_callG C (wc := ws) (wr := []) (as := as) (rest := rest) (Post := Post) (mc := mc) (ms := ms) (k := k) (n := n) (pc := pc) (L := L) (st := st)
    (by rw [List.append_nil]; exact hrun) (fun v w1 hp => by rw [List.append_nil]; exact kR v w1 hp) (fun x w1 hp => by rw [List.append_nil]; exact kT x w1 hp)
  rw [List.append_nil] at h
  exact h
end RUNS
