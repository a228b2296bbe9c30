/-! Model: findKinds -/
def SplK (g mv : Int → Int) (lv : Int → Bool) (s kinds : Int) (nk hd ch fs : Int → Int) : Prop :=
  (0 ≤ kinds ∧ kinds ≤ s) ∧ (∀ t, 0 ≤ t → t < s → lv t = true → 0 ≤ nk t ∧ nk t < kinds) ∧ (∀ t u, 0 ≤ t → t < s → 0 ≤ u → u < s → lv t = true → lv u = true → (nk t = nk u ↔ Alk g mv t u)) ∧ (∀ k, 0 ≤ k → k < kinds → 0 ≤ fs k ∧ fs k < s ∧ lv (fs k) = true ∧ nk (fs k) = k) ∧ ChOk hd ch 1024 kinds (fun _ => True) (fun k => slotK g mv (fs k))
section SPLK
variable {g mv : Int → Int} {lv : Int → Bool} {s kinds : Int} {nk hd ch fs : Int → Int}
theorem SplK.dead (h : SplK g mv lv s kinds nk hd ch fs) (hl : lv s = false) : SplK g mv lv (s + 1) kinds nk hd ch fs := by
  obtain ⟨h1, h2, h3, h4, h5⟩ := h
  have ne : ∀ t, lv t = true → t < s + 1 → t < s := fun t ht h => by
    by_cases e : t = s
    · rw [e, hl] at ht; cases ht
    · omega
  exact ⟨by omega, fun t t0 t1 ht => h2 t t0 (ne t ht t1) ht, fun t u t0 t1 u0 u1 ht hu => h3 t u t0 (ne t ht t1) u0 (ne u hu u1) ht hu, fun k k0 k1 => by have := h4 k k0 k1; exact ⟨this.1, by omega, this.2.2⟩, h5⟩
theorem SplK.old (h : SplK g mv lv s kinds nk hd ch fs) (hl : lv s = true) {k : Int} (k0 : 0 ≤ k) (k1 : k < kinds) (ha : Alk g mv (fs k) s) : SplK g mv lv (s + 1) kinds (up nk s k) hd ch fs := by
  obtain ⟨h1, h2, h3, h4, h5⟩ := h
  have hk := h4 k k0 k1
  have key : ∀ u, 0 ≤ u → u < s → lv u = true → (k = nk u ↔ Alk g mv s u) := fun u u0 u1 hu => by
    have := h3 (fs k) u hk.1 hk.2.1 u0 u1 hk.2.2.1 hu
    rw [hk.2.2.2] at this
    exact this.trans ⟨fun q => ha.symm.trans q, fun q => ha.trans q⟩
  refine ⟨by omega, fun t t0 t1 ht => ?_, fun t u t0 t1 u0 u1 ht hu => ?_, fun j j0 j1 => ?_, h5⟩
  · by_cases e : t = s
    · rw [e, up_same]; exact ⟨k0, k1⟩
    · rw [up_ne _ _ e]; exact h2 t t0 (by omega) ht
  · by_cases e : t = s
    · by_cases e2 : u = s
      · rw [e, e2]; exact ⟨fun _ => Alk.rf, fun _ => rfl⟩
      · rw [e, up_same, up_ne _ _ e2]; exact key u u0 (by omega) hu
    · by_cases e2 : u = s
      · rw [e2, up_same, up_ne _ _ e]
        exact ⟨fun q => ((key t t0 (by omega) ht).mp q.symm).symm, fun q => ((key t t0 (by omega) ht).mpr q.symm).symm⟩
      · rw [up_ne _ _ e, up_ne _ _ e2]; exact h3 t u t0 (by omega) u0 (by omega) ht hu
  · have := h4 j j0 j1
    exact ⟨this.1, by omega, this.2.2.1, by rw [up_ne _ _ (by omega)]; exact this.2.2.2⟩
theorem SplK.new (h : SplK g mv lv s kinds nk hd ch fs) (hl : lv s = true) (s0 : 0 ≤ s) (hno : ∀ k, 0 ≤ k → k < kinds → ¬ Alk g mv (fs k) s) : SplK g mv lv (s + 1) (kinds + 1) (up nk s kinds) (up hd (slotK g mv s) kinds) (up ch kinds (hd (slotK g mv s))) (up fs kinds s) := by
  obtain ⟨h1, h2, h3, h4, h5⟩ := h
  have nal : ∀ u, 0 ≤ u → u < s → lv u = true → ¬ Alk g mv s u := fun u u0 u1 hu ha => by
    have hk := h2 u u0 u1 hu
    have hf := h4 (nk u) hk.1 hk.2
    exact hno (nk u) hk.1 hk.2 (((h3 (fs (nk u)) u hf.1 hf.2.1 u0 u1 hf.2.2.1 hu).mp hf.2.2.2).trans ha.symm)
  refine ⟨by omega, fun t t0 t1 ht => ?_, fun t u t0 t1 u0 u1 ht hu => ?_, fun j j0 j1 => ?_, ?_⟩
  · by_cases e : t = s
    · rw [e, up_same]; exact ⟨h1.1, by omega⟩
    · rw [up_ne _ _ e]; have := h2 t t0 (by omega) ht; omega
  · by_cases e : t = s
    · by_cases e2 : u = s
      · rw [e, e2]; exact ⟨fun _ => Alk.rf, fun _ => rfl⟩
      · rw [e, up_same, up_ne _ _ e2]
        have hk := h2 u u0 (by omega) hu
        exact ⟨fun q => by omega, fun q => absurd q (nal u u0 (by omega) hu)⟩
    · by_cases e2 : u = s
      · rw [e2, up_same, up_ne _ _ e]
        have hk := h2 t t0 (by omega) ht
        exact ⟨fun q => by omega, fun q => absurd q.symm (nal t t0 (by omega) ht)⟩
      · rw [up_ne _ _ e, up_ne _ _ e2]; exact h3 t u t0 (by omega) u0 (by omega) ht hu
  · by_cases e : j = kinds
    · rw [e, up_same, up_same]; exact ⟨s0, by omega, hl, rfl⟩
    · rw [up_ne _ _ e]
      have := h4 j j0 (by omega)
      exact ⟨this.1, by omega, this.2.2.1, by rw [up_ne _ _ (by omega)]; exact this.2.2.2⟩
  · exact h5.add h1.1 (by show slotK g mv (up fs kinds s kinds) = slotK g mv s; rw [up_same]) trivial (fun _ _ _ => Iff.rfl) (fun t t0 t1 _ => by show slotK g mv (up fs kinds s t) = slotK g mv (fs t); rw [up_ne _ _ (by omega)])
end SPLK
def KdI (cnt : Int) (mv : Int → Int) (acc lv : Int → Bool) (kind : Int → Int) (kinds : Int) : Prop :=
  (∀ s, 0 ≤ s → s < cnt → lv s = true → 0 ≤ kind s ∧ kind s ≤ 401) ∧ (∀ s t, 0 ≤ s → s < cnt → 0 ≤ t → t < cnt → lv s = true → lv t = true → Eqv mv acc s t → kind s = kind t) ∧ (∀ s t, 0 ≤ s → s < cnt → 0 ≤ t → t < cnt → lv s = true → lv t = true → kind s = kind t → acc s = acc t) ∧ (kinds = 1 ∨ Onto (LvS cnt mv acc) kind kinds)
section KDI
variable {cnt : Int} {mv : Int → Int} {acc lv : Int → Bool} {kind nk : Int → Int} {kinds K : Int}
theorem KdI.g_r (h : KdI cnt mv acc lv kind kinds) : ∀ s, 0 ≤ s → s < cnt → -1 ≤ kO lv kind s ∧ kO lv kind s ≤ 401 := fun s s0 s1 => by
  cases hl : lv s with
  | true => rw [kO_live hl]; have := h.1 s s0 s1 hl; omega
  | false => rw [kO_dead hl]; omega
theorem kd_onto (hl : ∀ s, 0 ≤ s → s < cnt → lv s = tr (Liv mv acc s)) {hd ch fs : Int → Int} {g : Int → Int} (hS : SplK g mv lv cnt K nk hd ch fs) : Onto (LvS cnt mv acc) nk K := by
  obtain ⟨h1, h2, h3, h4, h5⟩ := hS
  refine ⟨h1.1, fun s hs => h2 s hs.1 hs.2.1 (by rw [hl s hs.1 hs.2.1]; exact tr_iff.mpr hs.2.2), fun y y0 y1 => ?_⟩
  have := h4 y y0 y1
  exact ⟨fs y, ⟨this.1, this.2.1, tr_iff.mp (by rw [← hl _ this.1 this.2.1]; exact this.2.2.1)⟩, this.2.2.2⟩
theorem KdI.next (h : KdI cnt mv acc lv kind kinds) (hc : cnt ≤ 401) (hmv : MvOk cnt mv) (hl : ∀ s, 0 ≤ s → s < cnt → lv s = tr (Liv mv acc s)) {hd ch fs : Int → Int} (hS : SplK (kO lv kind) mv lv cnt K nk hd ch fs) : KdI cnt mv acc lv nk K := by
  have ho := kd_onto hl hS
  obtain ⟨h1, h2, h3, h4, h5⟩ := hS
  refine ⟨fun s s0 s1 hs => by have := h2 s s0 s1 hs; omega, fun s t s0 s1 t0 t1 hs ht he => (h3 s t s0 s1 t0 t1 hs ht).mpr ⟨?_, fun b b0 b1 => ?_⟩, fun s t s0 s1 t0 t1 hs ht he => ?_, Or.inr ho⟩
  · rw [kO_live hs, kO_live ht]; exact h.2.1 s t s0 s1 t0 t1 hs ht he
  · have m1 := hmv.at s0 s1 b0 b1
    have m2 := hmv.at t0 t1 b0 b1
    have he2 := he.step b0 b1
    cases hq : lv (mv (128 * s + b)) with
    | true =>
      have hq2 : lv (mv (128 * t + b)) = true := by
        rw [hl _ (by omega) m2.2]
        rw [hl _ (by omega) m1.2] at hq
        exact tr_iff.mpr (he2.liv.mp (tr_iff.mp hq))
      rw [kO_live hq, kO_live hq2]
      exact h.2.1 _ _ (by omega) m1.2 (by omega) m2.2 hq hq2 he2
    | false =>
      have hq2 : lv (mv (128 * t + b)) = false := by
        cases hx : lv (mv (128 * t + b)) with
        | false => rfl
        | true =>
          rw [hl _ (by omega) m2.2] at hx
          have := tr_iff.mpr (he2.liv.mpr (tr_iff.mp hx))
          rw [← hl _ (by omega) m1.2, hq] at this
          cases this
      rw [kO_dead hq, kO_dead hq2]
  · have := ((h3 s t s0 s1 t0 t1 hs ht).mp he).1
    rw [kO_live hs, kO_live ht] at this
    exact h.2.2.1 s t s0 s1 t0 t1 hs ht this
/-- as many as before: no more kinds -/
theorem KdI.stop (h : KdI cnt mv acc lv kind kinds) (hc : cnt ≤ 401) (hmv : MvOk cnt mv) (hl : ∀ s, 0 ≤ s → s < cnt → lv s = tr (Liv mv acc s)) {hd ch fs : Int → Int} (hS : SplK (kO lv kind) mv lv cnt K nk hd ch fs) (hK : K = kinds) : Onto (LvS cnt mv acc) nk K ∧ ∀ s t, LvS cnt mv acc s → LvS cnt mv acc t → (nk s = nk t ↔ Eqv mv acc s t) := by
  have ho := kd_onto hl hS
  have hN := h.next hc hmv hl hS
  obtain ⟨h1, h2, h3, h4, h5⟩ := hS
  have lv_ : ∀ s, LvS cnt mv acc s → lv s = true := fun s hs => by rw [hl s hs.1 hs.2.1]; exact tr_iff.mpr hs.2.2
  have vl : ∀ s, 0 ≤ s → s < cnt → lv s = true → LvS cnt mv acc s := fun s s0 s1 h => ⟨s0, s1, tr_iff.mp (by rw [← hl s s0 s1]; exact h)⟩
  have same : ∀ s t, 0 ≤ s → s < cnt → 0 ≤ t → t < cnt → lv s = true → lv t = true → kind s = kind t → nk s = nk t := by
    intro s t s0 s1 t0 t1 hs ht he
    rcases h.2.2.2 with h9 | h9
    · have a := h2 s s0 s1 hs
      have b := h2 t t0 t1 ht
      omega
    · have := onto_le h9 ho (fun x y hx hy hxy => by
        have q := ((h3 x y hx.1 hx.2.1 hy.1 hy.2.1 (lv_ x hx) (lv_ y hy)).mp hxy).1
        rw [kO_live (lv_ x hx), kO_live (lv_ y hy)] at q
        exact q)
      exact this.2 (by omega) s t (vl s s0 s1 hs) (vl t t0 t1 ht) he
  refine ⟨ho, fun s t hs ht => ⟨fun he w hw => ?_, fun he => hN.2.1 s t hs.1 hs.2.1 ht.1 ht.2.1 (lv_ s hs) (lv_ t ht) he⟩⟩
  refine eqv_of (I := fun s t => kO lv nk s = kO lv nk t) hmv (fun x y x0 x1 y0 y1 hxy => ?_) (fun x y x0 x1 y0 y1 hxy b b0 b1 => ?_) w s t hs.1 hs.2.1 ht.1 ht.2.1 (by rw [kO_live (lv_ s hs), kO_live (lv_ t ht)]; exact he) hw
  · cases hx : lv x with
    | true =>
      cases hy : lv y with
      | true => rw [kO_live hx, kO_live hy] at hxy; exact hN.2.2.1 x y x0 x1 y0 y1 hx hy hxy
      | false => rw [kO_live hx, kO_dead hy] at hxy; have := h2 x x0 x1 hx; omega
    | false =>
      cases hy : lv y with
      | true => rw [kO_dead hx, kO_live hy] at hxy; have := h2 y y0 y1 hy; omega
      | false =>
        have dd : ∀ z, 0 ≤ z → z < cnt → lv z = false → acc z = false := fun z z0 z1 hz => by
          cases ha : acc z with
          | false => rfl
          | true => have := tr_iff.mpr (Liv.base (mv := mv) ha); rw [← hl z z0 z1, hz] at this; cases this
        rw [dd x x0 x1 hx, dd y y0 y1 hy]
  · have m1 := hmv.at x0 x1 b0 b1
    have m2 := hmv.at y0 y1 b0 b1
    have dd : ∀ z, 0 ≤ z → z < cnt → lv z = false → lv (mv (128 * z + b)) = false := fun z z0 z1 hz => by
      have m := hmv.at z0 z1 b0 b1
      cases ha : lv (mv (128 * z + b)) with
      | false => rfl
      | true =>
        rw [hl _ (by omega) m.2] at ha
        have := tr_iff.mpr (Liv.step b0 b1 (tr_iff.mp ha))
        rw [← hl z z0 z1, hz] at this
        cases this
    cases hx : lv x with
    | true =>
      cases hy : lv y with
      | true =>
        rw [kO_live hx, kO_live hy] at hxy
        have hA := ((h3 x y x0 x1 y0 y1 hx hy).mp hxy).2 b b0 b1
        cases hp : lv (mv (128 * x + b)) with
        | true =>
          cases hq : lv (mv (128 * y + b)) with
          | true =>
            rw [kO_live hp, kO_live hq] at hA
            show kO lv nk _ = kO lv nk _
            rw [kO_live hp, kO_live hq]
            exact same _ _ (by omega) m1.2 (by omega) m2.2 hp hq hA
          | false =>
            rw [kO_live hp, kO_dead hq] at hA
            have := h.1 _ (by omega) m1.2 hp
            omega
        | false =>
          cases hq : lv (mv (128 * y + b)) with
          | true =>
            rw [kO_dead hp, kO_live hq] at hA
            have := h.1 _ (by omega) m2.2 hq
            omega
          | false =>
            show kO lv nk _ = kO lv nk _
            rw [kO_dead hp, kO_dead hq]
      | false => rw [kO_live hx, kO_dead hy] at hxy; have := h2 x x0 x1 hx; omega
    | false =>
      cases hy : lv y with
      | true => rw [kO_dead hx, kO_live hy] at hxy; have := h2 y y0 y1 hy; omega
      | false =>
        show kO lv nk _ = kO lv nk _
        rw [kO_dead (dd x x0 x1 hx), kO_dead (dd y y0 y1 hy)]
theorem KdI.more (h : KdI cnt mv acc lv kind kinds) (hl : ∀ s, 0 ≤ s → s < cnt → lv s = tr (Liv mv acc s)) {hd ch fs : Int → Int} (hS : SplK (kO lv kind) mv lv cnt K nk hd ch fs) (hn : K ≠ kinds) : (kinds = 1 ∧ K = 0) ∨ kinds < K := by
  have ho := kd_onto hl hS
  obtain ⟨h1, h2, h3, h4, h5⟩ := hS
  have lv_ : ∀ s, LvS cnt mv acc s → lv s = true := fun s hs => by rw [hl s hs.1 hs.2.1]; exact tr_iff.mpr hs.2.2
  rcases h.2.2.2 with h9 | h9
  · omega
  · have := onto_le h9 ho (fun x y hx hy hxy => by
      have q := ((h3 x y hx.1 hx.2.1 hy.1 hy.2.1 (lv_ x hx) (lv_ y hy)).mp hxy).1
      rw [kO_live (lv_ x hx), kO_live (lv_ y hy)] at q
      exact q)
    omega
end KDI
theorem cM_findKinds {Z : Zk} {wr : va_W} {a : Nat → Nat} {tape : Int → Int} {taped : Int} {place : Int} {thrown : Int} {r_op : Nat} {no : Nat} {op : Int → Int} {r_arg : Nat} {arg : Int → Int} {many : Int} {low : Int → Int64} {high : Int → Int64} {masks : Int} {cur : Int} {readLow : Int64} {readHigh : Int64} {group : Int → Int} {choice : Int → Int} {chain : Int → Int} {hasEmpty : Int → Bool} {sset : Int → Int64} {label : Int → Int} {next : Int → Int} {states : Int} {r_stamp : Nat} {ns : Nat} {stamp : Int → Int} {r_stack : Nat} {stack : Int → Int} {stamps : Int} {piled : Int} {reading : Int → Int} {readings : Int} {wher : Int → Int} {built : Int → Int64} {heads : Int → Int} {chained : Int → Int} {isE : Bool} {lives : Int → Bool} {kind : Int → Int} {newKind : Int → Int} {first : Int → Int} {kinds : Int} {leads : Int → Int} {sideStates : Int → Int} {ends : Int → Bool} {text : Int → Int} {textLong : Int} {queue : Int → Int} {frm : Int → Int} {by_ : Int → Int} {ways : Int → Int64} {before : Int → Int64} (hc1 : 1 ≤ states) (hc2 : states ≤ 401) (hmv : MvOk states next) (hac : ∀ s, 0 ≤ s → s < states → -1 ≤ label s ∧ label s ≤ 0) (hl : ∀ s, 0 ≤ s → s < states → lives s = tr (Liv next (accB label) s)) : Ct Z yX6_findKinds hX6_findKinds 3 190 [.ref (a 0)] (wM Z a tape taped place thrown r_op no op r_arg arg many low high masks cur readLow readHigh group choice chain hasEmpty sset label next states r_stamp ns stamp r_stack stack stamps piled reading readings wher built heads chained isE lives kind newKind first kinds leads sideStates ends text textLong queue frm by_ ways before ++ wr) 0 0 (Rv fun w => ∃ kind1 nk hd ch fs K, Onto (LvS states next (accB label)) nk K ∧ (∀ s t, LvS states next (accB label) s → LvS states next (accB label) t → (nk s = nk t ↔ Eqv next (accB label) s t)) ∧ 0 ≤ K ∧ K ≤ 401 ∧ w = wM Z a tape taped place thrown r_op no op r_arg arg many low high masks cur readLow readHigh group choice chain hasEmpty sset label next states r_stamp ns stamp r_stack stack stamps piled reading readings wher built hd ch isE lives kind1 nk fs K leads sideStates ends text textLong queue frm by_ ways before ++ wr) := by
  refine Ct.of RX6 "findKinds" (by decide +kernel) rfl rfl hkX6_findKinds (Nat.le_of_ble_eq_true rfl) (fun X hZ C => ?_)
  subst hZ
  have pass : ∀ (kind : Int → Int) (kinds : Int), KdI states next (accB label) lives kind kinds → 0 ≤ kinds → kinds ≤ 401 → (∀ (kind1 nk hd ch fs : Int → Int) (K : Int), (∀ t, 0 ≤ t → t < states → kind1 t = nk t) → SplK (kO lives kind) next lives states K nk hd ch fs → G X 5 0 0 (wM X.Z a tape taped place thrown r_op no op r_arg arg many low high masks cur readLow readHigh group choice chain hasEmpty sset label next states r_stamp ns stamp r_stack stack stamps piled reading readings wher built hd ch isE lives kind1 nk fs K leads sideStates ends text textLong queue frm by_ ways before ++ wr) 37 [(0, .ref (a 0)), (1, vI kinds)] []) → ∀ (s : Int) (nk hd ch fs : Int → Int) (K : Int), 0 ≤ s → s ≤ states → SplK (kO lives kind) next lives s K nk hd ch fs → G X 5 0 0 (wM X.Z a tape taped place thrown r_op no op r_arg arg many low high masks cur readLow readHigh group choice chain hasEmpty sset label next states r_stamp ns stamp r_stack stack stamps piled reading readings wher built hd ch isE lives kind nk fs K leads sideStates ends text textLong queue frm by_ ways before ++ wr) 81 [(0, .ref (a 0)), (1, vI kinds), (2, vI s)] [] := by
    intro kind kinds hI kk0 kk1 hk
    have cp : ∀ (nk hd ch fs : Int → Int) (K : Int), SplK (kO lives kind) next lives states K nk hd ch fs → ∀ (f : Nat) (i : Int) (kind1 : Int → Int), 0 ≤ i → i + (f : Int) = states → (∀ t, 0 ≤ t → t < i → kind1 t = nk t) → G X 5 0 0 (wM X.Z a tape taped place thrown r_op no op r_arg arg many low high masks cur readLow readHigh group choice chain hasEmpty sset label next states r_stamp ns stamp r_stack stack stamps piled reading readings wher built hd ch isE lives kind1 nk fs K leads sideStates ends text textLong queue frm by_ ways before ++ wr) 215 [(0, .ref (a 0)), (1, vI kinds), (2, vI i)] [] := by
      intro nk hd ch fs K hS f
      induction f with
      | zero =>
        intro i kind1 i0 hi h1
        refine g_iload_n C dX6_findKinds_215 rfl ?_
        refine g_aload_n C dX6_findKinds_216 rfl ?_
        refine gM_states C dX6_findKinds_217 ?_
        refine g_icmp_ge C 241 dX6_findKinds_220 (by decide) (by omega) (fun h220 => ?_) (fun h220 => ?_)
        · refine g_goto C 37 dX6_findKinds_241 (by decide) ?_
          exact g_locR rfl (hk kind1 nk hd ch fs K (fun t t0 t1 => h1 t t0 (by omega)) hS)
        · exact absurd h220 (by omega)
      | succ f ih =>
        intro i kind1 i0 hi h1
        refine g_iload_n C dX6_findKinds_215 rfl ?_
        refine g_aload_n C dX6_findKinds_216 rfl ?_
        refine gM_states C dX6_findKinds_217 ?_
        refine g_icmp_ge C 241 dX6_findKinds_220 (by decide) (by omega) (fun h220 => ?_) (fun h220 => ?_)
        · exact absurd h220 (by omega)
        · refine g_aload_n C dX6_findKinds_223 rfl ?_
          refine gM_kind C dX6_findKinds_224 ?_
          refine g_iload_n C dX6_findKinds_227 rfl ?_
          refine g_aload_n C dX6_findKinds_228 rfl ?_
          refine gM_newKind C dX6_findKinds_229 ?_
          refine g_iload_n C dX6_findKinds_232 rfl ?_
          refine lM_newKind C (by omega) dX6_findKinds_233 ?_
          refine sM_kind C (by omega) dX6_findKinds_234 ?_
          refine g_iinc C dX6_findKinds_235 rfl (by decide) ?_
          refine g_goto C 215 dX6_findKinds_238 (by decide) ?_
          exact g_locR rfl (ih (i + 1) _ (by omega) (by omega) (fun t t0 t1 => by by_cases e : t = i; (rw [e, up_same]); (rw [up_ne _ _ e]; exact h1 t t0 (by omega))))
    have lp : ∀ (f : Nat) (s : Int) (nk hd ch fs : Int → Int) (K : Int), 0 ≤ s → s + (f : Int) = states → SplK (kO lives kind) next lives s K nk hd ch fs → G X 5 0 0 (wM X.Z a tape taped place thrown r_op no op r_arg arg many low high masks cur readLow readHigh group choice chain hasEmpty sset label next states r_stamp ns stamp r_stack stack stamps piled reading readings wher built hd ch isE lives kind nk fs K leads sideStates ends text textLong queue frm by_ ways before ++ wr) 81 [(0, .ref (a 0)), (1, vI kinds), (2, vI s)] [] := by
      intro f
      induction f with
      | zero =>
        intro s nk hd ch fs K s0 hs hS
        have es : s = states := by omega
        subst es
        refine g_iload_n C dX6_findKinds_81 rfl ?_
        refine g_aload_n C dX6_findKinds_82 rfl ?_
        refine gM_states C dX6_findKinds_83 ?_
        refine g_icmp_ge C 213 dX6_findKinds_86 (by decide) (by omega) (fun h86 => ?_) (fun h86 => ?_)
        · refine g_iconst C dX6_findKinds_213 ?_
          refine g_istore_n C dX6_findKinds_214 (by decide) ?_
          exact g_locR rfl (cp nk hd ch fs K hS s.toNat 0 kind (by decide) (by omega) (fun t t0 t1 => by omega))
        · exact absurd h86 (by omega)
      | succ f ih =>
        intro s nk hd ch fs K s0 hs hS
        cases hlv : lives s with
        | false =>
          refine g_iload_n C dX6_findKinds_81 rfl ?_
          refine g_aload_n C dX6_findKinds_82 rfl ?_
          refine gM_states C dX6_findKinds_83 ?_
          refine g_icmp_ge C 213 dX6_findKinds_86 (by decide) (by omega) (fun h86 => ?_) (fun h86 => ?_)
          · exact absurd h86 (by omega)
          · refine g_aload_n C dX6_findKinds_89 rfl ?_
            refine gM_lives C dX6_findKinds_90 ?_
            refine g_iload_n C dX6_findKinds_93 rfl ?_
            refine lM_lives C (by omega) dX6_findKinds_94 ?_
            refine g_if_ne C 101 dX6_findKinds_95 (by decide) (b2_r _) (fun h95 => ?_) (fun h95 => ?_)
            · exact absurd (show b2 (lives s) = 0 by rw [hlv]; rfl) h95
            · refine g_goto C 207 dX6_findKinds_98 (by decide) ?_
              refine g_iinc C dX6_findKinds_207 rfl (by decide) ?_
              refine g_goto C 81 dX6_findKinds_210 (by decide) ?_
              exact g_locR rfl (ih (s + 1) nk hd ch fs K (by omega) (by omega) (hS.dead hlv))
        | true =>
          have hS2 := hS
          obtain ⟨p1, p2, p3, p4, B, hB⟩ := hS2
          have hsr := slotK_r (kO lives kind) next s
          obtain ⟨hb1, hb2, hb3⟩ := hB _ hsr.1 hsr.2
          have srch : ∀ (l : List Int) (h : Int), Lst ch h l → (∀ t, t ∈ l → 0 ≤ t ∧ t < K ∧ True) → (∀ k, 0 ≤ k → k < K → Alk (kO lives kind) next (fs k) s → k ∈ l) → G X 5 0 0 (wM X.Z a tape taped place thrown r_op no op r_arg arg many low high masks cur readLow readHigh group choice chain hasEmpty sset label next states r_stamp ns stamp r_stack stack stamps piled reading readings wher built hd ch isE lives kind nk fs K leads sideStates ends text textLong queue frm by_ ways before ++ wr) 115 [(0, .ref (a 0)), (1, vI kinds), (2, vI s), (3, vI (slotK (kO lives kind) next s)), (4, vI h)] [] := by
            intro l
            induction l with
            | nil =>
              intro h hl2 ht hm
              have hl2 : h = -1 := hl2
              subst hl2
              have hno : ∀ k, 0 ≤ k → k < K → ¬ Alk (kO lives kind) next (fs k) s := fun k k0 k1 ha => absurd (hm k k0 k1 ha) List.not_mem_nil
              refine g_iload C dX6_findKinds_115 rfl ?_
              refine g_iconst C dX6_findKinds_117 ?_
              refine g_icmp_eq C 148 dX6_findKinds_118 (by decide) (by omega) (fun h118 => ?_) (fun h118 => ?_)
              · refine g_iload C dX6_findKinds_148 rfl ?_
                refine g_iconst C dX6_findKinds_150 ?_
                refine g_icmp_ne C 199 dX6_findKinds_151 (by decide) (by omega) (fun h151 => ?_) (fun h151 => ?_)
                · exact absurd rfl h151
                · refine g_aload_n C dX6_findKinds_154 rfl ?_
                  refine gM_kinds C dX6_findKinds_155 ?_
                  refine g_istore C dX6_findKinds_158 (by decide) ?_
                  refine g_aload_n C dX6_findKinds_160 rfl ?_
                  refine gM_first C dX6_findKinds_161 ?_
                  refine g_iload C dX6_findKinds_164 rfl ?_
                  refine g_iload_n C dX6_findKinds_166 rfl ?_
                  refine sM_first C (by omega) dX6_findKinds_167 ?_
                  refine g_aload_n C dX6_findKinds_168 rfl ?_
                  refine gM_chained C dX6_findKinds_169 ?_
                  refine g_iload C dX6_findKinds_172 rfl ?_
                  refine g_aload_n C dX6_findKinds_174 rfl ?_
                  refine gM_heads C dX6_findKinds_175 ?_
                  refine g_iload_n C dX6_findKinds_178 rfl ?_
                  refine lM_heads C (by omega) dX6_findKinds_179 ?_
                  refine sM_chained C (by omega) dX6_findKinds_180 ?_
                  refine g_aload_n C dX6_findKinds_181 rfl ?_
                  refine gM_heads C dX6_findKinds_182 ?_
                  refine g_iload_n C dX6_findKinds_185 rfl ?_
                  refine g_iload C dX6_findKinds_186 rfl ?_
                  refine sM_heads C (by omega) dX6_findKinds_188 ?_
                  refine g_aload_n C dX6_findKinds_189 rfl ?_
                  refine g_dup C dX6_findKinds_190 rfl ?_
                  refine gM_kinds C dX6_findKinds_191 ?_
                  refine g_iconst C dX6_findKinds_194 ?_
                  refine g_iadd C dX6_findKinds_195 ?_
                  refine pM_kinds C dX6_findKinds_196 ?_
                  refine g_aload_n C dX6_findKinds_199 rfl ?_
                  refine gM_newKind C dX6_findKinds_200 ?_
                  refine g_iload_n C dX6_findKinds_203 rfl ?_
                  refine g_iload C dX6_findKinds_204 rfl ?_
                  refine sM_newKind C (by omega) dX6_findKinds_206 ?_
                  refine g_iinc C dX6_findKinds_207 rfl (by decide) ?_
                  refine g_goto C 81 dX6_findKinds_210 (by decide) ?_
                  exact g_locR rfl (ih (s + 1) _ _ _ _ _ (by omega) (by omega) (hS.new hlv s0 hno))
              · exact absurd rfl h118
            | cons x l ihl =>
              intro h hl2 ht hm
              obtain ⟨rfl, hx0, hl3⟩ := hl2
              have hxt := ht h (List.mem_cons_self ..)
              have hfs := p4 h hxt.1 hxt.2.1
              refine g_iload C dX6_findKinds_115 rfl ?_
              refine g_iconst C dX6_findKinds_117 ?_
              refine g_icmp_eq C 148 dX6_findKinds_118 (by decide) (by omega) (fun h118 => ?_) (fun h118 => ?_)
              · exact absurd h118 (by omega)
              · refine g_aload_n C dX6_findKinds_121 rfl ?_
                refine g_aload_n C dX6_findKinds_122 rfl ?_
                refine gM_first C dX6_findKinds_123 ?_
                refine g_iload C dX6_findKinds_126 rfl ?_
                refine lM_first C (by omega) dX6_findKinds_128 ?_
                refine g_iload_n C dX6_findKinds_129 rfl ?_
                refine g_cVWz C [_, _] _ 0 cal_X6_202 (cM_isAlike hc2 hmv hI.g_r hfs.1 (by omega) s0 (by omega) hfs.2.2.1 hlv) rfl rfl rfl rfl (Nat.le_of_ble_eq_true rfl) (room_b rfl) dX6_findKinds_130 (fun r130 w hw130 => ?_)
                obtain ⟨hr130, rfl⟩ := hw130
                refine g_if_ne C 148 dX6_findKinds_133 (by decide) (b2_r _) (fun h133 => ?_) (fun h133 => ?_)
                · have hy : Alk (kO lives kind) next (fs h) s := tr_iff.mp (by rw [← hr130]; exact (b2_ne0 _).mp h133)
                  refine g_iload C dX6_findKinds_148 rfl ?_
                  refine g_iconst C dX6_findKinds_150 ?_
                  refine g_icmp_ne C 199 dX6_findKinds_151 (by decide) (by omega) (fun h151 => ?_) (fun h151 => ?_)
                  · refine g_aload_n C dX6_findKinds_199 rfl ?_
                    refine gM_newKind C dX6_findKinds_200 ?_
                    refine g_iload_n C dX6_findKinds_203 rfl ?_
                    refine g_iload C dX6_findKinds_204 rfl ?_
                    refine sM_newKind C (by omega) dX6_findKinds_206 ?_
                    refine g_iinc C dX6_findKinds_207 rfl (by decide) ?_
                    refine g_goto C 81 dX6_findKinds_210 (by decide) ?_
                    exact g_locR rfl (ih (s + 1) _ _ _ _ _ (by omega) (by omega) (hS.old hlv hxt.1 hxt.2.1 hy))
                  · exact absurd h151 (by omega)
                · have hn : ¬ Alk (kO lives kind) next (fs h) s := fun e => by have e2 := tr_iff.mpr e; rw [← hr130, (b2_0 _).mp h133] at e2; exact absurd e2 (by decide)
                  refine g_aload_n C dX6_findKinds_136 rfl ?_
                  refine gM_chained C dX6_findKinds_137 ?_
                  refine g_iload C dX6_findKinds_140 rfl ?_
                  refine lM_chained C (by omega) dX6_findKinds_142 ?_
                  refine g_istore C dX6_findKinds_143 (by decide) ?_
                  refine g_goto C 115 dX6_findKinds_145 (by decide) ?_
                  exact g_locR rfl (ihl _ hl3 (fun t ht2 => ht t (List.mem_cons_of_mem _ ht2)) (fun k k0 k1 hka => by rcases List.mem_cons.mp (hm k k0 k1 hka) with e | e; exact absurd (e ▸ hka) hn; exact e))
          refine g_iload_n C dX6_findKinds_81 rfl ?_
          refine g_aload_n C dX6_findKinds_82 rfl ?_
          refine gM_states C dX6_findKinds_83 ?_
          refine g_icmp_ge C 213 dX6_findKinds_86 (by decide) (by omega) (fun h86 => ?_) (fun h86 => ?_)
          · exact absurd h86 (by omega)
          · refine g_aload_n C dX6_findKinds_89 rfl ?_
            refine gM_lives C dX6_findKinds_90 ?_
            refine g_iload_n C dX6_findKinds_93 rfl ?_
            refine lM_lives C (by omega) dX6_findKinds_94 ?_
            refine g_if_ne C 101 dX6_findKinds_95 (by decide) (b2_r _) (fun h95 => ?_) (fun h95 => ?_)
            · refine g_aload_n C dX6_findKinds_101 rfl ?_
              refine g_iload_n C dX6_findKinds_102 rfl ?_
              refine g_cVWi C [_] _ 0 cal_X6_196 (cM_mixtureOf hc2 hmv s0 (by omega) hlv) rfl rfl rfl rfl (Nat.le_of_ble_eq_true rfl) (room_b rfl) dX6_findKinds_103 (fun r103 w hw103 => ?_)
              obtain ⟨rfl, rfl⟩ := hw103
              refine g_istore_n C dX6_findKinds_106 (by decide) ?_
              refine g_aload_n C dX6_findKinds_107 rfl ?_
              refine gM_heads C dX6_findKinds_108 ?_
              refine g_iload_n C dX6_findKinds_111 rfl ?_
              refine lM_heads C (by omega) dX6_findKinds_112 ?_
              refine g_istore C dX6_findKinds_113 (by decide) ?_
              exact g_locR rfl (srch _ _ hb1 hb2 (fun k k0 k1 hka => hb3 k k0 k1 trivial (slotK_alk hka)))
            · exact absurd h95 (by rw [hlv]; decide)
    exact fun s nk hd ch fs K s0 s1 hS => lp (states - s).toNat s nk hd ch fs K s0 (by omega) hS
  have ent : ∀ (f : Nat) (kind : Int → Int) (kinds bef : Int) (nk hd ch fs : Int → Int), KdI states next (accB label) lives kind kinds → 0 ≤ kinds → kinds ≤ 401 → inR bef → bef ≠ kinds → (if kinds = 0 then (1 : Int) else 403 - kinds) ≤ (f : Int) → G X 5 0 0 (wM X.Z a tape taped place thrown r_op no op r_arg arg many low high masks cur readLow readHigh group choice chain hasEmpty sset label next states r_stamp ns stamp r_stack stack stamps piled reading readings wher built hd ch isE lives kind nk fs kinds leads sideStates ends text textLong queue frm by_ ways before ++ wr) 37 [(0, .ref (a 0)), (1, vI bef)] [] := by
    intro f
    induction f with
    | zero => intro kind kinds bef nk hd ch fs hI k0 k1 hb hn hf; (split at hf <;> omega)
    | succ f ih =>
      intro kind kinds bef nk hd ch fs hI k0 k1 hbr hn hf
      have clr : ∀ (g : Nat) (i : Int) (hd : Int → Int), 0 ≤ i → i + (g : Int) = 1024 → (∀ j, 0 ≤ j → j < i → hd j = -1) → G X 5 0 0 (wM X.Z a tape taped place thrown r_op no op r_arg arg many low high masks cur readLow readHigh group choice chain hasEmpty sset label next states r_stamp ns stamp r_stack stack stamps piled reading readings wher built hd ch isE lives kind nk fs kinds leads sideStates ends text textLong queue frm by_ ways before ++ wr) 52 [(0, .ref (a 0)), (1, vI kinds), (2, vI i)] [] := by
        intro g
        induction g with
        | zero =>
          intro i hd i0 hi h1
          refine g_iload_n C dX6_findKinds_52 rfl ?_
          refine g_aload_n C dX6_findKinds_53 rfl ?_
          refine gM_heads C dX6_findKinds_54 ?_
          refine nM_heads C dX6_findKinds_57 ?_
          refine g_icmp_ge C 74 dX6_findKinds_58 (by decide) (by omega) (fun h58 => ?_) (fun h58 => ?_)
          · refine g_aload_n C dX6_findKinds_74 rfl ?_
            refine g_iconst C dX6_findKinds_75 ?_
            refine pM_kinds C dX6_findKinds_76 ?_
            refine g_iconst C dX6_findKinds_79 ?_
            refine g_istore_n C dX6_findKinds_80 (by decide) ?_
            refine g_locR rfl (pass kind kinds hI k0 k1 (fun kind1 nk1 hd1 ch1 fs1 K1 hcp hS => ?_) 0 nk hd ch fs 0 (by decide) (by omega) ⟨by decide, fun t _ _ => by omega, fun t u _ _ => by omega, fun k _ _ => by omega, ChOk.new (fun j j0 j1 => h1 j j0 (by omega)) (fun t _ _ => by omega)⟩)
            have hon := kd_onto hl hS
            have hK := hS.1
            by_cases e : K1 = kinds
            · have hst := hI.stop hc2 hmv hl hS e
              have hx : G X 5 0 0 (wM X.Z a tape taped place thrown r_op no op r_arg arg many low high masks cur readLow readHigh group choice chain hasEmpty sset label next states r_stamp ns stamp r_stack stack stamps piled reading readings wher built hd1 ch1 isE lives kind1 nk1 fs1 K1 leads sideStates ends text textLong queue frm by_ ways before ++ wr) 244 [(0, .ref (a 0)), (1, vI kinds)] [] := g_vret C rfl ⟨rfl, kind1, nk1, hd1, ch1, fs1, K1, hst.1, hst.2, hK.1, by omega, rfl⟩ dX6_findKinds_244
              refine g_aload_n C dX6_findKinds_37 rfl ?_
              refine gM_kinds C dX6_findKinds_38 ?_
              refine g_iload_n C dX6_findKinds_41 rfl ?_
              exact g_icmp_eq C 244 dX6_findKinds_42 (by decide) (by omega) (fun _ => hx) (fun h => absurd e h)
            · have hm := hI.more hl hS e
              have hN := hI.next hc2 hmv hl hS
              have hN2 : KdI states next (accB label) lives kind1 K1 := ⟨fun s s0 s1 h => by rw [hcp s s0 s1]; exact hN.1 s s0 s1 h, fun s t s0 s1 t0 t1 => by rw [hcp s s0 s1, hcp t t0 t1]; exact hN.2.1 s t s0 s1 t0 t1, fun s t s0 s1 t0 t1 => by rw [hcp s s0 s1, hcp t t0 t1]; exact hN.2.2.1 s t s0 s1 t0 t1, Or.inr ⟨hon.1, fun s hs => by rw [hcp s hs.1 hs.2.1]; exact hon.2.1 s hs, fun y y0 y1 => by (obtain ⟨s, hs, he⟩ := hon.2.2 y y0 y1; exact ⟨s, hs, by rw [hcp s hs.1 hs.2.1]; exact he⟩)⟩⟩
              refine ih kind1 K1 kinds nk1 hd1 ch1 fs1 hN2 hK.1 (by omega) (by omega) (fun h => e h.symm) ?_
              by_cases e0 : kinds = 0
              · exfalso
                rcases hI.2.2.2 with h9 | h9
                · omega
                · have hp := hS.2.2.2.1 0 (by decide) (by omega)
                  have := h9.2.1 (fs1 0) ⟨hp.1, hp.2.1, tr_iff.mp (by rw [← hl _ hp.1 hp.2.1]; exact hp.2.2.1)⟩
                  omega
              · rw [if_neg e0] at hf
                by_cases e1 : K1 = 0
                · rw [if_pos e1]; omega
                · rw [if_neg e1]; omega
          · exact absurd h58 (by omega)
        | succ g ihg =>
          intro i hd i0 hi h1
          refine g_iload_n C dX6_findKinds_52 rfl ?_
          refine g_aload_n C dX6_findKinds_53 rfl ?_
          refine gM_heads C dX6_findKinds_54 ?_
          refine nM_heads C dX6_findKinds_57 ?_
          refine g_icmp_ge C 74 dX6_findKinds_58 (by decide) (by omega) (fun h58 => ?_) (fun h58 => ?_)
          · exact absurd h58 (by omega)
          · refine g_aload_n C dX6_findKinds_61 rfl ?_
            refine gM_heads C dX6_findKinds_62 ?_
            refine g_iload_n C dX6_findKinds_65 rfl ?_
            refine g_iconst C dX6_findKinds_66 ?_
            refine sM_heads C (by omega) dX6_findKinds_67 ?_
            refine g_iinc C dX6_findKinds_68 rfl (by decide) ?_
            refine g_goto C 52 dX6_findKinds_71 (by decide) ?_
            exact g_locR rfl (ihg (i + 1) _ (by omega) (by omega) (fun j j0 j1 => by by_cases e : j = i; (rw [e, up_same]); (rw [up_ne _ _ e]; exact h1 j j0 (by omega))))
      refine g_aload_n C dX6_findKinds_37 rfl ?_
      refine gM_kinds C dX6_findKinds_38 ?_
      refine g_iload_n C dX6_findKinds_41 rfl ?_
      refine g_icmp_eq C 244 dX6_findKinds_42 (by decide) (by omega) (fun h42 => ?_) (fun h42 => ?_)
      · exact absurd h42.symm hn
      · refine g_aload_n C dX6_findKinds_45 rfl ?_
        refine gM_kinds C dX6_findKinds_46 ?_
        refine g_istore_n C dX6_findKinds_49 (by decide) ?_
        refine g_iconst C dX6_findKinds_50 ?_
        refine g_istore_n C dX6_findKinds_51 (by decide) ?_
        exact g_locR rfl (clr 1024 0 hd (by decide) (by decide) (fun j j0 j1 => by omega))
  have ini : ∀ (f : Nat) (i : Int) (kind : Int → Int), 0 ≤ i → i + (f : Int) = states → (∀ t, 0 ≤ t → t < i → kind t = label t + 1) → G X 5 0 0 (wM X.Z a tape taped place thrown r_op no op r_arg arg many low high masks cur readLow readHigh group choice chain hasEmpty sset label next states r_stamp ns stamp r_stack stack stamps piled reading readings wher built heads chained isE lives kind newKind first kinds leads sideStates ends text textLong queue frm by_ ways before ++ wr) 2 [(0, .ref (a 0)), (1, vI i)] [] := by
    intro f
    induction f with
    | zero =>
      intro i kind i0 hi h1
      have hI : KdI states next (accB label) lives kind 1 := ⟨fun s s0 s1 _ => by rw [h1 s s0 (by omega)]; have := hac s s0 s1; omega, fun s t s0 s1 t0 t1 _ _ he => by (have ha := he.acc; unfold accB at ha; have p := hac s s0 s1; have q := hac t t0 t1; rw [h1 s s0 (by omega), h1 t t0 (by omega)]; by_cases e : 0 ≤ label s; (rw [decide_eq_true e] at ha; have := of_decide_eq_true ha.symm; omega); (rw [decide_eq_false e] at ha; have := of_decide_eq_false ha.symm; omega)), fun s t s0 s1 t0 t1 _ _ he => by (rw [h1 s s0 (by omega), h1 t t0 (by omega)] at he; unfold accB; rw [show label s = label t by omega]), Or.inl rfl⟩
      refine g_iload_n C dX6_findKinds_2 rfl ?_
      refine g_aload_n C dX6_findKinds_3 rfl ?_
      refine gM_states C dX6_findKinds_4 ?_
      refine g_icmp_ge C 30 dX6_findKinds_7 (by decide) (by omega) (fun h7 => ?_) (fun h7 => ?_)
      · refine g_iconst C dX6_findKinds_30 ?_
        refine g_istore_n C dX6_findKinds_31 (by decide) ?_
        refine g_aload_n C dX6_findKinds_32 rfl ?_
        refine g_iconst C dX6_findKinds_33 ?_
        refine pM_kinds C dX6_findKinds_34 ?_
        exact g_locR rfl (ent 402 kind 1 0 _ _ _ _ hI (by decide) (by decide) (by decide) (by decide) (by decide))
      · exact absurd h7 (by omega)
    | succ f ih =>
      intro i kind i0 hi h1
      refine g_iload_n C dX6_findKinds_2 rfl ?_
      refine g_aload_n C dX6_findKinds_3 rfl ?_
      refine gM_states C dX6_findKinds_4 ?_
      refine g_icmp_ge C 30 dX6_findKinds_7 (by decide) (by omega) (fun h7 => ?_) (fun h7 => ?_)
      · exact absurd h7 (by omega)
      · refine g_aload_n C dX6_findKinds_10 rfl ?_
        refine gM_kind C dX6_findKinds_11 ?_
        refine g_iload_n C dX6_findKinds_14 rfl ?_
        refine g_aload_n C dX6_findKinds_15 rfl ?_
        refine gM_label C dX6_findKinds_16 ?_
        refine g_iload_n C dX6_findKinds_19 rfl ?_
        refine lM_label C (by omega) dX6_findKinds_20 ?_
        refine g_iconst C dX6_findKinds_21 ?_
        refine g_iadd C dX6_findKinds_22 ?_
        refine sM_kind C (by omega) dX6_findKinds_23 ?_
        refine g_iinc C dX6_findKinds_24 rfl (by decide) ?_
        refine g_goto C 2 dX6_findKinds_27 (by decide) ?_
        exact g_locR rfl (ih (i + 1) _ (by omega) (by omega) (fun t t0 t1 => by by_cases e : t = i; (rw [e, up_same]); (rw [up_ne _ _ e]; exact h1 t t0 (by omega))))
  refine g_iconst C dX6_findKinds_0 ?_
  refine g_istore_n C dX6_findKinds_1 (by decide) ?_
  exact g_locR rfl (ini states.toNat 0 kind (by decide) (by omega) (fun t t0 t1 => by omega))
