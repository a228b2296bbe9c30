/-! rows: one instruction each, over G -/
/-- a local by its number -/
def lk (L : List (Nat × Value)) (i : Nat) : Option Value := match L with
  | [] => none
  | q :: r => bif q.1 == i then some q.2 else lk r i
theorem lk_mem {L : List (Nat × Value)} {i : Nat} {v : Value} (h : lk L i = some v) : (i, v) ∈ L := by
  induction L with
  | nil => cases h
  | cons q r ih =>
    unfold lk at h
    cases e : q.1 == i with
    | true =>
      rw [e] at h
      have h1 : q.1 = i := by simpa using e
      have h2 : q.2 = v := Option.some.inj h
      exact List.mem_cons.mpr (Or.inl (by rw [← h1, ← h2]))
    | false =>
      rw [e] at h
      exact List.mem_cons_of_mem _ (ih h)
theorem lk_at {ls : Array Slot} {nL : Nat} {L : List (Nat × Value)} (h : lv_has ls nL L) {i : Nat} {v : Value} (hk : lk L i = some v) : ls[i]? = some (.val v) := h.2.2 (i, v) (lk_mem hk)
def st1 (L : List (Nat × Value)) (i : Nat) (v : Value) : List (Nat × Value) := (i, v) :: L.filter (fun q => !(q.1 == i) && !(q.1 + 1 == i && q.2.category == 2))
def st2 (L : List (Nat × Value)) (i : Nat) (v : Value) : List (Nat × Value) := (i, v) :: L.filter (fun q => !(q.1 == i) && (!(q.1 == i + 1) && !(q.1 + 1 == i && q.2.category == 2)))
theorem re_fm {α : Type} {js : List Nat} {ws ws' : List α} (hs : js.map (fun i => ws[i]?) = ws'.map some) : js.filterMap (fun i => ws[i]?) = ws' := by
  have h1 : js.filterMap (fun i => ws[i]?) = (js.map (fun i => ws[i]?)).filterMap id := by rw [List.filterMap_map]; rfl
  rw [h1, hs, List.filterMap_map]
  exact List.filterMap_some
section ROWS
variable {X : Cx} {cc : ByteArray} {nL : Nat} {own : String} {E : Ek} {k n pc : Nat} {ws : va_W} {L : List (Nat × Value)} {st : List Value}
theorem g_iconst (C : Ok X cc nL own E) {z : Int} (hd : decode cc pc = .ok (.iconst z, 1)) (h : G X nL k n ws (pc + 1) L (vI z :: st)) : G X nL k n ws pc L st :=
  fun H locs ls hP hD hS hl => lv_iconst (v := iI z) C.x C.b hd rfl (h H locs ls hP hD hS hl)
theorem g_bipush (C : Ok X cc nL own E) {z : Int} (hd : decode cc pc = .ok (.bipush z, 2)) (hz : (Int8.ofInt z).toInt32 = iI z) (h : G X nL k n ws (pc + 2) L (vI z :: st)) : G X nL k n ws pc L st :=
  fun H locs ls hP hD hS hl => lv_bipush (v := iI z) C.x C.b hd hz (h H locs ls hP hD hS hl)
theorem g_sipush (C : Ok X cc nL own E) {z : Int} (hd : decode cc pc = .ok (.sipush z, 3)) (hz : (Int16.ofInt z).toInt32 = iI z) (h : G X nL k n ws (pc + 3) L (vI z :: st)) : G X nL k n ws pc L st :=
  fun H locs ls hP hD hS hl => lv_sipush (v := iI z) C.x C.b hd hz (h H locs ls hP hD hS hl)
theorem g_ldc (C : Ok X cc nL own E) (z : Int) {ix : Nat} {v : Int32} (hw : Cond.constant own ix v ∈ lw_all) (hz : v = iI z) (hd : decode cc pc = .ok (.ldc ix, 2)) (h : G X nL k n ws (pc + 2) L (vI z :: st)) : G X nL k n ws pc L st :=
  fun H locs ls hP hD hS hl => lv_ldc (v := v) C.x C.b C.own (C.ts _ hw) hd (by rw [hz]; exact (h H locs ls hP hD hS hl))
theorem g_ldcw (C : Ok X cc nL own E) (z : Int) {ix : Nat} {v : Int32} (hw : Cond.constant own ix v ∈ lw_all) (hz : v = iI z) (hd : decode cc pc = .ok (.ldc_w ix, 3)) (h : G X nL k n ws (pc + 3) L (vI z :: st)) : G X nL k n ws pc L st :=
  fun H locs ls hP hD hS hl => lv_ldcw (v := v) C.x C.b C.own (C.ts _ hw) hd (by rw [hz]; exact (h H locs ls hP hD hS hl))
theorem g_ldc2 (C : Ok X cc nL own E) {ix : Nat} {v : Int64} (hw : Cond.constantLong own ix v ∈ lw_all) (hd : decode cc pc = .ok (.ldc2_w ix, 3)) (h : G X nL k n ws (pc + 3) L (.long v :: st)) : G X nL k n ws pc L st :=
  fun H locs ls hP hD hS hl => lv_ldc2 (v := v) C.x C.b C.own (C.ts _ hw) hd (h H locs ls hP hD hS hl)
theorem g_lconst (C : Ok X cc nL own E) {z : Fin 2} (v : Int64) (hd : decode cc pc = .ok (.lconst z, 1)) (hv : Int64.ofNat (z : Nat) = v) (h : G X nL k n ws (pc + 1) L (.long v :: st)) : G X nL k n ws pc L st :=
  fun H locs ls hP hD hS hl => lv_lconst (v := v) C.x C.b hd hv (h H locs ls hP hD hS hl)
theorem g_null (C : Ok X cc nL own E) (hd : decode cc pc = .ok (.aconst_null, 1)) (h : G X nL k n ws (pc + 1) L (.null :: st)) : G X nL k n ws pc L st :=
  fun H locs ls hP hD hS hl => lv_null C.x C.b hd (h H locs ls hP hD hS hl)
theorem g_iload_n (C : Ok X cc nL own E) {i : Fin 4} {x : Int32} (hd : decode cc pc = .ok (.iload_n i, 1)) (hk : lk L i = some (.int x)) (h : G X nL k n ws (pc + 1) L (.int x :: st)) : G X nL k n ws pc L st :=
  fun H locs ls hP hD hS hl => lv_iload_n (i := i) C.x C.b hd rfl (lk_at hl hk) (h H locs ls hP hD hS hl)
theorem g_iload (C : Ok X cc nL own E) {i : Nat} {x : Int32} (hd : decode cc pc = .ok (.iload i, 2)) (hk : lk L i = some (.int x)) (h : G X nL k n ws (pc + 2) L (.int x :: st)) : G X nL k n ws pc L st :=
  fun H locs ls hP hD hS hl => lv_iload (i := i) C.x C.b hd (lk_at hl hk) (h H locs ls hP hD hS hl)
theorem g_lload_n (C : Ok X cc nL own E) {i : Fin 4} {x : Int64} (hd : decode cc pc = .ok (.lload_n i, 1)) (hk : lk L i = some (.long x)) (h : G X nL k n ws (pc + 1) L (.long x :: st)) : G X nL k n ws pc L st :=
  fun H locs ls hP hD hS hl => lv_lload_n (i := i) C.x C.b hd rfl (lk_at hl hk) (h H locs ls hP hD hS hl)
theorem g_lload (C : Ok X cc nL own E) {i : Nat} {x : Int64} (hd : decode cc pc = .ok (.lload i, 2)) (hk : lk L i = some (.long x)) (h : G X nL k n ws (pc + 2) L (.long x :: st)) : G X nL k n ws pc L st :=
  fun H locs ls hP hD hS hl => lv_lload (i := i) C.x C.b hd (lk_at hl hk) (h H locs ls hP hD hS hl)
theorem g_aload_n (C : Ok X cc nL own E) {i : Fin 4} {x : Nat} (hd : decode cc pc = .ok (.aload_n i, 1)) (hk : lk L i = some (.ref x)) (h : G X nL k n ws (pc + 1) L (.ref x :: st)) : G X nL k n ws pc L st :=
  fun H locs ls hP hD hS hl => lv_aload_n (i := i) C.x C.b hd rfl (lk_at hl hk) (h H locs ls hP hD hS hl)
theorem g_aload (C : Ok X cc nL own E) {i : Nat} {x : Nat} (hd : decode cc pc = .ok (.aload i, 2)) (hk : lk L i = some (.ref x)) (h : G X nL k n ws (pc + 2) L (.ref x :: st)) : G X nL k n ws pc L st :=
  fun H locs ls hP hD hS hl => lv_aload (i := i) C.x C.b hd (lk_at hl hk) (h H locs ls hP hD hS hl)
theorem g_aload_nN (C : Ok X cc nL own E) {i : Fin 4} (hd : decode cc pc = .ok (.aload_n i, 1)) (hk : lk L i = some .null) (h : G X nL k n ws (pc + 1) L (.null :: st)) : G X nL k n ws pc L st :=
  fun H locs ls hP hD hS hl => lv_aload_nN (i := i) C.x C.b hd rfl (lk_at hl hk) (h H locs ls hP hD hS hl)
theorem g_istore_n (C : Ok X cc nL own E) {i : Fin 4} {x : Int32} (hd : decode cc pc = .ok (.istore_n i, 1)) (hn : (i : Nat) < nL) (h : G X nL k n ws (pc + 1) (st1 L i (.int x)) st) : G X nL k n ws pc L (.int x :: st) :=
  fun H locs ls hP hD hS hl => lv_istore_n C.x C.b hd rfl hl hn rfl (fun ls hl => (h H locs ls hP hD hS hl))
theorem g_istore (C : Ok X cc nL own E) {i : Nat} {x : Int32} (hd : decode cc pc = .ok (.istore i, 2)) (hn : i < nL) (h : G X nL k n ws (pc + 2) (st1 L i (.int x)) st) : G X nL k n ws pc L (.int x :: st) :=
  fun H locs ls hP hD hS hl => lv_istore C.x C.b hd hl hn rfl (fun ls hl => (h H locs ls hP hD hS hl))
theorem g_lstore_n (C : Ok X cc nL own E) {i : Fin 4} {x : Int64} (hd : decode cc pc = .ok (.lstore_n i, 1)) (hn : (i : Nat) + 1 < nL) (h : G X nL k n ws (pc + 1) (st2 L i (.long x)) st) : G X nL k n ws pc L (.long x :: st) :=
  fun H locs ls hP hD hS hl => lv_lstore_n C.x C.b hd rfl hl hn rfl (fun ls hl => (h H locs ls hP hD hS hl))
theorem g_lstore (C : Ok X cc nL own E) {i : Nat} {x : Int64} (hd : decode cc pc = .ok (.lstore i, 2)) (hn : i + 1 < nL) (h : G X nL k n ws (pc + 2) (st2 L i (.long x)) st) : G X nL k n ws pc L (.long x :: st) :=
  fun H locs ls hP hD hS hl => lv_lstore C.x C.b hd hl hn rfl (fun ls hl => (h H locs ls hP hD hS hl))
theorem g_astore_n (C : Ok X cc nL own E) {i : Fin 4} {x : Nat} (hd : decode cc pc = .ok (.astore_n i, 1)) (hn : (i : Nat) < nL) (h : G X nL k n ws (pc + 1) (st1 L i (.ref x)) st) : G X nL k n ws pc L (.ref x :: st) :=
  fun H locs ls hP hD hS hl => lv_astore_n C.x C.b hd rfl hl hn rfl (fun ls hl => (h H locs ls hP hD hS hl))
theorem g_astore (C : Ok X cc nL own E) {i : Nat} {x : Nat} (hd : decode cc pc = .ok (.astore i, 2)) (hn : i < nL) (h : G X nL k n ws (pc + 2) (st1 L i (.ref x)) st) : G X nL k n ws pc L (.ref x :: st) :=
  fun H locs ls hP hD hS hl => lv_astore C.x C.b hd hl hn rfl (fun ls hl => (h H locs ls hP hD hS hl))
theorem g_iinc (C : Ok X cc nL own E) {i : Nat} {z x : Int} (hd : decode cc pc = .ok (.iinc i z, 3)) (hk : lk L i = some (vI x)) (hn : i < nL) (h : G X nL k n ws (pc + 3) (st1 L i (vI (x + z))) st) : G X nL k n ws pc L st := by
  intro H locs ls hP hD hS hl
  obtain ⟨j, hj⟩ := List.getElem?_of_mem (lk_mem hk)
  exact lv_iinc (v := iI (x + z)) C.x C.b hd hl (k := j) hj (iI_add x z) hn rfl (fun ls hl => h H locs ls hP hD hS hl)
theorem g_iadd (C : Ok X cc nL own E) {a b : Int} (hd : decode cc pc = .ok (.iadd, 1)) (h : G X nL k n ws (pc + 1) L (vI (a + b) :: st)) : G X nL k n ws pc L (vI b :: vI a :: st) :=
  fun H locs ls hP hD hS hl => lv_iadd C.x C.b hd (by rw [iI_add]; exact (h H locs ls hP hD hS hl))
theorem g_isub (C : Ok X cc nL own E) {a b : Int} (hd : decode cc pc = .ok (.isub, 1)) (h : G X nL k n ws (pc + 1) L (vI (a - b) :: st)) : G X nL k n ws pc L (vI b :: vI a :: st) :=
  fun H locs ls hP hD hS hl => lv_isub C.x C.b hd (by rw [iI_sub]; exact (h H locs ls hP hD hS hl))
theorem g_imul (C : Ok X cc nL own E) {a b : Int} (hd : decode cc pc = .ok (.imul, 1)) (h : G X nL k n ws (pc + 1) L (vI (a * b) :: st)) : G X nL k n ws pc L (vI b :: vI a :: st) :=
  fun H locs ls hP hD hS hl => lv_imul C.x C.b hd (by rw [iI_mul]; exact (h H locs ls hP hD hS hl))
theorem g_ineg (C : Ok X cc nL own E) {a : Int} (hd : decode cc pc = .ok (.ineg, 1)) (h : G X nL k n ws (pc + 1) L (vI (-a) :: st)) : G X nL k n ws pc L (vI a :: st) :=
  fun H locs ls hP hD hS hl => lv_ineg C.x C.b hd (by rw [iI_neg]; exact (h H locs ls hP hD hS hl))
theorem g_idiv (C : Ok X cc nL own E) {a b : Int} (hd : decode cc pc = .ok (.idiv, 1)) (hc : 0 ≤ a ∧ 0 < b ∧ a < 2147483648 ∧ b < 2147483648) (h : G X nL k n ws (pc + 1) L (vI (a / b) :: st)) : G X nL k n ws pc L (vI b :: vI a :: st) :=
  fun H locs ls hP hD hS hl => lv_idiv C.x C.b hd (iI_ne0 hc.2.1 hc.2.2.2) (by rw [iI_div hc.1 hc.2.1 hc.2.2.1 hc.2.2.2]; exact (h H locs ls hP hD hS hl))
theorem g_irem (C : Ok X cc nL own E) {a b : Int} (hd : decode cc pc = .ok (.irem, 1)) (hc : 0 ≤ a ∧ 0 < b ∧ a < 2147483648 ∧ b < 2147483648) (h : G X nL k n ws (pc + 1) L (vI (a % b) :: st)) : G X nL k n ws pc L (vI b :: vI a :: st) :=
  fun H locs ls hP hD hS hl => lv_irem C.x C.b hd (iI_ne0 hc.2.1 hc.2.2.2) (by rw [iI_rem hc.1 hc.2.1 hc.2.2.1 hc.2.2.2]; exact (h H locs ls hP hD hS hl))
theorem g_iand (C : Ok X cc nL own E) {a b : Int} (hd : decode cc pc = .ok (.iand, 1)) (h : G X nL k n ws (pc + 1) L (vI (iand a b) :: st)) : G X nL k n ws pc L (vI b :: vI a :: st) :=
  fun H locs ls hP hD hS hl => lv_iand C.x C.b hd (by have h9 := h; unfold iand at h9; rw [vI, iI_self] at h9; exact h9 H locs ls hP hD hS hl)
theorem g_ior (C : Ok X cc nL own E) {a b : Int} (hd : decode cc pc = .ok (.ior, 1)) (h : G X nL k n ws (pc + 1) L (vI (ior a b) :: st)) : G X nL k n ws pc L (vI b :: vI a :: st) :=
  fun H locs ls hP hD hS hl => lv_ior C.x C.b hd (by have h9 := h; unfold ior at h9; rw [vI, iI_self] at h9; exact h9 H locs ls hP hD hS hl)
theorem g_ixor (C : Ok X cc nL own E) {a b : Int} (hd : decode cc pc = .ok (.ixor, 1)) (h : G X nL k n ws (pc + 1) L (vI (ixor a b) :: st)) : G X nL k n ws pc L (vI b :: vI a :: st) :=
  fun H locs ls hP hD hS hl => lv_ixor C.x C.b hd (by have h9 := h; unfold ixor at h9; rw [vI, iI_self] at h9; exact h9 H locs ls hP hD hS hl)
theorem g_ishl (C : Ok X cc nL own E) {a b : Int} (hd : decode cc pc = .ok (.ishl, 1)) (h : G X nL k n ws (pc + 1) L (vI (ishl a b) :: st)) : G X nL k n ws pc L (vI b :: vI a :: st) :=
  fun H locs ls hP hD hS hl => lv_ishl C.x C.b hd (by have h9 := h; unfold ishl at h9; rw [vI, iI_self] at h9; exact h9 H locs ls hP hD hS hl)
theorem g_ishr (C : Ok X cc nL own E) {a b : Int} (hd : decode cc pc = .ok (.ishr, 1)) (h : G X nL k n ws (pc + 1) L (vI (ishr a b) :: st)) : G X nL k n ws pc L (vI b :: vI a :: st) :=
  fun H locs ls hP hD hS hl => lv_ishr C.x C.b hd (by have h9 := h; unfold ishr at h9; rw [vI, iI_self] at h9; exact h9 H locs ls hP hD hS hl)
theorem g_iushr (C : Ok X cc nL own E) {a b : Int} (hd : decode cc pc = .ok (.iushr, 1)) (h : G X nL k n ws (pc + 1) L (vI (iushr a b) :: st)) : G X nL k n ws pc L (vI b :: vI a :: st) :=
  fun H locs ls hP hD hS hl => lv_iushr (v := iI (iushr a b)) C.x C.b hd (by unfold iushr; rw [iI_self]) (h H locs ls hP hD hS hl)
theorem g_i2b (C : Ok X cc nL own E) {a : Int} (hd : decode cc pc = .ok (.i2b, 1)) (h : G X nL k n ws (pc + 1) L (vI (i2b a) :: st)) : G X nL k n ws pc L (vI a :: st) :=
  fun H locs ls hP hD hS hl => lv_i2b (v := iI (i2b a)) C.x C.b hd (by unfold i2b; rw [iI_self]) (h H locs ls hP hD hS hl)
theorem g_i2l (C : Ok X cc nL own E) {a : Int} (hd : decode cc pc = .ok (.i2l, 1)) (h : G X nL k n ws (pc + 1) L (.long (i2l a) :: st)) : G X nL k n ws pc L (vI a :: st) :=
  fun H locs ls hP hD hS hl => lv_i2l (v := i2l a) C.x C.b hd rfl (h H locs ls hP hD hS hl)
theorem g_l2i (C : Ok X cc nL own E) {x : Int64} (hd : decode cc pc = .ok (.l2i, 1)) (h : G X nL k n ws (pc + 1) L (vI (l2i x) :: st)) : G X nL k n ws pc L (.long x :: st) :=
  fun H locs ls hP hD hS hl => lv_l2i (v := iI (l2i x)) C.x C.b hd (by unfold l2i; rw [iI_self]) (h H locs ls hP hD hS hl)
theorem g_ladd (C : Ok X cc nL own E) {x y : Int64} (hd : decode cc pc = .ok (.ladd, 1)) (h : G X nL k n ws (pc + 1) L (.long (x + y) :: st)) : G X nL k n ws pc L (.long y :: .long x :: st) :=
  fun H locs ls hP hD hS hl => lv_ladd C.x C.b hd (h H locs ls hP hD hS hl)
theorem g_lsub (C : Ok X cc nL own E) {x y : Int64} (hd : decode cc pc = .ok (.lsub, 1)) (h : G X nL k n ws (pc + 1) L (.long (x - y) :: st)) : G X nL k n ws pc L (.long y :: .long x :: st) :=
  fun H locs ls hP hD hS hl => lv_lsub C.x C.b hd (h H locs ls hP hD hS hl)
theorem g_lmul (C : Ok X cc nL own E) {x y : Int64} (hd : decode cc pc = .ok (.lmul, 1)) (h : G X nL k n ws (pc + 1) L (.long (x * y) :: st)) : G X nL k n ws pc L (.long y :: .long x :: st) :=
  fun H locs ls hP hD hS hl => lv_lmul C.x C.b hd (h H locs ls hP hD hS hl)
theorem g_land (C : Ok X cc nL own E) {x y : Int64} (hd : decode cc pc = .ok (.land, 1)) (h : G X nL k n ws (pc + 1) L (.long (x &&& y) :: st)) : G X nL k n ws pc L (.long y :: .long x :: st) :=
  fun H locs ls hP hD hS hl => lv_land C.x C.b hd (h H locs ls hP hD hS hl)
theorem g_lor (C : Ok X cc nL own E) {x y : Int64} (hd : decode cc pc = .ok (.lor, 1)) (h : G X nL k n ws (pc + 1) L (.long (x ||| y) :: st)) : G X nL k n ws pc L (.long y :: .long x :: st) :=
  fun H locs ls hP hD hS hl => lv_lor C.x C.b hd (h H locs ls hP hD hS hl)
theorem g_lxor (C : Ok X cc nL own E) {x y : Int64} (hd : decode cc pc = .ok (.lxor, 1)) (h : G X nL k n ws (pc + 1) L (.long (x ^^^ y) :: st)) : G X nL k n ws pc L (.long y :: .long x :: st) :=
  fun H locs ls hP hD hS hl => lv_lxor C.x C.b hd (h H locs ls hP hD hS hl)
theorem g_lshl (C : Ok X cc nL own E) {x : Int64} {b : Int} (hd : decode cc pc = .ok (.lshl, 1)) (h : G X nL k n ws (pc + 1) L (.long (lshl x b) :: st)) : G X nL k n ws pc L (vI b :: .long x :: st) :=
  fun H locs ls hP hD hS hl => lv_lshl (v := lshl x b) C.x C.b hd rfl (h H locs ls hP hD hS hl)
theorem g_lshr (C : Ok X cc nL own E) {x : Int64} {b : Int} (hd : decode cc pc = .ok (.lshr, 1)) (h : G X nL k n ws (pc + 1) L (.long (lshr x b) :: st)) : G X nL k n ws pc L (vI b :: .long x :: st) :=
  fun H locs ls hP hD hS hl => lv_lshr (v := lshr x b) C.x C.b hd rfl (h H locs ls hP hD hS hl)
theorem g_lushr (C : Ok X cc nL own E) {x : Int64} {b : Int} (hd : decode cc pc = .ok (.lushr, 1)) (h : G X nL k n ws (pc + 1) L (.long (lushr x b) :: st)) : G X nL k n ws pc L (vI b :: .long x :: st) :=
  fun H locs ls hP hD hS hl => lv_lushr (v := lushr x b) C.x C.b hd rfl (h H locs ls hP hD hS hl)
theorem g_lcmp (C : Ok X cc nL own E) {x y : Int64} (hd : decode cc pc = .ok (.lcmp, 1)) (h : G X nL k n ws (pc + 1) L (vI (lg_cmp x y).toInt :: st)) : G X nL k n ws pc L (.long y :: .long x :: st) :=
  fun H locs ls hP hD hS hl => W.lcmp C.x C.b hd (by have h9 := h; rw [vI, iI_self] at h9; exact h9 H locs ls hP hD hS hl)
theorem g_dup (C : Ok X cc nL own E) {v : Value} (hd : decode cc pc = .ok (.dup, 1)) (hv : v.category = 1) (h : G X nL k n ws (pc + 1) L (v :: v :: st)) : G X nL k n ws pc L (v :: st) :=
  fun H locs ls hP hD hS hl => lv_dup C.x C.b hd hv (h H locs ls hP hD hS hl)
theorem g_pop (C : Ok X cc nL own E) {v : Value} (hd : decode cc pc = .ok (.pop, 1)) (hv : v.category = 1) (h : G X nL k n ws (pc + 1) L st) : G X nL k n ws pc L (v :: st) :=
  fun H locs ls hP hD hS hl => lv_pop C.x C.b hd hv (h H locs ls hP hD hS hl)
theorem g_dup_x1 (C : Ok X cc nL own E) {v w : Value} (hd : decode cc pc = .ok (.dup_x1, 1)) (hv : v.category = 1) (hw : w.category = 1) (h : G X nL k n ws (pc + 1) L (v :: w :: v :: st)) : G X nL k n ws pc L (v :: w :: st) :=
  fun H locs ls hP hD hS hl => lv_dup_x1 C.x C.b hd hv hw (h H locs ls hP hD hS hl)
theorem g_dup_x2 (C : Ok X cc nL own E) {v w u : Value} (hd : decode cc pc = .ok (.dup_x2, 1)) (hv : v.category = 1) (hw : w.category = 1) (hu : u.category = 1) (h : G X nL k n ws (pc + 1) L (v :: w :: u :: v :: st)) : G X nL k n ws pc L (v :: w :: u :: st) :=
  fun H locs ls hP hD hS hl => lv_dup_x2 C.x C.b hd hv hw hu (h H locs ls hP hD hS hl)
theorem g_dup2_11 (C : Ok X cc nL own E) {v w : Value} (hd : decode cc pc = .ok (.dup2, 1)) (hv : v.category = 1) (hw : w.category = 1) (h : G X nL k n ws (pc + 1) L (v :: w :: v :: w :: st)) : G X nL k n ws pc L (v :: w :: st) :=
  fun H locs ls hP hD hS hl => lv_dup2_11 C.x C.b hd hv hw (h H locs ls hP hD hS hl)
theorem g_dup2_2 (C : Ok X cc nL own E) {v : Value} (hd : decode cc pc = .ok (.dup2, 1)) (hv : v.category = 2) (h : G X nL k n ws (pc + 1) L (v :: v :: st)) : G X nL k n ws pc L (v :: st) :=
  fun H locs ls hP hD hS hl => lv_dup2_2 C.x C.b hd hv (h H locs ls hP hD hS hl)
theorem g_dup2_x1_2 (C : Ok X cc nL own E) {v w : Value} (hd : decode cc pc = .ok (.dup2_x1, 1)) (hv : v.category = 2) (hw : w.category = 1) (h : G X nL k n ws (pc + 1) L (v :: w :: v :: st)) : G X nL k n ws pc L (v :: w :: st) :=
  fun H locs ls hP hD hS hl => lv_dup2_x1_2 C.x C.b hd hv hw (h H locs ls hP hD hS hl)
theorem g_pop2_2 (C : Ok X cc nL own E) {v : Value} (hd : decode cc pc = .ok (.pop2, 1)) (hv : v.category = 2) (h : G X nL k n ws (pc + 1) L st) : G X nL k n ws pc L (v :: st) :=
  fun H locs ls hP hD hS hl => lv_pop2_2 C.x C.b hd hv (h H locs ls hP hD hS hl)
theorem g_goto (C : Ok X cc nL own E) {off : Int} (tgt : Nat) (hd : decode cc pc = .ok (.goto off, 3)) (ht : (pc : Int) + off = (tgt : Int)) (h : G X nL k n ws tgt L st) : G X nL k n ws pc L st :=
  fun H locs ls hP hD hS hl => lv_goto C.x C.b hd ht (h H locs ls hP hD hS hl)
theorem g_icmp_eq (C : Ok X cc nL own E) {a b : Int} {off : Int} (tgt : Nat) (hd : decode cc pc = .ok (.if_icmp .eq off, 3)) (ht : (pc : Int) + off = (tgt : Int)) (hr : inR2 a b) (kt : a = b → G X nL k n ws tgt L st) (kf : a ≠ b → G X nL k n ws (pc + 3) L st) : G X nL k n ws pc L (vI b :: vI a :: st) :=
  fun H locs ls hP hD hS hl => lv_icmp_eq C.x C.b hd ht (fun q => kt ((iI_eq hr).mp q) H locs ls hP hD hS hl) (fun q => kf (fun e => q ((iI_eq hr).mpr e)) H locs ls hP hD hS hl)
theorem g_if_eq (C : Ok X cc nL own E) {a : Int} {off : Int} (tgt : Nat) (hd : decode cc pc = .ok (.ifCond .eq off, 3)) (ht : (pc : Int) + off = (tgt : Int)) (hr : inR a) (kt : a = 0 → G X nL k n ws tgt L st) (kf : a ≠ 0 → G X nL k n ws (pc + 3) L st) : G X nL k n ws pc L (vI a :: st) :=
  fun H locs ls hP hD hS hl => lv_if_eq C.x C.b hd ht (fun q => kt ((iI_eq (inR_0 hr)).mp q) H locs ls hP hD hS hl) (fun q => kf (fun e => q ((iI_eq (inR_0 hr)).mpr e)) H locs ls hP hD hS hl)
theorem g_icmp_ne (C : Ok X cc nL own E) {a b : Int} {off : Int} (tgt : Nat) (hd : decode cc pc = .ok (.if_icmp .ne off, 3)) (ht : (pc : Int) + off = (tgt : Int)) (hr : inR2 a b) (kt : a ≠ b → G X nL k n ws tgt L st) (kf : a = b → G X nL k n ws (pc + 3) L st) : G X nL k n ws pc L (vI b :: vI a :: st) :=
  fun H locs ls hP hD hS hl => lv_icmp_ne C.x C.b hd ht (fun q => kt (fun e => q ((iI_eq hr).mpr e)) H locs ls hP hD hS hl) (fun q => kf ((iI_eq hr).mp q) H locs ls hP hD hS hl)
theorem g_if_ne (C : Ok X cc nL own E) {a : Int} {off : Int} (tgt : Nat) (hd : decode cc pc = .ok (.ifCond .ne off, 3)) (ht : (pc : Int) + off = (tgt : Int)) (hr : inR a) (kt : a ≠ 0 → G X nL k n ws tgt L st) (kf : a = 0 → G X nL k n ws (pc + 3) L st) : G X nL k n ws pc L (vI a :: st) :=
  fun H locs ls hP hD hS hl => lv_if_ne C.x C.b hd ht (fun q => kt (fun e => q ((iI_eq (inR_0 hr)).mpr e)) H locs ls hP hD hS hl) (fun q => kf ((iI_eq (inR_0 hr)).mp q) H locs ls hP hD hS hl)
theorem g_icmp_lt (C : Ok X cc nL own E) {a b : Int} {off : Int} (tgt : Nat) (hd : decode cc pc = .ok (.if_icmp .lt off, 3)) (ht : (pc : Int) + off = (tgt : Int)) (hr : inR2 a b) (kt : a < b → G X nL k n ws tgt L st) (kf : b ≤ a → G X nL k n ws (pc + 3) L st) : G X nL k n ws pc L (vI b :: vI a :: st) :=
  fun H locs ls hP hD hS hl => lv_icmp_lt C.x C.b hd ht (fun q => kt ((iI_lt hr).mp q) H locs ls hP hD hS hl) (fun q => kf (Int.not_lt.mp (fun e => q ((iI_lt hr).mpr e))) H locs ls hP hD hS hl)
theorem g_if_lt (C : Ok X cc nL own E) {a : Int} {off : Int} (tgt : Nat) (hd : decode cc pc = .ok (.ifCond .lt off, 3)) (ht : (pc : Int) + off = (tgt : Int)) (hr : inR a) (kt : a < 0 → G X nL k n ws tgt L st) (kf : 0 ≤ a → G X nL k n ws (pc + 3) L st) : G X nL k n ws pc L (vI a :: st) :=
  fun H locs ls hP hD hS hl => lv_if_lt C.x C.b hd ht (fun q => kt ((iI_lt (inR_0 hr)).mp q) H locs ls hP hD hS hl) (fun q => kf (Int.not_lt.mp (fun e => q ((iI_lt (inR_0 hr)).mpr e))) H locs ls hP hD hS hl)
theorem g_icmp_ge (C : Ok X cc nL own E) {a b : Int} {off : Int} (tgt : Nat) (hd : decode cc pc = .ok (.if_icmp .ge off, 3)) (ht : (pc : Int) + off = (tgt : Int)) (hr : inR2 a b) (kt : b ≤ a → G X nL k n ws tgt L st) (kf : a < b → G X nL k n ws (pc + 3) L st) : G X nL k n ws pc L (vI b :: vI a :: st) :=
  fun H locs ls hP hD hS hl => lv_icmp_ge C.x C.b hd ht (fun q => kt ((iI_le ⟨hr.2, hr.1⟩).mp q) H locs ls hP hD hS hl) (fun q => kf (Int.not_le.mp (fun e => q ((iI_le ⟨hr.2, hr.1⟩).mpr e))) H locs ls hP hD hS hl)
theorem g_if_ge (C : Ok X cc nL own E) {a : Int} {off : Int} (tgt : Nat) (hd : decode cc pc = .ok (.ifCond .ge off, 3)) (ht : (pc : Int) + off = (tgt : Int)) (hr : inR a) (kt : 0 ≤ a → G X nL k n ws tgt L st) (kf : a < 0 → G X nL k n ws (pc + 3) L st) : G X nL k n ws pc L (vI a :: st) :=
  fun H locs ls hP hD hS hl => lv_if_ge C.x C.b hd ht (fun q => kt ((iI_le (inR_0' hr)).mp q) H locs ls hP hD hS hl) (fun q => kf (Int.not_le.mp (fun e => q ((iI_le (inR_0' hr)).mpr e))) H locs ls hP hD hS hl)
theorem g_icmp_gt (C : Ok X cc nL own E) {a b : Int} {off : Int} (tgt : Nat) (hd : decode cc pc = .ok (.if_icmp .gt off, 3)) (ht : (pc : Int) + off = (tgt : Int)) (hr : inR2 a b) (kt : b < a → G X nL k n ws tgt L st) (kf : a ≤ b → G X nL k n ws (pc + 3) L st) : G X nL k n ws pc L (vI b :: vI a :: st) :=
  fun H locs ls hP hD hS hl => lv_icmp_gt C.x C.b hd ht (fun q => kt ((iI_lt ⟨hr.2, hr.1⟩).mp q) H locs ls hP hD hS hl) (fun q => kf (Int.not_lt.mp (fun e => q ((iI_lt ⟨hr.2, hr.1⟩).mpr e))) H locs ls hP hD hS hl)
theorem g_if_gt (C : Ok X cc nL own E) {a : Int} {off : Int} (tgt : Nat) (hd : decode cc pc = .ok (.ifCond .gt off, 3)) (ht : (pc : Int) + off = (tgt : Int)) (hr : inR a) (kt : 0 < a → G X nL k n ws tgt L st) (kf : a ≤ 0 → G X nL k n ws (pc + 3) L st) : G X nL k n ws pc L (vI a :: st) :=
  fun H locs ls hP hD hS hl => lv_if_gt C.x C.b hd ht (fun q => kt ((iI_lt (inR_0' hr)).mp q) H locs ls hP hD hS hl) (fun q => kf (Int.not_lt.mp (fun e => q ((iI_lt (inR_0' hr)).mpr e))) H locs ls hP hD hS hl)
theorem g_icmp_le (C : Ok X cc nL own E) {a b : Int} {off : Int} (tgt : Nat) (hd : decode cc pc = .ok (.if_icmp .le off, 3)) (ht : (pc : Int) + off = (tgt : Int)) (hr : inR2 a b) (kt : a ≤ b → G X nL k n ws tgt L st) (kf : b < a → G X nL k n ws (pc + 3) L st) : G X nL k n ws pc L (vI b :: vI a :: st) :=
  fun H locs ls hP hD hS hl => lv_icmp_le C.x C.b hd ht (fun q => kt ((iI_le hr).mp q) H locs ls hP hD hS hl) (fun q => kf (Int.not_le.mp (fun e => q ((iI_le hr).mpr e))) H locs ls hP hD hS hl)
theorem g_if_le (C : Ok X cc nL own E) {a : Int} {off : Int} (tgt : Nat) (hd : decode cc pc = .ok (.ifCond .le off, 3)) (ht : (pc : Int) + off = (tgt : Int)) (hr : inR a) (kt : a ≤ 0 → G X nL k n ws tgt L st) (kf : 0 < a → G X nL k n ws (pc + 3) L st) : G X nL k n ws pc L (vI a :: st) :=
  fun H locs ls hP hD hS hl => lv_if_le C.x C.b hd ht (fun q => kt ((iI_le (inR_0 hr)).mp q) H locs ls hP hD hS hl) (fun q => kf (Int.not_le.mp (fun e => q ((iI_le (inR_0 hr)).mpr e))) H locs ls hP hD hS hl)
theorem g_widen {k' n' : Nat} (h1 : k ≤ k') (h2 : n ≤ n') (h : G X nL k' n' ws pc L st) : G X nL k n ws pc L st :=
  fun H locs ls hP hD hS hl => W.widen h1 h2 (h H locs ls hP hD hS hl)
/-- fewer locals, in any order -/
theorem g_loc {L' : List (Nat × Value)} (hs : ∀ q ∈ L', lk L q.1 = some q.2) (h : G X nL k n ws pc L' st) : G X nL k n ws pc L st :=
  fun H locs ls hP hD hS hl => h H locs ls hP hD hS ⟨hl.1, hl.2.1, fun q hq => lk_at hl (hs q hq)⟩
theorem g_eq {ws' : va_W} {pc' : Nat} {L' : List (Nat × Value)} {st' : List Value} (e1 : ws = ws') (e2 : pc = pc') (e3 : L = L') (e4 : st = st') (h : G X nL k n ws' pc' L' st') : G X nL k n ws pc L st := by
  subst e1; subst e2; subst e3; subst e4; exact h
theorem g_top {x y : Int} (e : x = y) (h : G X nL k n ws pc L (vI y :: st)) : G X nL k n ws pc L (vI x :: st) := by
  subst e; exact h
theorem g_topl {x y : Int64} (e : x = y) (h : G X nL k n ws pc L (.long y :: st)) : G X nL k n ws pc L (.long x :: st) := by
  subst e; exact h
/-- the world in another order, or fewer of its cells -/
theorem g_re {ws' : va_W} (js : List Nat) (hn : va_nd js = true) (hs : js.map (fun i => ws[i]?) = ws'.map some) (h : G X nL k n ws' pc L st) : G X nL k n ws pc L st :=
  fun H locs ls hP hD hS hl => h H locs ls (hP.sub js (re_fm hs)) (hD.sub js hn hs) hS hl
theorem g_iald (C : Ok X cc nL own E) (q : Nat) {a N : Nat} {f : Int → Int} {i : Int} (ha : ws[q]? = some (a, eI X.Z N f)) (hi : inN i N) (hd : decode cc pc = .ok (.iaload, 1)) (h : G X nL k n ws (pc + 1) L (vI (f i) :: st)) : G X nL k n ws pc L (vI i :: .ref a :: st) :=
  fun H locs ls hP hD hS hl => va_iald C.x C.b C.K hP q 0 ha rfl (iI_in hi) hd (by rw [rd_iI (fun z => iI (f z)) hi.1 (by have := hi.2.1; have := hi.2.2; omega)]; exact h H locs ls hP hD hS hl)
theorem g_lald (C : Ok X cc nL own E) (q : Nat) {a N : Nat} {f : Int → Int64} {i : Int} (ha : ws[q]? = some (a, eJ X.Z N f)) (hi : inN i N) (hd : decode cc pc = .ok (.laload, 1)) (h : G X nL k n ws (pc + 1) L (.long (f i) :: st)) : G X nL k n ws pc L (vI i :: .ref a :: st) :=
  fun H locs ls hP hD hS hl => va_lald C.x C.b C.K hP q 1 ha rfl (iI_in hi) hd (by rw [rd_iI f hi.1 (by have := hi.2.1; have := hi.2.2; omega)]; exact h H locs ls hP hD hS hl)
theorem g_bald (C : Ok X cc nL own E) (q : Nat) {a N : Nat} {f : Int → Int} {i : Int} (ha : ws[q]? = some (a, eB X.Z N f)) (hi : inN i N) (hd : decode cc pc = .ok (.baload, 1)) (h : G X nL k n ws (pc + 1) L (vI (f i) :: st)) : G X nL k n ws pc L (vI i :: .ref a :: st) :=
  fun H locs ls hP hD hS hl => va_bald C.x C.b C.K hP q 2 ha rfl (iI_in hi) hd (by rw [rd_iI (fun z => iI (f z)) hi.1 (by have := hi.2.1; have := hi.2.2; omega)]; exact h H locs ls hP hD hS hl)
theorem g_zald (C : Ok X cc nL own E) (q : Nat) {a N : Nat} {f : Int → Bool} {i : Int} (ha : ws[q]? = some (a, eZ X.Z N f)) (hi : inN i N) (hd : decode cc pc = .ok (.baload, 1)) (h : G X nL k n ws (pc + 1) L (vI (b2 (f i)) :: st)) : G X nL k n ws pc L (vI i :: .ref a :: st) :=
  fun H locs ls hP hD hS hl => va_zald C.x C.b C.K hP q 3 ha rfl (iI_in hi) hd (by rw [rd_iI (fun z => iI (b2 (f z))) hi.1 (by have := hi.2.1; have := hi.2.2; omega)]; exact h H locs ls hP hD hS hl)
theorem g_iast (C : Ok X cc nL own E) (q : Nat) {a N : Nat} {f : Int → Int} {i x : Int} {ws' : va_W} (ha : ws[q]? = some (a, eI X.Z N f)) (hw : ws.set q (a, eI X.Z N (up f i x)) = ws') (hi : inN i N) (hd : decode cc pc = .ok (.iastore, 1)) (h : G X nL k n ws' (pc + 1) L st) : G X nL k n ws pc L (vI x :: vI i :: .ref a :: st) := by
  subst hw
  intro H locs ls hP hD hS hl
  refine va_iast C.x C.b C.K hP hD hS q 0 ha rfl (iI_in hi) hd (fun H1 locs1 hP1 hD1 hS1 => ?_)
  rw [upd_iI f hi.1 (by have := hi.2.1; have := hi.2.2; omega)] at hP1 hD1
  exact h H1 locs1 ls hP1 hD1 hS1 hl
theorem g_last (C : Ok X cc nL own E) (q : Nat) {a N : Nat} {f : Int → Int64} {i : Int} {x : Int64} {ws' : va_W} (ha : ws[q]? = some (a, eJ X.Z N f)) (hw : ws.set q (a, eJ X.Z N (up f i x)) = ws') (hi : inN i N) (hd : decode cc pc = .ok (.lastore, 1)) (h : G X nL k n ws' (pc + 1) L st) : G X nL k n ws pc L (.long x :: vI i :: .ref a :: st) := by
  subst hw
  intro H locs ls hP hD hS hl
  refine va_last C.x C.b C.K hP hD hS q 1 ha rfl (iI_in hi) hd (fun H1 locs1 hP1 hD1 hS1 => ?_)
  rw [updL_iI f hi.1 (by have := hi.2.1; have := hi.2.2; omega)] at hP1 hD1
  exact h H1 locs1 ls hP1 hD1 hS1 hl
theorem g_bast (C : Ok X cc nL own E) (q : Nat) {a N : Nat} {f : Int → Int} {i x : Int} {ws' : va_W} (ha : ws[q]? = some (a, eB X.Z N f)) (hw : ws.set q (a, eB X.Z N (up f i (i2b x))) = ws') (hi : inN i N) (hd : decode cc pc = .ok (.bastore, 1)) (h : G X nL k n ws' (pc + 1) L st) : G X nL k n ws pc L (vI x :: vI i :: .ref a :: st) := by
  subst hw
  intro H locs ls hP hD hS hl
  refine va_bast C.x C.b C.K hP hD hS q 2 ha rfl (iI_in hi) hd (fun H1 locs1 hP1 hD1 hS1 => ?_)
  rw [i2b_nar, upd_iI f hi.1 (by have := hi.2.1; have := hi.2.2; omega)] at hP1 hD1
  exact h H1 locs1 ls hP1 hD1 hS1 hl
theorem g_zast (C : Ok X cc nL own E) (q : Nat) {a N : Nat} {f : Int → Bool} {i : Int} (x : Bool) {y : Int} {ws' : va_W} (ha : ws[q]? = some (a, eZ X.Z N f)) (hw : ws.set q (a, eZ X.Z N (up f i x)) = ws') (hi : inN i N) (hy : y = b2 x) (hd : decode cc pc = .ok (.bastore, 1)) (h : G X nL k n ws' (pc + 1) L st) : G X nL k n ws pc L (vI y :: vI i :: .ref a :: st) := by
  subst hw; subst hy
  intro H locs ls hP hD hS hl
  refine va_zast C.x C.b C.K hP hD hS q 3 ha rfl (iI_in hi) hd (fun H1 locs1 hP1 hD1 hS1 => ?_)
  rw [upd_iB f hi.1 (by have := hi.2.1; have := hi.2.2; omega)] at hP1 hD1
  exact h H1 locs1 ls hP1 hD1 hS1 hl
theorem g_alen (C : Ok X cc nL own E) (q t0 : Nat) {a : Nat} {cA : ClassId} {x : vp_A} {ty : FieldType} (ha : ws[q]? = some (a, .inl (cA, x))) (ht : (tysZ X.Z)[t0]? = some (cA, ty)) (hd : decode cc pc = .ok (.arraylength, 1)) (h : G X nL k n ws (pc + 1) L (vI x.1 :: st)) : G X nL k n ws pc L (.ref a :: st) :=
  fun H locs ls hP hD hS hl => va_alen (v := iI x.1) C.x C.b C.K hP q t0 ha ht rfl hd (h H locs ls hP hD hS hl)
theorem g_get (C : Ok X cc nL own E) {c : String} {T : u_T} {N ci ix a : Nat} (q kf : Nat) {fs : List Value} {v : Value} (hin : ∀ w ∈ u_ws c T N, w ∈ lw_all) (ha : ws[q]? = some (a, eO ci fs)) (hc : vwCl[ci]? = some (c, T, N)) (hk : kf < N) (hw : Cond.fieldLink own ix c (T kf).2.1 (T kf).2.2.1 ∈ lw_all) (hT : (T kf).1 = c) (hv : fs[kf]? = some v) (hd : decode cc pc = .ok (.getfield ix, 3)) (h : G X nL k n ws (pc + 3) L (v :: st)) : G X nL k n ws pc L (.ref a :: st) :=
  fun H locs ls hP hD hS hl => va_get (ref := c) C.x C.b C.ts hin C.own C.K hP q ha hc kf hk (C.ts _ hw) (fun x hx => by rw [hT] at hx; exact hx) hv hd (h H locs ls hP hD hS hl)
theorem g_getN (C : Ok X cc nL own E) {c host : String} {T : u_T} {N ci ix a : Nat} (q kf : Nat) {fs : List Value} {v : Value} (hin : ∀ w ∈ u_ws c T N, w ∈ lw_all) (ha : ws[q]? = some (a, eO ci fs)) (hc : vwCl[ci]? = some (c, T, N)) (hk : kf < N) (hw : Cond.fieldLinkNest own ix c (T kf).2.1 (T kf).2.2.1 host ∈ nestW) (hT : (T kf).1 = c) (hv : fs[kf]? = some v) (hd : decode cc pc = .ok (.getfield ix, 3)) (h : G X nL k n ws (pc + 3) L (v :: st)) : G X nL k n ws pc L (.ref a :: st) :=
  fun H locs ls hP hD hS hl => va_getN (ref := c) C.x C.b C.ts hin C.own C.K hP q ha hc kf hk (va_Nw.use rfl (C.ex.1 _ hw)) (fun x hx => by rw [hT] at hx; exact hx) hv hd (h H locs ls hP hD hS hl)
theorem g_put (C : Ok X cc nL own E) {c : String} {T : u_T} {N ci ix a : Nat} (q kf : Nat) {fs : List Value} {v : Value} {ws' : va_W} (ty0 : Nat → FieldType) {ty : FieldType} (hin : ∀ w ∈ u_ws c T N, w ∈ lw_all) (hty : ∀ k, k < N → parseFieldDescriptor (T k).2.2.1 = some (ty0 k)) (hnm : ∀ a, a < N → ∀ b, b < N → a ≠ b → (T a).2.1 ≠ (T b).2.1) (ha : ws[q]? = some (a, eO ci fs)) (hws : ws.set q (a, eO ci (fs.set kf v)) = ws') (hc : vwCl[ci]? = some (c, T, N)) (hk : kf < N) (hw : Cond.fieldLink own ix c (T kf).2.1 (T kf).2.2.1 ∈ lw_all) (hT : (T kf).1 = c) (hfin : (T kf).2.2.2 = false) (ht : ty0 kf = ty) (hn : narrow ty v = v) (hf : fits ty v = true) (hl9 : kf < fs.length) (hd : decode cc pc = .ok (.putfield ix, 3)) (h : G X nL k n ws' (pc + 3) L st) : G X nL k n ws pc L (v :: .ref a :: st) := by
  subst hws
  exact fun H locs ls hP hD hS hl => va_put (ref := c) C.x C.b C.ts hin ty0 hty hnm C.own C.K hP hD hS q ha hc kf hk (C.ts _ hw) (fun x hx => by rw [hT] at hx; exact hx) hfin (by rw [hty kf hk, ht]) hn hf hl9 hd (fun H1 locs1 hP1 hD1 hS1 => h H1 locs1 ls hP1 hD1 hS1 hl)
theorem g_putF (C : Ok X cc nL own E) {T : u_T} {N ci ix a : Nat} (q kf : Nat) {fs : List Value} {v : Value} {ws' : va_W} (ty0 : Nat → FieldType) {ty : FieldType} (hin : ∀ w ∈ u_ws own T N, w ∈ lw_all) (hty : ∀ k, k < N → parseFieldDescriptor (T k).2.2.1 = some (ty0 k)) (hnm : ∀ a, a < N → ∀ b, b < N → a ≠ b → (T a).2.1 ≠ (T b).2.1) (ha : ws[q]? = some (a, eO ci fs)) (hws : ws.set q (a, eO ci (fs.set kf v)) = ws') (hc : vwCl[ci]? = some (own, T, N)) (hk : kf < N) (hw : Cond.fieldLink own ix own (T kf).2.1 (T kf).2.2.1 ∈ lw_all) (hT : (T kf).1 = own) (hfin : (T kf).2.2.2 = true) (hnmI : E.nm = "<init>") (ht : ty0 kf = ty) (hn : narrow ty v = v) (hf : fits ty v = true) (hl9 : kf < fs.length) (hd : decode cc pc = .ok (.putfield ix, 3)) (h : G X nL k n ws' (pc + 3) L st) : G X nL k n ws pc L (v :: .ref a :: st) := by
  subst hws
  exact fun H locs ls hP hD hS hl => va_putF (ref := own) C.x C.b C.ts hin ty0 hty hnm C.own C.K hP hD hS q ha hc kf hk (C.ts _ hw) (fun x hx => by rw [hT] at hx; exact hx) hfin (C.nm.trans hnmI) hT (by rw [hty kf hk, ht]) hn hf hl9 hd (fun H1 locs1 hP1 hD1 hS1 => h H1 locs1 ls hP1 hD1 hS1 hl)
end ROWS
