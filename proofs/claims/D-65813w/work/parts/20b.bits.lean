/-! longs by their bits -/
def bt (x : Int64) (i : Int) : Bool := x.toBitVec.getLsbD i.toNat
theorem bt_ext {x y : Int64} (h : ∀ i : Int, 0 ≤ i → i < 64 → bt x i = bt y i) : x = y := Int64.toBitVec_inj.mp (BitVec.eq_of_getLsbD_eq (fun i hi => by
  have := h i (by omega) (by omega)
  unfold bt at this
  rw [Int.toNat_natCast] at this
  exact this))
theorem bt_or (x y : Int64) (i : Int) : bt (x ||| y) i = (bt x i || bt y i) := by unfold bt; rw [Int64.toBitVec_or, BitVec.getLsbD_or]
theorem bt_and (x y : Int64) (i : Int) : bt (x &&& y) i = (bt x i && bt y i) := by unfold bt; rw [Int64.toBitVec_and, BitVec.getLsbD_and]
theorem bt_xor (x y : Int64) (i : Int) : bt (x ^^^ y) i = (bt x i ^^ bt y i) := by unfold bt; rw [Int64.toBitVec_xor, BitVec.getLsbD_xor]
theorem bt_0 (i : Int) : bt 0 i = false := BitVec.getLsbD_zero
theorem bt_m1 {i : Int} (h0 : 0 ≤ i) (h : i < 64) : bt (-1) i = true := by
  have : ∀ k : Nat, k < 64 → bt (-1) k = true := by decide +kernel
  have h1 := this i.toNat (by omega)
  rw [Int.toNat_of_nonneg h0] at h1
  exact h1
theorem shN_sm : ∀ k : Nat, k < 64 → (((iI k).toInt64 &&& 63).toBitVec.smod 64).toNat = k := by decide +kernel
theorem shN_u : ∀ k : Nat, k < 64 → (((iI k).toInt64.toUInt64 &&& Int64.toUInt64 63).toBitVec % 64).toNat = k := by decide +kernel
theorem sh_sm {i : Int} (h0 : 0 ≤ i) (h : i < 64) : (((iI i).toInt64 &&& 63).toBitVec.smod 64).toNat = i.toNat := by
  have h1 := shN_sm i.toNat (by omega)
  rw [Int.toNat_of_nonneg h0] at h1
  exact h1
theorem bt_lshr {i j : Int} (h0 : 0 ≤ i) (h : i < 64) (j0 : 0 ≤ j) (hj : i + j < 64) (x : Int64) : bt (lshr x i) j = bt x (i + j) := by
  unfold bt lshr
  rw [Int64.toBitVec_shiftRight]
  show (x.toBitVec.sshiftRight (((iI i).toInt64 &&& 63).toBitVec.smod 64).toNat).getLsbD j.toNat = _
  rw [sh_sm h0 h, BitVec.getLsbD_sshiftRight]
  have e : (i + j).toNat = i.toNat + j.toNat := by omega
  rw [e]
  have e2 : ¬ (64 ≤ j.toNat) := by omega
  have e3 : i.toNat + j.toNat < 64 := by omega
  simp [e2, e3]
theorem bt_lshl {i j : Int} (h0 : 0 ≤ i) (h : i < 64) (j0 : 0 ≤ j) (hj : j < 64) (x : Int64) : bt (lshl x i) j = (decide (i ≤ j) && bt x (j - i)) := by
  unfold bt lshl
  rw [Int64.toBitVec_shiftLeft]
  show (x.toBitVec <<< (((iI i).toInt64 &&& 63).toBitVec.smod 64).toNat).getLsbD j.toNat = _
  rw [sh_sm h0 h, BitVec.getLsbD_shiftLeft]
  have e : (j - i).toNat = j.toNat - i.toNat := by omega
  rw [e]
  have e2 : j.toNat < 64 := by omega
  by_cases q : i ≤ j
  · have e3 : ¬ (j.toNat < i.toNat) := by omega
    simp [e2, e3, q]
  · have e3 : j.toNat < i.toNat := by omega
    simp [e3, q]
theorem bt_1 {i : Int} (h0 : 0 ≤ i) (h : i < 64) : bt 1 i = decide (i = 0) := by
  have : ∀ k : Nat, k < 64 → bt 1 k = decide ((k : Int) = 0) := by decide +kernel
  have h1 := this i.toNat (by omega)
  rw [Int.toNat_of_nonneg h0] at h1
  exact h1
theorem bt_one {i j : Int} (h0 : 0 ≤ i) (h : i < 64) (j0 : 0 ≤ j) (hj : j < 64) : bt (lshl 1 i) j = decide (i = j) := by
  rw [bt_lshl h0 h j0 hj]
  by_cases q : i ≤ j
  · rw [bt_1 (by omega) (by omega)]
    by_cases e : i = j
    · subst e; simp
    · have : ¬ (j - i = 0) := by omega
      simp [e, this]
  · have : i ≠ j := by omega
    simp [q, this]
/-- the question (x >> i & 1) == 1 -/
theorem bit_eq {x : Int64} {i : Int} (h0 : 0 ≤ i) (h : i < 64) : (lshr x i &&& 1 = 1) ↔ bt x i = true := by
  constructor
  · intro e
    have h1 : bt (lshr x i &&& 1) 0 = bt 1 0 := by rw [e]
    rw [bt_and, bt_lshr h0 h (by omega) (by omega), bt_1 (by omega) (by omega)] at h1
    simpa using h1
  · intro e
    apply bt_ext
    intro j j0 j1
    rw [bt_and, bt_1 j0 j1]
    by_cases q : j = 0
    · subst q
      rw [bt_lshr h0 h (by omega) (by omega)]
      simp [e]
    · simp [q]
theorem lcmp_0 (x y : Int64) : (lg_cmp x y).toInt = 0 ↔ x = y := by
  have h1 : (lg_cmp x y).toInt = 0 ↔ lg_cmp x y = 0 := by
    constructor
    · intro h; apply Int32.toInt_inj.mp; rw [h]; rfl
    · intro h; rw [h]; rfl
  rw [h1]
  unfold lg_cmp
  by_cases a : x > y
  · rw [if_pos a]
    constructor
    · intro h; cases h
    · intro h; subst h; exact absurd a (by simp [Int64.lt_iff_toInt_lt])
  · rw [if_neg a]
    by_cases e : x = y
    · simp [e]
    · rw [if_neg e]; simp [e]
theorem lcmp_r (x y : Int64) : inR (lg_cmp x y).toInt := i32_range _
/-- the bit p of a row of longs from i on -/
def hasB (f : Int → Int64) (i p : Int) : Bool := bt (f (i + p / 64)) (p % 64)
theorem hasB_or {f g h : Int → Int64} {i j k p : Int} (e : ∀ m, 0 ≤ m → m < 7 → f (i + m) = (g (j + m) ||| h (k + m))) (h0 : 0 ≤ p) (h1 : p < 448) : hasB f i p = (hasB g j p || hasB h k p) := by
  unfold hasB
  rw [e (p / 64) (by omega) (by omega), bt_or]
theorem hasB_eq {f g : Int → Int64} {i j p : Int} (e : ∀ m, 0 ≤ m → m < 7 → f (i + m) = g (j + m)) (h0 : 0 ≤ p) (h1 : p < 448) : hasB f i p = hasB g j p := by
  unfold hasB
  rw [e (p / 64) (by omega) (by omega)]
theorem row_ext {f g : Int → Int64} {i j : Int} (h : ∀ p, 0 ≤ p → p < 448 → hasB f i p = hasB g j p) : ∀ m, 0 ≤ m → m < 7 → f (i + m) = g (j + m) := by
  intro m h0 h1
  apply bt_ext
  intro b b0 b1
  have h2 := h (64 * m + b) (by omega) (by omega)
  unfold hasB at h2
  have e1 : (64 * m + b) / 64 = m := by omega
  have e2 : (64 * m + b) % 64 = b := by omega
  rw [e1, e2] at h2
  exact h2
/-- a bit is set in a row -/
theorem hasB_set {f g : Int → Int64} {i q p : Int} (q0 : 0 ≤ q) (q1 : q < 448) (h0 : 0 ≤ p) (h1 : p < 448) (e : ∀ m, g m = if m = i + q / 64 then (f m ||| lshl 1 (q % 64)) else f m) : hasB g i p = (hasB f i p || decide (q = p)) := by
  unfold hasB
  rw [e]
  by_cases a : i + p / 64 = i + q / 64
  · rw [if_pos a, bt_or, bt_one (by omega) (by omega) (by omega) (by omega)]
    congr 1
    apply decide_eq_decide.mpr
    omega
  · rw [if_neg a]
    have : q ≠ p := by omega
    simp [this]
theorem b2_r (b : Bool) : inR (b2 b) := by cases b <;> decide
theorem b2_0 (b : Bool) : b2 b = 0 ↔ b = false := by cases b <;> decide
theorem b2_1 (b : Bool) : b2 b = 1 ↔ b = true := by cases b <;> decide
theorem b2_ne0 (b : Bool) : b2 b ≠ 0 ↔ b = true := by cases b <;> decide
theorem b2_le (b : Bool) : 0 ≤ b2 b ∧ b2 b ≤ 1 := by cases b <;> decide
theorem ior_b2 (a b : Bool) : ior (b2 a) (b2 b) = b2 (a || b) := by cases a <;> cases b <;> decide
theorem iand_b2 (a b : Bool) : iand (b2 a) (b2 b) = b2 (a && b) := by cases a <;> cases b <;> decide
