/-! numbers: ints as Int -/
def iI (z : Int) : Int32 := Int32.ofInt z
abbrev vI (z : Int) : Value := .int (iI z)
def b2 (b : Bool) : Int := bif b then 1 else 0
theorem iI_add (a b : Int) : iI a + iI b = iI (a + b) := (Int32.ofInt_add a b).symm
theorem iI_sub (a b : Int) : iI a - iI b = iI (a - b) := (Int32.ofInt_sub a b).symm
theorem iI_mul (a b : Int) : iI a * iI b = iI (a * b) := (Int32.ofInt_mul a b).symm
theorem iI_neg (a : Int) : -iI a = iI (-a) := (Int32.ofInt_neg a).symm
theorem iI_self (x : Int32) : iI x.toInt = x := Int32.ofInt_toInt x
theorem iI_toInt {z : Int} (h1 : -2147483648 ≤ z) (h2 : z < 2147483648) : (iI z).toInt = z := Int32.toInt_ofInt_of_le (by omega) (by omega)
theorem i32_range (x : Int32) : -2147483648 ≤ x.toInt ∧ x.toInt < 2147483648 := ⟨by have := x.le_toInt; omega, by have := x.toInt_lt; omega⟩
abbrev inR (a : Int) : Prop := -2147483648 ≤ a ∧ a < 2147483648
abbrev inR2 (a b : Int) : Prop := (-2147483648 ≤ a ∧ a < 2147483648) ∧ (-2147483648 ≤ b ∧ b < 2147483648)
theorem iI_lt {a b : Int} (h : inR2 a b) : iI a < iI b ↔ a < b := by
  rw [Int32.lt_iff_toInt_lt, iI_toInt h.1.1 h.1.2, iI_toInt h.2.1 h.2.2]
theorem iI_le {a b : Int} (h : inR2 a b) : iI a ≤ iI b ↔ a ≤ b := by
  rw [Int32.le_iff_toInt_le, iI_toInt h.1.1 h.1.2, iI_toInt h.2.1 h.2.2]
theorem iI_eq {a b : Int} (h : inR2 a b) : iI a = iI b ↔ a = b := by
  rw [← Int32.toInt_inj, iI_toInt h.1.1 h.1.2, iI_toInt h.2.1 h.2.2]
theorem iI_0 : iI 0 = 0 := rfl
theorem inR_0 {a : Int} (h : inR a) : inR2 a 0 := ⟨h, by omega, by omega⟩
theorem inR_0' {a : Int} (h : inR a) : inR2 0 a := ⟨⟨by omega, by omega⟩, h⟩
theorem iI_clamp {z : Int} (h0 : 0 ≤ z) (h : z < 2147483648) : (iI z).toNatClampNeg = z.toNat := by
  show (iI z).toInt.toNat = z.toNat
  rw [iI_toInt (by omega) h]
abbrev inN (z : Int) (n : Nat) : Prop := 0 ≤ z ∧ z < n ∧ n < 2147483648
theorem iI_in {z : Int} {n : Nat} (h : inN z n) : vp_in (iI z) n := by
  obtain ⟨h0, h1, h2⟩ := h
  intro q
  rcases q with q | q
  · rw [← iI_0, iI_lt ⟨⟨by omega, by omega⟩, by omega, by omega⟩] at q; omega
  · rw [iI_clamp h0 (by omega)] at q; omega
theorem iI_div {a b : Int} (ha : 0 ≤ a) (hb : 0 < b) (ha2 : a < 2147483648) (hb2 : b < 2147483648) : iI a / iI b = iI (a / b) := by
  rw [← Int32.toInt_inj, Int32.toInt_div_of_ne_left _ _ (fun h => by have := congrArg Int32.toInt h; rw [iI_toInt (by omega) ha2] at this; have h2 : Int32.minValue.toInt = -2147483648 := rfl; omega), iI_toInt (by omega) ha2, iI_toInt (by omega) hb2, Int.tdiv_eq_ediv_of_nonneg ha, iI_toInt]
  · have := Int.ediv_nonneg ha (Int.le_of_lt hb); omega
  · have := Int.ediv_le_self b ha; omega
theorem iI_rem {a b : Int} (ha : 0 ≤ a) (hb : 0 < b) (ha2 : a < 2147483648) (hb2 : b < 2147483648) : iI a - iI a / iI b * iI b = iI (a % b) := by
  rw [iI_div ha hb ha2 hb2, iI_mul, iI_sub]
  congr 1
  rw [Int.mul_comm]
  have := Int.mul_ediv_add_emod a b
  omega
theorem iI_ne0 {b : Int} (hb : 0 < b) (hb2 : b < 2147483648) : ¬ iI b = 0 := by
  rw [← iI_0, iI_eq ⟨⟨by omega, by omega⟩, by omega, by omega⟩]; omega
/-! bit operations on ints, as Int-valued functions -/
def iand (a b : Int) : Int := (iI a &&& iI b).toInt
def ior (a b : Int) : Int := (iI a ||| iI b).toInt
def ixor (a b : Int) : Int := (iI a ^^^ iI b).toInt
def ishl (a b : Int) : Int := (iI a <<< (iI b &&& 31)).toInt
def ishr (a b : Int) : Int := (iI a >>> (iI b &&& 31)).toInt
def iushr (a b : Int) : Int := ((iI a).toUInt32 >>> ((iI b).toUInt32 &&& Int32.toUInt32 31)).toInt32.toInt
def i2b (a : Int) : Int := (iI a).toInt8.toInt32.toInt
def l2i (x : Int64) : Int := x.toInt32.toInt
def i2l (a : Int) : Int64 := (iI a).toInt64
def lshl (x : Int64) (b : Int) : Int64 := x <<< ((iI b).toInt64 &&& 63)
def lshr (x : Int64) (b : Int) : Int64 := x >>> ((iI b).toInt64 &&& 63)
def lushr (x : Int64) (b : Int) : Int64 := (x.toUInt64 >>> ((iI b).toInt64.toUInt64 &&& Int64.toUInt64 63)).toInt64
/-- arrays as functions on Int -/
def up {α : Type} (f : Int → α) (i : Int) (x : α) : Int → α := fun j => if j = i then x else f j
theorem up_same {α : Type} (f : Int → α) (i : Int) (x : α) : up f i x i = x := if_pos rfl
theorem up_ne {α : Type} (f : Int → α) {i j : Int} (x : α) (h : j ≠ i) : up f i x j = f j := if_neg h
theorem nat_toNat {z : Int} (h : 0 ≤ z) (j : Nat) : (j = z.toNat) ↔ ((j : Int) = z) := by omega
theorem upd_iI (f : Int → Int) {z : Int} (h : 0 ≤ z) (h2 : z < 2147483648) (x : Int) : upd (fun j => iI (f j)) (iI z).toNatClampNeg (iI x) = fun j : Nat => iI (up f z x j) := by
  funext j
  rw [iI_clamp h h2]
  unfold upd up
  by_cases e : (j : Int) = z
  · rw [if_pos e, if_pos ((nat_toNat h j).mpr e)]
  · rw [if_neg e, if_neg (fun q => e ((nat_toNat h j).mp q))]
theorem updL_iI (f : Int → Int64) {z : Int} (h : 0 ≤ z) (h2 : z < 2147483648) (x : Int64) : vp_updL (fun j : Nat => f j) (iI z).toNatClampNeg x = fun j : Nat => up f z x j := by
  funext j
  rw [iI_clamp h h2]
  unfold vp_updL up
  by_cases e : (j : Int) = z
  · rw [if_pos e, if_pos ((nat_toNat h j).mpr e)]
  · rw [if_neg e, if_neg (fun q => e ((nat_toNat h j).mp q))]
theorem upd_iB (f : Int → Bool) {z : Int} (h : 0 ≤ z) (h2 : z < 2147483648) (x : Bool) : upd (fun j => iI (b2 (f j))) (iI z).toNatClampNeg (vp_nar .boolean (iI (b2 x))) = fun j : Nat => iI (b2 (up f z x j)) := by
  have e : vp_nar .boolean (iI (b2 x)) = iI (b2 x) := by cases x <;> decide
  rw [e]
  funext j
  rw [iI_clamp h h2]
  unfold upd up
  by_cases e : (j : Int) = z
  · rw [if_pos e, if_pos ((nat_toNat h j).mpr e)]
  · rw [if_neg e, if_neg (fun q => e ((nat_toNat h j).mp q))]
theorem rd_iI {α : Type} (f : Int → α) {z : Int} (h : 0 ≤ z) (h2 : z < 2147483648) : f ((iI z).toNatClampNeg : Nat) = f z := by
  rw [iI_clamp h h2, Int.toNat_of_nonneg h]
theorem i2b_nar (x : Int) : vp_nar .byte (iI x) = iI (i2b x) := by
  rw [vp_nar_byte]; unfold i2b; rw [iI_self]
