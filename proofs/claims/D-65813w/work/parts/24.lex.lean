/-! what is read: characters, classes (pure) -/
def plainB (c : Int) (b : Bool) : Bool := decide (32 ≤ c) && (decide (c ≤ 126) && !(strHas (if b then 0 else 1) c))
def endsB (c : Int) : Bool := decide (c < 0) || (decide (c = 47) || (decide (c = 124) || decide (c = 41)))
def escV (y : Int) : Int := if y = 110 then 10 else if y = 116 then 9 else if y = 114 then 13 else if 0 < y ∧ strHas 2 y = true then y else -1
def chrOk (t : Int → Int) (n i : Int) (b : Bool) : Bool := if chr t n i = 92 then decide (0 ≤ escV (chr t n (i + 1))) else plainB (chr t n i) b
def chrV (t : Int → Int) (n i : Int) : Int := if chr t n i = 92 then escV (chr t n (i + 1)) else chr t n i
def chrN (t : Int → Int) (n i : Int) : Int := if chr t n i = 92 then i + 2 else i + 1
def chrE (t : Int → Int) (n i : Int) : Int := if chr t n i = 92 then i + 1 else i
theorem strHas_r {i : Nat} (hi : i < 6) {c : Int} (h : strHas i c = true) : 0 ≤ c ∧ c < 128 := by
  obtain ⟨x, hx, e⟩ := List.any_eq_true.mp h
  have e : x.toInt = c := by simpa using e
  have := strB_small i hi x hx
  omega
theorem plainB_r {c : Int} {b : Bool} (h : plainB c b = true) : 32 ≤ c ∧ c ≤ 126 := by
  unfold plainB at h
  simp at h
  exact ⟨h.1, h.2.1⟩
theorem escV_r (y : Int) : -1 ≤ escV y ∧ escV y < 128 := by
  unfold escV
  (repeat' split) <;> first | omega | skip
  next h => have := strHas_r (by decide) h.2; omega
theorem chr_lt {t : Int → Int} {n i : Int} (h : 0 ≤ chr t n i) : i < n := by
  unfold chr at h
  split at h
  · assumption
  · omega
theorem escV_m1 : escV (-1) = -1 := by decide
theorem chrOk_lt {t : Int → Int} {n i : Int} {b : Bool} (h : chrOk t n i b = true) : i < n ∧ i < chrN t n i ∧ chrN t n i ≤ n ∧ 0 ≤ chrV t n i ∧ chrV t n i < 128 := by
  unfold chrOk at h
  unfold chrN chrV
  split at h
  · next e =>
    have h : 0 ≤ escV (chr t n (i + 1)) := by simpa using h
    have h1 := chr_lt (t := t) (n := n) (i := i) (by omega)
    have h2 : i + 1 < n := by
      apply chr_lt (t := t)
      have := (chr_r t n (i + 1)).1
      rcases (show chr t n (i + 1) = -1 ∨ 0 ≤ chr t n (i + 1) by omega) with q | q
      · rw [q, escV_m1] at h; omega
      · exact q
    have := escV_r (chr t n (i + 1))
    rw [if_pos e, if_pos e]
    omega
  · next e =>
    have h0 := plainB_r h
    have h1 := chr_lt (t := t) (n := n) (i := i) (by omega)
    rw [if_neg e, if_neg e]
    omega
theorem chrE_r {t : Int → Int} {n i : Int} (h : 0 ≤ i) (h2 : i ≤ n) : 0 ≤ chrE t n i ∧ chrE t n i ≤ n := by
  unfold chrE
  split
  · next e =>
    have h1 := chr_lt (t := t) (n := n) (i := i) (by omega)
    omega
  · omega
/-- the members of a class, from i on, to its ] -/
def chcL (t : Int → Int) (n : Int) : Nat → Int → Int64 → Int64 → Except Int (Int × Int64 × Int64)
  | 0, i, _, _ => .error i
  | f + 1, i, lo, hi =>
    if chrOk t n i true = true then
      (if chr t n (chrN t n i) = 45 then
        (if chrOk t n (chrN t n i + 1) true = true then
          (if chrV t n (chrN t n i + 1) < chrV t n i then .error (chrN t n i + 1)
           else if chr t n (chrN t n (chrN t n i + 1)) = 93 then .ok (chrN t n (chrN t n i + 1), lowBits lo (chrV t n i) (chrV t n (chrN t n i + 1) + 1 - chrV t n i).toNat, highBits hi (chrV t n i) (chrV t n (chrN t n i + 1) + 1 - chrV t n i).toNat)
           else chcL t n f (chrN t n (chrN t n i + 1)) (lowBits lo (chrV t n i) (chrV t n (chrN t n i + 1) + 1 - chrV t n i).toNat) (highBits hi (chrV t n i) (chrV t n (chrN t n i + 1) + 1 - chrV t n i).toNat))
        else .error (chrE t n (chrN t n i + 1)))
      else if chr t n (chrN t n i) = 93 then .ok (chrN t n i, lowBits lo (chrV t n i) 1, highBits hi (chrV t n i) 1)
      else chcL t n f (chrN t n i) (lowBits lo (chrV t n i) 1) (highBits hi (chrV t n i) 1))
    else .error (chrE t n i)
/-- a class from its [ on -/
def clsR (t : Int → Int) (n i : Int) (lo hi : Int64) : Except Int (Int × Int64 × Int64) :=
  if chr t n (i + 1) = 94 then
    (match chcL t n ((n - i).toNat + 1) (i + 2) lo hi with
    | .error e => .error e
    | .ok (j, l, h) => .ok (j + 1, l ^^^ (-1), h ^^^ (-1)))
  else
    (match chcL t n ((n - i).toNat + 1) (i + 1) lo hi with
    | .error e => .error e
    | .ok (j, l, h) => .ok (j + 1, l, h))
/-- a character, a class or a point -/
def sngl (t : Int → Int) (n i : Int) : Except Int (Int × Int64 × Int64) :=
  if chr t n i = 91 then clsR t n i 0 0
  else if chr t n i = 46 then .ok (i + 1, -1025, -1)
  else if chrOk t n i false = true then .ok (chrN t n i, lowBits 0 (chrV t n i) 1, highBits 0 (chrV t n i) 1)
  else .error (chrE t n i)
