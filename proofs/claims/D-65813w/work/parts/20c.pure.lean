/-! loops, rows of arrays -/
theorem loopZ (W : Int → Prop) (lo hi : Int) (hle : lo ≤ hi) (ex : W hi) (step : ∀ k, lo ≤ k → k < hi → W (k + 1) → W k) : W lo := by
  have h : ∀ (m : Nat) (k : Int), lo ≤ k → k ≤ hi → (hi - k).toNat = m → W k := by
    intro m
    induction m with
    | zero =>
      intro k h1 h2 h3
      have : k = hi := by omega
      rw [this]; exact ex
    | succ m ih =>
      intro k h1 h2 h3
      exact step k h1 (by omega) (ih (k + 1) (by omega) (by omega) (by omega))
  exact h _ lo (Int.le_refl _) hle rfl
/-- downwards -/
theorem loopD (W : Int → Prop) (lo hi : Int) (hle : lo ≤ hi) (ex : W lo) (step : ∀ k, lo < k → k ≤ hi → W (k - 1) → W k) : W hi := by
  have h : ∀ (m : Nat) (k : Int), lo ≤ k → k ≤ hi → (k - lo).toNat = m → W k := by
    intro m
    induction m with
    | zero =>
      intro k h1 h2 h3
      have : k = lo := by omega
      rw [this]; exact ex
    | succ m ih =>
      intro k h1 h2 h3
      exact step k (by omega) h2 (ih (k - 1) (by omega) (by omega) (by omega))
  exact h _ hi hle (Int.le_refl _) rfl
/-- k places from i on are taken from g -/
def upTo {α : Type} (f : Int → α) (i k : Int) (g : Int → α) : Int → α := fun j => if i ≤ j ∧ j < i + k then g (j - i) else f j
theorem upTo_0 {α : Type} (f : Int → α) (i : Int) (g : Int → α) : upTo f i 0 g = f := by
  funext j
  unfold upTo
  rw [if_neg (by omega)]
theorem upTo_s {α : Type} (f : Int → α) (i : Int) {k : Int} (g : Int → α) (h : 0 ≤ k) : up (upTo f i k g) (i + k) (g k) = upTo f i (k + 1) g := by
  funext j
  unfold upTo up
  by_cases e : j = i + k
  · rw [if_pos e, if_pos (by omega), e, show i + k - i = k by omega]
  · rw [if_neg e]
    dsimp only
    by_cases q : i ≤ j ∧ j < i + k
    · rw [if_pos q, if_pos (by omega)]
    · rw [if_neg q, if_neg (by omega)]
theorem upTo_out {α : Type} (f : Int → α) {i k j : Int} (g : Int → α) (h : j < i ∨ i + k ≤ j) : upTo f i k g j = f j := by
  unfold upTo
  rw [if_neg (by omega)]
theorem upTo_in {α : Type} (f : Int → α) {i k j : Int} (g : Int → α) (h : i ≤ j) (h2 : j < i + k) : upTo f i k g j = g (j - i) := by
  unfold upTo
  rw [if_pos ⟨h, h2⟩]
theorem upTo_at {α : Type} (f : Int → α) {i k m : Int} (g : Int → α) (h : 0 ≤ m) (h2 : m < k) : upTo f i k g (i + m) = g m := by
  rw [upTo_in f g (by omega) (by omega), show i + m - i = m by omega]
theorem upTo_id {α : Type} (f : Int → α) (i k : Int) : upTo f i k (fun m => f (i + m)) = f := by
  funext j
  unfold upTo
  split
  · dsimp only
    rw [show i + (j - i) = j by omega]
  · rfl
/-- the byte at a place of the text, -1 behind its end -/
def chr (t : Int → Int) (n i : Int) : Int := if i < n then iand (t i) 255 else -1
theorem iand_255 (v : Int) : 0 ≤ iand v 255 ∧ iand v 255 ≤ 255 := by
  unfold iand
  have e : iI 255 = 255 := rfl
  rw [e, pk_and (iI v) 8 rfl]
  have h := Nat.mod_lt (iI v).toBitVec.toNat (show 0 < 2 ^ 8 by decide)
  rw [nI_toInt (by omega)]
  omega
theorem chr_r (t : Int → Int) (n i : Int) : -1 ≤ chr t n i ∧ chr t n i ≤ 255 := by
  unfold chr
  split
  · have := iand_255 (t i); omega
  · omega
/-- what Patterns.link makes of follows -/
def linkF (fo la fi : Int → Int64) (x y n : Int) : Int → Int64 := fun j => if 0 ≤ j ∧ j < 7 * n ∧ hasB la (7 * x) (j / 7) = true then fo j ||| fi (7 * y + j % 7) else fo j
theorem linkF_0 (fo la fi : Int → Int64) (x y : Int) : linkF fo la fi x y 0 = fo := by
  funext j
  unfold linkF
  rw [if_neg (by omega)]
theorem linkF_no {fo la fi : Int → Int64} {x y n : Int} (h : hasB la (7 * x) n = false) : linkF fo la fi x y (n + 1) = linkF fo la fi x y n := by
  funext j
  unfold linkF
  by_cases q : 0 ≤ j ∧ j < 7 * n ∧ hasB la (7 * x) (j / 7) = true
  · rw [if_pos q, if_pos ⟨q.1, by omega, q.2.2⟩]
  · rw [if_neg q]
    by_cases r : 0 ≤ j ∧ j < 7 * (n + 1) ∧ hasB la (7 * x) (j / 7) = true
    · have : j / 7 = n := by
        have : ¬ j < 7 * n := fun z => q ⟨r.1, z, r.2.2⟩
        omega
      rw [this, h] at r
      cases r.2.2
    · rw [if_neg r]
theorem linkF_yes {fo la fi : Int → Int64} {x y n : Int} (hn : 0 ≤ n) (h : hasB la (7 * x) n = true) : upTo (linkF fo la fi x y n) (7 * n) 7 (fun k => linkF fo la fi x y n (7 * n + k) ||| fi (7 * y + k)) = linkF fo la fi x y (n + 1) := by
  funext j
  unfold upTo
  by_cases q : 7 * n ≤ j ∧ j < 7 * n + 7
  · rw [if_pos q]
    have e1 : j / 7 = n := by omega
    have e2 : j % 7 = j - 7 * n := by omega
    dsimp only
    have e3 : linkF fo la fi x y n (7 * n + (j - 7 * n)) = fo j := by
      unfold linkF
      rw [if_neg (by omega), show 7 * n + (j - 7 * n) = j by omega]
    rw [e3]
    unfold linkF
    rw [if_pos ⟨by omega, by omega, by rw [e1]; exact h⟩, e2]
  · rw [if_neg q]
    unfold linkF
    by_cases r : 0 ≤ j ∧ j < 7 * n ∧ hasB la (7 * x) (j / 7) = true
    · rw [if_pos r, if_pos ⟨r.1, by omega, r.2.2⟩]
    · rw [if_neg r, if_neg (fun z => r ⟨z.1, by omega, z.2.2⟩)]
/-- bits from i on, n of them, in the lower and the upper long of a mask -/
def lowBits (v : Int64) (i : Int) : Nat → Int64
  | 0 => v
  | n + 1 => if i + n < 64 then lowBits v i n ||| lshl 1 (i + n) else lowBits v i n
def highBits (v : Int64) (i : Int) : Nat → Int64
  | 0 => v
  | n + 1 => if i + n < 64 then highBits v i n else highBits v i n ||| lshl 1 (i + n - 64)
theorem up_up {α : Type} (f : Int → α) (i : Int) (x y : α) : up (up f i x) i y = up f i y := by
  funext j
  unfold up
  split <;> rfl
theorem up_id {α : Type} (f : Int → α) (i : Int) : up f i (f i) = f := by
  funext j
  unfold up
  split
  · next h => rw [h]
  · rfl
/-- whether a place's mask has a byte -/
def tkB (lo hi : Int → Int64) (p b : Int) : Bool := if b < 64 then bt (lo p) (b % 64) else bt (hi p) (b % 64)
theorem room_b {E : Ek} {fr lo maxL mc ms k n : Nat} (h : (Nat.ble (fr + 1) E.fr && (Nat.ble (8 + (maxL + 11) + lo) E.lo && (Nat.ble (k + mc) E.mc && Nat.ble (n + ms) E.ms))) = true) : roomOk E fr lo maxL mc ms k n := by
  simp only [Bool.and_eq_true, Nat.ble_eq] at h
  exact ⟨⟨h.1, h.2.1⟩, h.2.2.1, h.2.2.2⟩
