/-! PatternPairs: count -/
/-- how many texts of j bytes a state's side has -/
def bkw (isE : Bool) (table tells : Int → Int) (j : Nat) (s : Int) : Int64 := NL j (fun u => hasQ isE tells (dq (movQ table) s u) false)
theorem bkw_succ (isE : Bool) (table tells : Int → Int) (j : Nat) (s : Int) : bkw isE table tells (j + 1) s = sm (fun b => bkw isE table tells j (movQ table s b)) 128 := by
  unfold bkw
  rw [NL]
  exact sm_congr 128 (fun b _ _ => NL_congr j (fun u _ _ => by rw [dq_snoc]))
theorem dq_neg (table : Int → Int) : ∀ u : List Int, dq (movQ table) (-1) u = -1
  | [] => rfl
  | b :: u => by
    show movQ table (dq (movQ table) (-1) u) b = -1
    rw [dq_neg table u]
    rfl
theorem bkw_neg (isE : Bool) (table tells : Int → Int) (j : Nat) : bkw isE table tells j (-1) = 0 := by
  unfold bkw
  rw [← NL_false j]
  exact NL_congr j (fun u _ _ => by rw [dq_neg]; rfl)
theorem bkw_zero (isE : Bool) (table tells : Int → Int) {s : Int} (h : 0 ≤ s) : bkw isE table tells 0 s = if 0 ≤ tells s then 1 else 0 := by
  unfold bkw
  rw [NL]
  show (if hasQ isE tells s false = true then (1 : Int64) else 0) = _
  unfold hasQ
  rw [decide_eq_true h]
  show (if (true && decide (0 ≤ tells s)) = true then (1 : Int64) else 0) = _
  by_cases e : 0 ≤ tells s
  · rw [decide_eq_true e, if_pos e]; rfl
  · rw [decide_eq_false e, if_neg e]; rfl
theorem sm_one {g wy : Int → Int64} {strt : Int} {k : Nat} (h0 : 0 ≤ strt) (h1 : strt < k) (hw : ∀ s, 0 ≤ s → s < (k : Int) → wy s = if s = strt then 1 else 0) : sm (fun s => wy s * g s) k = g strt := by
  have h := sm_up (f := fun _ => 0) (g := g) (a := 1) h0 k
  rw [if_pos h1] at h
  have e : sm (fun s => wy s * g s) k = sm (fun t => up (fun _ => (0 : Int64)) strt (0 + 1) t * g t) k := sm_congr k (fun i i0 i1 => by
    rw [hw i i0 i1]
    unfold up
    rfl)
  rw [e, h, sm_congr (f := fun t => 0 * g t) (g := fun _ => 0) k (fun i _ _ => Int64.zero_mul), sm_zero, Int64.zero_add, Int64.one_mul]
theorem cnt_lang {isE : Bool} {table tells : Int → Int} {states strt : Int} {Lg : List Int → Bool} (h : SideO isE table tells states strt Lg) (n : Nat) : bkw isE table tells (n + 1) strt = NL (n + 1) Lg := by
  unfold bkw
  refine NL_congr (n + 1) (fun u hu hl => ?_)
  cases u with
  | nil => cases hl
  | cons b u => exact (h.2.2.2.2.2 b u hu).symm
theorem cO_count {Z : Zk} {wr : va_W} (hfl : Z.l.flags = pinnedFlags ++ [noTraceFlag]) {a : Nat → Nat} {tape : Int → Int} {rp : Nat} {seen : Int → Bool} {queue : Int → Int} {before : Int → Int} {by_ : Int → Int} {text : Int → Int} {ways : Int → Int64} {next : Int → Int64} {length : Int} {taped : Int} {place : Int} {aq aA ap : Nat → Nat} {isE : Bool} {sets : Int → Int64} {moves : Int → Int} {accepts : Int → Int} {heads : Int → Int} {chain : Int → Int} {groups : Int → Int} {news : Int → Int} {lives : Int → Bool} {cnt : Int} {table : Int → Int} {tells : Int → Int} {states : Int} {strt : Int} {bq bA bp : Nat → Nat} {isE' : Bool} {sets' : Int → Int64} {moves' accepts' heads' chain' groups' news' : Int → Int} {lives' : Int → Bool} {cnt' : Int} {table' tells' : Int → Int} {states' strt' : Int} {which n : Int} {Lf Ls : List Int → Bool} (hm : inR which) (hmn : inR n) (hF : SideO isE table tells states strt Lf) (hS : SideO isE' table' tells' states' strt' Ls) :
    Ct Z yX1_count hX1_count 8 230 [.ref (a 0), vI which, vI n] (wO Z a tape (aq 0) (bq 0) rp seen queue before by_ text ways next length taped place ++ (wQ Z aq (ap 0) (aA 0) isE ++ (wA Z aA (ap 0) sets moves accepts heads chain groups news lives cnt table tells states strt ++ (wQ Z bq (bp 0) (bA 0) isE' ++ (wA Z bA (bp 0) sets' moves' accepts' heads' chain' groups' news' lives' cnt' table' tells' states' strt' ++ wr))))) 2 12 (Th (Rl fun r w => ((which = 0 ∨ which = 1) ∧ 0 ≤ n ∧ n ≤ 12) ∧ r = NL n.toNat (if which = 0 then Lf else Ls) ∧ ∃ wy nx, w = wO Z a tape (aq 0) (bq 0) rp seen queue before by_ text wy nx length taped place ++ (wQ Z aq (ap 0) (aA 0) isE ++ (wA Z aA (ap 0) sets moves accepts heads chain groups news lives cnt table tells states strt ++ (wQ Z bq (bp 0) (bA 0) isE' ++ (wA Z bA (bp 0) sets' moves' accepts' heads' chain' groups' news' lives' cnt' table' tells' states' strt' ++ wr))))) (fun x w => ¬ ((which = 0 ∨ which = 1) ∧ 0 ≤ n ∧ n ≤ 12) ∧ ∃ fs, w = (wO Z a tape (aq 0) (bq 0) rp seen queue before by_ text ways next length taped place ++ (wQ Z aq (ap 0) (aA 0) isE ++ (wA Z aA (ap 0) sets moves accepts heads chain groups news lives cnt table tells states strt ++ (wQ Z bq (bp 0) (bA 0) isE' ++ (wA Z bA (bp 0) sets' moves' accepts' heads' chain' groups' news' lives' cnt' table' tells' states' strt' ++ wr))))) ++ [(x, eO 6 fs)])) := by
  refine Ct.of RX1 "count" (by decide +kernel) rfl rfl hkX1_count (Nat.le_of_ble_eq_true rfl) (fun X hZ C => ?_)
  subst hZ
  have body : ∀ (rf rs : Nat) (wr : va_W) (aq aA ap : Nat → Nat) (isE : Bool) (sets : Int → Int64) (moves accepts heads chain groups news : Int → Int) (lives : Int → Bool) (cnt : Int) (table tells : Int → Int) (states strt : Int) (Lg : List Int → Bool), 0 ≤ n → n ≤ 12 → SideO isE table tells states strt Lg → (∀ pc L wy nx, decode cX1_count pc = .ok (.lreturn, 1) → G X 9 2 12 (wO X.Z a tape rf rs rp seen queue before by_ text wy nx length taped place ++ (wQ X.Z aq (ap 0) (aA 0) isE ++ (wA X.Z aA (ap 0) sets moves accepts heads chain groups news lives cnt table tells states strt ++ wr))) pc L [.long (NL n.toNat Lg)]) → G X 9 2 12 (wO X.Z a tape rf rs rp seen queue before by_ text ways next length taped place ++ (wQ X.Z aq (ap 0) (aA 0) isE ++ (wA X.Z aA (ap 0) sets moves accepts heads chain groups news lives cnt table tells states strt ++ wr))) 24 [(0, .ref (a 0)), (1, vI which), (2, vI n), (3, .ref (aq 0))] [] := by
    intro rf rs wr aq aA ap isE sets moves accepts heads chain groups news lives cnt table tells states strt Lg n0 n12 hS hend
    have h200 := hS.1
    have hst := hS.2.1
    have fin : ∀ (wy nx : Int → Int64), 0 < n → sm (fun s => wy s * bkw isE table tells 0 s) states.toNat = NL n.toNat Lg → ∀ (f s : Nat), (s : Int) + (f : Int) = states → G X 9 2 12 (wO X.Z a tape rf rs rp seen queue before by_ text wy nx length taped place ++ (wQ X.Z aq (ap 0) (aA 0) isE ++ (wA X.Z aA (ap 0) sets moves accepts heads chain groups news lives cnt table tells states strt ++ wr))) 254 [(0, .ref (a 0)), (1, vI which), (2, vI n), (3, .ref (aq 0)), (4, vI states), (5, .long (sm (fun s => wy s * bkw isE table tells 0 s) s)), (7, vI (s : Int))] [] := by
      intro wy nx hn hV f
      induction f with
      | zero =>
        intro s hs
        refine g_iload C dX1_count_254 rfl ?_
        refine g_iload C dX1_count_256 rfl ?_
        refine g_icmp_ge C 291 dX1_count_258 (by decide) (by omega) (fun h258 => ?_) (fun h258 => ?_)
        · refine g_lload C dX1_count_291 rfl ?_
          rw [show s = states.toNat by omega, hV]
          exact hend 293 _ _ _ dX1_count_293
        · exact absurd h258 (by omega)
      | succ f ih =>
        intro s hs
        have h2 := ih (s + 1) (by omega)
        have ht := hS.2.2.2.1 s (by omega) (by omega)
        have hb := bkw_zero isE table tells (s := (s : Int)) (by omega)
        refine g_iload C dX1_count_254 rfl ?_
        refine g_iload C dX1_count_256 rfl ?_
        refine g_icmp_ge C 291 dX1_count_258 (by decide) (by omega) (fun h258 => ?_) (fun h258 => ?_)
        · exact absurd h258 (by omega)
        · refine g_aload_n C dX1_count_261 rfl ?_
          refine g_getN C 9 1 in_X2 rfl rfl (by decide) (List.mem_of_getElem? (i := 1) rfl) rfl rfl dX1_count_262 ?_
          refine g_iload C dX1_count_265 rfl ?_
          refine g_cVPi C [_] _ 10 [10, 11, 12, 13, 14, 15, 16, 17, 18, 19, 20] cal_X1_134 (cA_tells (wr := []) (by omega) (by omega)) rfl rfl (by decide) rfl rfl rfl (Nat.le_of_ble_eq_true rfl) (room_b rfl) dX1_count_267 (fun r267 hw267 => ?_)
          subst hw267
          refine g_if_lt C 285 dX1_count_270 (by decide) (by omega) (fun h270 => ?_) (fun h270 => ?_)
          · rw [sm, hb, if_neg (by omega), Int64.mul_zero, Int64.add_zero] at h2
            refine g_iinc C dX1_count_285 rfl (by decide) ?_
            refine g_goto C 254 dX1_count_288 (by decide) ?_
            exact g_locR rfl h2
          · rw [sm, hb, if_pos (by omega), Int64.mul_one] at h2
            refine g_lload C dX1_count_273 rfl ?_
            refine g_aload_n C dX1_count_275 rfl ?_
            refine gO_ways C dX1_count_276 ?_
            refine g_iload C dX1_count_279 rfl ?_
            refine lO_ways C (by omega) dX1_count_281 ?_
            refine g_ladd C dX1_count_282 ?_
            refine g_lstore C dX1_count_283 (by decide) ?_
            refine g_iinc C dX1_count_285 rfl (by decide) ?_
            refine g_goto C 254 dX1_count_288 (by decide) ?_
            exact g_locR rfl h2
    have copy : ∀ (i j : Nat) (nx : Int → Int64), (i : Int) + (j : Int) + 1 = n → sm (fun s => nx s * bkw isE table tells j s) states.toNat = bkw isE table tells n.toNat strt → (∀ wy, sm (fun s => wy s * bkw isE table tells j s) states.toNat = bkw isE table tells n.toNat strt → G X 9 2 12 (wO X.Z a tape rf rs rp seen queue before by_ text wy nx length taped place ++ (wQ X.Z aq (ap 0) (aA 0) isE ++ (wA X.Z aA (ap 0) sets moves accepts heads chain groups news lives cnt table tells states strt ++ wr))) 105 [(0, .ref (a 0)), (1, vI which), (2, vI n), (3, .ref (aq 0)), (4, vI states), (5, vI ((i + 1 : Nat) : Int))] []) → ∀ (f : Nat) (s : Int) (wy : Int → Int64), 0 ≤ s → s + (f : Int) = states → (∀ t, 0 ≤ t → t < s → wy t = nx t) → G X 9 2 12 (wO X.Z a tape rf rs rp seen queue before by_ text wy nx length taped place ++ (wQ X.Z aq (ap 0) (aA 0) isE ++ (wA X.Z aA (ap 0) sets moves accepts heads chain groups news lives cnt table tells states strt ++ wr))) 215 [(0, .ref (a 0)), (1, vI which), (2, vI n), (3, .ref (aq 0)), (4, vI states), (5, vI (i : Int)), (6, vI s)] [] := by
      intro i j nx hij hV hk f
      induction f with
      | zero =>
        intro s wy s0 hs hw
        have h2 := hk wy (by rw [← hV]; exact sm_congr _ (fun t t0 t1 => by rw [hw t t0 (by omega)]))
        refine g_iload C dX1_count_215 rfl ?_
        refine g_iload C dX1_count_217 rfl ?_
        refine g_icmp_ge C 242 dX1_count_219 (by decide) (by omega) (fun h219 => ?_) (fun h219 => ?_)
        · refine g_iinc C dX1_count_242 rfl (by decide) ?_
          refine g_goto C 105 dX1_count_245 (by decide) ?_
          exact g_locR rfl h2
        · exact absurd h219 (by omega)
      | succ f ih =>
        intro s wy s0 hs hw
        refine g_iload C dX1_count_215 rfl ?_
        refine g_iload C dX1_count_217 rfl ?_
        refine g_icmp_ge C 242 dX1_count_219 (by decide) (by omega) (fun h219 => ?_) (fun h219 => ?_)
        · exact absurd h219 (by omega)
        · refine g_aload_n C dX1_count_222 rfl ?_
          refine gO_ways C dX1_count_223 ?_
          refine g_iload C dX1_count_226 rfl ?_
          refine g_aload_n C dX1_count_228 rfl ?_
          refine gO_next C dX1_count_229 ?_
          refine g_iload C dX1_count_232 rfl ?_
          refine lO_next C (by omega) dX1_count_234 ?_
          refine sO_ways C (by omega) dX1_count_235 ?_
          refine g_iinc C dX1_count_236 rfl (by decide) ?_
          refine g_goto C 215 dX1_count_239 (by decide) ?_
          exact g_locR rfl (ih (s + 1) _ (by omega) (by omega) (fun t t0 t1 => by by_cases e : t = s; (rw [e, up_same]); (rw [up_ne _ _ e]; exact hw t t0 (by omega))))
    have inn : ∀ (i j s : Nat) (wy : Int → Int64), (i : Int) + (j : Int) + 1 = n → (s : Int) < states → (∀ nx, sm (fun s => nx s * bkw isE table tells j s) states.toNat = sm (fun t => wy t * bkw isE table tells (j + 1) t) (s + 1) → G X 9 2 12 (wO X.Z a tape rf rs rp seen queue before by_ text wy nx length taped place ++ (wQ X.Z aq (ap 0) (aA 0) isE ++ (wA X.Z aA (ap 0) sets moves accepts heads chain groups news lives cnt table tells states strt ++ wr))) 138 [(0, .ref (a 0)), (1, vI which), (2, vI n), (3, .ref (aq 0)), (4, vI states), (5, vI (i : Int)), (6, vI ((s + 1 : Nat) : Int))] []) → ∀ (f b : Nat) (nx : Int → Int64), (b : Int) + (f : Int) = 128 → sm (fun s => nx s * bkw isE table tells j s) states.toNat = sm (fun t => wy t * bkw isE table tells (j + 1) t) s + wy s * sm (fun b => bkw isE table tells j (movQ table s b)) b → G X 9 2 12 (wO X.Z a tape rf rs rp seen queue before by_ text wy nx length taped place ++ (wQ X.Z aq (ap 0) (aA 0) isE ++ (wA X.Z aA (ap 0) sets moves accepts heads chain groups news lives cnt table tells states strt ++ wr))) 148 [(0, .ref (a 0)), (1, vI which), (2, vI n), (3, .ref (aq 0)), (4, vI states), (5, vI (i : Int)), (6, vI (s : Int)), (7, vI (b : Int))] [] := by
      intro i j s wy hij hs hk f
      induction f with
      | zero =>
        intro b nx hb hV
        have h2 := hk nx (by rw [hV, sm, bkw_succ, show b = 128 by omega])
        refine g_iload C dX1_count_148 rfl ?_
        refine g_sipush C dX1_count_150 (by decide) ?_
        refine g_icmp_ge C 206 dX1_count_153 (by decide) (by omega) (fun h153 => ?_) (fun h153 => ?_)
        · refine g_iinc C dX1_count_206 rfl (by decide) ?_
          refine g_goto C 138 dX1_count_209 (by decide) ?_
          exact g_locR rfl h2
        · exact absurd h153 (by omega)
      | succ f ih =>
        intro b nx hb hV
        have hmv := hS.mv (s := (s : Int)) (b := (b : Int)) (by omega) hs (by omega) (by omega)
        refine g_iload C dX1_count_148 rfl ?_
        refine g_sipush C dX1_count_150 (by decide) ?_
        refine g_icmp_ge C 206 dX1_count_153 (by decide) (by omega) (fun h153 => ?_) (fun h153 => ?_)
        · exact absurd h153 (by omega)
        · refine g_aload_n C dX1_count_156 rfl ?_
          refine gO_ways C dX1_count_157 ?_
          refine g_iload C dX1_count_160 rfl ?_
          refine lO_ways C (by omega) dX1_count_162 ?_
          refine g_lconst C 0 dX1_count_163 rfl ?_
          refine g_lcmp C dX1_count_164 ?_
          refine g_if_eq C 206 dX1_count_165 (by decide) (lcmp_r _ _) (fun h165 => ?_) (fun h165 => ?_)
          · have hz : wy s = 0 := (lcmp_0 _ _).mp h165
            have h2 := hk nx (by rw [hV, sm, hz, Int64.zero_mul, Int64.zero_mul])
            refine g_iinc C dX1_count_206 rfl (by decide) ?_
            refine g_goto C 138 dX1_count_209 (by decide) ?_
            exact g_locR rfl h2
          · refine g_aload_n C dX1_count_168 rfl ?_
            refine g_iload C dX1_count_169 rfl ?_
            refine g_iload C dX1_count_171 rfl ?_
            refine g_cVPi C [_, _] _ 9 [9, 10, 11, 12, 13, 14, 15, 16, 17, 18, 19, 20] cal_X1_109 (cQ_move (wr := []) (by omega) (by omega) (by omega) (by omega)) rfl rfl (by decide) rfl rfl rfl (Nat.le_of_ble_eq_true rfl) (room_b rfl) dX1_count_173 (fun r173 hw173 => ?_)
            subst hw173
            refine g_istore C dX1_count_176 (by decide) ?_
            refine g_iload C dX1_count_178 rfl ?_
            refine g_if_lt C 200 dX1_count_180 (by decide) (by omega) (fun h180 => ?_) (fun h180 => ?_)
            · have h3 := ih (b + 1) nx (by omega) (by rw [hV, sm, show movQ table s b = -1 by omega, bkw_neg, Int64.add_zero])
              refine g_iinc C dX1_count_200 rfl (by decide) ?_
              refine g_goto C 148 dX1_count_203 (by decide) ?_
              exact g_locR rfl h3
            · have h3 := ih (b + 1) (up nx (movQ table s b) (nx (movQ table s b) + wy s)) (by omega) (by rw [sm_up (by omega), if_pos (by omega), hV, sm, Int64.mul_add, Int64.add_assoc])
              refine g_aload_n C dX1_count_183 rfl ?_
              refine gO_next C dX1_count_184 ?_
              refine g_iload C dX1_count_187 rfl ?_
              refine g_dup2_11 C dX1_count_189 rfl rfl ?_
              refine lO_next C (by omega) dX1_count_190 ?_
              refine g_aload_n C dX1_count_191 rfl ?_
              refine gO_ways C dX1_count_192 ?_
              refine g_iload C dX1_count_195 rfl ?_
              refine lO_ways C (by omega) dX1_count_197 ?_
              refine g_ladd C dX1_count_198 ?_
              refine sO_next C (by omega) dX1_count_199 ?_
              refine g_iinc C dX1_count_200 rfl (by decide) ?_
              refine g_goto C 148 dX1_count_203 (by decide) ?_
              exact g_locR rfl h3
    have mid : ∀ (i j : Nat) (wy : Int → Int64), (i : Int) + (j : Int) + 1 = n → sm (fun t => wy t * bkw isE table tells (j + 1) t) states.toNat = bkw isE table tells n.toNat strt → (∀ wy nx, sm (fun s => wy s * bkw isE table tells j s) states.toNat = bkw isE table tells n.toNat strt → G X 9 2 12 (wO X.Z a tape rf rs rp seen queue before by_ text wy nx length taped place ++ (wQ X.Z aq (ap 0) (aA 0) isE ++ (wA X.Z aA (ap 0) sets moves accepts heads chain groups news lives cnt table tells states strt ++ wr))) 105 [(0, .ref (a 0)), (1, vI which), (2, vI n), (3, .ref (aq 0)), (4, vI states), (5, vI ((i + 1 : Nat) : Int))] []) → ∀ (f s : Nat) (nx : Int → Int64), (s : Int) + (f : Int) = states → sm (fun s => nx s * bkw isE table tells j s) states.toNat = sm (fun t => wy t * bkw isE table tells (j + 1) t) s → G X 9 2 12 (wO X.Z a tape rf rs rp seen queue before by_ text wy nx length taped place ++ (wQ X.Z aq (ap 0) (aA 0) isE ++ (wA X.Z aA (ap 0) sets moves accepts heads chain groups news lives cnt table tells states strt ++ wr))) 138 [(0, .ref (a 0)), (1, vI which), (2, vI n), (3, .ref (aq 0)), (4, vI states), (5, vI (i : Int)), (6, vI (s : Int))] [] := by
      intro i j wy hij hW hk f
      induction f with
      | zero =>
        intro s nx hs hV
        have hV2 : sm (fun s => nx s * bkw isE table tells j s) states.toNat = bkw isE table tells n.toNat strt := by rw [hV, ← hW, show s = states.toNat by omega]
        refine g_iload C dX1_count_138 rfl ?_
        refine g_iload C dX1_count_140 rfl ?_
        refine g_icmp_ge C 212 dX1_count_142 (by decide) (by omega) (fun h142 => ?_) (fun h142 => ?_)
        · refine g_iconst C dX1_count_212 ?_
          refine g_istore C dX1_count_213 (by decide) ?_
          exact g_locR rfl (copy i j nx hij hV2 (fun wy h => hk wy nx h) states.toNat 0 wy (by decide) (by omega) (fun t t0 t1 => by omega))
        · exact absurd h142 (by omega)
      | succ f ih =>
        intro s nx hs hV
        refine g_iload C dX1_count_138 rfl ?_
        refine g_iload C dX1_count_140 rfl ?_
        refine g_icmp_ge C 212 dX1_count_142 (by decide) (by omega) (fun h142 => ?_) (fun h142 => ?_)
        · exact absurd h142 (by omega)
        · refine g_iconst C dX1_count_145 ?_
          refine g_istore C dX1_count_146 (by decide) ?_
          exact g_locR rfl (inn i j s wy hij (by omega) (fun nx h => ih (s + 1) nx (by omega) h) 128 0 nx (by decide) (by rw [hV, sm, Int64.mul_zero, Int64.add_zero]))
    have clr : ∀ (i j : Nat) (wy : Int → Int64), (i : Int) + (j : Int) + 1 = n → (∀ nx, sm (fun s => nx s * bkw isE table tells j s) states.toNat = 0 → G X 9 2 12 (wO X.Z a tape rf rs rp seen queue before by_ text wy nx length taped place ++ (wQ X.Z aq (ap 0) (aA 0) isE ++ (wA X.Z aA (ap 0) sets moves accepts heads chain groups news lives cnt table tells states strt ++ wr))) 138 [(0, .ref (a 0)), (1, vI which), (2, vI n), (3, .ref (aq 0)), (4, vI states), (5, vI (i : Int)), (6, vI ((0 : Nat) : Int))] []) → ∀ (f : Nat) (s : Int) (nx : Int → Int64), 0 ≤ s → s + (f : Int) = states → (∀ t, 0 ≤ t → t < s → nx t = 0) → G X 9 2 12 (wO X.Z a tape rf rs rp seen queue before by_ text wy nx length taped place ++ (wQ X.Z aq (ap 0) (aA 0) isE ++ (wA X.Z aA (ap 0) sets moves accepts heads chain groups news lives cnt table tells states strt ++ wr))) 114 [(0, .ref (a 0)), (1, vI which), (2, vI n), (3, .ref (aq 0)), (4, vI states), (5, vI (i : Int)), (6, vI s)] [] := by
      intro i j wy hij hk f
      induction f with
      | zero =>
        intro s nx s0 hs hw
        have h2 := hk nx (by rw [← sm_zero states.toNat]; exact sm_congr _ (fun t t0 t1 => by rw [hw t t0 (by omega), Int64.zero_mul]))
        refine g_iload C dX1_count_114 rfl ?_
        refine g_iload C dX1_count_116 rfl ?_
        refine g_icmp_ge C 135 dX1_count_118 (by decide) (by omega) (fun h118 => ?_) (fun h118 => ?_)
        · refine g_iconst C dX1_count_135 ?_
          refine g_istore C dX1_count_136 (by decide) ?_
          exact g_locR rfl h2
        · exact absurd h118 (by omega)
      | succ f ih =>
        intro s nx s0 hs hw
        refine g_iload C dX1_count_114 rfl ?_
        refine g_iload C dX1_count_116 rfl ?_
        refine g_icmp_ge C 135 dX1_count_118 (by decide) (by omega) (fun h118 => ?_) (fun h118 => ?_)
        · exact absurd h118 (by omega)
        · refine g_aload_n C dX1_count_121 rfl ?_
          refine gO_next C dX1_count_122 ?_
          refine g_iload C dX1_count_125 rfl ?_
          refine g_lconst C 0 dX1_count_127 rfl ?_
          refine sO_next C (by omega) dX1_count_128 ?_
          refine g_iinc C dX1_count_129 rfl (by decide) ?_
          refine g_goto C 114 dX1_count_132 (by decide) ?_
          exact g_locR rfl (ih (s + 1) _ (by omega) (by omega) (fun t t0 t1 => by by_cases e : t = s; (rw [e, up_same]); (rw [up_ne _ _ e]; exact hw t t0 (by omega))))
    have rnd : 0 < n → ∀ (f i : Nat) (wy nx : Int → Int64), (i : Int) + (f : Int) = n → sm (fun t => wy t * bkw isE table tells f t) states.toNat = bkw isE table tells n.toNat strt → G X 9 2 12 (wO X.Z a tape rf rs rp seen queue before by_ text wy nx length taped place ++ (wQ X.Z aq (ap 0) (aA 0) isE ++ (wA X.Z aA (ap 0) sets moves accepts heads chain groups news lives cnt table tells states strt ++ wr))) 105 [(0, .ref (a 0)), (1, vI which), (2, vI n), (3, .ref (aq 0)), (4, vI states), (5, vI (i : Int))] [] := by
      intro hn f
      induction f with
      | zero =>
        intro i wy nx hi hW
        have e : n.toNat = n.toNat - 1 + 1 := by omega
        have hW2 : sm (fun t => wy t * bkw isE table tells 0 t) states.toNat = NL n.toNat Lg := by rw [hW, e]; exact cnt_lang hS _
        refine g_iload C dX1_count_105 rfl ?_
        refine g_iload_n C dX1_count_107 rfl ?_
        refine g_icmp_ge C 248 dX1_count_108 (by decide) (by omega) (fun h108 => ?_) (fun h108 => ?_)
        · refine g_lconst C 0 dX1_count_248 rfl ?_
          refine g_lstore C dX1_count_249 (by decide) ?_
          refine g_iconst C dX1_count_251 ?_
          refine g_istore C dX1_count_252 (by decide) ?_
          exact g_locR rfl (fin wy nx hn hW2 states.toNat 0 (by omega))
        · exact absurd h108 (by omega)
      | succ f ih =>
        intro i wy nx hi hW
        refine g_iload C dX1_count_105 rfl ?_
        refine g_iload_n C dX1_count_107 rfl ?_
        refine g_icmp_ge C 248 dX1_count_108 (by decide) (by omega) (fun h108 => ?_) (fun h108 => ?_)
        · exact absurd h108 (by omega)
        · refine g_iconst C dX1_count_111 ?_
          refine g_istore C dX1_count_112 (by decide) ?_
          exact g_locR rfl (clr i f wy (by omega) (fun nx h => mid i f wy (by omega) hW (fun wy nx h2 => ih (i + 1) wy nx (by omega) h2) states.toNat 0 nx (by omega) h) states.toNat 0 nx (by decide) (by omega) (fun t t0 t1 => by omega))
    have ini : 0 < n → 0 ≤ strt → ∀ (f : Nat) (s : Int) (wy nx : Int → Int64), 0 ≤ s → s + (f : Int) = states → (∀ t, 0 ≤ t → t < s → wy t = if t = strt then 1 else 0) → G X 9 2 12 (wO X.Z a tape rf rs rp seen queue before by_ text wy nx length taped place ++ (wQ X.Z aq (ap 0) (aA 0) isE ++ (wA X.Z aA (ap 0) sets moves accepts heads chain groups news lives cnt table tells states strt ++ wr))) 65 [(0, .ref (a 0)), (1, vI which), (2, vI n), (3, .ref (aq 0)), (4, vI states), (5, vI s)] [] := by
      intro hn st0 f
      induction f with
      | zero =>
        intro s wy nx s0 hs hw
        refine g_iload C dX1_count_65 rfl ?_
        refine g_iload C dX1_count_67 rfl ?_
        refine g_icmp_ge C 102 dX1_count_69 (by decide) (by omega) (fun h69 => ?_) (fun h69 => ?_)
        · refine g_iconst C dX1_count_102 ?_
          refine g_istore C dX1_count_103 (by decide) ?_
          exact g_locR rfl (rnd hn n.toNat 0 wy nx (by omega) (sm_one st0 (by omega) (fun t t0 t1 => hw t t0 (by omega))))
        · exact absurd h69 (by omega)
      | succ f ih =>
        intro s wy nx s0 hs hw
        refine g_iload C dX1_count_65 rfl ?_
        refine g_iload C dX1_count_67 rfl ?_
        refine g_icmp_ge C 102 dX1_count_69 (by decide) (by omega) (fun h69 => ?_) (fun h69 => ?_)
        · exact absurd h69 (by omega)
        · refine g_aload_n C dX1_count_72 rfl ?_
          refine gO_ways C dX1_count_73 ?_
          refine g_iload C dX1_count_76 rfl ?_
          refine g_iload C dX1_count_78 rfl ?_
          refine g_aload_n C dX1_count_80 rfl ?_
          refine g_getN C 9 1 in_X2 rfl rfl (by decide) (List.mem_of_getElem? (i := 1) rfl) rfl rfl dX1_count_81 ?_
          refine g_cVPi C [] _ 10 [10, 11, 12, 13, 14, 15, 16, 17, 18, 19, 20] cal_X1_106 (cA_start (wr := [])) rfl rfl (by decide) rfl rfl rfl (Nat.le_of_ble_eq_true rfl) (room_b rfl) dX1_count_84 (fun r84 hw84 => ?_)
          subst r84
          refine g_icmp_ne C 94 dX1_count_87 (by decide) (by omega) (fun h87 => ?_) (fun h87 => ?_)
          · refine g_lconst C 0 dX1_count_94 rfl ?_
            refine sO_ways C (by omega) dX1_count_95 ?_
            refine g_iinc C dX1_count_96 rfl (by decide) ?_
            refine g_goto C 65 dX1_count_99 (by decide) ?_
            exact g_locR rfl (ih (s + 1) _ nx (by omega) (by omega) (fun t t0 t1 => by by_cases e : t = s; (rw [e, up_same]; first | rw [if_neg (by omega)] | rw [if_pos (by omega)]); (rw [up_ne _ _ e]; exact hw t t0 (by omega))))
          · refine g_lconst C 1 dX1_count_90 rfl ?_
            refine g_goto C 95 dX1_count_91 (by decide) ?_
            refine sO_ways C (by omega) dX1_count_95 ?_
            refine g_iinc C dX1_count_96 rfl (by decide) ?_
            refine g_goto C 65 dX1_count_99 (by decide) ?_
            exact g_locR rfl (ih (s + 1) _ nx (by omega) (by omega) (fun t t0 t1 => by by_cases e : t = s; (rw [e, up_same]; first | rw [if_neg (by omega)] | rw [if_pos (by omega)]); (rw [up_ne _ _ e]; exact hw t t0 (by omega))))
    refine g_iload_n C dX1_count_24 rfl ?_
    refine g_if_ne C 41 dX1_count_25 (by decide) (by omega) (fun h25 => ?_) (fun h25 => ?_)
    · refine g_aload_n C dX1_count_41 rfl ?_
      refine g_getN C 9 1 in_X2 rfl rfl (by decide) (List.mem_of_getElem? (i := 1) rfl) rfl rfl dX1_count_42 ?_
      refine g_cVPi C [] _ 10 [10, 11, 12, 13, 14, 15, 16, 17, 18, 19, 20] cal_X1_97 (cA_states (wr := [])) rfl rfl (by decide) rfl rfl rfl (Nat.le_of_ble_eq_true rfl) (room_b rfl) dX1_count_45 (fun r45 hw45 => ?_)
      subst r45
      refine g_istore C dX1_count_48 (by decide) ?_
      refine g_aload_n C dX1_count_50 rfl ?_
      refine g_getN C 9 1 in_X2 rfl rfl (by decide) (List.mem_of_getElem? (i := 1) rfl) rfl rfl dX1_count_51 ?_
      refine g_cVPi C [] _ 10 [10, 11, 12, 13, 14, 15, 16, 17, 18, 19, 20] cal_X1_106 (cA_start (wr := [])) rfl rfl (by decide) rfl rfl rfl (Nat.le_of_ble_eq_true rfl) (room_b rfl) dX1_count_54 (fun r54 hw54 => ?_)
      subst r54
      refine g_if_ge C 62 dX1_count_57 (by decide) (by omega) (fun h57 => ?_) (fun h57 => ?_)
      · refine g_iconst C dX1_count_62 ?_
        refine g_istore C dX1_count_63 (by decide) ?_
        exact g_locR rfl (ini (by omega) (by omega) states.toNat 0 _ _ (by decide) (by omega) (fun t t0 t1 => by omega))
      · refine g_lconst C 0 dX1_count_60 rfl ?_
        have e : n.toNat = n.toNat - 1 + 1 := by omega
        refine g_topl (show _ = NL n.toNat Lg from by rw [e, ← cnt_lang hS, show strt = -1 by omega, bkw_neg]) ?_
        exact hend 61 _ _ _ dX1_count_61
    · have hn : n = 0 := by omega
      refine g_aload_n C dX1_count_28 rfl ?_
      refine g_getN C 9 2 in_X2 rfl rfl (by decide) (List.mem_of_getElem? (i := 2) rfl) rfl rfl dX1_count_29 ?_
      refine g_if_eq C 39 dX1_count_32 (by decide) (b2_r _) (fun h32 => ?_) (fun h32 => ?_)
      · have he : isE = false := (b2_0 _).mp h32
        refine g_lconst C 0 dX1_count_39 rfl ?_
        refine g_topl (show _ = NL n.toNat Lg from by rw [hn]; show _ = (if Lg [] = true then (1 : Int64) else 0); rw [hS.2.2.2.2.1, he]; rfl) ?_
        exact hend 40 _ _ _ dX1_count_40
      · have he : isE = true := (b2_ne0 _).mp h32
        refine g_lconst C 1 dX1_count_35 rfl ?_
        refine g_goto C 40 dX1_count_36 (by decide) ?_
        refine g_topl (show _ = NL n.toNat Lg from by rw [hn]; show _ = (if Lg [] = true then (1 : Int64) else 0); rw [hS.2.2.2.2.1, he]; rfl) ?_
        exact hend 40 _ _ _ dX1_count_40
  have main : (which = 0 ∨ which = 1) → G X 9 1 6 (wO X.Z a tape (aq 0) (bq 0) rp seen queue before by_ text ways next length taped place ++ (wQ X.Z aq (ap 0) (aA 0) isE ++ (wA X.Z aA (ap 0) sets moves accepts heads chain groups news lives cnt table tells states strt ++ (wQ X.Z bq (bp 0) (bA 0) isE' ++ (wA X.Z bA (bp 0) sets' moves' accepts' heads' chain' groups' news' lives' cnt' table' tells' states' strt' ++ wr))))) 6 [(0, .ref (a 0)), (1, vI which), (2, vI n), (3, .ref (if which = 0 then aq 0 else bq 0))] [] := by
    intro hwh
    refine g_iload_n C dX1_count_6 rfl ?_
    refine g_if_lt C 20 dX1_count_7 (by decide) (by omega) (fun h7 => ?_) (fun h7 => ?_)
    · refine g_iconst C dX1_count_20 ?_
      refine g_top (show _ = b2 (decide (0 ≤ n ∧ n ≤ 12)) from by first | (rw [decide_eq_true (show 0 ≤ n ∧ n ≤ 12 by omega)]; rfl) | (rw [decide_eq_false (show ¬ (0 ≤ n ∧ n ≤ 12) by omega)]; rfl)) ?_
      refine g_cSWvT C [_] _ cal_X1_77 (cO_in hfl) rfl rfl (Nat.le_of_ble_eq_true rfl) (room_b rfl) dX1_count_21 (fun w hw21 => ?_) (fun x21 w hw21 => ?_)
      · obtain ⟨hy, rfl⟩ := hw21
        have hn := of_decide_eq_true hy
        by_cases e : which = 0
        · rw [if_pos e]
          exact g_locR rfl (body _ _ _ _ _ ap _ _ _ _ _ _ _ _ _ _ _ _ _ _ Lf hn.1 hn.2 hF (fun pc L wy nx hd => g_lret C rfl (Or.inl ⟨_, rfl, ⟨hwh, hn⟩, by rw [if_pos e], _, _, rfl⟩) hd))
        · rw [if_neg e]
          refine g_perm (pm_swap _ _ _ _ _ _) ?_
          exact g_locR rfl (body _ _ _ _ _ bp _ _ _ _ _ _ _ _ _ _ _ _ _ _ Ls hn.1 hn.2 hS (fun pc L wy nx hd => g_perm (pm_swap _ _ _ _ _ _) (g_lret C rfl (Or.inl ⟨_, rfl, ⟨hwh, hn⟩, by rw [if_neg e], _, _, rfl⟩) hd)))
      · obtain ⟨hy, fs, rfl⟩ := hw21
        exact gt_out C rfl (Or.inr ⟨_, rfl, fun h => of_decide_eq_false hy h.2, _, rfl⟩)
    · refine g_iload_n C dX1_count_10 rfl ?_
      refine g_bipush C dX1_count_11 (by decide) ?_
      refine g_icmp_gt C 20 dX1_count_13 (by decide) (by omega) (fun h13 => ?_) (fun h13 => ?_)
      · refine g_iconst C dX1_count_20 ?_
        refine g_top (show _ = b2 (decide (0 ≤ n ∧ n ≤ 12)) from by first | (rw [decide_eq_true (show 0 ≤ n ∧ n ≤ 12 by omega)]; rfl) | (rw [decide_eq_false (show ¬ (0 ≤ n ∧ n ≤ 12) by omega)]; rfl)) ?_
        refine g_cSWvT C [_] _ cal_X1_77 (cO_in hfl) rfl rfl (Nat.le_of_ble_eq_true rfl) (room_b rfl) dX1_count_21 (fun w hw21 => ?_) (fun x21 w hw21 => ?_)
        · obtain ⟨hy, rfl⟩ := hw21
          have hn := of_decide_eq_true hy
          by_cases e : which = 0
          · rw [if_pos e]
            exact g_locR rfl (body _ _ _ _ _ ap _ _ _ _ _ _ _ _ _ _ _ _ _ _ Lf hn.1 hn.2 hF (fun pc L wy nx hd => g_lret C rfl (Or.inl ⟨_, rfl, ⟨hwh, hn⟩, by rw [if_pos e], _, _, rfl⟩) hd))
          · rw [if_neg e]
            refine g_perm (pm_swap _ _ _ _ _ _) ?_
            exact g_locR rfl (body _ _ _ _ _ bp _ _ _ _ _ _ _ _ _ _ _ _ _ _ Ls hn.1 hn.2 hS (fun pc L wy nx hd => g_perm (pm_swap _ _ _ _ _ _) (g_lret C rfl (Or.inl ⟨_, rfl, ⟨hwh, hn⟩, by rw [if_neg e], _, _, rfl⟩) hd)))
        · obtain ⟨hy, fs, rfl⟩ := hw21
          exact gt_out C rfl (Or.inr ⟨_, rfl, fun h => of_decide_eq_false hy h.2, _, rfl⟩)
      · refine g_iconst C dX1_count_16 ?_
        refine g_goto C 21 dX1_count_17 (by decide) ?_
        refine g_top (show _ = b2 (decide (0 ≤ n ∧ n ≤ 12)) from by first | (rw [decide_eq_true (show 0 ≤ n ∧ n ≤ 12 by omega)]; rfl) | (rw [decide_eq_false (show ¬ (0 ≤ n ∧ n ≤ 12) by omega)]; rfl)) ?_
        refine g_cSWvT C [_] _ cal_X1_77 (cO_in hfl) rfl rfl (Nat.le_of_ble_eq_true rfl) (room_b rfl) dX1_count_21 (fun w hw21 => ?_) (fun x21 w hw21 => ?_)
        · obtain ⟨hy, rfl⟩ := hw21
          have hn := of_decide_eq_true hy
          by_cases e : which = 0
          · rw [if_pos e]
            exact g_locR rfl (body _ _ _ _ _ ap _ _ _ _ _ _ _ _ _ _ _ _ _ _ Lf hn.1 hn.2 hF (fun pc L wy nx hd => g_lret C rfl (Or.inl ⟨_, rfl, ⟨hwh, hn⟩, by rw [if_pos e], _, _, rfl⟩) hd))
          · rw [if_neg e]
            refine g_perm (pm_swap _ _ _ _ _ _) ?_
            exact g_locR rfl (body _ _ _ _ _ bp _ _ _ _ _ _ _ _ _ _ _ _ _ _ Ls hn.1 hn.2 hS (fun pc L wy nx hd => g_perm (pm_swap _ _ _ _ _ _) (g_lret C rfl (Or.inl ⟨_, rfl, ⟨hwh, hn⟩, by rw [if_neg e], _, _, rfl⟩) hd)))
        · obtain ⟨hy, fs, rfl⟩ := hw21
          exact gt_out C rfl (Or.inr ⟨_, rfl, fun h => of_decide_eq_false hy h.2, _, rfl⟩)
  refine g_aload_n C dX1_count_0 rfl ?_
  refine g_iload_n C dX1_count_1 rfl ?_
  refine g_cVWrT C [_] _ 0 cal_X1_80 (cO_pattern hfl hm) rfl rfl rfl rfl (Nat.le_of_ble_eq_true rfl) (room_b rfl) dX1_count_2 (fun r2 w hw2 => ?_) (fun x2 w hw2 => ?_)
  · obtain ⟨hwh, hr, rfl⟩ := hw2
    subst hr
    refine g_astore_n C dX1_count_5 (by decide) ?_
    exact g_locR rfl (main hwh)
  · obtain ⟨hy, fs, rfl⟩ := hw2
    refine gt_widen (k' := 2) (n' := 12) (by decide) (by decide) ?_
    exact gt_out C rfl (Or.inr ⟨_, rfl, fun h => hy h.1, _, rfl⟩)
