/-! the law: what an operation does, on plain states; PatternPairs by it -/
theorem i2b_rng (x : Int) : -128 ≤ i2b x ∧ i2b x < 128 := by
  unfold i2b
  rw [Int8.toInt_toInt32]
  exact ⟨Int8.le_toInt _, Int8.toInt_lt _⟩
theorem fd_bv (x : BitVec 32) (k : Nat) (hk : k ≤ 24) : (x >>> k).signExtend 8 = (x.sshiftRight k).signExtend 8 := by
  rw [BitVec.signExtend_eq_setWidth_of_le _ (by decide), BitVec.signExtend_eq_setWidth_of_le _ (by decide)]
  apply BitVec.eq_of_getLsbD_eq
  intro i hi
  rw [BitVec.getLsbD_setWidth, BitVec.getLsbD_setWidth, BitVec.getLsbD_ushiftRight, BitVec.getLsbD_sshiftRight]
  rw [if_pos (show k + i < 32 by omega), show decide (32 ≤ i) = false from decide_eq_false (by omega)]
  rfl
theorem sh_bv (a b c : Int32) (d : UInt32) (k : Nat) (hk : k ≤ 24) (e : (c.toBitVec.smod 32).toNat = k) (e2 : (d.toBitVec % 32#32).toNat = k) : (a.toUInt32 >>> d).toInt32.toInt8 = (a >>> c).toInt8 := by
  apply Int8.toBitVec_inj.mp
  show (a.toBitVec >>> (d.toBitVec % 32#32).toNat).signExtend 8 = (a.toBitVec.sshiftRight (c.toBitVec.smod 32).toNat).signExtend 8
  rw [e, e2]
  exact fd_bv _ _ hk
theorem fd_k {v k : Int} {n : Nat} (hn : n ≤ 24) (e : ((iI k &&& 31).toBitVec.smod 32).toNat = n) (e2 : (((iI k).toUInt32 &&& Int32.toUInt32 31).toBitVec % 32#32).toNat = n) : fdO v k = fdM v k := by
  have h : i2b (iushr v k) = i2b (ishr v k) := by
    unfold i2b iushr ishr
    rw [iI_self, iI_self, sh_bv (iI v) 0 (iI k &&& 31) _ n hn e e2]
  unfold fdO fdM
  rw [h]
theorem put4_eq (t : Int → Int) (p v : Int) : put4 fdO t p v = put4 fdM t p v := by
  unfold put4
  rw [fd_k (n := 24) (by decide) (by decide +kernel) (by decide +kernel), fd_k (k := 16) (n := 16) (by decide) (by decide +kernel) (by decide +kernel), fd_k (k := 8) (n := 8) (by decide) (by decide +kernel) (by decide +kernel), fd_k (k := 0) (n := 0) (by decide) (by decide +kernel) (by decide +kernel)]
theorem BytT.up {t : Int → Int} {i x : Int} (h : BytT t) (hx : -128 ≤ x ∧ x < 128) : BytT (up t i x) := fun j j0 j1 => by
  by_cases e : j = i
  · rw [e, up_same]; exact hx
  · rw [up_ne _ _ e]; exact h j j0 j1
theorem BytT.put4 {t : Int → Int} {p v : Int} (h : BytT t) : BytT (put4 fdM t p v) := (((h.up (i2b_rng _)).up (i2b_rng _)).up (i2b_rng _)).up (i2b_rng _)
/-- a state of both: tape, taped, place, length, text, languages -/
abbrev Sg : Type := (Int → Int) × Int × Int × Int × (Int → Int) × (List Int → Bool) × (List Int → Bool)
abbrev Sg.tape (S : Sg) : Int → Int := S.1
abbrev Sg.taped (S : Sg) : Int := S.2.1
abbrev Sg.place (S : Sg) : Int := S.2.2.1
abbrev Sg.len (S : Sg) : Int := S.2.2.2.1
abbrev Sg.text (S : Sg) : Int → Int := S.2.2.2.2.1
abbrev Sg.Lf (S : Sg) : List Int → Bool := S.2.2.2.2.2.1
abbrev Sg.Ls (S : Sg) : List Int → Bool := S.2.2.2.2.2.2
def SgOk (S : Sg) : Prop := (0 ≤ S.taped ∧ S.taped ≤ 2048) ∧ BytT S.tape ∧ (0 ≤ S.len ∧ S.len ≤ 40402) ∧ -1 ≤ S.place ∧ S.place ≤ 2048
def OB (Z : Zk) (a : Nat → Nat) (S : Sg) (w : va_W) : Prop := ObjO Z a S.tape S.taped S.place S.len S.text S.Lf S.Ls w
def bl (b : Bool) : Int64 := bif b then 1 else 0
def AcFeed (S : Sg) (p1 p2 p3 p4 p5 : Int) (c : Int) (v : Int64) (S' : Sg) : Prop :=
  (S.taped ≤ 2028 ∧ c = 0 ∧ v = i2l (S.taped + 20) ∧ S' = (put4 fdM (put4 fdM (put4 fdM (put4 fdM (put4 fdM S.tape S.taped p1) (S.taped + 4) p2) (S.taped + 4 + 4) p3) (S.taped + 4 + 4 + 4) p4) (S.taped + 4 + 4 + 4 + 4) p5, S.taped + 20, S.place, S.len, S.text, S.Lf, S.Ls)) ∨ (2028 < S.taped ∧ c = 1 ∧ S' = S)
def AcEnd (S : Sg) (m : Int) (c : Int) (v : Int64) (S' : Sg) : Prop :=
  ((0 ≤ m ∧ m ≤ S.taped) ∧ c = 0 ∧ v = i2l m ∧ S' = (S.tape, m, S.place, S.len, S.text, S.Lf, S.Ls)) ∨ (¬ (0 ≤ m ∧ m ≤ S.taped) ∧ c = 1 ∧ S' = S)
def AcOctet (S : Sg) (i : Int) (c : Int) (v : Int64) (S' : Sg) : Prop :=
  ((0 ≤ i ∧ i < S.len) ∧ c = 0 ∧ v = i2l (S.text i) ∧ S' = S) ∨ (¬ (0 ≤ i ∧ i < S.len) ∧ c = 1 ∧ S' = S)
def AcEmpty (S : Sg) (which : Int) (c : Int) (v : Int64) (S' : Sg) : Prop :=
  ((which = 0 ∨ which = 1) ∧ c = 0 ∧ v = bl ((if which = 0 then S.Lf else S.Ls) []) ∧ S' = S) ∨ (¬ (which = 0 ∨ which = 1) ∧ c = 1 ∧ S' = S)
def AcFits (S : Sg) (which : Int) (c : Int) (v : Int64) (S' : Sg) : Prop :=
  ((which = 0 ∨ which = 1) ∧ c = 0 ∧ v = bl (fitV (if which = 0 then S.Lf else S.Ls) S.tape S.taped) ∧ S' = (S.tape, 0, S.place, S.len, S.text, S.Lf, S.Ls)) ∨ (¬ (which = 0 ∨ which = 1) ∧ c = 1 ∧ S' = (S.tape, 0, S.place, S.len, S.text, S.Lf, S.Ls))
def AcFirst (S : Sg) (kind : Int) (c : Int) (v : Int64) (S' : Sg) : Prop :=
  ((0 ≤ kind ∧ kind ≤ 4) ∧ ∃ r tx, FirstS (fun u => wnt kind (S.Lf u) (S.Ls u)) r tx ∧ -1 ≤ r ∧ r ≤ 40402 ∧ c = 0 ∧ v = i2l r ∧ S' = (S.tape, S.taped, S.place, lenF r, tx, S.Lf, S.Ls)) ∨ (¬ (0 ≤ kind ∧ kind ≤ 4) ∧ c = 1 ∧ S' = S)
def AcCount (S : Sg) (which n : Int) (c : Int) (v : Int64) (S' : Sg) : Prop :=
  (((which = 0 ∨ which = 1) ∧ 0 ≤ n ∧ n ≤ 12) ∧ c = 0 ∧ v = NL n.toNat (if which = 0 then S.Lf else S.Ls) ∧ S' = S) ∨ (¬ ((which = 0 ∨ which = 1) ∧ 0 ≤ n ∧ n ≤ 12) ∧ c = 1 ∧ S' = S)
def AcSet (S : Sg) (which : Int) (c : Int) (v : Int64) (S' : Sg) : Prop :=
  (¬ (which = 0 ∨ which = 1) ∧ c = 1 ∧ S' = (S.tape, 0, S.place, S.len, S.text, S.Lf, S.Ls)) ∨ ((which = 0 ∨ which = 1) ∧ ((∃ e, pat0 S.tape S.taped = .error e ∧ c = 2 ∧ S' = (S.tape, 0, e, S.len, S.text, S.Lf, S.Ls)) ∨
    ∃ s B, pat0 S.tape S.taped = .ok (s, B) ∧ (((exRun (tgB s B) 51329 0 (1, (fun _ _ => false), (fun _ => 0)) = none ∨ ∃ e, exRun (tgB s B) 51329 0 (1, (fun _ _ => false), (fun _ => 0)) = some e ∧ exOk e ∧ MinNo e.cnt e.mv (accS B.la s.N e)) ∧ c = 3 ∧ S' = (S.tape, 0, -1, S.len, S.text, S.Lf, S.Ls)) ∨
      ∃ e table tells states strt, exRun (tgB s B) 51329 0 (1, (fun _ _ => false), (fun _ => 0)) = some e ∧ exOk e ∧ MinOk e.cnt e.mv (accS B.la s.N e) table tells states strt ∧ c = 0 ∧ v = i2l states ∧ S' = (S.tape, 0, -1, S.len, S.text, (if which = 0 then LgE B.nul B.la s.N e else S.Lf), (if which = 0 then S.Ls else LgE B.nul B.la s.N e)))))
/-- thrown: the answer c, the class ci -/
def ThO (Z : Zk) (a : Nat → Nat) (Ac : Int → Int64 → Sg → Prop) (c : Int) (ci : Nat) : Nat → va_W → Prop := fun x w => ∃ S' w' fs, (∀ v, Ac c v S') ∧ OB Z a S' w' ∧ w = w' ++ [(x, eO ci fs)]
theorem oFeed {Z : Zk} (hfl : Z.l.flags = pinnedFlags ++ [noTraceFlag]) {a : Nat → Nat} {S : Sg} {w0 : va_W} (hO : OB Z a S w0) (hS : SgOk S) {p1 p2 p3 p4 p5 : Int} : Ct Z yX1_feed hX1_feed 7 160 [.ref (a 0), vI p1, vI p2, vI p3, vI p4, vI p5] w0 1 6 (Th (Ri fun r w => ∃ S', AcFeed S p1 p2 p3 p4 p5 0 (i2l r) S' ∧ OB Z a S' w) (ThO Z a (AcFeed S p1 p2 p3 p4 p5) 1 7)) := by
  obtain ⟨tape, taped, place, length, text, Lf, Ls⟩ := S
  obtain ⟨seen, queue, before, by_, ways, next, aq, aA, ap, bq, bA, bp, cq, cA, cp, isE, isE', isE'', table, tells, table', tells', table'', tells'', states, strt, states', strt', states'', strt'', gF, gS, gT, pF, pS, pT, wf, ws, wt, rfl, hF, hG, hAF, hAS, hAT, hPF, hPS, hPT, e1, e2, e3⟩ := hO
  refine (cO_feed hfl hS.1.1 hS.1.2).post (fun o w h => ?_)
  rcases h with ⟨r, e, h1, h2, rfl⟩ | ⟨x, e, h1, fs, rfl⟩
  · refine Or.inl ⟨r, e, _, Or.inl ⟨h1, rfl, by rw [h2], rfl⟩, ?_⟩
    rw [put4_eq, put4_eq, put4_eq, put4_eq, put4_eq]
    exact ⟨seen, queue, before, by_, ways, next, aq, aA, ap, bq, bA, bp, cq, cA, cp, isE, isE', isE'', table, tells, table', tells', table'', tells'', states, strt, states', strt', states'', strt'', _, _, _, _, _, _, wf, ws, wt, rfl, hF, hG, hAF, hAS, hAT, hPF, hPS, hPT, e1, e2, e3⟩
  · exact Or.inr ⟨x, e, _, _, fs, fun v => Or.inr ⟨h1, rfl, rfl⟩, ⟨seen, queue, before, by_, ways, next, aq, aA, ap, bq, bA, bp, cq, cA, cp, isE, isE', isE'', table, tells, table', tells', table'', tells'', states, strt, states', strt', states'', strt'', _, _, _, _, _, _, wf, ws, wt, rfl, hF, hG, hAF, hAS, hAT, hPF, hPS, hPT, e1, e2, e3⟩, rfl⟩
theorem oEnd {Z : Zk} (hfl : Z.l.flags = pinnedFlags ++ [noTraceFlag]) {a : Nat → Nat} {S : Sg} {w0 : va_W} (hO : OB Z a S w0) (hS : SgOk S) {m : Int} (hm : inR m) : Ct Z yX1_end hX1_end 7 160 [.ref (a 0), vI m] w0 1 6 (Th (Ri fun r w => ∃ S', AcEnd S m 0 (i2l r) S' ∧ OB Z a S' w) (ThO Z a (AcEnd S m) 1 6)) := by
  obtain ⟨tape, taped, place, length, text, Lf, Ls⟩ := S
  obtain ⟨seen, queue, before, by_, ways, next, aq, aA, ap, bq, bA, bp, cq, cA, cp, isE, isE', isE'', table, tells, table', tells', table'', tells'', states, strt, states', strt', states'', strt'', gF, gS, gT, pF, pS, pT, wf, ws, wt, rfl, hF, hG, hAF, hAS, hAT, hPF, hPS, hPT, e1, e2, e3⟩ := hO
  refine (cO_end hfl hm hS.1.1 hS.1.2).post (fun o w h => ?_)
  rcases h with ⟨r, e, h1, h2, rfl⟩ | ⟨x, e, h1, fs, rfl⟩
  · exact Or.inl ⟨r, e, _, Or.inl ⟨h1, rfl, by rw [h2], rfl⟩, seen, queue, before, by_, ways, next, aq, aA, ap, bq, bA, bp, cq, cA, cp, isE, isE', isE'', table, tells, table', tells', table'', tells'', states, strt, states', strt', states'', strt'', _, _, _, _, _, _, wf, ws, wt, rfl, hF, hG, hAF, hAS, hAT, hPF, hPS, hPT, e1, e2, e3⟩
  · exact Or.inr ⟨x, e, _, _, fs, fun v => Or.inr ⟨h1, rfl, rfl⟩, ⟨seen, queue, before, by_, ways, next, aq, aA, ap, bq, bA, bp, cq, cA, cp, isE, isE', isE'', table, tells, table', tells', table'', tells'', states, strt, states', strt', states'', strt'', _, _, _, _, _, _, wf, ws, wt, rfl, hF, hG, hAF, hAS, hAT, hPF, hPS, hPT, e1, e2, e3⟩, rfl⟩
theorem oOctet {Z : Zk} (hfl : Z.l.flags = pinnedFlags ++ [noTraceFlag]) {a : Nat → Nat} {S : Sg} {w0 : va_W} (hO : OB Z a S w0) (hS : SgOk S) {m : Int} (hm : inR m) : Ct Z yX1_octet hX1_octet 6 160 [.ref (a 0), vI m] w0 1 6 (Th (Ri fun r w => ∃ S', AcOctet S m 0 (i2l r) S' ∧ OB Z a S' w) (ThO Z a (AcOctet S m) 1 9)) := by
  obtain ⟨tape, taped, place, length, text, Lf, Ls⟩ := S
  obtain ⟨seen, queue, before, by_, ways, next, aq, aA, ap, bq, bA, bp, cq, cA, cp, isE, isE', isE'', table, tells, table', tells', table'', tells'', states, strt, states', strt', states'', strt'', gF, gS, gT, pF, pS, pT, wf, ws, wt, rfl, hF, hG, hAF, hAS, hAT, hPF, hPS, hPT, e1, e2, e3⟩ := hO
  refine (cO_octet hfl hm hS.2.2.1.1 hS.2.2.1.2).post (fun o w h => ?_)
  rcases h with ⟨r, e, h1, h2, rfl⟩ | ⟨x, e, h1, fs, rfl⟩
  · exact Or.inl ⟨r, e, _, Or.inl ⟨h1, rfl, by rw [h2], rfl⟩, seen, queue, before, by_, ways, next, aq, aA, ap, bq, bA, bp, cq, cA, cp, isE, isE', isE'', table, tells, table', tells', table'', tells'', states, strt, states', strt', states'', strt'', _, _, _, _, _, _, wf, ws, wt, rfl, hF, hG, hAF, hAS, hAT, hPF, hPS, hPT, e1, e2, e3⟩
  · exact Or.inr ⟨x, e, _, _, fs, fun v => Or.inr ⟨h1, rfl, rfl⟩, ⟨seen, queue, before, by_, ways, next, aq, aA, ap, bq, bA, bp, cq, cA, cp, isE, isE', isE'', table, tells, table', tells', table'', tells'', states, strt, states', strt', states'', strt'', _, _, _, _, _, _, wf, ws, wt, rfl, hF, hG, hAF, hAS, hAT, hPF, hPS, hPT, e1, e2, e3⟩, rfl⟩
theorem oEmpty {Z : Zk} (hfl : Z.l.flags = pinnedFlags ++ [noTraceFlag]) {a : Nat → Nat} {S : Sg} {w0 : va_W} (hO : OB Z a S w0) {m : Int} (hm : inR m) : Ct Z yX1_empty hX1_empty 8 230 [.ref (a 0), vI m] w0 1 6 (Th (Rz fun r w => ∃ S', AcEmpty S m 0 (bl r) S' ∧ OB Z a S' w) (ThO Z a (AcEmpty S m) 1 6)) := by
  obtain ⟨tape, taped, place, length, text, Lf, Ls⟩ := S
  obtain ⟨seen, queue, before, by_, ways, next, aq, aA, ap, bq, bA, bp, cq, cA, cp, isE, isE', isE'', table, tells, table', tells', table'', tells'', states, strt, states', strt', states'', strt'', gF, gS, gT, pF, pS, pT, wf, ws, wt, rfl, hF, hG, hAF, hAS, hAT, hPF, hPS, hPT, e1, e2, e3⟩ := hO
  have hAF' := hAF
  have hAS' := hAS
  obtain ⟨_, _, _, _, _, _, _, _, _, rfl⟩ := hAF'
  obtain ⟨_, _, _, _, _, _, _, _, _, rfl⟩ := hAS'
  refine (cO_empty hfl hm).post (fun o w h => ?_)
  rcases h with ⟨r, e, h1, h2, rfl⟩ | ⟨x, e, h1, fs, rfl⟩
  · refine Or.inl ⟨r, e, _, Or.inl ⟨h1, rfl, ?_, rfl⟩, seen, queue, before, by_, ways, next, aq, aA, ap, bq, bA, bp, cq, cA, cp, isE, isE', isE'', table, tells, table', tells', table'', tells'', states, strt, states', strt', states'', strt'', _, _, _, _, _, _, wf, ws, wt, rfl, hF, hG, hAF, hAS, hAT, hPF, hPS, hPT, e1, e2, e3⟩
    rw [h2]
    by_cases q : m = 0
    · rw [if_pos q, if_pos q]; exact congrArg bl hF.2.2.2.2.1.symm
    · rw [if_neg q, if_neg q]; exact congrArg bl hG.2.2.2.2.1.symm
  · exact Or.inr ⟨x, e, _, _, fs, fun v => Or.inr ⟨h1, rfl, rfl⟩, ⟨seen, queue, before, by_, ways, next, aq, aA, ap, bq, bA, bp, cq, cA, cp, isE, isE', isE'', table, tells, table', tells', table'', tells'', states, strt, states', strt', states'', strt'', _, _, _, _, _, _, wf, ws, wt, rfl, hF, hG, hAF, hAS, hAT, hPF, hPS, hPT, e1, e2, e3⟩, rfl⟩
theorem oFits {Z : Zk} (hfl : Z.l.flags = pinnedFlags ++ [noTraceFlag]) {a : Nat → Nat} {S : Sg} {w0 : va_W} (hO : OB Z a S w0) (hS : SgOk S) {m : Int} (hm : inR m) : Ct Z yX1_fits hX1_fits 8 230 [.ref (a 0), vI m] w0 1 6 (Th (Rz fun r w => ∃ S', AcFits S m 0 (bl r) S' ∧ OB Z a S' w) (ThO Z a (AcFits S m) 1 6)) := by
  obtain ⟨tape, taped, place, length, text, Lf, Ls⟩ := S
  obtain ⟨seen, queue, before, by_, ways, next, aq, aA, ap, bq, bA, bp, cq, cA, cp, isE, isE', isE'', table, tells, table', tells', table'', tells'', states, strt, states', strt', states'', strt'', gF, gS, gT, pF, pS, pT, wf, ws, wt, rfl, hF, hG, hAF, hAS, hAT, hPF, hPS, hPT, e1, e2, e3⟩ := hO
  have hAF' := hAF
  have hAS' := hAS
  obtain ⟨_, _, _, _, _, _, _, _, _, rfl⟩ := hAF'
  obtain ⟨_, _, _, _, _, _, _, _, _, rfl⟩ := hAS'
  refine (cO_fits hfl hm hS.1.1 hS.1.2 hS.2.1 hF hG).post (fun o w h => ?_)
  rcases h with ⟨r, e, h1, h2, rfl⟩ | ⟨x, e, h1, fs, rfl⟩
  · exact Or.inl ⟨r, e, _, Or.inl ⟨h1, rfl, by rw [h2], rfl⟩, seen, queue, before, by_, ways, next, aq, aA, ap, bq, bA, bp, cq, cA, cp, isE, isE', isE'', table, tells, table', tells', table'', tells'', states, strt, states', strt', states'', strt'', _, _, _, _, _, _, wf, ws, wt, rfl, hF, hG, hAF, hAS, hAT, hPF, hPS, hPT, e1, e2, e3⟩
  · exact Or.inr ⟨x, e, _, _, fs, fun v => Or.inr ⟨h1, rfl, rfl⟩, ⟨seen, queue, before, by_, ways, next, aq, aA, ap, bq, bA, bp, cq, cA, cp, isE, isE', isE'', table, tells, table', tells', table'', tells'', states, strt, states', strt', states'', strt'', _, _, _, _, _, _, wf, ws, wt, rfl, hF, hG, hAF, hAS, hAT, hPF, hPS, hPT, e1, e2, e3⟩, rfl⟩
theorem oFirst {Z : Zk} (hfl : Z.l.flags = pinnedFlags ++ [noTraceFlag]) {a : Nat → Nat} {S : Sg} {w0 : va_W} (hO : OB Z a S w0) {m : Int} (hm : inR m) : Ct Z yX1_first hX1_first 8 230 [.ref (a 0), vI m] w0 1 6 (Th (Ri fun r w => ∃ S', AcFirst S m 0 (i2l r) S' ∧ OB Z a S' w) (ThO Z a (AcFirst S m) 1 6)) := by
  obtain ⟨tape, taped, place, length, text, Lf, Ls⟩ := S
  obtain ⟨seen, queue, before, by_, ways, next, aq, aA, ap, bq, bA, bp, cq, cA, cp, isE, isE', isE'', table, tells, table', tells', table'', tells'', states, strt, states', strt', states'', strt'', gF, gS, gT, pF, pS, pT, wf, ws, wt, rfl, hF, hG, hAF, hAS, hAT, hPF, hPS, hPT, e1, e2, e3⟩ := hO
  have hAF' := hAF
  have hAS' := hAS
  obtain ⟨_, _, _, _, _, _, _, _, _, rfl⟩ := hAF'
  obtain ⟨_, _, _, _, _, _, _, _, _, rfl⟩ := hAS'
  refine (cO_first hfl hm hF hG).post (fun o w h => ?_)
  rcases h with ⟨r, e, h1, se, qu, be, by1, tx, h2, h3, h4, rfl⟩ | ⟨x, e, h1, fs, rfl⟩
  · exact Or.inl ⟨r, e, _, Or.inl ⟨h1, r, tx, h2, h3, h4, rfl, rfl, rfl⟩, se, qu, be, by1, ways, next, aq, aA, ap, bq, bA, bp, cq, cA, cp, isE, isE', isE'', table, tells, table', tells', table'', tells'', states, strt, states', strt', states'', strt'', _, _, _, _, _, _, wf, ws, wt, rfl, hF, hG, hAF, hAS, hAT, hPF, hPS, hPT, e1, e2, e3⟩
  · exact Or.inr ⟨x, e, _, _, fs, fun v => Or.inr ⟨h1, rfl, rfl⟩, ⟨seen, queue, before, by_, ways, next, aq, aA, ap, bq, bA, bp, cq, cA, cp, isE, isE', isE'', table, tells, table', tells', table'', tells'', states, strt, states', strt', states'', strt'', _, _, _, _, _, _, wf, ws, wt, rfl, hF, hG, hAF, hAS, hAT, hPF, hPS, hPT, e1, e2, e3⟩, rfl⟩
theorem oCount {Z : Zk} (hfl : Z.l.flags = pinnedFlags ++ [noTraceFlag]) {a : Nat → Nat} {S : Sg} {w0 : va_W} (hO : OB Z a S w0) {m n : Int} (hm : inR m) (hn : inR n) : Ct Z yX1_count hX1_count 8 230 [.ref (a 0), vI m, vI n] w0 2 12 (Th (Rl fun r w => ∃ S', AcCount S m n 0 r S' ∧ OB Z a S' w) (ThO Z a (AcCount S m n) 1 6)) := by
  obtain ⟨tape, taped, place, length, text, Lf, Ls⟩ := S
  obtain ⟨seen, queue, before, by_, ways, next, aq, aA, ap, bq, bA, bp, cq, cA, cp, isE, isE', isE'', table, tells, table', tells', table'', tells'', states, strt, states', strt', states'', strt'', gF, gS, gT, pF, pS, pT, wf, ws, wt, rfl, hF, hG, hAF, hAS, hAT, hPF, hPS, hPT, e1, e2, e3⟩ := hO
  have hAF' := hAF
  have hAS' := hAS
  obtain ⟨_, _, _, _, _, _, _, _, _, rfl⟩ := hAF'
  obtain ⟨_, _, _, _, _, _, _, _, _, rfl⟩ := hAS'
  refine (cO_count hfl hm hn hF hG).post (fun o w h => ?_)
  rcases h with ⟨r, e, h1, h2, wy, nx, rfl⟩ | ⟨x, e, h1, fs, rfl⟩
  · exact Or.inl ⟨r, e, _, Or.inl ⟨h1, rfl, h2, rfl⟩, seen, queue, before, by_, wy, nx, aq, aA, ap, bq, bA, bp, cq, cA, cp, isE, isE', isE'', table, tells, table', tells', table'', tells'', states, strt, states', strt', states'', strt'', _, _, _, _, _, _, wf, ws, wt, rfl, hF, hG, hAF, hAS, hAT, hPF, hPS, hPT, e1, e2, e3⟩
  · exact Or.inr ⟨x, e, _, _, fs, fun v => Or.inr ⟨h1, rfl, rfl⟩, ⟨seen, queue, before, by_, ways, next, aq, aA, ap, bq, bA, bp, cq, cA, cp, isE, isE', isE'', table, tells, table', tells', table'', tells'', states, strt, states', strt', states'', strt'', _, _, _, _, _, _, wf, ws, wt, rfl, hF, hG, hAF, hAS, hAT, hPF, hPS, hPT, e1, e2, e3⟩, rfl⟩
theorem oPlace {Z : Zk} {a : Nat → Nat} {S : Sg} {w0 : va_W} (hO : OB Z a S w0) : Ct Z yX1_place hX1_place 1 60 [.ref (a 0)] w0 0 0 (Ri fun r w => r = S.place ∧ OB Z a S w) := by
  obtain ⟨tape, taped, place, length, text, Lf, Ls⟩ := S
  obtain ⟨seen, queue, before, by_, ways, next, aq, aA, ap, bq, bA, bp, cq, cA, cp, isE, isE', isE'', table, tells, table', tells', table'', tells'', states, strt, states', strt', states'', strt'', gF, gS, gT, pF, pS, pT, wf, ws, wt, rfl, hF, hG, hAF, hAS, hAT, hPF, hPS, hPT, e1, e2, e3⟩ := hO
  refine (cO_place).post (fun o w h => ?_)
  obtain ⟨r, e, h1, rfl⟩ := h
  exact ⟨r, e, h1, seen, queue, before, by_, ways, next, aq, aA, ap, bq, bA, bp, cq, cA, cp, isE, isE', isE'', table, tells, table', tells', table'', tells'', states, strt, states', strt', states'', strt'', _, _, _, _, _, _, wf, ws, wt, rfl, hF, hG, hAF, hAS, hAT, hPF, hPS, hPT, e1, e2, e3⟩
theorem OB.hd {Z : Zk} {a : Nat → Nat} {S : Sg} {w0 : va_W} (hO : OB Z a S w0) : ∃ fs, w0[0]? = some (a 0, eO 0 fs) := by
  obtain ⟨seen, queue, before, by_, ways, next, aq, aA, ap, bq, bA, bp, cq, cA, cp, isE, isE', isE'', table, tells, table', tells', table'', tells'', states, strt, states', strt', states'', strt'', gF, gS, gT, pF, pS, pT, wf, ws, wt, rfl, hF, hG, hAF, hAS, hAT, hPF, hPS, hPT, e1, e2, e3⟩ := hO
  exact ⟨_, rfl⟩
theorem oSet {Z : Zk} (hfl : Z.l.flags = pinnedFlags ++ [noTraceFlag]) {a : Nat → Nat} {S : Sg} {w0 : va_W} (hO : OB Z a S w0) (hS : SgOk S) {m : Int} (hm : inR m) : Ct Z yX1_set hX1_set 176 4560 [.ref (a 0), vI m] w0 2 12 (Th (Ri fun r w => ∃ S', AcSet S m 0 (i2l r) S' ∧ OB Z a S' w) (fun x w => ThO Z a (AcSet S m) 1 6 x w ∨ ThO Z a (AcSet S m) 2 8 x w ∨ ThO Z a (AcSet S m) 3 7 x w)) := by
  obtain ⟨tape, taped, place, length, text, Lf, Ls⟩ := S
  obtain ⟨seen, queue, before, by_, ways, next, aq, aA, ap, bq, bA, bp, cq, cA, cp, isE, isE', isE'', table, tells, table', tells', table'', tells'', states, strt, states', strt', states'', strt'', gF, gS, gT, pF, pS, pT, wf, ws, wt, rfl, hF, hG, hAF, hAS, hAT, hPF, hPS, hPT, e1, e2, e3⟩ := hO
  have hAF' := hAF
  have hAS' := hAS
  have hAT' := hAT
  have hPT' := hPT
  obtain ⟨_, _, _, _, _, _, _, _, _, rfl⟩ := hAF'
  obtain ⟨_, _, _, _, _, _, _, _, _, rfl⟩ := hAS'
  obtain ⟨_, _, _, _, _, _, _, _, _, rfl⟩ := hAT'
  obtain ⟨_, _, low, high, _, _, _, _, _, _, _, _, _, _, _, _, rfl⟩ := hPT'
  refine (cO_set hfl hm hS.1.1 hS.1.2 e3.symm).post (fun o w h => ?_)
  rcases h with ⟨r, e, h1, s1, B, sets1, moves1, accepts1, heads1, chain1, groups1, news1, lives1, cnt1, table1, tells1, states1, strt1, wP1, wrong1, q1, q2, q3, rfl, rfl⟩ | ⟨x, e, ⟨h1, fs, rfl⟩ | ⟨h1, ⟨er, wP1, fs, q1, q2, rfl⟩ | ⟨s1, B, sets1, moves1, accepts1, heads1, chain1, groups1, news1, lives1, cnt1, table1, tells1, states1, strt1, wP1, wrong1, fs, q1, q2, q3, rfl⟩⟩⟩
  · obtain ⟨s2, g1, g2, g3⟩ := pat_ok hS.1.1 q1
    rcases q2 with ⟨_, ex, k1, k2, k3⟩ | ⟨hx, _⟩
    · have k1 : exRun (tgB s1 B) 51329 0 (1, (fun _ _ => false), (fun _ => 0)) = some ex := k1
      rw [g3] at k1
      rw [g2] at k3
      have hsd := side_of_min (nul := B.nul) k2 k3
      refine Or.inl ⟨r, e, _, Or.inr ⟨h1, Or.inr ⟨s2, B, g1, Or.inr ⟨ex, table1, tells1, r, strt1, k1, k2, k3, rfl, rfl, rfl⟩⟩⟩, ?_⟩
      by_cases q : m = 0
      · rw [if_pos q]
        refine ⟨seen, queue, before, by_, ways, next, cq, cA, cp, bq, bA, bp, aq, aA, ap, B.nul, isE', isE, table1, tells1, table', tells', table, tells, r, strt1, states', strt', states, strt, _, _, _, _, _, _, wrong1, ws, wf, rfl, ?_, ?_, ⟨_, _, _, _, _, _, _, _, _, rfl⟩, hAS, hAF, q3, hPS, hPF, e3, e2, e1⟩
        · show SideO _ _ _ _ _ (if m = 0 then _ else _)
          rw [if_pos q]; exact hsd
        · show SideO _ _ _ _ _ (if m = 0 then _ else _)
          rw [if_pos q]; exact hG
      · rw [if_neg q]
        refine ⟨seen, queue, before, by_, ways, next, aq, aA, ap, cq, cA, cp, bq, bA, bp, isE, B.nul, isE', table, tells, table1, tells1, table', tells', states, strt, r, strt1, states', strt', _, _, _, _, _, _, wf, wrong1, ws, rfl, ?_, ?_, hAF, ⟨_, _, _, _, _, _, _, _, _, rfl⟩, hAS, hPF, q3, hPS, e1, e3, e2⟩
        · show SideO _ _ _ _ _ (if m = 0 then _ else _)
          rw [if_neg q]; exact hF
        · show SideO _ _ _ _ _ (if m = 0 then _ else _)
          rw [if_neg q]; exact hsd
    · cases hx
  · exact Or.inr ⟨x, e, Or.inl ⟨_, _, fs, fun v => Or.inl ⟨h1, rfl, rfl⟩, ⟨seen, queue, before, by_, ways, next, aq, aA, ap, bq, bA, bp, cq, cA, cp, isE, isE', isE'', table, tells, table', tells', table'', tells'', states, strt, states', strt', states'', strt'', _, _, _, _, _, _, wf, ws, wt, rfl, hF, hG, hAF, hAS, hAT, hPF, hPS, hPT, e1, e2, e3⟩, rfl⟩⟩
  · exact Or.inr ⟨x, e, Or.inr (Or.inl ⟨_, _, fs, fun v => Or.inr ⟨h1, Or.inl ⟨er, pat_err q1, rfl, rfl⟩⟩, ⟨seen, queue, before, by_, ways, next, aq, aA, ap, bq, bA, bp, cq, cA, cp, isE, isE', isE'', table, tells, table', tells', table'', tells'', states, strt, states', strt', states'', strt'', _, _, _, _, _, _, wf, ws, er, rfl, hF, hG, hAF, hAS, hAT, hPF, hPS, q2, e1, e2, e3⟩, rfl⟩)⟩
  · obtain ⟨s2, g1, g2, g3⟩ := pat_ok hS.1.1 q1
    rcases q2 with ⟨hx, _⟩ | ⟨_, k⟩
    · cases hx
    · have k : exRun (tgB s1 B) 51329 0 (1, (fun _ _ => false), (fun _ => 0)) = none ∨ ∃ e, exRun (tgB s1 B) 51329 0 (1, (fun _ _ => false), (fun _ => 0)) = some e ∧ exOk e ∧ MinNo e.cnt e.mv (accS B.la s1.N e) := k
      rw [g3, g2] at k
      exact Or.inr ⟨x, e, Or.inr (Or.inr ⟨_, _, fs, fun v => Or.inr ⟨h1, Or.inr ⟨s2, B, g1, Or.inl ⟨k, rfl, rfl⟩⟩⟩, ⟨seen, queue, before, by_, ways, next, aq, aA, ap, bq, bA, bp, cq, cA, cp, isE, isE', B.nul, table, tells, table', tells', table1, tells1, states, strt, states', strt', states1, strt1, _, _, _, _, _, _, wf, ws, wrong1, rfl, hF, hG, hAF, hAS, ⟨_, _, _, _, _, _, _, _, _, rfl⟩, hPF, hPS, q3, e1, e2, e3⟩, rfl⟩)⟩
