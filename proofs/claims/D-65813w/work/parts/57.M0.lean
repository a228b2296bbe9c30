/-! Arrays.copyOf -/
section COPYI
variable {X : Cx} {cc : ByteArray} {nL : Nat} {E : Ek} {k n pc : Nat} {ws : va_W} {L : List (Nat × Value)} {st : List Value}
theorem g_copyI (C : Ok X cc nL "java/util/Arrays" E) (q0 q1 : Nat) {a0 a1 N M : Nat} {f : Int → Int} {ws' : va_W} (ha0 : ws[q0]? = some (a0, eI X.Z N f)) (ha1 : ws[q1]? = some (a1, eI X.Z M (fun _ => 0))) (hNM : N ≤ M) (hN : N < 2147483648) (hw : ws.set q1 (a1, eI X.Z M (fun j => if j < (N : Int) then f j else 0)) = ws') (hR : 1 ≤ E.fr ∧ (st.map fun v => v.category).sum + 18 ≤ E.lo) (hd : decode cc pc = .ok (.invokestatic 150, 3)) (h : G X nL k n ws' (pc + 3) L st) : G X nL k n ws pc L (vI (N : Int) :: vI 0 :: .ref a1 :: vI 0 :: .ref a0 :: st) := by
  subst hw
  intro H locs ls hP hD hS hl
  have hRx : X.R = E.R := C.R
  have e0 : (iI 0).toNatClampNeg = 0 := by decide
  have eN : (iI (N : Int)).toNatClampNeg = N := by rw [iI_clamp (by omega) (by omega)]; rfl
  refine va_copyi C.x C.b (C.ml.trans hl.1.symm) C.own (C.ts _ q836) (C.ts _ q838) (C.ts _ q837) (C.ts _ q77) C.K hP hD hS q0 q1 0 0 ha0 ha1 rfl rfl rfl (by decide) (by decide) ?_ (by rw [e0, eN]; omega) (by rw [e0, eN]; omega) (fun i _ => rfl) (by rw [hRx]; exact hR.1) (by rw [hRx]; exact hR.2) hd (fun H1 locs1 hP1 hD1 hS1 => ?_)
  · rw [← iI_0, iI_lt ⟨⟨by omega, by omega⟩, by omega, by omega⟩]; omega
  · rw [e0, eN] at hP1 hD1
    have e : (va_cpy (fun j : Nat => iI (f j)) (fun _ => iI 0) 0 0 N) = (fun j : Nat => iI ((fun j : Int => if j < (N : Int) then f j else 0) j)) := by
      funext j
      unfold va_cpy
      by_cases hj : j < N
      · rw [if_pos (by omega)]
        show iI (f ((0 + (j - 0) : Nat) : Int)) = iI (if (j : Int) < (N : Int) then f j else 0)
        rw [if_pos (by omega), Nat.zero_add, Nat.sub_zero]
      · rw [if_neg (by omega)]
        show iI 0 = iI (if (j : Int) < (N : Int) then f j else 0)
        rw [if_neg (by omega)]
    rw [e] at hP1 hD1
    exact h H1 locs1 ls hP1 hD1 hS1 hl
end COPYI
theorem cJ_copyOf {Z : Zk} {s N M : Nat} {f : Int → Int} (h1 : N < M) (h2 : M < 100000000) : Ct Z yJ11_copyOf hJ11_copyOf 2 60 [.ref s, vI (M : Int)] [(s, eI Z N f)] 1 M (Rr fun r w => w = [(s, eI Z N f), (r, eI Z M (fun j => if j < (N : Int) then f j else 0))]) := by
  refine Ct.of RJ11 "copyOf" (by decide +kernel) rfl rfl hkJ11_copyOf (Nat.le_of_ble_eq_true rfl) (fun X hZ C => ?_)
  subst hZ
  refine g_iload_n C dJ11_copyOf_0 rfl ?_
  refine g_aload_n C dJ11_copyOf_1 rfl ?_
  refine g_alen C 0 0 rfl rfl dJ11_copyOf_2 ?_
  refine g_icmp_ne C 14 dJ11_copyOf_3 (by decide) (by omega) (fun h3 => ?_) (fun h3 => ?_)
  · refine g_iload_n C dJ11_copyOf_14 rfl ?_
    refine g_newI C M rfl h2 q234 ⟨by show 0 + 1 ≤ 1; omega, by show 0 + M ≤ M; omega⟩ dJ11_copyOf_15 (fun q15 => ?_)
    refine g_astore_n C dJ11_copyOf_17 (by decide) ?_
    refine g_aload_n C dJ11_copyOf_18 rfl ?_
    refine g_iconst C dJ11_copyOf_19 ?_
    refine g_aload_n C dJ11_copyOf_20 rfl ?_
    refine g_iconst C dJ11_copyOf_21 ?_
    refine g_aload_n C dJ11_copyOf_22 rfl ?_
    refine g_alen C 0 0 rfl rfl dJ11_copyOf_23 ?_
    refine g_iload_n C dJ11_copyOf_24 rfl ?_
    refine g_cSPi C [_, _] _ [] cal_J11_304 (cS_min (by omega)) (by decide) rfl rfl rfl (Nat.le_of_ble_eq_true rfl) ⟨⟨Nat.le_of_ble_eq_true rfl, Nat.le_of_ble_eq_true rfl⟩, Nat.le_of_ble_eq_true rfl, (by show 0 + M + 0 ≤ M; omega)⟩ dJ11_copyOf_25 (fun r25 hw25 => ?_)
    subst r25
    refine g_top (show _ = (N : Int) from by omega) ?_
    refine g_copyI C 0 1 rfl rfl (by omega) (by omega) rfl ⟨(Nat.le_of_ble_eq_true rfl), (Nat.le_of_ble_eq_true rfl)⟩ dJ11_copyOf_28 ?_
    refine g_widen (k' := 1) (n' := M) (by omega) (by omega) ?_
    refine g_aload_n C dJ11_copyOf_31 rfl ?_
    exact g_aret C rfl (Or.inr ⟨_, rfl⟩) ⟨_, rfl, rfl⟩ dJ11_copyOf_32
  · exact absurd h3 (by omega)
