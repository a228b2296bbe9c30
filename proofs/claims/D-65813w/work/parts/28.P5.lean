/-! Patterns: repeated, several, either, whole, read -/
theorem RowP.keep {e e' : Int → Bool} {f f' l l' : Int → Int64} {t u : Int} {A : PV} (h : RowP e f l t A) (k : KeepP u e e' f f' l l') (htu : t < u) : RowP e' f' l' t A :=
  ⟨(k.1 t htu).trans h.1, fun p p0 p1 => ⟨(hasB_eq (fun m m0 m1 => k.2.1 (7 * t + m) (by omega)) p0 p1).trans (h.2 p p0 p1).1, (hasB_eq (fun m m0 m1 => k.2.2 (7 * t + m) (by omega)) p0 p1).trans (h.2 p p0 p1).2⟩⟩
theorem KeepP.trans {e e1 e2 : Int → Bool} {f f1 f2 l l1 l2 : Int → Int64} {t u : Int} (h1 : KeepP t e e1 f f1 l l1) (h2 : KeepP u e1 e2 f1 f2 l1 l2) (htu : t ≤ u) : KeepP t e e2 f f2 l l2 :=
  ⟨fun j hj => (h2.1 j (by omega)).trans (h1.1 j hj), fun j hj => (h2.2.1 j (by omega)).trans (h1.2.1 j hj), fun j hj => (h2.2.2 j (by omega)).trans (h1.2.2 j hj)⟩
theorem KeepP.rf {e : Int → Bool} {f l : Int → Int64} {t : Int} : KeepP t e e f f l l := ⟨fun _ _ => rfl, fun _ _ => rfl, fun _ _ => rfl⟩
theorem linkF_has {fo la fi : Int → Int64} {x y n p q : Int} (hp0 : 0 ≤ p) (hp1 : p < n) (hq0 : 0 ≤ q) (hq1 : q < 448) : hasB (linkF fo la fi x y n) (7 * p) q = (hasB fo (7 * p) q || (hasB la (7 * x) p && hasB fi (7 * y) q)) := by
  have e1 : (7 * p + q / 64) / 7 = p := by omega
  have e2 : (7 * p + q / 64) % 7 = q / 64 := by omega
  cases hb : hasB la (7 * x) p with
  | true =>
    have : linkF fo la fi x y n (7 * p + q / 64) = (fo (7 * p + q / 64) ||| fi (7 * y + q / 64)) := by
      unfold linkF
      rw [e1, e2, if_pos ⟨by omega, by omega, hb⟩]
    unfold hasB at *
    rw [this, bt_or, Bool.true_and]
  | false =>
    have : linkF fo la fi x y n (7 * p + q / 64) = fo (7 * p + q / 64) := by
      unfold linkF
      rw [e1, if_neg (by rw [hb]; simp)]
    unfold hasB at *
    rw [this, Bool.false_and, Bool.or_false]
theorem link_fol {fo la fi : Int → Int64} {x y N : Int} {F : Int → Int → Bool} {A B : PV} {e : Int → Bool} (hN : N ≤ 400) (hF : FolP fo N F) (hA : RowP e fi la x A) (hB : RowP e fi la y B) : FolP (linkF fo la fi x y N) N (fun p q => F p q || (A.la p && B.fi q)) := by
  intro p q hp0 hp1 hq0 hq1
  rw [linkF_has hp0 hp1 hq0 hq1, hF p q hp0 hp1 hq0 hq1, (hA.2 p hp0 (by omega)).2, (hB.2 q hq0 hq1).1]
theorem post_stop {t : Int → Int} {n i : Int} {A : PV} (h : ¬ isPost (chr t n i) = true) (f : Nat) : post t n f i A = (i, A) := by
  cases f with
  | zero => rfl
  | succ f => unfold post; rw [if_neg h]
theorem repC_of {f : Nat} (ih : ∀ g, g < f → OneC g) : RepC f := by
  intro Z a tape len wrong owners follows isLast start empty firsts lasts s d t F hH hmu
  have hH' := hH
  obtain ⟨⟨hi0, hi1, hln, hN0, hN1, hd0, hd1, ht0, ht1⟩, hFol, hF0, hOwn⟩ := hH
  cases f with
  | zero => omega
  | succ f =>
  refine Ct.of RX3 "repeated" (by decide +kernel) rfl rfl hkX3_repeated (Nat.le_of_ble_eq_true rfl) (fun X hZ C => ?_)
  subst hZ
  unfold prs at C
  have hE := ih f (by omega) X.Z a tape len wrong owners follows isLast start empty firsts lasts s d t F hH' (mu_34 hmu)
  -- the loop over * + ?
  have lp : ∀ (s1 : St) (B : PV), prs tape len f 4 d s vEps = .ok (s1, B) → ∀ (g : Nat) (i : Int) (A : PV) (owners1 : Int → Int) (follows1 : Int → Int64) (isLast1 empty1 : Int → Bool) (firsts1 lasts1 : Int → Int64), 0 ≤ i → i ≤ len → (len - i).toNat < g → post tape len g i A = post tape len ((len - s1.i).toNat + 1) s1.i B → RowP empty1 firsts1 lasts1 t A → KeepP t empty empty1 firsts firsts1 lasts lasts1 → FolP follows1 s1.N (orF F A.fo) → OwnP owners1 isLast1 s1.N →
      G X 1 0 0 (wP X.Z a (.ref (a 2)) len wrong s1.lo s1.hi owners1 follows1 isLast1 start s1.N 0 empty1 firsts1 lasts1 (t + 1) d i ++ [(a 2, eB X.Z 2048 tape)]) 4 [(0, .ref (a 0))] [] := by
    intro s1 B hq g
    have hr := prs_r _ _ _ _ _ _ _ hi1 hN1 hq
    rw [hq] at C
    dsimp only at C
    induction g with
    | zero => intro i A _ _ _ _ _ _ _ _ q; omega
    | succ g ihg =>
      intro i A owners1 follows1 isLast1 empty1 firsts1 lasts1 hj0 hj1 hjg hpo hR hK hF hO
      have hcr := chr_r tape len i
      -- one of them is read
      have j31 : isPost (chr tape len i) = true → G X 1 0 0 (wP X.Z a (.ref (a 2)) len wrong s1.lo s1.hi owners1 follows1 isLast1 start s1.N 0 empty1 firsts1 lasts1 (t + 1) d i ++ [(a 2, eB X.Z 2048 tape)]) 31 [(0, .ref (a 0))] [] := by
        intro hpost
        have hlt := isPost_lt hpost
        unfold post at hpo
        rw [if_pos hpost] at hpo
        -- behind the link
        have j56 : ∀ follows2 : Int → Int64, FolP follows2 s1.N (orF F (vRep (chr tape len i) A).fo) → G X 1 0 0 (wP X.Z a (.ref (a 2)) len wrong s1.lo s1.hi owners1 follows2 isLast1 start s1.N 0 empty1 firsts1 lasts1 (t + 1) d i ++ [(a 2, eB X.Z 2048 tape)]) 56 [(0, .ref (a 0))] [] := by
          intro follows2 hF2
          refine g_aload_n C dX3_repeated_56 rfl ?_
          refine g_cVWi C [] _ 0 cal_X3_84 (cP_c hj0 hj1 hln) rfl rfl rfl rfl (Nat.le_of_ble_eq_true rfl) ⟨⟨by show _ ≤ 4 * (40 - d).toNat + 9; omega, by show _ ≤ 100 * (40 - d).toNat + 285; omega⟩, Nat.le_refl 0, Nat.le_refl 0⟩ dX3_repeated_57 (fun r57 w hw57 => ?_)
          obtain ⟨rfl, rfl⟩ := hw57
          refine g_bipush C dX3_repeated_60 (by decide) ?_
          refine g_icmp_eq C 77 dX3_repeated_62 (by decide) (by omega) (fun h62 => ?_) (fun h62 => ?_)
          · refine g_aload_n C dX3_repeated_77 rfl ?_
            refine g_dup C dX3_repeated_78 rfl ?_
            refine gP_at C dX3_repeated_79 ?_
            refine g_iconst C dX3_repeated_82 ?_
            refine g_iadd C dX3_repeated_83 ?_
            refine pP_at C dX3_repeated_84 ?_
            refine g_goto C 4 dX3_repeated_87 (by decide) ?_
            first | exact ihg _ _ _ _ _ _ _ _ (by omega) (by omega) (by omega) hpo ⟨(by rw [hR.1, h62]; simp [vRep]), hR.2⟩ hK hF2 hO | exact ihg _ _ _ _ _ _ _ _ (by omega) (by omega) (by omega) hpo ⟨(by rw [show t + 1 - 1 = t by omega, up_same]; simp [vRep, h62]), hR.2⟩ (KeepP.trans hK ⟨fun j hj => up_ne _ _ (by omega), fun _ _ => rfl, fun _ _ => rfl⟩ (Int.le_refl t)) hF2 hO
          · refine g_aload_n C dX3_repeated_65 rfl ?_
            refine gP_empty C dX3_repeated_66 ?_
            refine g_aload_n C dX3_repeated_69 rfl ?_
            refine gP_top C dX3_repeated_70 ?_
            refine g_iconst C dX3_repeated_73 ?_
            refine g_isub C dX3_repeated_74 ?_
            refine g_iconst C dX3_repeated_75 ?_
            refine sP_empty C true (by omega) rfl dX3_repeated_76 ?_
            refine g_aload_n C dX3_repeated_77 rfl ?_
            refine g_dup C dX3_repeated_78 rfl ?_
            refine gP_at C dX3_repeated_79 ?_
            refine g_iconst C dX3_repeated_82 ?_
            refine g_iadd C dX3_repeated_83 ?_
            refine pP_at C dX3_repeated_84 ?_
            refine g_goto C 4 dX3_repeated_87 (by decide) ?_
            first | exact ihg _ _ _ _ _ _ _ _ (by omega) (by omega) (by omega) hpo ⟨(by rw [hR.1, h62]; simp [vRep]), hR.2⟩ hK hF2 hO | exact ihg _ _ _ _ _ _ _ _ (by omega) (by omega) (by omega) hpo ⟨(by rw [show t + 1 - 1 = t by omega, up_same]; simp [vRep, h62]), hR.2⟩ (KeepP.trans hK ⟨fun j hj => up_ne _ _ (by omega), fun _ _ => rfl, fun _ _ => rfl⟩ (Int.le_refl t)) hF2 hO
        refine g_aload_n C dX3_repeated_31 rfl ?_
        refine g_cVWi C [] _ 0 cal_X3_84 (cP_c hj0 hj1 hln) rfl rfl rfl rfl (Nat.le_of_ble_eq_true rfl) ⟨⟨by show _ ≤ 4 * (40 - d).toNat + 9; omega, by show _ ≤ 100 * (40 - d).toNat + 285; omega⟩, Nat.le_refl 0, Nat.le_refl 0⟩ dX3_repeated_32 (fun r32 w hw32 => ?_)
        obtain ⟨rfl, rfl⟩ := hw32
        refine g_bipush C dX3_repeated_35 (by decide) ?_
        refine g_icmp_eq C 56 dX3_repeated_37 (by decide) (by omega) (fun h37 => ?_) (fun h37 => ?_)
        · have j := j56 follows1 (by intro p q p0 p1 q0 q1; rw [hF p q p0 p1 q0 q1]; simp [orF, vRep, h37])
          exact j
        · refine g_aload_n C dX3_repeated_40 rfl ?_
          refine g_aload_n C dX3_repeated_41 rfl ?_
          refine gP_top C dX3_repeated_42 ?_
          refine g_iconst C dX3_repeated_45 ?_
          refine g_isub C dX3_repeated_46 ?_
          refine g_aload_n C dX3_repeated_47 rfl ?_
          refine gP_top C dX3_repeated_48 ?_
          refine g_iconst C dX3_repeated_51 ?_
          refine g_isub C dX3_repeated_52 ?_
          rw [show t + 1 - 1 = t by omega]
          refine g_cVWv C [_, _] _ 0 cal_X3_113 (cP_link ht0 (by omega) ht0 (by omega) (by omega) hr.2.2.2.1) rfl rfl rfl rfl (Nat.le_of_ble_eq_true rfl) ⟨⟨by show _ ≤ 4 * (40 - d).toNat + 9; omega, by show _ ≤ 100 * (40 - d).toNat + 285; omega⟩, Nat.le_refl 0, Nat.le_refl 0⟩ dX3_repeated_53 (fun w hw53 => ?_)
          subst hw53
          have j := j56 _ (by intro p q p0 p1 q0 q1; rw [link_fol hr.2.2.2.1 hF hR hR p q p0 p1 q0 q1]; simp [orF, vRep, h37, Bool.or_assoc])
          exact j
      refine g_aload_n C dX3_repeated_4 rfl ?_
      refine g_cVWi C [] _ 0 cal_X3_84 (cP_c hj0 hj1 hln) rfl rfl rfl rfl (Nat.le_of_ble_eq_true rfl) ⟨⟨by show _ ≤ 4 * (40 - d).toNat + 9; omega, by show _ ≤ 100 * (40 - d).toNat + 285; omega⟩, Nat.le_refl 0, Nat.le_refl 0⟩ dX3_repeated_5 (fun r5 w hw5 => ?_)
      obtain ⟨rfl, rfl⟩ := hw5
      refine g_bipush C dX3_repeated_8 (by decide) ?_
      refine g_icmp_eq C 31 dX3_repeated_10 (by decide) (by omega) (fun h10 => ?_) (fun h10 => ?_)
      · first | exact j31 (by unfold isPost; rw [h10]; rfl) | exact j31 (by unfold isPost; rw [h19]; rfl) | exact j31 (by unfold isPost; rw [h28]; rfl)
      · refine g_aload_n C dX3_repeated_13 rfl ?_
        refine g_cVWi C [] _ 0 cal_X3_84 (cP_c hj0 hj1 hln) rfl rfl rfl rfl (Nat.le_of_ble_eq_true rfl) ⟨⟨by show _ ≤ 4 * (40 - d).toNat + 9; omega, by show _ ≤ 100 * (40 - d).toNat + 285; omega⟩, Nat.le_refl 0, Nat.le_refl 0⟩ dX3_repeated_14 (fun r14 w hw14 => ?_)
        obtain ⟨rfl, rfl⟩ := hw14
        refine g_bipush C dX3_repeated_17 (by decide) ?_
        refine g_icmp_eq C 31 dX3_repeated_19 (by decide) (by omega) (fun h19 => ?_) (fun h19 => ?_)
        · first | exact j31 (by unfold isPost; rw [h10]; rfl) | exact j31 (by unfold isPost; rw [h19]; rfl) | exact j31 (by unfold isPost; rw [h28]; rfl)
        · refine g_aload_n C dX3_repeated_22 rfl ?_
          refine g_cVWi C [] _ 0 cal_X3_84 (cP_c hj0 hj1 hln) rfl rfl rfl rfl (Nat.le_of_ble_eq_true rfl) ⟨⟨by show _ ≤ 4 * (40 - d).toNat + 9; omega, by show _ ≤ 100 * (40 - d).toNat + 285; omega⟩, Nat.le_refl 0, Nat.le_refl 0⟩ dX3_repeated_23 (fun r23 w hw23 => ?_)
          obtain ⟨rfl, rfl⟩ := hw23
          refine g_bipush C dX3_repeated_26 (by decide) ?_
          refine g_icmp_ne C 90 dX3_repeated_28 (by decide) (by omega) (fun h28 => ?_) (fun h28 => ?_)
          · have hno : ¬ isPost (chr tape len i) = true := by unfold isPost; simp; omega
            rw [post_stop hno] at hpo
            rw [← hpo] at C
            exact g_vret C rfl (Or.inl ⟨rfl, _, _, rfl, _, _, _, _, _, _, rfl, hR, hK, hF, hO⟩) dX3_repeated_90
          · first | exact j31 (by unfold isPost; rw [h10]; rfl) | exact j31 (by unfold isPost; rw [h19]; rfl) | exact j31 (by unfold isPost; rw [h28]; rfl)
  refine g_aload_n C dX3_repeated_0 rfl ?_
  refine g_cVWvT C [] _ 0 cal_X3_116 hE rfl rfl rfl rfl (Nat.le_of_ble_eq_true rfl) ⟨⟨by show 4 * (40 - d).toNat + 8 + 1 ≤ 4 * (40 - d).toNat + 9; omega, by show 8 + (3 + 11) + (100 * (40 - d).toNat + 260) ≤ 100 * (40 - d).toNat + 285; omega⟩, Nat.le_refl 0, Nat.le_refl 0⟩ dX3_repeated_1 (fun w hw1 => ?_) (fun x1 w hw1 => ?_)
  · obtain ⟨s1, B, q1, owners1, follows1, isLast1, empty1, firsts1, lasts1, rfl, qR, qK, qF, qO⟩ := hw1
    have hr := prs_r _ _ _ _ _ _ _ hi1 hN1 q1
    exact lp s1 B q1 _ _ _ _ _ _ _ _ _ (by omega) hr.2.1 (by omega) rfl qR qK qF qO
  · obtain ⟨er9, q1, rfl, q2⟩ := hw1
    rw [q1] at C
    exact gt_out C rfl (Or.inr ⟨_, rfl, _, rfl, rfl, q2⟩)
