/-! Model: parsed (the walk) -/
theorem cM_parsed {Z : Zk} {wr : va_W} {a : Nat → Nat} {tape : Int → Int} {taped : Int} {place : Int} {thrown : Int} {r_op : Nat} {no : Nat} {op : Int → Int} {r_arg : Nat} {arg : Int → Int} {many : Int} {low : Int → Int64} {high : Int → Int64} {masks : Int} {cur : Int} {readLow : Int64} {readHigh : Int64} {group : Int → Int} {choice : Int → Int} {chain : Int → Int} {hasEmpty : Int → Bool} {sset : Int → Int64} {label : Int → Int} {next : Int → Int} {states : Int} {r_stamp : Nat} {ns : Nat} {stamp : Int → Int} {r_stack : Nat} {stack : Int → Int} {stamps : Int} {piled : Int} {reading : Int → Int} {readings : Int} {wher : Int → Int} {built : Int → Int64} {heads : Int → Int} {chained : Int → Int} {isE : Bool} {lives : Int → Bool} {kind : Int → Int} {newKind : Int → Int} {first : Int → Int} {kinds : Int} {leads : Int → Int} {sideStates : Int → Int} {ends : Int → Bool} {text : Int → Int} {textLong : Int} {queue : Int → Int} {frm : Int → Int} {by_ : Int → Int} {ways : Int → Int64} {before : Int → Int64} {which n : Int} (w0 : 0 ≤ which) (w1 : which ≤ 1) (hT : BytT tape) (n0 : 0 ≤ n) (n1 : n ≤ 2048) (o0 : 256 ≤ no) (o1 : no ≤ 8192) (ns1 : ns ≤ 8194) (hst : StOk stamp stamps) (hs0 : 0 ≤ stamps) (hs1 : stamps < 500000000) : Ct Z yX6_parsed hX6_parsed 12 540 [.ref (a 0), vI which, vI n] (wM Z a tape taped place thrown r_op no op r_arg arg many low high masks cur readLow readHigh group choice chain hasEmpty sset label next states r_stamp ns stamp r_stack stack stamps piled reading readings wher built heads chained isE lives kind newKind first kinds leads sideStates ends text textLong queue frm by_ ways before ++ wr) 132 49156 (Ri (fun r w => ∃ leads1 side1 ends1 w1, ModW Z a tape taped place thrown leads1 side1 ends1 text textLong queue frm by_ ways before (stamps + 401) w1 ∧ w = w1 ++ wr ∧ PatR tape n (fun e => r = -2 - e ∧ leads1 = leads ∧ side1 = sideStates ∧ ends1 = ends) (r = -1 ∧ leads1 = leads ∧ side1 = sideStates ∧ ends1 = ends) (fun K Lg all => r = K ∧ SideM leads1 ends1 (402 * which) all Lg ∧ side1 = up sideStates which all ∧ (∀ j, j < 128 * (402 * which) ∨ 128 * (402 * which + 402) ≤ j → leads1 j = leads j) ∧ (∀ j, j < 402 * which ∨ 402 * which + 402 ≤ j → ends1 j = ends j)))) := by
  refine Ct.of RX6 "parsed" (by decide +kernel) rfl rfl hkX6_parsed (Nat.le_of_ble_eq_true rfl) (fun X hZ C => ?_)
  subst hZ
  obtain ⟨SB, hSB⟩ : ∃ SB, SB = stamps + 401 := ⟨_, rfl⟩
  rw [← hSB] at C
  have fill : ∀ (r_op : Nat) (no : Nat) (op : Int → Int) (r_arg : Nat) (arg : Int → Int) (many : Int) (low : Int → Int64) (high : Int → Int64) (masks : Int) (cur : Int) (readLow : Int64) (readHigh : Int64) (group : Int → Int) (choice : Int → Int) (chain : Int → Int) (hasEmpty : Int → Bool) (sset : Int → Int64) (label : Int → Int) (next : Int → Int) (states : Int) (r_stamp : Nat) (ns : Nat) (stamp : Int → Int) (r_stack : Nat) (stack : Int → Int) (stamps : Int) (piled : Int) (reading : Int → Int) (readings : Int) (wher : Int → Int) (built : Int → Int64) (heads : Int → Int) (chained : Int → Int) (isE : Bool) (lives : Int → Bool) (kind : Int → Int) (newKind : Int → Int) (first : Int → Int) (kinds : Int), (256 ≤ no ∧ no ≤ 8192) → ns ≤ 8194 → StOk stamp stamps → (0 ≤ stamps ∧ stamps ≤ SB) → ∀ (e : Ex) (B : PV) (N : Int), exOk e → e.cnt = states → (∀ j, 0 ≤ j → j < 128 * states → next j = e.mv j) → isE = B.nul → (∀ s, 0 ≤ s → s < states → label s = bacc (accS B.la N e s)) → (∀ s, 0 ≤ s → s < states → lives s = tr (Liv e.mv (accS B.la N e) s)) → inR kinds → (∀ (P1 : Int → Prop) (P2 : Prop) (P3 : Int → (List Int → Bool) → Int → Prop), P3 kinds (LgE B.nul B.la N e) (e.cnt + 1) → PatR tape n P1 P2 P3) → G X 9 132 49156 (wM X.Z a tape taped place thrown r_op no op r_arg arg many low high masks cur readLow readHigh group choice chain hasEmpty sset label next states r_stamp ns stamp r_stack stack stamps piled reading readings wher built heads chained isE lives kind newKind first kinds leads sideStates ends text textLong queue frm by_ ways before ++ wr) 56 [(0, .ref (a 0)), (1, vI which), (2, vI n)] [] := by
    intro r_op no op r_arg arg many low high masks cur readLow readHigh group choice chain hasEmpty sset label next states r_stamp ns stamp r_stack stack stamps piled reading readings wher built heads chained isE lives kind newKind first kinds hno hns hst hsb e B N he hcnt hnx hisE hlab hlv hkr hpat
    have hc := he.1
    rw [hcnt] at hc
    have lost : ∀ (leads1 : Int → Int) (ends1 : Int → Bool), (∀ s, 0 ≤ s → s < states → ends1 (402 * which + s) = (if s = 0 then B.nul else accS B.la N e s)) → (∀ s b, 0 ≤ s → s < states → 0 ≤ b → b < 128 → leads1 (128 * (402 * which + s) + b) = bif lives (e.mv (128 * s + b)) then e.mv (128 * s + b) else states) → (∀ j, j < 128 * (402 * which) ∨ 128 * (402 * which + 402) ≤ j → leads1 j = leads j) ∧ (∀ j, j < 402 * which ∨ 402 * which + 402 ≤ j → ends1 j = ends j) → ends1 (402 * which + states) = false → ∀ (f : Nat) (b : Int) (leads2 : Int → Int), 0 ≤ b → b + (f : Int) = 128 → (∀ j, j < 128 * (402 * which + states) ∨ 128 * (402 * which + states) + 128 ≤ j → leads2 j = leads1 j) → (∀ c, 0 ≤ c → c < b → leads2 (128 * (402 * which + states) + c) = states) → G X 9 132 49156 (wM X.Z a tape taped place thrown r_op no op r_arg arg many low high masks cur readLow readHigh group choice chain hasEmpty sset label next states r_stamp ns stamp r_stack stack stamps piled reading readings wher built heads chained isE lives kind newKind first kinds leads2 (up sideStates which (states + 1)) ends1 text textLong queue frm by_ ways before ++ wr) 218 [(0, .ref (a 0)), (1, vI which), (2, vI n), (4, vI (402 * which)), (5, vI states), (6, vI b)] [] := by
      intro leads1 ends1 h1 h2 h3 h4 f
      induction f with
      | zero =>
        intro b leads2 b0 hb k1 k2
        refine g_iload C dX6_parsed_218 rfl ?_
        refine g_sipush C dX6_parsed_220 (by decide) ?_
        refine g_icmp_ge C 251 dX6_parsed_223 (by decide) (by omega) (fun h223 => ?_) (fun h223 => ?_)
        · refine g_aload_n C dX6_parsed_251 rfl ?_
          refine gM_kinds C dX6_parsed_252 ?_
          exact g_iret C rfl ⟨_, rfl, leads2, up sideStates which (states + 1), ends1, _, ⟨_, _, _, _, _, _, _, _, _, _, _, _, _, _, _, _, _, _, _, _, _, _, _, _, _, _, _, _, _, _, _, _, _, _, _, _, _, _, _, hno, hns, hst, hsb, rfl⟩, rfl, hpat _ _ _ ⟨rfl, sideM_of he (fun s s0 s1 => hlv s s0 (by omega)) (fun s s0 s1 => h1 s s0 (by omega)) (by rw [hcnt]; exact h4) (fun s c s0 s1 c0 c1 => by rw [k1 _ (by omega), h2 s c s0 (by omega) c0 c1, hcnt]) (fun c c0 c1 => by rw [hcnt]; exact k2 c c0 (by omega)), by rw [hcnt], fun j hj => by rw [k1 j (by omega)]; exact h3.1 j hj, h3.2⟩⟩ dX6_parsed_255
        · exact absurd h223 (by omega)
      | succ f ih =>
        intro b leads2 b0 hb k1 k2
        refine g_iload C dX6_parsed_218 rfl ?_
        refine g_sipush C dX6_parsed_220 (by decide) ?_
        refine g_icmp_ge C 251 dX6_parsed_223 (by decide) (by omega) (fun h223 => ?_) (fun h223 => ?_)
        · exact absurd h223 (by omega)
        · refine g_aload_n C dX6_parsed_226 rfl ?_
          refine gM_leads C dX6_parsed_227 ?_
          refine g_sipush C dX6_parsed_230 (by decide) ?_
          refine g_iload C dX6_parsed_233 rfl ?_
          refine g_iload C dX6_parsed_235 rfl ?_
          refine g_iadd C dX6_parsed_237 ?_
          refine g_imul C dX6_parsed_238 ?_
          refine g_iload C dX6_parsed_239 rfl ?_
          refine g_iadd C dX6_parsed_241 ?_
          refine g_iload C dX6_parsed_242 rfl ?_
          refine sM_leads C (by omega) dX6_parsed_244 ?_
          refine g_iinc C dX6_parsed_245 rfl (by decide) ?_
          refine g_goto C 218 dX6_parsed_248 (by decide) ?_
          exact g_locR rfl (ih (b + 1) _ (by omega) (by omega) (fun j hj => by rw [up_ne _ _ (by omega)]; exact k1 j hj) (fun c c0 c1 => by by_cases e : c = b; (rw [e, up_same]); (rw [up_ne _ _ (by omega)]; exact k2 c c0 (by omega))))
    have rows : ∀ (f : Nat) (s : Int) (leads1 : Int → Int) (ends1 : Int → Bool), 0 ≤ s → s + (f : Int) = states → (∀ t, 0 ≤ t → t < s → ends1 (402 * which + t) = (if t = 0 then B.nul else accS B.la N e t)) → (∀ t b, 0 ≤ t → t < s → 0 ≤ b → b < 128 → leads1 (128 * (402 * which + t) + b) = bif lives (e.mv (128 * t + b)) then e.mv (128 * t + b) else states) → (∀ j, j < 128 * (402 * which) ∨ 128 * (402 * which + 402) ≤ j → leads1 j = leads j) ∧ (∀ j, j < 402 * which ∨ 402 * which + 402 ≤ j → ends1 j = ends j) → G X 9 132 49156 (wM X.Z a tape taped place thrown r_op no op r_arg arg many low high masks cur readLow readHigh group choice chain hasEmpty sset label next states r_stamp ns stamp r_stack stack stamps piled reading readings wher built heads chained isE lives kind newKind first kinds leads1 (up sideStates which (states + 1)) ends1 text textLong queue frm by_ ways before ++ wr) 84 [(0, .ref (a 0)), (1, vI which), (2, vI n), (4, vI (402 * which)), (5, vI states), (6, vI s)] [] := by
      intro f
      induction f with
      | zero =>
        intro s leads1 ends1 s0 hs h1 h2 h3
        refine g_iload C dX6_parsed_84 rfl ?_
        refine g_aload_n C dX6_parsed_86 rfl ?_
        refine gM_states C dX6_parsed_87 ?_
        refine g_icmp_ge C 204 dX6_parsed_90 (by decide) (by omega) (fun h90 => ?_) (fun h90 => ?_)
        · refine g_aload_n C dX6_parsed_204 rfl ?_
          refine gM_ends C dX6_parsed_205 ?_
          refine g_iload C dX6_parsed_208 rfl ?_
          refine g_iload C dX6_parsed_210 rfl ?_
          refine g_iadd C dX6_parsed_212 ?_
          refine g_iconst C dX6_parsed_213 ?_
          refine sM_ends C false (by omega) rfl dX6_parsed_214 ?_
          refine g_iconst C dX6_parsed_215 ?_
          refine g_istore C dX6_parsed_216 (by decide) ?_
          exact g_locR rfl (lost leads1 _ (fun t t0 t1 => by rw [up_ne _ _ (by omega)]; exact h1 t t0 (by omega)) (fun t b t0 t1 b0 b1 => h2 t b t0 (by omega) b0 b1) ⟨h3.1, fun j hj => by rw [up_ne _ _ (by omega)]; exact h3.2 j hj⟩ (up_same _ _ _) 128 0 leads1 (by decide) (by decide) (fun _ _ => rfl) (fun c c0 c1 => by omega))
        · exact absurd h90 (by omega)
      | succ f ih =>
        intro s leads1 ends1 s0 hs h1 h2 h3
        have hin : ∀ (g : Nat) (b : Int) (leads2 : Int → Int) (ends2 : Int → Bool), 0 ≤ b → b + (g : Int) = 128 → (∀ t, 0 ≤ t → t < s + 1 → ends2 (402 * which + t) = (if t = 0 then B.nul else accS B.la N e t)) → (∀ j, j < 402 * which ∨ 402 * which + 402 ≤ j → ends2 j = ends j) → (∀ j, j < 128 * (402 * which + s) ∨ 128 * (402 * which + s) + 128 ≤ j → leads2 j = leads1 j) → (∀ c, 0 ≤ c → c < b → leads2 (128 * (402 * which + s) + c) = bif lives (e.mv (128 * s + c)) then e.mv (128 * s + c) else states) → G X 9 132 49156 (wM X.Z a tape taped place thrown r_op no op r_arg arg many low high masks cur readLow readHigh group choice chain hasEmpty sset label next states r_stamp ns stamp r_stack stack stamps piled reading readings wher built heads chained isE lives kind newKind first kinds leads2 (up sideStates which (states + 1)) ends2 text textLong queue frm by_ ways before ++ wr) 134 [(0, .ref (a 0)), (1, vI which), (2, vI n), (4, vI (402 * which)), (5, vI states), (6, vI s), (7, vI b)] [] := by
          intro g
          induction g with
          | zero =>
            intro b leads2 ends2 b0 hb k0 k3 k1 k2
            refine g_iload C dX6_parsed_134 rfl ?_
            refine g_sipush C dX6_parsed_136 (by decide) ?_
            refine g_icmp_ge C 198 dX6_parsed_139 (by decide) (by omega) (fun h139 => ?_) (fun h139 => ?_)
            · refine g_iinc C dX6_parsed_198 rfl (by decide) ?_
              refine g_goto C 84 dX6_parsed_201 (by decide) ?_
              exact g_locR rfl (ih (s + 1) _ _ (by omega) (by omega) k0 (fun t c t0 t1 c0 c1 => by by_cases et : t = s; (rw [et]; exact k2 c c0 (by omega)); (rw [k1 _ (by omega)]; exact h2 t c t0 (by omega) c0 c1)) ⟨fun j hj => by rw [k1 j (by omega)]; exact h3.1 j hj, k3⟩)
            · exact absurd h139 (by omega)
          | succ g ihg =>
            intro b leads2 ends2 b0 hb k0 k3 k1 k2
            have hm := he.2.at s0 (show s < e.cnt by omega) b0 (show b < 128 by omega)
            have hnb := hnx (128 * s + b) (by omega) (by omega)
            have nxt : ∀ v : Int, v = (bif lives (e.mv (128 * s + b)) then e.mv (128 * s + b) else states) → G X 9 132 49156 (wM X.Z a tape taped place thrown r_op no op r_arg arg many low high masks cur readLow readHigh group choice chain hasEmpty sset label next states r_stamp ns stamp r_stack stack stamps piled reading readings wher built heads chained isE lives kind newKind first kinds (up leads2 (128 * (402 * which + s) + b) v) (up sideStates which (states + 1)) ends2 text textLong queue frm by_ ways before ++ wr) 134 [(0, .ref (a 0)), (1, vI which), (2, vI n), (4, vI (402 * which)), (5, vI states), (6, vI s), (7, vI (b + 1))] [] := fun v hv =>
              ihg (b + 1) _ ends2 (by omega) (by omega) k0 k3 (fun j hj => by rw [up_ne _ _ (by omega)]; exact k1 j hj) (fun c c0 c1 => by by_cases ec : c = b; (rw [ec, up_same]; exact hv); (rw [up_ne _ _ (by omega)]; exact k2 c c0 (by omega)))
            refine g_iload C dX6_parsed_134 rfl ?_
            refine g_sipush C dX6_parsed_136 (by decide) ?_
            refine g_icmp_ge C 198 dX6_parsed_139 (by decide) (by omega) (fun h139 => ?_) (fun h139 => ?_)
            · exact absurd h139 (by omega)
            · refine g_aload_n C dX6_parsed_142 rfl ?_
              refine gM_next C dX6_parsed_143 ?_
              refine g_sipush C dX6_parsed_146 (by decide) ?_
              refine g_iload C dX6_parsed_149 rfl ?_
              refine g_imul C dX6_parsed_151 ?_
              refine g_iload C dX6_parsed_152 rfl ?_
              refine g_iadd C dX6_parsed_154 ?_
              refine lM_next C (by omega) dX6_parsed_155 ?_
              refine g_top hnb ?_
              refine g_istore C dX6_parsed_156 (by decide) ?_
              refine g_aload_n C dX6_parsed_158 rfl ?_
              refine gM_leads C dX6_parsed_159 ?_
              refine g_sipush C dX6_parsed_162 (by decide) ?_
              refine g_iload C dX6_parsed_165 rfl ?_
              refine g_iload C dX6_parsed_167 rfl ?_
              refine g_iadd C dX6_parsed_169 ?_
              refine g_imul C dX6_parsed_170 ?_
              refine g_iload C dX6_parsed_171 rfl ?_
              refine g_iadd C dX6_parsed_173 ?_
              refine g_aload_n C dX6_parsed_174 rfl ?_
              refine gM_lives C dX6_parsed_175 ?_
              refine g_iload C dX6_parsed_178 rfl ?_
              refine lM_lives C (by omega) dX6_parsed_180 ?_
              refine g_if_eq C 189 dX6_parsed_181 (by decide) (b2_r _) (fun h181 => ?_) (fun h181 => ?_)
              · have hv : states = (bif lives (e.mv (128 * s + b)) then e.mv (128 * s + b) else states) := by rw [(b2_0 _).mp h181]; rfl
                refine g_iload C dX6_parsed_189 rfl ?_
                refine sM_leads C (by omega) dX6_parsed_191 ?_
                refine g_iinc C dX6_parsed_192 rfl (by decide) ?_
                refine g_goto C 134 dX6_parsed_195 (by decide) ?_
                exact g_locR rfl (nxt _ hv)
              · have hv : e.mv (128 * s + b) = (bif lives (e.mv (128 * s + b)) then e.mv (128 * s + b) else states) := by rw [(b2_ne0 _).mp h181]; rfl
                refine g_iload C dX6_parsed_184 rfl ?_
                refine g_goto C 191 dX6_parsed_186 (by decide) ?_
                refine sM_leads C (by omega) dX6_parsed_191 ?_
                refine g_iinc C dX6_parsed_192 rfl (by decide) ?_
                refine g_goto C 134 dX6_parsed_195 (by decide) ?_
                exact g_locR rfl (nxt _ hv)
        have hls := hlab s s0 (by omega)
        have hbr := bacc_r (accS B.la N e s)
        have st : ∀ v : Bool, v = (if s = 0 then B.nul else accS B.la N e s) → G X 9 132 49156 (wM X.Z a tape taped place thrown r_op no op r_arg arg many low high masks cur readLow readHigh group choice chain hasEmpty sset label next states r_stamp ns stamp r_stack stack stamps piled reading readings wher built heads chained isE lives kind newKind first kinds leads1 (up sideStates which (states + 1)) (up ends1 (402 * which + s) v) text textLong queue frm by_ ways before ++ wr) 131 [(0, .ref (a 0)), (1, vI which), (2, vI n), (4, vI (402 * which)), (5, vI states), (6, vI s)] [] := by
          intro v hv
          refine g_iconst C dX6_parsed_131 ?_
          refine g_istore C dX6_parsed_132 (by decide) ?_
          exact g_locR rfl (hin 128 0 leads1 _ (by decide) (by decide) (fun t t0 t1 => by by_cases et : t = s; (rw [et, up_same]; exact hv); (rw [up_ne _ _ (by omega)]; exact h1 t t0 (by omega))) (fun j hj => by rw [up_ne _ _ (by omega)]; exact h3.2 j hj) (fun _ _ => rfl) (fun c c0 c1 => by omega))
        obtain ⟨bv, hbv⟩ : ∃ v : Bool, v = (if s = 0 then B.nul else accS B.la N e s) := ⟨_, rfl⟩
        refine g_iload C dX6_parsed_84 rfl ?_
        refine g_aload_n C dX6_parsed_86 rfl ?_
        refine gM_states C dX6_parsed_87 ?_
        refine g_icmp_ge C 204 dX6_parsed_90 (by decide) (by omega) (fun h90 => ?_) (fun h90 => ?_)
        · exact absurd h90 (by omega)
        · refine g_aload_n C dX6_parsed_93 rfl ?_
          refine gM_ends C dX6_parsed_94 ?_
          refine g_iload C dX6_parsed_97 rfl ?_
          refine g_iload C dX6_parsed_99 rfl ?_
          refine g_iadd C dX6_parsed_101 ?_
          refine g_iload C dX6_parsed_102 rfl ?_
          refine g_if_ne C 114 dX6_parsed_104 (by decide) (by omega) (fun h104 => ?_) (fun h104 => ?_)
          · refine g_aload_n C dX6_parsed_114 rfl ?_
            refine gM_label C dX6_parsed_115 ?_
            refine g_iload C dX6_parsed_118 rfl ?_
            refine lM_label C (by omega) dX6_parsed_120 ?_
            refine g_iconst C dX6_parsed_121 ?_
            refine g_icmp_eq C 129 dX6_parsed_122 (by decide) (by omega) (fun h122 => ?_) (fun h122 => ?_)
            · refine g_iconst C dX6_parsed_129 ?_
              refine sM_ends C bv (by omega) (by rw [hbv]; first | (rw [if_pos (show s = 0 by omega), hisE]) | (rw [if_neg (show ¬ s = 0 by omega)]; cases hq : accS B.la N e s with | true => (rw [hq] at hls; first | rfl | exact absurd (show label s = -1 by omega) (by rw [hls]; decide)) | false => (rw [hq] at hls; first | rfl | exact absurd hls h122))) dX6_parsed_130 ?_
              exact g_locR rfl (st bv hbv)
            · refine g_iconst C dX6_parsed_125 ?_
              refine g_goto C 130 dX6_parsed_126 (by decide) ?_
              refine sM_ends C bv (by omega) (by rw [hbv]; first | (rw [if_pos (show s = 0 by omega), hisE]) | (rw [if_neg (show ¬ s = 0 by omega)]; cases hq : accS B.la N e s with | true => (rw [hq] at hls; first | rfl | exact absurd (show label s = -1 by omega) (by rw [hls]; decide)) | false => (rw [hq] at hls; first | rfl | exact absurd hls h122))) dX6_parsed_130 ?_
              exact g_locR rfl (st bv hbv)
          · refine g_aload_n C dX6_parsed_107 rfl ?_
            refine gM_isEmpty C dX6_parsed_108 ?_
            refine g_goto C 130 dX6_parsed_111 (by decide) ?_
            refine sM_ends C bv (by omega) (by rw [hbv]; first | (rw [if_pos (show s = 0 by omega), hisE]) | (rw [if_neg (show ¬ s = 0 by omega)]; cases hq : accS B.la N e s with | true => (rw [hq] at hls; first | rfl | exact absurd (show label s = -1 by omega) (by rw [hls]; decide)) | false => (rw [hq] at hls; first | rfl | exact absurd hls h122))) dX6_parsed_130 ?_
            exact g_locR rfl (st bv hbv)
    refine g_sipush C dX6_parsed_56 (by decide) ?_
    refine g_iload_n C dX6_parsed_59 rfl ?_
    refine g_imul C dX6_parsed_60 ?_
    refine g_istore C dX6_parsed_61 (by decide) ?_
    refine g_aload_n C dX6_parsed_63 rfl ?_
    refine gM_states C dX6_parsed_64 ?_
    refine g_istore C dX6_parsed_67 (by decide) ?_
    refine g_aload_n C dX6_parsed_69 rfl ?_
    refine gM_sideStates C dX6_parsed_70 ?_
    refine g_iload_n C dX6_parsed_73 rfl ?_
    refine g_aload_n C dX6_parsed_74 rfl ?_
    refine gM_states C dX6_parsed_75 ?_
    refine g_iconst C dX6_parsed_78 ?_
    refine g_iadd C dX6_parsed_79 ?_
    refine sM_sideStates C (by omega) dX6_parsed_80 ?_
    refine g_iconst C dX6_parsed_81 ?_
    refine g_istore C dX6_parsed_82 (by decide) ?_
    exact g_locR rfl (rows states.toNat 0 leads ends (by decide) (by omega) (fun t t0 t1 => by omega) (fun t b t0 t1 => by omega) ⟨fun _ _ => rfl, fun _ _ => rfl⟩)
  have t27 : ∀ (r_op no : Nat) (op : Int → Int) (r_arg : Nat) (arg : Int → Int) (low high : Int → Int64) (masks cur : Int) (readLow readHigh : Int64) (group choice chain : Int → Int) (hasEmpty : Int → Bool) (m : Int) (B : PV) (s2 : St), (256 ≤ no ∧ no ≤ 8192) → CdP op arg m masks B → supp 0 masks B → m ≤ 4096 → m + 1 ≤ (no : Int) → pat0 tape n = .ok (s2, B) → masks = s2.N → tgt B.fi B.fo (tkB low high) = tgB s2 B → G X 9 130 32768 (wM X.Z a tape taped place thrown r_op no op r_arg arg (m + 1) low high masks cur readLow readHigh group choice chain hasEmpty sset label next states r_stamp ns stamp r_stack stack stamps piled reading readings wher built heads chained isE lives kind newKind first kinds leads sideStates ends text textLong queue frm by_ ways before ++ wr) 27 [(0, .ref (a 0)), (1, vI which), (2, vI n)] [] := by
    intro r_op no op r_arg arg low high masks cur readLow readHigh group choice chain hasEmpty m B s2 hno hcd hsu m1 hmo hpat hmN htg
    refine g_aload_n C dX6_parsed_27 rfl ?_
    refine g_cVWz C [] _ 0 cal_X6_254 (cM_build hcd hsu m1 hmo hno.2 ns1 hs0 (by omega) hst) rfl rfl rfl rfl (Nat.le_of_ble_eq_true rfl) (room_b rfl) dX6_parsed_28 (fun r28 w hw28 => ?_)
    obtain ⟨r1, r2, ns2, stamp1, stack1, st1, pl1, reading1, readings1, wher1, built1, sset1, label1, next1, states1, heads1, chained1, isE1, ⟨b1, b2', b3, b4, b5⟩, b6, b7, rfl⟩ := hw28
    refine g_if_ne C 36 dX6_parsed_31 (by decide) (b2_r _) (fun h31 => ?_) (fun h31 => ?_)
    · have hr9 : r28 = true := (b2_ne0 _).mp h31
      obtain ⟨e, e1, e2, e3, e4, e5, e6⟩ : ∃ e : Ex, exRun (tgt B.fi B.fo (tkB low high)) 51329 0 (1, (fun _ _ => false), (fun _ => 0)) = some e ∧ exOk e ∧ e.cnt = states1 ∧ (∀ j, 0 ≤ j → j < 128 * states1 → next1 j = e.mv j) ∧ isE1 = B.nul ∧ ∀ s, 0 ≤ s → s < states1 → label1 s = bacc (accS B.la masks e s) := by (rcases b7 with ⟨_, h⟩ | ⟨h, _⟩; exact h; (rw [hr9] at h; cases h))
      have hmv : MvOk states1 next1 := fun j j0 j1 => by (rw [e4 j j0 j1]; have := e2.2 j j0 (by rw [e3]; exact j1); rw [e3] at this; exact this)
      have hac : ∀ s, 0 ≤ s → s < states1 → -1 ≤ label1 s ∧ label1 s ≤ 0 := fun s s0 s1 => by rw [e6 s s0 s1]; exact bacc_r _
      have hacc : ∀ s, 0 ≤ s → s < states1 → accB label1 s = accS B.la masks e s := fun s s0 s1 => by (unfold accB; rw [e6 s s0 s1]; cases accS B.la masks e s <;> rfl)
      refine g_aload_n C dX6_parsed_36 rfl ?_
      refine g_cVWv C [] _ 0 cal_X6_258 (cM_findLiving b6.1 b6.2 hmv hac) rfl rfl rfl rfl (Nat.le_of_ble_eq_true rfl) ⟨⟨Nat.le_of_ble_eq_true rfl, Nat.le_of_ble_eq_true rfl⟩, Nat.le_of_ble_eq_true rfl, Nat.le_of_ble_eq_true rfl⟩ dX6_parsed_37 (fun w hw37 => ?_)
      obtain ⟨lives1, l1, rfl⟩ := hw37
      refine g_aload_n C dX6_parsed_40 rfl ?_
      refine g_cVWv C [] _ 0 cal_X6_261 (cM_findKinds b6.1 b6.2 hmv hac l1) rfl rfl rfl rfl (Nat.le_of_ble_eq_true rfl) (room_b rfl) dX6_parsed_41 (fun w hw41 => ?_)
      obtain ⟨kind1, nk, hd, ch, fs, K, k1, k2, k3, k4, rfl⟩ := hw41
      have hLe : LvS states1 next1 (accB label1) = LvS e.cnt e.mv (accS B.la masks e) := by (funext s; rw [e3]; exact propext (lvS_congr hmv e4 hacc s))
      have k2' : ∀ s t, LvS e.cnt e.mv (accS B.la masks e) s → LvS e.cnt e.mv (accS B.la masks e) t → (nk s = nk t ↔ Eqv e.mv (accS B.la masks e) s t) := by (rw [← hLe]; intro s t hs ht; exact (k2 s t hs ht).trans (eqv_congr hmv e4 hacc hs.1 hs.2.1 ht.1 ht.2.1))
      rw [hLe] at k1
      rw [hmN] at k1 k2' e6 hacc
      have e1' : exRun (tgB s2 B) 51329 0 (1, (fun _ _ => false), (fun _ => 0)) = some e := by rw [← htg]; exact e1
      refine g_aload_n C dX6_parsed_44 rfl ?_
      refine gM_kinds C dX6_parsed_45 ?_
      refine g_sipush C dX6_parsed_48 (by decide) ?_
      refine g_icmp_le C 56 dX6_parsed_51 (by decide) (by omega) (fun h51 => ?_) (fun h51 => ?_)
      · exact g_locR rfl (fill _ _ _ _ _ _ _ _ _ _ _ _ _ _ _ _ _ _ _ _ _ _ _ _ _ _ _ _ _ _ _ _ _ _ _ _ _ _ _ hno b5 b1 (by omega) e B s2.N e2 e3 e4 e5 e6 (fun s s0 s1 => by rw [l1 s s0 s1]; exact tr_live (liv_congr hmv e4 hacc s0 s1)) (by omega) (fun P1 P2 P3 h3 => Or.inr ⟨s2, B, hpat, Or.inr ⟨e, e1', e2, nk, K, k1, k2', Or.inr ⟨by omega, h3⟩⟩⟩))
      · refine g_iconst C dX6_parsed_54 ?_
        exact g_iret C rfl ⟨_, rfl, leads, sideStates, ends, _, ⟨_, _, _, _, _, _, _, _, _, _, _, _, _, _, _, _, _, _, _, _, _, _, _, _, _, _, _, _, _, _, _, _, _, _, _, _, _, _, _, hno, b5, b1, by omega, rfl⟩, rfl, Or.inr ⟨s2, B, hpat, Or.inr ⟨e, e1', e2, nk, K, k1, k2', Or.inl ⟨by omega, rfl, rfl, rfl, rfl⟩⟩⟩⟩ dX6_parsed_55
    · have hr9 : r28 = false := by (cases hq : r28 with | false => rfl | true => (rw [hq] at h31; exact absurd h31 (by decide)))
      have hno9 : exRun (tgB s2 B) 51329 0 (1, (fun _ _ => false), (fun _ => 0)) = none := by (rcases b7 with ⟨h, _⟩ | ⟨_, h⟩; (rw [hr9] at h; cases h); (rw [← htg]; exact h))
      refine g_iconst C dX6_parsed_34 ?_
      exact g_iret C rfl ⟨_, rfl, leads, sideStates, ends, _, ⟨_, _, _, _, _, _, _, _, _, _, _, _, _, _, _, _, _, _, _, _, _, _, _, _, _, _, _, _, _, _, _, _, _, _, _, _, _, _, _, hno, b5, b1, by omega, rfl⟩, rfl, Or.inr ⟨s2, B, hpat, Or.inl ⟨hno9, rfl, rfl, rfl, rfl⟩⟩⟩ dX6_parsed_35
  refine g_aload_n C dX6_parsed_0 rfl ?_
  refine g_iconst C dX6_parsed_1 ?_
  refine pM_many C dX6_parsed_2 ?_
  refine g_aload_n C dX6_parsed_5 rfl ?_
  refine g_iconst C dX6_parsed_6 ?_
  refine pM_masks C dX6_parsed_7 ?_
  refine g_aload_n C dX6_parsed_10 rfl ?_
  refine g_iload_n C dX6_parsed_11 rfl ?_
  refine g_iconst C dX6_parsed_12 ?_
  refine g_cVWi C [_, _] _ 0 cal_X6_251 (cM_parse hT n0 n1 o0 o1) rfl rfl rfl rfl (Nat.le_of_ble_eq_true rfl) (room_b rfl) dX6_parsed_13 (fun r13 w hw13 => ?_)
  obtain ⟨r1, r2, no1, op1, arg1, many1, low1, high1, masks1, cur1, rl, rh, gr1, ci1, cn1, he1, hno1, hP, rfl⟩ := hw13
  rcases hq : prsT tape n low high with e | ⟨s1, B⟩
  · rw [hq] at hP
    obtain ⟨rfl, e0, e1⟩ := hP
    refine g_istore_n C dX6_parsed_16 (by decide) ?_
    refine g_iload_n C dX6_parsed_17 rfl ?_
    refine g_iconst C dX6_parsed_18 ?_
    refine g_icmp_eq C 27 dX6_parsed_19 (by decide) (by omega) (fun h => absurd h (by omega)) (fun _ => ?_)
    refine g_bipush C dX6_parsed_22 (by decide) ?_
    refine g_iload_n C dX6_parsed_24 rfl ?_
    refine g_isub C dX6_parsed_25 ?_
    refine g_widen (k' := 132) (n' := 49156) (by decide) (by decide) ?_
    exact g_iret C rfl ⟨_, rfl, leads, sideStates, ends, _, ⟨_, _, _, _, _, _, _, _, _, _, _, _, _, _, _, _, _, _, _, _, _, _, _, _, _, _, _, _, _, _, _, _, _, _, _, _, _, _, _, hno1, ns1, hst, by omega, rfl⟩, rfl, Or.inl ⟨_, pat_err hq, e0, e1, rfl, rfl, rfl, rfl⟩⟩ dX6_parsed_26
  · rw [hq] at hP
    obtain ⟨rfl, hN, hlo, hhi, hmk, m, rfl, m0, m1, hrep, hop, harg, hbyt, hmo⟩ := hP
    obtain ⟨s2, p1, p2, p3⟩ := pat_ok n0 hq
    refine g_istore_n C dX6_parsed_16 (by decide) ?_
    refine g_iload_n C dX6_parsed_17 rfl ?_
    refine g_iconst C dX6_parsed_18 ?_
    refine g_icmp_eq C 27 dX6_parsed_19 (by decide) (by decide) (fun _ => ?_) (fun h => absurd rfl h)
    have hsu := prsT_supp n0 hq
    rw [hN] at hsu p2
    unfold tgB at p3
    rw [hlo, hhi] at p3
    exact g_locR rfl (t27 _ _ _ _ _ _ _ _ _ _ _ _ _ _ _ m B s2 hno1 ⟨m0, hrep, hop, harg, hbyt, hmk⟩ hsu m1 hmo p1 p2 p3)
