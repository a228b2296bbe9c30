/-! places that lie together -/
theorem plug_mid : ∀ (mid w pre post : va_W), w.length = mid.length → plug (List.range' pre.length mid.length) w (pre ++ (mid ++ post)) = pre ++ (w ++ post)
  | [], [], _, _, _ => rfl
  | [], _ :: _, _, _, h => by cases h
  | _ :: _, [], _, _, h => by cases h
  | m :: mid, q :: w, pre, post, h => by
    have ih := plug_mid mid w (pre ++ [q]) post (by simpa using h)
    show plug (pre.length :: List.range' (pre.length + 1) mid.length) (q :: w) _ = _
    unfold plug
    rw [show (pre ++ (m :: mid ++ post)).set pre.length q = (pre ++ [q]) ++ (mid ++ post) by simp]
    rw [show pre.length + 1 = (pre ++ [q]).length by simp, ih]
    simp
theorem plug_1 {js : List Nat} {p1 mid w : va_W} (hjs : js = List.range' p1.length mid.length) (hl : w.length = mid.length) : plug js w (p1 ++ mid) = p1 ++ w := by
  subst hjs
  have h := plug_mid mid w p1 [] hl
  rw [List.append_nil, List.append_nil] at h
  exact h
theorem plug_2 {js : List Nat} {p1 p2 mid w : va_W} (hjs : js = List.range' (p1.length + p2.length) mid.length) (hl : w.length = mid.length) : plug js w (p1 ++ (p2 ++ mid)) = p1 ++ (p2 ++ w) := by
  rw [← List.append_assoc, ← List.append_assoc]
  exact plug_1 (by rw [List.length_append]; exact hjs) hl
theorem plug_3 {js : List Nat} {p1 p2 p3 mid w : va_W} (hjs : js = List.range' (p1.length + p2.length + p3.length) mid.length) (hl : w.length = mid.length) : plug js w (p1 ++ (p2 ++ (p3 ++ mid))) = p1 ++ (p2 ++ (p3 ++ w)) := by
  rw [← List.append_assoc, ← List.append_assoc p1]
  exact plug_2 (by rw [List.length_append]; exact hjs) hl
theorem g_ws {X : Cx} {nL k n pc : Nat} {ws ws' : va_W} {L : List (Nat × Value)} {st : List Value} (e : ws = ws') (h : G X nL k n ws' pc L st) : G X nL k n ws pc L st := by subst e; exact h
theorem gt_ws {X : Cx} {nL k n pc x : Nat} {ws ws' : va_W} {L : List (Nat × Value)} (e : ws = ws') (h : GT X nL k n ws' pc L x) : GT X nL k n ws pc L x := by subst e; exact h
