/-! WHAT A SCHOOL's ROW KEEPS, on: a stone comes -/
set_option maxHeartbeats 4000000 in
theorem GI.stone {B : Int} {g : Int → Int} {f w : Int} (h : GI B g) (hB : B + 1 ≤ 4000) (h10 : g 0 < 10) (hf : 0 ≤ f ∧ f ≤ 9) (hw : 1 ≤ w ∧ w ≤ 9) : GI (B + 1) (gStone g f w) := by
  have e : ∀ j, (gStone g f w) j = if j = 10 + 14 * g 0 + 9 then -1 else if j = 10 + 14 * g 0 + 8 then -1 else if j = 10 + 14 * g 0 + 5 then -1 else if j = 10 + 14 * g 0 + 3 then -1 else if j = 10 + 14 * g 0 + 1 then w else if j = 10 + 14 * g 0 + 0 then f else if 10 + 14 * g 0 ≤ j ∧ j < 10 + 14 * g 0 + 14 then 0 else if j = 0 then g 0 + 1 else g j := fun _ => rfl
  generalize gStone g f w = G at e
  have hn := h.n
  have hm := h.m
  have hct := h.ct
  have hal := h.al
  have o : ∀ j, (j < 10 + 14 * g 0 ∨ 10 + 14 * g 0 + 14 ≤ j) → j ≠ 0 → G j = g j := fun j h1 h2 => by rw [e]; (repeat rw [if_neg (by omega)])
  have n0 : G (10 + 14 * g 0 + 0) = f := by rw [e]; (repeat (first | rw [if_pos (by omega)] | rw [if_neg (by omega)]))
  have n1 : G (10 + 14 * g 0 + 1) = w := by rw [e]; (repeat (first | rw [if_pos (by omega)] | rw [if_neg (by omega)]))
  have n2 : G (10 + 14 * g 0 + 2) = 0 := by rw [e]; (repeat (first | rw [if_pos (by omega)] | rw [if_neg (by omega)]))
  have n3 : G (10 + 14 * g 0 + 3) = -1 := by rw [e]; (repeat (first | rw [if_pos (by omega)] | rw [if_neg (by omega)]))
  have n4 : G (10 + 14 * g 0 + 4) = 0 := by rw [e]; (repeat (first | rw [if_pos (by omega)] | rw [if_neg (by omega)]))
  have n5 : G (10 + 14 * g 0 + 5) = -1 := by rw [e]; (repeat (first | rw [if_pos (by omega)] | rw [if_neg (by omega)]))
  have n6 : G (10 + 14 * g 0 + 6) = 0 := by rw [e]; (repeat (first | rw [if_pos (by omega)] | rw [if_neg (by omega)]))
  have n7 : G (10 + 14 * g 0 + 7) = 0 := by rw [e]; (repeat (first | rw [if_pos (by omega)] | rw [if_neg (by omega)]))
  have n8 : G (10 + 14 * g 0 + 8) = -1 := by rw [e]; (repeat (first | rw [if_pos (by omega)] | rw [if_neg (by omega)]))
  have n9 : G (10 + 14 * g 0 + 9) = -1 := by rw [e]; (repeat (first | rw [if_pos (by omega)] | rw [if_neg (by omega)]))
  have n10 : G (10 + 14 * g 0 + 10) = 0 := by rw [e]; (repeat (first | rw [if_pos (by omega)] | rw [if_neg (by omega)]))
  have e0 : G 0 = g 0 + 1 := by rw [e]; (repeat (first | rw [if_pos rfl] | rw [if_neg (by omega)]))
  have e1 : G 1 = g 1 := o 1 (by omega) (by omega)
  have e2 : G 2 = g 2 := o 2 (by omega) (by omega)
  have e3 : G 3 = g 3 := o 3 (by omega) (by omega)
  have e4 : G 4 = g 4 := o 4 (by omega) (by omega)
  have e5 : G 5 = g 5 := o 5 (by omega) (by omega)
  have e6 : G 6 = g 6 := o 6 (by omega) (by omega)
  have e7 : G 7 = g 7 := o 7 (by omega) (by omega)
  have e8 : G 8 = g 8 := o 8 (by omega) (by omega)
  clear e
  refine ⟨by omega, by omega, fun k' k0 k1 => ?_, fun r' r0 r1 => ?_, fun k' k0 k1 => ?_, fun r' r0 r1 => ?_, fun r' a' r0 r1 b0 b1 => ?_, ⟨by omega, ?_⟩, fun i' i0 i1 => ?_, by omega⟩
  · by_cases ek : k' = g 0
    · subst ek
      unfold SB
      omega
    · have := h.st k' k0 (by omega)
      unfold SB at *
      rw [o (10 + 14 * k' + 0) (by omega) (by omega), o (10 + 14 * k' + 1) (by omega) (by omega), o (10 + 14 * k' + 2) (by omega) (by omega)]
      exact this
  · have := h.rv r' r0 (by omega)
    unfold RB at *
    rw [o (150 + 6 * r' + 0) (by omega) (by omega), o (150 + 6 * r' + 1) (by omega) (by omega)]
    exact this
  · by_cases ek : k' = g 0
    · subst ek
      omega
    · have := h.sx k' k0 (by omega)
      rw [o (10 + 14 * k' + 3) (by omega) (by omega), o (10 + 14 * k' + 4) (by omega) (by omega), o (10 + 14 * k' + 5) (by omega) (by omega), o (10 + 14 * k' + 6) (by omega) (by omega), o (10 + 14 * k' + 7) (by omega) (by omega), o (10 + 14 * k' + 8) (by omega) (by omega), o (10 + 14 * k' + 9) (by omega) (by omega)]
      omega
  · have := h.rx r' r0 (by omega)
    rw [o (150 + 6 * r' + 2) (by omega) (by omega), o (150 + 6 * r' + 3) (by omega) (by omega), o (150 + 6 * r' + 4) (by omega) (by omega)]
    omega
  · have := h.bk r' a' r0 r1 b0 b1
    rw [o (174 + 30 * r' + a') (by omega) (by omega)]
    omega
  · have q8 : stay G (-2) = stay g (-2) := by
      rw [stay_2, stay_2, e0, show (g 0 + 1).toNat = (g 0).toNat + 1 by omega]
      show sumTo _ (g 0).toNat + b2 (G (10 + 14 * ((g 0).toNat : Int) + 5) = -2) = _
      rw [show (((g 0).toNat : Nat) : Int) = g 0 by omega, b2_f (by omega), Int.add_zero]
      exact sumTo_q (fun k' k0 k1 => b2_c (by rw [o (10 + 14 * k' + 5) (by omega) (by omega)]))
    omega
  · have z := h.ai i' i0 (by omega)
    rw [o (294 + i') (by omega) (by omega), o (10 + 14 * g (294 + i') + 5) (by omega) (by omega)]
    exact ⟨z.1, by omega, z.2.2⟩
theorem gDayN_b (g : Int → Int) (n : Nat) (r a : Int) (hr : 0 ≤ r) (ha : 0 ≤ a ∧ a < 30) : gDayN g n (174 + 30 * r + a) = if r < n then (if a < 29 then g (174 + 30 * r + a + 1) else -1) else g (174 + 30 * r + a) := by
  induction n generalizing a with
  | zero => exact (if_neg (by omega)).symm
  | succ n ih =>
    show gDayR (gDayN g n) n (174 + 30 * r + a) = _
    unfold gDayR
    by_cases e : r = n
    · subst e
      rw [if_pos (show (n : Int) < ((n + 1 : Nat) : Int) by omega)]
      by_cases e2 : a < 29
      · rw [if_pos (by omega), if_pos e2, show 174 + 30 * (n : Int) + a + 1 = 174 + 30 * (n : Int) + (a + 1) by omega, ih (a + 1) (by omega), if_neg (by omega)]
      · rw [if_neg (by omega), if_pos (by omega), if_neg e2]
    · rw [if_neg (by omega), if_neg (by omega), ih a ha]
      by_cases e3 : r < n
      · rw [if_pos e3, if_pos (show r < ((n + 1 : Nat) : Int) by omega)]
      · rw [if_neg e3, if_neg (show ¬ r < ((n + 1 : Nat) : Int) by omega)]
theorem gDayN_hi (g : Int → Int) (n : Nat) (hn : n ≤ 4) (j : Int) (hj : 294 ≤ j) : gDayN g n j = g j := gDayN_n g n j (Or.inr (by omega))
theorem GI.day {B : Int} {g : Int → Int} (h : GI B g) (hB : B + 1 ≤ 4000) : GI (B + 1) (gDay g) := by
  have hn := h.n
  have hm := h.m
  have hct := h.ct
  have hal := h.al
  have e2 : gDay g 2 = g 2 + 1 := uz_s _ _ _
  have o : ∀ j, (j < 174 ∨ 294 ≤ j) → j ≠ 2 → gDay g j = g j := fun j h1 h2 => by
    unfold gDay
    rw [uz_n h2]
    rcases h1 with h1 | h1
    · exact gDayN_n g _ j (Or.inl h1)
    · exact gDayN_hi g _ (by omega) j h1
  have b : ∀ r a, 0 ≤ r → 0 ≤ a → a < 30 → gDay g (174 + 30 * r + a) = if r < ((g 1).toNat : Int) then (if a < 29 then g (174 + 30 * r + a + 1) else -1) else g (174 + 30 * r + a) := fun r a h0 h1 h2 => by
    unfold gDay
    rw [uz_n (by omega)]
    exact gDayN_b g _ r a h0 ⟨h1, h2⟩
  generalize gDay g = G at *
  have e0 := o 0 (by omega) (by omega)
  have e1 := o 1 (by omega) (by omega)
  have e3 := o 3 (by omega) (by omega)
  have e4 := o 4 (by omega) (by omega)
  have e5 := o 5 (by omega) (by omega)
  have e6 := o 6 (by omega) (by omega)
  have e7 := o 7 (by omega) (by omega)
  have e8 := o 8 (by omega) (by omega)
  refine ⟨by omega, by omega, fun k' k0 k1 => ?_, fun r' r0 r1 => ?_, fun k' k0 k1 => ?_, fun r' r0 r1 => ?_, fun r' a' r0 r1 b0 b1 => ?_, ⟨by omega, ?_⟩, fun i' i0 i1 => ?_, by omega⟩
  · have := h.st k' k0 (by omega)
    unfold SB at *
    rw [o (10 + 14 * k' + 0) (by omega) (by omega), o (10 + 14 * k' + 1) (by omega) (by omega), o (10 + 14 * k' + 2) (by omega) (by omega)]
    exact this
  · have := h.rv r' r0 (by omega)
    unfold RB at *
    rw [o (150 + 6 * r' + 0) (by omega) (by omega), o (150 + 6 * r' + 1) (by omega) (by omega)]
    exact this
  · have := h.sx k' k0 (by omega)
    rw [o (10 + 14 * k' + 3) (by omega) (by omega), o (10 + 14 * k' + 4) (by omega) (by omega), o (10 + 14 * k' + 5) (by omega) (by omega), o (10 + 14 * k' + 6) (by omega) (by omega), o (10 + 14 * k' + 7) (by omega) (by omega), o (10 + 14 * k' + 8) (by omega) (by omega), o (10 + 14 * k' + 9) (by omega) (by omega)]
    omega
  · have := h.rx r' r0 (by omega)
    rw [o (150 + 6 * r' + 2) (by omega) (by omega), o (150 + 6 * r' + 3) (by omega) (by omega), o (150 + 6 * r' + 4) (by omega) (by omega)]
    omega
  · have z := h.bk r' a' r0 r1 b0 b1
    rw [b r' a' r0 b0 b1]
    by_cases q : a' < 29
    · have z2 := h.bk r' (a' + 1) r0 r1 (by omega) (by omega)
      rw [show 174 + 30 * r' + (a' + 1) = 174 + 30 * r' + a' + 1 by omega] at z2
      (repeat' split) <;> omega
    · (repeat' split) <;> omega
  · rw [stay_e (g := g) e0 (fun k' k0 k1 => o _ (by omega) (by omega))]; omega
  · have z := h.ai i' i0 (by omega)
    rw [o (294 + i') (by omega) (by omega), o (10 + 14 * g (294 + i') + 5) (by omega) (by omega)]
    exact ⟨z.1, by omega, z.2.2⟩
theorem GI.empty (g : Int → Int) : GI 0 (gEmpty g) := by
  have z : ∀ j, 0 ≤ j → j < 304 → ¬ (174 ≤ j ∧ j < 294) → gEmpty g j = 0 := fun j h0 h1 h2 => by
    unfold gEmpty fillN
    rw [if_neg h2, if_pos ⟨h0, h1⟩]
  have m : ∀ j, 174 ≤ j → j < 294 → gEmpty g j = -1 := fun j h0 h1 => if_pos ⟨h0, h1⟩
  generalize gEmpty g = G at *
  have e0 := z 0 (by omega) (by omega) (by omega)
  have e1 := z 1 (by omega) (by omega) (by omega)
  have e2 := z 2 (by omega) (by omega) (by omega)
  have e3 := z 3 (by omega) (by omega) (by omega)
  have e4 := z 4 (by omega) (by omega) (by omega)
  have e5 := z 5 (by omega) (by omega) (by omega)
  have e6 := z 6 (by omega) (by omega) (by omega)
  have e7 := z 7 (by omega) (by omega) (by omega)
  have e8 := z 8 (by omega) (by omega) (by omega)
  refine ⟨by omega, by omega, fun k' k0 k1 => by omega, fun r' r0 r1 => by omega, fun k' k0 k1 => by omega, fun r' r0 r1 => by omega, fun r' a' r0 r1 b0 b1 => ?_, ⟨by omega, ?_⟩, fun i' i0 i1 => by omega, by omega⟩
  · rw [m (174 + 30 * r' + a') (by omega) (by omega)]; omega
  · unfold stay
    rw [e0, e8]
    rfl
