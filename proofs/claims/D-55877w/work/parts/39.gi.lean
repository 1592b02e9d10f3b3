/-! WHAT A SCHOOL's ROW KEEPS (GI): each change keeps it -/
theorem sumTo_q {f f' : Int → Int} {n : Nat} (h : ∀ k : Int, 0 ≤ k → k < n → f k = f' k) : sumTo f n = sumTo f' n := by
  induction n with
  | zero => rfl
  | succ n ih =>
    show sumTo f n + f n = sumTo f' n + f' n
    rw [ih (fun k h0 h1 => h k h0 (by omega)), h n (by omega) (by omega)]
theorem sumTo_u {f f' : Int → Int} {n : Nat} {i : Int} (h0 : 0 ≤ i) (h1 : i < n) (h : ∀ k : Int, 0 ≤ k → k < n → k ≠ i → f k = f' k) : sumTo f' n = sumTo f n - f i + f' i := by
  induction n with
  | zero => omega
  | succ n ih =>
    show sumTo f' n + f' n = sumTo f n + f n - f i + f' i
    by_cases e : i = n
    · subst e
      rw [sumTo_q (f := f) (f' := f') (fun k a b => h k a (by omega) (by omega))]
      omega
    · have := ih (by omega) (fun k a b c => h k a (by omega) c)
      have := h n (by omega) (by omega) (by omega)
      omega
theorem GI.up {B B' : Int} {g : Int → Int} (h : GI B g) (h1 : B ≤ B') (h2 : B' ≤ 4000) : GI B' g := by
  obtain ⟨a1, a2, a3, a4, a5, a6, a7, a8, a9, a10⟩ := h
  refine ⟨a1, a2, a3, a4, fun k k0 k1 => ?_, fun r r0 r1 => ?_, a7, a8, a9, ?_⟩
  · have := a5 k k0 k1; omega
  · have := a6 r r0 r1; omega
  · omega
theorem stay_e {g g' : Int → Int} {w : Int} (hn : g' 0 = g 0) (h : ∀ k : Int, 0 ≤ k → k < g 0 → g' (10 + 14 * k + 5) = g (10 + 14 * k + 5)) : stay g' w = stay g w := by
  unfold stay
  rw [hn]
  exact sumTo_q (fun k h0 h1 => by rw [h k h0 (by omega)])
theorem stay_2 {g : Int → Int} : stay g (-2) = sumTo (fun k => b2 (g (10 + 14 * k + 5) = -2)) (g 0).toNat := by
  unfold stay
  refine sumTo_q (fun k h0 h1 => b2_c ?_)
  omega
theorem stay_e2 {g g' : Int → Int} (hn : g' 0 = g 0) (h : ∀ k : Int, 0 ≤ k → k < g 0 → (g' (10 + 14 * k + 5) = -2 ↔ g (10 + 14 * k + 5) = -2)) : stay g' (-2) = stay g (-2) := by
  rw [stay_2, stay_2, hn]
  exact sumTo_q (fun k h0 h1 => b2_c (h k h0 (by omega)))
set_option maxHeartbeats 4000000 in
theorem GI.calm {B : Int} {g : Int → Int} {r v : Int} (h : GI B g) (hB : B + 1 ≤ 4000) (hr : 0 ≤ r ∧ r < g 1) (hv : 0 ≤ v ∧ v ≤ 9) : GI (B + 1) (uz g (150 + 6 * r + 1) v) := by
  have e : ∀ j, (uz g (150 + 6 * r + 1) v) j = if j = 150 + 6 * r + 1 then v else g j := fun _ => rfl
  generalize uz g (150 + 6 * r + 1) v = G at e
  have hn := h.n
  have hm := h.m
  have hct := h.ct
  have hal := h.al
  have e0 : G 0 = g 0 := by rw [e 0]; (repeat (first | rw [if_pos rfl] | rw [if_neg (by omega)]))
  have e1 : G 1 = g 1 := by rw [e 1]; (repeat (first | rw [if_pos rfl] | rw [if_neg (by omega)]))
  have e2 : G 2 = g 2 := by rw [e 2]; (repeat (first | rw [if_pos rfl] | rw [if_neg (by omega)]))
  have e3 : G 3 = g 3 := by rw [e 3]; (repeat (first | rw [if_pos rfl] | rw [if_neg (by omega)]))
  have e4 : G 4 = g 4 := by rw [e 4]; (repeat (first | rw [if_pos rfl] | rw [if_neg (by omega)]))
  have e5 : G 5 = g 5 := by rw [e 5]; (repeat (first | rw [if_pos rfl] | rw [if_neg (by omega)]))
  have e6 : G 6 = g 6 := by rw [e 6]; (repeat (first | rw [if_pos rfl] | rw [if_neg (by omega)]))
  have e7 : G 7 = g 7 := by rw [e 7]; (repeat (first | rw [if_pos rfl] | rw [if_neg (by omega)]))
  have e8 : G 8 = g 8 := by rw [e 8]; (repeat (first | rw [if_pos rfl] | rw [if_neg (by omega)]))
  refine ⟨by omega, by omega, fun k' k0 k1 => ?_, fun r' r0 r1 => ?_, fun k' k0 k1 => ?_, fun r' r0 r1 => ?_, fun r' a' r0 r1 b0 b1 => ?_, ⟨by omega, ?_⟩, fun i' i0 i1 => ?_, by omega⟩
  · have := h.st k' k0
    have q0 := e (10 + 14 * k' + 0)
    have q1 := e (10 + 14 * k' + 1)
    have q2 := e (10 + 14 * k' + 2)
    unfold SB at *
    clear e
    rw [q0, q1, q2]
    (repeat' split) <;> omega
  · have := h.rv r' r0
    have q0 := e (150 + 6 * r' + 0)
    have q1 := e (150 + 6 * r' + 1)
    unfold RB at *
    clear e
    rw [q0, q1]
    (repeat' split) <;> omega
  · have := h.sx k' k0
    have := h.st k' k0
    refine ⟨?_, ?_, ?_, ?_, ?_, ?_, ?_⟩
    · rw [e (10 + 14 * k' + 3)]
      clear e
      (repeat' split) <;> omega
    · rw [e (10 + 14 * k' + 4)]
      clear e
      (repeat' split) <;> omega
    · rw [e (10 + 14 * k' + 5)]
      clear e
      (repeat' split) <;> omega
    · rw [e (10 + 14 * k' + 6)]
      clear e
      (repeat' split) <;> omega
    · rw [e (10 + 14 * k' + 7)]
      clear e
      (repeat' split) <;> omega
    · rw [e (10 + 14 * k' + 8)]
      clear e
      (repeat' split) <;> omega
    · rw [e (10 + 14 * k' + 9)]
      clear e
      (repeat' split) <;> omega
  · have := h.rx r' r0
    refine ⟨?_, ?_, ?_⟩
    · rw [e (150 + 6 * r' + 2)]
      clear e
      (repeat' split) <;> omega
    · rw [e (150 + 6 * r' + 3)]
      clear e
      (repeat' split) <;> omega
    · rw [e (150 + 6 * r' + 4)]
      clear e
      (repeat' split) <;> omega
  · have := h.bk r' a' r0 r1 b0 b1
    rw [e (174 + 30 * r' + a')]
    clear e
    (repeat' split) <;> omega
  · rw [stay_e2 (g := g) (by omega) (fun k' k0 k1 => by rw [e (10 + 14 * k' + 5)]; clear e; (repeat' split) <;> omega)]; omega
  · have z := h.ai i' i0 (by omega)
    have q := e (294 + i')
    have q2 : G (294 + i') = g (294 + i') := by rw [q]; (repeat rw [if_neg (by omega)])
    rw [q2]
    have z2 := e (10 + 14 * g (294 + i') + 5)
    refine ⟨z.1, by omega, ?_⟩
    rw [z2]
    clear e
    (repeat' split) <;> omega
set_option maxHeartbeats 4000000 in
theorem GI.book {B : Int} {g : Int → Int} {k r a : Int} (h : GI B g) (hB : B + 1 ≤ 4000) (hr : 0 ≤ r ∧ r < g 1) (ha : 0 ≤ a ∧ a < 30) (hk : -1 ≤ k ∧ k < g 0) : GI (B + 1) (uz g (174 + 30 * r + a) k) := by
  have e : ∀ j, (uz g (174 + 30 * r + a) k) j = if j = 174 + 30 * r + a then k else g j := fun _ => rfl
  generalize uz g (174 + 30 * r + a) k = G at e
  have hn := h.n
  have hm := h.m
  have hct := h.ct
  have hal := h.al
  have e0 : G 0 = g 0 := by rw [e 0]; (repeat (first | rw [if_pos rfl] | rw [if_neg (by omega)]))
  have e1 : G 1 = g 1 := by rw [e 1]; (repeat (first | rw [if_pos rfl] | rw [if_neg (by omega)]))
  have e2 : G 2 = g 2 := by rw [e 2]; (repeat (first | rw [if_pos rfl] | rw [if_neg (by omega)]))
  have e3 : G 3 = g 3 := by rw [e 3]; (repeat (first | rw [if_pos rfl] | rw [if_neg (by omega)]))
  have e4 : G 4 = g 4 := by rw [e 4]; (repeat (first | rw [if_pos rfl] | rw [if_neg (by omega)]))
  have e5 : G 5 = g 5 := by rw [e 5]; (repeat (first | rw [if_pos rfl] | rw [if_neg (by omega)]))
  have e6 : G 6 = g 6 := by rw [e 6]; (repeat (first | rw [if_pos rfl] | rw [if_neg (by omega)]))
  have e7 : G 7 = g 7 := by rw [e 7]; (repeat (first | rw [if_pos rfl] | rw [if_neg (by omega)]))
  have e8 : G 8 = g 8 := by rw [e 8]; (repeat (first | rw [if_pos rfl] | rw [if_neg (by omega)]))
  refine ⟨by omega, by omega, fun k' k0 k1 => ?_, fun r' r0 r1 => ?_, fun k' k0 k1 => ?_, fun r' r0 r1 => ?_, fun r' a' r0 r1 b0 b1 => ?_, ⟨by omega, ?_⟩, fun i' i0 i1 => ?_, by omega⟩
  · have := h.st k' k0
    have q0 := e (10 + 14 * k' + 0)
    have q1 := e (10 + 14 * k' + 1)
    have q2 := e (10 + 14 * k' + 2)
    unfold SB at *
    clear e
    rw [q0, q1, q2]
    (repeat' split) <;> omega
  · have := h.rv r' r0
    have q0 := e (150 + 6 * r' + 0)
    have q1 := e (150 + 6 * r' + 1)
    unfold RB at *
    clear e
    rw [q0, q1]
    (repeat' split) <;> omega
  · have := h.sx k' k0
    have := h.st k' k0
    refine ⟨?_, ?_, ?_, ?_, ?_, ?_, ?_⟩
    · rw [e (10 + 14 * k' + 3)]
      clear e
      (repeat' split) <;> omega
    · rw [e (10 + 14 * k' + 4)]
      clear e
      (repeat' split) <;> omega
    · rw [e (10 + 14 * k' + 5)]
      clear e
      (repeat' split) <;> omega
    · rw [e (10 + 14 * k' + 6)]
      clear e
      (repeat' split) <;> omega
    · rw [e (10 + 14 * k' + 7)]
      clear e
      (repeat' split) <;> omega
    · rw [e (10 + 14 * k' + 8)]
      clear e
      (repeat' split) <;> omega
    · rw [e (10 + 14 * k' + 9)]
      clear e
      (repeat' split) <;> omega
  · have := h.rx r' r0
    refine ⟨?_, ?_, ?_⟩
    · rw [e (150 + 6 * r' + 2)]
      clear e
      (repeat' split) <;> omega
    · rw [e (150 + 6 * r' + 3)]
      clear e
      (repeat' split) <;> omega
    · rw [e (150 + 6 * r' + 4)]
      clear e
      (repeat' split) <;> omega
  · have := h.bk r' a' r0 r1 b0 b1
    rw [e (174 + 30 * r' + a')]
    clear e
    (repeat' split) <;> omega
  · rw [stay_e2 (g := g) (by omega) (fun k' k0 k1 => by rw [e (10 + 14 * k' + 5)]; clear e; (repeat' split) <;> omega)]; omega
  · have z := h.ai i' i0 (by omega)
    have q := e (294 + i')
    have q2 : G (294 + i') = g (294 + i') := by rw [q]; (repeat rw [if_neg (by omega)])
    rw [q2]
    have z2 := e (10 + 14 * g (294 + i') + 5)
    refine ⟨z.1, by omega, ?_⟩
    rw [z2]
    clear e
    (repeat' split) <;> omega
set_option maxHeartbeats 4000000 in
theorem GI.teach {B : Int} {g : Int → Int} {k : Int} (h : GI B g) (hB : B + 1 ≤ 4000) (hk : 0 ≤ k ∧ k < g 0) : GI (B + 1) (gTeach g k) := by
  have e : ∀ j, (gTeach g k) j = if j = 3 then g 3 + 1 else if j = 10 + 14 * k + 8 then g 2 else if j = 10 + 14 * k + 2 then min (g (10 + 14 * k + 2) + 1 + g (10 + 14 * k + 0) / 2) 99 else g j := fun _ => rfl
  generalize gTeach g k = G at e
  have hn := h.n
  have hm := h.m
  have hct := h.ct
  have hal := h.al
  have hsk := h.st k hk.1 hk.2
  unfold SB at hsk
  have e0 : G 0 = g 0 := by rw [e 0]; (repeat (first | rw [if_pos rfl] | rw [if_neg (by omega)]))
  have e1 : G 1 = g 1 := by rw [e 1]; (repeat (first | rw [if_pos rfl] | rw [if_neg (by omega)]))
  have e2 : G 2 = g 2 := by rw [e 2]; (repeat (first | rw [if_pos rfl] | rw [if_neg (by omega)]))
  have e3 : G 3 = g 3 + 1 := by rw [e 3]; (repeat (first | rw [if_pos rfl] | rw [if_neg (by omega)]))
  have e4 : G 4 = g 4 := by rw [e 4]; (repeat (first | rw [if_pos rfl] | rw [if_neg (by omega)]))
  have e5 : G 5 = g 5 := by rw [e 5]; (repeat (first | rw [if_pos rfl] | rw [if_neg (by omega)]))
  have e6 : G 6 = g 6 := by rw [e 6]; (repeat (first | rw [if_pos rfl] | rw [if_neg (by omega)]))
  have e7 : G 7 = g 7 := by rw [e 7]; (repeat (first | rw [if_pos rfl] | rw [if_neg (by omega)]))
  have e8 : G 8 = g 8 := by rw [e 8]; (repeat (first | rw [if_pos rfl] | rw [if_neg (by omega)]))
  refine ⟨by omega, by omega, fun k' k0 k1 => ?_, fun r' r0 r1 => ?_, fun k' k0 k1 => ?_, fun r' r0 r1 => ?_, fun r' a' r0 r1 b0 b1 => ?_, ⟨by omega, ?_⟩, fun i' i0 i1 => ?_, by omega⟩
  · have := h.st k' k0
    have q0 := e (10 + 14 * k' + 0)
    have q1 := e (10 + 14 * k' + 1)
    have q2 := e (10 + 14 * k' + 2)
    unfold SB at *
    clear e
    rw [q0, q1, q2]
    (repeat' split) <;> omega
  · have := h.rv r' r0
    have q0 := e (150 + 6 * r' + 0)
    have q1 := e (150 + 6 * r' + 1)
    unfold RB at *
    clear e
    rw [q0, q1]
    (repeat' split) <;> omega
  · have := h.sx k' k0
    have := h.st k' k0
    refine ⟨?_, ?_, ?_, ?_, ?_, ?_, ?_⟩
    · rw [e (10 + 14 * k' + 3)]
      clear e
      (repeat' split) <;> omega
    · rw [e (10 + 14 * k' + 4)]
      clear e
      (repeat' split) <;> omega
    · rw [e (10 + 14 * k' + 5)]
      clear e
      (repeat' split) <;> omega
    · rw [e (10 + 14 * k' + 6)]
      clear e
      (repeat' split) <;> omega
    · rw [e (10 + 14 * k' + 7)]
      clear e
      (repeat' split) <;> omega
    · rw [e (10 + 14 * k' + 8)]
      clear e
      (repeat' split) <;> omega
    · rw [e (10 + 14 * k' + 9)]
      clear e
      (repeat' split) <;> omega
  · have := h.rx r' r0
    refine ⟨?_, ?_, ?_⟩
    · rw [e (150 + 6 * r' + 2)]
      clear e
      (repeat' split) <;> omega
    · rw [e (150 + 6 * r' + 3)]
      clear e
      (repeat' split) <;> omega
    · rw [e (150 + 6 * r' + 4)]
      clear e
      (repeat' split) <;> omega
  · have := h.bk r' a' r0 r1 b0 b1
    rw [e (174 + 30 * r' + a')]
    clear e
    (repeat' split) <;> omega
  · rw [stay_e2 (g := g) (by omega) (fun k' k0 k1 => by rw [e (10 + 14 * k' + 5)]; clear e; (repeat' split) <;> omega)]; omega
  · have z := h.ai i' i0 (by omega)
    have q := e (294 + i')
    have q2 : G (294 + i') = g (294 + i') := by rw [q]; (repeat rw [if_neg (by omega)])
    rw [q2]
    have z2 := e (10 + 14 * g (294 + i') + 5)
    refine ⟨z.1, by omega, ?_⟩
    rw [z2]
    clear e
    (repeat' split) <;> omega
set_option maxHeartbeats 4000000 in
theorem GI.fetch {B : Int} {g : Int → Int} {k : Int} (h : GI B g) (hB : B + 1 ≤ 4000) (hk : 0 ≤ k ∧ k < g 0) (hw : g (10 + 14 * k + 5) ≠ -2) : GI (B + 1) (uz g (10 + 14 * k + 5) (-1)) := by
  have e : ∀ j, (uz g (10 + 14 * k + 5) (-1)) j = if j = 10 + 14 * k + 5 then -1 else g j := fun _ => rfl
  generalize uz g (10 + 14 * k + 5) (-1) = G at e
  have hn := h.n
  have hm := h.m
  have hct := h.ct
  have hal := h.al
  have e0 : G 0 = g 0 := by rw [e 0]; (repeat (first | rw [if_pos rfl] | rw [if_neg (by omega)]))
  have e1 : G 1 = g 1 := by rw [e 1]; (repeat (first | rw [if_pos rfl] | rw [if_neg (by omega)]))
  have e2 : G 2 = g 2 := by rw [e 2]; (repeat (first | rw [if_pos rfl] | rw [if_neg (by omega)]))
  have e3 : G 3 = g 3 := by rw [e 3]; (repeat (first | rw [if_pos rfl] | rw [if_neg (by omega)]))
  have e4 : G 4 = g 4 := by rw [e 4]; (repeat (first | rw [if_pos rfl] | rw [if_neg (by omega)]))
  have e5 : G 5 = g 5 := by rw [e 5]; (repeat (first | rw [if_pos rfl] | rw [if_neg (by omega)]))
  have e6 : G 6 = g 6 := by rw [e 6]; (repeat (first | rw [if_pos rfl] | rw [if_neg (by omega)]))
  have e7 : G 7 = g 7 := by rw [e 7]; (repeat (first | rw [if_pos rfl] | rw [if_neg (by omega)]))
  have e8 : G 8 = g 8 := by rw [e 8]; (repeat (first | rw [if_pos rfl] | rw [if_neg (by omega)]))
  refine ⟨by omega, by omega, fun k' k0 k1 => ?_, fun r' r0 r1 => ?_, fun k' k0 k1 => ?_, fun r' r0 r1 => ?_, fun r' a' r0 r1 b0 b1 => ?_, ⟨by omega, ?_⟩, fun i' i0 i1 => ?_, by omega⟩
  · have := h.st k' k0
    have q0 := e (10 + 14 * k' + 0)
    have q1 := e (10 + 14 * k' + 1)
    have q2 := e (10 + 14 * k' + 2)
    unfold SB at *
    clear e
    rw [q0, q1, q2]
    (repeat' split) <;> omega
  · have := h.rv r' r0
    have q0 := e (150 + 6 * r' + 0)
    have q1 := e (150 + 6 * r' + 1)
    unfold RB at *
    clear e
    rw [q0, q1]
    (repeat' split) <;> omega
  · have := h.sx k' k0
    have := h.st k' k0
    refine ⟨?_, ?_, ?_, ?_, ?_, ?_, ?_⟩
    · rw [e (10 + 14 * k' + 3)]
      clear e
      (repeat' split) <;> omega
    · rw [e (10 + 14 * k' + 4)]
      clear e
      (repeat' split) <;> omega
    · rw [e (10 + 14 * k' + 5)]
      clear e
      (repeat' split) <;> omega
    · rw [e (10 + 14 * k' + 6)]
      clear e
      (repeat' split) <;> omega
    · rw [e (10 + 14 * k' + 7)]
      clear e
      (repeat' split) <;> omega
    · rw [e (10 + 14 * k' + 8)]
      clear e
      (repeat' split) <;> omega
    · rw [e (10 + 14 * k' + 9)]
      clear e
      (repeat' split) <;> omega
  · have := h.rx r' r0
    refine ⟨?_, ?_, ?_⟩
    · rw [e (150 + 6 * r' + 2)]
      clear e
      (repeat' split) <;> omega
    · rw [e (150 + 6 * r' + 3)]
      clear e
      (repeat' split) <;> omega
    · rw [e (150 + 6 * r' + 4)]
      clear e
      (repeat' split) <;> omega
  · have := h.bk r' a' r0 r1 b0 b1
    rw [e (174 + 30 * r' + a')]
    clear e
    (repeat' split) <;> omega
  · rw [stay_e2 (g := g) (by omega) (fun k' k0 k1 => by
      rw [e (10 + 14 * k' + 5)]
      clear e
      by_cases ek : k' = k
      · subst ek; (repeat' split) <;> omega
      · (repeat' split) <;> omega)]
    omega
  · have z := h.ai i' i0 (by omega)
    have q := e (294 + i')
    have q2 : G (294 + i') = g (294 + i') := by rw [q]; (repeat rw [if_neg (by omega)])
    rw [q2]
    have ek : g (294 + i') ≠ k := fun ek => hw (by rw [← ek]; exact z.2.2)
    have z2 := e (10 + 14 * g (294 + i') + 5)
    refine ⟨z.1, by omega, ?_⟩
    rw [z2]
    clear e
    (repeat' split) <;> omega
set_option maxHeartbeats 4000000 in
theorem GI.trialA {B : Int} {g : Int → Int} {k a n : Int} (h : GI B g) (hB : B + 1 ≤ 4000) (hk : 0 ≤ k ∧ k < g 0) (hn9 : 0 ≤ n ∧ n ≤ 240) (ha : 0 ≤ a ∧ a ≤ 90) : GI (B + 1) (uz (uz (uz (uz g (10 + 14 * k + 3) a) (10 + 14 * k + 4) n) (10 + 14 * k + 9) (g 2)) 4 (g 4 + 1)) := by
  have e : ∀ j, (uz (uz (uz (uz g (10 + 14 * k + 3) a) (10 + 14 * k + 4) n) (10 + 14 * k + 9) (g 2)) 4 (g 4 + 1)) j = if j = 4 then g 4 + 1 else if j = 10 + 14 * k + 9 then g 2 else if j = 10 + 14 * k + 4 then n else if j = 10 + 14 * k + 3 then a else g j := fun _ => rfl
  generalize uz (uz (uz (uz g (10 + 14 * k + 3) a) (10 + 14 * k + 4) n) (10 + 14 * k + 9) (g 2)) 4 (g 4 + 1) = G at e
  have hn := h.n
  have hm := h.m
  have hct := h.ct
  have hal := h.al
  have e0 : G 0 = g 0 := by rw [e 0]; (repeat (first | rw [if_pos rfl] | rw [if_neg (by omega)]))
  have e1 : G 1 = g 1 := by rw [e 1]; (repeat (first | rw [if_pos rfl] | rw [if_neg (by omega)]))
  have e2 : G 2 = g 2 := by rw [e 2]; (repeat (first | rw [if_pos rfl] | rw [if_neg (by omega)]))
  have e3 : G 3 = g 3 := by rw [e 3]; (repeat (first | rw [if_pos rfl] | rw [if_neg (by omega)]))
  have e4 : G 4 = g 4 + 1 := by rw [e 4]; (repeat (first | rw [if_pos rfl] | rw [if_neg (by omega)]))
  have e5 : G 5 = g 5 := by rw [e 5]; (repeat (first | rw [if_pos rfl] | rw [if_neg (by omega)]))
  have e6 : G 6 = g 6 := by rw [e 6]; (repeat (first | rw [if_pos rfl] | rw [if_neg (by omega)]))
  have e7 : G 7 = g 7 := by rw [e 7]; (repeat (first | rw [if_pos rfl] | rw [if_neg (by omega)]))
  have e8 : G 8 = g 8 := by rw [e 8]; (repeat (first | rw [if_pos rfl] | rw [if_neg (by omega)]))
  refine ⟨by omega, by omega, fun k' k0 k1 => ?_, fun r' r0 r1 => ?_, fun k' k0 k1 => ?_, fun r' r0 r1 => ?_, fun r' a' r0 r1 b0 b1 => ?_, ⟨by omega, ?_⟩, fun i' i0 i1 => ?_, by omega⟩
  · have := h.st k' k0
    have q0 := e (10 + 14 * k' + 0)
    have q1 := e (10 + 14 * k' + 1)
    have q2 := e (10 + 14 * k' + 2)
    unfold SB at *
    clear e
    rw [q0, q1, q2]
    (repeat' split) <;> omega
  · have := h.rv r' r0
    have q0 := e (150 + 6 * r' + 0)
    have q1 := e (150 + 6 * r' + 1)
    unfold RB at *
    clear e
    rw [q0, q1]
    (repeat' split) <;> omega
  · have := h.sx k' k0
    have := h.st k' k0
    refine ⟨?_, ?_, ?_, ?_, ?_, ?_, ?_⟩
    · rw [e (10 + 14 * k' + 3)]
      clear e
      (repeat' split) <;> omega
    · rw [e (10 + 14 * k' + 4)]
      clear e
      (repeat' split) <;> omega
    · rw [e (10 + 14 * k' + 5)]
      clear e
      (repeat' split) <;> omega
    · rw [e (10 + 14 * k' + 6)]
      clear e
      (repeat' split) <;> omega
    · rw [e (10 + 14 * k' + 7)]
      clear e
      (repeat' split) <;> omega
    · rw [e (10 + 14 * k' + 8)]
      clear e
      (repeat' split) <;> omega
    · rw [e (10 + 14 * k' + 9)]
      clear e
      (repeat' split) <;> omega
  · have := h.rx r' r0
    refine ⟨?_, ?_, ?_⟩
    · rw [e (150 + 6 * r' + 2)]
      clear e
      (repeat' split) <;> omega
    · rw [e (150 + 6 * r' + 3)]
      clear e
      (repeat' split) <;> omega
    · rw [e (150 + 6 * r' + 4)]
      clear e
      (repeat' split) <;> omega
  · have := h.bk r' a' r0 r1 b0 b1
    rw [e (174 + 30 * r' + a')]
    clear e
    (repeat' split) <;> omega
  · rw [stay_e2 (g := g) (by omega) (fun k' k0 k1 => by rw [e (10 + 14 * k' + 5)]; clear e; (repeat' split) <;> omega)]; omega
  · have z := h.ai i' i0 (by omega)
    have q := e (294 + i')
    have q2 : G (294 + i') = g (294 + i') := by rw [q]; (repeat rw [if_neg (by omega)])
    rw [q2]
    have z2 := e (10 + 14 * g (294 + i') + 5)
    refine ⟨z.1, by omega, ?_⟩
    rw [z2]
    clear e
    (repeat' split) <;> omega
set_option maxHeartbeats 4000000 in
theorem GI.trialB {B : Int} {g : Int → Int} {k : Int} (h : GI B g) (hB : B + 1 ≤ 4000) (hk : 0 ≤ k ∧ k < g 0) : GI (B + 1) (uz (uz g (10 + 14 * k + 9) (g 2)) 4 (g 4 + 1)) := by
  have e : ∀ j, (uz (uz g (10 + 14 * k + 9) (g 2)) 4 (g 4 + 1)) j = if j = 4 then g 4 + 1 else if j = 10 + 14 * k + 9 then g 2 else g j := fun _ => rfl
  generalize uz (uz g (10 + 14 * k + 9) (g 2)) 4 (g 4 + 1) = G at e
  have hn := h.n
  have hm := h.m
  have hct := h.ct
  have hal := h.al
  have e0 : G 0 = g 0 := by rw [e 0]; (repeat (first | rw [if_pos rfl] | rw [if_neg (by omega)]))
  have e1 : G 1 = g 1 := by rw [e 1]; (repeat (first | rw [if_pos rfl] | rw [if_neg (by omega)]))
  have e2 : G 2 = g 2 := by rw [e 2]; (repeat (first | rw [if_pos rfl] | rw [if_neg (by omega)]))
  have e3 : G 3 = g 3 := by rw [e 3]; (repeat (first | rw [if_pos rfl] | rw [if_neg (by omega)]))
  have e4 : G 4 = g 4 + 1 := by rw [e 4]; (repeat (first | rw [if_pos rfl] | rw [if_neg (by omega)]))
  have e5 : G 5 = g 5 := by rw [e 5]; (repeat (first | rw [if_pos rfl] | rw [if_neg (by omega)]))
  have e6 : G 6 = g 6 := by rw [e 6]; (repeat (first | rw [if_pos rfl] | rw [if_neg (by omega)]))
  have e7 : G 7 = g 7 := by rw [e 7]; (repeat (first | rw [if_pos rfl] | rw [if_neg (by omega)]))
  have e8 : G 8 = g 8 := by rw [e 8]; (repeat (first | rw [if_pos rfl] | rw [if_neg (by omega)]))
  refine ⟨by omega, by omega, fun k' k0 k1 => ?_, fun r' r0 r1 => ?_, fun k' k0 k1 => ?_, fun r' r0 r1 => ?_, fun r' a' r0 r1 b0 b1 => ?_, ⟨by omega, ?_⟩, fun i' i0 i1 => ?_, by omega⟩
  · have := h.st k' k0
    have q0 := e (10 + 14 * k' + 0)
    have q1 := e (10 + 14 * k' + 1)
    have q2 := e (10 + 14 * k' + 2)
    unfold SB at *
    clear e
    rw [q0, q1, q2]
    (repeat' split) <;> omega
  · have := h.rv r' r0
    have q0 := e (150 + 6 * r' + 0)
    have q1 := e (150 + 6 * r' + 1)
    unfold RB at *
    clear e
    rw [q0, q1]
    (repeat' split) <;> omega
  · have := h.sx k' k0
    have := h.st k' k0
    refine ⟨?_, ?_, ?_, ?_, ?_, ?_, ?_⟩
    · rw [e (10 + 14 * k' + 3)]
      clear e
      (repeat' split) <;> omega
    · rw [e (10 + 14 * k' + 4)]
      clear e
      (repeat' split) <;> omega
    · rw [e (10 + 14 * k' + 5)]
      clear e
      (repeat' split) <;> omega
    · rw [e (10 + 14 * k' + 6)]
      clear e
      (repeat' split) <;> omega
    · rw [e (10 + 14 * k' + 7)]
      clear e
      (repeat' split) <;> omega
    · rw [e (10 + 14 * k' + 8)]
      clear e
      (repeat' split) <;> omega
    · rw [e (10 + 14 * k' + 9)]
      clear e
      (repeat' split) <;> omega
  · have := h.rx r' r0
    refine ⟨?_, ?_, ?_⟩
    · rw [e (150 + 6 * r' + 2)]
      clear e
      (repeat' split) <;> omega
    · rw [e (150 + 6 * r' + 3)]
      clear e
      (repeat' split) <;> omega
    · rw [e (150 + 6 * r' + 4)]
      clear e
      (repeat' split) <;> omega
  · have := h.bk r' a' r0 r1 b0 b1
    rw [e (174 + 30 * r' + a')]
    clear e
    (repeat' split) <;> omega
  · rw [stay_e2 (g := g) (by omega) (fun k' k0 k1 => by rw [e (10 + 14 * k' + 5)]; clear e; (repeat' split) <;> omega)]; omega
  · have z := h.ai i' i0 (by omega)
    have q := e (294 + i')
    have q2 : G (294 + i') = g (294 + i') := by rw [q]; (repeat rw [if_neg (by omega)])
    rw [q2]
    have z2 := e (10 + 14 * g (294 + i') + 5)
    refine ⟨z.1, by omega, ?_⟩
    rw [z2]
    clear e
    (repeat' split) <;> omega
theorem GI.trial {B : Int} {g : Int → Int} {k a n : Int} (h : GI B g) (hB : B + 1 ≤ 4000) (hk : 0 ≤ k ∧ k < g 0) (hn9 : 0 ≤ n ∧ n ≤ 240) (ha : 0 ≤ a ∧ a ≤ 90) : GI (B + 1) (gTrial g k a n) := by
  unfold gTrial
  split
  · exact h.trialA hB hk hn9 ha
  · exact h.trialB hB hk
set_option maxHeartbeats 4000000 in
theorem GI.skim0 {B : Int} {g : Int → Int} {k r n : Int} (h : GI B g) (hB : B + 1 ≤ 4000) (hk : 0 ≤ k ∧ k < g 0) (hn9 : 0 ≤ n ∧ n ≤ 240) : GI (B + 1) (gSkim0 g k r n) := by
  have e : ∀ j, (gSkim0 g k r n) j = if j = 7 then g 7 + n else if j = 5 then g 5 + 1 else if j = 10 + 14 * k + 7 then g (10 + 14 * k + 7) + n else if j = 10 + 14 * k + 6 then g (10 + 14 * k + 6) + 1 else g j := fun _ => rfl
  generalize gSkim0 g k r n = G at e
  have hn := h.n
  have hm := h.m
  have hct := h.ct
  have hal := h.al
  have hsx := h.sx k hk.1 hk.2
  have e0 : G 0 = g 0 := by rw [e 0]; (repeat (first | rw [if_pos rfl] | rw [if_neg (by omega)]))
  have e1 : G 1 = g 1 := by rw [e 1]; (repeat (first | rw [if_pos rfl] | rw [if_neg (by omega)]))
  have e2 : G 2 = g 2 := by rw [e 2]; (repeat (first | rw [if_pos rfl] | rw [if_neg (by omega)]))
  have e3 : G 3 = g 3 := by rw [e 3]; (repeat (first | rw [if_pos rfl] | rw [if_neg (by omega)]))
  have e4 : G 4 = g 4 := by rw [e 4]; (repeat (first | rw [if_pos rfl] | rw [if_neg (by omega)]))
  have e5 : G 5 = g 5 + 1 := by rw [e 5]; (repeat (first | rw [if_pos rfl] | rw [if_neg (by omega)]))
  have e6 : G 6 = g 6 := by rw [e 6]; (repeat (first | rw [if_pos rfl] | rw [if_neg (by omega)]))
  have e7 : G 7 = g 7 + n := by rw [e 7]; (repeat (first | rw [if_pos rfl] | rw [if_neg (by omega)]))
  have e8 : G 8 = g 8 := by rw [e 8]; (repeat (first | rw [if_pos rfl] | rw [if_neg (by omega)]))
  refine ⟨by omega, by omega, fun k' k0 k1 => ?_, fun r' r0 r1 => ?_, fun k' k0 k1 => ?_, fun r' r0 r1 => ?_, fun r' a' r0 r1 b0 b1 => ?_, ⟨by omega, ?_⟩, fun i' i0 i1 => ?_, by omega⟩
  · have := h.st k' k0
    have q0 := e (10 + 14 * k' + 0)
    have q1 := e (10 + 14 * k' + 1)
    have q2 := e (10 + 14 * k' + 2)
    unfold SB at *
    clear e
    rw [q0, q1, q2]
    (repeat' split) <;> omega
  · have := h.rv r' r0
    have q0 := e (150 + 6 * r' + 0)
    have q1 := e (150 + 6 * r' + 1)
    unfold RB at *
    clear e
    rw [q0, q1]
    (repeat' split) <;> omega
  · have := h.sx k' k0
    have := h.st k' k0
    refine ⟨?_, ?_, ?_, ?_, ?_, ?_, ?_⟩
    · rw [e (10 + 14 * k' + 3)]
      clear e
      (repeat' split) <;> omega
    · rw [e (10 + 14 * k' + 4)]
      clear e
      (repeat' split) <;> omega
    · rw [e (10 + 14 * k' + 5)]
      clear e
      (repeat' split) <;> omega
    · rw [e (10 + 14 * k' + 6)]
      clear e
      (repeat' split) <;> omega
    · rw [e (10 + 14 * k' + 7)]
      clear e
      (repeat' split) <;> omega
    · rw [e (10 + 14 * k' + 8)]
      clear e
      (repeat' split) <;> omega
    · rw [e (10 + 14 * k' + 9)]
      clear e
      (repeat' split) <;> omega
  · have := h.rx r' r0
    refine ⟨?_, ?_, ?_⟩
    · rw [e (150 + 6 * r' + 2)]
      clear e
      (repeat' split) <;> omega
    · rw [e (150 + 6 * r' + 3)]
      clear e
      (repeat' split) <;> omega
    · rw [e (150 + 6 * r' + 4)]
      clear e
      (repeat' split) <;> omega
  · have := h.bk r' a' r0 r1 b0 b1
    rw [e (174 + 30 * r' + a')]
    clear e
    (repeat' split) <;> omega
  · rw [stay_e2 (g := g) (by omega) (fun k' k0 k1 => by rw [e (10 + 14 * k' + 5)]; clear e; (repeat' split) <;> omega)]; omega
  · have z := h.ai i' i0 (by omega)
    have q := e (294 + i')
    have q2 : G (294 + i') = g (294 + i') := by rw [q]; (repeat rw [if_neg (by omega)])
    rw [q2]
    have z2 := e (10 + 14 * g (294 + i') + 5)
    refine ⟨z.1, by omega, ?_⟩
    rw [z2]
    clear e
    (repeat' split) <;> omega
set_option maxHeartbeats 4000000 in
theorem GI.sawA {B : Int} {g : Int → Int} {k r n : Int} (h : GI B g) (hB : B + 1 ≤ 4000) (hk : 0 ≤ k ∧ k < g 0) (hr : 0 ≤ r ∧ r < g 1) (hn9 : 0 ≤ n ∧ n ≤ 240) : GI (B + 1) (uz (uz g (150 + 6 * r + 2) n) (150 + 6 * r + 3) k) := by
  have e : ∀ j, (uz (uz g (150 + 6 * r + 2) n) (150 + 6 * r + 3) k) j = if j = 150 + 6 * r + 3 then k else if j = 150 + 6 * r + 2 then n else g j := fun _ => rfl
  generalize uz (uz g (150 + 6 * r + 2) n) (150 + 6 * r + 3) k = G at e
  have hn := h.n
  have hm := h.m
  have hct := h.ct
  have hal := h.al
  have e0 : G 0 = g 0 := by rw [e 0]; (repeat (first | rw [if_pos rfl] | rw [if_neg (by omega)]))
  have e1 : G 1 = g 1 := by rw [e 1]; (repeat (first | rw [if_pos rfl] | rw [if_neg (by omega)]))
  have e2 : G 2 = g 2 := by rw [e 2]; (repeat (first | rw [if_pos rfl] | rw [if_neg (by omega)]))
  have e3 : G 3 = g 3 := by rw [e 3]; (repeat (first | rw [if_pos rfl] | rw [if_neg (by omega)]))
  have e4 : G 4 = g 4 := by rw [e 4]; (repeat (first | rw [if_pos rfl] | rw [if_neg (by omega)]))
  have e5 : G 5 = g 5 := by rw [e 5]; (repeat (first | rw [if_pos rfl] | rw [if_neg (by omega)]))
  have e6 : G 6 = g 6 := by rw [e 6]; (repeat (first | rw [if_pos rfl] | rw [if_neg (by omega)]))
  have e7 : G 7 = g 7 := by rw [e 7]; (repeat (first | rw [if_pos rfl] | rw [if_neg (by omega)]))
  have e8 : G 8 = g 8 := by rw [e 8]; (repeat (first | rw [if_pos rfl] | rw [if_neg (by omega)]))
  refine ⟨by omega, by omega, fun k' k0 k1 => ?_, fun r' r0 r1 => ?_, fun k' k0 k1 => ?_, fun r' r0 r1 => ?_, fun r' a' r0 r1 b0 b1 => ?_, ⟨by omega, ?_⟩, fun i' i0 i1 => ?_, by omega⟩
  · have := h.st k' k0
    have q0 := e (10 + 14 * k' + 0)
    have q1 := e (10 + 14 * k' + 1)
    have q2 := e (10 + 14 * k' + 2)
    unfold SB at *
    clear e
    rw [q0, q1, q2]
    (repeat' split) <;> omega
  · have := h.rv r' r0
    have q0 := e (150 + 6 * r' + 0)
    have q1 := e (150 + 6 * r' + 1)
    unfold RB at *
    clear e
    rw [q0, q1]
    (repeat' split) <;> omega
  · have := h.sx k' k0
    have := h.st k' k0
    refine ⟨?_, ?_, ?_, ?_, ?_, ?_, ?_⟩
    · rw [e (10 + 14 * k' + 3)]
      clear e
      (repeat' split) <;> omega
    · rw [e (10 + 14 * k' + 4)]
      clear e
      (repeat' split) <;> omega
    · rw [e (10 + 14 * k' + 5)]
      clear e
      (repeat' split) <;> omega
    · rw [e (10 + 14 * k' + 6)]
      clear e
      (repeat' split) <;> omega
    · rw [e (10 + 14 * k' + 7)]
      clear e
      (repeat' split) <;> omega
    · rw [e (10 + 14 * k' + 8)]
      clear e
      (repeat' split) <;> omega
    · rw [e (10 + 14 * k' + 9)]
      clear e
      (repeat' split) <;> omega
  · have := h.rx r' r0
    refine ⟨?_, ?_, ?_⟩
    · rw [e (150 + 6 * r' + 2)]
      clear e
      (repeat' split) <;> omega
    · rw [e (150 + 6 * r' + 3)]
      clear e
      (repeat' split) <;> omega
    · rw [e (150 + 6 * r' + 4)]
      clear e
      (repeat' split) <;> omega
  · have := h.bk r' a' r0 r1 b0 b1
    rw [e (174 + 30 * r' + a')]
    clear e
    (repeat' split) <;> omega
  · rw [stay_e2 (g := g) (by omega) (fun k' k0 k1 => by rw [e (10 + 14 * k' + 5)]; clear e; (repeat' split) <;> omega)]; omega
  · have z := h.ai i' i0 (by omega)
    have q := e (294 + i')
    have q2 : G (294 + i') = g (294 + i') := by rw [q]; (repeat rw [if_neg (by omega)])
    rw [q2]
    have z2 := e (10 + 14 * g (294 + i') + 5)
    refine ⟨z.1, by omega, ?_⟩
    rw [z2]
    clear e
    (repeat' split) <;> omega
theorem GI.saw {B : Int} {g : Int → Int} {k r n : Int} (h : GI B g) (hB : B + 1 ≤ 4000) (hk : 0 ≤ k ∧ k < g 0) (hr : 0 ≤ r ∧ r < g 1) (hn9 : 0 ≤ n ∧ n ≤ 240) : GI (B + 1) (gSaw g r k n) := by
  unfold gSaw
  split
  · exact h.sawA hB hk hr hn9
  · exact h.up (by omega) hB
set_option maxHeartbeats 4000000 in
theorem GI.over {B : Int} {g : Int → Int} {k r n : Int} (h : GI B g) (hB : B + 1 ≤ 4000) (hk : 0 ≤ k ∧ k < g 0) (hr : 0 ≤ r ∧ r < g 1) (hn9 : 0 ≤ n ∧ n ≤ 240) (hw : g (10 + 14 * k + 5) ≠ -2) (h65 : g 6 + 1 ≤ g 5) : GI (B + 1) (gOver g k r n) := by
  have e : ∀ j, (gOver g k r n) j = if j = 6 then g 6 + 1 else if j = 10 + 14 * k + 2 then min (g (10 + 14 * k + 2) + n) 99 else if j = 10 + 14 * k + 5 then r else g j := fun _ => rfl
  generalize gOver g k r n = G at e
  have hn := h.n
  have hm := h.m
  have hct := h.ct
  have hal := h.al
  have hsk := h.st k hk.1 hk.2
  unfold SB at hsk
  have e0 : G 0 = g 0 := by rw [e 0]; (repeat (first | rw [if_pos rfl] | rw [if_neg (by omega)]))
  have e1 : G 1 = g 1 := by rw [e 1]; (repeat (first | rw [if_pos rfl] | rw [if_neg (by omega)]))
  have e2 : G 2 = g 2 := by rw [e 2]; (repeat (first | rw [if_pos rfl] | rw [if_neg (by omega)]))
  have e3 : G 3 = g 3 := by rw [e 3]; (repeat (first | rw [if_pos rfl] | rw [if_neg (by omega)]))
  have e4 : G 4 = g 4 := by rw [e 4]; (repeat (first | rw [if_pos rfl] | rw [if_neg (by omega)]))
  have e5 : G 5 = g 5 := by rw [e 5]; (repeat (first | rw [if_pos rfl] | rw [if_neg (by omega)]))
  have e6 : G 6 = g 6 + 1 := by rw [e 6]; (repeat (first | rw [if_pos rfl] | rw [if_neg (by omega)]))
  have e7 : G 7 = g 7 := by rw [e 7]; (repeat (first | rw [if_pos rfl] | rw [if_neg (by omega)]))
  have e8 : G 8 = g 8 := by rw [e 8]; (repeat (first | rw [if_pos rfl] | rw [if_neg (by omega)]))
  refine ⟨by omega, by omega, fun k' k0 k1 => ?_, fun r' r0 r1 => ?_, fun k' k0 k1 => ?_, fun r' r0 r1 => ?_, fun r' a' r0 r1 b0 b1 => ?_, ⟨by omega, ?_⟩, fun i' i0 i1 => ?_, by omega⟩
  · have := h.st k' k0
    have q0 := e (10 + 14 * k' + 0)
    have q1 := e (10 + 14 * k' + 1)
    have q2 := e (10 + 14 * k' + 2)
    unfold SB at *
    clear e
    rw [q0, q1, q2]
    (repeat' split) <;> omega
  · have := h.rv r' r0
    have q0 := e (150 + 6 * r' + 0)
    have q1 := e (150 + 6 * r' + 1)
    unfold RB at *
    clear e
    rw [q0, q1]
    (repeat' split) <;> omega
  · have := h.sx k' k0
    have := h.st k' k0
    refine ⟨?_, ?_, ?_, ?_, ?_, ?_, ?_⟩
    · rw [e (10 + 14 * k' + 3)]
      clear e
      (repeat' split) <;> omega
    · rw [e (10 + 14 * k' + 4)]
      clear e
      (repeat' split) <;> omega
    · rw [e (10 + 14 * k' + 5)]
      clear e
      (repeat' split) <;> omega
    · rw [e (10 + 14 * k' + 6)]
      clear e
      (repeat' split) <;> omega
    · rw [e (10 + 14 * k' + 7)]
      clear e
      (repeat' split) <;> omega
    · rw [e (10 + 14 * k' + 8)]
      clear e
      (repeat' split) <;> omega
    · rw [e (10 + 14 * k' + 9)]
      clear e
      (repeat' split) <;> omega
  · have := h.rx r' r0
    refine ⟨?_, ?_, ?_⟩
    · rw [e (150 + 6 * r' + 2)]
      clear e
      (repeat' split) <;> omega
    · rw [e (150 + 6 * r' + 3)]
      clear e
      (repeat' split) <;> omega
    · rw [e (150 + 6 * r' + 4)]
      clear e
      (repeat' split) <;> omega
  · have := h.bk r' a' r0 r1 b0 b1
    rw [e (174 + 30 * r' + a')]
    clear e
    (repeat' split) <;> omega
  · rw [stay_e2 (g := g) (by omega) (fun k' k0 k1 => by
      rw [e (10 + 14 * k' + 5)]
      clear e
      by_cases ek : k' = k
      · subst ek; (repeat' split) <;> omega
      · (repeat' split) <;> omega)]
    omega
  · have z := h.ai i' i0 (by omega)
    have q := e (294 + i')
    have q2 : G (294 + i') = g (294 + i') := by rw [q]; (repeat rw [if_neg (by omega)])
    rw [q2]
    have ek : g (294 + i') ≠ k := fun ek => hw (by rw [← ek]; exact z.2.2)
    have z2 := e (10 + 14 * g (294 + i') + 5)
    refine ⟨z.1, by omega, ?_⟩
    rw [z2]
    clear e
    (repeat' split) <;> omega
set_option maxHeartbeats 4000000 in
theorem GI.sink {B : Int} {g : Int → Int} {k r : Int} (h : GI B g) (hB : B + 1 ≤ 4000) (hk : 0 ≤ k ∧ k < g 0) (hr : 0 ≤ r ∧ r < g 1) (hw : g (10 + 14 * k + 5) ≠ -2) : GI (B + 1) (gSink g k r) := by
  have e : ∀ j, (gSink g k r) j = if j = 8 then g 8 + 1 else if j = 294 + g 8 then k else if j = 150 + 6 * r + 4 then g (150 + 6 * r + 4) + 1 else if j = 10 + 14 * k + 10 then g 2 else if j = 10 + 14 * k + 5 then -2 else g j := fun _ => rfl
  generalize gSink g k r = G at e
  have hn := h.n
  have hm := h.m
  have hct := h.ct
  have hal := h.al
  have hrm := h.room k hk.1 hk.2 hw
  have hrx := h.rx r hr.1 hr.2
  have e0 : G 0 = g 0 := by rw [e 0]; (repeat (first | rw [if_pos rfl] | rw [if_neg (by omega)]))
  have e1 : G 1 = g 1 := by rw [e 1]; (repeat (first | rw [if_pos rfl] | rw [if_neg (by omega)]))
  have e2 : G 2 = g 2 := by rw [e 2]; (repeat (first | rw [if_pos rfl] | rw [if_neg (by omega)]))
  have e3 : G 3 = g 3 := by rw [e 3]; (repeat (first | rw [if_pos rfl] | rw [if_neg (by omega)]))
  have e4 : G 4 = g 4 := by rw [e 4]; (repeat (first | rw [if_pos rfl] | rw [if_neg (by omega)]))
  have e5 : G 5 = g 5 := by rw [e 5]; (repeat (first | rw [if_pos rfl] | rw [if_neg (by omega)]))
  have e6 : G 6 = g 6 := by rw [e 6]; (repeat (first | rw [if_pos rfl] | rw [if_neg (by omega)]))
  have e7 : G 7 = g 7 := by rw [e 7]; (repeat (first | rw [if_pos rfl] | rw [if_neg (by omega)]))
  have e8 : G 8 = g 8 + 1 := by rw [e 8]; (repeat (first | rw [if_pos rfl] | rw [if_neg (by omega)]))
  refine ⟨by omega, by omega, fun k' k0 k1 => ?_, fun r' r0 r1 => ?_, fun k' k0 k1 => ?_, fun r' r0 r1 => ?_, fun r' a' r0 r1 b0 b1 => ?_, ⟨by omega, ?_⟩, fun i' i0 i1 => ?_, by omega⟩
  · have := h.st k' k0
    have q0 := e (10 + 14 * k' + 0)
    have q1 := e (10 + 14 * k' + 1)
    have q2 := e (10 + 14 * k' + 2)
    unfold SB at *
    clear e
    rw [q0, q1, q2]
    (repeat' split) <;> omega
  · have := h.rv r' r0
    have q0 := e (150 + 6 * r' + 0)
    have q1 := e (150 + 6 * r' + 1)
    unfold RB at *
    clear e
    rw [q0, q1]
    (repeat' split) <;> omega
  · have := h.sx k' k0
    have := h.st k' k0
    refine ⟨?_, ?_, ?_, ?_, ?_, ?_, ?_⟩
    · rw [e (10 + 14 * k' + 3)]
      clear e
      (repeat' split) <;> omega
    · rw [e (10 + 14 * k' + 4)]
      clear e
      (repeat' split) <;> omega
    · rw [e (10 + 14 * k' + 5)]
      clear e
      (repeat' split) <;> omega
    · rw [e (10 + 14 * k' + 6)]
      clear e
      (repeat' split) <;> omega
    · rw [e (10 + 14 * k' + 7)]
      clear e
      (repeat' split) <;> omega
    · rw [e (10 + 14 * k' + 8)]
      clear e
      (repeat' split) <;> omega
    · rw [e (10 + 14 * k' + 9)]
      clear e
      (repeat' split) <;> omega
  · have := h.rx r' r0
    refine ⟨?_, ?_, ?_⟩
    · rw [e (150 + 6 * r' + 2)]
      clear e
      (repeat' split) <;> omega
    · rw [e (150 + 6 * r' + 3)]
      clear e
      (repeat' split) <;> omega
    · rw [e (150 + 6 * r' + 4)]
      clear e
      (repeat' split) <;> omega
  · have := h.bk r' a' r0 r1 b0 b1
    rw [e (174 + 30 * r' + a')]
    clear e
    (repeat' split) <;> omega
  · have q8 : stay G (-2) = stay g (-2) + 1 := by
      rw [stay_2, stay_2, e0]
      rw [sumTo_u (f := fun k => b2 (g (10 + 14 * k + 5) = -2)) (i := k) hk.1 (by omega) (fun k' k0 k1 k2 => b2_c (by rw [e (10 + 14 * k' + 5)]; clear e; (repeat' split) <;> omega))]
      show _ - b2 (g (10 + 14 * k + 5) = -2) + b2 (G (10 + 14 * k + 5) = -2) = _
      rw [b2_f hw, b2_t (show G (10 + 14 * k + 5) = -2 by rw [e]; clear e; (repeat' split) <;> omega)]
      omega
    omega
  · by_cases ei : i' = g 8
    · subst ei
      have q2 : G (294 + g 8) = k := by rw [e]; rw [if_neg (by omega), if_pos rfl]
      rw [q2]
      refine ⟨hk.1, by omega, ?_⟩
      rw [e]
      clear e
      (repeat' split) <;> omega
    · have z := h.ai i' i0 (by omega)
      have q2 : G (294 + i') = g (294 + i') := by rw [e]; (repeat rw [if_neg (by omega)])
      rw [q2]
      have ek : g (294 + i') ≠ k := fun ek => hw (by rw [← ek]; exact z.2.2)
      have z2 := e (10 + 14 * g (294 + i') + 5)
      refine ⟨z.1, by omega, ?_⟩
      rw [z2]
      clear e
      (repeat' split) <;> omega
set_option maxHeartbeats 4000000 in
theorem GI.river {B : Int} {g : Int → Int} {w v : Int} (h : GI B g) (hB : B + 1 ≤ 4000) (h4 : g 1 < 4) (hf : 5 ≤ w ∧ w ≤ 60) (hw : 0 ≤ v ∧ v ≤ 9) : GI (B + 1) (gRiver g w v) := by
  have e : ∀ j, (gRiver g w v) j = if j = 1 then g 1 + 1 else if j = 150 + 6 * g 1 + 3 then -1 else if j = 150 + 6 * g 1 + 1 then v else if j = 150 + 6 * g 1 + 0 then w else if 150 + 6 * g 1 ≤ j ∧ j < 150 + 6 * g 1 + 6 then 0 else g j := fun _ => rfl
  generalize gRiver g w v = G at e
  have hn := h.n
  have hm := h.m
  have hct := h.ct
  have hal := h.al
  have e0 : G 0 = g 0 := by rw [e 0]; (repeat (first | rw [if_pos rfl] | rw [if_neg (by omega)]))
  have e1 : G 1 = g 1 + 1 := by rw [e 1]; (repeat (first | rw [if_pos rfl] | rw [if_neg (by omega)]))
  have e2 : G 2 = g 2 := by rw [e 2]; (repeat (first | rw [if_pos rfl] | rw [if_neg (by omega)]))
  have e3 : G 3 = g 3 := by rw [e 3]; (repeat (first | rw [if_pos rfl] | rw [if_neg (by omega)]))
  have e4 : G 4 = g 4 := by rw [e 4]; (repeat (first | rw [if_pos rfl] | rw [if_neg (by omega)]))
  have e5 : G 5 = g 5 := by rw [e 5]; (repeat (first | rw [if_pos rfl] | rw [if_neg (by omega)]))
  have e6 : G 6 = g 6 := by rw [e 6]; (repeat (first | rw [if_pos rfl] | rw [if_neg (by omega)]))
  have e7 : G 7 = g 7 := by rw [e 7]; (repeat (first | rw [if_pos rfl] | rw [if_neg (by omega)]))
  have e8 : G 8 = g 8 := by rw [e 8]; (repeat (first | rw [if_pos rfl] | rw [if_neg (by omega)]))
  refine ⟨by omega, by omega, fun k' k0 k1 => ?_, fun r' r0 r1 => ?_, fun k' k0 k1 => ?_, fun r' r0 r1 => ?_, fun r' a' r0 r1 b0 b1 => ?_, ⟨by omega, ?_⟩, fun i' i0 i1 => ?_, by omega⟩
  · have := h.st k' k0
    have q0 := e (10 + 14 * k' + 0)
    have q1 := e (10 + 14 * k' + 1)
    have q2 := e (10 + 14 * k' + 2)
    unfold SB at *
    clear e
    rw [q0, q1, q2]
    (repeat' split) <;> omega
  · have := h.rv r' r0
    have q0 := e (150 + 6 * r' + 0)
    have q1 := e (150 + 6 * r' + 1)
    unfold RB at *
    clear e
    rw [q0, q1]
    (repeat' split) <;> omega
  · have := h.sx k' k0
    have := h.st k' k0
    refine ⟨?_, ?_, ?_, ?_, ?_, ?_, ?_⟩
    · rw [e (10 + 14 * k' + 3)]
      clear e
      (repeat' split) <;> omega
    · rw [e (10 + 14 * k' + 4)]
      clear e
      (repeat' split) <;> omega
    · rw [e (10 + 14 * k' + 5)]
      clear e
      (repeat' split) <;> omega
    · rw [e (10 + 14 * k' + 6)]
      clear e
      (repeat' split) <;> omega
    · rw [e (10 + 14 * k' + 7)]
      clear e
      (repeat' split) <;> omega
    · rw [e (10 + 14 * k' + 8)]
      clear e
      (repeat' split) <;> omega
    · rw [e (10 + 14 * k' + 9)]
      clear e
      (repeat' split) <;> omega
  · have := h.rx r' r0
    refine ⟨?_, ?_, ?_⟩
    · rw [e (150 + 6 * r' + 2)]
      clear e
      (repeat' split) <;> omega
    · rw [e (150 + 6 * r' + 3)]
      clear e
      (repeat' split) <;> omega
    · rw [e (150 + 6 * r' + 4)]
      clear e
      (repeat' split) <;> omega
  · have := h.bk r' a' r0 r1 b0 b1
    rw [e (174 + 30 * r' + a')]
    clear e
    (repeat' split) <;> omega
  · rw [stay_e2 (g := g) (by omega) (fun k' k0 k1 => by rw [e (10 + 14 * k' + 5)]; clear e; (repeat' split) <;> omega)]; omega
  · have z := h.ai i' i0 (by omega)
    have q := e (294 + i')
    have q2 : G (294 + i') = g (294 + i') := by rw [q]; (repeat rw [if_neg (by omega)])
    rw [q2]
    have z2 := e (10 + 14 * g (294 + i') + 5)
    refine ⟨z.1, by omega, ?_⟩
    rw [z2]
    clear e
    (repeat' split) <;> omega
