/-! THE MODEL, on -/
set_option maxHeartbeats 4000000 in
set_option maxRecDepth 100000 in
theorem mX3_stoneOf (l : Launch) (E : KE) (sz : Nat) (Ad : Nat → Nat) (S : St) (hM : MOk S) (B : Int) (k : Int) (rk : rI k) (w : Int) (rw : rI w) (hI : GI B (S 0)) : Met l yX3_stoneOf (ws_ yX3_stoneOf cX3_stoneOf 3 (some .int)) (rmk 2 0 0 43) (va_Pc [.ref (Ad 0), .int (zI k), .int (zI w)] (kP l E sz (mW E Ad S) [])) (kQ E (fun _ : Unit => rI ((xStoneOf S k w).2) ∧ MOk ((xStoneOf S k w).1)) (fun _ => some (.int (zI ((xStoneOf S k w).2)))) (fun _ => (mW E Ad ((xStoneOf S k w).1))) (va_A (mW E Ad S) sz)) 0 0 (va_A (mW E Ad S) sz) := by
  refine kz_start (Qf := kQ E (fun _ : Unit => rI ((xStoneOf S k w).2) ∧ MOk ((xStoneOf S k w).1)) (fun _ => some (.int (zI ((xStoneOf S k w).2)))) (fun _ => (mW E Ad ((xStoneOf S k w).1)))) (by decide) (Nat.le_of_ble_eq_true rfl) ?_
  intro p e s m args below meth c A ls Q H locs hx hb hr hlk hml hts hown hname hG hK hA hAN hP hD hR hRA hS hQ hl
  replace hown : s.vm.findClass RX3 = some m.cls := hown
  replace hl : lv_has ls 3 [(0, .ref (Ad 0)), (1, .int (zI (k))), (2, .int (zI (w)))] := hl
  have g0 := hI.n
  have g1 := hI.m
  have g2 := hI.ct
  replace hP : va_P (kD E) kcl (mW E Ad (S)) H := hP
  replace hD : va_D A (mW E Ad (S)) := hD
  refine lv_aload_n hx hb dX3_stoneOf_0 rfl (lv_at hl 0 rfl) ?_
  refine lv_aload_n hx hb dX3_stoneOf_1 rfl (lv_at hl 0 rfl) ?_
  refine lv_iload_n hx hb dX3_stoneOf_2 rfl (lv_at hl 1 rfl) ?_
  refine kz_backM (va_runV (As := [.int (zI (k))]) (rest := [.ref (Ad 0)]) ⟨hx, hb, hml, hown, hts⟩ (mX3_isStone l E H.size Ad S hM k (by omega) (show 0 ≤ (S 0 0) ∧ (S 0 0) ≤ 10 by first | omega | exact hI.st _ (by omega) (by omega) | exact hI.rv _ (by omega) (by omega) | exact hI)) (cwV 1 hts (lw_V q2433 q2435 qs42 q83 q2436) rfl rfl rfl (by decide +kernel) ⟨(Nat.le_of_ble_eq_true rfl), (Nat.le_of_ble_eq_true rfl)⟩) (kz_preVM (wc := mW E Ad S) (va_recv hK hP (ci := 2) (q0 := 0) rfl rfl) hG hS hAN hP hD kz_nilP kz_nilA) rfl rfl hl.1 rfl (lv_room (Nat.le_of_ble_eq_true rfl)) dX3_stoneOf_3 ⟨(Nat.le_of_ble_eq_true rfl), (Nat.le_of_ble_eq_true rfl)⟩) hP hD hS hA (fun u H9 locs9 hu hP9 hD9 hS9 hzz hkk => ?_)
  clear hzz hkk hP hD hS H locs u
  revert hS9 hD9 hP9 locs9 H9
  intro H locs hP hD hS
  clear hu
  replace hP : va_P (kD E) kcl (mW E Ad (S)) H := hP
  replace hD : va_D A (mW E Ad (S)) := hD
  show W p l e _ s m args below meth c H locs _ _ Q (F0 m 6 ls [.int (zI (b2 (0 ≤ k ∧ k ≤ (S 0 0) - 1))), .ref (Ad 0)])
  have J1 : ∀ (v2 : Int) (H : Heap) (locs : List Loc) (ls : Array Slot), v2 = (if 0 ≤ k ∧ k ≤ (S 0 0) - 1 then (if 0 ≤ w ∧ w ≤ 9 then 0 else 2) else 1) → rI v2 → va_P (kD E) kcl (mW E Ad (S)) H → va_D A (mW E Ad (S)) → va_S A s.heap H locs → lv_has ls 3 [(0, .ref (Ad 0)), (1, .int (zI (k))), (2, .int (zI (w)))] → W p l e (rmk 2 0 0 43) s m args below meth c H locs 0 0 Q (F0 m 28 ls [.int (zI (v2)), .ref (Ad 0)]) := by
    clear hl hS hD hP ls locs H
    intro v2 H locs ls hv2 rv2 hP hD hS hl
    have dv2 : (0 ≤ k ∧ k ≤ (S 0 0) - 1 ∧ ¬ (0 ≤ w ∧ w ≤ 9) ∧ v2 = 2) ∨ (0 ≤ k ∧ k ≤ (S 0 0) - 1 ∧ 0 ≤ w ∧ w ≤ 9 ∧ v2 = 0) ∨ (¬ (0 ≤ k ∧ k ≤ (S 0 0) - 1) ∧ v2 = 1) := by rw [hv2]; (repeat' split) <;> first | omega | simp_all
    refine kz_backM (va_runV (As := [.int (zI (v2))]) (rest := []) ⟨hx, hb, hml, hown, hts⟩ (mX3_fails l E H.size Ad S hM v2 (by omega)) (cwV 1 hts (lw_V q2394 q2396 qs36 q83 q2397) rfl rfl rfl (by decide +kernel) ⟨(Nat.le_of_ble_eq_true rfl), (Nat.le_of_ble_eq_true rfl)⟩) (kz_preVM (wc := mW E Ad S) (va_recv hK hP (ci := 2) (q0 := 0) rfl rfl) hG hS hAN hP hD kz_nilP kz_nilA) rfl rfl hl.1 rfl (lv_room (Nat.le_of_ble_eq_true rfl)) dX3_stoneOf_28 ⟨(Nat.le_of_ble_eq_true rfl), (Nat.le_of_ble_eq_true rfl)⟩) hP hD hS hA (fun u H9 locs9 hu hP9 hD9 hS9 hzz hkk => ?_)
    clear hzz hkk hP hD hS H locs u
    revert hS9 hD9 hP9 locs9 H9
    intro H locs hP hD hS
    replace hM : MOk (put S 7 7 v2) := hu
    clear hu
    replace hP : va_P (kD E) kcl (mW E Ad (put S 7 7 v2)) H := hP
    replace hD : va_D A (mW E Ad (put S 7 7 v2)) := hD
    show W p l e _ s m args below meth c H locs _ _ Q (F0 m 31 ls [.int (zI (b2 (0 < v2)))])
    refine kz_if0B (tgt := 36) hx hb dX3_stoneOf_31 (by decide) (fun c31 => ?_) (fun c31 => ?_)
    · skip
      obtain rfl : v2 = 0 := by omega
      refine lv_iload_n hx hb dX3_stoneOf_36 rfl (lv_at hl 2 rfl) ?_
      rcases (show w = 3 ∨ w = 4 ∨ w = 5 ∨ w = 6 ∨ w = 7 ∨ w = 8 ∨ w = 9 ∨ (w < 3 ∨ 9 < w) by omega) with w37 | w37 | w37 | w37 | w37 | w37 | w37 | w37
      · skip
        refine kz_tsw (v := 3) (off := 43) (tgt := 80) hx hb dX3_stoneOf_37 w37 (by decide) (by decide) rfl (by decide) ?_
        refine lv_aload_n hx hb dX3_stoneOf_80 rfl (lv_at hl 0 rfl) ?_
        refine lv_iload_n hx hb dX3_stoneOf_81 rfl (lv_at hl 1 rfl) ?_
        refine kz_backM (va_runV (As := [.int (zI (k))]) (rest := []) ⟨hx, hb, hml, hown, hts⟩ (mX3_ownAngle l E H.size Ad (put S 7 7 0) hM k (by omega) (show 0 ≤ k ∧ k < 10 by first | omega | exact hI.st _ (by omega) (by omega) | exact hI.rv _ (by omega) (by omega) | exact hI) (show SB (S 0) k by first | omega | exact hI.st _ (by omega) (by omega) | exact hI.rv _ (by omega) (by omega) | exact hI)) (cwV 1 hts (lw_V q2437 q2439 qs43 q83 q2440) rfl rfl rfl (by decide +kernel) ⟨(Nat.le_of_ble_eq_true rfl), (Nat.le_of_ble_eq_true rfl)⟩) (kz_preVM (wc := mW E Ad (put S 7 7 0)) (va_recv hK hP (ci := 2) (q0 := 0) rfl rfl) hG hS hAN hP hD kz_nilP kz_nilA) rfl rfl hl.1 rfl (lv_room (Nat.le_of_ble_eq_true rfl)) dX3_stoneOf_82 ⟨(Nat.le_of_ble_eq_true rfl), (Nat.le_of_ble_eq_true rfl)⟩) hP hD hS hA (fun u H9 locs9 hu hP9 hD9 hS9 hzz hkk => ?_)
        clear hzz hkk hP hD hS H locs u
        revert hS9 hD9 hP9 locs9 H9
        intro H locs hP hD hS
        have r3 : rI (ownAng (S 0) k) := hu
        clear hu
        replace hP : va_P (kD E) kcl (mW E Ad (put S 7 7 0)) H := hP
        replace hD : va_D A (mW E Ad (put S 7 7 0)) := hD
        show W p l e _ s m args below meth c H locs _ _ Q (F0 m 85 ls [.int (zI (ownAng (S 0) k))])
        have e0 : xStoneOf S k w = (put S 7 7 0, ownAng (S 0) k) := by unfold xStoneOf; (repeat (first | refine Eq.trans (if_pos (by omega)) ?_ | refine Eq.trans (if_neg (by omega)) ?_)); refine congrArg (Prod.mk _) ?_; (repeat (first | refine Eq.trans (if_pos (by omega)) ?_ | refine Eq.trans (if_neg (by omega)) ?_)); first | rfl | (rw [show w - 1 = 3 by omega]) | (rw [show w - 1 = 4 by omega]) | (rw [show w - 1 = 5 by omega]) | (rw [show w - 1 = 6 by omega]) | (rw [show w - 1 = 7 by omega])
        have e1 : (xStoneOf S k w).2 = ownAng (S 0) k := by rw [e0]
        have e3 : (xStoneOf S k w).1 = put S 7 7 0 := by rw [e0]
        exact kz_iret () hx hb hr hlk hP hD hS dX3_stoneOf_85 (congrArg (fun z : Int => some (Value.int (zI z))) e1) ⟨(kz_r e1 (by omega)), (kz_M e3 hM)⟩ (congrArg (mW E Ad) e3) hQ (Nat.le_of_ble_eq_true rfl) (Nat.le_of_ble_eq_true rfl)
      · skip
        refine kz_tsw (v := 4) (off := 49) (tgt := 86) hx hb dX3_stoneOf_37 w37 (by decide) (by decide) rfl (by decide) ?_
        refine lv_aload_n hx hb dX3_stoneOf_86 rfl (lv_at hl 0 rfl) ?_
        refine lv_iload_n hx hb dX3_stoneOf_87 rfl (lv_at hl 1 rfl) ?_
        refine kz_iconst hx hb dX3_stoneOf_88 ?_
        refine kz_backM (va_runV (As := [.int (zI (k)), .int (zI (3))]) (rest := []) ⟨hx, hb, hml, hown, hts⟩ (mX3_of l E H.size Ad (put S 7 7 0) hM k (by omega) 3 (by omega) (show 0 ≤ k ∧ k < 10 by first | omega | exact hI.st _ (by omega) (by omega) | exact hI.rv _ (by omega) (by omega) | exact hI) (show 0 ≤ 3 ∧ 3 < 14 by first | omega | exact hI.st _ (by omega) (by omega) | exact hI.rv _ (by omega) (by omega) | exact hI)) (cwV 2 hts (lw_V q2441 q2443 qs44 q83 q2444) rfl rfl rfl (by decide +kernel) ⟨(Nat.le_of_ble_eq_true rfl), (Nat.le_of_ble_eq_true rfl)⟩) (kz_preVM (wc := mW E Ad (put S 7 7 0)) (va_recv hK hP (ci := 2) (q0 := 0) rfl rfl) hG hS hAN hP hD kz_nilP kz_nilA) rfl rfl hl.1 rfl (lv_room (Nat.le_of_ble_eq_true rfl)) dX3_stoneOf_89 ⟨(Nat.le_of_ble_eq_true rfl), (Nat.le_of_ble_eq_true rfl)⟩) hP hD hS hA (fun u H9 locs9 hu hP9 hD9 hS9 hzz hkk => ?_)
        clear hzz hkk hP hD hS H locs u
        revert hS9 hD9 hP9 locs9 H9
        intro H locs hP hD hS
        have r4 : rI ((S 0 ((10 + 14 * k + 3)))) := hu
        clear hu
        replace hP : va_P (kD E) kcl (mW E Ad (put S 7 7 0)) H := hP
        replace hD : va_D A (mW E Ad (put S 7 7 0)) := hD
        show W p l e _ s m args below meth c H locs _ _ Q (F0 m 92 ls [.int (zI ((S 0 ((10 + 14 * k + 3)))))])
        have e0 : xStoneOf S k w = (put S 7 7 0, (S 0 ((10 + 14 * k + 3)))) := by unfold xStoneOf; (repeat (first | refine Eq.trans (if_pos (by omega)) ?_ | refine Eq.trans (if_neg (by omega)) ?_)); refine congrArg (Prod.mk _) ?_; (repeat (first | refine Eq.trans (if_pos (by omega)) ?_ | refine Eq.trans (if_neg (by omega)) ?_)); first | rfl | (rw [show w - 1 = 3 by omega]) | (rw [show w - 1 = 4 by omega]) | (rw [show w - 1 = 5 by omega]) | (rw [show w - 1 = 6 by omega]) | (rw [show w - 1 = 7 by omega])
        have e1 : (xStoneOf S k w).2 = (S 0 ((10 + 14 * k + 3))) := by rw [e0]
        have e3 : (xStoneOf S k w).1 = put S 7 7 0 := by rw [e0]
        exact kz_iret () hx hb hr hlk hP hD hS dX3_stoneOf_92 (congrArg (fun z : Int => some (Value.int (zI z))) e1) ⟨(kz_r e1 (by omega)), (kz_M e3 hM)⟩ (congrArg (mW E Ad) e3) hQ (Nat.le_of_ble_eq_true rfl) (Nat.le_of_ble_eq_true rfl)
      · skip
        refine kz_tsw (v := 5) (off := 56) (tgt := 93) hx hb dX3_stoneOf_37 w37 (by decide) (by decide) rfl (by decide) ?_
        refine lv_aload_n hx hb dX3_stoneOf_93 rfl (lv_at hl 0 rfl) ?_
        refine lv_iload_n hx hb dX3_stoneOf_94 rfl (lv_at hl 1 rfl) ?_
        refine kz_iconst hx hb dX3_stoneOf_95 ?_
        refine kz_backM (va_runV (As := [.int (zI (k)), .int (zI (4))]) (rest := []) ⟨hx, hb, hml, hown, hts⟩ (mX3_of l E H.size Ad (put S 7 7 0) hM k (by omega) 4 (by omega) (show 0 ≤ k ∧ k < 10 by first | omega | exact hI.st _ (by omega) (by omega) | exact hI.rv _ (by omega) (by omega) | exact hI) (show 0 ≤ 4 ∧ 4 < 14 by first | omega | exact hI.st _ (by omega) (by omega) | exact hI.rv _ (by omega) (by omega) | exact hI)) (cwV 2 hts (lw_V q2441 q2443 qs44 q83 q2444) rfl rfl rfl (by decide +kernel) ⟨(Nat.le_of_ble_eq_true rfl), (Nat.le_of_ble_eq_true rfl)⟩) (kz_preVM (wc := mW E Ad (put S 7 7 0)) (va_recv hK hP (ci := 2) (q0 := 0) rfl rfl) hG hS hAN hP hD kz_nilP kz_nilA) rfl rfl hl.1 rfl (lv_room (Nat.le_of_ble_eq_true rfl)) dX3_stoneOf_96 ⟨(Nat.le_of_ble_eq_true rfl), (Nat.le_of_ble_eq_true rfl)⟩) hP hD hS hA (fun u H9 locs9 hu hP9 hD9 hS9 hzz hkk => ?_)
        clear hzz hkk hP hD hS H locs u
        revert hS9 hD9 hP9 locs9 H9
        intro H locs hP hD hS
        have r5 : rI ((S 0 ((10 + 14 * k + 4)))) := hu
        clear hu
        replace hP : va_P (kD E) kcl (mW E Ad (put S 7 7 0)) H := hP
        replace hD : va_D A (mW E Ad (put S 7 7 0)) := hD
        show W p l e _ s m args below meth c H locs _ _ Q (F0 m 99 ls [.int (zI ((S 0 ((10 + 14 * k + 4)))))])
        have e0 : xStoneOf S k w = (put S 7 7 0, (S 0 ((10 + 14 * k + 4)))) := by unfold xStoneOf; (repeat (first | refine Eq.trans (if_pos (by omega)) ?_ | refine Eq.trans (if_neg (by omega)) ?_)); refine congrArg (Prod.mk _) ?_; (repeat (first | refine Eq.trans (if_pos (by omega)) ?_ | refine Eq.trans (if_neg (by omega)) ?_)); first | rfl | (rw [show w - 1 = 3 by omega]) | (rw [show w - 1 = 4 by omega]) | (rw [show w - 1 = 5 by omega]) | (rw [show w - 1 = 6 by omega]) | (rw [show w - 1 = 7 by omega])
        have e1 : (xStoneOf S k w).2 = (S 0 ((10 + 14 * k + 4))) := by rw [e0]
        have e3 : (xStoneOf S k w).1 = put S 7 7 0 := by rw [e0]
        exact kz_iret () hx hb hr hlk hP hD hS dX3_stoneOf_99 (congrArg (fun z : Int => some (Value.int (zI z))) e1) ⟨(kz_r e1 (by omega)), (kz_M e3 hM)⟩ (congrArg (mW E Ad) e3) hQ (Nat.le_of_ble_eq_true rfl) (Nat.le_of_ble_eq_true rfl)
      · skip
        refine kz_tsw (v := 6) (off := 63) (tgt := 100) hx hb dX3_stoneOf_37 w37 (by decide) (by decide) rfl (by decide) ?_
        refine lv_aload_n hx hb dX3_stoneOf_100 rfl (lv_at hl 0 rfl) ?_
        refine lv_iload_n hx hb dX3_stoneOf_101 rfl (lv_at hl 1 rfl) ?_
        refine kz_iconst hx hb dX3_stoneOf_102 ?_
        refine kz_backM (va_runV (As := [.int (zI (k)), .int (zI (5))]) (rest := []) ⟨hx, hb, hml, hown, hts⟩ (mX3_of l E H.size Ad (put S 7 7 0) hM k (by omega) 5 (by omega) (show 0 ≤ k ∧ k < 10 by first | omega | exact hI.st _ (by omega) (by omega) | exact hI.rv _ (by omega) (by omega) | exact hI) (show 0 ≤ 5 ∧ 5 < 14 by first | omega | exact hI.st _ (by omega) (by omega) | exact hI.rv _ (by omega) (by omega) | exact hI)) (cwV 2 hts (lw_V q2441 q2443 qs44 q83 q2444) rfl rfl rfl (by decide +kernel) ⟨(Nat.le_of_ble_eq_true rfl), (Nat.le_of_ble_eq_true rfl)⟩) (kz_preVM (wc := mW E Ad (put S 7 7 0)) (va_recv hK hP (ci := 2) (q0 := 0) rfl rfl) hG hS hAN hP hD kz_nilP kz_nilA) rfl rfl hl.1 rfl (lv_room (Nat.le_of_ble_eq_true rfl)) dX3_stoneOf_103 ⟨(Nat.le_of_ble_eq_true rfl), (Nat.le_of_ble_eq_true rfl)⟩) hP hD hS hA (fun u H9 locs9 hu hP9 hD9 hS9 hzz hkk => ?_)
        clear hzz hkk hP hD hS H locs u
        revert hS9 hD9 hP9 locs9 H9
        intro H locs hP hD hS
        have r6 : rI ((S 0 ((10 + 14 * k + 5)))) := hu
        clear hu
        replace hP : va_P (kD E) kcl (mW E Ad (put S 7 7 0)) H := hP
        replace hD : va_D A (mW E Ad (put S 7 7 0)) := hD
        show W p l e _ s m args below meth c H locs _ _ Q (F0 m 106 ls [.int (zI ((S 0 ((10 + 14 * k + 5)))))])
        have e0 : xStoneOf S k w = (put S 7 7 0, (S 0 ((10 + 14 * k + 5)))) := by unfold xStoneOf; (repeat (first | refine Eq.trans (if_pos (by omega)) ?_ | refine Eq.trans (if_neg (by omega)) ?_)); refine congrArg (Prod.mk _) ?_; (repeat (first | refine Eq.trans (if_pos (by omega)) ?_ | refine Eq.trans (if_neg (by omega)) ?_)); first | rfl | (rw [show w - 1 = 3 by omega]) | (rw [show w - 1 = 4 by omega]) | (rw [show w - 1 = 5 by omega]) | (rw [show w - 1 = 6 by omega]) | (rw [show w - 1 = 7 by omega])
        have e1 : (xStoneOf S k w).2 = (S 0 ((10 + 14 * k + 5))) := by rw [e0]
        have e3 : (xStoneOf S k w).1 = put S 7 7 0 := by rw [e0]
        exact kz_iret () hx hb hr hlk hP hD hS dX3_stoneOf_106 (congrArg (fun z : Int => some (Value.int (zI z))) e1) ⟨(kz_r e1 (by omega)), (kz_M e3 hM)⟩ (congrArg (mW E Ad) e3) hQ (Nat.le_of_ble_eq_true rfl) (Nat.le_of_ble_eq_true rfl)
      · skip
        refine kz_tsw (v := 7) (off := 70) (tgt := 107) hx hb dX3_stoneOf_37 w37 (by decide) (by decide) rfl (by decide) ?_
        refine lv_aload_n hx hb dX3_stoneOf_107 rfl (lv_at hl 0 rfl) ?_
        refine lv_iload_n hx hb dX3_stoneOf_108 rfl (lv_at hl 1 rfl) ?_
        refine kz_bipush hx hb dX3_stoneOf_109 (by decide) ?_
        refine kz_backM (va_runV (As := [.int (zI (k)), .int (zI (6))]) (rest := []) ⟨hx, hb, hml, hown, hts⟩ (mX3_of l E H.size Ad (put S 7 7 0) hM k (by omega) 6 (by omega) (show 0 ≤ k ∧ k < 10 by first | omega | exact hI.st _ (by omega) (by omega) | exact hI.rv _ (by omega) (by omega) | exact hI) (show 0 ≤ 6 ∧ 6 < 14 by first | omega | exact hI.st _ (by omega) (by omega) | exact hI.rv _ (by omega) (by omega) | exact hI)) (cwV 2 hts (lw_V q2441 q2443 qs44 q83 q2444) rfl rfl rfl (by decide +kernel) ⟨(Nat.le_of_ble_eq_true rfl), (Nat.le_of_ble_eq_true rfl)⟩) (kz_preVM (wc := mW E Ad (put S 7 7 0)) (va_recv hK hP (ci := 2) (q0 := 0) rfl rfl) hG hS hAN hP hD kz_nilP kz_nilA) rfl rfl hl.1 rfl (lv_room (Nat.le_of_ble_eq_true rfl)) dX3_stoneOf_111 ⟨(Nat.le_of_ble_eq_true rfl), (Nat.le_of_ble_eq_true rfl)⟩) hP hD hS hA (fun u H9 locs9 hu hP9 hD9 hS9 hzz hkk => ?_)
        clear hzz hkk hP hD hS H locs u
        revert hS9 hD9 hP9 locs9 H9
        intro H locs hP hD hS
        have r7 : rI ((S 0 ((10 + 14 * k + 6)))) := hu
        clear hu
        replace hP : va_P (kD E) kcl (mW E Ad (put S 7 7 0)) H := hP
        replace hD : va_D A (mW E Ad (put S 7 7 0)) := hD
        show W p l e _ s m args below meth c H locs _ _ Q (F0 m 114 ls [.int (zI ((S 0 ((10 + 14 * k + 6)))))])
        have e0 : xStoneOf S k w = (put S 7 7 0, (S 0 ((10 + 14 * k + 6)))) := by unfold xStoneOf; (repeat (first | refine Eq.trans (if_pos (by omega)) ?_ | refine Eq.trans (if_neg (by omega)) ?_)); refine congrArg (Prod.mk _) ?_; (repeat (first | refine Eq.trans (if_pos (by omega)) ?_ | refine Eq.trans (if_neg (by omega)) ?_)); first | rfl | (rw [show w - 1 = 3 by omega]) | (rw [show w - 1 = 4 by omega]) | (rw [show w - 1 = 5 by omega]) | (rw [show w - 1 = 6 by omega]) | (rw [show w - 1 = 7 by omega])
        have e1 : (xStoneOf S k w).2 = (S 0 ((10 + 14 * k + 6))) := by rw [e0]
        have e3 : (xStoneOf S k w).1 = put S 7 7 0 := by rw [e0]
        exact kz_iret () hx hb hr hlk hP hD hS dX3_stoneOf_114 (congrArg (fun z : Int => some (Value.int (zI z))) e1) ⟨(kz_r e1 (by omega)), (kz_M e3 hM)⟩ (congrArg (mW E Ad) e3) hQ (Nat.le_of_ble_eq_true rfl) (Nat.le_of_ble_eq_true rfl)
      · skip
        refine kz_tsw (v := 8) (off := 78) (tgt := 115) hx hb dX3_stoneOf_37 w37 (by decide) (by decide) rfl (by decide) ?_
        refine lv_aload_n hx hb dX3_stoneOf_115 rfl (lv_at hl 0 rfl) ?_
        refine lv_iload_n hx hb dX3_stoneOf_116 rfl (lv_at hl 1 rfl) ?_
        refine kz_bipush hx hb dX3_stoneOf_117 (by decide) ?_
        refine kz_backM (va_runV (As := [.int (zI (k)), .int (zI (7))]) (rest := []) ⟨hx, hb, hml, hown, hts⟩ (mX3_of l E H.size Ad (put S 7 7 0) hM k (by omega) 7 (by omega) (show 0 ≤ k ∧ k < 10 by first | omega | exact hI.st _ (by omega) (by omega) | exact hI.rv _ (by omega) (by omega) | exact hI) (show 0 ≤ 7 ∧ 7 < 14 by first | omega | exact hI.st _ (by omega) (by omega) | exact hI.rv _ (by omega) (by omega) | exact hI)) (cwV 2 hts (lw_V q2441 q2443 qs44 q83 q2444) rfl rfl rfl (by decide +kernel) ⟨(Nat.le_of_ble_eq_true rfl), (Nat.le_of_ble_eq_true rfl)⟩) (kz_preVM (wc := mW E Ad (put S 7 7 0)) (va_recv hK hP (ci := 2) (q0 := 0) rfl rfl) hG hS hAN hP hD kz_nilP kz_nilA) rfl rfl hl.1 rfl (lv_room (Nat.le_of_ble_eq_true rfl)) dX3_stoneOf_119 ⟨(Nat.le_of_ble_eq_true rfl), (Nat.le_of_ble_eq_true rfl)⟩) hP hD hS hA (fun u H9 locs9 hu hP9 hD9 hS9 hzz hkk => ?_)
        clear hzz hkk hP hD hS H locs u
        revert hS9 hD9 hP9 locs9 H9
        intro H locs hP hD hS
        have r8 : rI ((S 0 ((10 + 14 * k + 7)))) := hu
        clear hu
        replace hP : va_P (kD E) kcl (mW E Ad (put S 7 7 0)) H := hP
        replace hD : va_D A (mW E Ad (put S 7 7 0)) := hD
        show W p l e _ s m args below meth c H locs _ _ Q (F0 m 122 ls [.int (zI ((S 0 ((10 + 14 * k + 7)))))])
        have e0 : xStoneOf S k w = (put S 7 7 0, (S 0 ((10 + 14 * k + 7)))) := by unfold xStoneOf; (repeat (first | refine Eq.trans (if_pos (by omega)) ?_ | refine Eq.trans (if_neg (by omega)) ?_)); refine congrArg (Prod.mk _) ?_; (repeat (first | refine Eq.trans (if_pos (by omega)) ?_ | refine Eq.trans (if_neg (by omega)) ?_)); first | rfl | (rw [show w - 1 = 3 by omega]) | (rw [show w - 1 = 4 by omega]) | (rw [show w - 1 = 5 by omega]) | (rw [show w - 1 = 6 by omega]) | (rw [show w - 1 = 7 by omega])
        have e1 : (xStoneOf S k w).2 = (S 0 ((10 + 14 * k + 7))) := by rw [e0]
        have e3 : (xStoneOf S k w).1 = put S 7 7 0 := by rw [e0]
        exact kz_iret () hx hb hr hlk hP hD hS dX3_stoneOf_122 (congrArg (fun z : Int => some (Value.int (zI z))) e1) ⟨(kz_r e1 (by omega)), (kz_M e3 hM)⟩ (congrArg (mW E Ad) e3) hQ (Nat.le_of_ble_eq_true rfl) (Nat.le_of_ble_eq_true rfl)
      · skip
        refine kz_tsw (v := 9) (off := 86) (tgt := 123) hx hb dX3_stoneOf_37 w37 (by decide) (by decide) rfl (by decide) ?_
        refine lv_aload_n hx hb dX3_stoneOf_123 rfl (lv_at hl 0 rfl) ?_
        refine lv_iload_n hx hb dX3_stoneOf_124 rfl (lv_at hl 1 rfl) ?_
        refine kz_backM (va_runV (As := [.int (zI (k))]) (rest := []) ⟨hx, hb, hml, hown, hts⟩ (mX3_daysFor l E H.size Ad (put S 7 7 0) hM k (by omega) (show 0 ≤ (S 0 1) ∧ (S 0 1) ≤ 4 by first | omega | exact hI.st _ (by omega) (by omega) | exact hI.rv _ (by omega) (by omega) | exact hI)) (cwV 1 hts (lw_V q2445 q2447 qs45 q83 q2448) rfl rfl rfl (by decide +kernel) ⟨(Nat.le_of_ble_eq_true rfl), (Nat.le_of_ble_eq_true rfl)⟩) (kz_preVM (wc := mW E Ad (put S 7 7 0)) (va_recv hK hP (ci := 2) (q0 := 0) rfl rfl) hG hS hAN hP hD kz_nilP kz_nilA) rfl rfl hl.1 rfl (lv_room (Nat.le_of_ble_eq_true rfl)) dX3_stoneOf_125 ⟨(Nat.le_of_ble_eq_true rfl), (Nat.le_of_ble_eq_true rfl)⟩) hP hD hS hA (fun u H9 locs9 hu hP9 hD9 hS9 hzz hkk => ?_)
        clear hzz hkk hP hD hS H locs u
        revert hS9 hD9 hP9 locs9 H9
        intro H locs hP hD hS
        have r9 : rI (daysFor (S 0) k) := hu
        clear hu
        replace hP : va_P (kD E) kcl (mW E Ad (put S 7 7 0)) H := hP
        replace hD : va_D A (mW E Ad (put S 7 7 0)) := hD
        show W p l e _ s m args below meth c H locs _ _ Q (F0 m 128 ls [.int (zI (daysFor (S 0) k))])
        have e0 : xStoneOf S k w = (put S 7 7 0, daysFor (S 0) k) := by unfold xStoneOf; (repeat (first | refine Eq.trans (if_pos (by omega)) ?_ | refine Eq.trans (if_neg (by omega)) ?_)); refine congrArg (Prod.mk _) ?_; (repeat (first | refine Eq.trans (if_pos (by omega)) ?_ | refine Eq.trans (if_neg (by omega)) ?_)); first | rfl | (rw [show w - 1 = 3 by omega]) | (rw [show w - 1 = 4 by omega]) | (rw [show w - 1 = 5 by omega]) | (rw [show w - 1 = 6 by omega]) | (rw [show w - 1 = 7 by omega])
        have e1 : (xStoneOf S k w).2 = daysFor (S 0) k := by rw [e0]
        have e3 : (xStoneOf S k w).1 = put S 7 7 0 := by rw [e0]
        exact kz_iret () hx hb hr hlk hP hD hS dX3_stoneOf_128 (congrArg (fun z : Int => some (Value.int (zI z))) e1) ⟨(kz_r e1 (by omega)), (kz_M e3 hM)⟩ (congrArg (mW E Ad) e3) hQ (Nat.le_of_ble_eq_true rfl) (Nat.le_of_ble_eq_true rfl)
      · skip
        refine kz_tswD (tgt := 129) hx hb dX3_stoneOf_37 (by omega) w37 (by decide) ?_
        refine lv_aload_n hx hb dX3_stoneOf_129 rfl (lv_at hl 0 rfl) ?_
        refine lv_iload_n hx hb dX3_stoneOf_130 rfl (lv_at hl 1 rfl) ?_
        refine lv_iload_n hx hb dX3_stoneOf_131 rfl (lv_at hl 2 rfl) ?_
        refine kz_backM (va_runV (As := [.int (zI (k)), .int (zI (w))]) (rest := []) ⟨hx, hb, hml, hown, hts⟩ (mX3_of l E H.size Ad (put S 7 7 0) hM k (by omega) w (by omega) (show 0 ≤ k ∧ k < 10 by first | omega | exact hI.st _ (by omega) (by omega) | exact hI.rv _ (by omega) (by omega) | exact hI) (show 0 ≤ w ∧ w < 14 by first | omega | exact hI.st _ (by omega) (by omega) | exact hI.rv _ (by omega) (by omega) | exact hI)) (cwV 2 hts (lw_V q2441 q2443 qs44 q83 q2444) rfl rfl rfl (by decide +kernel) ⟨(Nat.le_of_ble_eq_true rfl), (Nat.le_of_ble_eq_true rfl)⟩) (kz_preVM (wc := mW E Ad (put S 7 7 0)) (va_recv hK hP (ci := 2) (q0 := 0) rfl rfl) hG hS hAN hP hD kz_nilP kz_nilA) rfl rfl hl.1 rfl (lv_room (Nat.le_of_ble_eq_true rfl)) dX3_stoneOf_132 ⟨(Nat.le_of_ble_eq_true rfl), (Nat.le_of_ble_eq_true rfl)⟩) hP hD hS hA (fun u H9 locs9 hu hP9 hD9 hS9 hzz hkk => ?_)
        clear hzz hkk hP hD hS H locs u
        revert hS9 hD9 hP9 locs9 H9
        intro H locs hP hD hS
        have r10 : rI ((S 0 ((10 + 14 * k + w)))) := hu
        clear hu
        replace hP : va_P (kD E) kcl (mW E Ad (put S 7 7 0)) H := hP
        replace hD : va_D A (mW E Ad (put S 7 7 0)) := hD
        show W p l e _ s m args below meth c H locs _ _ Q (F0 m 135 ls [.int (zI ((S 0 ((10 + 14 * k + w)))))])
        have e0 : xStoneOf S k w = (put S 7 7 0, (S 0 ((10 + 14 * k + w)))) := by unfold xStoneOf; (repeat (first | refine Eq.trans (if_pos (by omega)) ?_ | refine Eq.trans (if_neg (by omega)) ?_)); refine congrArg (Prod.mk _) ?_; (repeat (first | refine Eq.trans (if_pos (by omega)) ?_ | refine Eq.trans (if_neg (by omega)) ?_)); first | rfl | (rw [show w - 1 = 3 by omega]) | (rw [show w - 1 = 4 by omega]) | (rw [show w - 1 = 5 by omega]) | (rw [show w - 1 = 6 by omega]) | (rw [show w - 1 = 7 by omega])
        have e1 : (xStoneOf S k w).2 = (S 0 ((10 + 14 * k + w))) := by rw [e0]
        have e3 : (xStoneOf S k w).1 = put S 7 7 0 := by rw [e0]
        exact kz_iret () hx hb hr hlk hP hD hS dX3_stoneOf_135 (congrArg (fun z : Int => some (Value.int (zI z))) e1) ⟨(kz_r e1 (by omega)), (kz_M e3 hM)⟩ (congrArg (mW E Ad) e3) hQ (Nat.le_of_ble_eq_true rfl) (Nat.le_of_ble_eq_true rfl)
    · skip
      rcases (show v2 = 1 ∨ v2 = 2 by omega) with rfl | rfl
      · skip
        refine kz_iconst hx hb dX3_stoneOf_34 ?_
        have e0 : xStoneOf S k w = (put S 7 7 1, 0) := by unfold xStoneOf; (repeat (first | refine Eq.trans (if_pos (by omega)) ?_ | refine Eq.trans (if_neg (by omega)) ?_)); refine congrArg (Prod.mk _) ?_; (repeat (first | refine Eq.trans (if_pos (by omega)) ?_ | refine Eq.trans (if_neg (by omega)) ?_)); first | rfl | (rw [show w - 1 = 3 by omega]) | (rw [show w - 1 = 4 by omega]) | (rw [show w - 1 = 5 by omega]) | (rw [show w - 1 = 6 by omega]) | (rw [show w - 1 = 7 by omega])
        have e1 : (xStoneOf S k w).2 = 0 := by rw [e0]
        have e3 : (xStoneOf S k w).1 = put S 7 7 1 := by rw [e0]
        exact kz_iret () hx hb hr hlk hP hD hS dX3_stoneOf_35 (congrArg (fun z : Int => some (Value.int (zI z))) e1) ⟨(kz_r e1 (by omega)), (kz_M e3 hM)⟩ (congrArg (mW E Ad) e3) hQ (Nat.le_of_ble_eq_true rfl) (Nat.le_of_ble_eq_true rfl)
      · skip
        refine kz_iconst hx hb dX3_stoneOf_34 ?_
        have e0 : xStoneOf S k w = (put S 7 7 2, 0) := by unfold xStoneOf; (repeat (first | refine Eq.trans (if_pos (by omega)) ?_ | refine Eq.trans (if_neg (by omega)) ?_)); refine congrArg (Prod.mk _) ?_; (repeat (first | refine Eq.trans (if_pos (by omega)) ?_ | refine Eq.trans (if_neg (by omega)) ?_)); first | rfl | (rw [show w - 1 = 3 by omega]) | (rw [show w - 1 = 4 by omega]) | (rw [show w - 1 = 5 by omega]) | (rw [show w - 1 = 6 by omega]) | (rw [show w - 1 = 7 by omega])
        have e1 : (xStoneOf S k w).2 = 0 := by rw [e0]
        have e3 : (xStoneOf S k w).1 = put S 7 7 2 := by rw [e0]
        exact kz_iret () hx hb hr hlk hP hD hS dX3_stoneOf_35 (congrArg (fun z : Int => some (Value.int (zI z))) e1) ⟨(kz_r e1 (by omega)), (kz_M e3 hM)⟩ (congrArg (mW E Ad) e3) hQ (Nat.le_of_ble_eq_true rfl) (Nat.le_of_ble_eq_true rfl)
  refine kz_if1B (tgt := 13) hx hb dX3_stoneOf_6 (by decide) (fun c6 => ?_) (fun c6 => ?_)
  · skip
    refine lv_iload_n hx hb dX3_stoneOf_13 rfl (lv_at hl 2 rfl) ?_
    refine kz_iconst hx hb dX3_stoneOf_14 ?_
    refine kz_bipush hx hb dX3_stoneOf_15 (by decide) ?_
    refine kz_back (wc := []) (wx := (mW E Ad (S))) (va_runS (As := [.int (zI (w)), .int (zI (0)), .int (zI (9))]) (rest := [.ref (Ad 0)]) ⟨hx, hb, hml, hown, hts⟩ (mX3_in l E H.size w (by omega) 0 (by omega) 9 (by omega)) (va_cwS 3 hts (lw_S q2391 q2392 q83 q2393) rfl rfl rfl (by decide +kernel) ⟨(Nat.le_of_ble_eq_true rfl), (Nat.le_of_ble_eq_true rfl)⟩) (kz_pre (wc := []) (wx := (mW E Ad (S))) hG hS hAN hP hD kz_nilP kz_nilA) rfl rfl hl.1 rfl (lv_room (Nat.le_of_ble_eq_true rfl)) dX3_stoneOf_17 ⟨(Nat.le_of_ble_eq_true rfl), (Nat.le_of_ble_eq_true rfl)⟩) hP hD hS hA (fun u H9 locs9 hu hP9 hD9 hS9 hzz hkk => ?_)
    clear hzz hkk hP hD hS H locs u
    revert hS9 hD9 hP9 locs9 H9
    intro H locs hP hD hS
    clear hu
    replace hP : va_P (kD E) kcl (mW E Ad (S)) H := hP
    replace hD : va_D A (mW E Ad (S)) := hD
    show W p l e _ s m args below meth c H locs _ _ Q (F0 m 20 ls [.int (zI (b2 (0 ≤ w ∧ w ≤ 9))), .ref (Ad 0)])
    refine kz_if0B (tgt := 27) hx hb dX3_stoneOf_20 (by decide) (fun c20 => ?_) (fun c20 => ?_)
    · skip
      refine kz_iconst hx hb dX3_stoneOf_27 ?_
      exact J1 2 _ _ _ (Eq.symm (Eq.trans (if_pos c6) (if_neg c20))) (by omega) hP hD hS hl
    · skip
      refine kz_iconst hx hb dX3_stoneOf_23 ?_
      refine lv_goto (tgt := 28) hx hb dX3_stoneOf_24 (by decide) ?_
      exact J1 0 _ _ _ (Eq.symm (Eq.trans (if_pos c6) (if_pos c20))) (by omega) hP hD hS hl
  · skip
    refine kz_iconst hx hb dX3_stoneOf_9 ?_
    refine lv_goto (tgt := 28) hx hb dX3_stoneOf_10 (by decide) ?_
    exact J1 1 _ _ _ (Eq.symm (if_neg c6)) (by omega) hP hD hS hl

set_option maxHeartbeats 4000000 in
set_option maxRecDepth 100000 in
theorem mX3_riverOf (l : Launch) (E : KE) (sz : Nat) (Ad : Nat → Nat) (S : St) (hM : MOk S) (B : Int) (river : Int) (rriver : rI river) (w : Int) (rw : rI w) (hI : GI B (S 0)) : Met l yX3_riverOf (ws_ yX3_riverOf cX3_riverOf 3 (some .int)) (rmk 2 0 0 45) (va_Pc [.ref (Ad 0), .int (zI river), .int (zI w)] (kP l E sz (mW E Ad S) [])) (kQ E (fun _ : Unit => rI ((xRiverOf S river w).2) ∧ MOk ((xRiverOf S river w).1)) (fun _ => some (.int (zI ((xRiverOf S river w).2)))) (fun _ => (mW E Ad ((xRiverOf S river w).1))) (va_A (mW E Ad S) sz)) 0 0 (va_A (mW E Ad S) sz) := by
  refine kz_start (Qf := kQ E (fun _ : Unit => rI ((xRiverOf S river w).2) ∧ MOk ((xRiverOf S river w).1)) (fun _ => some (.int (zI ((xRiverOf S river w).2)))) (fun _ => (mW E Ad ((xRiverOf S river w).1)))) (by decide) (Nat.le_of_ble_eq_true rfl) ?_
  intro p e s m args below meth c A ls Q H locs hx hb hr hlk hml hts hown hname hG hK hA hAN hP hD hR hRA hS hQ hl
  replace hown : s.vm.findClass RX3 = some m.cls := hown
  replace hl : lv_has ls 3 [(0, .ref (Ad 0)), (1, .int (zI (river))), (2, .int (zI (w)))] := hl
  have g0 := hI.n
  have g1 := hI.m
  have g2 := hI.ct
  replace hP : va_P (kD E) kcl (mW E Ad (S)) H := hP
  replace hD : va_D A (mW E Ad (S)) := hD
  refine lv_aload_n hx hb dX3_riverOf_0 rfl (lv_at hl 0 rfl) ?_
  refine lv_aload_n hx hb dX3_riverOf_1 rfl (lv_at hl 0 rfl) ?_
  refine lv_iload_n hx hb dX3_riverOf_2 rfl (lv_at hl 1 rfl) ?_
  refine kz_backM (va_runV (As := [.int (zI (river))]) (rest := [.ref (Ad 0)]) ⟨hx, hb, hml, hown, hts⟩ (mX3_isRiver l E H.size Ad S hM river (by omega) (show 0 ≤ (S 0 1) ∧ (S 0 1) ≤ 4 by first | omega | exact hI.st _ (by omega) (by omega) | exact hI.rv _ (by omega) (by omega) | exact hI)) (cwV 1 hts (lw_V q2421 q2423 qs40 q83 q2424) rfl rfl rfl (by decide +kernel) ⟨(Nat.le_of_ble_eq_true rfl), (Nat.le_of_ble_eq_true rfl)⟩) (kz_preVM (wc := mW E Ad S) (va_recv hK hP (ci := 2) (q0 := 0) rfl rfl) hG hS hAN hP hD kz_nilP kz_nilA) rfl rfl hl.1 rfl (lv_room (Nat.le_of_ble_eq_true rfl)) dX3_riverOf_3 ⟨(Nat.le_of_ble_eq_true rfl), (Nat.le_of_ble_eq_true rfl)⟩) hP hD hS hA (fun u H9 locs9 hu hP9 hD9 hS9 hzz hkk => ?_)
  clear hzz hkk hP hD hS H locs u
  revert hS9 hD9 hP9 locs9 H9
  intro H locs hP hD hS
  clear hu
  replace hP : va_P (kD E) kcl (mW E Ad (S)) H := hP
  replace hD : va_D A (mW E Ad (S)) := hD
  show W p l e _ s m args below meth c H locs _ _ Q (F0 m 6 ls [.int (zI (b2 (0 ≤ river ∧ river ≤ (S 0 1) - 1))), .ref (Ad 0)])
  have J1 : ∀ (v2 : Int) (H : Heap) (locs : List Loc) (ls : Array Slot), v2 = (if 0 ≤ river ∧ river ≤ (S 0 1) - 1 then (if 0 ≤ w ∧ w ≤ 6 then 0 else 2) else 1) → rI v2 → va_P (kD E) kcl (mW E Ad (S)) H → va_D A (mW E Ad (S)) → va_S A s.heap H locs → lv_has ls 3 [(0, .ref (Ad 0)), (1, .int (zI (river))), (2, .int (zI (w)))] → W p l e (rmk 2 0 0 45) s m args below meth c H locs 0 0 Q (F0 m 28 ls [.int (zI (v2)), .ref (Ad 0)]) := by
    clear hl hS hD hP ls locs H
    intro v2 H locs ls hv2 rv2 hP hD hS hl
    have dv2 : (0 ≤ river ∧ river ≤ (S 0 1) - 1 ∧ ¬ (0 ≤ w ∧ w ≤ 6) ∧ v2 = 2) ∨ (0 ≤ river ∧ river ≤ (S 0 1) - 1 ∧ 0 ≤ w ∧ w ≤ 6 ∧ v2 = 0) ∨ (¬ (0 ≤ river ∧ river ≤ (S 0 1) - 1) ∧ v2 = 1) := by rw [hv2]; (repeat' split) <;> first | omega | simp_all
    refine kz_backM (va_runV (As := [.int (zI (v2))]) (rest := []) ⟨hx, hb, hml, hown, hts⟩ (mX3_fails l E H.size Ad S hM v2 (by omega)) (cwV 1 hts (lw_V q2394 q2396 qs36 q83 q2397) rfl rfl rfl (by decide +kernel) ⟨(Nat.le_of_ble_eq_true rfl), (Nat.le_of_ble_eq_true rfl)⟩) (kz_preVM (wc := mW E Ad S) (va_recv hK hP (ci := 2) (q0 := 0) rfl rfl) hG hS hAN hP hD kz_nilP kz_nilA) rfl rfl hl.1 rfl (lv_room (Nat.le_of_ble_eq_true rfl)) dX3_riverOf_28 ⟨(Nat.le_of_ble_eq_true rfl), (Nat.le_of_ble_eq_true rfl)⟩) hP hD hS hA (fun u H9 locs9 hu hP9 hD9 hS9 hzz hkk => ?_)
    clear hzz hkk hP hD hS H locs u
    revert hS9 hD9 hP9 locs9 H9
    intro H locs hP hD hS
    replace hM : MOk (put S 7 7 v2) := hu
    clear hu
    replace hP : va_P (kD E) kcl (mW E Ad (put S 7 7 v2)) H := hP
    replace hD : va_D A (mW E Ad (put S 7 7 v2)) := hD
    show W p l e _ s m args below meth c H locs _ _ Q (F0 m 31 ls [.int (zI (b2 (0 < v2)))])
    refine kz_if0B (tgt := 36) hx hb dX3_riverOf_31 (by decide) (fun c31 => ?_) (fun c31 => ?_)
    · skip
      obtain rfl : v2 = 0 := by omega
      refine lv_iload_n hx hb dX3_riverOf_36 rfl (lv_at hl 2 rfl) ?_
      rcases (show w = 0 ∨ w = 1 ∨ w = 2 ∨ w = 3 ∨ w = 4 ∨ w = 5 ∨ (w < 0 ∨ 5 < w) by omega) with w37 | w37 | w37 | w37 | w37 | w37 | w37
      · skip
        refine kz_tsw (v := 0) (off := 39) (tgt := 76) hx hb dX3_riverOf_37 w37 (by decide) (by decide) rfl (by decide) ?_
        refine lv_aload_n hx hb dX3_riverOf_76 rfl (lv_at hl 0 rfl) ?_
        refine lv_iload_n hx hb dX3_riverOf_77 rfl (lv_at hl 1 rfl) ?_
        refine kz_iconst hx hb dX3_riverOf_78 ?_
        refine kz_backM (va_runV (As := [.int (zI (river)), .int (zI (0))]) (rest := []) ⟨hx, hb, hml, hown, hts⟩ (mX3_its l E H.size Ad (put S 7 7 0) hM river (by omega) 0 (by omega) (show 0 ≤ river ∧ river < 4 by first | omega | exact hI.st _ (by omega) (by omega) | exact hI.rv _ (by omega) (by omega) | exact hI) (show 0 ≤ 0 ∧ 0 < 6 by first | omega | exact hI.st _ (by omega) (by omega) | exact hI.rv _ (by omega) (by omega) | exact hI)) (cwV 2 hts (lw_V q2425 q2427 qs41 q83 q2428) rfl rfl rfl (by decide +kernel) ⟨(Nat.le_of_ble_eq_true rfl), (Nat.le_of_ble_eq_true rfl)⟩) (kz_preVM (wc := mW E Ad (put S 7 7 0)) (va_recv hK hP (ci := 2) (q0 := 0) rfl rfl) hG hS hAN hP hD kz_nilP kz_nilA) rfl rfl hl.1 rfl (lv_room (Nat.le_of_ble_eq_true rfl)) dX3_riverOf_79 ⟨(Nat.le_of_ble_eq_true rfl), (Nat.le_of_ble_eq_true rfl)⟩) hP hD hS hA (fun u H9 locs9 hu hP9 hD9 hS9 hzz hkk => ?_)
        clear hzz hkk hP hD hS H locs u
        revert hS9 hD9 hP9 locs9 H9
        intro H locs hP hD hS
        have r3 : rI ((S 0 ((150 + 6 * river + 0)))) := hu
        clear hu
        replace hP : va_P (kD E) kcl (mW E Ad (put S 7 7 0)) H := hP
        replace hD : va_D A (mW E Ad (put S 7 7 0)) := hD
        show W p l e _ s m args below meth c H locs _ _ Q (F0 m 82 ls [.int (zI ((S 0 ((150 + 6 * river + 0)))))])
        have e0 : xRiverOf S river w = (put S 7 7 0, (S 0 ((150 + 6 * river + 0)))) := by unfold xRiverOf; (repeat (first | refine Eq.trans (if_pos (by omega)) ?_ | refine Eq.trans (if_neg (by omega)) ?_)); refine congrArg (Prod.mk _) ?_; (repeat (first | refine Eq.trans (if_pos (by omega)) ?_ | refine Eq.trans (if_neg (by omega)) ?_)); first | rfl | (refine congrArg (fun z => S 0 (150 + 6 * river + z)) ?_; (repeat (first | refine Eq.trans (if_pos (by omega)) ?_ | refine Eq.trans (if_neg (by omega)) ?_)); omega)
        have e1 : (xRiverOf S river w).2 = (S 0 ((150 + 6 * river + 0))) := by rw [e0]
        have e3 : (xRiverOf S river w).1 = put S 7 7 0 := by rw [e0]
        exact kz_iret () hx hb hr hlk hP hD hS dX3_riverOf_82 (congrArg (fun z : Int => some (Value.int (zI z))) e1) ⟨(kz_r e1 (by omega)), (kz_M e3 hM)⟩ (congrArg (mW E Ad) e3) hQ (Nat.le_of_ble_eq_true rfl) (Nat.le_of_ble_eq_true rfl)
      · skip
        refine kz_tsw (v := 1) (off := 46) (tgt := 83) hx hb dX3_riverOf_37 w37 (by decide) (by decide) rfl (by decide) ?_
        refine lv_aload_n hx hb dX3_riverOf_83 rfl (lv_at hl 0 rfl) ?_
        refine lv_iload_n hx hb dX3_riverOf_84 rfl (lv_at hl 1 rfl) ?_
        refine kz_iconst hx hb dX3_riverOf_85 ?_
        refine kz_backM (va_runV (As := [.int (zI (river)), .int (zI (1))]) (rest := []) ⟨hx, hb, hml, hown, hts⟩ (mX3_its l E H.size Ad (put S 7 7 0) hM river (by omega) 1 (by omega) (show 0 ≤ river ∧ river < 4 by first | omega | exact hI.st _ (by omega) (by omega) | exact hI.rv _ (by omega) (by omega) | exact hI) (show 0 ≤ 1 ∧ 1 < 6 by first | omega | exact hI.st _ (by omega) (by omega) | exact hI.rv _ (by omega) (by omega) | exact hI)) (cwV 2 hts (lw_V q2425 q2427 qs41 q83 q2428) rfl rfl rfl (by decide +kernel) ⟨(Nat.le_of_ble_eq_true rfl), (Nat.le_of_ble_eq_true rfl)⟩) (kz_preVM (wc := mW E Ad (put S 7 7 0)) (va_recv hK hP (ci := 2) (q0 := 0) rfl rfl) hG hS hAN hP hD kz_nilP kz_nilA) rfl rfl hl.1 rfl (lv_room (Nat.le_of_ble_eq_true rfl)) dX3_riverOf_86 ⟨(Nat.le_of_ble_eq_true rfl), (Nat.le_of_ble_eq_true rfl)⟩) hP hD hS hA (fun u H9 locs9 hu hP9 hD9 hS9 hzz hkk => ?_)
        clear hzz hkk hP hD hS H locs u
        revert hS9 hD9 hP9 locs9 H9
        intro H locs hP hD hS
        have r4 : rI ((S 0 ((150 + 6 * river + 1)))) := hu
        clear hu
        replace hP : va_P (kD E) kcl (mW E Ad (put S 7 7 0)) H := hP
        replace hD : va_D A (mW E Ad (put S 7 7 0)) := hD
        show W p l e _ s m args below meth c H locs _ _ Q (F0 m 89 ls [.int (zI ((S 0 ((150 + 6 * river + 1)))))])
        have e0 : xRiverOf S river w = (put S 7 7 0, (S 0 ((150 + 6 * river + 1)))) := by unfold xRiverOf; (repeat (first | refine Eq.trans (if_pos (by omega)) ?_ | refine Eq.trans (if_neg (by omega)) ?_)); refine congrArg (Prod.mk _) ?_; (repeat (first | refine Eq.trans (if_pos (by omega)) ?_ | refine Eq.trans (if_neg (by omega)) ?_)); first | rfl | (refine congrArg (fun z => S 0 (150 + 6 * river + z)) ?_; (repeat (first | refine Eq.trans (if_pos (by omega)) ?_ | refine Eq.trans (if_neg (by omega)) ?_)); omega)
        have e1 : (xRiverOf S river w).2 = (S 0 ((150 + 6 * river + 1))) := by rw [e0]
        have e3 : (xRiverOf S river w).1 = put S 7 7 0 := by rw [e0]
        exact kz_iret () hx hb hr hlk hP hD hS dX3_riverOf_89 (congrArg (fun z : Int => some (Value.int (zI z))) e1) ⟨(kz_r e1 (by omega)), (kz_M e3 hM)⟩ (congrArg (mW E Ad) e3) hQ (Nat.le_of_ble_eq_true rfl) (Nat.le_of_ble_eq_true rfl)
      · skip
        refine kz_tsw (v := 2) (off := 53) (tgt := 90) hx hb dX3_riverOf_37 w37 (by decide) (by decide) rfl (by decide) ?_
        refine lv_aload_n hx hb dX3_riverOf_90 rfl (lv_at hl 0 rfl) ?_
        refine lv_iload_n hx hb dX3_riverOf_91 rfl (lv_at hl 1 rfl) ?_
        refine kz_backM (va_runV (As := [.int (zI (river))]) (rest := []) ⟨hx, hb, hml, hown, hts⟩ (mX3_daysOf l E H.size Ad (put S 7 7 0) hM river (by omega) (show 0 ≤ river ∧ river < 4 by first | omega | exact hI.st _ (by omega) (by omega) | exact hI.rv _ (by omega) (by omega) | exact hI)) (cwV 1 hts (lw_V q2461 q2463 qs47 q83 q2464) rfl rfl rfl (by decide +kernel) ⟨(Nat.le_of_ble_eq_true rfl), (Nat.le_of_ble_eq_true rfl)⟩) (kz_preVM (wc := mW E Ad (put S 7 7 0)) (va_recv hK hP (ci := 2) (q0 := 0) rfl rfl) hG hS hAN hP hD kz_nilP kz_nilA) rfl rfl hl.1 rfl (lv_room (Nat.le_of_ble_eq_true rfl)) dX3_riverOf_92 ⟨(Nat.le_of_ble_eq_true rfl), (Nat.le_of_ble_eq_true rfl)⟩) hP hD hS hA (fun u H9 locs9 hu hP9 hD9 hS9 hzz hkk => ?_)
        clear hzz hkk hP hD hS H locs u
        revert hS9 hD9 hP9 locs9 H9
        intro H locs hP hD hS
        obtain ⟨r5, p6⟩ := hu
        replace r5 : rI (daysOf (S 0) river) := r5
        replace p6 : 0 ≤ daysOf (S 0) river ∧ daysOf (S 0) river ≤ 30 := p6
        replace hP : va_P (kD E) kcl (mW E Ad (put S 7 7 0)) H := hP
        replace hD : va_D A (mW E Ad (put S 7 7 0)) := hD
        show W p l e _ s m args below meth c H locs _ _ Q (F0 m 95 ls [.int (zI (daysOf (S 0) river))])
        have e0 : xRiverOf S river w = (put S 7 7 0, daysOf (S 0) river) := by unfold xRiverOf; (repeat (first | refine Eq.trans (if_pos (by omega)) ?_ | refine Eq.trans (if_neg (by omega)) ?_)); refine congrArg (Prod.mk _) ?_; (repeat (first | refine Eq.trans (if_pos (by omega)) ?_ | refine Eq.trans (if_neg (by omega)) ?_)); first | rfl | (refine congrArg (fun z => S 0 (150 + 6 * river + z)) ?_; (repeat (first | refine Eq.trans (if_pos (by omega)) ?_ | refine Eq.trans (if_neg (by omega)) ?_)); omega)
        have e1 : (xRiverOf S river w).2 = daysOf (S 0) river := by rw [e0]
        have e3 : (xRiverOf S river w).1 = put S 7 7 0 := by rw [e0]
        exact kz_iret () hx hb hr hlk hP hD hS dX3_riverOf_95 (congrArg (fun z : Int => some (Value.int (zI z))) e1) ⟨(kz_r e1 (by omega)), (kz_M e3 hM)⟩ (congrArg (mW E Ad) e3) hQ (Nat.le_of_ble_eq_true rfl) (Nat.le_of_ble_eq_true rfl)
      · skip
        refine kz_tsw (v := 3) (off := 59) (tgt := 96) hx hb dX3_riverOf_37 w37 (by decide) (by decide) rfl (by decide) ?_
        refine lv_aload_n hx hb dX3_riverOf_96 rfl (lv_at hl 0 rfl) ?_
        refine lv_iload_n hx hb dX3_riverOf_97 rfl (lv_at hl 1 rfl) ?_
        refine kz_iconst hx hb dX3_riverOf_98 ?_
        refine kz_backM (va_runV (As := [.int (zI (river)), .int (zI (2))]) (rest := []) ⟨hx, hb, hml, hown, hts⟩ (mX3_its l E H.size Ad (put S 7 7 0) hM river (by omega) 2 (by omega) (show 0 ≤ river ∧ river < 4 by first | omega | exact hI.st _ (by omega) (by omega) | exact hI.rv _ (by omega) (by omega) | exact hI) (show 0 ≤ 2 ∧ 2 < 6 by first | omega | exact hI.st _ (by omega) (by omega) | exact hI.rv _ (by omega) (by omega) | exact hI)) (cwV 2 hts (lw_V q2425 q2427 qs41 q83 q2428) rfl rfl rfl (by decide +kernel) ⟨(Nat.le_of_ble_eq_true rfl), (Nat.le_of_ble_eq_true rfl)⟩) (kz_preVM (wc := mW E Ad (put S 7 7 0)) (va_recv hK hP (ci := 2) (q0 := 0) rfl rfl) hG hS hAN hP hD kz_nilP kz_nilA) rfl rfl hl.1 rfl (lv_room (Nat.le_of_ble_eq_true rfl)) dX3_riverOf_99 ⟨(Nat.le_of_ble_eq_true rfl), (Nat.le_of_ble_eq_true rfl)⟩) hP hD hS hA (fun u H9 locs9 hu hP9 hD9 hS9 hzz hkk => ?_)
        clear hzz hkk hP hD hS H locs u
        revert hS9 hD9 hP9 locs9 H9
        intro H locs hP hD hS
        have r7 : rI ((S 0 ((150 + 6 * river + 2)))) := hu
        clear hu
        replace hP : va_P (kD E) kcl (mW E Ad (put S 7 7 0)) H := hP
        replace hD : va_D A (mW E Ad (put S 7 7 0)) := hD
        show W p l e _ s m args below meth c H locs _ _ Q (F0 m 102 ls [.int (zI ((S 0 ((150 + 6 * river + 2)))))])
        have e0 : xRiverOf S river w = (put S 7 7 0, (S 0 ((150 + 6 * river + 2)))) := by unfold xRiverOf; (repeat (first | refine Eq.trans (if_pos (by omega)) ?_ | refine Eq.trans (if_neg (by omega)) ?_)); refine congrArg (Prod.mk _) ?_; (repeat (first | refine Eq.trans (if_pos (by omega)) ?_ | refine Eq.trans (if_neg (by omega)) ?_)); first | rfl | (refine congrArg (fun z => S 0 (150 + 6 * river + z)) ?_; (repeat (first | refine Eq.trans (if_pos (by omega)) ?_ | refine Eq.trans (if_neg (by omega)) ?_)); omega)
        have e1 : (xRiverOf S river w).2 = (S 0 ((150 + 6 * river + 2))) := by rw [e0]
        have e3 : (xRiverOf S river w).1 = put S 7 7 0 := by rw [e0]
        exact kz_iret () hx hb hr hlk hP hD hS dX3_riverOf_102 (congrArg (fun z : Int => some (Value.int (zI z))) e1) ⟨(kz_r e1 (by omega)), (kz_M e3 hM)⟩ (congrArg (mW E Ad) e3) hQ (Nat.le_of_ble_eq_true rfl) (Nat.le_of_ble_eq_true rfl)
      · skip
        refine kz_tsw (v := 4) (off := 66) (tgt := 103) hx hb dX3_riverOf_37 w37 (by decide) (by decide) rfl (by decide) ?_
        refine lv_aload_n hx hb dX3_riverOf_103 rfl (lv_at hl 0 rfl) ?_
        refine lv_iload_n hx hb dX3_riverOf_104 rfl (lv_at hl 1 rfl) ?_
        refine kz_iconst hx hb dX3_riverOf_105 ?_
        refine kz_backM (va_runV (As := [.int (zI (river)), .int (zI (3))]) (rest := []) ⟨hx, hb, hml, hown, hts⟩ (mX3_its l E H.size Ad (put S 7 7 0) hM river (by omega) 3 (by omega) (show 0 ≤ river ∧ river < 4 by first | omega | exact hI.st _ (by omega) (by omega) | exact hI.rv _ (by omega) (by omega) | exact hI) (show 0 ≤ 3 ∧ 3 < 6 by first | omega | exact hI.st _ (by omega) (by omega) | exact hI.rv _ (by omega) (by omega) | exact hI)) (cwV 2 hts (lw_V q2425 q2427 qs41 q83 q2428) rfl rfl rfl (by decide +kernel) ⟨(Nat.le_of_ble_eq_true rfl), (Nat.le_of_ble_eq_true rfl)⟩) (kz_preVM (wc := mW E Ad (put S 7 7 0)) (va_recv hK hP (ci := 2) (q0 := 0) rfl rfl) hG hS hAN hP hD kz_nilP kz_nilA) rfl rfl hl.1 rfl (lv_room (Nat.le_of_ble_eq_true rfl)) dX3_riverOf_106 ⟨(Nat.le_of_ble_eq_true rfl), (Nat.le_of_ble_eq_true rfl)⟩) hP hD hS hA (fun u H9 locs9 hu hP9 hD9 hS9 hzz hkk => ?_)
        clear hzz hkk hP hD hS H locs u
        revert hS9 hD9 hP9 locs9 H9
        intro H locs hP hD hS
        have r8 : rI ((S 0 ((150 + 6 * river + 3)))) := hu
        clear hu
        replace hP : va_P (kD E) kcl (mW E Ad (put S 7 7 0)) H := hP
        replace hD : va_D A (mW E Ad (put S 7 7 0)) := hD
        show W p l e _ s m args below meth c H locs _ _ Q (F0 m 109 ls [.int (zI ((S 0 ((150 + 6 * river + 3)))))])
        have e0 : xRiverOf S river w = (put S 7 7 0, (S 0 ((150 + 6 * river + 3)))) := by unfold xRiverOf; (repeat (first | refine Eq.trans (if_pos (by omega)) ?_ | refine Eq.trans (if_neg (by omega)) ?_)); refine congrArg (Prod.mk _) ?_; (repeat (first | refine Eq.trans (if_pos (by omega)) ?_ | refine Eq.trans (if_neg (by omega)) ?_)); first | rfl | (refine congrArg (fun z => S 0 (150 + 6 * river + z)) ?_; (repeat (first | refine Eq.trans (if_pos (by omega)) ?_ | refine Eq.trans (if_neg (by omega)) ?_)); omega)
        have e1 : (xRiverOf S river w).2 = (S 0 ((150 + 6 * river + 3))) := by rw [e0]
        have e3 : (xRiverOf S river w).1 = put S 7 7 0 := by rw [e0]
        exact kz_iret () hx hb hr hlk hP hD hS dX3_riverOf_109 (congrArg (fun z : Int => some (Value.int (zI z))) e1) ⟨(kz_r e1 (by omega)), (kz_M e3 hM)⟩ (congrArg (mW E Ad) e3) hQ (Nat.le_of_ble_eq_true rfl) (Nat.le_of_ble_eq_true rfl)
      · skip
        refine kz_tsw (v := 5) (off := 73) (tgt := 110) hx hb dX3_riverOf_37 w37 (by decide) (by decide) rfl (by decide) ?_
        refine lv_aload_n hx hb dX3_riverOf_110 rfl (lv_at hl 0 rfl) ?_
        refine lv_iload_n hx hb dX3_riverOf_111 rfl (lv_at hl 1 rfl) ?_
        refine kz_backM (va_runV (As := [.int (zI (river))]) (rest := []) ⟨hx, hb, hml, hown, hts⟩ (mX3_stay l E H.size Ad (put S 7 7 0) hM river (by omega) (show 0 ≤ (S 0 0) ∧ (S 0 0) ≤ 10 by first | omega | exact hI.st _ (by omega) (by omega) | exact hI.rv _ (by omega) (by omega) | exact hI)) (cwV 1 hts (lw_V q2469 q2471 qs49 q83 q2472) rfl rfl rfl (by decide +kernel) ⟨(Nat.le_of_ble_eq_true rfl), (Nat.le_of_ble_eq_true rfl)⟩) (kz_preVM (wc := mW E Ad (put S 7 7 0)) (va_recv hK hP (ci := 2) (q0 := 0) rfl rfl) hG hS hAN hP hD kz_nilP kz_nilA) rfl rfl hl.1 rfl (lv_room (Nat.le_of_ble_eq_true rfl)) dX3_riverOf_112 ⟨(Nat.le_of_ble_eq_true rfl), (Nat.le_of_ble_eq_true rfl)⟩) hP hD hS hA (fun u H9 locs9 hu hP9 hD9 hS9 hzz hkk => ?_)
        clear hzz hkk hP hD hS H locs u
        revert hS9 hD9 hP9 locs9 H9
        intro H locs hP hD hS
        have r9 : rI (stay (S 0) river) := hu
        clear hu
        replace hP : va_P (kD E) kcl (mW E Ad (put S 7 7 0)) H := hP
        replace hD : va_D A (mW E Ad (put S 7 7 0)) := hD
        show W p l e _ s m args below meth c H locs _ _ Q (F0 m 115 ls [.int (zI (stay (S 0) river))])
        have e0 : xRiverOf S river w = (put S 7 7 0, stay (S 0) river) := by unfold xRiverOf; (repeat (first | refine Eq.trans (if_pos (by omega)) ?_ | refine Eq.trans (if_neg (by omega)) ?_)); refine congrArg (Prod.mk _) ?_; (repeat (first | refine Eq.trans (if_pos (by omega)) ?_ | refine Eq.trans (if_neg (by omega)) ?_)); first | rfl | (refine congrArg (fun z => S 0 (150 + 6 * river + z)) ?_; (repeat (first | refine Eq.trans (if_pos (by omega)) ?_ | refine Eq.trans (if_neg (by omega)) ?_)); omega)
        have e1 : (xRiverOf S river w).2 = stay (S 0) river := by rw [e0]
        have e3 : (xRiverOf S river w).1 = put S 7 7 0 := by rw [e0]
        exact kz_iret () hx hb hr hlk hP hD hS dX3_riverOf_115 (congrArg (fun z : Int => some (Value.int (zI z))) e1) ⟨(kz_r e1 (by omega)), (kz_M e3 hM)⟩ (congrArg (mW E Ad) e3) hQ (Nat.le_of_ble_eq_true rfl) (Nat.le_of_ble_eq_true rfl)
      · skip
        refine kz_tswD (tgt := 116) hx hb dX3_riverOf_37 (by omega) w37 (by decide) ?_
        refine lv_aload_n hx hb dX3_riverOf_116 rfl (lv_at hl 0 rfl) ?_
        refine lv_iload_n hx hb dX3_riverOf_117 rfl (lv_at hl 1 rfl) ?_
        refine kz_iconst hx hb dX3_riverOf_118 ?_
        refine kz_backM (va_runV (As := [.int (zI (river)), .int (zI (4))]) (rest := []) ⟨hx, hb, hml, hown, hts⟩ (mX3_its l E H.size Ad (put S 7 7 0) hM river (by omega) 4 (by omega) (show 0 ≤ river ∧ river < 4 by first | omega | exact hI.st _ (by omega) (by omega) | exact hI.rv _ (by omega) (by omega) | exact hI) (show 0 ≤ 4 ∧ 4 < 6 by first | omega | exact hI.st _ (by omega) (by omega) | exact hI.rv _ (by omega) (by omega) | exact hI)) (cwV 2 hts (lw_V q2425 q2427 qs41 q83 q2428) rfl rfl rfl (by decide +kernel) ⟨(Nat.le_of_ble_eq_true rfl), (Nat.le_of_ble_eq_true rfl)⟩) (kz_preVM (wc := mW E Ad (put S 7 7 0)) (va_recv hK hP (ci := 2) (q0 := 0) rfl rfl) hG hS hAN hP hD kz_nilP kz_nilA) rfl rfl hl.1 rfl (lv_room (Nat.le_of_ble_eq_true rfl)) dX3_riverOf_119 ⟨(Nat.le_of_ble_eq_true rfl), (Nat.le_of_ble_eq_true rfl)⟩) hP hD hS hA (fun u H9 locs9 hu hP9 hD9 hS9 hzz hkk => ?_)
        clear hzz hkk hP hD hS H locs u
        revert hS9 hD9 hP9 locs9 H9
        intro H locs hP hD hS
        have r10 : rI ((S 0 ((150 + 6 * river + 4)))) := hu
        clear hu
        replace hP : va_P (kD E) kcl (mW E Ad (put S 7 7 0)) H := hP
        replace hD : va_D A (mW E Ad (put S 7 7 0)) := hD
        show W p l e _ s m args below meth c H locs _ _ Q (F0 m 122 ls [.int (zI ((S 0 ((150 + 6 * river + 4)))))])
        have e0 : xRiverOf S river w = (put S 7 7 0, (S 0 ((150 + 6 * river + 4)))) := by unfold xRiverOf; (repeat (first | refine Eq.trans (if_pos (by omega)) ?_ | refine Eq.trans (if_neg (by omega)) ?_)); refine congrArg (Prod.mk _) ?_; (repeat (first | refine Eq.trans (if_pos (by omega)) ?_ | refine Eq.trans (if_neg (by omega)) ?_)); first | rfl | (refine congrArg (fun z => S 0 (150 + 6 * river + z)) ?_; (repeat (first | refine Eq.trans (if_pos (by omega)) ?_ | refine Eq.trans (if_neg (by omega)) ?_)); omega)
        have e1 : (xRiverOf S river w).2 = (S 0 ((150 + 6 * river + 4))) := by rw [e0]
        have e3 : (xRiverOf S river w).1 = put S 7 7 0 := by rw [e0]
        exact kz_iret () hx hb hr hlk hP hD hS dX3_riverOf_122 (congrArg (fun z : Int => some (Value.int (zI z))) e1) ⟨(kz_r e1 (by omega)), (kz_M e3 hM)⟩ (congrArg (mW E Ad) e3) hQ (Nat.le_of_ble_eq_true rfl) (Nat.le_of_ble_eq_true rfl)
    · skip
      rcases (show v2 = 1 ∨ v2 = 2 by omega) with rfl | rfl
      · skip
        refine kz_iconst hx hb dX3_riverOf_34 ?_
        have e0 : xRiverOf S river w = (put S 7 7 1, 0) := by unfold xRiverOf; (repeat (first | refine Eq.trans (if_pos (by omega)) ?_ | refine Eq.trans (if_neg (by omega)) ?_)); refine congrArg (Prod.mk _) ?_; (repeat (first | refine Eq.trans (if_pos (by omega)) ?_ | refine Eq.trans (if_neg (by omega)) ?_)); first | rfl | (refine congrArg (fun z => S 0 (150 + 6 * river + z)) ?_; (repeat (first | refine Eq.trans (if_pos (by omega)) ?_ | refine Eq.trans (if_neg (by omega)) ?_)); omega)
        have e1 : (xRiverOf S river w).2 = 0 := by rw [e0]
        have e3 : (xRiverOf S river w).1 = put S 7 7 1 := by rw [e0]
        exact kz_iret () hx hb hr hlk hP hD hS dX3_riverOf_35 (congrArg (fun z : Int => some (Value.int (zI z))) e1) ⟨(kz_r e1 (by omega)), (kz_M e3 hM)⟩ (congrArg (mW E Ad) e3) hQ (Nat.le_of_ble_eq_true rfl) (Nat.le_of_ble_eq_true rfl)
      · skip
        refine kz_iconst hx hb dX3_riverOf_34 ?_
        have e0 : xRiverOf S river w = (put S 7 7 2, 0) := by unfold xRiverOf; (repeat (first | refine Eq.trans (if_pos (by omega)) ?_ | refine Eq.trans (if_neg (by omega)) ?_)); refine congrArg (Prod.mk _) ?_; (repeat (first | refine Eq.trans (if_pos (by omega)) ?_ | refine Eq.trans (if_neg (by omega)) ?_)); first | rfl | (refine congrArg (fun z => S 0 (150 + 6 * river + z)) ?_; (repeat (first | refine Eq.trans (if_pos (by omega)) ?_ | refine Eq.trans (if_neg (by omega)) ?_)); omega)
        have e1 : (xRiverOf S river w).2 = 0 := by rw [e0]
        have e3 : (xRiverOf S river w).1 = put S 7 7 2 := by rw [e0]
        exact kz_iret () hx hb hr hlk hP hD hS dX3_riverOf_35 (congrArg (fun z : Int => some (Value.int (zI z))) e1) ⟨(kz_r e1 (by omega)), (kz_M e3 hM)⟩ (congrArg (mW E Ad) e3) hQ (Nat.le_of_ble_eq_true rfl) (Nat.le_of_ble_eq_true rfl)
  refine kz_if1B (tgt := 13) hx hb dX3_riverOf_6 (by decide) (fun c6 => ?_) (fun c6 => ?_)
  · skip
    refine lv_iload_n hx hb dX3_riverOf_13 rfl (lv_at hl 2 rfl) ?_
    refine kz_iconst hx hb dX3_riverOf_14 ?_
    refine kz_bipush hx hb dX3_riverOf_15 (by decide) ?_
    refine kz_back (wc := []) (wx := (mW E Ad (S))) (va_runS (As := [.int (zI (w)), .int (zI (0)), .int (zI (6))]) (rest := [.ref (Ad 0)]) ⟨hx, hb, hml, hown, hts⟩ (mX3_in l E H.size w (by omega) 0 (by omega) 6 (by omega)) (va_cwS 3 hts (lw_S q2391 q2392 q83 q2393) rfl rfl rfl (by decide +kernel) ⟨(Nat.le_of_ble_eq_true rfl), (Nat.le_of_ble_eq_true rfl)⟩) (kz_pre (wc := []) (wx := (mW E Ad (S))) hG hS hAN hP hD kz_nilP kz_nilA) rfl rfl hl.1 rfl (lv_room (Nat.le_of_ble_eq_true rfl)) dX3_riverOf_17 ⟨(Nat.le_of_ble_eq_true rfl), (Nat.le_of_ble_eq_true rfl)⟩) hP hD hS hA (fun u H9 locs9 hu hP9 hD9 hS9 hzz hkk => ?_)
    clear hzz hkk hP hD hS H locs u
    revert hS9 hD9 hP9 locs9 H9
    intro H locs hP hD hS
    clear hu
    replace hP : va_P (kD E) kcl (mW E Ad (S)) H := hP
    replace hD : va_D A (mW E Ad (S)) := hD
    show W p l e _ s m args below meth c H locs _ _ Q (F0 m 20 ls [.int (zI (b2 (0 ≤ w ∧ w ≤ 6))), .ref (Ad 0)])
    refine kz_if0B (tgt := 27) hx hb dX3_riverOf_20 (by decide) (fun c20 => ?_) (fun c20 => ?_)
    · skip
      refine kz_iconst hx hb dX3_riverOf_27 ?_
      exact J1 2 _ _ _ (Eq.symm (Eq.trans (if_pos c6) (if_neg c20))) (by omega) hP hD hS hl
    · skip
      refine kz_iconst hx hb dX3_riverOf_23 ?_
      refine lv_goto (tgt := 28) hx hb dX3_riverOf_24 (by decide) ?_
      exact J1 0 _ _ _ (Eq.symm (Eq.trans (if_pos c6) (if_pos c20))) (by omega) hP hD hS hl
  · skip
    refine kz_iconst hx hb dX3_riverOf_9 ?_
    refine lv_goto (tgt := 28) hx hb dX3_riverOf_10 (by decide) ?_
    exact J1 1 _ _ _ (Eq.symm (if_neg c6)) (by omega) hP hD hS hl

set_option maxHeartbeats 4000000 in
set_option maxRecDepth 100000 in
theorem mX3_booked (l : Launch) (E : KE) (sz : Nat) (Ad : Nat → Nat) (S : St) (hM : MOk S) (B : Int) (river : Int) (rriver : rI river) (a : Int) (ra : rI a) (hI : GI B (S 0)) : Met l yX3_booked (ws_ yX3_booked cX3_booked 3 (some .int)) (rmk 2 0 0 43) (va_Pc [.ref (Ad 0), .int (zI river), .int (zI a)] (kP l E sz (mW E Ad S) [])) (kQ E (fun _ : Unit => rI ((xBooked S river a).2) ∧ MOk ((xBooked S river a).1)) (fun _ => some (.int (zI ((xBooked S river a).2)))) (fun _ => (mW E Ad ((xBooked S river a).1))) (va_A (mW E Ad S) sz)) 0 0 (va_A (mW E Ad S) sz) := by
  refine kz_start (Qf := kQ E (fun _ : Unit => rI ((xBooked S river a).2) ∧ MOk ((xBooked S river a).1)) (fun _ => some (.int (zI ((xBooked S river a).2)))) (fun _ => (mW E Ad ((xBooked S river a).1)))) (by decide) (Nat.le_of_ble_eq_true rfl) ?_
  intro p e s m args below meth c A ls Q H locs hx hb hr hlk hml hts hown hname hG hK hA hAN hP hD hR hRA hS hQ hl
  replace hown : s.vm.findClass RX3 = some m.cls := hown
  replace hl : lv_has ls 3 [(0, .ref (Ad 0)), (1, .int (zI (river))), (2, .int (zI (a)))] := hl
  have g0 := hI.n
  have g1 := hI.m
  have g2 := hI.ct
  replace hP : va_P (kD E) kcl (mW E Ad (S)) H := hP
  replace hD : va_D A (mW E Ad (S)) := hD
  refine lv_aload_n hx hb dX3_booked_0 rfl (lv_at hl 0 rfl) ?_
  refine lv_aload_n hx hb dX3_booked_1 rfl (lv_at hl 0 rfl) ?_
  refine lv_iload_n hx hb dX3_booked_2 rfl (lv_at hl 1 rfl) ?_
  refine kz_backM (va_runV (As := [.int (zI (river))]) (rest := [.ref (Ad 0)]) ⟨hx, hb, hml, hown, hts⟩ (mX3_isRiver l E H.size Ad S hM river (by omega) (show 0 ≤ (S 0 1) ∧ (S 0 1) ≤ 4 by first | omega | exact hI.st _ (by omega) (by omega) | exact hI.rv _ (by omega) (by omega) | exact hI)) (cwV 1 hts (lw_V q2421 q2423 qs40 q83 q2424) rfl rfl rfl (by decide +kernel) ⟨(Nat.le_of_ble_eq_true rfl), (Nat.le_of_ble_eq_true rfl)⟩) (kz_preVM (wc := mW E Ad S) (va_recv hK hP (ci := 2) (q0 := 0) rfl rfl) hG hS hAN hP hD kz_nilP kz_nilA) rfl rfl hl.1 rfl (lv_room (Nat.le_of_ble_eq_true rfl)) dX3_booked_3 ⟨(Nat.le_of_ble_eq_true rfl), (Nat.le_of_ble_eq_true rfl)⟩) hP hD hS hA (fun u H9 locs9 hu hP9 hD9 hS9 hzz hkk => ?_)
  clear hzz hkk hP hD hS H locs u
  revert hS9 hD9 hP9 locs9 H9
  intro H locs hP hD hS
  clear hu
  replace hP : va_P (kD E) kcl (mW E Ad (S)) H := hP
  replace hD : va_D A (mW E Ad (S)) := hD
  show W p l e _ s m args below meth c H locs _ _ Q (F0 m 6 ls [.int (zI (b2 (0 ≤ river ∧ river ≤ (S 0 1) - 1))), .ref (Ad 0)])
  have J1 : ∀ (v2 : Int) (H : Heap) (locs : List Loc) (ls : Array Slot), v2 = (if 0 ≤ river ∧ river ≤ (S 0 1) - 1 then (if 0 ≤ a ∧ a ≤ 29 then 0 else 2) else 1) → rI v2 → va_P (kD E) kcl (mW E Ad (S)) H → va_D A (mW E Ad (S)) → va_S A s.heap H locs → lv_has ls 3 [(0, .ref (Ad 0)), (1, .int (zI (river))), (2, .int (zI (a)))] → W p l e (rmk 2 0 0 43) s m args below meth c H locs 0 0 Q (F0 m 25 ls [.int (zI (v2)), .ref (Ad 0)]) := by
    clear hl hS hD hP ls locs H
    intro v2 H locs ls hv2 rv2 hP hD hS hl
    have dv2 : (0 ≤ river ∧ river ≤ (S 0 1) - 1 ∧ ¬ (0 ≤ a ∧ a ≤ 29) ∧ v2 = 2) ∨ (0 ≤ river ∧ river ≤ (S 0 1) - 1 ∧ 0 ≤ a ∧ a ≤ 29 ∧ v2 = 0) ∨ (¬ (0 ≤ river ∧ river ≤ (S 0 1) - 1) ∧ v2 = 1) := by rw [hv2]; (repeat' split) <;> first | omega | simp_all
    refine kz_backM (va_runV (As := [.int (zI (v2))]) (rest := []) ⟨hx, hb, hml, hown, hts⟩ (mX3_fails l E H.size Ad S hM v2 (by omega)) (cwV 1 hts (lw_V q2394 q2396 qs36 q83 q2397) rfl rfl rfl (by decide +kernel) ⟨(Nat.le_of_ble_eq_true rfl), (Nat.le_of_ble_eq_true rfl)⟩) (kz_preVM (wc := mW E Ad S) (va_recv hK hP (ci := 2) (q0 := 0) rfl rfl) hG hS hAN hP hD kz_nilP kz_nilA) rfl rfl hl.1 rfl (lv_room (Nat.le_of_ble_eq_true rfl)) dX3_booked_25 ⟨(Nat.le_of_ble_eq_true rfl), (Nat.le_of_ble_eq_true rfl)⟩) hP hD hS hA (fun u H9 locs9 hu hP9 hD9 hS9 hzz hkk => ?_)
    clear hzz hkk hP hD hS H locs u
    revert hS9 hD9 hP9 locs9 H9
    intro H locs hP hD hS
    replace hM : MOk (put S 7 7 v2) := hu
    clear hu
    replace hP : va_P (kD E) kcl (mW E Ad (put S 7 7 v2)) H := hP
    replace hD : va_D A (mW E Ad (put S 7 7 v2)) := hD
    show W p l e _ s m args below meth c H locs _ _ Q (F0 m 28 ls [.int (zI (b2 (0 < v2)))])
    refine kz_if0B (tgt := 35) hx hb dX3_booked_28 (by decide) (fun c28 => ?_) (fun c28 => ?_)
    · skip
      obtain rfl : v2 = 0 := by omega
      refine lv_aload_n hx hb dX3_booked_35 rfl (lv_at hl 0 rfl) ?_
      refine lv_iload_n hx hb dX3_booked_36 rfl (lv_at hl 1 rfl) ?_
      refine lv_iload_n hx hb dX3_booked_37 rfl (lv_at hl 2 rfl) ?_
      refine kz_backM (va_runV (As := [.int (zI (river)), .int (zI (a))]) (rest := []) ⟨hx, hb, hml, hown, hts⟩ (mX3_bookedFor l E H.size Ad (put S 7 7 0) hM river (by omega) a (by omega) (show 0 ≤ river ∧ river < 4 by first | omega | exact hI.st _ (by omega) (by omega) | exact hI.rv _ (by omega) (by omega) | exact hI) (show 0 ≤ a ∧ a < 30 by first | omega | exact hI.st _ (by omega) (by omega) | exact hI.rv _ (by omega) (by omega) | exact hI)) (cwV 2 hts (lw_V q2465 q2467 qs48 q83 q2468) rfl rfl rfl (by decide +kernel) ⟨(Nat.le_of_ble_eq_true rfl), (Nat.le_of_ble_eq_true rfl)⟩) (kz_preVM (wc := mW E Ad (put S 7 7 0)) (va_recv hK hP (ci := 2) (q0 := 0) rfl rfl) hG hS hAN hP hD kz_nilP kz_nilA) rfl rfl hl.1 rfl (lv_room (Nat.le_of_ble_eq_true rfl)) dX3_booked_38 ⟨(Nat.le_of_ble_eq_true rfl), (Nat.le_of_ble_eq_true rfl)⟩) hP hD hS hA (fun u H9 locs9 hu hP9 hD9 hS9 hzz hkk => ?_)
      clear hzz hkk hP hD hS H locs u
      revert hS9 hD9 hP9 locs9 H9
      intro H locs hP hD hS
      have r3 : rI ((S 0 ((174 + 30 * river + a)))) := hu
      clear hu
      replace hP : va_P (kD E) kcl (mW E Ad (put S 7 7 0)) H := hP
      replace hD : va_D A (mW E Ad (put S 7 7 0)) := hD
      show W p l e _ s m args below meth c H locs _ _ Q (F0 m 41 ls [.int (zI ((S 0 ((174 + 30 * river + a)))))])
      have e0 : xBooked S river a = (put S 7 7 0, (S 0 ((174 + 30 * river + a)))) := by unfold xBooked; (repeat (first | refine Eq.trans (if_pos (by omega)) ?_ | refine Eq.trans (if_neg (by omega)) ?_)); rfl
      have e1 : (xBooked S river a).2 = (S 0 ((174 + 30 * river + a))) := by rw [e0]
      have e3 : (xBooked S river a).1 = put S 7 7 0 := by rw [e0]
      exact kz_iret () hx hb hr hlk hP hD hS dX3_booked_41 (congrArg (fun z : Int => some (Value.int (zI z))) e1) ⟨(kz_r e1 (by omega)), (kz_M e3 hM)⟩ (congrArg (mW E Ad) e3) hQ (Nat.le_of_ble_eq_true rfl) (Nat.le_of_ble_eq_true rfl)
    · skip
      rcases (show v2 = 1 ∨ v2 = 2 by omega) with rfl | rfl
      · skip
        refine kz_iconst hx hb dX3_booked_31 ?_
        refine lv_goto (tgt := 41) hx hb dX3_booked_32 (by decide) ?_
        have e0 : xBooked S river a = (put S 7 7 1, 0) := by unfold xBooked; (repeat (first | refine Eq.trans (if_pos (by omega)) ?_ | refine Eq.trans (if_neg (by omega)) ?_)); rfl
        have e1 : (xBooked S river a).2 = 0 := by rw [e0]
        have e3 : (xBooked S river a).1 = put S 7 7 1 := by rw [e0]
        exact kz_iret () hx hb hr hlk hP hD hS dX3_booked_41 (congrArg (fun z : Int => some (Value.int (zI z))) e1) ⟨(kz_r e1 (by omega)), (kz_M e3 hM)⟩ (congrArg (mW E Ad) e3) hQ (Nat.le_of_ble_eq_true rfl) (Nat.le_of_ble_eq_true rfl)
      · skip
        refine kz_iconst hx hb dX3_booked_31 ?_
        refine lv_goto (tgt := 41) hx hb dX3_booked_32 (by decide) ?_
        have e0 : xBooked S river a = (put S 7 7 2, 0) := by unfold xBooked; (repeat (first | refine Eq.trans (if_pos (by omega)) ?_ | refine Eq.trans (if_neg (by omega)) ?_)); rfl
        have e1 : (xBooked S river a).2 = 0 := by rw [e0]
        have e3 : (xBooked S river a).1 = put S 7 7 2 := by rw [e0]
        exact kz_iret () hx hb hr hlk hP hD hS dX3_booked_41 (congrArg (fun z : Int => some (Value.int (zI z))) e1) ⟨(kz_r e1 (by omega)), (kz_M e3 hM)⟩ (congrArg (mW E Ad) e3) hQ (Nat.le_of_ble_eq_true rfl) (Nat.le_of_ble_eq_true rfl)
  refine kz_if1B (tgt := 13) hx hb dX3_booked_6 (by decide) (fun c6 => ?_) (fun c6 => ?_)
  · skip
    refine lv_iload_n hx hb dX3_booked_13 rfl (lv_at hl 2 rfl) ?_
    refine kz_back (wc := []) (wx := (mW E Ad (S))) (va_runS (As := [.int (zI (a))]) (rest := [.ref (Ad 0)]) ⟨hx, hb, hml, hown, hts⟩ (mX3_isAhead l E H.size a (by omega)) (va_cwS 1 hts (lw_S q2477 q2478 q83 q2479) rfl rfl rfl (by decide +kernel) ⟨(Nat.le_of_ble_eq_true rfl), (Nat.le_of_ble_eq_true rfl)⟩) (kz_pre (wc := []) (wx := (mW E Ad (S))) hG hS hAN hP hD kz_nilP kz_nilA) rfl rfl hl.1 rfl (lv_room (Nat.le_of_ble_eq_true rfl)) dX3_booked_14 ⟨(Nat.le_of_ble_eq_true rfl), (Nat.le_of_ble_eq_true rfl)⟩) hP hD hS hA (fun u H9 locs9 hu hP9 hD9 hS9 hzz hkk => ?_)
    clear hzz hkk hP hD hS H locs u
    revert hS9 hD9 hP9 locs9 H9
    intro H locs hP hD hS
    clear hu
    replace hP : va_P (kD E) kcl (mW E Ad (S)) H := hP
    replace hD : va_D A (mW E Ad (S)) := hD
    show W p l e _ s m args below meth c H locs _ _ Q (F0 m 17 ls [.int (zI (b2 (0 ≤ a ∧ a ≤ 29))), .ref (Ad 0)])
    refine kz_if0B (tgt := 24) hx hb dX3_booked_17 (by decide) (fun c17 => ?_) (fun c17 => ?_)
    · skip
      refine kz_iconst hx hb dX3_booked_24 ?_
      exact J1 2 _ _ _ (Eq.symm (Eq.trans (if_pos c6) (if_neg c17))) (by omega) hP hD hS hl
    · skip
      refine kz_iconst hx hb dX3_booked_20 ?_
      refine lv_goto (tgt := 25) hx hb dX3_booked_21 (by decide) ?_
      exact J1 0 _ _ _ (Eq.symm (Eq.trans (if_pos c6) (if_pos c17))) (by omega) hP hD hS hl
  · skip
    refine kz_iconst hx hb dX3_booked_9 ?_
    refine lv_goto (tgt := 25) hx hb dX3_booked_10 (by decide) ?_
    exact J1 1 _ _ _ (Eq.symm (if_neg c6)) (by omega) hP hD hS hl

set_option maxHeartbeats 4000000 in
set_option maxRecDepth 100000 in
theorem mX3_grade (l : Launch) (E : KE) (sz : Nat) (Ad : Nat → Nat) (S : St) (hM : MOk S) (B : Int) (k : Int) (rk : rI k) (hI : GI B (S 0)) : Met l yX3_grade (ws_ yX3_grade cX3_grade 2 (some .char)) (rmk 2 0 0 44) (va_Pc [.ref (Ad 0), .int (zI k)] (kP l E sz (mW E Ad S) [])) (kQ E (fun _ : Unit => rI ((xGrade S k).2) ∧ MOk ((xGrade S k).1)) (fun _ => some (.int (zI ((xGrade S k).2)))) (fun _ => (mW E Ad ((xGrade S k).1))) (va_A (mW E Ad S) sz)) 0 0 (va_A (mW E Ad S) sz) := by
  refine kz_start (Qf := kQ E (fun _ : Unit => rI ((xGrade S k).2) ∧ MOk ((xGrade S k).1)) (fun _ => some (.int (zI ((xGrade S k).2)))) (fun _ => (mW E Ad ((xGrade S k).1)))) (by decide) (Nat.le_of_ble_eq_true rfl) ?_
  intro p e s m args below meth c A ls Q H locs hx hb hr hlk hml hts hown hname hG hK hA hAN hP hD hR hRA hS hQ hl
  replace hown : s.vm.findClass RX3 = some m.cls := hown
  replace hl : lv_has ls 2 [(0, .ref (Ad 0)), (1, .int (zI (k)))] := hl
  have g0 := hI.n
  have g1 := hI.m
  have g2 := hI.ct
  replace hP : va_P (kD E) kcl (mW E Ad (S)) H := hP
  replace hD : va_D A (mW E Ad (S)) := hD
  refine lv_aload_n hx hb dX3_grade_0 rfl (lv_at hl 0 rfl) ?_
  refine lv_aload_n hx hb dX3_grade_1 rfl (lv_at hl 0 rfl) ?_
  refine lv_iload_n hx hb dX3_grade_2 rfl (lv_at hl 1 rfl) ?_
  refine kz_backM (va_runV (As := [.int (zI (k))]) (rest := [.ref (Ad 0)]) ⟨hx, hb, hml, hown, hts⟩ (mX3_isStone l E H.size Ad S hM k (by omega) (show 0 ≤ (S 0 0) ∧ (S 0 0) ≤ 10 by first | omega | exact hI.st _ (by omega) (by omega) | exact hI.rv _ (by omega) (by omega) | exact hI)) (cwV 1 hts (lw_V q2433 q2435 qs42 q83 q2436) rfl rfl rfl (by decide +kernel) ⟨(Nat.le_of_ble_eq_true rfl), (Nat.le_of_ble_eq_true rfl)⟩) (kz_preVM (wc := mW E Ad S) (va_recv hK hP (ci := 2) (q0 := 0) rfl rfl) hG hS hAN hP hD kz_nilP kz_nilA) rfl rfl hl.1 rfl (lv_room (Nat.le_of_ble_eq_true rfl)) dX3_grade_3 ⟨(Nat.le_of_ble_eq_true rfl), (Nat.le_of_ble_eq_true rfl)⟩) hP hD hS hA (fun u H9 locs9 hu hP9 hD9 hS9 hzz hkk => ?_)
  clear hzz hkk hP hD hS H locs u
  revert hS9 hD9 hP9 locs9 H9
  intro H locs hP hD hS
  clear hu
  replace hP : va_P (kD E) kcl (mW E Ad (S)) H := hP
  replace hD : va_D A (mW E Ad (S)) := hD
  show W p l e _ s m args below meth c H locs _ _ Q (F0 m 6 ls [.int (zI (b2 (0 ≤ k ∧ k ≤ (S 0 0) - 1))), .ref (Ad 0)])
  have J1 : ∀ (v2 : Int) (H : Heap) (locs : List Loc) (ls : Array Slot), v2 = (if 0 ≤ k ∧ k ≤ (S 0 0) - 1 then 0 else 1) → rI v2 → va_P (kD E) kcl (mW E Ad (S)) H → va_D A (mW E Ad (S)) → va_S A s.heap H locs → lv_has ls 2 [(0, .ref (Ad 0)), (1, .int (zI (k)))] → W p l e (rmk 2 0 0 44) s m args below meth c H locs 0 0 Q (F0 m 14 ls [.int (zI (v2)), .ref (Ad 0)]) := by
    clear hl hS hD hP ls locs H
    intro v2 H locs ls hv2 rv2 hP hD hS hl
    have dv2 : (¬ (0 ≤ k ∧ k ≤ (S 0 0) - 1) ∧ v2 = 1) ∨ (0 ≤ k ∧ k ≤ (S 0 0) - 1 ∧ v2 = 0) := by rw [hv2]; (repeat' split) <;> first | omega | simp_all
    refine kz_backM (va_runV (As := [.int (zI (v2))]) (rest := []) ⟨hx, hb, hml, hown, hts⟩ (mX3_fails l E H.size Ad S hM v2 (by omega)) (cwV 1 hts (lw_V q2394 q2396 qs36 q83 q2397) rfl rfl rfl (by decide +kernel) ⟨(Nat.le_of_ble_eq_true rfl), (Nat.le_of_ble_eq_true rfl)⟩) (kz_preVM (wc := mW E Ad S) (va_recv hK hP (ci := 2) (q0 := 0) rfl rfl) hG hS hAN hP hD kz_nilP kz_nilA) rfl rfl hl.1 rfl (lv_room (Nat.le_of_ble_eq_true rfl)) dX3_grade_14 ⟨(Nat.le_of_ble_eq_true rfl), (Nat.le_of_ble_eq_true rfl)⟩) hP hD hS hA (fun u H9 locs9 hu hP9 hD9 hS9 hzz hkk => ?_)
    clear hzz hkk hP hD hS H locs u
    revert hS9 hD9 hP9 locs9 H9
    intro H locs hP hD hS
    replace hM : MOk (put S 7 7 v2) := hu
    clear hu
    replace hP : va_P (kD E) kcl (mW E Ad (put S 7 7 v2)) H := hP
    replace hD : va_D A (mW E Ad (put S 7 7 v2)) := hD
    show W p l e _ s m args below meth c H locs _ _ Q (F0 m 17 ls [.int (zI (b2 (0 < v2)))])
    refine kz_if0B (tgt := 25) hx hb dX3_grade_17 (by decide) (fun c17 => ?_) (fun c17 => ?_)
    · skip
      obtain rfl : v2 = 0 := by omega
      refine lv_aload_n hx hb dX3_grade_25 rfl (lv_at hl 0 rfl) ?_
      refine lv_iload_n hx hb dX3_grade_26 rfl (lv_at hl 1 rfl) ?_
      refine kz_backM (va_runV (As := [.int (zI (k))]) (rest := []) ⟨hx, hb, hml, hown, hts⟩ (mX3_gradeOf l E H.size Ad (put S 7 7 0) hM k (by omega) (show 0 ≤ k ∧ k < 10 by first | omega | exact hI.st _ (by omega) (by omega) | exact hI.rv _ (by omega) (by omega) | exact hI) (show SB (S 0) k by first | omega | exact hI.st _ (by omega) (by omega) | exact hI.rv _ (by omega) (by omega) | exact hI)) (cwV 1 hts (lw_V q2453 q2455 qs46 q83 q2456) rfl rfl rfl (by decide +kernel) ⟨(Nat.le_of_ble_eq_true rfl), (Nat.le_of_ble_eq_true rfl)⟩) (kz_preVM (wc := mW E Ad (put S 7 7 0)) (va_recv hK hP (ci := 2) (q0 := 0) rfl rfl) hG hS hAN hP hD kz_nilP kz_nilA) rfl rfl hl.1 rfl (lv_room (Nat.le_of_ble_eq_true rfl)) dX3_grade_27 ⟨(Nat.le_of_ble_eq_true rfl), (Nat.le_of_ble_eq_true rfl)⟩) hP hD hS hA (fun u H9 locs9 hu hP9 hD9 hS9 hzz hkk => ?_)
      clear hzz hkk hP hD hS H locs u
      revert hS9 hD9 hP9 locs9 H9
      intro H locs hP hD hS
      obtain ⟨r3, p4⟩ := hu
      replace r3 : rI (gradeG (S 0) k) := r3
      replace p4 : 97 ≤ gradeG (S 0) k ∧ gradeG (S 0) k ≤ 101 := p4
      replace hP : va_P (kD E) kcl (mW E Ad (put S 7 7 0)) H := hP
      replace hD : va_D A (mW E Ad (put S 7 7 0)) := hD
      show W p l e _ s m args below meth c H locs _ _ Q (F0 m 30 ls [.int (zI (gradeG (S 0) k))])
      have e0 : xGrade S k = (put S 7 7 0, gradeG (S 0) k) := by unfold xGrade; (repeat (first | refine Eq.trans (if_pos (by omega)) ?_ | refine Eq.trans (if_neg (by omega)) ?_)); rfl
      have e1 : (xGrade S k).2 = gradeG (S 0) k := by rw [e0]
      have e3 : (xGrade S k).1 = put S 7 7 0 := by rw [e0]
      exact kz_cret () hx hb hr hlk hP hD hS dX3_grade_30 (by omega) (congrArg (fun z : Int => some (Value.int (zI z))) e1) ⟨(kz_r e1 (by omega)), (kz_M e3 hM)⟩ (congrArg (mW E Ad) e3) hQ (Nat.le_of_ble_eq_true rfl) (Nat.le_of_ble_eq_true rfl)
    · skip
      obtain rfl : v2 = 1 := by omega
      refine kz_bipush hx hb dX3_grade_20 (by decide) ?_
      refine lv_goto (tgt := 30) hx hb dX3_grade_22 (by decide) ?_
      have e0 : xGrade S k = (put S 7 7 1, 32) := by unfold xGrade; (repeat (first | refine Eq.trans (if_pos (by omega)) ?_ | refine Eq.trans (if_neg (by omega)) ?_)); rfl
      have e1 : (xGrade S k).2 = 32 := by rw [e0]
      have e3 : (xGrade S k).1 = put S 7 7 1 := by rw [e0]
      exact kz_cret () hx hb hr hlk hP hD hS dX3_grade_30 (by omega) (congrArg (fun z : Int => some (Value.int (zI z))) e1) ⟨(kz_r e1 (by omega)), (kz_M e3 hM)⟩ (congrArg (mW E Ad) e3) hQ (Nat.le_of_ble_eq_true rfl) (Nat.le_of_ble_eq_true rfl)
  refine kz_if0B (tgt := 13) hx hb dX3_grade_6 (by decide) (fun c6 => ?_) (fun c6 => ?_)
  · skip
    refine kz_iconst hx hb dX3_grade_13 ?_
    exact J1 1 _ _ _ (Eq.symm (if_neg c6)) (by omega) hP hD hS hl
  · skip
    refine kz_iconst hx hb dX3_grade_9 ?_
    refine lv_goto (tgt := 14) hx hb dX3_grade_10 (by decide) ?_
    exact J1 0 _ _ _ (Eq.symm (if_pos c6)) (by omega) hP hD hS hl

set_option maxHeartbeats 4000000 in
set_option maxRecDepth 100000 in
theorem mX3_book (l : Launch) (E : KE) (sz : Nat) (Ad : Nat → Nat) (S : St) (hM : MOk S) (B : Int) (k : Int) (rk : rI k) (river : Int) (rriver : rI river) (a : Int) (ra : rI a) (hI : GI B (S 0)) (c0 : 0 ≤ S 7 5 ∧ S 7 5 ≤ 8) : Met l yX3_book (ws_ yX3_book cX3_book 4 (some .int)) (rmk 2 0 0 46) (va_Pc [.ref (Ad 0), .int (zI k), .int (zI river), .int (zI a)] (kP l E sz (mW E Ad S) [])) (kQ E (fun _ : Unit => rI ((xBook S k river a).2) ∧ MOk ((xBook S k river a).1)) (fun _ => some (.int (zI ((xBook S k river a).2)))) (fun _ => (mW E Ad ((xBook S k river a).1))) (va_A (mW E Ad S) sz)) 0 0 (va_A (mW E Ad S) sz) := by
  refine kz_start (Qf := kQ E (fun _ : Unit => rI ((xBook S k river a).2) ∧ MOk ((xBook S k river a).1)) (fun _ => some (.int (zI ((xBook S k river a).2)))) (fun _ => (mW E Ad ((xBook S k river a).1)))) (by decide) (Nat.le_of_ble_eq_true rfl) ?_
  intro p e s m args below meth c A ls Q H locs hx hb hr hlk hml hts hown hname hG hK hA hAN hP hD hR hRA hS hQ hl
  replace hown : s.vm.findClass RX3 = some m.cls := hown
  replace hl : lv_has ls 4 [(0, .ref (Ad 0)), (1, .int (zI (k))), (2, .int (zI (river))), (3, .int (zI (a)))] := hl
  have g0 := hI.n
  have g1 := hI.m
  have g2 := hI.ct
  replace hP : va_P (kD E) kcl (mW E Ad (S)) H := hP
  replace hD : va_D A (mW E Ad (S)) := hD
  refine lv_aload_n hx hb dX3_book_0 rfl (lv_at hl 0 rfl) ?_
  refine lv_aload_n hx hb dX3_book_1 rfl (lv_at hl 0 rfl) ?_
  refine lv_iload_n hx hb dX3_book_2 rfl (lv_at hl 1 rfl) ?_
  refine kz_backM (va_runV (As := [.int (zI (k))]) (rest := [.ref (Ad 0)]) ⟨hx, hb, hml, hown, hts⟩ (mX3_isStone l E H.size Ad S hM k (by omega) (show 0 ≤ (S 0 0) ∧ (S 0 0) ≤ 10 by first | omega | exact hI.st _ (by omega) (by omega) | exact hI.rv _ (by omega) (by omega) | exact hI)) (cwV 1 hts (lw_V q2433 q2435 qs42 q83 q2436) rfl rfl rfl (by decide +kernel) ⟨(Nat.le_of_ble_eq_true rfl), (Nat.le_of_ble_eq_true rfl)⟩) (kz_preVM (wc := mW E Ad S) (va_recv hK hP (ci := 2) (q0 := 0) rfl rfl) hG hS hAN hP hD kz_nilP kz_nilA) rfl rfl hl.1 rfl (lv_room (Nat.le_of_ble_eq_true rfl)) dX3_book_3 ⟨(Nat.le_of_ble_eq_true rfl), (Nat.le_of_ble_eq_true rfl)⟩) hP hD hS hA (fun u H9 locs9 hu hP9 hD9 hS9 hzz hkk => ?_)
  clear hzz hkk hP hD hS H locs u
  revert hS9 hD9 hP9 locs9 H9
  intro H locs hP hD hS
  clear hu
  replace hP : va_P (kD E) kcl (mW E Ad (S)) H := hP
  replace hD : va_D A (mW E Ad (S)) := hD
  show W p l e _ s m args below meth c H locs _ _ Q (F0 m 6 ls [.int (zI (b2 (0 ≤ k ∧ k ≤ (S 0 0) - 1))), .ref (Ad 0)])
  have J1 : ∀ (v2 : Int) (H : Heap) (locs : List Loc) (ls : Array Slot), v2 = (if 0 ≤ k ∧ k ≤ (S 0 0) - 1 then (if 0 ≤ river ∧ river ≤ (S 0 1) - 1 then (if 0 ≤ a ∧ a ≤ 29 then 0 else 2) else 1) else 1) → rI v2 → va_P (kD E) kcl (mW E Ad (S)) H → va_D A (mW E Ad (S)) → va_S A s.heap H locs → lv_has ls 4 [(0, .ref (Ad 0)), (1, .int (zI (k))), (2, .int (zI (river))), (3, .int (zI (a)))] → W p l e (rmk 2 0 0 46) s m args below meth c H locs 0 0 Q (F0 m 33 ls [.int (zI (v2)), .ref (Ad 0)]) := by
    clear hl hS hD hP ls locs H
    intro v2 H locs ls hv2 rv2 hP hD hS hl
    have dv2 : (¬ (0 ≤ k ∧ k ≤ (S 0 0) - 1) ∧ v2 = 1) ∨ (0 ≤ k ∧ k ≤ (S 0 0) - 1 ∧ 0 ≤ river ∧ river ≤ (S 0 1) - 1 ∧ ¬ (0 ≤ a ∧ a ≤ 29) ∧ v2 = 2) ∨ (0 ≤ k ∧ k ≤ (S 0 0) - 1 ∧ 0 ≤ river ∧ river ≤ (S 0 1) - 1 ∧ 0 ≤ a ∧ a ≤ 29 ∧ v2 = 0) ∨ (0 ≤ k ∧ k ≤ (S 0 0) - 1 ∧ ¬ (0 ≤ river ∧ river ≤ (S 0 1) - 1) ∧ v2 = 1) := by rw [hv2]; (repeat' split) <;> first | omega | simp_all
    refine kz_backM (va_runV (As := [.int (zI (v2))]) (rest := []) ⟨hx, hb, hml, hown, hts⟩ (mX3_fails l E H.size Ad S hM v2 (by omega)) (cwV 1 hts (lw_V q2394 q2396 qs36 q83 q2397) rfl rfl rfl (by decide +kernel) ⟨(Nat.le_of_ble_eq_true rfl), (Nat.le_of_ble_eq_true rfl)⟩) (kz_preVM (wc := mW E Ad S) (va_recv hK hP (ci := 2) (q0 := 0) rfl rfl) hG hS hAN hP hD kz_nilP kz_nilA) rfl rfl hl.1 rfl (lv_room (Nat.le_of_ble_eq_true rfl)) dX3_book_33 ⟨(Nat.le_of_ble_eq_true rfl), (Nat.le_of_ble_eq_true rfl)⟩) hP hD hS hA (fun u H9 locs9 hu hP9 hD9 hS9 hzz hkk => ?_)
    clear hzz hkk hP hD hS H locs u
    revert hS9 hD9 hP9 locs9 H9
    intro H locs hP hD hS
    replace hM : MOk (put S 7 7 v2) := hu
    clear hu
    replace hP : va_P (kD E) kcl (mW E Ad (put S 7 7 v2)) H := hP
    replace hD : va_D A (mW E Ad (put S 7 7 v2)) := hD
    show W p l e _ s m args below meth c H locs _ _ Q (F0 m 36 ls [.int (zI (b2 (0 < v2)))])
    refine kz_if0B (tgt := 41) hx hb dX3_book_36 (by decide) (fun c36 => ?_) (fun c36 => ?_)
    · skip
      obtain rfl : v2 = 0 := by omega
      refine lv_aload_n hx hb dX3_book_41 rfl (lv_at hl 0 rfl) ?_
      refine lv_iload_n hx hb dX3_book_42 rfl (lv_at hl 1 rfl) ?_
      refine kz_backM (va_runV (As := [.int (zI (k))]) (rest := []) ⟨hx, hb, hml, hown, hts⟩ (mX3_isSunk l E H.size Ad (put S 7 7 0) hM k (by omega) (show 0 ≤ k ∧ k < 10 by first | omega | exact hI.st _ (by omega) (by omega) | exact hI.rv _ (by omega) (by omega) | exact hI)) (cwV 1 hts (lw_V q2480 q2482 qs50 q83 q2483) rfl rfl rfl (by decide +kernel) ⟨(Nat.le_of_ble_eq_true rfl), (Nat.le_of_ble_eq_true rfl)⟩) (kz_preVM (wc := mW E Ad (put S 7 7 0)) (va_recv hK hP (ci := 2) (q0 := 0) rfl rfl) hG hS hAN hP hD kz_nilP kz_nilA) rfl rfl hl.1 rfl (lv_room (Nat.le_of_ble_eq_true rfl)) dX3_book_43 ⟨(Nat.le_of_ble_eq_true rfl), (Nat.le_of_ble_eq_true rfl)⟩) hP hD hS hA (fun u H9 locs9 hu hP9 hD9 hS9 hzz hkk => ?_)
      clear hzz hkk hP hD hS H locs u
      revert hS9 hD9 hP9 locs9 H9
      intro H locs hP hD hS
      clear hu
      replace hP : va_P (kD E) kcl (mW E Ad (put S 7 7 0)) H := hP
      replace hD : va_D A (mW E Ad (put S 7 7 0)) := hD
      show W p l e _ s m args below meth c H locs _ _ Q (F0 m 46 ls [.int (zI (b2 ((S 0 ((10 + 14 * k + 5))) = -2)))])
      refine kz_if0B (tgt := 63) hx hb dX3_book_46 (by decide) (fun c46 => ?_) (fun c46 => ?_)
      · skip
        refine lv_aload_n hx hb dX3_book_63 rfl (lv_at hl 0 rfl) ?_
        refine lv_iload_n hx hb dX3_book_64 rfl (lv_at hl 2 rfl) ?_
        refine lv_iload_n hx hb dX3_book_65 rfl (lv_at hl 3 rfl) ?_
        refine kz_backM (va_runV (As := [.int (zI (river)), .int (zI (a))]) (rest := []) ⟨hx, hb, hml, hown, hts⟩ (mX3_bookedFor l E H.size Ad (put S 7 7 0) hM river (by omega) a (by omega) (show 0 ≤ river ∧ river < 4 by first | omega | exact hI.st _ (by omega) (by omega) | exact hI.rv _ (by omega) (by omega) | exact hI) (show 0 ≤ a ∧ a < 30 by first | omega | exact hI.st _ (by omega) (by omega) | exact hI.rv _ (by omega) (by omega) | exact hI)) (cwV 2 hts (lw_V q2465 q2467 qs48 q83 q2468) rfl rfl rfl (by decide +kernel) ⟨(Nat.le_of_ble_eq_true rfl), (Nat.le_of_ble_eq_true rfl)⟩) (kz_preVM (wc := mW E Ad (put S 7 7 0)) (va_recv hK hP (ci := 2) (q0 := 0) rfl rfl) hG hS hAN hP hD kz_nilP kz_nilA) rfl rfl hl.1 rfl (lv_room (Nat.le_of_ble_eq_true rfl)) dX3_book_66 ⟨(Nat.le_of_ble_eq_true rfl), (Nat.le_of_ble_eq_true rfl)⟩) hP hD hS hA (fun u H9 locs9 hu hP9 hD9 hS9 hzz hkk => ?_)
        clear hzz hkk hP hD hS H locs u
        revert hS9 hD9 hP9 locs9 H9
        intro H locs hP hD hS
        have r3 : rI ((S 0 ((174 + 30 * river + a)))) := hu
        clear hu
        replace hP : va_P (kD E) kcl (mW E Ad (put S 7 7 0)) H := hP
        replace hD : va_D A (mW E Ad (put S 7 7 0)) := hD
        show W p l e _ s m args below meth c H locs _ _ Q (F0 m 69 ls [.int (zI ((S 0 ((174 + 30 * river + a)))))])
        refine kz_if_lt (tgt := 85) hx hb dX3_book_69 (by decide) (by omega) (fun c69 => ?_) (fun c69 => ?_)
        · skip
          refine lv_aload_n hx hb dX3_book_85 rfl (lv_at hl 0 rfl) ?_
          refine lv_aload_n hx hb dX3_book_86 rfl (lv_at hl 0 rfl) ?_
          refine va_get (D := kD E) (ci := 2) (fs := mO Ad (put S 7 7 0)) (v := .ref (Ad 1)) (C := RX3) (T := TX3) (N := 19) hx hb hts in_X3 hown hK hP 0 rfl rfl 0 (by decide) (hts _ q2320) (fun _ h9 => h9) rfl dX3_book_87 ?_
          refine kz_backM (va_runV (As := [.ref (Ad 1)]) (rest := []) ⟨hx, hb, hml, hown, hts⟩ (mX3_keeps l E H.size Ad (put S 7 7 0) hM (show 0 ≤ (S 7 5) ∧ (S 7 5) ≤ 8 by first | omega | exact hI.st _ (by omega) (by omega) | exact hI.rv _ (by omega) (by omega) | exact hI)) (cwV 1 hts (lw_V q2402 q2404 qs38 q83 q2405) rfl rfl rfl (by decide +kernel) ⟨(Nat.le_of_ble_eq_true rfl), (Nat.le_of_ble_eq_true rfl)⟩) (kz_preVM (wc := mW E Ad (put S 7 7 0)) (va_recv hK hP (ci := 2) (q0 := 0) rfl rfl) hG hS hAN hP hD kz_nilP kz_nilA) rfl rfl hl.1 rfl (lv_room (Nat.le_of_ble_eq_true rfl)) dX3_book_90 ⟨(Nat.le_of_ble_eq_true rfl), (Nat.le_of_ble_eq_true rfl)⟩) hP hD hS hA (fun u H9 locs9 hu hP9 hD9 hS9 hzz hkk => ?_)
          clear hzz hkk hP hD hS H locs u
          revert hS9 hD9 hP9 locs9 H9
          intro H locs hP hD hS
          replace hM : MOk (mKeeps (put S 7 7 0) 0) := hu
          clear hu
          replace hP : va_P (kD E) kcl (mW E Ad (mKeeps (put S 7 7 0) 0)) H := hP
          replace hD : va_D A (mW E Ad (mKeeps (put S 7 7 0) 0)) := hD
          show W p l e _ s m args below meth c H locs _ _ Q (F0 m 93 ls [])
          refine lv_aload_n hx hb dX3_book_93 rfl (lv_at hl 0 rfl) ?_
          refine va_get (D := kD E) (ci := 2) (fs := mO Ad (mKeeps (put S 7 7 0) 0)) (v := .ref (Ad 1)) (C := RX3) (T := TX3) (N := 19) hx hb hts in_X3 hown hK hP 0 rfl rfl 0 (by decide) (hts _ q2320) (fun _ h9 => h9) rfl dX3_book_94 ?_
          refine kz_sipush hx hb dX3_book_97 (by decide) ?_
          refine kz_bipush hx hb dX3_book_100 (by decide) ?_
          refine lv_iload_n hx hb dX3_book_102 rfl (lv_at hl 2 rfl) ?_
          refine kz_imul hx hb dX3_book_103 ?_
          refine kz_iadd hx hb dX3_book_104 ?_
          refine lv_iload_n hx hb dX3_book_105 rfl (lv_at hl 3 rfl) ?_
          refine kz_iadd hx hb dX3_book_106 ?_
          refine lv_iload_n hx hb dX3_book_107 rfl (lv_at hl 1 rfl) ?_
          refine kz_iast (cA := kA E 0) (n := 304) (g := (mKeeps (put S 7 7 0) 0) 0) hx hb hK hP hD hS 1 0 rfl rfl (by omega) dX3_book_108 (fun H9 locs9 hP9 hD9 hS9 => ?_)
          rw [mW_a0] at hP9 hD9
          clear hP hD hS H locs
          revert hS9 hD9 hP9 locs9 H9
          intro H locs hP hD hS
          replace hP : va_P (kD E) kcl (mW E Ad (put (mKeeps (put S 7 7 0) 0) 0 ((174 + (30 * river)) + a) k)) H := hP
          replace hD : va_D A (mW E Ad (put (mKeeps (put S 7 7 0) 0) 0 ((174 + (30 * river)) + a) k)) := hD
          replace hM : MOk (put (mKeeps (put S 7 7 0) 0) 0 ((174 + (30 * river)) + a) k) := hM.put 0 _ (by omega)
          refine lv_aload_n hx hb dX3_book_109 rfl (lv_at hl 0 rfl) ?_
          refine lv_iload_n hx hb dX3_book_110 rfl (lv_at hl 2 rfl) ?_
          refine kz_backM (va_runV (As := [.int (zI (river))]) (rest := []) ⟨hx, hb, hml, hown, hts⟩ (mX3_daysOf l E H.size Ad (put (mKeeps (put S 7 7 0) 0) 0 ((174 + (30 * river)) + a) k) hM river (by omega) (show 0 ≤ river ∧ river < 4 by first | omega | exact hI.st _ (by omega) (by omega) | exact hI.rv _ (by omega) (by omega) | exact hI)) (cwV 1 hts (lw_V q2461 q2463 qs47 q83 q2464) rfl rfl rfl (by decide +kernel) ⟨(Nat.le_of_ble_eq_true rfl), (Nat.le_of_ble_eq_true rfl)⟩) (kz_preVM (wc := mW E Ad (put (mKeeps (put S 7 7 0) 0) 0 ((174 + (30 * river)) + a) k)) (va_recv hK hP (ci := 2) (q0 := 0) rfl rfl) hG hS hAN hP hD kz_nilP kz_nilA) rfl rfl hl.1 rfl (lv_room (Nat.le_of_ble_eq_true rfl)) dX3_book_111 ⟨(Nat.le_of_ble_eq_true rfl), (Nat.le_of_ble_eq_true rfl)⟩) hP hD hS hA (fun u H9 locs9 hu hP9 hD9 hS9 hzz hkk => ?_)
          clear hzz hkk hP hD hS H locs u
          revert hS9 hD9 hP9 locs9 H9
          intro H locs hP hD hS
          obtain ⟨r4, p5⟩ := hu
          replace r4 : rI (daysOf ((put (mKeeps (put S 7 7 0) 0) 0 ((174 + (30 * river)) + a) k) 0) river) := r4
          replace p5 : 0 ≤ daysOf ((put (mKeeps (put S 7 7 0) 0) 0 ((174 + (30 * river)) + a) k) 0) river ∧ daysOf ((put (mKeeps (put S 7 7 0) 0) 0 ((174 + (30 * river)) + a) k) 0) river ≤ 30 := p5
          replace hP : va_P (kD E) kcl (mW E Ad (put (mKeeps (put S 7 7 0) 0) 0 ((174 + (30 * river)) + a) k)) H := hP
          replace hD : va_D A (mW E Ad (put (mKeeps (put S 7 7 0) 0) 0 ((174 + (30 * river)) + a) k)) := hD
          show W p l e _ s m args below meth c H locs _ _ Q (F0 m 114 ls [.int (zI (daysOf ((put (mKeeps (put S 7 7 0) 0) 0 ((174 + (30 * river)) + a) k) 0) river))])
          have e0 : xBook S k river a = (put (mKeeps (put S 7 7 0) 0) 0 ((174 + (30 * river)) + a) k, daysOf ((put (mKeeps (put S 7 7 0) 0) 0 ((174 + (30 * river)) + a) k) 0) river) := by unfold xBook; (repeat (first | refine Eq.trans (if_pos (by omega)) ?_ | refine Eq.trans (if_neg (by omega)) ?_)); (try simp only [putR_put _ 0, putR_putR, putR_at]); all_goals rfl
          have e1 : (xBook S k river a).2 = daysOf ((put (mKeeps (put S 7 7 0) 0) 0 ((174 + (30 * river)) + a) k) 0) river := by rw [e0]
          have e3 : (xBook S k river a).1 = put (mKeeps (put S 7 7 0) 0) 0 ((174 + (30 * river)) + a) k := by rw [e0]
          exact kz_iret () hx hb hr hlk hP hD hS dX3_book_114 (congrArg (fun z : Int => some (Value.int (zI z))) e1) ⟨(kz_r e1 (by omega)), (kz_M e3 hM)⟩ (congrArg (mW E Ad) e3) hQ (Nat.le_of_ble_eq_true rfl) (Nat.le_of_ble_eq_true rfl)
        · skip
          refine lv_aload_n hx hb dX3_book_72 rfl (lv_at hl 0 rfl) ?_
          refine kz_iconst hx hb dX3_book_73 ?_
          refine kz_iconst hx hb dX3_book_74 ?_
          refine lv_aload_n hx hb dX3_book_75 rfl (lv_at hl 0 rfl) ?_
          refine lv_iload_n hx hb dX3_book_76 rfl (lv_at hl 2 rfl) ?_
          refine lv_iload_n hx hb dX3_book_77 rfl (lv_at hl 3 rfl) ?_
          refine kz_backM (va_runV (As := [.int (zI (river)), .int (zI (a))]) (rest := [.int (zI (2)), .int (zI (3)), .ref (Ad 0)]) ⟨hx, hb, hml, hown, hts⟩ (mX3_bookedFor l E H.size Ad (put S 7 7 0) hM river (by omega) a (by omega) (show 0 ≤ river ∧ river < 4 by first | omega | exact hI.st _ (by omega) (by omega) | exact hI.rv _ (by omega) (by omega) | exact hI) (show 0 ≤ a ∧ a < 30 by first | omega | exact hI.st _ (by omega) (by omega) | exact hI.rv _ (by omega) (by omega) | exact hI)) (cwV 2 hts (lw_V q2465 q2467 qs48 q83 q2468) rfl rfl rfl (by decide +kernel) ⟨(Nat.le_of_ble_eq_true rfl), (Nat.le_of_ble_eq_true rfl)⟩) (kz_preVM (wc := mW E Ad (put S 7 7 0)) (va_recv hK hP (ci := 2) (q0 := 0) rfl rfl) hG hS hAN hP hD kz_nilP kz_nilA) rfl rfl hl.1 rfl (lv_room (Nat.le_of_ble_eq_true rfl)) dX3_book_78 ⟨(Nat.le_of_ble_eq_true rfl), (Nat.le_of_ble_eq_true rfl)⟩) hP hD hS hA (fun u H9 locs9 hu hP9 hD9 hS9 hzz hkk => ?_)
          clear hzz hkk hP hD hS H locs u
          revert hS9 hD9 hP9 locs9 H9
          intro H locs hP hD hS
          have r6 : rI ((S 0 ((174 + 30 * river + a)))) := hu
          clear hu
          replace hP : va_P (kD E) kcl (mW E Ad (put S 7 7 0)) H := hP
          replace hD : va_D A (mW E Ad (put S 7 7 0)) := hD
          show W p l e _ s m args below meth c H locs _ _ Q (F0 m 81 ls [.int (zI ((S 0 ((174 + 30 * river + a))))), .int (zI (2)), .int (zI (3)), .ref (Ad 0)])
          refine kz_backM (va_runV (As := [.int (zI (3)), .int (zI (2)), .int (zI ((S 0 ((174 + 30 * river + a)))))]) (rest := []) ⟨hx, hb, hml, hown, hts⟩ (mX3_refuses l E H.size Ad (put S 7 7 0) hM 3 (by omega) 2 (by omega) ((S 0 ((174 + 30 * river + a)))) (by omega)) (cwV 3 hts (lw_V q2398 q2400 qs37 q83 q2401) rfl rfl rfl (by decide +kernel) ⟨(Nat.le_of_ble_eq_true rfl), (Nat.le_of_ble_eq_true rfl)⟩) (kz_preVM (wc := mW E Ad (put S 7 7 0)) (va_recv hK hP (ci := 2) (q0 := 0) rfl rfl) hG hS hAN hP hD kz_nilP kz_nilA) rfl rfl hl.1 rfl (lv_room (Nat.le_of_ble_eq_true rfl)) dX3_book_81 ⟨(Nat.le_of_ble_eq_true rfl), (Nat.le_of_ble_eq_true rfl)⟩) hP hD hS hA (fun u H9 locs9 hu hP9 hD9 hS9 hzz hkk => ?_)
          clear hzz hkk hP hD hS H locs u
          revert hS9 hD9 hP9 locs9 H9
          intro H locs hP hD hS
          clear hM
          obtain ⟨r7, hM⟩ := hu
          replace r7 : rI (0) := r7
          replace hM : MOk (put (put (put (put S 7 7 0) 7 7 3) 7 8 2) 7 9 (((S 0 ((174 + 30 * river + a)))))) := hM
          replace hP : va_P (kD E) kcl (mW E Ad (put (put (put (put S 7 7 0) 7 7 3) 7 8 2) 7 9 (((S 0 ((174 + 30 * river + a))))))) H := hP
          replace hD : va_D A (mW E Ad (put (put (put (put S 7 7 0) 7 7 3) 7 8 2) 7 9 (((S 0 ((174 + 30 * river + a))))))) := hD
          show W p l e _ s m args below meth c H locs _ _ Q (F0 m 84 ls [.int (zI (0))])
          have e0 : xBook S k river a = (put (put (put (put S 7 7 0) 7 7 3) 7 8 2) 7 9 (((S 0 ((174 + 30 * river + a))))), 0) := by unfold xBook; (repeat (first | refine Eq.trans (if_pos (by omega)) ?_ | refine Eq.trans (if_neg (by omega)) ?_)); (try simp only [putR_put _ 0, putR_putR, putR_at]); all_goals rfl
          have e1 : (xBook S k river a).2 = 0 := by rw [e0]
          have e3 : (xBook S k river a).1 = put (put (put (put S 7 7 0) 7 7 3) 7 8 2) 7 9 (((S 0 ((174 + 30 * river + a))))) := by rw [e0]
          exact kz_iret () hx hb hr hlk hP hD hS dX3_book_84 (congrArg (fun z : Int => some (Value.int (zI z))) e1) ⟨(kz_r e1 (by omega)), (kz_M e3 hM)⟩ (congrArg (mW E Ad) e3) hQ (Nat.le_of_ble_eq_true rfl) (Nat.le_of_ble_eq_true rfl)
      · skip
        refine lv_aload_n hx hb dX3_book_49 rfl (lv_at hl 0 rfl) ?_
        refine kz_iconst hx hb dX3_book_50 ?_
        refine kz_iconst hx hb dX3_book_51 ?_
        refine lv_aload_n hx hb dX3_book_52 rfl (lv_at hl 0 rfl) ?_
        refine lv_iload_n hx hb dX3_book_53 rfl (lv_at hl 1 rfl) ?_
        refine kz_bipush hx hb dX3_book_54 (by decide) ?_
        refine kz_backM (va_runV (As := [.int (zI (k)), .int (zI (10))]) (rest := [.int (zI (4)), .int (zI (3)), .ref (Ad 0)]) ⟨hx, hb, hml, hown, hts⟩ (mX3_of l E H.size Ad (put S 7 7 0) hM k (by omega) 10 (by omega) (show 0 ≤ k ∧ k < 10 by first | omega | exact hI.st _ (by omega) (by omega) | exact hI.rv _ (by omega) (by omega) | exact hI) (show 0 ≤ 10 ∧ 10 < 14 by first | omega | exact hI.st _ (by omega) (by omega) | exact hI.rv _ (by omega) (by omega) | exact hI)) (cwV 2 hts (lw_V q2441 q2443 qs44 q83 q2444) rfl rfl rfl (by decide +kernel) ⟨(Nat.le_of_ble_eq_true rfl), (Nat.le_of_ble_eq_true rfl)⟩) (kz_preVM (wc := mW E Ad (put S 7 7 0)) (va_recv hK hP (ci := 2) (q0 := 0) rfl rfl) hG hS hAN hP hD kz_nilP kz_nilA) rfl rfl hl.1 rfl (lv_room (Nat.le_of_ble_eq_true rfl)) dX3_book_56 ⟨(Nat.le_of_ble_eq_true rfl), (Nat.le_of_ble_eq_true rfl)⟩) hP hD hS hA (fun u H9 locs9 hu hP9 hD9 hS9 hzz hkk => ?_)
        clear hzz hkk hP hD hS H locs u
        revert hS9 hD9 hP9 locs9 H9
        intro H locs hP hD hS
        have r8 : rI ((S 0 ((10 + 14 * k + 10)))) := hu
        clear hu
        replace hP : va_P (kD E) kcl (mW E Ad (put S 7 7 0)) H := hP
        replace hD : va_D A (mW E Ad (put S 7 7 0)) := hD
        show W p l e _ s m args below meth c H locs _ _ Q (F0 m 59 ls [.int (zI ((S 0 ((10 + 14 * k + 10))))), .int (zI (4)), .int (zI (3)), .ref (Ad 0)])
        refine kz_backM (va_runV (As := [.int (zI (3)), .int (zI (4)), .int (zI ((S 0 ((10 + 14 * k + 10)))))]) (rest := []) ⟨hx, hb, hml, hown, hts⟩ (mX3_refuses l E H.size Ad (put S 7 7 0) hM 3 (by omega) 4 (by omega) ((S 0 ((10 + 14 * k + 10)))) (by omega)) (cwV 3 hts (lw_V q2398 q2400 qs37 q83 q2401) rfl rfl rfl (by decide +kernel) ⟨(Nat.le_of_ble_eq_true rfl), (Nat.le_of_ble_eq_true rfl)⟩) (kz_preVM (wc := mW E Ad (put S 7 7 0)) (va_recv hK hP (ci := 2) (q0 := 0) rfl rfl) hG hS hAN hP hD kz_nilP kz_nilA) rfl rfl hl.1 rfl (lv_room (Nat.le_of_ble_eq_true rfl)) dX3_book_59 ⟨(Nat.le_of_ble_eq_true rfl), (Nat.le_of_ble_eq_true rfl)⟩) hP hD hS hA (fun u H9 locs9 hu hP9 hD9 hS9 hzz hkk => ?_)
        clear hzz hkk hP hD hS H locs u
        revert hS9 hD9 hP9 locs9 H9
        intro H locs hP hD hS
        clear hM
        obtain ⟨r9, hM⟩ := hu
        replace r9 : rI (0) := r9
        replace hM : MOk (put (put (put (put S 7 7 0) 7 7 3) 7 8 4) 7 9 (((S 0 ((10 + 14 * k + 10)))))) := hM
        replace hP : va_P (kD E) kcl (mW E Ad (put (put (put (put S 7 7 0) 7 7 3) 7 8 4) 7 9 (((S 0 ((10 + 14 * k + 10))))))) H := hP
        replace hD : va_D A (mW E Ad (put (put (put (put S 7 7 0) 7 7 3) 7 8 4) 7 9 (((S 0 ((10 + 14 * k + 10))))))) := hD
        show W p l e _ s m args below meth c H locs _ _ Q (F0 m 62 ls [.int (zI (0))])
        have e0 : xBook S k river a = (put (put (put (put S 7 7 0) 7 7 3) 7 8 4) 7 9 (((S 0 ((10 + 14 * k + 10))))), 0) := by unfold xBook; (repeat (first | refine Eq.trans (if_pos (by omega)) ?_ | refine Eq.trans (if_neg (by omega)) ?_)); (try simp only [putR_put _ 0, putR_putR, putR_at]); all_goals rfl
        have e1 : (xBook S k river a).2 = 0 := by rw [e0]
        have e3 : (xBook S k river a).1 = put (put (put (put S 7 7 0) 7 7 3) 7 8 4) 7 9 (((S 0 ((10 + 14 * k + 10))))) := by rw [e0]
        exact kz_iret () hx hb hr hlk hP hD hS dX3_book_62 (congrArg (fun z : Int => some (Value.int (zI z))) e1) ⟨(kz_r e1 (by omega)), (kz_M e3 hM)⟩ (congrArg (mW E Ad) e3) hQ (Nat.le_of_ble_eq_true rfl) (Nat.le_of_ble_eq_true rfl)
    · skip
      rcases (show v2 = 1 ∨ v2 = 2 by omega) with rfl | rfl
      · skip
        refine kz_iconst hx hb dX3_book_39 ?_
        have e0 : xBook S k river a = (put S 7 7 1, 0) := by unfold xBook; (repeat (first | refine Eq.trans (if_pos (by omega)) ?_ | refine Eq.trans (if_neg (by omega)) ?_)); (try simp only [putR_put _ 0, putR_putR, putR_at]); all_goals rfl
        have e1 : (xBook S k river a).2 = 0 := by rw [e0]
        have e3 : (xBook S k river a).1 = put S 7 7 1 := by rw [e0]
        exact kz_iret () hx hb hr hlk hP hD hS dX3_book_40 (congrArg (fun z : Int => some (Value.int (zI z))) e1) ⟨(kz_r e1 (by omega)), (kz_M e3 hM)⟩ (congrArg (mW E Ad) e3) hQ (Nat.le_of_ble_eq_true rfl) (Nat.le_of_ble_eq_true rfl)
      · skip
        refine kz_iconst hx hb dX3_book_39 ?_
        have e0 : xBook S k river a = (put S 7 7 2, 0) := by unfold xBook; (repeat (first | refine Eq.trans (if_pos (by omega)) ?_ | refine Eq.trans (if_neg (by omega)) ?_)); (try simp only [putR_put _ 0, putR_putR, putR_at]); all_goals rfl
        have e1 : (xBook S k river a).2 = 0 := by rw [e0]
        have e3 : (xBook S k river a).1 = put S 7 7 2 := by rw [e0]
        exact kz_iret () hx hb hr hlk hP hD hS dX3_book_40 (congrArg (fun z : Int => some (Value.int (zI z))) e1) ⟨(kz_r e1 (by omega)), (kz_M e3 hM)⟩ (congrArg (mW E Ad) e3) hQ (Nat.le_of_ble_eq_true rfl) (Nat.le_of_ble_eq_true rfl)
  refine kz_if0B (tgt := 17) hx hb dX3_book_6 (by decide) (fun c6 => ?_) (fun c6 => ?_)
  · skip
    refine kz_iconst hx hb dX3_book_17 ?_
    refine lv_goto (tgt := 33) hx hb dX3_book_18 (by decide) ?_
    exact J1 1 _ _ _ (Eq.symm (if_neg c6)) (by omega) hP hD hS hl
  · skip
    refine lv_aload_n hx hb dX3_book_9 rfl (lv_at hl 0 rfl) ?_
    refine lv_iload_n hx hb dX3_book_10 rfl (lv_at hl 2 rfl) ?_
    refine kz_backM (va_runV (As := [.int (zI (river))]) (rest := [.ref (Ad 0)]) ⟨hx, hb, hml, hown, hts⟩ (mX3_isRiver l E H.size Ad S hM river (by omega) (show 0 ≤ (S 0 1) ∧ (S 0 1) ≤ 4 by first | omega | exact hI.st _ (by omega) (by omega) | exact hI.rv _ (by omega) (by omega) | exact hI)) (cwV 1 hts (lw_V q2421 q2423 qs40 q83 q2424) rfl rfl rfl (by decide +kernel) ⟨(Nat.le_of_ble_eq_true rfl), (Nat.le_of_ble_eq_true rfl)⟩) (kz_preVM (wc := mW E Ad S) (va_recv hK hP (ci := 2) (q0 := 0) rfl rfl) hG hS hAN hP hD kz_nilP kz_nilA) rfl rfl hl.1 rfl (lv_room (Nat.le_of_ble_eq_true rfl)) dX3_book_11 ⟨(Nat.le_of_ble_eq_true rfl), (Nat.le_of_ble_eq_true rfl)⟩) hP hD hS hA (fun u H9 locs9 hu hP9 hD9 hS9 hzz hkk => ?_)
    clear hzz hkk hP hD hS H locs u
    revert hS9 hD9 hP9 locs9 H9
    intro H locs hP hD hS
    clear hu
    replace hP : va_P (kD E) kcl (mW E Ad (S)) H := hP
    replace hD : va_D A (mW E Ad (S)) := hD
    show W p l e _ s m args below meth c H locs _ _ Q (F0 m 14 ls [.int (zI (b2 (0 ≤ river ∧ river ≤ (S 0 1) - 1))), .ref (Ad 0)])
    refine kz_if1B (tgt := 21) hx hb dX3_book_14 (by decide) (fun c14 => ?_) (fun c14 => ?_)
    · skip
      refine lv_iload_n hx hb dX3_book_21 rfl (lv_at hl 3 rfl) ?_
      refine kz_back (wc := []) (wx := (mW E Ad (S))) (va_runS (As := [.int (zI (a))]) (rest := [.ref (Ad 0)]) ⟨hx, hb, hml, hown, hts⟩ (mX3_isAhead l E H.size a (by omega)) (va_cwS 1 hts (lw_S q2477 q2478 q83 q2479) rfl rfl rfl (by decide +kernel) ⟨(Nat.le_of_ble_eq_true rfl), (Nat.le_of_ble_eq_true rfl)⟩) (kz_pre (wc := []) (wx := (mW E Ad (S))) hG hS hAN hP hD kz_nilP kz_nilA) rfl rfl hl.1 rfl (lv_room (Nat.le_of_ble_eq_true rfl)) dX3_book_22 ⟨(Nat.le_of_ble_eq_true rfl), (Nat.le_of_ble_eq_true rfl)⟩) hP hD hS hA (fun u H9 locs9 hu hP9 hD9 hS9 hzz hkk => ?_)
      clear hzz hkk hP hD hS H locs u
      revert hS9 hD9 hP9 locs9 H9
      intro H locs hP hD hS
      clear hu
      replace hP : va_P (kD E) kcl (mW E Ad (S)) H := hP
      replace hD : va_D A (mW E Ad (S)) := hD
      show W p l e _ s m args below meth c H locs _ _ Q (F0 m 25 ls [.int (zI (b2 (0 ≤ a ∧ a ≤ 29))), .ref (Ad 0)])
      refine kz_if0B (tgt := 32) hx hb dX3_book_25 (by decide) (fun c25 => ?_) (fun c25 => ?_)
      · skip
        refine kz_iconst hx hb dX3_book_32 ?_
        exact J1 2 _ _ _ (Eq.symm (Eq.trans (if_pos c6) (Eq.trans (if_pos c14) (if_neg c25)))) (by omega) hP hD hS hl
      · skip
        refine kz_iconst hx hb dX3_book_28 ?_
        refine lv_goto (tgt := 33) hx hb dX3_book_29 (by decide) ?_
        exact J1 0 _ _ _ (Eq.symm (Eq.trans (if_pos c6) (Eq.trans (if_pos c14) (if_pos c25)))) (by omega) hP hD hS hl
    · skip
      refine kz_iconst hx hb dX3_book_17 ?_
      refine lv_goto (tgt := 33) hx hb dX3_book_18 (by decide) ?_
      exact J1 1 _ _ _ (Eq.symm (Eq.trans (if_pos c6) (if_neg c14))) (by omega) hP hD hS hl

set_option maxHeartbeats 4000000 in
set_option maxRecDepth 100000 in
theorem mX3_free (l : Launch) (E : KE) (sz : Nat) (Ad : Nat → Nat) (S : St) (hM : MOk S) (B : Int) (river : Int) (rriver : rI river) (a : Int) (ra : rI a) (hI : GI B (S 0)) (c0 : 0 ≤ S 7 5 ∧ S 7 5 ≤ 8) : Met l yX3_free (ws_ yX3_free cX3_free 4 (some .int)) (rmk 2 0 0 46) (va_Pc [.ref (Ad 0), .int (zI river), .int (zI a)] (kP l E sz (mW E Ad S) [])) (kQ E (fun _ : Unit => rI ((xFree S river a).2) ∧ MOk ((xFree S river a).1)) (fun _ => some (.int (zI ((xFree S river a).2)))) (fun _ => (mW E Ad ((xFree S river a).1))) (va_A (mW E Ad S) sz)) 0 0 (va_A (mW E Ad S) sz) := by
  refine kz_start (Qf := kQ E (fun _ : Unit => rI ((xFree S river a).2) ∧ MOk ((xFree S river a).1)) (fun _ => some (.int (zI ((xFree S river a).2)))) (fun _ => (mW E Ad ((xFree S river a).1)))) (by decide) (Nat.le_of_ble_eq_true rfl) ?_
  intro p e s m args below meth c A ls Q H locs hx hb hr hlk hml hts hown hname hG hK hA hAN hP hD hR hRA hS hQ hl
  replace hown : s.vm.findClass RX3 = some m.cls := hown
  replace hl : lv_has ls 4 [(0, .ref (Ad 0)), (1, .int (zI (river))), (2, .int (zI (a)))] := hl
  have g0 := hI.n
  have g1 := hI.m
  have g2 := hI.ct
  replace hP : va_P (kD E) kcl (mW E Ad (S)) H := hP
  replace hD : va_D A (mW E Ad (S)) := hD
  refine lv_aload_n hx hb dX3_free_0 rfl (lv_at hl 0 rfl) ?_
  refine lv_aload_n hx hb dX3_free_1 rfl (lv_at hl 0 rfl) ?_
  refine lv_iload_n hx hb dX3_free_2 rfl (lv_at hl 1 rfl) ?_
  refine kz_backM (va_runV (As := [.int (zI (river))]) (rest := [.ref (Ad 0)]) ⟨hx, hb, hml, hown, hts⟩ (mX3_isRiver l E H.size Ad S hM river (by omega) (show 0 ≤ (S 0 1) ∧ (S 0 1) ≤ 4 by first | omega | exact hI.st _ (by omega) (by omega) | exact hI.rv _ (by omega) (by omega) | exact hI)) (cwV 1 hts (lw_V q2421 q2423 qs40 q83 q2424) rfl rfl rfl (by decide +kernel) ⟨(Nat.le_of_ble_eq_true rfl), (Nat.le_of_ble_eq_true rfl)⟩) (kz_preVM (wc := mW E Ad S) (va_recv hK hP (ci := 2) (q0 := 0) rfl rfl) hG hS hAN hP hD kz_nilP kz_nilA) rfl rfl hl.1 rfl (lv_room (Nat.le_of_ble_eq_true rfl)) dX3_free_3 ⟨(Nat.le_of_ble_eq_true rfl), (Nat.le_of_ble_eq_true rfl)⟩) hP hD hS hA (fun u H9 locs9 hu hP9 hD9 hS9 hzz hkk => ?_)
  clear hzz hkk hP hD hS H locs u
  revert hS9 hD9 hP9 locs9 H9
  intro H locs hP hD hS
  clear hu
  replace hP : va_P (kD E) kcl (mW E Ad (S)) H := hP
  replace hD : va_D A (mW E Ad (S)) := hD
  show W p l e _ s m args below meth c H locs _ _ Q (F0 m 6 ls [.int (zI (b2 (0 ≤ river ∧ river ≤ (S 0 1) - 1))), .ref (Ad 0)])
  have J1 : ∀ (v2 : Int) (H : Heap) (locs : List Loc) (ls : Array Slot), v2 = (if 0 ≤ river ∧ river ≤ (S 0 1) - 1 then (if 0 ≤ a ∧ a ≤ 29 then 0 else 2) else 1) → rI v2 → va_P (kD E) kcl (mW E Ad (S)) H → va_D A (mW E Ad (S)) → va_S A s.heap H locs → lv_has ls 4 [(0, .ref (Ad 0)), (1, .int (zI (river))), (2, .int (zI (a)))] → W p l e (rmk 2 0 0 46) s m args below meth c H locs 0 0 Q (F0 m 25 ls [.int (zI (v2)), .ref (Ad 0)]) := by
    clear hl hS hD hP ls locs H
    intro v2 H locs ls hv2 rv2 hP hD hS hl
    have dv2 : (0 ≤ river ∧ river ≤ (S 0 1) - 1 ∧ ¬ (0 ≤ a ∧ a ≤ 29) ∧ v2 = 2) ∨ (0 ≤ river ∧ river ≤ (S 0 1) - 1 ∧ 0 ≤ a ∧ a ≤ 29 ∧ v2 = 0) ∨ (¬ (0 ≤ river ∧ river ≤ (S 0 1) - 1) ∧ v2 = 1) := by rw [hv2]; (repeat' split) <;> first | omega | simp_all
    refine kz_backM (va_runV (As := [.int (zI (v2))]) (rest := []) ⟨hx, hb, hml, hown, hts⟩ (mX3_fails l E H.size Ad S hM v2 (by omega)) (cwV 1 hts (lw_V q2394 q2396 qs36 q83 q2397) rfl rfl rfl (by decide +kernel) ⟨(Nat.le_of_ble_eq_true rfl), (Nat.le_of_ble_eq_true rfl)⟩) (kz_preVM (wc := mW E Ad S) (va_recv hK hP (ci := 2) (q0 := 0) rfl rfl) hG hS hAN hP hD kz_nilP kz_nilA) rfl rfl hl.1 rfl (lv_room (Nat.le_of_ble_eq_true rfl)) dX3_free_25 ⟨(Nat.le_of_ble_eq_true rfl), (Nat.le_of_ble_eq_true rfl)⟩) hP hD hS hA (fun u H9 locs9 hu hP9 hD9 hS9 hzz hkk => ?_)
    clear hzz hkk hP hD hS H locs u
    revert hS9 hD9 hP9 locs9 H9
    intro H locs hP hD hS
    replace hM : MOk (put S 7 7 v2) := hu
    clear hu
    replace hP : va_P (kD E) kcl (mW E Ad (put S 7 7 v2)) H := hP
    replace hD : va_D A (mW E Ad (put S 7 7 v2)) := hD
    show W p l e _ s m args below meth c H locs _ _ Q (F0 m 28 ls [.int (zI (b2 (0 < v2)))])
    refine kz_if0B (tgt := 33) hx hb dX3_free_28 (by decide) (fun c28 => ?_) (fun c28 => ?_)
    · skip
      obtain rfl : v2 = 0 := by omega
      refine lv_aload_n hx hb dX3_free_33 rfl (lv_at hl 0 rfl) ?_
      refine lv_iload_n hx hb dX3_free_34 rfl (lv_at hl 1 rfl) ?_
      refine lv_iload_n hx hb dX3_free_35 rfl (lv_at hl 2 rfl) ?_
      refine kz_backM (va_runV (As := [.int (zI (river)), .int (zI (a))]) (rest := []) ⟨hx, hb, hml, hown, hts⟩ (mX3_bookedFor l E H.size Ad (put S 7 7 0) hM river (by omega) a (by omega) (show 0 ≤ river ∧ river < 4 by first | omega | exact hI.st _ (by omega) (by omega) | exact hI.rv _ (by omega) (by omega) | exact hI) (show 0 ≤ a ∧ a < 30 by first | omega | exact hI.st _ (by omega) (by omega) | exact hI.rv _ (by omega) (by omega) | exact hI)) (cwV 2 hts (lw_V q2465 q2467 qs48 q83 q2468) rfl rfl rfl (by decide +kernel) ⟨(Nat.le_of_ble_eq_true rfl), (Nat.le_of_ble_eq_true rfl)⟩) (kz_preVM (wc := mW E Ad (put S 7 7 0)) (va_recv hK hP (ci := 2) (q0 := 0) rfl rfl) hG hS hAN hP hD kz_nilP kz_nilA) rfl rfl hl.1 rfl (lv_room (Nat.le_of_ble_eq_true rfl)) dX3_free_36 ⟨(Nat.le_of_ble_eq_true rfl), (Nat.le_of_ble_eq_true rfl)⟩) hP hD hS hA (fun u H9 locs9 hu hP9 hD9 hS9 hzz hkk => ?_)
      clear hzz hkk hP hD hS H locs u
      revert hS9 hD9 hP9 locs9 H9
      intro H locs hP hD hS
      have r3 : rI ((S 0 ((174 + 30 * river + a)))) := hu
      clear hu
      replace hP : va_P (kD E) kcl (mW E Ad (put S 7 7 0)) H := hP
      replace hD : va_D A (mW E Ad (put S 7 7 0)) := hD
      show W p l e _ s m args below meth c H locs _ _ Q (F0 m 39 ls [.int (zI ((S 0 ((174 + 30 * river + a)))))])
      refine lv_istore_n (lv' := [(3, .int (zI ((S 0 ((174 + 30 * river + a)))))), (0, .ref (Ad 0)), (1, .int (zI (river))), (2, .int (zI (a)))]) hx hb dX3_free_39 rfl hl (by decide) rfl (fun ls hl => ?_)
      refine lv_iload_n hx hb dX3_free_40 rfl (lv_at hl 0 rfl) ?_
      refine kz_if_ge (tgt := 57) hx hb dX3_free_41 (by decide) (by omega) (fun c41 => ?_) (fun c41 => ?_)
      · skip
        refine lv_aload_n hx hb dX3_free_57 rfl (lv_at hl 1 rfl) ?_
        refine lv_aload_n hx hb dX3_free_58 rfl (lv_at hl 1 rfl) ?_
        refine va_get (D := kD E) (ci := 2) (fs := mO Ad (put S 7 7 0)) (v := .ref (Ad 1)) (C := RX3) (T := TX3) (N := 19) hx hb hts in_X3 hown hK hP 0 rfl rfl 0 (by decide) (hts _ q2320) (fun _ h9 => h9) rfl dX3_free_59 ?_
        refine kz_backM (va_runV (As := [.ref (Ad 1)]) (rest := []) ⟨hx, hb, hml, hown, hts⟩ (mX3_keeps l E H.size Ad (put S 7 7 0) hM (show 0 ≤ (S 7 5) ∧ (S 7 5) ≤ 8 by first | omega | exact hI.st _ (by omega) (by omega) | exact hI.rv _ (by omega) (by omega) | exact hI)) (cwV 1 hts (lw_V q2402 q2404 qs38 q83 q2405) rfl rfl rfl (by decide +kernel) ⟨(Nat.le_of_ble_eq_true rfl), (Nat.le_of_ble_eq_true rfl)⟩) (kz_preVM (wc := mW E Ad (put S 7 7 0)) (va_recv hK hP (ci := 2) (q0 := 0) rfl rfl) hG hS hAN hP hD kz_nilP kz_nilA) rfl rfl hl.1 rfl (lv_room (Nat.le_of_ble_eq_true rfl)) dX3_free_62 ⟨(Nat.le_of_ble_eq_true rfl), (Nat.le_of_ble_eq_true rfl)⟩) hP hD hS hA (fun u H9 locs9 hu hP9 hD9 hS9 hzz hkk => ?_)
        clear hzz hkk hP hD hS H locs u
        revert hS9 hD9 hP9 locs9 H9
        intro H locs hP hD hS
        replace hM : MOk (mKeeps (put S 7 7 0) 0) := hu
        clear hu
        replace hP : va_P (kD E) kcl (mW E Ad (mKeeps (put S 7 7 0) 0)) H := hP
        replace hD : va_D A (mW E Ad (mKeeps (put S 7 7 0) 0)) := hD
        show W p l e _ s m args below meth c H locs _ _ Q (F0 m 65 ls [])
        refine lv_aload_n hx hb dX3_free_65 rfl (lv_at hl 1 rfl) ?_
        refine va_get (D := kD E) (ci := 2) (fs := mO Ad (mKeeps (put S 7 7 0) 0)) (v := .ref (Ad 1)) (C := RX3) (T := TX3) (N := 19) hx hb hts in_X3 hown hK hP 0 rfl rfl 0 (by decide) (hts _ q2320) (fun _ h9 => h9) rfl dX3_free_66 ?_
        refine kz_sipush hx hb dX3_free_69 (by decide) ?_
        refine kz_bipush hx hb dX3_free_72 (by decide) ?_
        refine lv_iload_n hx hb dX3_free_74 rfl (lv_at hl 2 rfl) ?_
        refine kz_imul hx hb dX3_free_75 ?_
        refine kz_iadd hx hb dX3_free_76 ?_
        refine lv_iload_n hx hb dX3_free_77 rfl (lv_at hl 3 rfl) ?_
        refine kz_iadd hx hb dX3_free_78 ?_
        refine kz_iconst hx hb dX3_free_79 ?_
        refine kz_iast (cA := kA E 0) (n := 304) (g := (mKeeps (put S 7 7 0) 0) 0) hx hb hK hP hD hS 1 0 rfl rfl (by omega) dX3_free_80 (fun H9 locs9 hP9 hD9 hS9 => ?_)
        rw [mW_a0] at hP9 hD9
        clear hP hD hS H locs
        revert hS9 hD9 hP9 locs9 H9
        intro H locs hP hD hS
        replace hP : va_P (kD E) kcl (mW E Ad (put (mKeeps (put S 7 7 0) 0) 0 ((174 + (30 * river)) + a) ((-1)))) H := hP
        replace hD : va_D A (mW E Ad (put (mKeeps (put S 7 7 0) 0) 0 ((174 + (30 * river)) + a) ((-1)))) := hD
        replace hM : MOk (put (mKeeps (put S 7 7 0) 0) 0 ((174 + (30 * river)) + a) ((-1))) := hM.put 0 _ (by omega)
        refine lv_iload_n hx hb dX3_free_81 rfl (lv_at hl 0 rfl) ?_
        have e0 : xFree S river a = (put (mKeeps (put S 7 7 0) 0) 0 ((174 + (30 * river)) + a) ((-1)), (S 0 ((174 + 30 * river + a)))) := by unfold xFree; (repeat (first | refine Eq.trans (if_pos (by omega)) ?_ | refine Eq.trans (if_neg (by omega)) ?_)); (try simp only [putR_put _ 0, putR_putR, putR_at]); all_goals rfl
        have e1 : (xFree S river a).2 = (S 0 ((174 + 30 * river + a))) := by rw [e0]
        have e3 : (xFree S river a).1 = put (mKeeps (put S 7 7 0) 0) 0 ((174 + (30 * river)) + a) ((-1)) := by rw [e0]
        exact kz_iret () hx hb hr hlk hP hD hS dX3_free_82 (congrArg (fun z : Int => some (Value.int (zI z))) e1) ⟨(kz_r e1 (by omega)), (kz_M e3 hM)⟩ (congrArg (mW E Ad) e3) hQ (Nat.le_of_ble_eq_true rfl) (Nat.le_of_ble_eq_true rfl)
      · skip
        refine lv_aload_n hx hb dX3_free_44 rfl (lv_at hl 1 rfl) ?_
        refine kz_iconst hx hb dX3_free_45 ?_
        refine kz_bipush hx hb dX3_free_46 (by decide) ?_
        refine lv_aload_n hx hb dX3_free_48 rfl (lv_at hl 1 rfl) ?_
        refine lv_iload_n hx hb dX3_free_49 rfl (lv_at hl 2 rfl) ?_
        refine kz_backM (va_runV (As := [.int (zI (river))]) (rest := [.int (zI (10)), .int (zI (3)), .ref (Ad 0)]) ⟨hx, hb, hml, hown, hts⟩ (mX3_daysOf l E H.size Ad (put S 7 7 0) hM river (by omega) (show 0 ≤ river ∧ river < 4 by first | omega | exact hI.st _ (by omega) (by omega) | exact hI.rv _ (by omega) (by omega) | exact hI)) (cwV 1 hts (lw_V q2461 q2463 qs47 q83 q2464) rfl rfl rfl (by decide +kernel) ⟨(Nat.le_of_ble_eq_true rfl), (Nat.le_of_ble_eq_true rfl)⟩) (kz_preVM (wc := mW E Ad (put S 7 7 0)) (va_recv hK hP (ci := 2) (q0 := 0) rfl rfl) hG hS hAN hP hD kz_nilP kz_nilA) rfl rfl hl.1 rfl (lv_room (Nat.le_of_ble_eq_true rfl)) dX3_free_50 ⟨(Nat.le_of_ble_eq_true rfl), (Nat.le_of_ble_eq_true rfl)⟩) hP hD hS hA (fun u H9 locs9 hu hP9 hD9 hS9 hzz hkk => ?_)
        clear hzz hkk hP hD hS H locs u
        revert hS9 hD9 hP9 locs9 H9
        intro H locs hP hD hS
        obtain ⟨r4, p5⟩ := hu
        replace r4 : rI (daysOf (S 0) river) := r4
        replace p5 : 0 ≤ daysOf (S 0) river ∧ daysOf (S 0) river ≤ 30 := p5
        replace hP : va_P (kD E) kcl (mW E Ad (put S 7 7 0)) H := hP
        replace hD : va_D A (mW E Ad (put S 7 7 0)) := hD
        show W p l e _ s m args below meth c H locs _ _ Q (F0 m 53 ls [.int (zI (daysOf (S 0) river)), .int (zI (10)), .int (zI (3)), .ref (Ad 0)])
        refine kz_backM (va_runV (As := [.int (zI (3)), .int (zI (10)), .int (zI (daysOf (S 0) river))]) (rest := []) ⟨hx, hb, hml, hown, hts⟩ (mX3_refuses l E H.size Ad (put S 7 7 0) hM 3 (by omega) 10 (by omega) (daysOf (S 0) river) (by omega)) (cwV 3 hts (lw_V q2398 q2400 qs37 q83 q2401) rfl rfl rfl (by decide +kernel) ⟨(Nat.le_of_ble_eq_true rfl), (Nat.le_of_ble_eq_true rfl)⟩) (kz_preVM (wc := mW E Ad (put S 7 7 0)) (va_recv hK hP (ci := 2) (q0 := 0) rfl rfl) hG hS hAN hP hD kz_nilP kz_nilA) rfl rfl hl.1 rfl (lv_room (Nat.le_of_ble_eq_true rfl)) dX3_free_53 ⟨(Nat.le_of_ble_eq_true rfl), (Nat.le_of_ble_eq_true rfl)⟩) hP hD hS hA (fun u H9 locs9 hu hP9 hD9 hS9 hzz hkk => ?_)
        clear hzz hkk hP hD hS H locs u
        revert hS9 hD9 hP9 locs9 H9
        intro H locs hP hD hS
        clear hM
        obtain ⟨r6, hM⟩ := hu
        replace r6 : rI (0) := r6
        replace hM : MOk (put (put (put (put S 7 7 0) 7 7 3) 7 8 10) 7 9 ((daysOf (S 0) river))) := hM
        replace hP : va_P (kD E) kcl (mW E Ad (put (put (put (put S 7 7 0) 7 7 3) 7 8 10) 7 9 ((daysOf (S 0) river)))) H := hP
        replace hD : va_D A (mW E Ad (put (put (put (put S 7 7 0) 7 7 3) 7 8 10) 7 9 ((daysOf (S 0) river)))) := hD
        show W p l e _ s m args below meth c H locs _ _ Q (F0 m 56 ls [.int (zI (0))])
        have e0 : xFree S river a = (put (put (put (put S 7 7 0) 7 7 3) 7 8 10) 7 9 ((daysOf (S 0) river)), 0) := by unfold xFree; (repeat (first | refine Eq.trans (if_pos (by omega)) ?_ | refine Eq.trans (if_neg (by omega)) ?_)); (try simp only [putR_put _ 0, putR_putR, putR_at]); all_goals rfl
        have e1 : (xFree S river a).2 = 0 := by rw [e0]
        have e3 : (xFree S river a).1 = put (put (put (put S 7 7 0) 7 7 3) 7 8 10) 7 9 ((daysOf (S 0) river)) := by rw [e0]
        exact kz_iret () hx hb hr hlk hP hD hS dX3_free_56 (congrArg (fun z : Int => some (Value.int (zI z))) e1) ⟨(kz_r e1 (by omega)), (kz_M e3 hM)⟩ (congrArg (mW E Ad) e3) hQ (Nat.le_of_ble_eq_true rfl) (Nat.le_of_ble_eq_true rfl)
    · skip
      rcases (show v2 = 1 ∨ v2 = 2 by omega) with rfl | rfl
      · skip
        refine kz_iconst hx hb dX3_free_31 ?_
        have e0 : xFree S river a = (put S 7 7 1, 0) := by unfold xFree; (repeat (first | refine Eq.trans (if_pos (by omega)) ?_ | refine Eq.trans (if_neg (by omega)) ?_)); (try simp only [putR_put _ 0, putR_putR, putR_at]); all_goals rfl
        have e1 : (xFree S river a).2 = 0 := by rw [e0]
        have e3 : (xFree S river a).1 = put S 7 7 1 := by rw [e0]
        exact kz_iret () hx hb hr hlk hP hD hS dX3_free_32 (congrArg (fun z : Int => some (Value.int (zI z))) e1) ⟨(kz_r e1 (by omega)), (kz_M e3 hM)⟩ (congrArg (mW E Ad) e3) hQ (Nat.le_of_ble_eq_true rfl) (Nat.le_of_ble_eq_true rfl)
      · skip
        refine kz_iconst hx hb dX3_free_31 ?_
        have e0 : xFree S river a = (put S 7 7 2, 0) := by unfold xFree; (repeat (first | refine Eq.trans (if_pos (by omega)) ?_ | refine Eq.trans (if_neg (by omega)) ?_)); (try simp only [putR_put _ 0, putR_putR, putR_at]); all_goals rfl
        have e1 : (xFree S river a).2 = 0 := by rw [e0]
        have e3 : (xFree S river a).1 = put S 7 7 2 := by rw [e0]
        exact kz_iret () hx hb hr hlk hP hD hS dX3_free_32 (congrArg (fun z : Int => some (Value.int (zI z))) e1) ⟨(kz_r e1 (by omega)), (kz_M e3 hM)⟩ (congrArg (mW E Ad) e3) hQ (Nat.le_of_ble_eq_true rfl) (Nat.le_of_ble_eq_true rfl)
  refine kz_if1B (tgt := 13) hx hb dX3_free_6 (by decide) (fun c6 => ?_) (fun c6 => ?_)
  · skip
    refine lv_iload_n hx hb dX3_free_13 rfl (lv_at hl 2 rfl) ?_
    refine kz_back (wc := []) (wx := (mW E Ad (S))) (va_runS (As := [.int (zI (a))]) (rest := [.ref (Ad 0)]) ⟨hx, hb, hml, hown, hts⟩ (mX3_isAhead l E H.size a (by omega)) (va_cwS 1 hts (lw_S q2477 q2478 q83 q2479) rfl rfl rfl (by decide +kernel) ⟨(Nat.le_of_ble_eq_true rfl), (Nat.le_of_ble_eq_true rfl)⟩) (kz_pre (wc := []) (wx := (mW E Ad (S))) hG hS hAN hP hD kz_nilP kz_nilA) rfl rfl hl.1 rfl (lv_room (Nat.le_of_ble_eq_true rfl)) dX3_free_14 ⟨(Nat.le_of_ble_eq_true rfl), (Nat.le_of_ble_eq_true rfl)⟩) hP hD hS hA (fun u H9 locs9 hu hP9 hD9 hS9 hzz hkk => ?_)
    clear hzz hkk hP hD hS H locs u
    revert hS9 hD9 hP9 locs9 H9
    intro H locs hP hD hS
    clear hu
    replace hP : va_P (kD E) kcl (mW E Ad (S)) H := hP
    replace hD : va_D A (mW E Ad (S)) := hD
    show W p l e _ s m args below meth c H locs _ _ Q (F0 m 17 ls [.int (zI (b2 (0 ≤ a ∧ a ≤ 29))), .ref (Ad 0)])
    refine kz_if0B (tgt := 24) hx hb dX3_free_17 (by decide) (fun c17 => ?_) (fun c17 => ?_)
    · skip
      refine kz_iconst hx hb dX3_free_24 ?_
      exact J1 2 _ _ _ (Eq.symm (Eq.trans (if_pos c6) (if_neg c17))) (by omega) hP hD hS hl
    · skip
      refine kz_iconst hx hb dX3_free_20 ?_
      refine lv_goto (tgt := 25) hx hb dX3_free_21 (by decide) ?_
      exact J1 0 _ _ _ (Eq.symm (Eq.trans (if_pos c6) (if_pos c17))) (by omega) hP hD hS hl
  · skip
    refine kz_iconst hx hb dX3_free_9 ?_
    refine lv_goto (tgt := 25) hx hb dX3_free_10 (by decide) ?_
    exact J1 1 _ _ _ (Eq.symm (if_neg c6)) (by omega) hP hD hS hl

set_option maxHeartbeats 4000000 in
set_option maxRecDepth 100000 in
theorem mX3_calm (l : Launch) (E : KE) (sz : Nat) (Ad : Nat → Nat) (S : St) (hM : MOk S) (B : Int) (river : Int) (rriver : rI river) (cal : Int) (rcal : rI cal) (hI : GI B (S 0)) (c0 : 0 ≤ S 7 5 ∧ S 7 5 ≤ 8) : Met l yX3_calm (ws_ yX3_calm cX3_calm 4 (some .int)) (rmk 2 0 0 46) (va_Pc [.ref (Ad 0), .int (zI river), .int (zI cal)] (kP l E sz (mW E Ad S) [])) (kQ E (fun _ : Unit => rI ((xCalm S river cal).2) ∧ MOk ((xCalm S river cal).1)) (fun _ => some (.int (zI ((xCalm S river cal).2)))) (fun _ => (mW E Ad ((xCalm S river cal).1))) (va_A (mW E Ad S) sz)) 0 0 (va_A (mW E Ad S) sz) := by
  refine kz_start (Qf := kQ E (fun _ : Unit => rI ((xCalm S river cal).2) ∧ MOk ((xCalm S river cal).1)) (fun _ => some (.int (zI ((xCalm S river cal).2)))) (fun _ => (mW E Ad ((xCalm S river cal).1)))) (by decide) (Nat.le_of_ble_eq_true rfl) ?_
  intro p e s m args below meth c A ls Q H locs hx hb hr hlk hml hts hown hname hG hK hA hAN hP hD hR hRA hS hQ hl
  replace hown : s.vm.findClass RX3 = some m.cls := hown
  replace hl : lv_has ls 4 [(0, .ref (Ad 0)), (1, .int (zI (river))), (2, .int (zI (cal)))] := hl
  have g0 := hI.n
  have g1 := hI.m
  have g2 := hI.ct
  replace hP : va_P (kD E) kcl (mW E Ad (S)) H := hP
  replace hD : va_D A (mW E Ad (S)) := hD
  refine lv_aload_n hx hb dX3_calm_0 rfl (lv_at hl 0 rfl) ?_
  refine lv_aload_n hx hb dX3_calm_1 rfl (lv_at hl 0 rfl) ?_
  refine lv_iload_n hx hb dX3_calm_2 rfl (lv_at hl 1 rfl) ?_
  refine kz_backM (va_runV (As := [.int (zI (river))]) (rest := [.ref (Ad 0)]) ⟨hx, hb, hml, hown, hts⟩ (mX3_isRiver l E H.size Ad S hM river (by omega) (show 0 ≤ (S 0 1) ∧ (S 0 1) ≤ 4 by first | omega | exact hI.st _ (by omega) (by omega) | exact hI.rv _ (by omega) (by omega) | exact hI)) (cwV 1 hts (lw_V q2421 q2423 qs40 q83 q2424) rfl rfl rfl (by decide +kernel) ⟨(Nat.le_of_ble_eq_true rfl), (Nat.le_of_ble_eq_true rfl)⟩) (kz_preVM (wc := mW E Ad S) (va_recv hK hP (ci := 2) (q0 := 0) rfl rfl) hG hS hAN hP hD kz_nilP kz_nilA) rfl rfl hl.1 rfl (lv_room (Nat.le_of_ble_eq_true rfl)) dX3_calm_3 ⟨(Nat.le_of_ble_eq_true rfl), (Nat.le_of_ble_eq_true rfl)⟩) hP hD hS hA (fun u H9 locs9 hu hP9 hD9 hS9 hzz hkk => ?_)
  clear hzz hkk hP hD hS H locs u
  revert hS9 hD9 hP9 locs9 H9
  intro H locs hP hD hS
  clear hu
  replace hP : va_P (kD E) kcl (mW E Ad (S)) H := hP
  replace hD : va_D A (mW E Ad (S)) := hD
  show W p l e _ s m args below meth c H locs _ _ Q (F0 m 6 ls [.int (zI (b2 (0 ≤ river ∧ river ≤ (S 0 1) - 1))), .ref (Ad 0)])
  have J1 : ∀ (v2 : Int) (H : Heap) (locs : List Loc) (ls : Array Slot), v2 = (if 0 ≤ river ∧ river ≤ (S 0 1) - 1 then (if 0 ≤ cal ∧ cal ≤ 9 then 0 else 2) else 1) → rI v2 → va_P (kD E) kcl (mW E Ad (S)) H → va_D A (mW E Ad (S)) → va_S A s.heap H locs → lv_has ls 4 [(0, .ref (Ad 0)), (1, .int (zI (river))), (2, .int (zI (cal)))] → W p l e (rmk 2 0 0 46) s m args below meth c H locs 0 0 Q (F0 m 28 ls [.int (zI (v2)), .ref (Ad 0)]) := by
    clear hl hS hD hP ls locs H
    intro v2 H locs ls hv2 rv2 hP hD hS hl
    have dv2 : (0 ≤ river ∧ river ≤ (S 0 1) - 1 ∧ ¬ (0 ≤ cal ∧ cal ≤ 9) ∧ v2 = 2) ∨ (0 ≤ river ∧ river ≤ (S 0 1) - 1 ∧ 0 ≤ cal ∧ cal ≤ 9 ∧ v2 = 0) ∨ (¬ (0 ≤ river ∧ river ≤ (S 0 1) - 1) ∧ v2 = 1) := by rw [hv2]; (repeat' split) <;> first | omega | simp_all
    refine kz_backM (va_runV (As := [.int (zI (v2))]) (rest := []) ⟨hx, hb, hml, hown, hts⟩ (mX3_fails l E H.size Ad S hM v2 (by omega)) (cwV 1 hts (lw_V q2394 q2396 qs36 q83 q2397) rfl rfl rfl (by decide +kernel) ⟨(Nat.le_of_ble_eq_true rfl), (Nat.le_of_ble_eq_true rfl)⟩) (kz_preVM (wc := mW E Ad S) (va_recv hK hP (ci := 2) (q0 := 0) rfl rfl) hG hS hAN hP hD kz_nilP kz_nilA) rfl rfl hl.1 rfl (lv_room (Nat.le_of_ble_eq_true rfl)) dX3_calm_28 ⟨(Nat.le_of_ble_eq_true rfl), (Nat.le_of_ble_eq_true rfl)⟩) hP hD hS hA (fun u H9 locs9 hu hP9 hD9 hS9 hzz hkk => ?_)
    clear hzz hkk hP hD hS H locs u
    revert hS9 hD9 hP9 locs9 H9
    intro H locs hP hD hS
    replace hM : MOk (put S 7 7 v2) := hu
    clear hu
    replace hP : va_P (kD E) kcl (mW E Ad (put S 7 7 v2)) H := hP
    replace hD : va_D A (mW E Ad (put S 7 7 v2)) := hD
    show W p l e _ s m args below meth c H locs _ _ Q (F0 m 31 ls [.int (zI (b2 (0 < v2)))])
    refine kz_if0B (tgt := 36) hx hb dX3_calm_31 (by decide) (fun c31 => ?_) (fun c31 => ?_)
    · skip
      obtain rfl : v2 = 0 := by omega
      refine lv_aload_n hx hb dX3_calm_36 rfl (lv_at hl 0 rfl) ?_
      refine lv_iload_n hx hb dX3_calm_37 rfl (lv_at hl 1 rfl) ?_
      refine kz_iconst hx hb dX3_calm_38 ?_
      refine kz_backM (va_runV (As := [.int (zI (river)), .int (zI (1))]) (rest := []) ⟨hx, hb, hml, hown, hts⟩ (mX3_its l E H.size Ad (put S 7 7 0) hM river (by omega) 1 (by omega) (show 0 ≤ river ∧ river < 4 by first | omega | exact hI.st _ (by omega) (by omega) | exact hI.rv _ (by omega) (by omega) | exact hI) (show 0 ≤ 1 ∧ 1 < 6 by first | omega | exact hI.st _ (by omega) (by omega) | exact hI.rv _ (by omega) (by omega) | exact hI)) (cwV 2 hts (lw_V q2425 q2427 qs41 q83 q2428) rfl rfl rfl (by decide +kernel) ⟨(Nat.le_of_ble_eq_true rfl), (Nat.le_of_ble_eq_true rfl)⟩) (kz_preVM (wc := mW E Ad (put S 7 7 0)) (va_recv hK hP (ci := 2) (q0 := 0) rfl rfl) hG hS hAN hP hD kz_nilP kz_nilA) rfl rfl hl.1 rfl (lv_room (Nat.le_of_ble_eq_true rfl)) dX3_calm_39 ⟨(Nat.le_of_ble_eq_true rfl), (Nat.le_of_ble_eq_true rfl)⟩) hP hD hS hA (fun u H9 locs9 hu hP9 hD9 hS9 hzz hkk => ?_)
      clear hzz hkk hP hD hS H locs u
      revert hS9 hD9 hP9 locs9 H9
      intro H locs hP hD hS
      have r3 : rI ((S 0 ((150 + 6 * river + 1)))) := hu
      clear hu
      replace hP : va_P (kD E) kcl (mW E Ad (put S 7 7 0)) H := hP
      replace hD : va_D A (mW E Ad (put S 7 7 0)) := hD
      show W p l e _ s m args below meth c H locs _ _ Q (F0 m 42 ls [.int (zI ((S 0 ((150 + 6 * river + 1)))))])
      refine lv_istore_n (lv' := [(3, .int (zI ((S 0 ((150 + 6 * river + 1)))))), (0, .ref (Ad 0)), (1, .int (zI (river))), (2, .int (zI (cal)))]) hx hb dX3_calm_42 rfl hl (by decide) rfl (fun ls hl => ?_)
      refine lv_iload_n hx hb dX3_calm_43 rfl (lv_at hl 0 rfl) ?_
      refine lv_iload_n hx hb dX3_calm_44 rfl (lv_at hl 3 rfl) ?_
      refine kz_icmp_ne (tgt := 57) hx hb dX3_calm_45 (by decide) (by omega) (by omega) (fun c45 => ?_) (fun c45 => ?_)
      · skip
        refine lv_aload_n hx hb dX3_calm_57 rfl (lv_at hl 1 rfl) ?_
        refine lv_aload_n hx hb dX3_calm_58 rfl (lv_at hl 1 rfl) ?_
        refine va_get (D := kD E) (ci := 2) (fs := mO Ad (put S 7 7 0)) (v := .ref (Ad 1)) (C := RX3) (T := TX3) (N := 19) hx hb hts in_X3 hown hK hP 0 rfl rfl 0 (by decide) (hts _ q2320) (fun _ h9 => h9) rfl dX3_calm_59 ?_
        refine kz_backM (va_runV (As := [.ref (Ad 1)]) (rest := []) ⟨hx, hb, hml, hown, hts⟩ (mX3_keeps l E H.size Ad (put S 7 7 0) hM (show 0 ≤ (S 7 5) ∧ (S 7 5) ≤ 8 by first | omega | exact hI.st _ (by omega) (by omega) | exact hI.rv _ (by omega) (by omega) | exact hI)) (cwV 1 hts (lw_V q2402 q2404 qs38 q83 q2405) rfl rfl rfl (by decide +kernel) ⟨(Nat.le_of_ble_eq_true rfl), (Nat.le_of_ble_eq_true rfl)⟩) (kz_preVM (wc := mW E Ad (put S 7 7 0)) (va_recv hK hP (ci := 2) (q0 := 0) rfl rfl) hG hS hAN hP hD kz_nilP kz_nilA) rfl rfl hl.1 rfl (lv_room (Nat.le_of_ble_eq_true rfl)) dX3_calm_62 ⟨(Nat.le_of_ble_eq_true rfl), (Nat.le_of_ble_eq_true rfl)⟩) hP hD hS hA (fun u H9 locs9 hu hP9 hD9 hS9 hzz hkk => ?_)
        clear hzz hkk hP hD hS H locs u
        revert hS9 hD9 hP9 locs9 H9
        intro H locs hP hD hS
        replace hM : MOk (mKeeps (put S 7 7 0) 0) := hu
        clear hu
        replace hP : va_P (kD E) kcl (mW E Ad (mKeeps (put S 7 7 0) 0)) H := hP
        replace hD : va_D A (mW E Ad (mKeeps (put S 7 7 0) 0)) := hD
        show W p l e _ s m args below meth c H locs _ _ Q (F0 m 65 ls [])
        refine lv_aload_n hx hb dX3_calm_65 rfl (lv_at hl 1 rfl) ?_
        refine va_get (D := kD E) (ci := 2) (fs := mO Ad (mKeeps (put S 7 7 0) 0)) (v := .ref (Ad 1)) (C := RX3) (T := TX3) (N := 19) hx hb hts in_X3 hown hK hP 0 rfl rfl 0 (by decide) (hts _ q2320) (fun _ h9 => h9) rfl dX3_calm_66 ?_
        refine kz_sipush hx hb dX3_calm_69 (by decide) ?_
        refine kz_bipush hx hb dX3_calm_72 (by decide) ?_
        refine lv_iload_n hx hb dX3_calm_74 rfl (lv_at hl 2 rfl) ?_
        refine kz_imul hx hb dX3_calm_75 ?_
        refine kz_iadd hx hb dX3_calm_76 ?_
        refine kz_iconst hx hb dX3_calm_77 ?_
        refine kz_iadd hx hb dX3_calm_78 ?_
        refine lv_iload_n hx hb dX3_calm_79 rfl (lv_at hl 3 rfl) ?_
        refine kz_iast (cA := kA E 0) (n := 304) (g := (mKeeps (put S 7 7 0) 0) 0) hx hb hK hP hD hS 1 0 rfl rfl (by omega) dX3_calm_80 (fun H9 locs9 hP9 hD9 hS9 => ?_)
        rw [mW_a0] at hP9 hD9
        clear hP hD hS H locs
        revert hS9 hD9 hP9 locs9 H9
        intro H locs hP hD hS
        replace hP : va_P (kD E) kcl (mW E Ad (put (mKeeps (put S 7 7 0) 0) 0 ((150 + (6 * river)) + 1) cal)) H := hP
        replace hD : va_D A (mW E Ad (put (mKeeps (put S 7 7 0) 0) 0 ((150 + (6 * river)) + 1) cal)) := hD
        replace hM : MOk (put (mKeeps (put S 7 7 0) 0) 0 ((150 + (6 * river)) + 1) cal) := hM.put 0 _ (by omega)
        refine lv_iload_n hx hb dX3_calm_81 rfl (lv_at hl 0 rfl) ?_
        have e0 : xCalm S river cal = (put (mKeeps (put S 7 7 0) 0) 0 ((150 + (6 * river)) + 1) cal, (S 0 ((150 + 6 * river + 1)))) := by unfold xCalm; (repeat (first | refine Eq.trans (if_pos (by omega)) ?_ | refine Eq.trans (if_neg (by omega)) ?_)); (try simp only [putR_put _ 0, putR_putR, putR_at]); all_goals rfl
        have e1 : (xCalm S river cal).2 = (S 0 ((150 + 6 * river + 1))) := by rw [e0]
        have e3 : (xCalm S river cal).1 = put (mKeeps (put S 7 7 0) 0) 0 ((150 + (6 * river)) + 1) cal := by rw [e0]
        exact kz_iret () hx hb hr hlk hP hD hS dX3_calm_82 (congrArg (fun z : Int => some (Value.int (zI z))) e1) ⟨(kz_r e1 (by omega)), (kz_M e3 hM)⟩ (congrArg (mW E Ad) e3) hQ (Nat.le_of_ble_eq_true rfl) (Nat.le_of_ble_eq_true rfl)
      · skip
        refine lv_aload_n hx hb dX3_calm_48 rfl (lv_at hl 1 rfl) ?_
        refine kz_iconst hx hb dX3_calm_49 ?_
        refine kz_bipush hx hb dX3_calm_50 (by decide) ?_
        refine lv_iload_n hx hb dX3_calm_52 rfl (lv_at hl 3 rfl) ?_
        refine kz_backM (va_runV (As := [.int (zI (3)), .int (zI (7)), .int (zI (cal))]) (rest := []) ⟨hx, hb, hml, hown, hts⟩ (mX3_refuses l E H.size Ad (put S 7 7 0) hM 3 (by omega) 7 (by omega) cal (by omega)) (cwV 3 hts (lw_V q2398 q2400 qs37 q83 q2401) rfl rfl rfl (by decide +kernel) ⟨(Nat.le_of_ble_eq_true rfl), (Nat.le_of_ble_eq_true rfl)⟩) (kz_preVM (wc := mW E Ad (put S 7 7 0)) (va_recv hK hP (ci := 2) (q0 := 0) rfl rfl) hG hS hAN hP hD kz_nilP kz_nilA) rfl rfl hl.1 rfl (lv_room (Nat.le_of_ble_eq_true rfl)) dX3_calm_53 ⟨(Nat.le_of_ble_eq_true rfl), (Nat.le_of_ble_eq_true rfl)⟩) hP hD hS hA (fun u H9 locs9 hu hP9 hD9 hS9 hzz hkk => ?_)
        clear hzz hkk hP hD hS H locs u
        revert hS9 hD9 hP9 locs9 H9
        intro H locs hP hD hS
        clear hM
        obtain ⟨r4, hM⟩ := hu
        replace r4 : rI (0) := r4
        replace hM : MOk (put (put (put (put S 7 7 0) 7 7 3) 7 8 7) 7 9 cal) := hM
        replace hP : va_P (kD E) kcl (mW E Ad (put (put (put (put S 7 7 0) 7 7 3) 7 8 7) 7 9 cal)) H := hP
        replace hD : va_D A (mW E Ad (put (put (put (put S 7 7 0) 7 7 3) 7 8 7) 7 9 cal)) := hD
        show W p l e _ s m args below meth c H locs _ _ Q (F0 m 56 ls [.int (zI (0))])
        have e0 : xCalm S river cal = (put (put (put (put S 7 7 0) 7 7 3) 7 8 7) 7 9 cal, 0) := by unfold xCalm; (repeat (first | refine Eq.trans (if_pos (by omega)) ?_ | refine Eq.trans (if_neg (by omega)) ?_)); (try simp only [putR_put _ 0, putR_putR, putR_at]); all_goals rfl
        have e1 : (xCalm S river cal).2 = 0 := by rw [e0]
        have e3 : (xCalm S river cal).1 = put (put (put (put S 7 7 0) 7 7 3) 7 8 7) 7 9 cal := by rw [e0]
        exact kz_iret () hx hb hr hlk hP hD hS dX3_calm_56 (congrArg (fun z : Int => some (Value.int (zI z))) e1) ⟨(kz_r e1 (by omega)), (kz_M e3 hM)⟩ (congrArg (mW E Ad) e3) hQ (Nat.le_of_ble_eq_true rfl) (Nat.le_of_ble_eq_true rfl)
    · skip
      rcases (show v2 = 1 ∨ v2 = 2 by omega) with rfl | rfl
      · skip
        refine kz_iconst hx hb dX3_calm_34 ?_
        have e0 : xCalm S river cal = (put S 7 7 1, 0) := by unfold xCalm; (repeat (first | refine Eq.trans (if_pos (by omega)) ?_ | refine Eq.trans (if_neg (by omega)) ?_)); (try simp only [putR_put _ 0, putR_putR, putR_at]); all_goals rfl
        have e1 : (xCalm S river cal).2 = 0 := by rw [e0]
        have e3 : (xCalm S river cal).1 = put S 7 7 1 := by rw [e0]
        exact kz_iret () hx hb hr hlk hP hD hS dX3_calm_35 (congrArg (fun z : Int => some (Value.int (zI z))) e1) ⟨(kz_r e1 (by omega)), (kz_M e3 hM)⟩ (congrArg (mW E Ad) e3) hQ (Nat.le_of_ble_eq_true rfl) (Nat.le_of_ble_eq_true rfl)
      · skip
        refine kz_iconst hx hb dX3_calm_34 ?_
        have e0 : xCalm S river cal = (put S 7 7 2, 0) := by unfold xCalm; (repeat (first | refine Eq.trans (if_pos (by omega)) ?_ | refine Eq.trans (if_neg (by omega)) ?_)); (try simp only [putR_put _ 0, putR_putR, putR_at]); all_goals rfl
        have e1 : (xCalm S river cal).2 = 0 := by rw [e0]
        have e3 : (xCalm S river cal).1 = put S 7 7 2 := by rw [e0]
        exact kz_iret () hx hb hr hlk hP hD hS dX3_calm_35 (congrArg (fun z : Int => some (Value.int (zI z))) e1) ⟨(kz_r e1 (by omega)), (kz_M e3 hM)⟩ (congrArg (mW E Ad) e3) hQ (Nat.le_of_ble_eq_true rfl) (Nat.le_of_ble_eq_true rfl)
  refine kz_if1B (tgt := 13) hx hb dX3_calm_6 (by decide) (fun c6 => ?_) (fun c6 => ?_)
  · skip
    refine lv_iload_n hx hb dX3_calm_13 rfl (lv_at hl 2 rfl) ?_
    refine kz_iconst hx hb dX3_calm_14 ?_
    refine kz_bipush hx hb dX3_calm_15 (by decide) ?_
    refine kz_back (wc := []) (wx := (mW E Ad (S))) (va_runS (As := [.int (zI (cal)), .int (zI (0)), .int (zI (9))]) (rest := [.ref (Ad 0)]) ⟨hx, hb, hml, hown, hts⟩ (mX3_in l E H.size cal (by omega) 0 (by omega) 9 (by omega)) (va_cwS 3 hts (lw_S q2391 q2392 q83 q2393) rfl rfl rfl (by decide +kernel) ⟨(Nat.le_of_ble_eq_true rfl), (Nat.le_of_ble_eq_true rfl)⟩) (kz_pre (wc := []) (wx := (mW E Ad (S))) hG hS hAN hP hD kz_nilP kz_nilA) rfl rfl hl.1 rfl (lv_room (Nat.le_of_ble_eq_true rfl)) dX3_calm_17 ⟨(Nat.le_of_ble_eq_true rfl), (Nat.le_of_ble_eq_true rfl)⟩) hP hD hS hA (fun u H9 locs9 hu hP9 hD9 hS9 hzz hkk => ?_)
    clear hzz hkk hP hD hS H locs u
    revert hS9 hD9 hP9 locs9 H9
    intro H locs hP hD hS
    clear hu
    replace hP : va_P (kD E) kcl (mW E Ad (S)) H := hP
    replace hD : va_D A (mW E Ad (S)) := hD
    show W p l e _ s m args below meth c H locs _ _ Q (F0 m 20 ls [.int (zI (b2 (0 ≤ cal ∧ cal ≤ 9))), .ref (Ad 0)])
    refine kz_if0B (tgt := 27) hx hb dX3_calm_20 (by decide) (fun c20 => ?_) (fun c20 => ?_)
    · skip
      refine kz_iconst hx hb dX3_calm_27 ?_
      exact J1 2 _ _ _ (Eq.symm (Eq.trans (if_pos c6) (if_neg c20))) (by omega) hP hD hS hl
    · skip
      refine kz_iconst hx hb dX3_calm_23 ?_
      refine lv_goto (tgt := 28) hx hb dX3_calm_24 (by decide) ?_
      exact J1 0 _ _ _ (Eq.symm (Eq.trans (if_pos c6) (if_pos c20))) (by omega) hP hD hS hl
  · skip
    refine kz_iconst hx hb dX3_calm_9 ?_
    refine lv_goto (tgt := 28) hx hb dX3_calm_10 (by decide) ?_
    exact J1 1 _ _ _ (Eq.symm (if_neg c6)) (by omega) hP hD hS hl

set_option maxHeartbeats 4000000 in
set_option maxRecDepth 100000 in
theorem mX3_teach (l : Launch) (E : KE) (sz : Nat) (Ad : Nat → Nat) (S : St) (hM : MOk S) (B : Int) (k : Int) (rk : rI k) (hI : GI B (S 0)) (c0 : 0 ≤ S 7 5 ∧ S 7 5 ≤ 8) : Met l yX3_teach (ws_ yX3_teach cX3_teach 2 (some .int)) (rmk 2 0 0 46) (va_Pc [.ref (Ad 0), .int (zI k)] (kP l E sz (mW E Ad S) [])) (kQ E (fun _ : Unit => rI ((xTeach S k).2) ∧ MOk ((xTeach S k).1)) (fun _ => some (.int (zI ((xTeach S k).2)))) (fun _ => (mW E Ad ((xTeach S k).1))) (va_A (mW E Ad S) sz)) 0 0 (va_A (mW E Ad S) sz) := by
  refine kz_start (Qf := kQ E (fun _ : Unit => rI ((xTeach S k).2) ∧ MOk ((xTeach S k).1)) (fun _ => some (.int (zI ((xTeach S k).2)))) (fun _ => (mW E Ad ((xTeach S k).1)))) (by decide) (Nat.le_of_ble_eq_true rfl) ?_
  intro p e s m args below meth c A ls Q H locs hx hb hr hlk hml hts hown hname hG hK hA hAN hP hD hR hRA hS hQ hl
  replace hown : s.vm.findClass RX3 = some m.cls := hown
  replace hl : lv_has ls 2 [(0, .ref (Ad 0)), (1, .int (zI (k)))] := hl
  have g0 := hI.n
  have g1 := hI.m
  have g2 := hI.ct
  replace hP : va_P (kD E) kcl (mW E Ad (S)) H := hP
  replace hD : va_D A (mW E Ad (S)) := hD
  refine lv_aload_n hx hb dX3_teach_0 rfl (lv_at hl 0 rfl) ?_
  refine lv_aload_n hx hb dX3_teach_1 rfl (lv_at hl 0 rfl) ?_
  refine lv_iload_n hx hb dX3_teach_2 rfl (lv_at hl 1 rfl) ?_
  refine kz_backM (va_runV (As := [.int (zI (k))]) (rest := [.ref (Ad 0)]) ⟨hx, hb, hml, hown, hts⟩ (mX3_isStone l E H.size Ad S hM k (by omega) (show 0 ≤ (S 0 0) ∧ (S 0 0) ≤ 10 by first | omega | exact hI.st _ (by omega) (by omega) | exact hI.rv _ (by omega) (by omega) | exact hI)) (cwV 1 hts (lw_V q2433 q2435 qs42 q83 q2436) rfl rfl rfl (by decide +kernel) ⟨(Nat.le_of_ble_eq_true rfl), (Nat.le_of_ble_eq_true rfl)⟩) (kz_preVM (wc := mW E Ad S) (va_recv hK hP (ci := 2) (q0 := 0) rfl rfl) hG hS hAN hP hD kz_nilP kz_nilA) rfl rfl hl.1 rfl (lv_room (Nat.le_of_ble_eq_true rfl)) dX3_teach_3 ⟨(Nat.le_of_ble_eq_true rfl), (Nat.le_of_ble_eq_true rfl)⟩) hP hD hS hA (fun u H9 locs9 hu hP9 hD9 hS9 hzz hkk => ?_)
  clear hzz hkk hP hD hS H locs u
  revert hS9 hD9 hP9 locs9 H9
  intro H locs hP hD hS
  clear hu
  replace hP : va_P (kD E) kcl (mW E Ad (S)) H := hP
  replace hD : va_D A (mW E Ad (S)) := hD
  show W p l e _ s m args below meth c H locs _ _ Q (F0 m 6 ls [.int (zI (b2 (0 ≤ k ∧ k ≤ (S 0 0) - 1))), .ref (Ad 0)])
  have J1 : ∀ (v2 : Int) (H : Heap) (locs : List Loc) (ls : Array Slot), v2 = (if 0 ≤ k ∧ k ≤ (S 0 0) - 1 then 0 else 1) → rI v2 → va_P (kD E) kcl (mW E Ad (S)) H → va_D A (mW E Ad (S)) → va_S A s.heap H locs → lv_has ls 2 [(0, .ref (Ad 0)), (1, .int (zI (k)))] → W p l e (rmk 2 0 0 46) s m args below meth c H locs 0 0 Q (F0 m 14 ls [.int (zI (v2)), .ref (Ad 0)]) := by
    clear hl hS hD hP ls locs H
    intro v2 H locs ls hv2 rv2 hP hD hS hl
    have dv2 : (¬ (0 ≤ k ∧ k ≤ (S 0 0) - 1) ∧ v2 = 1) ∨ (0 ≤ k ∧ k ≤ (S 0 0) - 1 ∧ v2 = 0) := by rw [hv2]; (repeat' split) <;> first | omega | simp_all
    refine kz_backM (va_runV (As := [.int (zI (v2))]) (rest := []) ⟨hx, hb, hml, hown, hts⟩ (mX3_fails l E H.size Ad S hM v2 (by omega)) (cwV 1 hts (lw_V q2394 q2396 qs36 q83 q2397) rfl rfl rfl (by decide +kernel) ⟨(Nat.le_of_ble_eq_true rfl), (Nat.le_of_ble_eq_true rfl)⟩) (kz_preVM (wc := mW E Ad S) (va_recv hK hP (ci := 2) (q0 := 0) rfl rfl) hG hS hAN hP hD kz_nilP kz_nilA) rfl rfl hl.1 rfl (lv_room (Nat.le_of_ble_eq_true rfl)) dX3_teach_14 ⟨(Nat.le_of_ble_eq_true rfl), (Nat.le_of_ble_eq_true rfl)⟩) hP hD hS hA (fun u H9 locs9 hu hP9 hD9 hS9 hzz hkk => ?_)
    clear hzz hkk hP hD hS H locs u
    revert hS9 hD9 hP9 locs9 H9
    intro H locs hP hD hS
    replace hM : MOk (put S 7 7 v2) := hu
    clear hu
    replace hP : va_P (kD E) kcl (mW E Ad (put S 7 7 v2)) H := hP
    replace hD : va_D A (mW E Ad (put S 7 7 v2)) := hD
    show W p l e _ s m args below meth c H locs _ _ Q (F0 m 17 ls [.int (zI (b2 (0 < v2)))])
    refine kz_if0B (tgt := 22) hx hb dX3_teach_17 (by decide) (fun c17 => ?_) (fun c17 => ?_)
    · skip
      obtain rfl : v2 = 0 := by omega
      have hsb := hI.st k (by omega) (by omega)
      refine lv_aload_n hx hb dX3_teach_22 rfl (lv_at hl 0 rfl) ?_
      refine lv_iload_n hx hb dX3_teach_23 rfl (lv_at hl 1 rfl) ?_
      refine kz_backM (va_runV (As := [.int (zI (k))]) (rest := []) ⟨hx, hb, hml, hown, hts⟩ (mX3_isSunk l E H.size Ad (put S 7 7 0) hM k (by omega) (show 0 ≤ k ∧ k < 10 by first | omega | exact hI.st _ (by omega) (by omega) | exact hI.rv _ (by omega) (by omega) | exact hI)) (cwV 1 hts (lw_V q2480 q2482 qs50 q83 q2483) rfl rfl rfl (by decide +kernel) ⟨(Nat.le_of_ble_eq_true rfl), (Nat.le_of_ble_eq_true rfl)⟩) (kz_preVM (wc := mW E Ad (put S 7 7 0)) (va_recv hK hP (ci := 2) (q0 := 0) rfl rfl) hG hS hAN hP hD kz_nilP kz_nilA) rfl rfl hl.1 rfl (lv_room (Nat.le_of_ble_eq_true rfl)) dX3_teach_24 ⟨(Nat.le_of_ble_eq_true rfl), (Nat.le_of_ble_eq_true rfl)⟩) hP hD hS hA (fun u H9 locs9 hu hP9 hD9 hS9 hzz hkk => ?_)
      clear hzz hkk hP hD hS H locs u
      revert hS9 hD9 hP9 locs9 H9
      intro H locs hP hD hS
      clear hu
      replace hP : va_P (kD E) kcl (mW E Ad (put S 7 7 0)) H := hP
      replace hD : va_D A (mW E Ad (put S 7 7 0)) := hD
      show W p l e _ s m args below meth c H locs _ _ Q (F0 m 27 ls [.int (zI (b2 ((S 0 ((10 + 14 * k + 5))) = -2)))])
      refine kz_if0B (tgt := 44) hx hb dX3_teach_27 (by decide) (fun c27 => ?_) (fun c27 => ?_)
      · skip
        refine lv_aload_n hx hb dX3_teach_44 rfl (lv_at hl 0 rfl) ?_
        refine lv_iload_n hx hb dX3_teach_45 rfl (lv_at hl 1 rfl) ?_
        refine kz_bipush hx hb dX3_teach_46 (by decide) ?_
        refine kz_backM (va_runV (As := [.int (zI (k)), .int (zI (8))]) (rest := []) ⟨hx, hb, hml, hown, hts⟩ (mX3_of l E H.size Ad (put S 7 7 0) hM k (by omega) 8 (by omega) (show 0 ≤ k ∧ k < 10 by first | omega | exact hI.st _ (by omega) (by omega) | exact hI.rv _ (by omega) (by omega) | exact hI) (show 0 ≤ 8 ∧ 8 < 14 by first | omega | exact hI.st _ (by omega) (by omega) | exact hI.rv _ (by omega) (by omega) | exact hI)) (cwV 2 hts (lw_V q2441 q2443 qs44 q83 q2444) rfl rfl rfl (by decide +kernel) ⟨(Nat.le_of_ble_eq_true rfl), (Nat.le_of_ble_eq_true rfl)⟩) (kz_preVM (wc := mW E Ad (put S 7 7 0)) (va_recv hK hP (ci := 2) (q0 := 0) rfl rfl) hG hS hAN hP hD kz_nilP kz_nilA) rfl rfl hl.1 rfl (lv_room (Nat.le_of_ble_eq_true rfl)) dX3_teach_48 ⟨(Nat.le_of_ble_eq_true rfl), (Nat.le_of_ble_eq_true rfl)⟩) hP hD hS hA (fun u H9 locs9 hu hP9 hD9 hS9 hzz hkk => ?_)
        clear hzz hkk hP hD hS H locs u
        revert hS9 hD9 hP9 locs9 H9
        intro H locs hP hD hS
        have r3 : rI ((S 0 ((10 + 14 * k + 8)))) := hu
        clear hu
        replace hP : va_P (kD E) kcl (mW E Ad (put S 7 7 0)) H := hP
        replace hD : va_D A (mW E Ad (put S 7 7 0)) := hD
        show W p l e _ s m args below meth c H locs _ _ Q (F0 m 51 ls [.int (zI ((S 0 ((10 + 14 * k + 8)))))])
        refine lv_aload_n hx hb dX3_teach_51 rfl (lv_at hl 0 rfl) ?_
        refine va_get (D := kD E) (ci := 2) (fs := mO Ad (put S 7 7 0)) (v := .ref (Ad 1)) (C := RX3) (T := TX3) (N := 19) hx hb hts in_X3 hown hK hP 0 rfl rfl 0 (by decide) (hts _ q2320) (fun _ h9 => h9) rfl dX3_teach_52 ?_
        refine kz_iconst hx hb dX3_teach_55 ?_
        refine kz_iald (cA := kA E 0) (n := 304) (g := S 0) hx hb hK hP 1 0 rfl rfl (by omega) dX3_teach_56 ?_
        have r4 : rI (S 0 2) := hM 0 2
        refine kz_icmp_ne (tgt := 74) hx hb dX3_teach_57 (by decide) (by omega) (by omega) (fun c57 => ?_) (fun c57 => ?_)
        · skip
          refine lv_aload_n hx hb dX3_teach_74 rfl (lv_at hl 0 rfl) ?_
          refine lv_iload_n hx hb dX3_teach_75 rfl (lv_at hl 1 rfl) ?_
          refine kz_iconst hx hb dX3_teach_76 ?_
          refine kz_backM (va_runV (As := [.int (zI (k)), .int (zI (2))]) (rest := []) ⟨hx, hb, hml, hown, hts⟩ (mX3_of l E H.size Ad (put S 7 7 0) hM k (by omega) 2 (by omega) (show 0 ≤ k ∧ k < 10 by first | omega | exact hI.st _ (by omega) (by omega) | exact hI.rv _ (by omega) (by omega) | exact hI) (show 0 ≤ 2 ∧ 2 < 14 by first | omega | exact hI.st _ (by omega) (by omega) | exact hI.rv _ (by omega) (by omega) | exact hI)) (cwV 2 hts (lw_V q2441 q2443 qs44 q83 q2444) rfl rfl rfl (by decide +kernel) ⟨(Nat.le_of_ble_eq_true rfl), (Nat.le_of_ble_eq_true rfl)⟩) (kz_preVM (wc := mW E Ad (put S 7 7 0)) (va_recv hK hP (ci := 2) (q0 := 0) rfl rfl) hG hS hAN hP hD kz_nilP kz_nilA) rfl rfl hl.1 rfl (lv_room (Nat.le_of_ble_eq_true rfl)) dX3_teach_77 ⟨(Nat.le_of_ble_eq_true rfl), (Nat.le_of_ble_eq_true rfl)⟩) hP hD hS hA (fun u H9 locs9 hu hP9 hD9 hS9 hzz hkk => ?_)
          clear hzz hkk hP hD hS H locs u
          revert hS9 hD9 hP9 locs9 H9
          intro H locs hP hD hS
          have r5 : rI ((S 0 ((10 + 14 * k + 2)))) := hu
          clear hu
          replace hP : va_P (kD E) kcl (mW E Ad (put S 7 7 0)) H := hP
          replace hD : va_D A (mW E Ad (put S 7 7 0)) := hD
          show W p l e _ s m args below meth c H locs _ _ Q (F0 m 80 ls [.int (zI ((S 0 ((10 + 14 * k + 2)))))])
          refine kz_bipush hx hb dX3_teach_80 (by decide) ?_
          refine kz_icmp_ne (tgt := 95) hx hb dX3_teach_82 (by decide) (by omega) (by omega) (fun c82 => ?_) (fun c82 => ?_)
          · skip
            refine lv_aload_n hx hb dX3_teach_95 rfl (lv_at hl 0 rfl) ?_
            refine lv_aload_n hx hb dX3_teach_96 rfl (lv_at hl 0 rfl) ?_
            refine va_get (D := kD E) (ci := 2) (fs := mO Ad (put S 7 7 0)) (v := .ref (Ad 1)) (C := RX3) (T := TX3) (N := 19) hx hb hts in_X3 hown hK hP 0 rfl rfl 0 (by decide) (hts _ q2320) (fun _ h9 => h9) rfl dX3_teach_97 ?_
            refine kz_backM (va_runV (As := [.ref (Ad 1)]) (rest := []) ⟨hx, hb, hml, hown, hts⟩ (mX3_keeps l E H.size Ad (put S 7 7 0) hM (show 0 ≤ (S 7 5) ∧ (S 7 5) ≤ 8 by first | omega | exact hI.st _ (by omega) (by omega) | exact hI.rv _ (by omega) (by omega) | exact hI)) (cwV 1 hts (lw_V q2402 q2404 qs38 q83 q2405) rfl rfl rfl (by decide +kernel) ⟨(Nat.le_of_ble_eq_true rfl), (Nat.le_of_ble_eq_true rfl)⟩) (kz_preVM (wc := mW E Ad (put S 7 7 0)) (va_recv hK hP (ci := 2) (q0 := 0) rfl rfl) hG hS hAN hP hD kz_nilP kz_nilA) rfl rfl hl.1 rfl (lv_room (Nat.le_of_ble_eq_true rfl)) dX3_teach_100 ⟨(Nat.le_of_ble_eq_true rfl), (Nat.le_of_ble_eq_true rfl)⟩) hP hD hS hA (fun u H9 locs9 hu hP9 hD9 hS9 hzz hkk => ?_)
            clear hzz hkk hP hD hS H locs u
            revert hS9 hD9 hP9 locs9 H9
            intro H locs hP hD hS
            replace hM : MOk (mKeeps (put S 7 7 0) 0) := hu
            clear hu
            replace hP : va_P (kD E) kcl (mW E Ad (mKeeps (put S 7 7 0) 0)) H := hP
            replace hD : va_D A (mW E Ad (mKeeps (put S 7 7 0) 0)) := hD
            show W p l e _ s m args below meth c H locs _ _ Q (F0 m 103 ls [])
            refine lv_aload_n hx hb dX3_teach_103 rfl (lv_at hl 0 rfl) ?_
            refine lv_iload_n hx hb dX3_teach_104 rfl (lv_at hl 1 rfl) ?_
            refine kz_iconst hx hb dX3_teach_105 ?_
            refine lv_aload_n hx hb dX3_teach_106 rfl (lv_at hl 0 rfl) ?_
            refine lv_iload_n hx hb dX3_teach_107 rfl (lv_at hl 1 rfl) ?_
            refine kz_iconst hx hb dX3_teach_108 ?_
            refine kz_backM (va_runV (As := [.int (zI (k)), .int (zI (2))]) (rest := [.int (zI (2)), .int (zI (k)), .ref (Ad 0)]) ⟨hx, hb, hml, hown, hts⟩ (mX3_of l E H.size Ad (mKeeps (put S 7 7 0) 0) hM k (by omega) 2 (by omega) (show 0 ≤ k ∧ k < 10 by first | omega | exact hI.st _ (by omega) (by omega) | exact hI.rv _ (by omega) (by omega) | exact hI) (show 0 ≤ 2 ∧ 2 < 14 by first | omega | exact hI.st _ (by omega) (by omega) | exact hI.rv _ (by omega) (by omega) | exact hI)) (cwV 2 hts (lw_V q2441 q2443 qs44 q83 q2444) rfl rfl rfl (by decide +kernel) ⟨(Nat.le_of_ble_eq_true rfl), (Nat.le_of_ble_eq_true rfl)⟩) (kz_preVM (wc := mW E Ad (mKeeps (put S 7 7 0) 0)) (va_recv hK hP (ci := 2) (q0 := 0) rfl rfl) hG hS hAN hP hD kz_nilP kz_nilA) rfl rfl hl.1 rfl (lv_room (Nat.le_of_ble_eq_true rfl)) dX3_teach_109 ⟨(Nat.le_of_ble_eq_true rfl), (Nat.le_of_ble_eq_true rfl)⟩) hP hD hS hA (fun u H9 locs9 hu hP9 hD9 hS9 hzz hkk => ?_)
            clear hzz hkk hP hD hS H locs u
            revert hS9 hD9 hP9 locs9 H9
            intro H locs hP hD hS
            have r6 : rI ((S 0 ((10 + 14 * k + 2)))) := hu
            clear hu
            replace hP : va_P (kD E) kcl (mW E Ad (mKeeps (put S 7 7 0) 0)) H := hP
            replace hD : va_D A (mW E Ad (mKeeps (put S 7 7 0) 0)) := hD
            show W p l e _ s m args below meth c H locs _ _ Q (F0 m 112 ls [.int (zI ((S 0 ((10 + 14 * k + 2))))), .int (zI (2)), .int (zI (k)), .ref (Ad 0)])
            refine kz_iconst hx hb dX3_teach_112 ?_
            refine kz_iadd hx hb dX3_teach_113 ?_
            refine lv_aload_n hx hb dX3_teach_114 rfl (lv_at hl 0 rfl) ?_
            refine lv_iload_n hx hb dX3_teach_115 rfl (lv_at hl 1 rfl) ?_
            refine kz_iconst hx hb dX3_teach_116 ?_
            refine kz_backM (va_runV (As := [.int (zI (k)), .int (zI (0))]) (rest := [.int (zI (((S 0 ((10 + 14 * k + 2)))) + 1)), .int (zI (2)), .int (zI (k)), .ref (Ad 0)]) ⟨hx, hb, hml, hown, hts⟩ (mX3_of l E H.size Ad (mKeeps (put S 7 7 0) 0) hM k (by omega) 0 (by omega) (show 0 ≤ k ∧ k < 10 by first | omega | exact hI.st _ (by omega) (by omega) | exact hI.rv _ (by omega) (by omega) | exact hI) (show 0 ≤ 0 ∧ 0 < 14 by first | omega | exact hI.st _ (by omega) (by omega) | exact hI.rv _ (by omega) (by omega) | exact hI)) (cwV 2 hts (lw_V q2441 q2443 qs44 q83 q2444) rfl rfl rfl (by decide +kernel) ⟨(Nat.le_of_ble_eq_true rfl), (Nat.le_of_ble_eq_true rfl)⟩) (kz_preVM (wc := mW E Ad (mKeeps (put S 7 7 0) 0)) (va_recv hK hP (ci := 2) (q0 := 0) rfl rfl) hG hS hAN hP hD kz_nilP kz_nilA) rfl rfl hl.1 rfl (lv_room (Nat.le_of_ble_eq_true rfl)) dX3_teach_117 ⟨(Nat.le_of_ble_eq_true rfl), (Nat.le_of_ble_eq_true rfl)⟩) hP hD hS hA (fun u H9 locs9 hu hP9 hD9 hS9 hzz hkk => ?_)
            clear hzz hkk hP hD hS H locs u
            revert hS9 hD9 hP9 locs9 H9
            intro H locs hP hD hS
            have r7 : rI ((S 0 ((10 + 14 * k + 0)))) := hu
            clear hu
            replace hP : va_P (kD E) kcl (mW E Ad (mKeeps (put S 7 7 0) 0)) H := hP
            replace hD : va_D A (mW E Ad (mKeeps (put S 7 7 0) 0)) := hD
            show W p l e _ s m args below meth c H locs _ _ Q (F0 m 120 ls [.int (zI ((S 0 ((10 + 14 * k + 0))))), .int (zI (((S 0 ((10 + 14 * k + 2)))) + 1)), .int (zI (2)), .int (zI (k)), .ref (Ad 0)])
            refine kz_iconst hx hb dX3_teach_120 ?_
            refine kz_idiv hx hb dX3_teach_121 (by omega) ?_
            refine kz_iadd hx hb dX3_teach_122 ?_
            refine kz_bipush hx hb dX3_teach_123 (by decide) ?_
            refine kz_back (wc := []) (wx := (mW E Ad (mKeeps (put S 7 7 0) 0))) (va_runS (As := [.int (zI ((((S 0 ((10 + 14 * k + 2)))) + 1) + (((S 0 ((10 + 14 * k + 0)))) / 2))), .int (zI (99))]) (rest := [.int (zI (2)), .int (zI (k)), .ref (Ad 0)]) ⟨hx, hb, hml, hown, hts⟩ (mX3_atMost l E H.size ((((S 0 ((10 + 14 * k + 2)))) + 1) + (((S 0 ((10 + 14 * k + 0)))) / 2)) (by omega) 99 (by omega)) (va_cwS 2 hts (lw_S q2500 q2501 q83 q2502) rfl rfl rfl (by decide +kernel) ⟨(Nat.le_of_ble_eq_true rfl), (Nat.le_of_ble_eq_true rfl)⟩) (kz_pre (wc := []) (wx := (mW E Ad (mKeeps (put S 7 7 0) 0))) hG hS hAN hP hD kz_nilP kz_nilA) rfl rfl hl.1 rfl (lv_room (Nat.le_of_ble_eq_true rfl)) dX3_teach_125 ⟨(Nat.le_of_ble_eq_true rfl), (Nat.le_of_ble_eq_true rfl)⟩) hP hD hS hA (fun u H9 locs9 hu hP9 hD9 hS9 hzz hkk => ?_)
            clear hzz hkk hP hD hS H locs u
            revert hS9 hD9 hP9 locs9 H9
            intro H locs hP hD hS
            have r8 : rI (min ((((S 0 ((10 + 14 * k + 2)))) + 1) + (((S 0 ((10 + 14 * k + 0)))) / 2)) 99) := hu
            clear hu
            replace hP : va_P (kD E) kcl (mW E Ad (mKeeps (put S 7 7 0) 0)) H := hP
            replace hD : va_D A (mW E Ad (mKeeps (put S 7 7 0) 0)) := hD
            show W p l e _ s m args below meth c H locs _ _ Q (F0 m 128 ls [.int (zI (min ((((S 0 ((10 + 14 * k + 2)))) + 1) + (((S 0 ((10 + 14 * k + 0)))) / 2)) 99)), .int (zI (2)), .int (zI (k)), .ref (Ad 0)])
            refine kz_backM (va_runV (As := [.int (zI (k)), .int (zI (2)), .int (zI (min ((((S 0 ((10 + 14 * k + 2)))) + 1) + (((S 0 ((10 + 14 * k + 0)))) / 2)) 99))]) (rest := []) ⟨hx, hb, hml, hown, hts⟩ (mX3_lays l E H.size Ad (mKeeps (put S 7 7 0) 0) hM k (by omega) 2 (by omega) (min ((((S 0 ((10 + 14 * k + 2)))) + 1) + (((S 0 ((10 + 14 * k + 0)))) / 2)) 99) (by omega) (show 0 ≤ k ∧ k < 10 by first | omega | exact hI.st _ (by omega) (by omega) | exact hI.rv _ (by omega) (by omega) | exact hI) (show 0 ≤ 2 ∧ 2 < 14 by first | omega | exact hI.st _ (by omega) (by omega) | exact hI.rv _ (by omega) (by omega) | exact hI)) (cwV 3 hts (lw_V q2409 q2411 qs39 q83 q2412) rfl rfl rfl (by decide +kernel) ⟨(Nat.le_of_ble_eq_true rfl), (Nat.le_of_ble_eq_true rfl)⟩) (kz_preVM (wc := mW E Ad (mKeeps (put S 7 7 0) 0)) (va_recv hK hP (ci := 2) (q0 := 0) rfl rfl) hG hS hAN hP hD kz_nilP kz_nilA) rfl rfl hl.1 rfl (lv_room (Nat.le_of_ble_eq_true rfl)) dX3_teach_128 ⟨(Nat.le_of_ble_eq_true rfl), (Nat.le_of_ble_eq_true rfl)⟩) hP hD hS hA (fun u H9 locs9 hu hP9 hD9 hS9 hzz hkk => ?_)
            clear hzz hkk hP hD hS H locs u
            revert hS9 hD9 hP9 locs9 H9
            intro H locs hP hD hS
            replace hM : MOk (put (mKeeps (put S 7 7 0) 0) 0 (10 + 14 * k + 2) ((min ((((S 0 ((10 + 14 * k + 2)))) + 1) + (((S 0 ((10 + 14 * k + 0)))) / 2)) 99))) := hu
            clear hu
            replace hP : va_P (kD E) kcl (mW E Ad (put (mKeeps (put S 7 7 0) 0) 0 (10 + 14 * k + 2) ((min ((((S 0 ((10 + 14 * k + 2)))) + 1) + (((S 0 ((10 + 14 * k + 0)))) / 2)) 99)))) H := hP
            replace hD : va_D A (mW E Ad (put (mKeeps (put S 7 7 0) 0) 0 (10 + 14 * k + 2) ((min ((((S 0 ((10 + 14 * k + 2)))) + 1) + (((S 0 ((10 + 14 * k + 0)))) / 2)) 99)))) := hD
            show W p l e _ s m args below meth c H locs _ _ Q (F0 m 131 ls [])
            refine lv_aload_n hx hb dX3_teach_131 rfl (lv_at hl 0 rfl) ?_
            refine lv_iload_n hx hb dX3_teach_132 rfl (lv_at hl 1 rfl) ?_
            refine kz_bipush hx hb dX3_teach_133 (by decide) ?_
            refine lv_aload_n hx hb dX3_teach_135 rfl (lv_at hl 0 rfl) ?_
            refine va_get (D := kD E) (ci := 2) (fs := mO Ad (put (mKeeps (put S 7 7 0) 0) 0 (10 + 14 * k + 2) ((min ((((S 0 ((10 + 14 * k + 2)))) + 1) + (((S 0 ((10 + 14 * k + 0)))) / 2)) 99)))) (v := .ref (Ad 1)) (C := RX3) (T := TX3) (N := 19) hx hb hts in_X3 hown hK hP 0 rfl rfl 0 (by decide) (hts _ q2320) (fun _ h9 => h9) rfl dX3_teach_136 ?_
            refine kz_iconst hx hb dX3_teach_139 ?_
            refine kz_iald (cA := kA E 0) (n := 304) (g := (put (mKeeps (put S 7 7 0) 0) 0 (10 + 14 * k + 2) ((min ((((S 0 ((10 + 14 * k + 2)))) + 1) + (((S 0 ((10 + 14 * k + 0)))) / 2)) 99))) 0) hx hb hK hP 1 0 rfl rfl (by omega) dX3_teach_140 ?_
            have r9 : rI ((put (mKeeps (put S 7 7 0) 0) 0 (10 + 14 * k + 2) ((min ((((S 0 ((10 + 14 * k + 2)))) + 1) + (((S 0 ((10 + 14 * k + 0)))) / 2)) 99))) 0 2) := hM 0 2
            have q10 : (put (mKeeps (put S 7 7 0) 0) 0 (10 + 14 * k + 2) ((min ((((S 0 ((10 + 14 * k + 2)))) + 1) + (((S 0 ((10 + 14 * k + 0)))) / 2)) 99))) 0 2 = S 0 2 := by
              show uz ((mKeeps (put S 7 7 0) 0) 0) (10 + 14 * k + 2) ((min ((((S 0 ((10 + 14 * k + 2)))) + 1) + (((S 0 ((10 + 14 * k + 0)))) / 2)) 99)) 2 = _
              rw [uz_n (by omega)]
              all_goals rfl
            rw [q10]
            rw [q10] at r9
            refine kz_backM (va_runV (As := [.int (zI (k)), .int (zI (8)), .int (zI (S 0 2))]) (rest := []) ⟨hx, hb, hml, hown, hts⟩ (mX3_lays l E H.size Ad (put (mKeeps (put S 7 7 0) 0) 0 (10 + 14 * k + 2) ((min ((((S 0 ((10 + 14 * k + 2)))) + 1) + (((S 0 ((10 + 14 * k + 0)))) / 2)) 99))) hM k (by omega) 8 (by omega) (S 0 2) (by omega) (show 0 ≤ k ∧ k < 10 by first | omega | exact hI.st _ (by omega) (by omega) | exact hI.rv _ (by omega) (by omega) | exact hI) (show 0 ≤ 8 ∧ 8 < 14 by first | omega | exact hI.st _ (by omega) (by omega) | exact hI.rv _ (by omega) (by omega) | exact hI)) (cwV 3 hts (lw_V q2409 q2411 qs39 q83 q2412) rfl rfl rfl (by decide +kernel) ⟨(Nat.le_of_ble_eq_true rfl), (Nat.le_of_ble_eq_true rfl)⟩) (kz_preVM (wc := mW E Ad (put (mKeeps (put S 7 7 0) 0) 0 (10 + 14 * k + 2) ((min ((((S 0 ((10 + 14 * k + 2)))) + 1) + (((S 0 ((10 + 14 * k + 0)))) / 2)) 99)))) (va_recv hK hP (ci := 2) (q0 := 0) rfl rfl) hG hS hAN hP hD kz_nilP kz_nilA) rfl rfl hl.1 rfl (lv_room (Nat.le_of_ble_eq_true rfl)) dX3_teach_141 ⟨(Nat.le_of_ble_eq_true rfl), (Nat.le_of_ble_eq_true rfl)⟩) hP hD hS hA (fun u H9 locs9 hu hP9 hD9 hS9 hzz hkk => ?_)
            clear hzz hkk hP hD hS H locs u
            revert hS9 hD9 hP9 locs9 H9
            intro H locs hP hD hS
            replace hM : MOk (put (put (mKeeps (put S 7 7 0) 0) 0 (10 + 14 * k + 2) ((min ((((S 0 ((10 + 14 * k + 2)))) + 1) + (((S 0 ((10 + 14 * k + 0)))) / 2)) 99))) 0 (10 + 14 * k + 8) ((S 0 2))) := hu
            clear hu
            replace hP : va_P (kD E) kcl (mW E Ad (put (put (mKeeps (put S 7 7 0) 0) 0 (10 + 14 * k + 2) ((min ((((S 0 ((10 + 14 * k + 2)))) + 1) + (((S 0 ((10 + 14 * k + 0)))) / 2)) 99))) 0 (10 + 14 * k + 8) ((S 0 2)))) H := hP
            replace hD : va_D A (mW E Ad (put (put (mKeeps (put S 7 7 0) 0) 0 (10 + 14 * k + 2) ((min ((((S 0 ((10 + 14 * k + 2)))) + 1) + (((S 0 ((10 + 14 * k + 0)))) / 2)) 99))) 0 (10 + 14 * k + 8) ((S 0 2)))) := hD
            show W p l e _ s m args below meth c H locs _ _ Q (F0 m 144 ls [])
            refine lv_aload_n hx hb dX3_teach_144 rfl (lv_at hl 0 rfl) ?_
            refine va_get (D := kD E) (ci := 2) (fs := mO Ad (put (put (mKeeps (put S 7 7 0) 0) 0 (10 + 14 * k + 2) ((min ((((S 0 ((10 + 14 * k + 2)))) + 1) + (((S 0 ((10 + 14 * k + 0)))) / 2)) 99))) 0 (10 + 14 * k + 8) ((S 0 2)))) (v := .ref (Ad 1)) (C := RX3) (T := TX3) (N := 19) hx hb hts in_X3 hown hK hP 0 rfl rfl 0 (by decide) (hts _ q2320) (fun _ h9 => h9) rfl dX3_teach_145 ?_
            refine kz_iconst hx hb dX3_teach_148 ?_
            refine lv_dup2_11 hx hb dX3_teach_149 rfl rfl ?_
            refine kz_iald (cA := kA E 0) (n := 304) (g := (put (put (mKeeps (put S 7 7 0) 0) 0 (10 + 14 * k + 2) ((min ((((S 0 ((10 + 14 * k + 2)))) + 1) + (((S 0 ((10 + 14 * k + 0)))) / 2)) 99))) 0 (10 + 14 * k + 8) ((S 0 2))) 0) hx hb hK hP 1 0 rfl rfl (by omega) dX3_teach_150 ?_
            have r11 : rI ((put (put (mKeeps (put S 7 7 0) 0) 0 (10 + 14 * k + 2) ((min ((((S 0 ((10 + 14 * k + 2)))) + 1) + (((S 0 ((10 + 14 * k + 0)))) / 2)) 99))) 0 (10 + 14 * k + 8) ((S 0 2))) 0 3) := hM 0 3
            have q12 : (put (put (mKeeps (put S 7 7 0) 0) 0 (10 + 14 * k + 2) ((min ((((S 0 ((10 + 14 * k + 2)))) + 1) + (((S 0 ((10 + 14 * k + 0)))) / 2)) 99))) 0 (10 + 14 * k + 8) ((S 0 2))) 0 3 = S 0 3 := by
              show uz ((put (mKeeps (put S 7 7 0) 0) 0 (10 + 14 * k + 2) ((min ((((S 0 ((10 + 14 * k + 2)))) + 1) + (((S 0 ((10 + 14 * k + 0)))) / 2)) 99))) 0) (10 + 14 * k + 8) ((S 0 2)) 3 = _
              rw [uz_n (by omega)]
              show uz ((mKeeps (put S 7 7 0) 0) 0) (10 + 14 * k + 2) ((min ((((S 0 ((10 + 14 * k + 2)))) + 1) + (((S 0 ((10 + 14 * k + 0)))) / 2)) 99)) 3 = _
              rw [uz_n (by omega)]
              all_goals rfl
            rw [q12]
            rw [q12] at r11
            refine kz_iconst hx hb dX3_teach_151 ?_
            refine kz_iadd hx hb dX3_teach_152 ?_
            refine kz_iast (cA := kA E 0) (n := 304) (g := (put (put (mKeeps (put S 7 7 0) 0) 0 (10 + 14 * k + 2) ((min ((((S 0 ((10 + 14 * k + 2)))) + 1) + (((S 0 ((10 + 14 * k + 0)))) / 2)) 99))) 0 (10 + 14 * k + 8) ((S 0 2))) 0) hx hb hK hP hD hS 1 0 rfl rfl (by omega) dX3_teach_153 (fun H9 locs9 hP9 hD9 hS9 => ?_)
            rw [mW_a0] at hP9 hD9
            clear hP hD hS H locs
            revert hS9 hD9 hP9 locs9 H9
            intro H locs hP hD hS
            replace hP : va_P (kD E) kcl (mW E Ad (put (put (put (mKeeps (put S 7 7 0) 0) 0 (10 + 14 * k + 2) ((min ((((S 0 ((10 + 14 * k + 2)))) + 1) + (((S 0 ((10 + 14 * k + 0)))) / 2)) 99))) 0 (10 + 14 * k + 8) ((S 0 2))) 0 3 ((S 0 3) + 1))) H := hP
            replace hD : va_D A (mW E Ad (put (put (put (mKeeps (put S 7 7 0) 0) 0 (10 + 14 * k + 2) ((min ((((S 0 ((10 + 14 * k + 2)))) + 1) + (((S 0 ((10 + 14 * k + 0)))) / 2)) 99))) 0 (10 + 14 * k + 8) ((S 0 2))) 0 3 ((S 0 3) + 1))) := hD
            replace hM : MOk (put (put (put (mKeeps (put S 7 7 0) 0) 0 (10 + 14 * k + 2) ((min ((((S 0 ((10 + 14 * k + 2)))) + 1) + (((S 0 ((10 + 14 * k + 0)))) / 2)) 99))) 0 (10 + 14 * k + 8) ((S 0 2))) 0 3 ((S 0 3) + 1)) := hM.put 0 _ (by omega)
            refine lv_aload_n hx hb dX3_teach_154 rfl (lv_at hl 0 rfl) ?_
            refine lv_iload_n hx hb dX3_teach_155 rfl (lv_at hl 1 rfl) ?_
            refine kz_iconst hx hb dX3_teach_156 ?_
            refine kz_backM (va_runV (As := [.int (zI (k)), .int (zI (2))]) (rest := []) ⟨hx, hb, hml, hown, hts⟩ (mX3_of l E H.size Ad (put (put (put (mKeeps (put S 7 7 0) 0) 0 (10 + 14 * k + 2) ((min ((((S 0 ((10 + 14 * k + 2)))) + 1) + (((S 0 ((10 + 14 * k + 0)))) / 2)) 99))) 0 (10 + 14 * k + 8) ((S 0 2))) 0 3 ((S 0 3) + 1)) hM k (by omega) 2 (by omega) (show 0 ≤ k ∧ k < 10 by first | omega | exact hI.st _ (by omega) (by omega) | exact hI.rv _ (by omega) (by omega) | exact hI) (show 0 ≤ 2 ∧ 2 < 14 by first | omega | exact hI.st _ (by omega) (by omega) | exact hI.rv _ (by omega) (by omega) | exact hI)) (cwV 2 hts (lw_V q2441 q2443 qs44 q83 q2444) rfl rfl rfl (by decide +kernel) ⟨(Nat.le_of_ble_eq_true rfl), (Nat.le_of_ble_eq_true rfl)⟩) (kz_preVM (wc := mW E Ad (put (put (put (mKeeps (put S 7 7 0) 0) 0 (10 + 14 * k + 2) ((min ((((S 0 ((10 + 14 * k + 2)))) + 1) + (((S 0 ((10 + 14 * k + 0)))) / 2)) 99))) 0 (10 + 14 * k + 8) ((S 0 2))) 0 3 ((S 0 3) + 1))) (va_recv hK hP (ci := 2) (q0 := 0) rfl rfl) hG hS hAN hP hD kz_nilP kz_nilA) rfl rfl hl.1 rfl (lv_room (Nat.le_of_ble_eq_true rfl)) dX3_teach_157 ⟨(Nat.le_of_ble_eq_true rfl), (Nat.le_of_ble_eq_true rfl)⟩) hP hD hS hA (fun u H9 locs9 hu hP9 hD9 hS9 hzz hkk => ?_)
            clear hzz hkk hP hD hS H locs u
            revert hS9 hD9 hP9 locs9 H9
            intro H locs hP hD hS
            have r13 : rI (((put (put (put (mKeeps (put S 7 7 0) 0) 0 (10 + 14 * k + 2) ((min ((((S 0 ((10 + 14 * k + 2)))) + 1) + (((S 0 ((10 + 14 * k + 0)))) / 2)) 99))) 0 (10 + 14 * k + 8) ((S 0 2))) 0 3 ((S 0 3) + 1)) 0 ((10 + 14 * k + 2)))) := hu
            clear hu
            replace hP : va_P (kD E) kcl (mW E Ad (put (put (put (mKeeps (put S 7 7 0) 0) 0 (10 + 14 * k + 2) ((min ((((S 0 ((10 + 14 * k + 2)))) + 1) + (((S 0 ((10 + 14 * k + 0)))) / 2)) 99))) 0 (10 + 14 * k + 8) ((S 0 2))) 0 3 ((S 0 3) + 1))) H := hP
            replace hD : va_D A (mW E Ad (put (put (put (mKeeps (put S 7 7 0) 0) 0 (10 + 14 * k + 2) ((min ((((S 0 ((10 + 14 * k + 2)))) + 1) + (((S 0 ((10 + 14 * k + 0)))) / 2)) 99))) 0 (10 + 14 * k + 8) ((S 0 2))) 0 3 ((S 0 3) + 1))) := hD
            show W p l e _ s m args below meth c H locs _ _ Q (F0 m 160 ls [.int (zI (((put (put (put (mKeeps (put S 7 7 0) 0) 0 (10 + 14 * k + 2) ((min ((((S 0 ((10 + 14 * k + 2)))) + 1) + (((S 0 ((10 + 14 * k + 0)))) / 2)) 99))) 0 (10 + 14 * k + 8) ((S 0 2))) 0 3 ((S 0 3) + 1)) 0 ((10 + 14 * k + 2)))))])
            have q14 : (put (put (put (mKeeps (put S 7 7 0) 0) 0 (10 + 14 * k + 2) ((min ((((S 0 ((10 + 14 * k + 2)))) + 1) + (((S 0 ((10 + 14 * k + 0)))) / 2)) 99))) 0 (10 + 14 * k + 8) ((S 0 2))) 0 3 ((S 0 3) + 1)) 0 (10 + 14 * k + 2) = (min ((((S 0 ((10 + 14 * k + 2)))) + 1) + (((S 0 ((10 + 14 * k + 0)))) / 2)) 99) := by
              show uz ((put (put (mKeeps (put S 7 7 0) 0) 0 (10 + 14 * k + 2) ((min ((((S 0 ((10 + 14 * k + 2)))) + 1) + (((S 0 ((10 + 14 * k + 0)))) / 2)) 99))) 0 (10 + 14 * k + 8) ((S 0 2))) 0) 3 ((S 0 3) + 1) (10 + 14 * k + 2) = _
              rw [uz_n (by omega)]
              show uz ((put (mKeeps (put S 7 7 0) 0) 0 (10 + 14 * k + 2) ((min ((((S 0 ((10 + 14 * k + 2)))) + 1) + (((S 0 ((10 + 14 * k + 0)))) / 2)) 99))) 0) (10 + 14 * k + 8) ((S 0 2)) (10 + 14 * k + 2) = _
              rw [uz_n (by omega)]
              show uz ((mKeeps (put S 7 7 0) 0) 0) (10 + 14 * k + 2) ((min ((((S 0 ((10 + 14 * k + 2)))) + 1) + (((S 0 ((10 + 14 * k + 0)))) / 2)) 99)) (10 + 14 * k + 2) = _
              exact uz_s _ _ _
            rw [q14]
            have e0 : xTeach S k = (put (put (put (mKeeps (put S 7 7 0) 0) 0 (10 + 14 * k + 2) ((min ((((S 0 ((10 + 14 * k + 2)))) + 1) + (((S 0 ((10 + 14 * k + 0)))) / 2)) 99))) 0 (10 + 14 * k + 8) ((S 0 2))) 0 3 ((S 0 3) + 1), (min ((((S 0 ((10 + 14 * k + 2)))) + 1) + (((S 0 ((10 + 14 * k + 0)))) / 2)) 99)) := by unfold xTeach gTeach; (repeat (first | refine Eq.trans (if_pos (by omega)) ?_ | refine Eq.trans (if_neg (by omega)) ?_)); (try simp only [putR_put _ 0, putR_putR, putR_at]); all_goals rfl
            have e1 : (xTeach S k).2 = (min ((((S 0 ((10 + 14 * k + 2)))) + 1) + (((S 0 ((10 + 14 * k + 0)))) / 2)) 99) := by rw [e0]
            have e3 : (xTeach S k).1 = put (put (put (mKeeps (put S 7 7 0) 0) 0 (10 + 14 * k + 2) ((min ((((S 0 ((10 + 14 * k + 2)))) + 1) + (((S 0 ((10 + 14 * k + 0)))) / 2)) 99))) 0 (10 + 14 * k + 8) ((S 0 2))) 0 3 ((S 0 3) + 1) := by rw [e0]
            exact kz_iret () hx hb hr hlk hP hD hS dX3_teach_160 (congrArg (fun z : Int => some (Value.int (zI z))) e1) ⟨(kz_r e1 (by omega)), (kz_M e3 hM)⟩ (congrArg (mW E Ad) e3) hQ (Nat.le_of_ble_eq_true rfl) (Nat.le_of_ble_eq_true rfl)
          · skip
            refine lv_aload_n hx hb dX3_teach_85 rfl (lv_at hl 0 rfl) ?_
            refine kz_iconst hx hb dX3_teach_86 ?_
            refine kz_bipush hx hb dX3_teach_87 (by decide) ?_
            refine kz_bipush hx hb dX3_teach_89 (by decide) ?_
            refine kz_backM (va_runV (As := [.int (zI (2)), .int (zI (9)), .int (zI (99))]) (rest := []) ⟨hx, hb, hml, hown, hts⟩ (mX3_refuses l E H.size Ad (put S 7 7 0) hM 2 (by omega) 9 (by omega) 99 (by omega)) (cwV 3 hts (lw_V q2398 q2400 qs37 q83 q2401) rfl rfl rfl (by decide +kernel) ⟨(Nat.le_of_ble_eq_true rfl), (Nat.le_of_ble_eq_true rfl)⟩) (kz_preVM (wc := mW E Ad (put S 7 7 0)) (va_recv hK hP (ci := 2) (q0 := 0) rfl rfl) hG hS hAN hP hD kz_nilP kz_nilA) rfl rfl hl.1 rfl (lv_room (Nat.le_of_ble_eq_true rfl)) dX3_teach_91 ⟨(Nat.le_of_ble_eq_true rfl), (Nat.le_of_ble_eq_true rfl)⟩) hP hD hS hA (fun u H9 locs9 hu hP9 hD9 hS9 hzz hkk => ?_)
            clear hzz hkk hP hD hS H locs u
            revert hS9 hD9 hP9 locs9 H9
            intro H locs hP hD hS
            clear hM
            obtain ⟨r15, hM⟩ := hu
            replace r15 : rI (0) := r15
            replace hM : MOk (put (put (put (put S 7 7 0) 7 7 2) 7 8 9) 7 9 99) := hM
            replace hP : va_P (kD E) kcl (mW E Ad (put (put (put (put S 7 7 0) 7 7 2) 7 8 9) 7 9 99)) H := hP
            replace hD : va_D A (mW E Ad (put (put (put (put S 7 7 0) 7 7 2) 7 8 9) 7 9 99)) := hD
            show W p l e _ s m args below meth c H locs _ _ Q (F0 m 94 ls [.int (zI (0))])
            have e0 : xTeach S k = (put (put (put (put S 7 7 0) 7 7 2) 7 8 9) 7 9 99, 0) := by unfold xTeach gTeach; (repeat (first | refine Eq.trans (if_pos (by omega)) ?_ | refine Eq.trans (if_neg (by omega)) ?_)); (try simp only [putR_put _ 0, putR_putR, putR_at]); all_goals rfl
            have e1 : (xTeach S k).2 = 0 := by rw [e0]
            have e3 : (xTeach S k).1 = put (put (put (put S 7 7 0) 7 7 2) 7 8 9) 7 9 99 := by rw [e0]
            exact kz_iret () hx hb hr hlk hP hD hS dX3_teach_94 (congrArg (fun z : Int => some (Value.int (zI z))) e1) ⟨(kz_r e1 (by omega)), (kz_M e3 hM)⟩ (congrArg (mW E Ad) e3) hQ (Nat.le_of_ble_eq_true rfl) (Nat.le_of_ble_eq_true rfl)
        · skip
          refine lv_aload_n hx hb dX3_teach_60 rfl (lv_at hl 0 rfl) ?_
          refine kz_iconst hx hb dX3_teach_61 ?_
          refine kz_bipush hx hb dX3_teach_62 (by decide) ?_
          refine lv_aload_n hx hb dX3_teach_64 rfl (lv_at hl 0 rfl) ?_
          refine va_get (D := kD E) (ci := 2) (fs := mO Ad (put S 7 7 0)) (v := .ref (Ad 1)) (C := RX3) (T := TX3) (N := 19) hx hb hts in_X3 hown hK hP 0 rfl rfl 0 (by decide) (hts _ q2320) (fun _ h9 => h9) rfl dX3_teach_65 ?_
          refine kz_iconst hx hb dX3_teach_68 ?_
          refine kz_iald (cA := kA E 0) (n := 304) (g := S 0) hx hb hK hP 1 0 rfl rfl (by omega) dX3_teach_69 ?_
          have r16 : rI (S 0 2) := hM 0 2
          refine kz_backM (va_runV (As := [.int (zI (2)), .int (zI (8)), .int (zI (S 0 2))]) (rest := []) ⟨hx, hb, hml, hown, hts⟩ (mX3_refuses l E H.size Ad (put S 7 7 0) hM 2 (by omega) 8 (by omega) (S 0 2) (by omega)) (cwV 3 hts (lw_V q2398 q2400 qs37 q83 q2401) rfl rfl rfl (by decide +kernel) ⟨(Nat.le_of_ble_eq_true rfl), (Nat.le_of_ble_eq_true rfl)⟩) (kz_preVM (wc := mW E Ad (put S 7 7 0)) (va_recv hK hP (ci := 2) (q0 := 0) rfl rfl) hG hS hAN hP hD kz_nilP kz_nilA) rfl rfl hl.1 rfl (lv_room (Nat.le_of_ble_eq_true rfl)) dX3_teach_70 ⟨(Nat.le_of_ble_eq_true rfl), (Nat.le_of_ble_eq_true rfl)⟩) hP hD hS hA (fun u H9 locs9 hu hP9 hD9 hS9 hzz hkk => ?_)
          clear hzz hkk hP hD hS H locs u
          revert hS9 hD9 hP9 locs9 H9
          intro H locs hP hD hS
          clear hM
          obtain ⟨r17, hM⟩ := hu
          replace r17 : rI (0) := r17
          replace hM : MOk (put (put (put (put S 7 7 0) 7 7 2) 7 8 8) 7 9 ((S 0 2))) := hM
          replace hP : va_P (kD E) kcl (mW E Ad (put (put (put (put S 7 7 0) 7 7 2) 7 8 8) 7 9 ((S 0 2)))) H := hP
          replace hD : va_D A (mW E Ad (put (put (put (put S 7 7 0) 7 7 2) 7 8 8) 7 9 ((S 0 2)))) := hD
          show W p l e _ s m args below meth c H locs _ _ Q (F0 m 73 ls [.int (zI (0))])
          have e0 : xTeach S k = (put (put (put (put S 7 7 0) 7 7 2) 7 8 8) 7 9 ((S 0 2)), 0) := by unfold xTeach gTeach; (repeat (first | refine Eq.trans (if_pos (by omega)) ?_ | refine Eq.trans (if_neg (by omega)) ?_)); (try simp only [putR_put _ 0, putR_putR, putR_at]); all_goals rfl
          have e1 : (xTeach S k).2 = 0 := by rw [e0]
          have e3 : (xTeach S k).1 = put (put (put (put S 7 7 0) 7 7 2) 7 8 8) 7 9 ((S 0 2)) := by rw [e0]
          exact kz_iret () hx hb hr hlk hP hD hS dX3_teach_73 (congrArg (fun z : Int => some (Value.int (zI z))) e1) ⟨(kz_r e1 (by omega)), (kz_M e3 hM)⟩ (congrArg (mW E Ad) e3) hQ (Nat.le_of_ble_eq_true rfl) (Nat.le_of_ble_eq_true rfl)
      · skip
        refine lv_aload_n hx hb dX3_teach_30 rfl (lv_at hl 0 rfl) ?_
        refine kz_iconst hx hb dX3_teach_31 ?_
        refine kz_iconst hx hb dX3_teach_32 ?_
        refine lv_aload_n hx hb dX3_teach_33 rfl (lv_at hl 0 rfl) ?_
        refine lv_iload_n hx hb dX3_teach_34 rfl (lv_at hl 1 rfl) ?_
        refine kz_bipush hx hb dX3_teach_35 (by decide) ?_
        refine kz_backM (va_runV (As := [.int (zI (k)), .int (zI (10))]) (rest := [.int (zI (4)), .int (zI (2)), .ref (Ad 0)]) ⟨hx, hb, hml, hown, hts⟩ (mX3_of l E H.size Ad (put S 7 7 0) hM k (by omega) 10 (by omega) (show 0 ≤ k ∧ k < 10 by first | omega | exact hI.st _ (by omega) (by omega) | exact hI.rv _ (by omega) (by omega) | exact hI) (show 0 ≤ 10 ∧ 10 < 14 by first | omega | exact hI.st _ (by omega) (by omega) | exact hI.rv _ (by omega) (by omega) | exact hI)) (cwV 2 hts (lw_V q2441 q2443 qs44 q83 q2444) rfl rfl rfl (by decide +kernel) ⟨(Nat.le_of_ble_eq_true rfl), (Nat.le_of_ble_eq_true rfl)⟩) (kz_preVM (wc := mW E Ad (put S 7 7 0)) (va_recv hK hP (ci := 2) (q0 := 0) rfl rfl) hG hS hAN hP hD kz_nilP kz_nilA) rfl rfl hl.1 rfl (lv_room (Nat.le_of_ble_eq_true rfl)) dX3_teach_37 ⟨(Nat.le_of_ble_eq_true rfl), (Nat.le_of_ble_eq_true rfl)⟩) hP hD hS hA (fun u H9 locs9 hu hP9 hD9 hS9 hzz hkk => ?_)
        clear hzz hkk hP hD hS H locs u
        revert hS9 hD9 hP9 locs9 H9
        intro H locs hP hD hS
        have r18 : rI ((S 0 ((10 + 14 * k + 10)))) := hu
        clear hu
        replace hP : va_P (kD E) kcl (mW E Ad (put S 7 7 0)) H := hP
        replace hD : va_D A (mW E Ad (put S 7 7 0)) := hD
        show W p l e _ s m args below meth c H locs _ _ Q (F0 m 40 ls [.int (zI ((S 0 ((10 + 14 * k + 10))))), .int (zI (4)), .int (zI (2)), .ref (Ad 0)])
        refine kz_backM (va_runV (As := [.int (zI (2)), .int (zI (4)), .int (zI ((S 0 ((10 + 14 * k + 10)))))]) (rest := []) ⟨hx, hb, hml, hown, hts⟩ (mX3_refuses l E H.size Ad (put S 7 7 0) hM 2 (by omega) 4 (by omega) ((S 0 ((10 + 14 * k + 10)))) (by omega)) (cwV 3 hts (lw_V q2398 q2400 qs37 q83 q2401) rfl rfl rfl (by decide +kernel) ⟨(Nat.le_of_ble_eq_true rfl), (Nat.le_of_ble_eq_true rfl)⟩) (kz_preVM (wc := mW E Ad (put S 7 7 0)) (va_recv hK hP (ci := 2) (q0 := 0) rfl rfl) hG hS hAN hP hD kz_nilP kz_nilA) rfl rfl hl.1 rfl (lv_room (Nat.le_of_ble_eq_true rfl)) dX3_teach_40 ⟨(Nat.le_of_ble_eq_true rfl), (Nat.le_of_ble_eq_true rfl)⟩) hP hD hS hA (fun u H9 locs9 hu hP9 hD9 hS9 hzz hkk => ?_)
        clear hzz hkk hP hD hS H locs u
        revert hS9 hD9 hP9 locs9 H9
        intro H locs hP hD hS
        clear hM
        obtain ⟨r19, hM⟩ := hu
        replace r19 : rI (0) := r19
        replace hM : MOk (put (put (put (put S 7 7 0) 7 7 2) 7 8 4) 7 9 (((S 0 ((10 + 14 * k + 10)))))) := hM
        replace hP : va_P (kD E) kcl (mW E Ad (put (put (put (put S 7 7 0) 7 7 2) 7 8 4) 7 9 (((S 0 ((10 + 14 * k + 10))))))) H := hP
        replace hD : va_D A (mW E Ad (put (put (put (put S 7 7 0) 7 7 2) 7 8 4) 7 9 (((S 0 ((10 + 14 * k + 10))))))) := hD
        show W p l e _ s m args below meth c H locs _ _ Q (F0 m 43 ls [.int (zI (0))])
        have e0 : xTeach S k = (put (put (put (put S 7 7 0) 7 7 2) 7 8 4) 7 9 (((S 0 ((10 + 14 * k + 10))))), 0) := by unfold xTeach gTeach; (repeat (first | refine Eq.trans (if_pos (by omega)) ?_ | refine Eq.trans (if_neg (by omega)) ?_)); (try simp only [putR_put _ 0, putR_putR, putR_at]); all_goals rfl
        have e1 : (xTeach S k).2 = 0 := by rw [e0]
        have e3 : (xTeach S k).1 = put (put (put (put S 7 7 0) 7 7 2) 7 8 4) 7 9 (((S 0 ((10 + 14 * k + 10))))) := by rw [e0]
        exact kz_iret () hx hb hr hlk hP hD hS dX3_teach_43 (congrArg (fun z : Int => some (Value.int (zI z))) e1) ⟨(kz_r e1 (by omega)), (kz_M e3 hM)⟩ (congrArg (mW E Ad) e3) hQ (Nat.le_of_ble_eq_true rfl) (Nat.le_of_ble_eq_true rfl)
    · skip
      obtain rfl : v2 = 1 := by omega
      refine kz_iconst hx hb dX3_teach_20 ?_
      have e0 : xTeach S k = (put S 7 7 1, 0) := by unfold xTeach gTeach; (repeat (first | refine Eq.trans (if_pos (by omega)) ?_ | refine Eq.trans (if_neg (by omega)) ?_)); (try simp only [putR_put _ 0, putR_putR, putR_at]); all_goals rfl
      have e1 : (xTeach S k).2 = 0 := by rw [e0]
      have e3 : (xTeach S k).1 = put S 7 7 1 := by rw [e0]
      exact kz_iret () hx hb hr hlk hP hD hS dX3_teach_21 (congrArg (fun z : Int => some (Value.int (zI z))) e1) ⟨(kz_r e1 (by omega)), (kz_M e3 hM)⟩ (congrArg (mW E Ad) e3) hQ (Nat.le_of_ble_eq_true rfl) (Nat.le_of_ble_eq_true rfl)
  refine kz_if0B (tgt := 13) hx hb dX3_teach_6 (by decide) (fun c6 => ?_) (fun c6 => ?_)
  · skip
    refine kz_iconst hx hb dX3_teach_13 ?_
    exact J1 1 _ _ _ (Eq.symm (if_neg c6)) (by omega) hP hD hS hl
  · skip
    refine kz_iconst hx hb dX3_teach_9 ?_
    refine lv_goto (tgt := 14) hx hb dX3_teach_10 (by decide) ?_
    exact J1 0 _ _ _ (Eq.symm (if_pos c6)) (by omega) hP hD hS hl

set_option maxHeartbeats 4000000 in
set_option maxRecDepth 100000 in
theorem mX3_fetch (l : Launch) (E : KE) (sz : Nat) (Ad : Nat → Nat) (S : St) (hM : MOk S) (B : Int) (k : Int) (rk : rI k) (hI : GI B (S 0)) (c0 : 0 ≤ S 7 5 ∧ S 7 5 ≤ 8) : Met l yX3_fetch (ws_ yX3_fetch cX3_fetch 2 (some .int)) (rmk 2 0 0 46) (va_Pc [.ref (Ad 0), .int (zI k)] (kP l E sz (mW E Ad S) [])) (kQ E (fun _ : Unit => rI ((xFetch S k).2) ∧ MOk ((xFetch S k).1)) (fun _ => some (.int (zI ((xFetch S k).2)))) (fun _ => (mW E Ad ((xFetch S k).1))) (va_A (mW E Ad S) sz)) 0 0 (va_A (mW E Ad S) sz) := by
  refine kz_start (Qf := kQ E (fun _ : Unit => rI ((xFetch S k).2) ∧ MOk ((xFetch S k).1)) (fun _ => some (.int (zI ((xFetch S k).2)))) (fun _ => (mW E Ad ((xFetch S k).1)))) (by decide) (Nat.le_of_ble_eq_true rfl) ?_
  intro p e s m args below meth c A ls Q H locs hx hb hr hlk hml hts hown hname hG hK hA hAN hP hD hR hRA hS hQ hl
  replace hown : s.vm.findClass RX3 = some m.cls := hown
  replace hl : lv_has ls 2 [(0, .ref (Ad 0)), (1, .int (zI (k)))] := hl
  have g0 := hI.n
  have g1 := hI.m
  have g2 := hI.ct
  replace hP : va_P (kD E) kcl (mW E Ad (S)) H := hP
  replace hD : va_D A (mW E Ad (S)) := hD
  refine lv_aload_n hx hb dX3_fetch_0 rfl (lv_at hl 0 rfl) ?_
  refine lv_aload_n hx hb dX3_fetch_1 rfl (lv_at hl 0 rfl) ?_
  refine lv_iload_n hx hb dX3_fetch_2 rfl (lv_at hl 1 rfl) ?_
  refine kz_backM (va_runV (As := [.int (zI (k))]) (rest := [.ref (Ad 0)]) ⟨hx, hb, hml, hown, hts⟩ (mX3_isStone l E H.size Ad S hM k (by omega) (show 0 ≤ (S 0 0) ∧ (S 0 0) ≤ 10 by first | omega | exact hI.st _ (by omega) (by omega) | exact hI.rv _ (by omega) (by omega) | exact hI)) (cwV 1 hts (lw_V q2433 q2435 qs42 q83 q2436) rfl rfl rfl (by decide +kernel) ⟨(Nat.le_of_ble_eq_true rfl), (Nat.le_of_ble_eq_true rfl)⟩) (kz_preVM (wc := mW E Ad S) (va_recv hK hP (ci := 2) (q0 := 0) rfl rfl) hG hS hAN hP hD kz_nilP kz_nilA) rfl rfl hl.1 rfl (lv_room (Nat.le_of_ble_eq_true rfl)) dX3_fetch_3 ⟨(Nat.le_of_ble_eq_true rfl), (Nat.le_of_ble_eq_true rfl)⟩) hP hD hS hA (fun u H9 locs9 hu hP9 hD9 hS9 hzz hkk => ?_)
  clear hzz hkk hP hD hS H locs u
  revert hS9 hD9 hP9 locs9 H9
  intro H locs hP hD hS
  clear hu
  replace hP : va_P (kD E) kcl (mW E Ad (S)) H := hP
  replace hD : va_D A (mW E Ad (S)) := hD
  show W p l e _ s m args below meth c H locs _ _ Q (F0 m 6 ls [.int (zI (b2 (0 ≤ k ∧ k ≤ (S 0 0) - 1))), .ref (Ad 0)])
  have J1 : ∀ (v2 : Int) (H : Heap) (locs : List Loc) (ls : Array Slot), v2 = (if 0 ≤ k ∧ k ≤ (S 0 0) - 1 then 0 else 1) → rI v2 → va_P (kD E) kcl (mW E Ad (S)) H → va_D A (mW E Ad (S)) → va_S A s.heap H locs → lv_has ls 2 [(0, .ref (Ad 0)), (1, .int (zI (k)))] → W p l e (rmk 2 0 0 46) s m args below meth c H locs 0 0 Q (F0 m 14 ls [.int (zI (v2)), .ref (Ad 0)]) := by
    clear hl hS hD hP ls locs H
    intro v2 H locs ls hv2 rv2 hP hD hS hl
    have dv2 : (¬ (0 ≤ k ∧ k ≤ (S 0 0) - 1) ∧ v2 = 1) ∨ (0 ≤ k ∧ k ≤ (S 0 0) - 1 ∧ v2 = 0) := by rw [hv2]; (repeat' split) <;> first | omega | simp_all
    refine kz_backM (va_runV (As := [.int (zI (v2))]) (rest := []) ⟨hx, hb, hml, hown, hts⟩ (mX3_fails l E H.size Ad S hM v2 (by omega)) (cwV 1 hts (lw_V q2394 q2396 qs36 q83 q2397) rfl rfl rfl (by decide +kernel) ⟨(Nat.le_of_ble_eq_true rfl), (Nat.le_of_ble_eq_true rfl)⟩) (kz_preVM (wc := mW E Ad S) (va_recv hK hP (ci := 2) (q0 := 0) rfl rfl) hG hS hAN hP hD kz_nilP kz_nilA) rfl rfl hl.1 rfl (lv_room (Nat.le_of_ble_eq_true rfl)) dX3_fetch_14 ⟨(Nat.le_of_ble_eq_true rfl), (Nat.le_of_ble_eq_true rfl)⟩) hP hD hS hA (fun u H9 locs9 hu hP9 hD9 hS9 hzz hkk => ?_)
    clear hzz hkk hP hD hS H locs u
    revert hS9 hD9 hP9 locs9 H9
    intro H locs hP hD hS
    replace hM : MOk (put S 7 7 v2) := hu
    clear hu
    replace hP : va_P (kD E) kcl (mW E Ad (put S 7 7 v2)) H := hP
    replace hD : va_D A (mW E Ad (put S 7 7 v2)) := hD
    show W p l e _ s m args below meth c H locs _ _ Q (F0 m 17 ls [.int (zI (b2 (0 < v2)))])
    refine kz_if0B (tgt := 22) hx hb dX3_fetch_17 (by decide) (fun c17 => ?_) (fun c17 => ?_)
    · skip
      obtain rfl : v2 = 0 := by omega
      refine lv_aload_n hx hb dX3_fetch_22 rfl (lv_at hl 0 rfl) ?_
      refine lv_iload_n hx hb dX3_fetch_23 rfl (lv_at hl 1 rfl) ?_
      refine kz_backM (va_runV (As := [.int (zI (k))]) (rest := []) ⟨hx, hb, hml, hown, hts⟩ (mX3_isSunk l E H.size Ad (put S 7 7 0) hM k (by omega) (show 0 ≤ k ∧ k < 10 by first | omega | exact hI.st _ (by omega) (by omega) | exact hI.rv _ (by omega) (by omega) | exact hI)) (cwV 1 hts (lw_V q2480 q2482 qs50 q83 q2483) rfl rfl rfl (by decide +kernel) ⟨(Nat.le_of_ble_eq_true rfl), (Nat.le_of_ble_eq_true rfl)⟩) (kz_preVM (wc := mW E Ad (put S 7 7 0)) (va_recv hK hP (ci := 2) (q0 := 0) rfl rfl) hG hS hAN hP hD kz_nilP kz_nilA) rfl rfl hl.1 rfl (lv_room (Nat.le_of_ble_eq_true rfl)) dX3_fetch_24 ⟨(Nat.le_of_ble_eq_true rfl), (Nat.le_of_ble_eq_true rfl)⟩) hP hD hS hA (fun u H9 locs9 hu hP9 hD9 hS9 hzz hkk => ?_)
      clear hzz hkk hP hD hS H locs u
      revert hS9 hD9 hP9 locs9 H9
      intro H locs hP hD hS
      clear hu
      replace hP : va_P (kD E) kcl (mW E Ad (put S 7 7 0)) H := hP
      replace hD : va_D A (mW E Ad (put S 7 7 0)) := hD
      show W p l e _ s m args below meth c H locs _ _ Q (F0 m 27 ls [.int (zI (b2 ((S 0 ((10 + 14 * k + 5))) = -2)))])
      refine kz_if0B (tgt := 44) hx hb dX3_fetch_27 (by decide) (fun c27 => ?_) (fun c27 => ?_)
      · skip
        refine lv_aload_n hx hb dX3_fetch_44 rfl (lv_at hl 0 rfl) ?_
        refine lv_iload_n hx hb dX3_fetch_45 rfl (lv_at hl 1 rfl) ?_
        refine kz_iconst hx hb dX3_fetch_46 ?_
        refine kz_backM (va_runV (As := [.int (zI (k)), .int (zI (5))]) (rest := []) ⟨hx, hb, hml, hown, hts⟩ (mX3_of l E H.size Ad (put S 7 7 0) hM k (by omega) 5 (by omega) (show 0 ≤ k ∧ k < 10 by first | omega | exact hI.st _ (by omega) (by omega) | exact hI.rv _ (by omega) (by omega) | exact hI) (show 0 ≤ 5 ∧ 5 < 14 by first | omega | exact hI.st _ (by omega) (by omega) | exact hI.rv _ (by omega) (by omega) | exact hI)) (cwV 2 hts (lw_V q2441 q2443 qs44 q83 q2444) rfl rfl rfl (by decide +kernel) ⟨(Nat.le_of_ble_eq_true rfl), (Nat.le_of_ble_eq_true rfl)⟩) (kz_preVM (wc := mW E Ad (put S 7 7 0)) (va_recv hK hP (ci := 2) (q0 := 0) rfl rfl) hG hS hAN hP hD kz_nilP kz_nilA) rfl rfl hl.1 rfl (lv_room (Nat.le_of_ble_eq_true rfl)) dX3_fetch_47 ⟨(Nat.le_of_ble_eq_true rfl), (Nat.le_of_ble_eq_true rfl)⟩) hP hD hS hA (fun u H9 locs9 hu hP9 hD9 hS9 hzz hkk => ?_)
        clear hzz hkk hP hD hS H locs u
        revert hS9 hD9 hP9 locs9 H9
        intro H locs hP hD hS
        have r3 : rI ((S 0 ((10 + 14 * k + 5)))) := hu
        clear hu
        replace hP : va_P (kD E) kcl (mW E Ad (put S 7 7 0)) H := hP
        replace hD : va_D A (mW E Ad (put S 7 7 0)) := hD
        show W p l e _ s m args below meth c H locs _ _ Q (F0 m 50 ls [.int (zI ((S 0 ((10 + 14 * k + 5)))))])
        refine kz_iconst hx hb dX3_fetch_50 ?_
        refine kz_icmp_ne (tgt := 68) hx hb dX3_fetch_51 (by decide) (by omega) (by omega) (fun c51 => ?_) (fun c51 => ?_)
        · skip
          refine lv_aload_n hx hb dX3_fetch_68 rfl (lv_at hl 0 rfl) ?_
          refine lv_aload_n hx hb dX3_fetch_69 rfl (lv_at hl 0 rfl) ?_
          refine va_get (D := kD E) (ci := 2) (fs := mO Ad (put S 7 7 0)) (v := .ref (Ad 1)) (C := RX3) (T := TX3) (N := 19) hx hb hts in_X3 hown hK hP 0 rfl rfl 0 (by decide) (hts _ q2320) (fun _ h9 => h9) rfl dX3_fetch_70 ?_
          refine kz_backM (va_runV (As := [.ref (Ad 1)]) (rest := []) ⟨hx, hb, hml, hown, hts⟩ (mX3_keeps l E H.size Ad (put S 7 7 0) hM (show 0 ≤ (S 7 5) ∧ (S 7 5) ≤ 8 by first | omega | exact hI.st _ (by omega) (by omega) | exact hI.rv _ (by omega) (by omega) | exact hI)) (cwV 1 hts (lw_V q2402 q2404 qs38 q83 q2405) rfl rfl rfl (by decide +kernel) ⟨(Nat.le_of_ble_eq_true rfl), (Nat.le_of_ble_eq_true rfl)⟩) (kz_preVM (wc := mW E Ad (put S 7 7 0)) (va_recv hK hP (ci := 2) (q0 := 0) rfl rfl) hG hS hAN hP hD kz_nilP kz_nilA) rfl rfl hl.1 rfl (lv_room (Nat.le_of_ble_eq_true rfl)) dX3_fetch_73 ⟨(Nat.le_of_ble_eq_true rfl), (Nat.le_of_ble_eq_true rfl)⟩) hP hD hS hA (fun u H9 locs9 hu hP9 hD9 hS9 hzz hkk => ?_)
          clear hzz hkk hP hD hS H locs u
          revert hS9 hD9 hP9 locs9 H9
          intro H locs hP hD hS
          replace hM : MOk (mKeeps (put S 7 7 0) 0) := hu
          clear hu
          replace hP : va_P (kD E) kcl (mW E Ad (mKeeps (put S 7 7 0) 0)) H := hP
          replace hD : va_D A (mW E Ad (mKeeps (put S 7 7 0) 0)) := hD
          show W p l e _ s m args below meth c H locs _ _ Q (F0 m 76 ls [])
          refine lv_aload_n hx hb dX3_fetch_76 rfl (lv_at hl 0 rfl) ?_
          refine lv_iload_n hx hb dX3_fetch_77 rfl (lv_at hl 1 rfl) ?_
          refine kz_iconst hx hb dX3_fetch_78 ?_
          refine kz_iconst hx hb dX3_fetch_79 ?_
          refine kz_backM (va_runV (As := [.int (zI (k)), .int (zI (5)), .int (zI ((-1)))]) (rest := []) ⟨hx, hb, hml, hown, hts⟩ (mX3_lays l E H.size Ad (mKeeps (put S 7 7 0) 0) hM k (by omega) 5 (by omega) ((-1)) (by omega) (show 0 ≤ k ∧ k < 10 by first | omega | exact hI.st _ (by omega) (by omega) | exact hI.rv _ (by omega) (by omega) | exact hI) (show 0 ≤ 5 ∧ 5 < 14 by first | omega | exact hI.st _ (by omega) (by omega) | exact hI.rv _ (by omega) (by omega) | exact hI)) (cwV 3 hts (lw_V q2409 q2411 qs39 q83 q2412) rfl rfl rfl (by decide +kernel) ⟨(Nat.le_of_ble_eq_true rfl), (Nat.le_of_ble_eq_true rfl)⟩) (kz_preVM (wc := mW E Ad (mKeeps (put S 7 7 0) 0)) (va_recv hK hP (ci := 2) (q0 := 0) rfl rfl) hG hS hAN hP hD kz_nilP kz_nilA) rfl rfl hl.1 rfl (lv_room (Nat.le_of_ble_eq_true rfl)) dX3_fetch_80 ⟨(Nat.le_of_ble_eq_true rfl), (Nat.le_of_ble_eq_true rfl)⟩) hP hD hS hA (fun u H9 locs9 hu hP9 hD9 hS9 hzz hkk => ?_)
          clear hzz hkk hP hD hS H locs u
          revert hS9 hD9 hP9 locs9 H9
          intro H locs hP hD hS
          replace hM : MOk (put (mKeeps (put S 7 7 0) 0) 0 (10 + 14 * k + 5) (((-1)))) := hu
          clear hu
          replace hP : va_P (kD E) kcl (mW E Ad (put (mKeeps (put S 7 7 0) 0) 0 (10 + 14 * k + 5) (((-1))))) H := hP
          replace hD : va_D A (mW E Ad (put (mKeeps (put S 7 7 0) 0) 0 (10 + 14 * k + 5) (((-1))))) := hD
          show W p l e _ s m args below meth c H locs _ _ Q (F0 m 83 ls [])
          refine lv_aload_n hx hb dX3_fetch_83 rfl (lv_at hl 0 rfl) ?_
          refine kz_bipush hx hb dX3_fetch_84 (by decide) ?_
          refine kz_backM (va_runV (As := [.int (zI (9))]) (rest := []) ⟨hx, hb, hml, hown, hts⟩ (mX3_stay l E H.size Ad (put (mKeeps (put S 7 7 0) 0) 0 (10 + 14 * k + 5) (((-1)))) hM 9 (by omega) (show 0 ≤ ((put (mKeeps (put S 7 7 0) 0) 0 (10 + 14 * k + 5) (((-1)))) 0 0) ∧ ((put (mKeeps (put S 7 7 0) 0) 0 (10 + 14 * k + 5) (((-1)))) 0 0) ≤ 10 by have z4 : (put (mKeeps (put S 7 7 0) 0) 0 (10 + 14 * k + 5) (((-1)))) 0 0 = S 0 0 := (by show uz ((mKeeps (put S 7 7 0) 0) 0) (10 + 14 * k + 5) (((-1))) 0 = _; rw [uz_n (by omega)]; all_goals rfl); rw [z4]; first | omega | exact hI.st _ (by omega) (by omega) | exact hI.rv _ (by omega) (by omega) | exact hI)) (cwV 1 hts (lw_V q2469 q2471 qs49 q83 q2472) rfl rfl rfl (by decide +kernel) ⟨(Nat.le_of_ble_eq_true rfl), (Nat.le_of_ble_eq_true rfl)⟩) (kz_preVM (wc := mW E Ad (put (mKeeps (put S 7 7 0) 0) 0 (10 + 14 * k + 5) (((-1))))) (va_recv hK hP (ci := 2) (q0 := 0) rfl rfl) hG hS hAN hP hD kz_nilP kz_nilA) rfl rfl hl.1 rfl (lv_room (Nat.le_of_ble_eq_true rfl)) dX3_fetch_86 ⟨(Nat.le_of_ble_eq_true rfl), (Nat.le_of_ble_eq_true rfl)⟩) hP hD hS hA (fun u H9 locs9 hu hP9 hD9 hS9 hzz hkk => ?_)
          clear hzz hkk hP hD hS H locs u
          revert hS9 hD9 hP9 locs9 H9
          intro H locs hP hD hS
          have r5 : rI (stay ((put (mKeeps (put S 7 7 0) 0) 0 (10 + 14 * k + 5) (((-1)))) 0) 9) := hu
          clear hu
          replace hP : va_P (kD E) kcl (mW E Ad (put (mKeeps (put S 7 7 0) 0) 0 (10 + 14 * k + 5) (((-1))))) H := hP
          replace hD : va_D A (mW E Ad (put (mKeeps (put S 7 7 0) 0) 0 (10 + 14 * k + 5) (((-1))))) := hD
          show W p l e _ s m args below meth c H locs _ _ Q (F0 m 89 ls [.int (zI (stay ((put (mKeeps (put S 7 7 0) 0) 0 (10 + 14 * k + 5) (((-1)))) 0) 9))])
          have e0 : xFetch S k = (put (mKeeps (put S 7 7 0) 0) 0 (10 + 14 * k + 5) (((-1))), stay ((put (mKeeps (put S 7 7 0) 0) 0 (10 + 14 * k + 5) (((-1)))) 0) 9) := by unfold xFetch; (repeat (first | refine Eq.trans (if_pos (by omega)) ?_ | refine Eq.trans (if_neg (by omega)) ?_)); (try simp only [putR_put _ 0, putR_putR, putR_at]); all_goals rfl
          have e1 : (xFetch S k).2 = stay ((put (mKeeps (put S 7 7 0) 0) 0 (10 + 14 * k + 5) (((-1)))) 0) 9 := by rw [e0]
          have e3 : (xFetch S k).1 = put (mKeeps (put S 7 7 0) 0) 0 (10 + 14 * k + 5) (((-1))) := by rw [e0]
          exact kz_iret () hx hb hr hlk hP hD hS dX3_fetch_89 (congrArg (fun z : Int => some (Value.int (zI z))) e1) ⟨(kz_r e1 (by omega)), (kz_M e3 hM)⟩ (congrArg (mW E Ad) e3) hQ (Nat.le_of_ble_eq_true rfl) (Nat.le_of_ble_eq_true rfl)
        · skip
          refine lv_aload_n hx hb dX3_fetch_54 rfl (lv_at hl 0 rfl) ?_
          refine kz_iconst hx hb dX3_fetch_55 ?_
          refine kz_bipush hx hb dX3_fetch_56 (by decide) ?_
          refine lv_aload_n hx hb dX3_fetch_58 rfl (lv_at hl 0 rfl) ?_
          refine kz_bipush hx hb dX3_fetch_59 (by decide) ?_
          refine kz_backM (va_runV (As := [.int (zI (9))]) (rest := [.int (zI (6)), .int (zI (2)), .ref (Ad 0)]) ⟨hx, hb, hml, hown, hts⟩ (mX3_stay l E H.size Ad (put S 7 7 0) hM 9 (by omega) (show 0 ≤ (S 0 0) ∧ (S 0 0) ≤ 10 by first | omega | exact hI.st _ (by omega) (by omega) | exact hI.rv _ (by omega) (by omega) | exact hI)) (cwV 1 hts (lw_V q2469 q2471 qs49 q83 q2472) rfl rfl rfl (by decide +kernel) ⟨(Nat.le_of_ble_eq_true rfl), (Nat.le_of_ble_eq_true rfl)⟩) (kz_preVM (wc := mW E Ad (put S 7 7 0)) (va_recv hK hP (ci := 2) (q0 := 0) rfl rfl) hG hS hAN hP hD kz_nilP kz_nilA) rfl rfl hl.1 rfl (lv_room (Nat.le_of_ble_eq_true rfl)) dX3_fetch_61 ⟨(Nat.le_of_ble_eq_true rfl), (Nat.le_of_ble_eq_true rfl)⟩) hP hD hS hA (fun u H9 locs9 hu hP9 hD9 hS9 hzz hkk => ?_)
          clear hzz hkk hP hD hS H locs u
          revert hS9 hD9 hP9 locs9 H9
          intro H locs hP hD hS
          have r6 : rI (stay (S 0) 9) := hu
          clear hu
          replace hP : va_P (kD E) kcl (mW E Ad (put S 7 7 0)) H := hP
          replace hD : va_D A (mW E Ad (put S 7 7 0)) := hD
          show W p l e _ s m args below meth c H locs _ _ Q (F0 m 64 ls [.int (zI (stay (S 0) 9)), .int (zI (6)), .int (zI (2)), .ref (Ad 0)])
          refine kz_backM (va_runV (As := [.int (zI (2)), .int (zI (6)), .int (zI (stay (S 0) 9))]) (rest := []) ⟨hx, hb, hml, hown, hts⟩ (mX3_refuses l E H.size Ad (put S 7 7 0) hM 2 (by omega) 6 (by omega) (stay (S 0) 9) (by omega)) (cwV 3 hts (lw_V q2398 q2400 qs37 q83 q2401) rfl rfl rfl (by decide +kernel) ⟨(Nat.le_of_ble_eq_true rfl), (Nat.le_of_ble_eq_true rfl)⟩) (kz_preVM (wc := mW E Ad (put S 7 7 0)) (va_recv hK hP (ci := 2) (q0 := 0) rfl rfl) hG hS hAN hP hD kz_nilP kz_nilA) rfl rfl hl.1 rfl (lv_room (Nat.le_of_ble_eq_true rfl)) dX3_fetch_64 ⟨(Nat.le_of_ble_eq_true rfl), (Nat.le_of_ble_eq_true rfl)⟩) hP hD hS hA (fun u H9 locs9 hu hP9 hD9 hS9 hzz hkk => ?_)
          clear hzz hkk hP hD hS H locs u
          revert hS9 hD9 hP9 locs9 H9
          intro H locs hP hD hS
          clear hM
          obtain ⟨r7, hM⟩ := hu
          replace r7 : rI (0) := r7
          replace hM : MOk (put (put (put (put S 7 7 0) 7 7 2) 7 8 6) 7 9 ((stay (S 0) 9))) := hM
          replace hP : va_P (kD E) kcl (mW E Ad (put (put (put (put S 7 7 0) 7 7 2) 7 8 6) 7 9 ((stay (S 0) 9)))) H := hP
          replace hD : va_D A (mW E Ad (put (put (put (put S 7 7 0) 7 7 2) 7 8 6) 7 9 ((stay (S 0) 9)))) := hD
          show W p l e _ s m args below meth c H locs _ _ Q (F0 m 67 ls [.int (zI (0))])
          have e0 : xFetch S k = (put (put (put (put S 7 7 0) 7 7 2) 7 8 6) 7 9 ((stay (S 0) 9)), 0) := by unfold xFetch; (repeat (first | refine Eq.trans (if_pos (by omega)) ?_ | refine Eq.trans (if_neg (by omega)) ?_)); (try simp only [putR_put _ 0, putR_putR, putR_at]); all_goals rfl
          have e1 : (xFetch S k).2 = 0 := by rw [e0]
          have e3 : (xFetch S k).1 = put (put (put (put S 7 7 0) 7 7 2) 7 8 6) 7 9 ((stay (S 0) 9)) := by rw [e0]
          exact kz_iret () hx hb hr hlk hP hD hS dX3_fetch_67 (congrArg (fun z : Int => some (Value.int (zI z))) e1) ⟨(kz_r e1 (by omega)), (kz_M e3 hM)⟩ (congrArg (mW E Ad) e3) hQ (Nat.le_of_ble_eq_true rfl) (Nat.le_of_ble_eq_true rfl)
      · skip
        refine lv_aload_n hx hb dX3_fetch_30 rfl (lv_at hl 0 rfl) ?_
        refine kz_iconst hx hb dX3_fetch_31 ?_
        refine kz_iconst hx hb dX3_fetch_32 ?_
        refine lv_aload_n hx hb dX3_fetch_33 rfl (lv_at hl 0 rfl) ?_
        refine lv_iload_n hx hb dX3_fetch_34 rfl (lv_at hl 1 rfl) ?_
        refine kz_bipush hx hb dX3_fetch_35 (by decide) ?_
        refine kz_backM (va_runV (As := [.int (zI (k)), .int (zI (10))]) (rest := [.int (zI (4)), .int (zI (2)), .ref (Ad 0)]) ⟨hx, hb, hml, hown, hts⟩ (mX3_of l E H.size Ad (put S 7 7 0) hM k (by omega) 10 (by omega) (show 0 ≤ k ∧ k < 10 by first | omega | exact hI.st _ (by omega) (by omega) | exact hI.rv _ (by omega) (by omega) | exact hI) (show 0 ≤ 10 ∧ 10 < 14 by first | omega | exact hI.st _ (by omega) (by omega) | exact hI.rv _ (by omega) (by omega) | exact hI)) (cwV 2 hts (lw_V q2441 q2443 qs44 q83 q2444) rfl rfl rfl (by decide +kernel) ⟨(Nat.le_of_ble_eq_true rfl), (Nat.le_of_ble_eq_true rfl)⟩) (kz_preVM (wc := mW E Ad (put S 7 7 0)) (va_recv hK hP (ci := 2) (q0 := 0) rfl rfl) hG hS hAN hP hD kz_nilP kz_nilA) rfl rfl hl.1 rfl (lv_room (Nat.le_of_ble_eq_true rfl)) dX3_fetch_37 ⟨(Nat.le_of_ble_eq_true rfl), (Nat.le_of_ble_eq_true rfl)⟩) hP hD hS hA (fun u H9 locs9 hu hP9 hD9 hS9 hzz hkk => ?_)
        clear hzz hkk hP hD hS H locs u
        revert hS9 hD9 hP9 locs9 H9
        intro H locs hP hD hS
        have r8 : rI ((S 0 ((10 + 14 * k + 10)))) := hu
        clear hu
        replace hP : va_P (kD E) kcl (mW E Ad (put S 7 7 0)) H := hP
        replace hD : va_D A (mW E Ad (put S 7 7 0)) := hD
        show W p l e _ s m args below meth c H locs _ _ Q (F0 m 40 ls [.int (zI ((S 0 ((10 + 14 * k + 10))))), .int (zI (4)), .int (zI (2)), .ref (Ad 0)])
        refine kz_backM (va_runV (As := [.int (zI (2)), .int (zI (4)), .int (zI ((S 0 ((10 + 14 * k + 10)))))]) (rest := []) ⟨hx, hb, hml, hown, hts⟩ (mX3_refuses l E H.size Ad (put S 7 7 0) hM 2 (by omega) 4 (by omega) ((S 0 ((10 + 14 * k + 10)))) (by omega)) (cwV 3 hts (lw_V q2398 q2400 qs37 q83 q2401) rfl rfl rfl (by decide +kernel) ⟨(Nat.le_of_ble_eq_true rfl), (Nat.le_of_ble_eq_true rfl)⟩) (kz_preVM (wc := mW E Ad (put S 7 7 0)) (va_recv hK hP (ci := 2) (q0 := 0) rfl rfl) hG hS hAN hP hD kz_nilP kz_nilA) rfl rfl hl.1 rfl (lv_room (Nat.le_of_ble_eq_true rfl)) dX3_fetch_40 ⟨(Nat.le_of_ble_eq_true rfl), (Nat.le_of_ble_eq_true rfl)⟩) hP hD hS hA (fun u H9 locs9 hu hP9 hD9 hS9 hzz hkk => ?_)
        clear hzz hkk hP hD hS H locs u
        revert hS9 hD9 hP9 locs9 H9
        intro H locs hP hD hS
        clear hM
        obtain ⟨r9, hM⟩ := hu
        replace r9 : rI (0) := r9
        replace hM : MOk (put (put (put (put S 7 7 0) 7 7 2) 7 8 4) 7 9 (((S 0 ((10 + 14 * k + 10)))))) := hM
        replace hP : va_P (kD E) kcl (mW E Ad (put (put (put (put S 7 7 0) 7 7 2) 7 8 4) 7 9 (((S 0 ((10 + 14 * k + 10))))))) H := hP
        replace hD : va_D A (mW E Ad (put (put (put (put S 7 7 0) 7 7 2) 7 8 4) 7 9 (((S 0 ((10 + 14 * k + 10))))))) := hD
        show W p l e _ s m args below meth c H locs _ _ Q (F0 m 43 ls [.int (zI (0))])
        have e0 : xFetch S k = (put (put (put (put S 7 7 0) 7 7 2) 7 8 4) 7 9 (((S 0 ((10 + 14 * k + 10))))), 0) := by unfold xFetch; (repeat (first | refine Eq.trans (if_pos (by omega)) ?_ | refine Eq.trans (if_neg (by omega)) ?_)); (try simp only [putR_put _ 0, putR_putR, putR_at]); all_goals rfl
        have e1 : (xFetch S k).2 = 0 := by rw [e0]
        have e3 : (xFetch S k).1 = put (put (put (put S 7 7 0) 7 7 2) 7 8 4) 7 9 (((S 0 ((10 + 14 * k + 10))))) := by rw [e0]
        exact kz_iret () hx hb hr hlk hP hD hS dX3_fetch_43 (congrArg (fun z : Int => some (Value.int (zI z))) e1) ⟨(kz_r e1 (by omega)), (kz_M e3 hM)⟩ (congrArg (mW E Ad) e3) hQ (Nat.le_of_ble_eq_true rfl) (Nat.le_of_ble_eq_true rfl)
    · skip
      obtain rfl : v2 = 1 := by omega
      refine kz_iconst hx hb dX3_fetch_20 ?_
      have e0 : xFetch S k = (put S 7 7 1, 0) := by unfold xFetch; (repeat (first | refine Eq.trans (if_pos (by omega)) ?_ | refine Eq.trans (if_neg (by omega)) ?_)); (try simp only [putR_put _ 0, putR_putR, putR_at]); all_goals rfl
      have e1 : (xFetch S k).2 = 0 := by rw [e0]
      have e3 : (xFetch S k).1 = put S 7 7 1 := by rw [e0]
      exact kz_iret () hx hb hr hlk hP hD hS dX3_fetch_21 (congrArg (fun z : Int => some (Value.int (zI z))) e1) ⟨(kz_r e1 (by omega)), (kz_M e3 hM)⟩ (congrArg (mW E Ad) e3) hQ (Nat.le_of_ble_eq_true rfl) (Nat.le_of_ble_eq_true rfl)
  refine kz_if0B (tgt := 13) hx hb dX3_fetch_6 (by decide) (fun c6 => ?_) (fun c6 => ?_)
  · skip
    refine kz_iconst hx hb dX3_fetch_13 ?_
    exact J1 1 _ _ _ (Eq.symm (if_neg c6)) (by omega) hP hD hS hl
  · skip
    refine kz_iconst hx hb dX3_fetch_9 ?_
    refine lv_goto (tgt := 14) hx hb dX3_fetch_10 (by decide) ?_
    exact J1 0 _ _ _ (Eq.symm (if_pos c6)) (by omega) hP hD hS hl

