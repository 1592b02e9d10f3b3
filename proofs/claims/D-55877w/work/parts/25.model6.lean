/-! THE MODEL, on -/
set_option maxHeartbeats 4000000 in
set_option maxRecDepth 100000 in
theorem mX3_alumnus (l : Launch) (E : KE) (sz : Nat) (Ad : Nat → Nat) (S : St) (hM : MOk S) (B : Int) (pl : Int) (rpl : rI pl) (hI : GI B (S 0)) : Met l yX3_alumnus (ws_ yX3_alumnus cX3_alumnus 2 (some .int)) (rmk 1 0 0 22) (va_Pc [.ref (Ad 0), .int (zI pl)] (kP l E sz (mW E Ad S) [])) (kQ E (fun _ : Unit => rI ((xAlum S pl).2) ∧ MOk ((xAlum S pl).1)) (fun _ => some (.int (zI ((xAlum S pl).2)))) (fun _ => (mW E Ad ((xAlum S pl).1))) (va_A (mW E Ad S) sz)) 0 0 (va_A (mW E Ad S) sz) := by
  refine kz_start (Qf := kQ E (fun _ : Unit => rI ((xAlum S pl).2) ∧ MOk ((xAlum S pl).1)) (fun _ => some (.int (zI ((xAlum S pl).2)))) (fun _ => (mW E Ad ((xAlum S pl).1)))) (by decide) (Nat.le_of_ble_eq_true rfl) ?_
  intro p e s m args below meth c A ls Q H locs hx hb hr hlk hml hts hown hname hG hK hA hAN hP hD hR hRA hS hQ hl
  replace hown : s.vm.findClass RX3 = some m.cls := hown
  replace hl : lv_has ls 2 [(0, .ref (Ad 0)), (1, .int (zI (pl)))] := hl
  have g0 := hI.n
  have g1 := hI.m
  have g2 := hI.ct
  have hal := hI.al
  have hst := stay_b (S 0) (-2)
  replace hP : va_P (kD E) kcl (mW E Ad (S)) H := hP
  replace hD : va_D A (mW E Ad (S)) := hD
  refine lv_aload_n hx hb dX3_alumnus_0 rfl (lv_at hl 0 rfl) ?_
  refine lv_iload_n hx hb dX3_alumnus_1 rfl (lv_at hl 1 rfl) ?_
  refine kz_iconst hx hb dX3_alumnus_2 ?_
  refine lv_aload_n hx hb dX3_alumnus_3 rfl (lv_at hl 0 rfl) ?_
  refine va_get (D := kD E) (ci := 2) (fs := mO Ad (S)) (v := .ref (Ad 1)) (C := RX3) (T := TX3) (N := 19) hx hb hts in_X3 hown hK hP 0 rfl rfl 0 (by decide) (hts _ q2320) (fun _ h9 => h9) rfl dX3_alumnus_4 ?_
  refine kz_bipush hx hb dX3_alumnus_7 (by decide) ?_
  refine kz_iald (cA := kA E 0) (n := 304) (g := S 0) hx hb hK hP 1 0 rfl rfl (by omega) dX3_alumnus_9 ?_
  have r1 : rI (S 0 8) := hM 0 8
  refine kz_iconst hx hb dX3_alumnus_10 ?_
  refine kz_isub hx hb dX3_alumnus_11 ?_
  refine kz_back (wc := []) (wx := (mW E Ad (S))) (va_runS (As := [.int (zI (pl)), .int (zI (0)), .int (zI ((S 0 8) - 1))]) (rest := [.ref (Ad 0)]) ⟨hx, hb, hml, hown, hts⟩ (mX3_in l E H.size pl (by omega) 0 (by omega) ((S 0 8) - 1) (by omega)) (va_cwS 3 hts (lw_S q2391 q2392 q83 q2393) rfl rfl rfl (by decide +kernel) ⟨(Nat.le_of_ble_eq_true rfl), (Nat.le_of_ble_eq_true rfl)⟩) (kz_pre (wc := []) (wx := (mW E Ad (S))) hG hS hAN hP hD kz_nilP kz_nilA) rfl rfl hl.1 rfl (lv_room (Nat.le_of_ble_eq_true rfl)) dX3_alumnus_12 ⟨(Nat.le_of_ble_eq_true rfl), (Nat.le_of_ble_eq_true rfl)⟩) hP hD hS hA (fun u H9 locs9 hu hP9 hD9 hS9 hzz hkk => ?_)
  clear hzz hkk hP hD hS H locs u
  revert hS9 hD9 hP9 locs9 H9
  intro H locs hP hD hS
  clear hu
  replace hP : va_P (kD E) kcl (mW E Ad (S)) H := hP
  replace hD : va_D A (mW E Ad (S)) := hD
  show W p l e _ s m args below meth c H locs _ _ Q (F0 m 15 ls [.int (zI (b2 (0 ≤ pl ∧ pl ≤ ((S 0 8) - 1)))), .ref (Ad 0)])
  have J2 : ∀ (v3 : Int) (H : Heap) (locs : List Loc) (ls : Array Slot), v3 = (if 0 ≤ pl ∧ pl ≤ ((S 0 8) - 1) then 0 else 1) → rI v3 → va_P (kD E) kcl (mW E Ad (S)) H → va_D A (mW E Ad (S)) → va_S A s.heap H locs → lv_has ls 2 [(0, .ref (Ad 0)), (1, .int (zI (pl)))] → W p l e (rmk 1 0 0 22) s m args below meth c H locs 0 0 Q (F0 m 23 ls [.int (zI (v3)), .ref (Ad 0)]) := by
    clear hl hS hD hP ls locs H
    intro v3 H locs ls hv3 rv3 hP hD hS hl
    have dv3 : (¬ (0 ≤ pl ∧ pl ≤ ((S 0 8) - 1)) ∧ v3 = 1) ∨ (0 ≤ pl ∧ pl ≤ ((S 0 8) - 1) ∧ v3 = 0) := by rw [hv3]; (repeat' split) <;> first | omega | simp_all
    refine kz_backM (va_runV (As := [.int (zI (v3))]) (rest := []) ⟨hx, hb, hml, hown, hts⟩ (mX3_fails l E H.size Ad S hM v3 (by omega)) (cwV 1 hts (lw_V q2394 q2396 qs36 q83 q2397) rfl rfl rfl (by decide +kernel) ⟨(Nat.le_of_ble_eq_true rfl), (Nat.le_of_ble_eq_true rfl)⟩) (kz_preVM (wc := mW E Ad S) (va_recv hK hP (ci := 2) (q0 := 0) rfl rfl) hG hS hAN hP hD kz_nilP kz_nilA) rfl rfl hl.1 rfl (lv_room (Nat.le_of_ble_eq_true rfl)) dX3_alumnus_23 ⟨(Nat.le_of_ble_eq_true rfl), (Nat.le_of_ble_eq_true rfl)⟩) hP hD hS hA (fun u H9 locs9 hu hP9 hD9 hS9 hzz hkk => ?_)
    clear hzz hkk hP hD hS H locs u
    revert hS9 hD9 hP9 locs9 H9
    intro H locs hP hD hS
    replace hM : MOk (put S 7 7 v3) := hu
    clear hu
    replace hP : va_P (kD E) kcl (mW E Ad (put S 7 7 v3)) H := hP
    replace hD : va_D A (mW E Ad (put S 7 7 v3)) := hD
    show W p l e _ s m args below meth c H locs _ _ Q (F0 m 26 ls [.int (zI (b2 (0 < v3)))])
    refine kz_if0B (tgt := 33) hx hb dX3_alumnus_26 (by decide) (fun c26 => ?_) (fun c26 => ?_)
    · skip
      obtain rfl : v3 = 0 := by omega
      refine lv_aload_n hx hb dX3_alumnus_33 rfl (lv_at hl 0 rfl) ?_
      refine va_get (D := kD E) (ci := 2) (fs := mO Ad (put S 7 7 0)) (v := .ref (Ad 1)) (C := RX3) (T := TX3) (N := 19) hx hb hts in_X3 hown hK hP 0 rfl rfl 0 (by decide) (hts _ q2320) (fun _ h9 => h9) rfl dX3_alumnus_34 ?_
      refine kz_sipush hx hb dX3_alumnus_37 (by decide) ?_
      refine lv_iload_n hx hb dX3_alumnus_40 rfl (lv_at hl 1 rfl) ?_
      refine kz_iadd hx hb dX3_alumnus_41 ?_
      refine kz_iald (cA := kA E 0) (n := 304) (g := S 0) hx hb hK hP 1 0 rfl rfl (by omega) dX3_alumnus_42 ?_
      have r4 : rI (S 0 (294 + pl)) := hM 0 (294 + pl)
      have e0 : xAlum S pl = (put S 7 7 0, S 0 (294 + pl)) := by unfold xAlum; (repeat (first | refine Eq.trans (if_pos (by omega)) ?_ | refine Eq.trans (if_neg (by omega)) ?_)); rfl
      have e1 : (xAlum S pl).2 = S 0 (294 + pl) := by rw [e0]
      have e3 : (xAlum S pl).1 = put S 7 7 0 := by rw [e0]
      exact kz_iret () hx hb hr hlk hP hD hS dX3_alumnus_43 (congrArg (fun z : Int => some (Value.int (zI z))) e1) ⟨(kz_r e1 (by omega)), (kz_M e3 hM)⟩ (congrArg (mW E Ad) e3) hQ (Nat.le_of_ble_eq_true rfl) (Nat.le_of_ble_eq_true rfl)
    · skip
      obtain rfl : v3 = 1 := by omega
      refine kz_iconst hx hb dX3_alumnus_29 ?_
      refine lv_goto (tgt := 43) hx hb dX3_alumnus_30 (by decide) ?_
      have e0 : xAlum S pl = (put S 7 7 1, 0) := by unfold xAlum; (repeat (first | refine Eq.trans (if_pos (by omega)) ?_ | refine Eq.trans (if_neg (by omega)) ?_)); rfl
      have e1 : (xAlum S pl).2 = 0 := by rw [e0]
      have e3 : (xAlum S pl).1 = put S 7 7 1 := by rw [e0]
      exact kz_iret () hx hb hr hlk hP hD hS dX3_alumnus_43 (congrArg (fun z : Int => some (Value.int (zI z))) e1) ⟨(kz_r e1 (by omega)), (kz_M e3 hM)⟩ (congrArg (mW E Ad) e3) hQ (Nat.le_of_ble_eq_true rfl) (Nat.le_of_ble_eq_true rfl)
  refine kz_if0B (tgt := 22) hx hb dX3_alumnus_15 (by decide) (fun c15 => ?_) (fun c15 => ?_)
  · skip
    refine kz_iconst hx hb dX3_alumnus_22 ?_
    exact J2 1 _ _ _ (Eq.symm (if_neg c15)) (by omega) hP hD hS hl
  · skip
    refine kz_iconst hx hb dX3_alumnus_18 ?_
    refine lv_goto (tgt := 23) hx hb dX3_alumnus_19 (by decide) ?_
    exact J2 0 _ _ _ (Eq.symm (if_pos c15)) (by omega) hP hD hS hl

set_option maxHeartbeats 4000000 in
set_option maxRecDepth 100000 in
theorem mX3_sankOn (l : Launch) (E : KE) (sz : Nat) (Ad : Nat → Nat) (S : St) (hM : MOk S) (B : Int) (k : Int) (rk : rI k) (hI : GI B (S 0)) : Met l yX3_sankOn (ws_ yX3_sankOn cX3_sankOn 2 (some .int)) (rmk 2 0 0 43) (va_Pc [.ref (Ad 0), .int (zI k)] (kP l E sz (mW E Ad S) [])) (kQ E (fun _ : Unit => rI ((xSank S k).2) ∧ MOk ((xSank S k).1)) (fun _ => some (.int (zI ((xSank S k).2)))) (fun _ => (mW E Ad ((xSank S k).1))) (va_A (mW E Ad S) sz)) 0 0 (va_A (mW E Ad S) sz) := by
  refine kz_start (Qf := kQ E (fun _ : Unit => rI ((xSank S k).2) ∧ MOk ((xSank S k).1)) (fun _ => some (.int (zI ((xSank S k).2)))) (fun _ => (mW E Ad ((xSank S k).1)))) (by decide) (Nat.le_of_ble_eq_true rfl) ?_
  intro p e s m args below meth c A ls Q H locs hx hb hr hlk hml hts hown hname hG hK hA hAN hP hD hR hRA hS hQ hl
  replace hown : s.vm.findClass RX3 = some m.cls := hown
  replace hl : lv_has ls 2 [(0, .ref (Ad 0)), (1, .int (zI (k)))] := hl
  have g0 := hI.n
  have g1 := hI.m
  have g2 := hI.ct
  replace hP : va_P (kD E) kcl (mW E Ad (S)) H := hP
  replace hD : va_D A (mW E Ad (S)) := hD
  refine lv_aload_n hx hb dX3_sankOn_0 rfl (lv_at hl 0 rfl) ?_
  refine lv_aload_n hx hb dX3_sankOn_1 rfl (lv_at hl 0 rfl) ?_
  refine lv_iload_n hx hb dX3_sankOn_2 rfl (lv_at hl 1 rfl) ?_
  refine kz_backM (va_runV (As := [.int (zI (k))]) (rest := [.ref (Ad 0)]) ⟨hx, hb, hml, hown, hts⟩ (mX3_isStone l E H.size Ad S hM k (by omega) (show 0 ≤ (S 0 0) ∧ (S 0 0) ≤ 10 by first | omega | exact hI.st _ (by omega) (by omega) | exact hI.rv _ (by omega) (by omega) | exact hI)) (cwV 1 hts (lw_V q2433 q2435 qs42 q83 q2436) rfl rfl rfl (by decide +kernel) ⟨(Nat.le_of_ble_eq_true rfl), (Nat.le_of_ble_eq_true rfl)⟩) (kz_preVM (wc := mW E Ad S) (va_recv hK hP (ci := 2) (q0 := 0) rfl rfl) hG hS hAN hP hD kz_nilP kz_nilA) rfl rfl hl.1 rfl (lv_room (Nat.le_of_ble_eq_true rfl)) dX3_sankOn_3 ⟨(Nat.le_of_ble_eq_true rfl), (Nat.le_of_ble_eq_true rfl)⟩) hP hD hS hA (fun u H9 locs9 hu hP9 hD9 hS9 hzz hkk => ?_)
  clear hzz hkk hP hD hS H locs u
  revert hS9 hD9 hP9 locs9 H9
  intro H locs hP hD hS
  clear hu
  replace hP : va_P (kD E) kcl (mW E Ad (S)) H := hP
  replace hD : va_D A (mW E Ad (S)) := hD
  show W p l e _ s m args below meth c H locs _ _ Q (F0 m 6 ls [.int (zI (b2 (0 ≤ k ∧ k ≤ (S 0 0) - 1))), .ref (Ad 0)])
  have J1 : ∀ (v2 : Int) (H : Heap) (locs : List Loc) (ls : Array Slot), v2 = (if 0 ≤ k ∧ k ≤ (S 0 0) - 1 then (if (S 0 ((10 + 14 * k + 5))) = -2 then 0 else 2) else 1) → rI v2 → va_P (kD E) kcl (mW E Ad (S)) H → va_D A (mW E Ad (S)) → va_S A s.heap H locs → lv_has ls 2 [(0, .ref (Ad 0)), (1, .int (zI (k)))] → W p l e (rmk 2 0 0 43) s m args below meth c H locs 0 0 Q (F0 m 26 ls [.int (zI (v2)), .ref (Ad 0)]) := by
    clear hl hS hD hP ls locs H
    intro v2 H locs ls hv2 rv2 hP hD hS hl
    have dv2 : (0 ≤ k ∧ k ≤ (S 0 0) - 1 ∧ ¬ ((S 0 ((10 + 14 * k + 5))) = -2) ∧ v2 = 2) ∨ (0 ≤ k ∧ k ≤ (S 0 0) - 1 ∧ (S 0 ((10 + 14 * k + 5))) = -2 ∧ v2 = 0) ∨ (¬ (0 ≤ k ∧ k ≤ (S 0 0) - 1) ∧ v2 = 1) := by rw [hv2]; (repeat' split) <;> first | omega | simp_all
    refine kz_backM (va_runV (As := [.int (zI (v2))]) (rest := []) ⟨hx, hb, hml, hown, hts⟩ (mX3_fails l E H.size Ad S hM v2 (by omega)) (cwV 1 hts (lw_V q2394 q2396 qs36 q83 q2397) rfl rfl rfl (by decide +kernel) ⟨(Nat.le_of_ble_eq_true rfl), (Nat.le_of_ble_eq_true rfl)⟩) (kz_preVM (wc := mW E Ad S) (va_recv hK hP (ci := 2) (q0 := 0) rfl rfl) hG hS hAN hP hD kz_nilP kz_nilA) rfl rfl hl.1 rfl (lv_room (Nat.le_of_ble_eq_true rfl)) dX3_sankOn_26 ⟨(Nat.le_of_ble_eq_true rfl), (Nat.le_of_ble_eq_true rfl)⟩) hP hD hS hA (fun u H9 locs9 hu hP9 hD9 hS9 hzz hkk => ?_)
    clear hzz hkk hP hD hS H locs u
    revert hS9 hD9 hP9 locs9 H9
    intro H locs hP hD hS
    replace hM : MOk (put S 7 7 v2) := hu
    clear hu
    replace hP : va_P (kD E) kcl (mW E Ad (put S 7 7 v2)) H := hP
    replace hD : va_D A (mW E Ad (put S 7 7 v2)) := hD
    show W p l e _ s m args below meth c H locs _ _ Q (F0 m 29 ls [.int (zI (b2 (0 < v2)))])
    refine kz_if0B (tgt := 36) hx hb dX3_sankOn_29 (by decide) (fun c29 => ?_) (fun c29 => ?_)
    · skip
      obtain rfl : v2 = 0 := by omega
      refine lv_aload_n hx hb dX3_sankOn_36 rfl (lv_at hl 0 rfl) ?_
      refine lv_iload_n hx hb dX3_sankOn_37 rfl (lv_at hl 1 rfl) ?_
      refine kz_bipush hx hb dX3_sankOn_38 (by decide) ?_
      refine kz_backM (va_runV (As := [.int (zI (k)), .int (zI (10))]) (rest := []) ⟨hx, hb, hml, hown, hts⟩ (mX3_of l E H.size Ad (put S 7 7 0) hM k (by omega) 10 (by omega) (show 0 ≤ k ∧ k < 10 by first | omega | exact hI.st _ (by omega) (by omega) | exact hI.rv _ (by omega) (by omega) | exact hI) (show 0 ≤ 10 ∧ 10 < 14 by first | omega | exact hI.st _ (by omega) (by omega) | exact hI.rv _ (by omega) (by omega) | exact hI)) (cwV 2 hts (lw_V q2441 q2443 qs44 q83 q2444) rfl rfl rfl (by decide +kernel) ⟨(Nat.le_of_ble_eq_true rfl), (Nat.le_of_ble_eq_true rfl)⟩) (kz_preVM (wc := mW E Ad (put S 7 7 0)) (va_recv hK hP (ci := 2) (q0 := 0) rfl rfl) hG hS hAN hP hD kz_nilP kz_nilA) rfl rfl hl.1 rfl (lv_room (Nat.le_of_ble_eq_true rfl)) dX3_sankOn_40 ⟨(Nat.le_of_ble_eq_true rfl), (Nat.le_of_ble_eq_true rfl)⟩) hP hD hS hA (fun u H9 locs9 hu hP9 hD9 hS9 hzz hkk => ?_)
      clear hzz hkk hP hD hS H locs u
      revert hS9 hD9 hP9 locs9 H9
      intro H locs hP hD hS
      have r3 : rI ((S 0 ((10 + 14 * k + 10)))) := hu
      clear hu
      replace hP : va_P (kD E) kcl (mW E Ad (put S 7 7 0)) H := hP
      replace hD : va_D A (mW E Ad (put S 7 7 0)) := hD
      show W p l e _ s m args below meth c H locs _ _ Q (F0 m 43 ls [.int (zI ((S 0 ((10 + 14 * k + 10)))))])
      have e0 : xSank S k = (put S 7 7 0, (S 0 ((10 + 14 * k + 10)))) := by unfold xSank; (repeat (first | refine Eq.trans (if_pos (by omega)) ?_ | refine Eq.trans (if_neg (by omega)) ?_)); rfl
      have e1 : (xSank S k).2 = (S 0 ((10 + 14 * k + 10))) := by rw [e0]
      have e3 : (xSank S k).1 = put S 7 7 0 := by rw [e0]
      exact kz_iret () hx hb hr hlk hP hD hS dX3_sankOn_43 (congrArg (fun z : Int => some (Value.int (zI z))) e1) ⟨(kz_r e1 (by omega)), (kz_M e3 hM)⟩ (congrArg (mW E Ad) e3) hQ (Nat.le_of_ble_eq_true rfl) (Nat.le_of_ble_eq_true rfl)
    · skip
      rcases (show v2 = 1 ∨ v2 = 2 by omega) with rfl | rfl
      · skip
        refine kz_iconst hx hb dX3_sankOn_32 ?_
        refine lv_goto (tgt := 43) hx hb dX3_sankOn_33 (by decide) ?_
        have e0 : xSank S k = (put S 7 7 1, 0) := by unfold xSank; (repeat (first | refine Eq.trans (if_pos (by omega)) ?_ | refine Eq.trans (if_neg (by omega)) ?_)); rfl
        have e1 : (xSank S k).2 = 0 := by rw [e0]
        have e3 : (xSank S k).1 = put S 7 7 1 := by rw [e0]
        exact kz_iret () hx hb hr hlk hP hD hS dX3_sankOn_43 (congrArg (fun z : Int => some (Value.int (zI z))) e1) ⟨(kz_r e1 (by omega)), (kz_M e3 hM)⟩ (congrArg (mW E Ad) e3) hQ (Nat.le_of_ble_eq_true rfl) (Nat.le_of_ble_eq_true rfl)
      · skip
        refine kz_iconst hx hb dX3_sankOn_32 ?_
        refine lv_goto (tgt := 43) hx hb dX3_sankOn_33 (by decide) ?_
        have e0 : xSank S k = (put S 7 7 2, 0) := by unfold xSank; (repeat (first | refine Eq.trans (if_pos (by omega)) ?_ | refine Eq.trans (if_neg (by omega)) ?_)); rfl
        have e1 : (xSank S k).2 = 0 := by rw [e0]
        have e3 : (xSank S k).1 = put S 7 7 2 := by rw [e0]
        exact kz_iret () hx hb hr hlk hP hD hS dX3_sankOn_43 (congrArg (fun z : Int => some (Value.int (zI z))) e1) ⟨(kz_r e1 (by omega)), (kz_M e3 hM)⟩ (congrArg (mW E Ad) e3) hQ (Nat.le_of_ble_eq_true rfl) (Nat.le_of_ble_eq_true rfl)
  refine kz_if1B (tgt := 13) hx hb dX3_sankOn_6 (by decide) (fun c6 => ?_) (fun c6 => ?_)
  · skip
    refine lv_aload_n hx hb dX3_sankOn_13 rfl (lv_at hl 0 rfl) ?_
    refine lv_iload_n hx hb dX3_sankOn_14 rfl (lv_at hl 1 rfl) ?_
    refine kz_backM (va_runV (As := [.int (zI (k))]) (rest := [.ref (Ad 0)]) ⟨hx, hb, hml, hown, hts⟩ (mX3_isSunk l E H.size Ad S hM k (by omega) (show 0 ≤ k ∧ k < 10 by first | omega | exact hI.st _ (by omega) (by omega) | exact hI.rv _ (by omega) (by omega) | exact hI)) (cwV 1 hts (lw_V q2480 q2482 qs50 q83 q2483) rfl rfl rfl (by decide +kernel) ⟨(Nat.le_of_ble_eq_true rfl), (Nat.le_of_ble_eq_true rfl)⟩) (kz_preVM (wc := mW E Ad S) (va_recv hK hP (ci := 2) (q0 := 0) rfl rfl) hG hS hAN hP hD kz_nilP kz_nilA) rfl rfl hl.1 rfl (lv_room (Nat.le_of_ble_eq_true rfl)) dX3_sankOn_15 ⟨(Nat.le_of_ble_eq_true rfl), (Nat.le_of_ble_eq_true rfl)⟩) hP hD hS hA (fun u H9 locs9 hu hP9 hD9 hS9 hzz hkk => ?_)
    clear hzz hkk hP hD hS H locs u
    revert hS9 hD9 hP9 locs9 H9
    intro H locs hP hD hS
    clear hu
    replace hP : va_P (kD E) kcl (mW E Ad (S)) H := hP
    replace hD : va_D A (mW E Ad (S)) := hD
    show W p l e _ s m args below meth c H locs _ _ Q (F0 m 18 ls [.int (zI (b2 ((S 0 ((10 + 14 * k + 5))) = -2))), .ref (Ad 0)])
    refine kz_if0B (tgt := 25) hx hb dX3_sankOn_18 (by decide) (fun c18 => ?_) (fun c18 => ?_)
    · skip
      refine kz_iconst hx hb dX3_sankOn_25 ?_
      exact J1 2 _ _ _ (Eq.symm (Eq.trans (if_pos c6) (if_neg c18))) (by omega) hP hD hS hl
    · skip
      refine kz_iconst hx hb dX3_sankOn_21 ?_
      refine lv_goto (tgt := 26) hx hb dX3_sankOn_22 (by decide) ?_
      exact J1 0 _ _ _ (Eq.symm (Eq.trans (if_pos c6) (if_pos c18))) (by omega) hP hD hS hl
  · skip
    refine kz_iconst hx hb dX3_sankOn_9 ?_
    refine lv_goto (tgt := 26) hx hb dX3_sankOn_10 (by decide) ?_
    exact J1 1 _ _ _ (Eq.symm (if_neg c6)) (by omega) hP hD hS hl

set_option maxHeartbeats 4000000 in
set_option maxRecDepth 100000 in
theorem mX3_ranked (l : Launch) (E : KE) (sz : Nat) (Ad : Nat → Nat) (S : St) (hM : MOk S) (B : Int) (mea : Int) (rmea : rI mea) (pl : Int) (rpl : rI pl) (hI : GI B (S 0)) : Met l yX3_ranked (ws_ yX3_ranked cX3_ranked 7 (some .int)) (rmk 1 0 0 22) (va_Pc [.ref (Ad 0), .int (zI mea), .int (zI pl)] (kP l E sz (mW E Ad S) [])) (kQ E (fun _ : Unit => rI ((xRanked S mea pl).2) ∧ MOk ((xRanked S mea pl).1)) (fun _ => some (.int (zI ((xRanked S mea pl).2)))) (fun _ => (mW E Ad ((xRanked S mea pl).1))) (va_A (mW E Ad S) sz)) 0 0 (va_A (mW E Ad S) sz) := by
  refine kz_start (Qf := kQ E (fun _ : Unit => rI ((xRanked S mea pl).2) ∧ MOk ((xRanked S mea pl).1)) (fun _ => some (.int (zI ((xRanked S mea pl).2)))) (fun _ => (mW E Ad ((xRanked S mea pl).1)))) (by decide) (Nat.le_of_ble_eq_true rfl) ?_
  intro p e s m args below meth c A ls Q H locs hx hb hr hlk hml hts hown hname hG hK hA hAN hP hD hR hRA hS hQ hl
  replace hown : s.vm.findClass RX3 = some m.cls := hown
  replace hl : lv_has ls 7 [(0, .ref (Ad 0)), (1, .int (zI (mea))), (2, .int (zI (pl)))] := hl
  have g0 := hI.n
  have g1 := hI.m
  have g2 := hI.ct
  replace hP : va_P (kD E) kcl (mW E Ad (S)) H := hP
  replace hD : va_D A (mW E Ad (S)) := hD
  refine lv_aload_n hx hb dX3_ranked_0 rfl (lv_at hl 0 rfl) ?_
  refine lv_iload_n hx hb dX3_ranked_1 rfl (lv_at hl 1 rfl) ?_
  refine kz_iconst hx hb dX3_ranked_2 ?_
  refine kz_iconst hx hb dX3_ranked_3 ?_
  refine kz_back (wc := []) (wx := (mW E Ad (S))) (va_runS (As := [.int (zI (mea)), .int (zI (0)), .int (zI (2))]) (rest := [.ref (Ad 0)]) ⟨hx, hb, hml, hown, hts⟩ (mX3_in l E H.size mea (by omega) 0 (by omega) 2 (by omega)) (va_cwS 3 hts (lw_S q2391 q2392 q83 q2393) rfl rfl rfl (by decide +kernel) ⟨(Nat.le_of_ble_eq_true rfl), (Nat.le_of_ble_eq_true rfl)⟩) (kz_pre (wc := []) (wx := (mW E Ad (S))) hG hS hAN hP hD kz_nilP kz_nilA) rfl rfl hl.1 rfl (lv_room (Nat.le_of_ble_eq_true rfl)) dX3_ranked_4 ⟨(Nat.le_of_ble_eq_true rfl), (Nat.le_of_ble_eq_true rfl)⟩) hP hD hS hA (fun u H9 locs9 hu hP9 hD9 hS9 hzz hkk => ?_)
  clear hzz hkk hP hD hS H locs u
  revert hS9 hD9 hP9 locs9 H9
  intro H locs hP hD hS
  clear hu
  replace hP : va_P (kD E) kcl (mW E Ad (S)) H := hP
  replace hD : va_D A (mW E Ad (S)) := hD
  show W p l e _ s m args below meth c H locs _ _ Q (F0 m 7 ls [.int (zI (b2 (0 ≤ mea ∧ mea ≤ 2))), .ref (Ad 0)])
  have J1 : ∀ (v2 : Int) (H : Heap) (locs : List Loc) (ls : Array Slot), v2 = (if 0 ≤ mea ∧ mea ≤ 2 then 0 else 1) → rI v2 → va_P (kD E) kcl (mW E Ad (S)) H → va_D A (mW E Ad (S)) → va_S A s.heap H locs → lv_has ls 7 [(0, .ref (Ad 0)), (1, .int (zI (mea))), (2, .int (zI (pl)))] → W p l e (rmk 1 0 0 22) s m args below meth c H locs 0 0 Q (F0 m 15 ls [.int (zI (v2)), .ref (Ad 0)]) := by
    clear hl hS hD hP ls locs H
    intro v2 H locs ls hv2 rv2 hP hD hS hl
    have dv2 : (¬ (0 ≤ mea ∧ mea ≤ 2) ∧ v2 = 1) ∨ (0 ≤ mea ∧ mea ≤ 2 ∧ v2 = 0) := by rw [hv2]; (repeat' split) <;> first | omega | simp_all
    refine kz_backM (va_runV (As := [.int (zI (v2))]) (rest := []) ⟨hx, hb, hml, hown, hts⟩ (mX3_fails l E H.size Ad S hM v2 (by omega)) (cwV 1 hts (lw_V q2394 q2396 qs36 q83 q2397) rfl rfl rfl (by decide +kernel) ⟨(Nat.le_of_ble_eq_true rfl), (Nat.le_of_ble_eq_true rfl)⟩) (kz_preVM (wc := mW E Ad S) (va_recv hK hP (ci := 2) (q0 := 0) rfl rfl) hG hS hAN hP hD kz_nilP kz_nilA) rfl rfl hl.1 rfl (lv_room (Nat.le_of_ble_eq_true rfl)) dX3_ranked_15 ⟨(Nat.le_of_ble_eq_true rfl), (Nat.le_of_ble_eq_true rfl)⟩) hP hD hS hA (fun u H9 locs9 hu hP9 hD9 hS9 hzz hkk => ?_)
    clear hzz hkk hP hD hS H locs u
    revert hS9 hD9 hP9 locs9 H9
    intro H locs hP hD hS
    replace hM : MOk (put S 7 7 v2) := hu
    clear hu
    replace hP : va_P (kD E) kcl (mW E Ad (put S 7 7 v2)) H := hP
    replace hD : va_D A (mW E Ad (put S 7 7 v2)) := hD
    show W p l e _ s m args below meth c H locs _ _ Q (F0 m 18 ls [.int (zI (b2 (0 < v2)))])
    refine kz_if0B (tgt := 23) hx hb dX3_ranked_18 (by decide) (fun c18 => ?_) (fun c18 => ?_)
    · skip
      obtain rfl : v2 = 0 := by omega
      refine lv_iload_n hx hb dX3_ranked_23 rfl (lv_at hl 1 rfl) ?_
      have J3 : ∀ (v4 : Int) (H : Heap) (locs : List Loc) (ls : Array Slot), v4 = (if mea = 0 then 2 else (if mea = 1 then 7 else 4)) → rI v4 → va_P (kD E) kcl (mW E Ad (put S 7 7 0)) H → va_D A (mW E Ad (put S 7 7 0)) → va_S A s.heap H locs → lv_has ls 7 [(0, .ref (Ad 0)), (1, .int (zI (mea))), (2, .int (zI (pl)))] → W p l e (rmk 1 0 0 22) s m args below meth c H locs 0 0 Q (F0 m 42 ls [.int (zI (v4))]) := by
        clear hl hS hD hP ls locs H
        intro v4 H locs ls hv4 rv4 hP hD hS hl
        have dv4 : (¬ (mea = 0) ∧ ¬ (mea = 1) ∧ v4 = 4) ∨ (¬ (mea = 0) ∧ mea = 1 ∧ v4 = 7) ∨ (mea = 0 ∧ v4 = 2) := by rw [hv4]; (repeat' split) <;> first | omega | simp_all
        refine lv_istore_n (lv' := [(3, .int (zI (v4))), (0, .ref (Ad 0)), (1, .int (zI (mea))), (2, .int (zI (pl)))]) hx hb dX3_ranked_42 rfl hl (by decide) rfl (fun ls hl => ?_)
        obtain rfl : v4 = whatOf mea := by unfold whatOf; (repeat' split) <;> omega
        have q4 : 0 ≤ whatOf mea ∧ whatOf mea < 14 := by unfold whatOf; (repeat' split) <;> omega
        refine kz_iconst hx hb dX3_ranked_43 ?_
        refine lv_istore (lv' := [(4, .int (zI (0))), (3, .int (zI ((whatOf mea)))), (0, .ref (Ad 0)), (1, .int (zI (mea))), (2, .int (zI (pl)))]) hx hb dX3_ranked_44 hl (by decide) rfl (fun ls hl => ?_)
        have L46_5 : ∀ (fu : Nat) (j : Int) (H : Heap) (locs : List Loc) (ls : Array Slot), (0 ≤ j ∧ j ≤ S 0 0) → (rankG (S 0) mea pl = firstF (fun k => placeOf (S 0) (whatOf mea) k = pl) (S 0 0 - j).toNat j) → rI j → (S 0 0 - j : Int).toNat < fu → va_P (kD E) kcl (mW E Ad (put S 7 7 0)) H → va_D A (mW E Ad (put S 7 7 0)) → va_S A s.heap H locs → lv_has ls 7 [(0, .ref (Ad 0)), (1, .int (zI (mea))), (2, .int (zI (pl))), (3, .int (zI ((whatOf mea)))), (4, .int (zI (j)))] → W p l e (rmk 1 0 0 22) s m args below meth c H locs 0 0 Q (F0 m 46 ls []) := by
          clear hl hS hD hP ls locs H
          intro fu
          induction fu with
          | zero => intro j H locs ls hj hn rj hf; exact absurd hf (Nat.not_lt_zero _)
          | succ fu ih46 =>
            intro j H locs ls hj hn rj hf hP hD hS hl
            refine lv_iload hx hb dX3_ranked_46 (lv_at hl 4 rfl) ?_
            refine lv_aload_n hx hb dX3_ranked_48 rfl (lv_at hl 0 rfl) ?_
            refine va_get (D := kD E) (ci := 2) (fs := mO Ad (put S 7 7 0)) (v := .ref (Ad 1)) (C := RX3) (T := TX3) (N := 19) hx hb hts in_X3 hown hK hP 0 rfl rfl 0 (by decide) (hts _ q2320) (fun _ h9 => h9) rfl dX3_ranked_49 ?_
            refine kz_iconst hx hb dX3_ranked_52 ?_
            refine kz_iald (cA := kA E 0) (n := 304) (g := S 0) hx hb hK hP 1 0 rfl rfl (by omega) dX3_ranked_53 ?_
            have r6 : rI (S 0 0) := hM 0 0
            refine kz_icmp_ge (tgt := 146) hx hb dX3_ranked_54 (by decide) (by omega) (by omega) (fun c54 => ?_) (fun c54 => ?_)
            · skip
              rw [firstF_0 _ (by omega)] at hn
              refine lv_aload_n hx hb dX3_ranked_146 rfl (lv_at hl 0 rfl) ?_
              refine kz_iconst hx hb dX3_ranked_147 ?_
              refine va_put (D := kD E) (ci := 2) (fs := mO Ad (put S 7 7 0)) (v := .int (zI (2))) (ty := .int) (C := RX3) (T := TX3) (N := 19) hx hb hts in_X3 tyX3 tyX3_ok nmX3 hown hK hP hD hS 0 rfl rfl 7 (by decide) (hts _ q2327) (fun _ h9 => h9) rfl (by decide +kernel) rfl rfl (Nat.le_of_ble_eq_true rfl) dX3_ranked_148 (fun H9 locs9 hP9 hD9 hS9 => ?_)
              rw [mW_f7] at hP9 hD9
              clear hP hD hS H locs
              revert hS9 hD9 hP9 locs9 H9
              intro H locs hP hD hS
              replace hP : va_P (kD E) kcl (mW E Ad (put (put S 7 7 0) 7 7 2)) H := hP
              replace hD : va_D A (mW E Ad (put (put S 7 7 0) 7 7 2)) := hD
              replace hM : MOk (put (put S 7 7 0) 7 7 2) := hM.put 7 7 (by omega)
              refine kz_iconst hx hb dX3_ranked_151 ?_
              have e0 : xRanked S mea pl = (put (put S 7 7 0) 7 7 2, 0) := by unfold xRanked; (repeat (first | refine Eq.trans (if_pos (by omega)) ?_ | refine Eq.trans (if_neg (by omega)) ?_)); first | rfl | (refine Prod.ext rfl ?_; exact hn)
              have e1 : (xRanked S mea pl).2 = 0 := by rw [e0]
              have e3 : (xRanked S mea pl).1 = put (put S 7 7 0) 7 7 2 := by rw [e0]
              exact kz_iret () hx hb hr hlk hP hD hS dX3_ranked_152 (congrArg (fun z : Int => some (Value.int (zI z))) e1) ⟨(kz_r e1 (by omega)), (kz_M e3 hM)⟩ (congrArg (mW E Ad) e3) hQ (Nat.le_of_ble_eq_true rfl) (Nat.le_of_ble_eq_true rfl)
            · skip
              refine kz_iconst hx hb dX3_ranked_57 ?_
              refine lv_istore (lv' := [(5, .int (zI (0))), (0, .ref (Ad 0)), (1, .int (zI (mea))), (2, .int (zI (pl))), (3, .int (zI ((whatOf mea)))), (4, .int (zI (j)))]) hx hb dX3_ranked_58 hl (by decide) rfl (fun ls hl => ?_)
              refine kz_iconst hx hb dX3_ranked_60 ?_
              refine lv_istore (lv' := [(6, .int (zI (0))), (5, .int (zI (0))), (0, .ref (Ad 0)), (1, .int (zI (mea))), (2, .int (zI (pl))), (3, .int (zI ((whatOf mea)))), (4, .int (zI (j)))]) hx hb dX3_ranked_61 hl (by decide) rfl (fun ls hl => ?_)
              have L63_7 : ∀ (fu : Nat) (n o : Int) (H : Heap) (locs : List Loc) (ls : Array Slot), (0 ≤ o ∧ o ≤ S 0 0 ∧ 0 ≤ n ∧ n ≤ o) → (n = sumTo (aheadOf (S 0) (whatOf mea) j) o.toNat) → rI n → rI o → (S 0 0 - o : Int).toNat < fu → va_P (kD E) kcl (mW E Ad (put S 7 7 0)) H → va_D A (mW E Ad (put S 7 7 0)) → va_S A s.heap H locs → lv_has ls 7 [(0, .ref (Ad 0)), (1, .int (zI (mea))), (2, .int (zI (pl))), (3, .int (zI ((whatOf mea)))), (4, .int (zI (j))), (5, .int (zI (n))), (6, .int (zI (o)))] → W p l e (rmk 1 0 0 22) s m args below meth c H locs 0 0 Q (F0 m 63 ls []) := by
                clear hl hS hD hP ls locs H
                intro fu
                induction fu with
                | zero => intro n o H locs ls ho hs rn ro hf; exact absurd hf (Nat.not_lt_zero _)
                | succ fu ih63 =>
                  intro n o H locs ls ho hs rn ro hf hP hD hS hl
                  refine lv_iload hx hb dX3_ranked_63 (lv_at hl 6 rfl) ?_
                  refine lv_aload_n hx hb dX3_ranked_65 rfl (lv_at hl 0 rfl) ?_
                  refine va_get (D := kD E) (ci := 2) (fs := mO Ad (put S 7 7 0)) (v := .ref (Ad 1)) (C := RX3) (T := TX3) (N := 19) hx hb hts in_X3 hown hK hP 0 rfl rfl 0 (by decide) (hts _ q2320) (fun _ h9 => h9) rfl dX3_ranked_66 ?_
                  refine kz_iconst hx hb dX3_ranked_69 ?_
                  refine kz_iald (cA := kA E 0) (n := 304) (g := S 0) hx hb hK hP 1 0 rfl rfl (by omega) dX3_ranked_70 ?_
                  have r8 : rI (S 0 0) := hM 0 0
                  refine kz_icmp_ge (tgt := 131) hx hb dX3_ranked_71 (by decide) (by omega) (by omega) (fun c71 => ?_) (fun c71 => ?_)
                  · skip
                    have hpl : n = placeOf (S 0) (whatOf mea) j := by rw [hs, show o = S 0 0 by omega]; rfl
                    refine lv_iload hx hb dX3_ranked_131 (lv_at hl 5 rfl) ?_
                    refine lv_iload_n hx hb dX3_ranked_133 rfl (lv_at hl 2 rfl) ?_
                    refine kz_icmp_ne (tgt := 140) hx hb dX3_ranked_134 (by decide) (by omega) (by omega) (fun c134 => ?_) (fun c134 => ?_)
                    · skip
                      refine kz_iinc (lv' := [(4, .int (zI (j + 1))), (0, .ref (Ad 0)), (1, .int (zI (mea))), (2, .int (zI (pl))), (3, .int (zI ((whatOf mea)))), (5, .int (zI (n))), (6, .int (zI (o)))]) hx hb dX3_ranked_140 hl (k := 4) rfl (by decide) rfl (fun ls hl => ?_)
                      refine lv_goto (tgt := 46) hx hb dX3_ranked_143 (by decide) ?_
                      exact ih46 (j + 1) _ _ _ (by omega) (by rw [firstF_s _ (by omega), if_neg (by omega)] at hn; exact hn) (by omega) (by omega) hP hD hS (lv_sub hl [1, 2, 3, 4, 0] rfl)
                    · skip
                      rw [firstF_s _ (by omega), if_pos (by omega)] at hn
                      refine lv_iload hx hb dX3_ranked_137 (lv_at hl 4 rfl) ?_
                      have e0 : xRanked S mea pl = (put S 7 7 0, j) := by unfold xRanked; (repeat (first | refine Eq.trans (if_pos (by omega)) ?_ | refine Eq.trans (if_neg (by omega)) ?_)); first | rfl | (refine Prod.ext rfl ?_; exact hn)
                      have e1 : (xRanked S mea pl).2 = j := by rw [e0]
                      have e3 : (xRanked S mea pl).1 = put S 7 7 0 := by rw [e0]
                      exact kz_iret () hx hb hr hlk hP hD hS dX3_ranked_139 (congrArg (fun z : Int => some (Value.int (zI z))) e1) ⟨(kz_r e1 (by omega)), (kz_M e3 hM)⟩ (congrArg (mW E Ad) e3) hQ (Nat.le_of_ble_eq_true rfl) (Nat.le_of_ble_eq_true rfl)
                  · skip
                    refine lv_iload hx hb dX3_ranked_74 (lv_at hl 5 rfl) ?_
                    refine lv_aload_n hx hb dX3_ranked_76 rfl (lv_at hl 0 rfl) ?_
                    refine lv_iload hx hb dX3_ranked_77 (lv_at hl 6 rfl) ?_
                    refine lv_iload_n hx hb dX3_ranked_79 rfl (lv_at hl 3 rfl) ?_
                    refine kz_backM (va_runV (As := [.int (zI (o)), .int (zI ((whatOf mea)))]) (rest := [.int (zI (n))]) ⟨hx, hb, hml, hown, hts⟩ (mX3_of l E H.size Ad (put S 7 7 0) hM o (by omega) ((whatOf mea)) (by omega) (show 0 ≤ o ∧ o < 10 by first | omega | exact hI.st _ (by omega) (by omega) | exact hI.rv _ (by omega) (by omega) | exact hI) (show 0 ≤ ((whatOf mea)) ∧ ((whatOf mea)) < 14 by first | omega | exact hI.st _ (by omega) (by omega) | exact hI.rv _ (by omega) (by omega) | exact hI)) (cwV 2 hts (lw_V q2441 q2443 qs44 q83 q2444) rfl rfl rfl (by decide +kernel) ⟨(Nat.le_of_ble_eq_true rfl), (Nat.le_of_ble_eq_true rfl)⟩) (kz_preVM (wc := mW E Ad (put S 7 7 0)) (va_recv hK hP (ci := 2) (q0 := 0) rfl rfl) hG hS hAN hP hD kz_nilP kz_nilA) rfl rfl hl.1 rfl (lv_room (Nat.le_of_ble_eq_true rfl)) dX3_ranked_80 ⟨(Nat.le_of_ble_eq_true rfl), (Nat.le_of_ble_eq_true rfl)⟩) hP hD hS hA (fun u H9 locs9 hu hP9 hD9 hS9 hzz hkk => ?_)
                    clear hzz hkk hP hD hS H locs u
                    revert hS9 hD9 hP9 locs9 H9
                    intro H locs hP hD hS
                    have r9 : rI ((S 0 ((10 + 14 * o + ((whatOf mea)))))) := hu
                    clear hu
                    replace hP : va_P (kD E) kcl (mW E Ad (put S 7 7 0)) H := hP
                    replace hD : va_D A (mW E Ad (put S 7 7 0)) := hD
                    show W p l e _ s m args below meth c H locs _ _ Q (F0 m 83 ls [.int (zI ((S 0 ((10 + 14 * o + ((whatOf mea))))))), .int (zI (n))])
                    refine lv_aload_n hx hb dX3_ranked_83 rfl (lv_at hl 0 rfl) ?_
                    refine lv_iload hx hb dX3_ranked_84 (lv_at hl 4 rfl) ?_
                    refine lv_iload_n hx hb dX3_ranked_86 rfl (lv_at hl 3 rfl) ?_
                    refine kz_backM (va_runV (As := [.int (zI (j)), .int (zI ((whatOf mea)))]) (rest := [.int (zI ((S 0 ((10 + 14 * o + ((whatOf mea))))))), .int (zI (n))]) ⟨hx, hb, hml, hown, hts⟩ (mX3_of l E H.size Ad (put S 7 7 0) hM j (by omega) ((whatOf mea)) (by omega) (show 0 ≤ j ∧ j < 10 by first | omega | exact hI.st _ (by omega) (by omega) | exact hI.rv _ (by omega) (by omega) | exact hI) (show 0 ≤ ((whatOf mea)) ∧ ((whatOf mea)) < 14 by first | omega | exact hI.st _ (by omega) (by omega) | exact hI.rv _ (by omega) (by omega) | exact hI)) (cwV 2 hts (lw_V q2441 q2443 qs44 q83 q2444) rfl rfl rfl (by decide +kernel) ⟨(Nat.le_of_ble_eq_true rfl), (Nat.le_of_ble_eq_true rfl)⟩) (kz_preVM (wc := mW E Ad (put S 7 7 0)) (va_recv hK hP (ci := 2) (q0 := 0) rfl rfl) hG hS hAN hP hD kz_nilP kz_nilA) rfl rfl hl.1 rfl (lv_room (Nat.le_of_ble_eq_true rfl)) dX3_ranked_87 ⟨(Nat.le_of_ble_eq_true rfl), (Nat.le_of_ble_eq_true rfl)⟩) hP hD hS hA (fun u H9 locs9 hu hP9 hD9 hS9 hzz hkk => ?_)
                    clear hzz hkk hP hD hS H locs u
                    revert hS9 hD9 hP9 locs9 H9
                    intro H locs hP hD hS
                    have r10 : rI ((S 0 ((10 + 14 * j + ((whatOf mea)))))) := hu
                    clear hu
                    replace hP : va_P (kD E) kcl (mW E Ad (put S 7 7 0)) H := hP
                    replace hD : va_D A (mW E Ad (put S 7 7 0)) := hD
                    show W p l e _ s m args below meth c H locs _ _ Q (F0 m 90 ls [.int (zI ((S 0 ((10 + 14 * j + ((whatOf mea))))))), .int (zI ((S 0 ((10 + 14 * o + ((whatOf mea))))))), .int (zI (n))])
                    have J11 : ∀ (v12 : Int) (H : Heap) (locs : List Loc) (ls : Array Slot), v12 = b2 ((((S 0 ((10 + 14 * j + ((whatOf mea)))))) < ((S 0 ((10 + 14 * o + ((whatOf mea))))))) ∨ ((((S 0 ((10 + 14 * o + ((whatOf mea)))))) = ((S 0 ((10 + 14 * j + ((whatOf mea))))))) ∧ (¬ (j ≤ o)))) → va_P (kD E) kcl (mW E Ad (put S 7 7 0)) H → va_D A (mW E Ad (put S 7 7 0)) → va_S A s.heap H locs → lv_has ls 7 [(0, .ref (Ad 0)), (1, .int (zI (mea))), (2, .int (zI (pl))), (3, .int (zI ((whatOf mea)))), (4, .int (zI (j))), (5, .int (zI (n))), (6, .int (zI (o)))] → W p l e (rmk 1 0 0 22) s m args below meth c H locs 0 0 Q (F0 m 122 ls [.int (zI (v12)), .int (zI (n))]) := by
                      clear hl hS hD hP ls locs H
                      intro v12 H locs ls hv12 hP hD hS hl
                      subst hv12
                      have z13 := b2_01 ((((S 0 ((10 + 14 * j + ((whatOf mea)))))) < ((S 0 ((10 + 14 * o + ((whatOf mea))))))) ∨ ((((S 0 ((10 + 14 * o + ((whatOf mea)))))) = ((S 0 ((10 + 14 * j + ((whatOf mea))))))) ∧ (¬ (j ≤ o))))
                      refine kz_iadd hx hb dX3_ranked_122 ?_
                      refine lv_istore (lv' := [(5, .int (zI (n + (b2 ((((S 0 ((10 + 14 * j + ((whatOf mea)))))) < ((S 0 ((10 + 14 * o + ((whatOf mea))))))) ∨ ((((S 0 ((10 + 14 * o + ((whatOf mea)))))) = ((S 0 ((10 + 14 * j + ((whatOf mea))))))) ∧ (¬ (j ≤ o)))))))), (0, .ref (Ad 0)), (1, .int (zI (mea))), (2, .int (zI (pl))), (3, .int (zI ((whatOf mea)))), (4, .int (zI (j))), (6, .int (zI (o)))]) hx hb dX3_ranked_123 hl (by decide) rfl (fun ls hl => ?_)
                      refine kz_iinc (lv' := [(6, .int (zI (o + 1))), (5, .int (zI (n + (b2 ((((S 0 ((10 + 14 * j + ((whatOf mea)))))) < ((S 0 ((10 + 14 * o + ((whatOf mea))))))) ∨ ((((S 0 ((10 + 14 * o + ((whatOf mea)))))) = ((S 0 ((10 + 14 * j + ((whatOf mea))))))) ∧ (¬ (j ≤ o)))))))), (0, .ref (Ad 0)), (1, .int (zI (mea))), (2, .int (zI (pl))), (3, .int (zI ((whatOf mea)))), (4, .int (zI (j)))]) hx hb dX3_ranked_125 hl (k := 6) rfl (by decide) rfl (fun ls hl => ?_)
                      refine lv_goto (tgt := 63) hx hb dX3_ranked_128 (by decide) ?_
                      exact ih63 (n + (b2 ((((S 0 ((10 + 14 * j + ((whatOf mea)))))) < ((S 0 ((10 + 14 * o + ((whatOf mea))))))) ∨ ((((S 0 ((10 + 14 * o + ((whatOf mea)))))) = ((S 0 ((10 + 14 * j + ((whatOf mea))))))) ∧ (¬ (j ≤ o)))))) (o + 1) _ _ _ (by omega) (by rw [sumTo_s _ ho.1, hs]; refine congrArg (_ + ·) ?_; unfold aheadOf; exact b2_c (by omega)) (by omega) (by omega) (by omega) hP hD hS (lv_sub hl [2, 3, 4, 5, 6, 1, 0] rfl)
                    refine kz_icmp_gt (tgt := 117) hx hb dX3_ranked_90 (by decide) (by omega) (by omega) (fun c90 => ?_) (fun c90 => ?_)
                    · skip
                      refine kz_iconst hx hb dX3_ranked_117 ?_
                      refine lv_goto (tgt := 122) hx hb dX3_ranked_118 (by decide) ?_
                      exact J11 1 _ _ _ (b2_t (by first | omega | simp only [c90, if_true, if_false, and_true, true_and, and_false, false_and, or_true, true_or, or_false, false_or, not_true_eq_false, not_false_eq_true])).symm hP hD hS hl
                    · skip
                      refine lv_aload_n hx hb dX3_ranked_93 rfl (lv_at hl 0 rfl) ?_
                      refine lv_iload hx hb dX3_ranked_94 (lv_at hl 6 rfl) ?_
                      refine lv_iload_n hx hb dX3_ranked_96 rfl (lv_at hl 3 rfl) ?_
                      refine kz_backM (va_runV (As := [.int (zI (o)), .int (zI ((whatOf mea)))]) (rest := [.int (zI (n))]) ⟨hx, hb, hml, hown, hts⟩ (mX3_of l E H.size Ad (put S 7 7 0) hM o (by omega) ((whatOf mea)) (by omega) (show 0 ≤ o ∧ o < 10 by first | omega | exact hI.st _ (by omega) (by omega) | exact hI.rv _ (by omega) (by omega) | exact hI) (show 0 ≤ ((whatOf mea)) ∧ ((whatOf mea)) < 14 by first | omega | exact hI.st _ (by omega) (by omega) | exact hI.rv _ (by omega) (by omega) | exact hI)) (cwV 2 hts (lw_V q2441 q2443 qs44 q83 q2444) rfl rfl rfl (by decide +kernel) ⟨(Nat.le_of_ble_eq_true rfl), (Nat.le_of_ble_eq_true rfl)⟩) (kz_preVM (wc := mW E Ad (put S 7 7 0)) (va_recv hK hP (ci := 2) (q0 := 0) rfl rfl) hG hS hAN hP hD kz_nilP kz_nilA) rfl rfl hl.1 rfl (lv_room (Nat.le_of_ble_eq_true rfl)) dX3_ranked_97 ⟨(Nat.le_of_ble_eq_true rfl), (Nat.le_of_ble_eq_true rfl)⟩) hP hD hS hA (fun u H9 locs9 hu hP9 hD9 hS9 hzz hkk => ?_)
                      clear hzz hkk hP hD hS H locs u
                      revert hS9 hD9 hP9 locs9 H9
                      intro H locs hP hD hS
                      have r14 : rI ((S 0 ((10 + 14 * o + ((whatOf mea)))))) := hu
                      clear hu
                      replace hP : va_P (kD E) kcl (mW E Ad (put S 7 7 0)) H := hP
                      replace hD : va_D A (mW E Ad (put S 7 7 0)) := hD
                      show W p l e _ s m args below meth c H locs _ _ Q (F0 m 100 ls [.int (zI ((S 0 ((10 + 14 * o + ((whatOf mea))))))), .int (zI (n))])
                      refine lv_aload_n hx hb dX3_ranked_100 rfl (lv_at hl 0 rfl) ?_
                      refine lv_iload hx hb dX3_ranked_101 (lv_at hl 4 rfl) ?_
                      refine lv_iload_n hx hb dX3_ranked_103 rfl (lv_at hl 3 rfl) ?_
                      refine kz_backM (va_runV (As := [.int (zI (j)), .int (zI ((whatOf mea)))]) (rest := [.int (zI ((S 0 ((10 + 14 * o + ((whatOf mea))))))), .int (zI (n))]) ⟨hx, hb, hml, hown, hts⟩ (mX3_of l E H.size Ad (put S 7 7 0) hM j (by omega) ((whatOf mea)) (by omega) (show 0 ≤ j ∧ j < 10 by first | omega | exact hI.st _ (by omega) (by omega) | exact hI.rv _ (by omega) (by omega) | exact hI) (show 0 ≤ ((whatOf mea)) ∧ ((whatOf mea)) < 14 by first | omega | exact hI.st _ (by omega) (by omega) | exact hI.rv _ (by omega) (by omega) | exact hI)) (cwV 2 hts (lw_V q2441 q2443 qs44 q83 q2444) rfl rfl rfl (by decide +kernel) ⟨(Nat.le_of_ble_eq_true rfl), (Nat.le_of_ble_eq_true rfl)⟩) (kz_preVM (wc := mW E Ad (put S 7 7 0)) (va_recv hK hP (ci := 2) (q0 := 0) rfl rfl) hG hS hAN hP hD kz_nilP kz_nilA) rfl rfl hl.1 rfl (lv_room (Nat.le_of_ble_eq_true rfl)) dX3_ranked_104 ⟨(Nat.le_of_ble_eq_true rfl), (Nat.le_of_ble_eq_true rfl)⟩) hP hD hS hA (fun u H9 locs9 hu hP9 hD9 hS9 hzz hkk => ?_)
                      clear hzz hkk hP hD hS H locs u
                      revert hS9 hD9 hP9 locs9 H9
                      intro H locs hP hD hS
                      have r15 : rI ((S 0 ((10 + 14 * j + ((whatOf mea)))))) := hu
                      clear hu
                      replace hP : va_P (kD E) kcl (mW E Ad (put S 7 7 0)) H := hP
                      replace hD : va_D A (mW E Ad (put S 7 7 0)) := hD
                      show W p l e _ s m args below meth c H locs _ _ Q (F0 m 107 ls [.int (zI ((S 0 ((10 + 14 * j + ((whatOf mea))))))), .int (zI ((S 0 ((10 + 14 * o + ((whatOf mea))))))), .int (zI (n))])
                      refine kz_icmp_ne (tgt := 121) hx hb dX3_ranked_107 (by decide) (by omega) (by omega) (fun c107 => ?_) (fun c107 => ?_)
                      · skip
                        refine kz_iconst hx hb dX3_ranked_121 ?_
                        exact J11 0 _ _ _ (b2_f (by first | omega | simp only [c90, c107, if_true, if_false, and_true, true_and, and_false, false_and, or_true, true_or, or_false, false_or, not_true_eq_false, not_false_eq_true])).symm hP hD hS hl
                      · skip
                        refine lv_iload hx hb dX3_ranked_110 (lv_at hl 6 rfl) ?_
                        refine lv_iload hx hb dX3_ranked_112 (lv_at hl 4 rfl) ?_
                        refine kz_icmp_ge (tgt := 121) hx hb dX3_ranked_114 (by decide) (by omega) (by omega) (fun c114 => ?_) (fun c114 => ?_)
                        · skip
                          refine kz_iconst hx hb dX3_ranked_121 ?_
                          exact J11 0 _ _ _ (b2_f (by first | omega | simp only [c90, c107, c114, if_true, if_false, and_true, true_and, and_false, false_and, or_true, true_or, or_false, false_or, not_true_eq_false, not_false_eq_true])).symm hP hD hS hl
                        · skip
                          refine kz_iconst hx hb dX3_ranked_117 ?_
                          refine lv_goto (tgt := 122) hx hb dX3_ranked_118 (by decide) ?_
                          exact J11 1 _ _ _ (b2_t (by first | omega | simp only [c90, c107, c114, if_true, if_false, and_true, true_and, and_false, false_and, or_true, true_or, or_false, false_or, not_true_eq_false, not_false_eq_true])).symm hP hD hS hl
              exact L63_7 ((S 0 0 - 0 : Int).toNat + 1) 0 0 _ _ _ (by omega) (by rfl) (by omega) (by omega) (Nat.lt_succ_self _) hP hD hS (lv_sub hl [2, 3, 4, 5, 6, 1, 0] rfl)
        exact L46_5 ((S 0 0 - 0 : Int).toNat + 1) 0 _ _ _ (by omega) (by show firstF _ _ _ = _; rw [Int.sub_zero]) (by omega) (Nat.lt_succ_self _) hP hD hS (lv_sub hl [2, 3, 4, 1, 0] rfl)
      refine kz_if_ne (tgt := 31) hx hb dX3_ranked_24 (by decide) (by omega) (fun c24 => ?_) (fun c24 => ?_)
      · skip
        refine lv_iload_n hx hb dX3_ranked_31 rfl (lv_at hl 1 rfl) ?_
        refine kz_iconst hx hb dX3_ranked_32 ?_
        refine kz_icmp_ne (tgt := 41) hx hb dX3_ranked_33 (by decide) (by omega) (by omega) (fun c33 => ?_) (fun c33 => ?_)
        · skip
          refine kz_iconst hx hb dX3_ranked_41 ?_
          exact J3 4 _ _ _ (Eq.symm (Eq.trans (if_neg c24) (if_neg c33))) (by omega) hP hD hS hl
        · skip
          refine kz_bipush hx hb dX3_ranked_36 (by decide) ?_
          refine lv_goto (tgt := 42) hx hb dX3_ranked_38 (by decide) ?_
          exact J3 7 _ _ _ (Eq.symm (Eq.trans (if_neg c24) (if_pos c33))) (by omega) hP hD hS hl
      · skip
        refine kz_iconst hx hb dX3_ranked_27 ?_
        refine lv_goto (tgt := 42) hx hb dX3_ranked_28 (by decide) ?_
        exact J3 2 _ _ _ (Eq.symm (if_pos c24)) (by omega) hP hD hS hl
    · skip
      obtain rfl : v2 = 1 := by omega
      refine kz_iconst hx hb dX3_ranked_21 ?_
      have e0 : xRanked S mea pl = (put S 7 7 1, 0) := by unfold xRanked; (repeat (first | refine Eq.trans (if_pos (by omega)) ?_ | refine Eq.trans (if_neg (by omega)) ?_)); first | rfl | (refine Prod.ext rfl ?_; exact hn)
      have e1 : (xRanked S mea pl).2 = 0 := by rw [e0]
      have e3 : (xRanked S mea pl).1 = put S 7 7 1 := by rw [e0]
      exact kz_iret () hx hb hr hlk hP hD hS dX3_ranked_22 (congrArg (fun z : Int => some (Value.int (zI z))) e1) ⟨(kz_r e1 (by omega)), (kz_M e3 hM)⟩ (congrArg (mW E Ad) e3) hQ (Nat.le_of_ble_eq_true rfl) (Nat.le_of_ble_eq_true rfl)
  refine kz_if0B (tgt := 14) hx hb dX3_ranked_7 (by decide) (fun c7 => ?_) (fun c7 => ?_)
  · skip
    refine kz_iconst hx hb dX3_ranked_14 ?_
    exact J1 1 _ _ _ (Eq.symm (if_neg c7)) (by omega) hP hD hS hl
  · skip
    refine kz_iconst hx hb dX3_ranked_10 ?_
    refine lv_goto (tgt := 15) hx hb dX3_ranked_11 (by decide) ?_
    exact J1 0 _ _ _ (Eq.symm (if_pos c7)) (by omega) hP hD hS hl

set_option maxHeartbeats 4000000 in
set_option maxRecDepth 100000 in
theorem mX3_graded (l : Launch) (E : KE) (sz : Nat) (Ad : Nat → Nat) (S : St) (hM : MOk S) (B : Int) (ch : Int) (rch : rI ch) (hI : GI B (S 0)) : Met l yX3_graded (ws_ yX3_graded cX3_graded 4 (some .int)) (rmk 2 0 0 44) (va_Pc [.ref (Ad 0), .int (zI ch)] (kP l E sz (mW E Ad S) [])) (kQ E (fun _ : Unit => rI ((xGraded S ch).2) ∧ MOk ((xGraded S ch).1)) (fun _ => some (.int (zI ((xGraded S ch).2)))) (fun _ => (mW E Ad ((xGraded S ch).1))) (va_A (mW E Ad S) sz)) 0 0 (va_A (mW E Ad S) sz) := by
  refine kz_start (Qf := kQ E (fun _ : Unit => rI ((xGraded S ch).2) ∧ MOk ((xGraded S ch).1)) (fun _ => some (.int (zI ((xGraded S ch).2)))) (fun _ => (mW E Ad ((xGraded S ch).1)))) (by decide) (Nat.le_of_ble_eq_true rfl) ?_
  intro p e s m args below meth c A ls Q H locs hx hb hr hlk hml hts hown hname hG hK hA hAN hP hD hR hRA hS hQ hl
  replace hown : s.vm.findClass RX3 = some m.cls := hown
  replace hl : lv_has ls 4 [(0, .ref (Ad 0)), (1, .int (zI (ch)))] := hl
  have g0 := hI.n
  have g1 := hI.m
  have g2 := hI.ct
  replace hP : va_P (kD E) kcl (mW E Ad (S)) H := hP
  replace hD : va_D A (mW E Ad (S)) := hD
  refine lv_aload_n hx hb dX3_graded_0 rfl (lv_at hl 0 rfl) ?_
  refine lv_iload_n hx hb dX3_graded_1 rfl (lv_at hl 1 rfl) ?_
  refine kz_bipush hx hb dX3_graded_2 (by decide) ?_
  refine kz_bipush hx hb dX3_graded_4 (by decide) ?_
  refine kz_back (wc := []) (wx := (mW E Ad (S))) (va_runS (As := [.int (zI (ch)), .int (zI (97)), .int (zI (101))]) (rest := [.ref (Ad 0)]) ⟨hx, hb, hml, hown, hts⟩ (mX3_in l E H.size ch (by omega) 97 (by omega) 101 (by omega)) (va_cwS 3 hts (lw_S q2391 q2392 q83 q2393) rfl rfl rfl (by decide +kernel) ⟨(Nat.le_of_ble_eq_true rfl), (Nat.le_of_ble_eq_true rfl)⟩) (kz_pre (wc := []) (wx := (mW E Ad (S))) hG hS hAN hP hD kz_nilP kz_nilA) rfl rfl hl.1 rfl (lv_room (Nat.le_of_ble_eq_true rfl)) dX3_graded_6 ⟨(Nat.le_of_ble_eq_true rfl), (Nat.le_of_ble_eq_true rfl)⟩) hP hD hS hA (fun u H9 locs9 hu hP9 hD9 hS9 hzz hkk => ?_)
  clear hzz hkk hP hD hS H locs u
  revert hS9 hD9 hP9 locs9 H9
  intro H locs hP hD hS
  clear hu
  replace hP : va_P (kD E) kcl (mW E Ad (S)) H := hP
  replace hD : va_D A (mW E Ad (S)) := hD
  show W p l e _ s m args below meth c H locs _ _ Q (F0 m 9 ls [.int (zI (b2 (97 ≤ ch ∧ ch ≤ 101))), .ref (Ad 0)])
  have J1 : ∀ (v2 : Int) (H : Heap) (locs : List Loc) (ls : Array Slot), v2 = (if 97 ≤ ch ∧ ch ≤ 101 then 0 else 1) → rI v2 → va_P (kD E) kcl (mW E Ad (S)) H → va_D A (mW E Ad (S)) → va_S A s.heap H locs → lv_has ls 4 [(0, .ref (Ad 0)), (1, .int (zI (ch)))] → W p l e (rmk 2 0 0 44) s m args below meth c H locs 0 0 Q (F0 m 17 ls [.int (zI (v2)), .ref (Ad 0)]) := by
    clear hl hS hD hP ls locs H
    intro v2 H locs ls hv2 rv2 hP hD hS hl
    have dv2 : (¬ (97 ≤ ch ∧ ch ≤ 101) ∧ v2 = 1) ∨ (97 ≤ ch ∧ ch ≤ 101 ∧ v2 = 0) := by rw [hv2]; (repeat' split) <;> first | omega | simp_all
    refine kz_backM (va_runV (As := [.int (zI (v2))]) (rest := []) ⟨hx, hb, hml, hown, hts⟩ (mX3_fails l E H.size Ad S hM v2 (by omega)) (cwV 1 hts (lw_V q2394 q2396 qs36 q83 q2397) rfl rfl rfl (by decide +kernel) ⟨(Nat.le_of_ble_eq_true rfl), (Nat.le_of_ble_eq_true rfl)⟩) (kz_preVM (wc := mW E Ad S) (va_recv hK hP (ci := 2) (q0 := 0) rfl rfl) hG hS hAN hP hD kz_nilP kz_nilA) rfl rfl hl.1 rfl (lv_room (Nat.le_of_ble_eq_true rfl)) dX3_graded_17 ⟨(Nat.le_of_ble_eq_true rfl), (Nat.le_of_ble_eq_true rfl)⟩) hP hD hS hA (fun u H9 locs9 hu hP9 hD9 hS9 hzz hkk => ?_)
    clear hzz hkk hP hD hS H locs u
    revert hS9 hD9 hP9 locs9 H9
    intro H locs hP hD hS
    replace hM : MOk (put S 7 7 v2) := hu
    clear hu
    replace hP : va_P (kD E) kcl (mW E Ad (put S 7 7 v2)) H := hP
    replace hD : va_D A (mW E Ad (put S 7 7 v2)) := hD
    show W p l e _ s m args below meth c H locs _ _ Q (F0 m 20 ls [.int (zI (b2 (0 < v2)))])
    refine kz_if0B (tgt := 25) hx hb dX3_graded_20 (by decide) (fun c20 => ?_) (fun c20 => ?_)
    · skip
      obtain rfl : v2 = 0 := by omega
      refine kz_iconst hx hb dX3_graded_25 ?_
      refine lv_istore_n (lv' := [(2, .int (zI (0))), (0, .ref (Ad 0)), (1, .int (zI (ch)))]) hx hb dX3_graded_26 rfl hl (by decide) rfl (fun ls hl => ?_)
      refine kz_iconst hx hb dX3_graded_27 ?_
      refine lv_istore_n (lv' := [(3, .int (zI (0))), (2, .int (zI (0))), (0, .ref (Ad 0)), (1, .int (zI (ch)))]) hx hb dX3_graded_28 rfl hl (by decide) rfl (fun ls hl => ?_)
      have L29_3 : ∀ (fu : Nat) (n k : Int) (H : Heap) (locs : List Loc) (ls : Array Slot), (0 ≤ k ∧ k ≤ S 0 0 ∧ 0 ≤ n ∧ n ≤ k) → (n = sumTo (fun k => b2 (gradeG (S 0) k = ch)) k.toNat) → rI n → rI k → (S 0 0 - k : Int).toNat < fu → va_P (kD E) kcl (mW E Ad (put S 7 7 0)) H → va_D A (mW E Ad (put S 7 7 0)) → va_S A s.heap H locs → lv_has ls 4 [(0, .ref (Ad 0)), (1, .int (zI (ch))), (2, .int (zI (n))), (3, .int (zI (k)))] → W p l e (rmk 2 0 0 44) s m args below meth c H locs 0 0 Q (F0 m 29 ls []) := by
        clear hl hS hD hP ls locs H
        intro fu
        induction fu with
        | zero => intro n k H locs ls hk hn rn rk hf; exact absurd hf (Nat.not_lt_zero _)
        | succ fu ih29 =>
          intro n k H locs ls hk hn rn rk hf hP hD hS hl
          refine lv_iload_n hx hb dX3_graded_29 rfl (lv_at hl 3 rfl) ?_
          refine lv_aload_n hx hb dX3_graded_30 rfl (lv_at hl 0 rfl) ?_
          refine va_get (D := kD E) (ci := 2) (fs := mO Ad (put S 7 7 0)) (v := .ref (Ad 1)) (C := RX3) (T := TX3) (N := 19) hx hb hts in_X3 hown hK hP 0 rfl rfl 0 (by decide) (hts _ q2320) (fun _ h9 => h9) rfl dX3_graded_31 ?_
          refine kz_iconst hx hb dX3_graded_34 ?_
          refine kz_iald (cA := kA E 0) (n := 304) (g := S 0) hx hb hK hP 1 0 rfl rfl (by omega) dX3_graded_35 ?_
          have r4 : rI (S 0 0) := hM 0 0
          refine kz_icmp_ge (tgt := 62) hx hb dX3_graded_36 (by decide) (by omega) (by omega) (fun c36 => ?_) (fun c36 => ?_)
          · skip
            refine lv_iload_n hx hb dX3_graded_62 rfl (lv_at hl 2 rfl) ?_
            have e0 : xGraded S ch = (put S 7 7 0, n) := by unfold xGraded; (repeat (first | refine Eq.trans (if_pos (by omega)) ?_ | refine Eq.trans (if_neg (by omega)) ?_)); first | rfl | (refine Prod.ext rfl ?_; rw [hn, show k = S 0 0 by omega]; rfl)
            have e1 : (xGraded S ch).2 = n := by rw [e0]
            have e3 : (xGraded S ch).1 = put S 7 7 0 := by rw [e0]
            exact kz_iret () hx hb hr hlk hP hD hS dX3_graded_63 (congrArg (fun z : Int => some (Value.int (zI z))) e1) ⟨(kz_r e1 (by omega)), (kz_M e3 hM)⟩ (congrArg (mW E Ad) e3) hQ (Nat.le_of_ble_eq_true rfl) (Nat.le_of_ble_eq_true rfl)
          · skip
            refine lv_iload_n hx hb dX3_graded_39 rfl (lv_at hl 2 rfl) ?_
            refine lv_aload_n hx hb dX3_graded_40 rfl (lv_at hl 0 rfl) ?_
            refine lv_iload_n hx hb dX3_graded_41 rfl (lv_at hl 3 rfl) ?_
            refine kz_backM (va_runV (As := [.int (zI (k))]) (rest := [.int (zI (n))]) ⟨hx, hb, hml, hown, hts⟩ (mX3_gradeOf l E H.size Ad (put S 7 7 0) hM k (by omega) (show 0 ≤ k ∧ k < 10 by first | omega | exact hI.st _ (by omega) (by omega) | exact hI.rv _ (by omega) (by omega) | exact hI) (show SB (S 0) k by first | omega | exact hI.st _ (by omega) (by omega) | exact hI.rv _ (by omega) (by omega) | exact hI)) (cwV 1 hts (lw_V q2453 q2455 qs46 q83 q2456) rfl rfl rfl (by decide +kernel) ⟨(Nat.le_of_ble_eq_true rfl), (Nat.le_of_ble_eq_true rfl)⟩) (kz_preVM (wc := mW E Ad (put S 7 7 0)) (va_recv hK hP (ci := 2) (q0 := 0) rfl rfl) hG hS hAN hP hD kz_nilP kz_nilA) rfl rfl hl.1 rfl (lv_room (Nat.le_of_ble_eq_true rfl)) dX3_graded_42 ⟨(Nat.le_of_ble_eq_true rfl), (Nat.le_of_ble_eq_true rfl)⟩) hP hD hS hA (fun u H9 locs9 hu hP9 hD9 hS9 hzz hkk => ?_)
            clear hzz hkk hP hD hS H locs u
            revert hS9 hD9 hP9 locs9 H9
            intro H locs hP hD hS
            obtain ⟨r5, p6⟩ := hu
            replace r5 : rI (gradeG (S 0) k) := r5
            replace p6 : 97 ≤ gradeG (S 0) k ∧ gradeG (S 0) k ≤ 101 := p6
            replace hP : va_P (kD E) kcl (mW E Ad (put S 7 7 0)) H := hP
            replace hD : va_D A (mW E Ad (put S 7 7 0)) := hD
            show W p l e _ s m args below meth c H locs _ _ Q (F0 m 45 ls [.int (zI (gradeG (S 0) k)), .int (zI (n))])
            refine lv_iload_n hx hb dX3_graded_45 rfl (lv_at hl 1 rfl) ?_
            have J7 : ∀ (v8 : Int) (H : Heap) (locs : List Loc) (ls : Array Slot), v8 = b2 ((gradeG (S 0) k) = ch) → va_P (kD E) kcl (mW E Ad (put S 7 7 0)) H → va_D A (mW E Ad (put S 7 7 0)) → va_S A s.heap H locs → lv_has ls 4 [(0, .ref (Ad 0)), (1, .int (zI (ch))), (2, .int (zI (n))), (3, .int (zI (k)))] → W p l e (rmk 2 0 0 44) s m args below meth c H locs 0 0 Q (F0 m 54 ls [.int (zI (v8)), .int (zI (n))]) := by
              clear hl hS hD hP ls locs H
              intro v8 H locs ls hv8 hP hD hS hl
              subst hv8
              have z9 := b2_01 ((gradeG (S 0) k) = ch)
              refine kz_iadd hx hb dX3_graded_54 ?_
              refine lv_istore_n (lv' := [(2, .int (zI (n + (b2 ((gradeG (S 0) k) = ch))))), (0, .ref (Ad 0)), (1, .int (zI (ch))), (3, .int (zI (k)))]) hx hb dX3_graded_55 rfl hl (by decide) rfl (fun ls hl => ?_)
              refine kz_iinc (lv' := [(3, .int (zI (k + 1))), (2, .int (zI (n + (b2 ((gradeG (S 0) k) = ch))))), (0, .ref (Ad 0)), (1, .int (zI (ch)))]) hx hb dX3_graded_56 hl (k := 3) rfl (by decide) rfl (fun ls hl => ?_)
              refine lv_goto (tgt := 29) hx hb dX3_graded_59 (by decide) ?_
              exact ih29 (n + (b2 ((gradeG (S 0) k) = ch))) (k + 1) _ _ _ (by omega) (by rw [sumTo_s _ hk.1, hn]) (by omega) (by omega) (by omega) hP hD hS (lv_sub hl [2, 3, 1, 0] rfl)
            refine kz_icmp_ne (tgt := 53) hx hb dX3_graded_46 (by decide) (by omega) (by omega) (fun c46 => ?_) (fun c46 => ?_)
            · skip
              refine kz_iconst hx hb dX3_graded_53 ?_
              exact J7 0 _ _ _ (b2_f (by first | omega | simp only [c46, if_true, if_false, and_true, true_and, and_false, false_and, or_true, true_or, or_false, false_or, not_true_eq_false, not_false_eq_true])).symm hP hD hS hl
            · skip
              refine kz_iconst hx hb dX3_graded_49 ?_
              refine lv_goto (tgt := 54) hx hb dX3_graded_50 (by decide) ?_
              exact J7 1 _ _ _ (b2_t (by first | omega | simp only [c46, if_true, if_false, and_true, true_and, and_false, false_and, or_true, true_or, or_false, false_or, not_true_eq_false, not_false_eq_true])).symm hP hD hS hl
      exact L29_3 ((S 0 0 - 0 : Int).toNat + 1) 0 0 _ _ _ (by omega) (by rfl) (by omega) (by omega) (Nat.lt_succ_self _) hP hD hS (lv_sub hl [2, 3, 1, 0] rfl)
    · skip
      obtain rfl : v2 = 1 := by omega
      refine kz_iconst hx hb dX3_graded_23 ?_
      have e0 : xGraded S ch = (put S 7 7 1, 0) := by unfold xGraded; (repeat (first | refine Eq.trans (if_pos (by omega)) ?_ | refine Eq.trans (if_neg (by omega)) ?_)); first | rfl | (refine Prod.ext rfl ?_; rw [hn, show k = S 0 0 by omega]; rfl)
      have e1 : (xGraded S ch).2 = 0 := by rw [e0]
      have e3 : (xGraded S ch).1 = put S 7 7 1 := by rw [e0]
      exact kz_iret () hx hb hr hlk hP hD hS dX3_graded_24 (congrArg (fun z : Int => some (Value.int (zI z))) e1) ⟨(kz_r e1 (by omega)), (kz_M e3 hM)⟩ (congrArg (mW E Ad) e3) hQ (Nat.le_of_ble_eq_true rfl) (Nat.le_of_ble_eq_true rfl)
  refine kz_if0B (tgt := 16) hx hb dX3_graded_9 (by decide) (fun c9 => ?_) (fun c9 => ?_)
  · skip
    refine kz_iconst hx hb dX3_graded_16 ?_
    exact J1 1 _ _ _ (Eq.symm (if_neg c9)) (by omega) hP hD hS hl
  · skip
    refine kz_iconst hx hb dX3_graded_12 ?_
    refine lv_goto (tgt := 17) hx hb dX3_graded_13 (by decide) ?_
    exact J1 0 _ _ _ (Eq.symm (if_pos c9)) (by omega) hP hD hS hl

set_option maxHeartbeats 4000000 in
set_option maxRecDepth 100000 in
theorem mX3_isRight (l : Launch) (E : KE) (sz : Nat) (Ad : Nat → Nat) (S : St) (hM : MOk S) (B : Int) (hI : GI B (S 0)) : Met l yX3_isRight (ws_ yX3_isRight cX3_isRight 1 (some .boolean)) (rmk 2 0 0 45) (va_Pc [.ref (Ad 0)] (kP l E sz (mW E Ad S) [])) (kQ E (fun _ : Unit => MOk (put S 7 7 0)) (fun _ => some (.int (zI (b2 (stay (S 0) (-2) = S 0 8))))) (fun _ => (mW E Ad (put S 7 7 0))) (va_A (mW E Ad S) sz)) 0 0 (va_A (mW E Ad S) sz) := by
  refine kz_start (Qf := kQ E (fun _ : Unit => MOk (put S 7 7 0)) (fun _ => some (.int (zI (b2 (stay (S 0) (-2) = S 0 8))))) (fun _ => (mW E Ad (put S 7 7 0)))) (by decide) (Nat.le_of_ble_eq_true rfl) ?_
  intro p e s m args below meth c A ls Q H locs hx hb hr hlk hml hts hown hname hG hK hA hAN hP hD hR hRA hS hQ hl
  replace hown : s.vm.findClass RX3 = some m.cls := hown
  replace hl : lv_has ls 1 [(0, .ref (Ad 0))] := hl
  have g0 := hI.n
  have g1 := hI.m
  have g2 := hI.ct
  replace hP : va_P (kD E) kcl (mW E Ad (S)) H := hP
  replace hD : va_D A (mW E Ad (S)) := hD
  refine lv_aload_n hx hb dX3_isRight_0 rfl (lv_at hl 0 rfl) ?_
  refine kz_iconst hx hb dX3_isRight_1 ?_
  refine va_put (D := kD E) (ci := 2) (fs := mO Ad (S)) (v := .int (zI (0))) (ty := .int) (C := RX3) (T := TX3) (N := 19) hx hb hts in_X3 tyX3 tyX3_ok nmX3 hown hK hP hD hS 0 rfl rfl 7 (by decide) (hts _ q2327) (fun _ h9 => h9) rfl (by decide +kernel) rfl rfl (Nat.le_of_ble_eq_true rfl) dX3_isRight_2 (fun H9 locs9 hP9 hD9 hS9 => ?_)
  rw [mW_f7] at hP9 hD9
  clear hP hD hS H locs
  revert hS9 hD9 hP9 locs9 H9
  intro H locs hP hD hS
  replace hP : va_P (kD E) kcl (mW E Ad (put S 7 7 0)) H := hP
  replace hD : va_D A (mW E Ad (put S 7 7 0)) := hD
  replace hM : MOk (put S 7 7 0) := hM.put 7 7 (by omega)
  refine lv_aload_n hx hb dX3_isRight_5 rfl (lv_at hl 0 rfl) ?_
  refine kz_bipush hx hb dX3_isRight_6 (by decide) ?_
  refine kz_backM (va_runV (As := [.int (zI ((-2)))]) (rest := []) ⟨hx, hb, hml, hown, hts⟩ (mX3_stay l E H.size Ad (put S 7 7 0) hM ((-2)) (by omega) (show 0 ≤ (S 0 0) ∧ (S 0 0) ≤ 10 by first | omega | exact hI.st _ (by omega) (by omega) | exact hI.rv _ (by omega) (by omega) | exact hI)) (cwV 1 hts (lw_V q2469 q2471 qs49 q83 q2472) rfl rfl rfl (by decide +kernel) ⟨(Nat.le_of_ble_eq_true rfl), (Nat.le_of_ble_eq_true rfl)⟩) (kz_preVM (wc := mW E Ad (put S 7 7 0)) (va_recv hK hP (ci := 2) (q0 := 0) rfl rfl) hG hS hAN hP hD kz_nilP kz_nilA) rfl rfl hl.1 rfl (lv_room (Nat.le_of_ble_eq_true rfl)) dX3_isRight_8 ⟨(Nat.le_of_ble_eq_true rfl), (Nat.le_of_ble_eq_true rfl)⟩) hP hD hS hA (fun u H9 locs9 hu hP9 hD9 hS9 hzz hkk => ?_)
  clear hzz hkk hP hD hS H locs u
  revert hS9 hD9 hP9 locs9 H9
  intro H locs hP hD hS
  have r1 : rI (stay (S 0) ((-2))) := hu
  clear hu
  replace hP : va_P (kD E) kcl (mW E Ad (put S 7 7 0)) H := hP
  replace hD : va_D A (mW E Ad (put S 7 7 0)) := hD
  show W p l e _ s m args below meth c H locs _ _ Q (F0 m 11 ls [.int (zI (stay (S 0) ((-2))))])
  refine lv_aload_n hx hb dX3_isRight_11 rfl (lv_at hl 0 rfl) ?_
  refine va_get (D := kD E) (ci := 2) (fs := mO Ad (put S 7 7 0)) (v := .ref (Ad 1)) (C := RX3) (T := TX3) (N := 19) hx hb hts in_X3 hown hK hP 0 rfl rfl 0 (by decide) (hts _ q2320) (fun _ h9 => h9) rfl dX3_isRight_12 ?_
  refine kz_bipush hx hb dX3_isRight_15 (by decide) ?_
  refine kz_iald (cA := kA E 0) (n := 304) (g := S 0) hx hb hK hP 1 0 rfl rfl (by omega) dX3_isRight_17 ?_
  have r2 : rI (S 0 8) := hM 0 8
  refine kz_icmp_ne (tgt := 25) hx hb dX3_isRight_18 (by decide) (by omega) (by omega) (fun c18 => ?_) (fun c18 => ?_)
  · skip
    refine kz_iconst hx hb dX3_isRight_25 ?_
    have e1 : b2 (stay (S 0) (-2) = S 0 8) = (0 : Int) := b2_f (by omega)
    have e3 : put S 7 7 0 = put S 7 7 0 := by rfl
    exact kz_zNret () hx hb hr hlk hP hD hS dX3_isRight_26 (by decide) (congrArg (fun z : Int => some (Value.int (zI z))) e1) (kz_M e3 hM) (congrArg (mW E Ad) e3) hQ (Nat.le_of_ble_eq_true rfl) (Nat.le_of_ble_eq_true rfl)
  · skip
    refine kz_iconst hx hb dX3_isRight_21 ?_
    refine lv_goto (tgt := 26) hx hb dX3_isRight_22 (by decide) ?_
    have e1 : b2 (stay (S 0) (-2) = S 0 8) = (1 : Int) := b2_t (by omega)
    have e3 : put S 7 7 0 = put S 7 7 0 := by rfl
    exact kz_zNret () hx hb hr hlk hP hD hS dX3_isRight_26 (by decide) (congrArg (fun z : Int => some (Value.int (zI z))) e1) (kz_M e3 hM) (congrArg (mW E Ad) e3) hQ (Nat.le_of_ble_eq_true rfl) (Nat.le_of_ble_eq_true rfl)

set_option maxHeartbeats 4000000 in
set_option maxRecDepth 100000 in
theorem mX3_refusal (l : Launch) (E : KE) (sz : Nat) (Ad : Nat → Nat) (S : St) (hM : MOk S) (d : Prop) [Decidable d] : Met l yX3_refusal (ws_ yX3_refusal cX3_refusal 2 (some .int)) (rmk 1 0 0 21) (va_Pc [.ref (Ad 0), .int (zI (b2 d))] (kP l E sz (mW E Ad S) [])) (kQ E (fun _ : Unit => rI ((xRefusal S (d)).2) ∧ MOk ((xRefusal S (d)).1)) (fun _ => some (.int (zI ((xRefusal S (d)).2)))) (fun _ => (mW E Ad ((xRefusal S (d)).1))) (va_A (mW E Ad S) sz)) 0 0 (va_A (mW E Ad S) sz) := by
  refine kz_start (Qf := kQ E (fun _ : Unit => rI ((xRefusal S (d)).2) ∧ MOk ((xRefusal S (d)).1)) (fun _ => some (.int (zI ((xRefusal S (d)).2)))) (fun _ => (mW E Ad ((xRefusal S (d)).1)))) (by decide) (Nat.le_of_ble_eq_true rfl) ?_
  intro p e s m args below meth c A ls Q H locs hx hb hr hlk hml hts hown hname hG hK hA hAN hP hD hR hRA hS hQ hl
  replace hown : s.vm.findClass RX3 = some m.cls := hown
  replace hl : lv_has ls 2 [(0, .ref (Ad 0)), (1, .int (zI (b2 (d))))] := hl
  replace hP : va_P (kD E) kcl (mW E Ad (S)) H := hP
  replace hD : va_D A (mW E Ad (S)) := hD
  refine lv_aload_n hx hb dX3_refusal_0 rfl (lv_at hl 0 rfl) ?_
  refine lv_aload_n hx hb dX3_refusal_1 rfl (lv_at hl 0 rfl) ?_
  have r1 : rI (S 7 8) := hM 7 8
  refine va_get (D := kD E) (ci := 2) (fs := mO Ad (S)) (v := .int (zI (S 7 8))) (C := RX3) (T := TX3) (N := 19) hx hb hts in_X3 hown hK hP 0 rfl rfl 8 (by decide) (hts _ q2328) (fun _ h9 => h9) rfl dX3_refusal_2 ?_
  have J2 : ∀ (v3 : Int) (H : Heap) (locs : List Loc) (ls : Array Slot), v3 = (if (S 7 8) = 0 then 1 else 0) → rI v3 → va_P (kD E) kcl (mW E Ad (S)) H → va_D A (mW E Ad (S)) → va_S A s.heap H locs → lv_has ls 2 [(0, .ref (Ad 0)), (1, .int (zI (b2 (d))))] → W p l e (rmk 1 0 0 21) s m args below meth c H locs 0 0 Q (F0 m 13 ls [.int (zI (v3)), .ref (Ad 0)]) := by
    clear hl hS hD hP ls locs H
    intro v3 H locs ls hv3 rv3 hP hD hS hl
    have dv3 : (¬ ((S 7 8) = 0) ∧ v3 = 0) ∨ ((S 7 8) = 0 ∧ v3 = 1) := by rw [hv3]; (repeat' split) <;> first | omega | simp_all
    refine kz_backM (va_runV (As := [.int (zI (v3))]) (rest := []) ⟨hx, hb, hml, hown, hts⟩ (mX3_fails l E H.size Ad S hM v3 (by omega)) (cwV 1 hts (lw_V q2394 q2396 qs36 q83 q2397) rfl rfl rfl (by decide +kernel) ⟨(Nat.le_of_ble_eq_true rfl), (Nat.le_of_ble_eq_true rfl)⟩) (kz_preVM (wc := mW E Ad S) (va_recv hK hP (ci := 2) (q0 := 0) rfl rfl) hG hS hAN hP hD kz_nilP kz_nilA) rfl rfl hl.1 rfl (lv_room (Nat.le_of_ble_eq_true rfl)) dX3_refusal_13 ⟨(Nat.le_of_ble_eq_true rfl), (Nat.le_of_ble_eq_true rfl)⟩) hP hD hS hA (fun u H9 locs9 hu hP9 hD9 hS9 hzz hkk => ?_)
    clear hzz hkk hP hD hS H locs u
    revert hS9 hD9 hP9 locs9 H9
    intro H locs hP hD hS
    replace hM : MOk (put S 7 7 v3) := hu
    clear hu
    replace hP : va_P (kD E) kcl (mW E Ad (put S 7 7 v3)) H := hP
    replace hD : va_D A (mW E Ad (put S 7 7 v3)) := hD
    show W p l e _ s m args below meth c H locs _ _ Q (F0 m 16 ls [.int (zI (b2 (0 < v3)))])
    refine kz_if0B (tgt := 23) hx hb dX3_refusal_16 (by decide) (fun c16 => ?_) (fun c16 => ?_)
    · skip
      obtain rfl : v3 = 0 := by omega
      refine lv_iload_n hx hb dX3_refusal_23 rfl (lv_at hl 1 rfl) ?_
      refine kz_if0B (tgt := 34) hx hb dX3_refusal_24 (by decide) (fun c24 => ?_) (fun c24 => ?_)
      · skip
        refine lv_aload_n hx hb dX3_refusal_34 rfl (lv_at hl 0 rfl) ?_
        have r4 : rI (S 7 8) := hM 7 8
        refine va_get (D := kD E) (ci := 2) (fs := mO Ad (put S 7 7 0)) (v := .int (zI (S 7 8))) (C := RX3) (T := TX3) (N := 19) hx hb hts in_X3 hown hK hP 0 rfl rfl 8 (by decide) (hts _ q2328) (fun _ h9 => h9) rfl dX3_refusal_35 ?_
        have e0 : xRefusal S (d) = (put S 7 7 0, S 7 8) := by unfold xRefusal; (repeat (first | refine Eq.trans (if_pos (by omega)) ?_ | refine Eq.trans (if_neg (by omega)) ?_)); first | rfl | (refine Prod.ext rfl ?_; (repeat (first | refine Eq.trans (if_pos (by omega)) ?_ | refine Eq.trans (if_neg (by omega)) ?_)); rfl)
        have e1 : (xRefusal S (d)).2 = S 7 8 := by rw [e0]
        have e3 : (xRefusal S (d)).1 = put S 7 7 0 := by rw [e0]
        exact kz_iret () hx hb hr hlk hP hD hS dX3_refusal_38 (congrArg (fun z : Int => some (Value.int (zI z))) e1) ⟨(kz_r e1 (by omega)), (kz_M e3 hM)⟩ (congrArg (mW E Ad) e3) hQ (Nat.le_of_ble_eq_true rfl) (Nat.le_of_ble_eq_true rfl)
      · skip
        refine lv_aload_n hx hb dX3_refusal_27 rfl (lv_at hl 0 rfl) ?_
        have r5 : rI (S 7 9) := hM 7 9
        refine va_get (D := kD E) (ci := 2) (fs := mO Ad (put S 7 7 0)) (v := .int (zI (S 7 9))) (C := RX3) (T := TX3) (N := 19) hx hb hts in_X3 hown hK hP 0 rfl rfl 9 (by decide) (hts _ q2329) (fun _ h9 => h9) rfl dX3_refusal_28 ?_
        refine lv_goto (tgt := 38) hx hb dX3_refusal_31 (by decide) ?_
        have e0 : xRefusal S (d) = (put S 7 7 0, S 7 9) := by unfold xRefusal; (repeat (first | refine Eq.trans (if_pos (by omega)) ?_ | refine Eq.trans (if_neg (by omega)) ?_)); first | rfl | (refine Prod.ext rfl ?_; (repeat (first | refine Eq.trans (if_pos (by omega)) ?_ | refine Eq.trans (if_neg (by omega)) ?_)); rfl)
        have e1 : (xRefusal S (d)).2 = S 7 9 := by rw [e0]
        have e3 : (xRefusal S (d)).1 = put S 7 7 0 := by rw [e0]
        exact kz_iret () hx hb hr hlk hP hD hS dX3_refusal_38 (congrArg (fun z : Int => some (Value.int (zI z))) e1) ⟨(kz_r e1 (by omega)), (kz_M e3 hM)⟩ (congrArg (mW E Ad) e3) hQ (Nat.le_of_ble_eq_true rfl) (Nat.le_of_ble_eq_true rfl)
    · skip
      obtain rfl : v3 = 1 := by omega
      refine kz_iconst hx hb dX3_refusal_19 ?_
      refine lv_goto (tgt := 38) hx hb dX3_refusal_20 (by decide) ?_
      have e0 : xRefusal S (d) = (put S 7 7 1, 0) := by unfold xRefusal; (repeat (first | refine Eq.trans (if_pos (by omega)) ?_ | refine Eq.trans (if_neg (by omega)) ?_)); first | rfl | (refine Prod.ext rfl ?_; (repeat (first | refine Eq.trans (if_pos (by omega)) ?_ | refine Eq.trans (if_neg (by omega)) ?_)); rfl)
      have e1 : (xRefusal S (d)).2 = 0 := by rw [e0]
      have e3 : (xRefusal S (d)).1 = put S 7 7 1 := by rw [e0]
      exact kz_iret () hx hb hr hlk hP hD hS dX3_refusal_38 (congrArg (fun z : Int => some (Value.int (zI z))) e1) ⟨(kz_r e1 (by omega)), (kz_M e3 hM)⟩ (congrArg (mW E Ad) e3) hQ (Nat.le_of_ble_eq_true rfl) (Nat.le_of_ble_eq_true rfl)
  refine kz_if_ne (tgt := 12) hx hb dX3_refusal_5 (by decide) (by omega) (fun c5 => ?_) (fun c5 => ?_)
  · skip
    refine kz_iconst hx hb dX3_refusal_12 ?_
    exact J2 0 _ _ _ (Eq.symm (if_neg c5)) (by omega) hP hD hS hl
  · skip
    refine kz_iconst hx hb dX3_refusal_8 ?_
    refine lv_goto (tgt := 13) hx hb dX3_refusal_9 (by decide) ?_
    exact J2 1 _ _ _ (Eq.symm (if_pos c5)) (by omega) hP hD hS hl

set_option maxHeartbeats 4000000 in
set_option maxRecDepth 100000 in
theorem mX3_errorPosition (l : Launch) (E : KE) (sz : Nat) (Ad : Nat → Nat) (S : St) (hM : MOk S) : Met l yX3_errorPosition (ws_ yX3_errorPosition cX3_errorPosition 1 (some .int)) (rmk 1 0 0 21) (va_Pc [.ref (Ad 0)] (kP l E sz (mW E Ad S) [])) (kQ E (fun _ : Unit => rI ((xErr S).2) ∧ MOk ((xErr S).1)) (fun _ => some (.int (zI ((xErr S).2)))) (fun _ => (mW E Ad ((xErr S).1))) (va_A (mW E Ad S) sz)) 0 0 (va_A (mW E Ad S) sz) := by
  refine kz_start (Qf := kQ E (fun _ : Unit => rI ((xErr S).2) ∧ MOk ((xErr S).1)) (fun _ => some (.int (zI ((xErr S).2)))) (fun _ => (mW E Ad ((xErr S).1)))) (by decide) (Nat.le_of_ble_eq_true rfl) ?_
  intro p e s m args below meth c A ls Q H locs hx hb hr hlk hml hts hown hname hG hK hA hAN hP hD hR hRA hS hQ hl
  replace hown : s.vm.findClass RX3 = some m.cls := hown
  replace hl : lv_has ls 1 [(0, .ref (Ad 0))] := hl
  replace hP : va_P (kD E) kcl (mW E Ad (S)) H := hP
  replace hD : va_D A (mW E Ad (S)) := hD
  refine lv_aload_n hx hb dX3_errorPosition_0 rfl (lv_at hl 0 rfl) ?_
  refine lv_aload_n hx hb dX3_errorPosition_1 rfl (lv_at hl 0 rfl) ?_
  have r1 : rI (S 7 12) := hM 7 12
  refine va_get (D := kD E) (ci := 2) (fs := mO Ad (S)) (v := .int (zI (S 7 12))) (C := RX3) (T := TX3) (N := 19) hx hb hts in_X3 hown hK hP 0 rfl rfl 12 (by decide) (hts _ q2332) (fun _ h9 => h9) rfl dX3_errorPosition_2 ?_
  have J2 : ∀ (v3 : Int) (H : Heap) (locs : List Loc) (ls : Array Slot), v3 = (if 0 ≤ (S 7 12) then 0 else 1) → rI v3 → va_P (kD E) kcl (mW E Ad (S)) H → va_D A (mW E Ad (S)) → va_S A s.heap H locs → lv_has ls 1 [(0, .ref (Ad 0))] → W p l e (rmk 1 0 0 21) s m args below meth c H locs 0 0 Q (F0 m 13 ls [.int (zI (v3)), .ref (Ad 0)]) := by
    clear hl hS hD hP ls locs H
    intro v3 H locs ls hv3 rv3 hP hD hS hl
    have dv3 : (0 ≤ (S 7 12) ∧ v3 = 0) ∨ (¬ (0 ≤ (S 7 12)) ∧ v3 = 1) := by rw [hv3]; (repeat' split) <;> first | omega | simp_all
    refine kz_backM (va_runV (As := [.int (zI (v3))]) (rest := []) ⟨hx, hb, hml, hown, hts⟩ (mX3_fails l E H.size Ad S hM v3 (by omega)) (cwV 1 hts (lw_V q2394 q2396 qs36 q83 q2397) rfl rfl rfl (by decide +kernel) ⟨(Nat.le_of_ble_eq_true rfl), (Nat.le_of_ble_eq_true rfl)⟩) (kz_preVM (wc := mW E Ad S) (va_recv hK hP (ci := 2) (q0 := 0) rfl rfl) hG hS hAN hP hD kz_nilP kz_nilA) rfl rfl hl.1 rfl (lv_room (Nat.le_of_ble_eq_true rfl)) dX3_errorPosition_13 ⟨(Nat.le_of_ble_eq_true rfl), (Nat.le_of_ble_eq_true rfl)⟩) hP hD hS hA (fun u H9 locs9 hu hP9 hD9 hS9 hzz hkk => ?_)
    clear hzz hkk hP hD hS H locs u
    revert hS9 hD9 hP9 locs9 H9
    intro H locs hP hD hS
    replace hM : MOk (put S 7 7 v3) := hu
    clear hu
    replace hP : va_P (kD E) kcl (mW E Ad (put S 7 7 v3)) H := hP
    replace hD : va_D A (mW E Ad (put S 7 7 v3)) := hD
    show W p l e _ s m args below meth c H locs _ _ Q (F0 m 16 ls [.int (zI (b2 (0 < v3)))])
    refine kz_if0B (tgt := 23) hx hb dX3_errorPosition_16 (by decide) (fun c16 => ?_) (fun c16 => ?_)
    · skip
      obtain rfl : v3 = 0 := by omega
      refine lv_aload_n hx hb dX3_errorPosition_23 rfl (lv_at hl 0 rfl) ?_
      have r4 : rI (S 7 12) := hM 7 12
      refine va_get (D := kD E) (ci := 2) (fs := mO Ad (put S 7 7 0)) (v := .int (zI (S 7 12))) (C := RX3) (T := TX3) (N := 19) hx hb hts in_X3 hown hK hP 0 rfl rfl 12 (by decide) (hts _ q2332) (fun _ h9 => h9) rfl dX3_errorPosition_24 ?_
      have e0 : xErr S = (put S 7 7 0, S 7 12) := by unfold xErr; (repeat (first | refine Eq.trans (if_pos (by omega)) ?_ | refine Eq.trans (if_neg (by omega)) ?_)); rfl
      have e1 : (xErr S).2 = S 7 12 := by rw [e0]
      have e3 : (xErr S).1 = put S 7 7 0 := by rw [e0]
      exact kz_iret () hx hb hr hlk hP hD hS dX3_errorPosition_27 (congrArg (fun z : Int => some (Value.int (zI z))) e1) ⟨(kz_r e1 (by omega)), (kz_M e3 hM)⟩ (congrArg (mW E Ad) e3) hQ (Nat.le_of_ble_eq_true rfl) (Nat.le_of_ble_eq_true rfl)
    · skip
      obtain rfl : v3 = 1 := by omega
      refine kz_iconst hx hb dX3_errorPosition_19 ?_
      refine lv_goto (tgt := 27) hx hb dX3_errorPosition_20 (by decide) ?_
      have e0 : xErr S = (put S 7 7 1, 0) := by unfold xErr; (repeat (first | refine Eq.trans (if_pos (by omega)) ?_ | refine Eq.trans (if_neg (by omega)) ?_)); rfl
      have e1 : (xErr S).2 = 0 := by rw [e0]
      have e3 : (xErr S).1 = put S 7 7 1 := by rw [e0]
      exact kz_iret () hx hb hr hlk hP hD hS dX3_errorPosition_27 (congrArg (fun z : Int => some (Value.int (zI z))) e1) ⟨(kz_r e1 (by omega)), (kz_M e3 hM)⟩ (congrArg (mW E Ad) e3) hQ (Nat.le_of_ble_eq_true rfl) (Nat.le_of_ble_eq_true rfl)
  refine kz_if_ge (tgt := 12) hx hb dX3_errorPosition_5 (by decide) (by omega) (fun c5 => ?_) (fun c5 => ?_)
  · skip
    refine kz_iconst hx hb dX3_errorPosition_12 ?_
    exact J2 0 _ _ _ (Eq.symm (if_pos c5)) (by omega) hP hD hS hl
  · skip
    refine kz_iconst hx hb dX3_errorPosition_8 ?_
    refine lv_goto (tgt := 13) hx hb dX3_errorPosition_9 (by decide) ?_
    exact J2 1 _ _ _ (Eq.symm (if_neg c5)) (by omega) hP hD hS hl

set_option maxHeartbeats 4000000 in
set_option maxRecDepth 100000 in
theorem mX3_refusedItem (l : Launch) (E : KE) (sz : Nat) (Ad : Nat → Nat) (S : St) (hM : MOk S) : Met l yX3_refusedItem (ws_ yX3_refusedItem cX3_refusedItem 1 (some .int)) (rmk 1 0 0 21) (va_Pc [.ref (Ad 0)] (kP l E sz (mW E Ad S) [])) (kQ E (fun _ : Unit => rI ((xItem S).2) ∧ MOk ((xItem S).1)) (fun _ => some (.int (zI ((xItem S).2)))) (fun _ => (mW E Ad ((xItem S).1))) (va_A (mW E Ad S) sz)) 0 0 (va_A (mW E Ad S) sz) := by
  refine kz_start (Qf := kQ E (fun _ : Unit => rI ((xItem S).2) ∧ MOk ((xItem S).1)) (fun _ => some (.int (zI ((xItem S).2)))) (fun _ => (mW E Ad ((xItem S).1)))) (by decide) (Nat.le_of_ble_eq_true rfl) ?_
  intro p e s m args below meth c A ls Q H locs hx hb hr hlk hml hts hown hname hG hK hA hAN hP hD hR hRA hS hQ hl
  replace hown : s.vm.findClass RX3 = some m.cls := hown
  replace hl : lv_has ls 1 [(0, .ref (Ad 0))] := hl
  replace hP : va_P (kD E) kcl (mW E Ad (S)) H := hP
  replace hD : va_D A (mW E Ad (S)) := hD
  refine lv_aload_n hx hb dX3_refusedItem_0 rfl (lv_at hl 0 rfl) ?_
  refine lv_aload_n hx hb dX3_refusedItem_1 rfl (lv_at hl 0 rfl) ?_
  have r1 : rI (S 7 13) := hM 7 13
  refine va_get (D := kD E) (ci := 2) (fs := mO Ad (S)) (v := .int (zI (S 7 13))) (C := RX3) (T := TX3) (N := 19) hx hb hts in_X3 hown hK hP 0 rfl rfl 13 (by decide) (hts _ q2333) (fun _ h9 => h9) rfl dX3_refusedItem_2 ?_
  have J2 : ∀ (v3 : Int) (H : Heap) (locs : List Loc) (ls : Array Slot), v3 = (if 0 ≤ (S 7 13) then 0 else 1) → rI v3 → va_P (kD E) kcl (mW E Ad (S)) H → va_D A (mW E Ad (S)) → va_S A s.heap H locs → lv_has ls 1 [(0, .ref (Ad 0))] → W p l e (rmk 1 0 0 21) s m args below meth c H locs 0 0 Q (F0 m 13 ls [.int (zI (v3)), .ref (Ad 0)]) := by
    clear hl hS hD hP ls locs H
    intro v3 H locs ls hv3 rv3 hP hD hS hl
    have dv3 : (0 ≤ (S 7 13) ∧ v3 = 0) ∨ (¬ (0 ≤ (S 7 13)) ∧ v3 = 1) := by rw [hv3]; (repeat' split) <;> first | omega | simp_all
    refine kz_backM (va_runV (As := [.int (zI (v3))]) (rest := []) ⟨hx, hb, hml, hown, hts⟩ (mX3_fails l E H.size Ad S hM v3 (by omega)) (cwV 1 hts (lw_V q2394 q2396 qs36 q83 q2397) rfl rfl rfl (by decide +kernel) ⟨(Nat.le_of_ble_eq_true rfl), (Nat.le_of_ble_eq_true rfl)⟩) (kz_preVM (wc := mW E Ad S) (va_recv hK hP (ci := 2) (q0 := 0) rfl rfl) hG hS hAN hP hD kz_nilP kz_nilA) rfl rfl hl.1 rfl (lv_room (Nat.le_of_ble_eq_true rfl)) dX3_refusedItem_13 ⟨(Nat.le_of_ble_eq_true rfl), (Nat.le_of_ble_eq_true rfl)⟩) hP hD hS hA (fun u H9 locs9 hu hP9 hD9 hS9 hzz hkk => ?_)
    clear hzz hkk hP hD hS H locs u
    revert hS9 hD9 hP9 locs9 H9
    intro H locs hP hD hS
    replace hM : MOk (put S 7 7 v3) := hu
    clear hu
    replace hP : va_P (kD E) kcl (mW E Ad (put S 7 7 v3)) H := hP
    replace hD : va_D A (mW E Ad (put S 7 7 v3)) := hD
    show W p l e _ s m args below meth c H locs _ _ Q (F0 m 16 ls [.int (zI (b2 (0 < v3)))])
    refine kz_if0B (tgt := 23) hx hb dX3_refusedItem_16 (by decide) (fun c16 => ?_) (fun c16 => ?_)
    · skip
      obtain rfl : v3 = 0 := by omega
      refine lv_aload_n hx hb dX3_refusedItem_23 rfl (lv_at hl 0 rfl) ?_
      have r4 : rI (S 7 13) := hM 7 13
      refine va_get (D := kD E) (ci := 2) (fs := mO Ad (put S 7 7 0)) (v := .int (zI (S 7 13))) (C := RX3) (T := TX3) (N := 19) hx hb hts in_X3 hown hK hP 0 rfl rfl 13 (by decide) (hts _ q2333) (fun _ h9 => h9) rfl dX3_refusedItem_24 ?_
      have e0 : xItem S = (put S 7 7 0, S 7 13) := by unfold xItem; (repeat (first | refine Eq.trans (if_pos (by omega)) ?_ | refine Eq.trans (if_neg (by omega)) ?_)); rfl
      have e1 : (xItem S).2 = S 7 13 := by rw [e0]
      have e3 : (xItem S).1 = put S 7 7 0 := by rw [e0]
      exact kz_iret () hx hb hr hlk hP hD hS dX3_refusedItem_27 (congrArg (fun z : Int => some (Value.int (zI z))) e1) ⟨(kz_r e1 (by omega)), (kz_M e3 hM)⟩ (congrArg (mW E Ad) e3) hQ (Nat.le_of_ble_eq_true rfl) (Nat.le_of_ble_eq_true rfl)
    · skip
      obtain rfl : v3 = 1 := by omega
      refine kz_iconst hx hb dX3_refusedItem_19 ?_
      refine lv_goto (tgt := 27) hx hb dX3_refusedItem_20 (by decide) ?_
      have e0 : xItem S = (put S 7 7 1, 0) := by unfold xItem; (repeat (first | refine Eq.trans (if_pos (by omega)) ?_ | refine Eq.trans (if_neg (by omega)) ?_)); rfl
      have e1 : (xItem S).2 = 0 := by rw [e0]
      have e3 : (xItem S).1 = put S 7 7 1 := by rw [e0]
      exact kz_iret () hx hb hr hlk hP hD hS dX3_refusedItem_27 (congrArg (fun z : Int => some (Value.int (zI z))) e1) ⟨(kz_r e1 (by omega)), (kz_M e3 hM)⟩ (congrArg (mW E Ad) e3) hQ (Nat.le_of_ble_eq_true rfl) (Nat.le_of_ble_eq_true rfl)
  refine kz_if_ge (tgt := 12) hx hb dX3_refusedItem_5 (by decide) (by omega) (fun c5 => ?_) (fun c5 => ?_)
  · skip
    refine kz_iconst hx hb dX3_refusedItem_12 ?_
    exact J2 0 _ _ _ (Eq.symm (if_pos c5)) (by omega) hP hD hS hl
  · skip
    refine kz_iconst hx hb dX3_refusedItem_8 ?_
    refine lv_goto (tgt := 13) hx hb dX3_refusedItem_9 (by decide) ?_
    exact J2 1 _ _ _ (Eq.symm (if_neg c5)) (by omega) hP hD hS hl

set_option maxHeartbeats 4000000 in
set_option maxRecDepth 100000 in
theorem mX3_snapshot (l : Launch) (E : KE) (sz : Nat) (Ad : Nat → Nat) (S : St) (hM : MOk S) : Met l yX3_snapshot (ws_ yX3_snapshot cX3_snapshot 1 (some .int)) (rmk 1 0 0 24) (va_Pc [.ref (Ad 0)] (kP l E sz (mW E Ad S) [])) (kQ E (fun _ : Unit => rI ((xSnap S).2) ∧ MOk ((xSnap S).1)) (fun _ => some (.int (zI ((xSnap S).2)))) (fun _ => (mW E Ad ((xSnap S).1))) (va_A (mW E Ad S) sz)) 0 0 (va_A (mW E Ad S) sz) := by
  refine kz_start (Qf := kQ E (fun _ : Unit => rI ((xSnap S).2) ∧ MOk ((xSnap S).1)) (fun _ => some (.int (zI ((xSnap S).2)))) (fun _ => (mW E Ad ((xSnap S).1)))) (by decide) (Nat.le_of_ble_eq_true rfl) ?_
  intro p e s m args below meth c A ls Q H locs hx hb hr hlk hml hts hown hname hG hK hA hAN hP hD hR hRA hS hQ hl
  replace hown : s.vm.findClass RX3 = some m.cls := hown
  replace hl : lv_has ls 1 [(0, .ref (Ad 0))] := hl
  replace hP : va_P (kD E) kcl (mW E Ad (S)) H := hP
  replace hD : va_D A (mW E Ad (S)) := hD
  refine lv_aload_n hx hb dX3_snapshot_0 rfl (lv_at hl 0 rfl) ?_
  refine kz_iconst hx hb dX3_snapshot_1 ?_
  refine va_put (D := kD E) (ci := 2) (fs := mO Ad (S)) (v := .int (zI (0))) (ty := .int) (C := RX3) (T := TX3) (N := 19) hx hb hts in_X3 tyX3 tyX3_ok nmX3 hown hK hP hD hS 0 rfl rfl 7 (by decide) (hts _ q2327) (fun _ h9 => h9) rfl (by decide +kernel) rfl rfl (Nat.le_of_ble_eq_true rfl) dX3_snapshot_2 (fun H9 locs9 hP9 hD9 hS9 => ?_)
  rw [mW_f7] at hP9 hD9
  clear hP hD hS H locs
  revert hS9 hD9 hP9 locs9 H9
  intro H locs hP hD hS
  replace hP : va_P (kD E) kcl (mW E Ad (put S 7 7 0)) H := hP
  replace hD : va_D A (mW E Ad (put S 7 7 0)) := hD
  replace hM : MOk (put S 7 7 0) := hM.put 7 7 (by omega)
  refine lv_aload_n hx hb dX3_snapshot_5 rfl (lv_at hl 0 rfl) ?_
  refine kz_iconst hx hb dX3_snapshot_6 ?_
  refine va_put (D := kD E) (ci := 2) (fs := mO Ad (put S 7 7 0)) (v := .int (zI (1))) (ty := .boolean) (C := RX3) (T := TX3) (N := 19) hx hb hts in_X3 tyX3 tyX3_ok nmX3 hown hK hP hD hS 0 rfl rfl 4 (by decide) (hts _ q2324) (fun _ h9 => h9) rfl (by decide +kernel) rfl rfl (Nat.le_of_ble_eq_true rfl) dX3_snapshot_7 (fun H9 locs9 hP9 hD9 hS9 => ?_)
  rw [mW_f4] at hP9 hD9
  clear hP hD hS H locs
  revert hS9 hD9 hP9 locs9 H9
  intro H locs hP hD hS
  replace hP : va_P (kD E) kcl (mW E Ad (put (put S 7 7 0) 7 4 1)) H := hP
  replace hD : va_D A (mW E Ad (put (put S 7 7 0) 7 4 1)) := hD
  replace hM : MOk (put (put S 7 7 0) 7 4 1) := hM.put 7 4 (by omega)
  refine lv_aload_n hx hb dX3_snapshot_10 rfl (lv_at hl 0 rfl) ?_
  refine va_get (D := kD E) (ci := 2) (fs := mO Ad (put (put S 7 7 0) 7 4 1)) (v := .ref (Ad 1)) (C := RX3) (T := TX3) (N := 19) hx hb hts in_X3 hown hK hP 0 rfl rfl 0 (by decide) (hts _ q2320) (fun _ h9 => h9) rfl dX3_snapshot_11 ?_
  refine kz_iconst hx hb dX3_snapshot_14 ?_
  refine lv_aload_n hx hb dX3_snapshot_15 rfl (lv_at hl 0 rfl) ?_
  refine va_get (D := kD E) (ci := 2) (fs := mO Ad (put (put S 7 7 0) 7 4 1)) (v := .ref (Ad 3)) (C := RX3) (T := TX3) (N := 19) hx hb hts in_X3 hown hK hP 0 rfl rfl 2 (by decide) (hts _ q2322) (fun _ h9 => h9) rfl dX3_snapshot_16 ?_
  refine kz_iconst hx hb dX3_snapshot_19 ?_
  have hPD := kz_mv (ws' := [(Ad 1, .inl (kA E 0, 304, .inl (zR (S 0)))), (Ad 3, .inl (kA E 0, 304, .inl (zR (S 2)))), (Ad 0, .inr (2, mO Ad (put (put S 7 7 0) 7 4 1))), (Ad 2, .inl (kA E 0, 2432, .inl (zR (S 1)))), (Ad 4, .inl (kA E 0, 304, .inl (zR (S 3)))), (Ad 5, .inl (kA E 0, 60, .inl (zR (S 4)))), (Ad 6, .inl (kA E 3, 40, .inl (zR (S 5)))), (Ad 7, .inl (kA E 0, 155, .inl (zR (S 6))))]) hP hD (kz_re [1, 3, 0, 2, 4, 5, 6, 7] 8 (Nat.le_of_ble_eq_true rfl) (by decide) rfl)
  clear hP hD
  obtain ⟨hP, hD⟩ := hPD
  refine kz_back (wc := [(Ad 1, .inl (kA E 0, 304, .inl (zR (S 0)))), (Ad 3, .inl (kA E 0, 304, .inl (zR (S 2))))]) (wx := [(Ad 0, .inr (2, mO Ad (put (put S 7 7 0) 7 4 1))), (Ad 2, .inl (kA E 0, 2432, .inl (zR (S 1)))), (Ad 4, .inl (kA E 0, 304, .inl (zR (S 3)))), (Ad 5, .inl (kA E 0, 60, .inl (zR (S 4)))), (Ad 6, .inl (kA E 3, 40, .inl (zR (S 5)))), (Ad 7, .inl (kA E 0, 155, .inl (zR (S 6))))]) (va_runS (As := [.ref (Ad 1), .int (zI (0)), .ref (Ad 3), .int (zI (0))]) (rest := []) ⟨hx, hb, hml, hown, hts⟩ (mX3_copies l E H.size (Ad 1) (Ad 3) 304 304 (by omega) (S 0) (S 2) (fun i => hM 0 i) 0 (by omega) 0 (by omega) (show 0 ≤ 0 ∧ 0 + 304 ≤ 304 by first | omega | exact hI.st _ (by omega) (by omega) | exact hI.rv _ (by omega) (by omega) | exact hI) (show 0 ≤ 0 ∧ 0 + 304 ≤ 304 by first | omega | exact hI.st _ (by omega) (by omega) | exact hI.rv _ (by omega) (by omega) | exact hI)) (va_cwS 4 hts (lw_S q2406 q2407 q83 q2408) rfl rfl rfl (by decide +kernel) ⟨(Nat.le_of_ble_eq_true rfl), (Nat.le_of_ble_eq_true rfl)⟩) (kz_pre (wc := [(Ad 1, .inl (kA E 0, 304, .inl (zR (S 0)))), (Ad 3, .inl (kA E 0, 304, .inl (zR (S 2))))]) (wx := [(Ad 0, .inr (2, mO Ad (put (put S 7 7 0) 7 4 1))), (Ad 2, .inl (kA E 0, 2432, .inl (zR (S 1)))), (Ad 4, .inl (kA E 0, 304, .inl (zR (S 3)))), (Ad 5, .inl (kA E 0, 60, .inl (zR (S 4)))), (Ad 6, .inl (kA E 3, 40, .inl (zR (S 5)))), (Ad 7, .inl (kA E 0, 155, .inl (zR (S 6))))]) hG hS hAN hP hD kz_nilP kz_nilA) rfl rfl hl.1 rfl (lv_room (Nat.le_of_ble_eq_true rfl)) dX3_snapshot_20 ⟨(Nat.le_of_ble_eq_true rfl), (Nat.le_of_ble_eq_true rfl)⟩) hP hD hS hA (fun u H9 locs9 hu hP9 hD9 hS9 hzz hkk => ?_)
  clear hzz hkk hP hD hS H locs u
  revert hS9 hD9 hP9 locs9 H9
  intro H locs hP hD hS
  have hPD := kz_mv (ws' := mW E Ad (putR (put (put S 7 7 0) 7 4 1) 2 (blit (S 0) (S 2) 0 0))) hP hD (kz_re [2, 0, 3, 1, 4, 5, 6, 7] 8 (Nat.le_of_ble_eq_true rfl) (by decide) rfl)
  clear hP hD
  obtain ⟨hP, hD⟩ := hPD
  have hM : MOk (putR (put (put S 7 7 0) 7 4 1) 2 (blit (S 0) (S 2) 0 0)) := hM.putR 2 (blit_r (fun i => hM 0 i) (fun i => hM 2 i) _ _)
  clear hu
  replace hP : va_P (kD E) kcl (mW E Ad (putR (put (put S 7 7 0) 7 4 1) 2 (blit (S 0) (S 2) 0 0))) H := hP
  replace hD : va_D A (mW E Ad (putR (put (put S 7 7 0) 7 4 1) 2 (blit (S 0) (S 2) 0 0))) := hD
  show W p l e _ s m args below meth c H locs _ _ Q (F0 m 23 ls [])
  refine lv_aload_n hx hb dX3_snapshot_23 rfl (lv_at hl 0 rfl) ?_
  refine va_get (D := kD E) (ci := 2) (fs := mO Ad (putR (put (put S 7 7 0) 7 4 1) 2 (blit (S 0) (S 2) 0 0))) (v := .ref (Ad 1)) (C := RX3) (T := TX3) (N := 19) hx hb hts in_X3 hown hK hP 0 rfl rfl 0 (by decide) (hts _ q2320) (fun _ h9 => h9) rfl dX3_snapshot_24 ?_
  refine kz_iconst hx hb dX3_snapshot_27 ?_
  refine kz_iald (cA := kA E 0) (n := 304) (g := S 0) hx hb hK hP 1 0 rfl rfl (by omega) dX3_snapshot_28 ?_
  have r1 : rI (S 0 0) := hM 0 0
  have e0 : xSnap S = (putR (put (put S 7 7 0) 7 4 1) 2 (blit (S 0) (S 2) 0 0), S 0 0) := by unfold xSnap; (repeat (first | refine Eq.trans (if_pos (by omega)) ?_ | refine Eq.trans (if_neg (by omega)) ?_)); rfl
  have e1 : (xSnap S).2 = S 0 0 := by rw [e0]
  have e3 : (xSnap S).1 = putR (put (put S 7 7 0) 7 4 1) 2 (blit (S 0) (S 2) 0 0) := by rw [e0]
  exact kz_iret () hx hb hr hlk hP hD hS dX3_snapshot_29 (congrArg (fun z : Int => some (Value.int (zI z))) e1) ⟨(kz_r e1 (by omega)), (kz_M e3 hM)⟩ (congrArg (mW E Ad) e3) hQ (Nat.le_of_ble_eq_true rfl) (Nat.le_of_ble_eq_true rfl)

set_option maxHeartbeats 4000000 in
set_option maxRecDepth 100000 in
theorem mX3_restore (l : Launch) (E : KE) (sz : Nat) (Ad : Nat → Nat) (S : St) (hM : MOk S) : Met l yX3_restore (ws_ yX3_restore cX3_restore 1 (some .int)) (rmk 1 0 0 24) (va_Pc [.ref (Ad 0)] (kP l E sz (mW E Ad S) [])) (kQ E (fun _ : Unit => rI ((xRestore S).2) ∧ MOk ((xRestore S).1)) (fun _ => some (.int (zI ((xRestore S).2)))) (fun _ => (mW E Ad ((xRestore S).1))) (va_A (mW E Ad S) sz)) 0 0 (va_A (mW E Ad S) sz) := by
  refine kz_start (Qf := kQ E (fun _ : Unit => rI ((xRestore S).2) ∧ MOk ((xRestore S).1)) (fun _ => some (.int (zI ((xRestore S).2)))) (fun _ => (mW E Ad ((xRestore S).1)))) (by decide) (Nat.le_of_ble_eq_true rfl) ?_
  intro p e s m args below meth c A ls Q H locs hx hb hr hlk hml hts hown hname hG hK hA hAN hP hD hR hRA hS hQ hl
  replace hown : s.vm.findClass RX3 = some m.cls := hown
  replace hl : lv_has ls 1 [(0, .ref (Ad 0))] := hl
  replace hP : va_P (kD E) kcl (mW E Ad (S)) H := hP
  replace hD : va_D A (mW E Ad (S)) := hD
  refine lv_aload_n hx hb dX3_restore_0 rfl (lv_at hl 0 rfl) ?_
  refine lv_aload_n hx hb dX3_restore_1 rfl (lv_at hl 0 rfl) ?_
  have r1 : rI (S 7 4) := hM 7 4
  refine va_get (D := kD E) (ci := 2) (fs := mO Ad (S)) (v := .int (zI (S 7 4))) (C := RX3) (T := TX3) (N := 19) hx hb hts in_X3 hown hK hP 0 rfl rfl 4 (by decide) (hts _ q2324) (fun _ h9 => h9) rfl dX3_restore_2 ?_
  have J2 : ∀ (v3 : Int) (H : Heap) (locs : List Loc) (ls : Array Slot), v3 = (if (S 7 4) = 0 then 1 else 0) → rI v3 → va_P (kD E) kcl (mW E Ad (S)) H → va_D A (mW E Ad (S)) → va_S A s.heap H locs → lv_has ls 1 [(0, .ref (Ad 0))] → W p l e (rmk 1 0 0 24) s m args below meth c H locs 0 0 Q (F0 m 13 ls [.int (zI (v3)), .ref (Ad 0)]) := by
    clear hl hS hD hP ls locs H
    intro v3 H locs ls hv3 rv3 hP hD hS hl
    have dv3 : ((S 7 4) = 0 ∧ v3 = 1) ∨ (¬ ((S 7 4) = 0) ∧ v3 = 0) := by rw [hv3]; (repeat' split) <;> first | omega | simp_all
    refine kz_backM (va_runV (As := [.int (zI (v3))]) (rest := []) ⟨hx, hb, hml, hown, hts⟩ (mX3_fails l E H.size Ad S hM v3 (by omega)) (cwV 1 hts (lw_V q2394 q2396 qs36 q83 q2397) rfl rfl rfl (by decide +kernel) ⟨(Nat.le_of_ble_eq_true rfl), (Nat.le_of_ble_eq_true rfl)⟩) (kz_preVM (wc := mW E Ad S) (va_recv hK hP (ci := 2) (q0 := 0) rfl rfl) hG hS hAN hP hD kz_nilP kz_nilA) rfl rfl hl.1 rfl (lv_room (Nat.le_of_ble_eq_true rfl)) dX3_restore_13 ⟨(Nat.le_of_ble_eq_true rfl), (Nat.le_of_ble_eq_true rfl)⟩) hP hD hS hA (fun u H9 locs9 hu hP9 hD9 hS9 hzz hkk => ?_)
    clear hzz hkk hP hD hS H locs u
    revert hS9 hD9 hP9 locs9 H9
    intro H locs hP hD hS
    replace hM : MOk (put S 7 7 v3) := hu
    clear hu
    replace hP : va_P (kD E) kcl (mW E Ad (put S 7 7 v3)) H := hP
    replace hD : va_D A (mW E Ad (put S 7 7 v3)) := hD
    show W p l e _ s m args below meth c H locs _ _ Q (F0 m 16 ls [.int (zI (b2 (0 < v3)))])
    refine kz_if0B (tgt := 21) hx hb dX3_restore_16 (by decide) (fun c16 => ?_) (fun c16 => ?_)
    · skip
      obtain rfl : v3 = 0 := by omega
      refine lv_aload_n hx hb dX3_restore_21 rfl (lv_at hl 0 rfl) ?_
      refine va_get (D := kD E) (ci := 2) (fs := mO Ad (put S 7 7 0)) (v := .ref (Ad 3)) (C := RX3) (T := TX3) (N := 19) hx hb hts in_X3 hown hK hP 0 rfl rfl 2 (by decide) (hts _ q2322) (fun _ h9 => h9) rfl dX3_restore_22 ?_
      refine kz_iconst hx hb dX3_restore_25 ?_
      refine lv_aload_n hx hb dX3_restore_26 rfl (lv_at hl 0 rfl) ?_
      refine va_get (D := kD E) (ci := 2) (fs := mO Ad (put S 7 7 0)) (v := .ref (Ad 1)) (C := RX3) (T := TX3) (N := 19) hx hb hts in_X3 hown hK hP 0 rfl rfl 0 (by decide) (hts _ q2320) (fun _ h9 => h9) rfl dX3_restore_27 ?_
      refine kz_iconst hx hb dX3_restore_30 ?_
      have hPD := kz_mv (ws' := [(Ad 3, .inl (kA E 0, 304, .inl (zR (S 2)))), (Ad 1, .inl (kA E 0, 304, .inl (zR (S 0)))), (Ad 0, .inr (2, mO Ad (put S 7 7 0))), (Ad 2, .inl (kA E 0, 2432, .inl (zR (S 1)))), (Ad 4, .inl (kA E 0, 304, .inl (zR (S 3)))), (Ad 5, .inl (kA E 0, 60, .inl (zR (S 4)))), (Ad 6, .inl (kA E 3, 40, .inl (zR (S 5)))), (Ad 7, .inl (kA E 0, 155, .inl (zR (S 6))))]) hP hD (kz_re [3, 1, 0, 2, 4, 5, 6, 7] 8 (Nat.le_of_ble_eq_true rfl) (by decide) rfl)
      clear hP hD
      obtain ⟨hP, hD⟩ := hPD
      refine kz_back (wc := [(Ad 3, .inl (kA E 0, 304, .inl (zR (S 2)))), (Ad 1, .inl (kA E 0, 304, .inl (zR (S 0))))]) (wx := [(Ad 0, .inr (2, mO Ad (put S 7 7 0))), (Ad 2, .inl (kA E 0, 2432, .inl (zR (S 1)))), (Ad 4, .inl (kA E 0, 304, .inl (zR (S 3)))), (Ad 5, .inl (kA E 0, 60, .inl (zR (S 4)))), (Ad 6, .inl (kA E 3, 40, .inl (zR (S 5)))), (Ad 7, .inl (kA E 0, 155, .inl (zR (S 6))))]) (va_runS (As := [.ref (Ad 3), .int (zI (0)), .ref (Ad 1), .int (zI (0))]) (rest := []) ⟨hx, hb, hml, hown, hts⟩ (mX3_copies l E H.size (Ad 3) (Ad 1) 304 304 (by omega) (S 2) (S 0) (fun i => hM 2 i) 0 (by omega) 0 (by omega) (show 0 ≤ 0 ∧ 0 + 304 ≤ 304 by first | omega | exact hI.st _ (by omega) (by omega) | exact hI.rv _ (by omega) (by omega) | exact hI) (show 0 ≤ 0 ∧ 0 + 304 ≤ 304 by first | omega | exact hI.st _ (by omega) (by omega) | exact hI.rv _ (by omega) (by omega) | exact hI)) (va_cwS 4 hts (lw_S q2406 q2407 q83 q2408) rfl rfl rfl (by decide +kernel) ⟨(Nat.le_of_ble_eq_true rfl), (Nat.le_of_ble_eq_true rfl)⟩) (kz_pre (wc := [(Ad 3, .inl (kA E 0, 304, .inl (zR (S 2)))), (Ad 1, .inl (kA E 0, 304, .inl (zR (S 0))))]) (wx := [(Ad 0, .inr (2, mO Ad (put S 7 7 0))), (Ad 2, .inl (kA E 0, 2432, .inl (zR (S 1)))), (Ad 4, .inl (kA E 0, 304, .inl (zR (S 3)))), (Ad 5, .inl (kA E 0, 60, .inl (zR (S 4)))), (Ad 6, .inl (kA E 3, 40, .inl (zR (S 5)))), (Ad 7, .inl (kA E 0, 155, .inl (zR (S 6))))]) hG hS hAN hP hD kz_nilP kz_nilA) rfl rfl hl.1 rfl (lv_room (Nat.le_of_ble_eq_true rfl)) dX3_restore_31 ⟨(Nat.le_of_ble_eq_true rfl), (Nat.le_of_ble_eq_true rfl)⟩) hP hD hS hA (fun u H9 locs9 hu hP9 hD9 hS9 hzz hkk => ?_)
      clear hzz hkk hP hD hS H locs u
      revert hS9 hD9 hP9 locs9 H9
      intro H locs hP hD hS
      have hPD := kz_mv (ws' := mW E Ad (putR (put S 7 7 0) 0 (blit (S 2) (S 0) 0 0))) hP hD (kz_re [2, 1, 3, 0, 4, 5, 6, 7] 8 (Nat.le_of_ble_eq_true rfl) (by decide) rfl)
      clear hP hD
      obtain ⟨hP, hD⟩ := hPD
      have hM : MOk (putR (put S 7 7 0) 0 (blit (S 2) (S 0) 0 0)) := hM.putR 0 (blit_r (fun i => hM 2 i) (fun i => hM 0 i) _ _)
      clear hu
      replace hP : va_P (kD E) kcl (mW E Ad (putR (put S 7 7 0) 0 (blit (S 2) (S 0) 0 0))) H := hP
      replace hD : va_D A (mW E Ad (putR (put S 7 7 0) 0 (blit (S 2) (S 0) 0 0))) := hD
      show W p l e _ s m args below meth c H locs _ _ Q (F0 m 34 ls [])
      refine lv_aload_n hx hb dX3_restore_34 rfl (lv_at hl 0 rfl) ?_
      refine kz_iconst hx hb dX3_restore_35 ?_
      refine va_put (D := kD E) (ci := 2) (fs := mO Ad (putR (put S 7 7 0) 0 (blit (S 2) (S 0) 0 0))) (v := .int (zI (0))) (ty := .int) (C := RX3) (T := TX3) (N := 19) hx hb hts in_X3 tyX3 tyX3_ok nmX3 hown hK hP hD hS 0 rfl rfl 5 (by decide) (hts _ q2325) (fun _ h9 => h9) rfl (by decide +kernel) rfl rfl (Nat.le_of_ble_eq_true rfl) dX3_restore_36 (fun H9 locs9 hP9 hD9 hS9 => ?_)
      rw [mW_f5] at hP9 hD9
      clear hP hD hS H locs
      revert hS9 hD9 hP9 locs9 H9
      intro H locs hP hD hS
      replace hP : va_P (kD E) kcl (mW E Ad (put (putR (put S 7 7 0) 0 (blit (S 2) (S 0) 0 0)) 7 5 0)) H := hP
      replace hD : va_D A (mW E Ad (put (putR (put S 7 7 0) 0 (blit (S 2) (S 0) 0 0)) 7 5 0)) := hD
      replace hM : MOk (put (putR (put S 7 7 0) 0 (blit (S 2) (S 0) 0 0)) 7 5 0) := hM.put 7 5 (by omega)
      refine lv_aload_n hx hb dX3_restore_39 rfl (lv_at hl 0 rfl) ?_
      refine va_get (D := kD E) (ci := 2) (fs := mO Ad (put (putR (put S 7 7 0) 0 (blit (S 2) (S 0) 0 0)) 7 5 0)) (v := .ref (Ad 1)) (C := RX3) (T := TX3) (N := 19) hx hb hts in_X3 hown hK hP 0 rfl rfl 0 (by decide) (hts _ q2320) (fun _ h9 => h9) rfl dX3_restore_40 ?_
      refine kz_iconst hx hb dX3_restore_43 ?_
      refine kz_iald (cA := kA E 0) (n := 304) (g := (putR (put S 7 7 0) 0 (blit (S 2) (S 0) 0 0)) 0) hx hb hK hP 1 0 rfl rfl (by omega) dX3_restore_44 ?_
      have r4 : rI ((putR (put S 7 7 0) 0 (blit (S 2) (S 0) 0 0)) 0 0) := hM 0 0
      have e0 : xRestore S = (put (putR (put S 7 7 0) 0 (blit (S 2) (S 0) 0 0)) 7 5 0, (putR (put S 7 7 0) 0 (blit (S 2) (S 0) 0 0)) 0 0) := by unfold xRestore; (repeat (first | refine Eq.trans (if_pos (by omega)) ?_ | refine Eq.trans (if_neg (by omega)) ?_)); rfl
      have e1 : (xRestore S).2 = (putR (put S 7 7 0) 0 (blit (S 2) (S 0) 0 0)) 0 0 := by rw [e0]
      have e3 : (xRestore S).1 = put (putR (put S 7 7 0) 0 (blit (S 2) (S 0) 0 0)) 7 5 0 := by rw [e0]
      exact kz_iret () hx hb hr hlk hP hD hS dX3_restore_45 (congrArg (fun z : Int => some (Value.int (zI z))) e1) ⟨(kz_r e1 (by omega)), (kz_M e3 hM)⟩ (congrArg (mW E Ad) e3) hQ (Nat.le_of_ble_eq_true rfl) (Nat.le_of_ble_eq_true rfl)
    · skip
      obtain rfl : v3 = 1 := by omega
      refine kz_iconst hx hb dX3_restore_19 ?_
      have e0 : xRestore S = (put S 7 7 1, 0) := by unfold xRestore; (repeat (first | refine Eq.trans (if_pos (by omega)) ?_ | refine Eq.trans (if_neg (by omega)) ?_)); rfl
      have e1 : (xRestore S).2 = 0 := by rw [e0]
      have e3 : (xRestore S).1 = put S 7 7 1 := by rw [e0]
      exact kz_iret () hx hb hr hlk hP hD hS dX3_restore_20 (congrArg (fun z : Int => some (Value.int (zI z))) e1) ⟨(kz_r e1 (by omega)), (kz_M e3 hM)⟩ (congrArg (mW E Ad) e3) hQ (Nat.le_of_ble_eq_true rfl) (Nat.le_of_ble_eq_true rfl)
  refine kz_if_eq (tgt := 12) hx hb dX3_restore_5 (by decide) (by omega) (fun c5 => ?_) (fun c5 => ?_)
  · skip
    refine kz_iconst hx hb dX3_restore_12 ?_
    exact J2 1 _ _ _ (Eq.symm (if_pos c5)) (by omega) hP hD hS hl
  · skip
    refine kz_iconst hx hb dX3_restore_8 ?_
    refine lv_goto (tgt := 13) hx hb dX3_restore_9 (by decide) ?_
    exact J2 0 _ _ _ (Eq.symm (if_neg c5)) (by omega) hP hD hS hl

set_option maxHeartbeats 4000000 in
set_option maxRecDepth 100000 in
theorem mX3_undo (l : Launch) (E : KE) (sz : Nat) (Ad : Nat → Nat) (S : St) (hM : MOk S) (c0 : 0 ≤ S 7 5 ∧ S 7 5 ≤ 8) : Met l yX3_undo (ws_ yX3_undo cX3_undo 1 (some .int)) (rmk 1 0 0 24) (va_Pc [.ref (Ad 0)] (kP l E sz (mW E Ad S) [])) (kQ E (fun _ : Unit => rI ((xUndo S).2) ∧ MOk ((xUndo S).1)) (fun _ => some (.int (zI ((xUndo S).2)))) (fun _ => (mW E Ad ((xUndo S).1))) (va_A (mW E Ad S) sz)) 0 0 (va_A (mW E Ad S) sz) := by
  refine kz_start (Qf := kQ E (fun _ : Unit => rI ((xUndo S).2) ∧ MOk ((xUndo S).1)) (fun _ => some (.int (zI ((xUndo S).2)))) (fun _ => (mW E Ad ((xUndo S).1)))) (by decide) (Nat.le_of_ble_eq_true rfl) ?_
  intro p e s m args below meth c A ls Q H locs hx hb hr hlk hml hts hown hname hG hK hA hAN hP hD hR hRA hS hQ hl
  replace hown : s.vm.findClass RX3 = some m.cls := hown
  replace hl : lv_has ls 1 [(0, .ref (Ad 0))] := hl
  replace hP : va_P (kD E) kcl (mW E Ad (S)) H := hP
  replace hD : va_D A (mW E Ad (S)) := hD
  refine lv_aload_n hx hb dX3_undo_0 rfl (lv_at hl 0 rfl) ?_
  refine lv_aload_n hx hb dX3_undo_1 rfl (lv_at hl 0 rfl) ?_
  have r1 : rI (S 7 5) := hM 7 5
  refine va_get (D := kD E) (ci := 2) (fs := mO Ad (S)) (v := .int (zI (S 7 5))) (C := RX3) (T := TX3) (N := 19) hx hb hts in_X3 hown hK hP 0 rfl rfl 5 (by decide) (hts _ q2325) (fun _ h9 => h9) rfl dX3_undo_2 ?_
  have J2 : ∀ (v3 : Int) (H : Heap) (locs : List Loc) (ls : Array Slot), v3 = (if (S 7 5) = 0 then 1 else 0) → rI v3 → va_P (kD E) kcl (mW E Ad (S)) H → va_D A (mW E Ad (S)) → va_S A s.heap H locs → lv_has ls 1 [(0, .ref (Ad 0))] → W p l e (rmk 1 0 0 24) s m args below meth c H locs 0 0 Q (F0 m 13 ls [.int (zI (v3)), .ref (Ad 0)]) := by
    clear hl hS hD hP ls locs H
    intro v3 H locs ls hv3 rv3 hP hD hS hl
    have dv3 : (¬ ((S 7 5) = 0) ∧ v3 = 0) ∨ ((S 7 5) = 0 ∧ v3 = 1) := by rw [hv3]; (repeat' split) <;> first | omega | simp_all
    refine kz_backM (va_runV (As := [.int (zI (v3))]) (rest := []) ⟨hx, hb, hml, hown, hts⟩ (mX3_fails l E H.size Ad S hM v3 (by omega)) (cwV 1 hts (lw_V q2394 q2396 qs36 q83 q2397) rfl rfl rfl (by decide +kernel) ⟨(Nat.le_of_ble_eq_true rfl), (Nat.le_of_ble_eq_true rfl)⟩) (kz_preVM (wc := mW E Ad S) (va_recv hK hP (ci := 2) (q0 := 0) rfl rfl) hG hS hAN hP hD kz_nilP kz_nilA) rfl rfl hl.1 rfl (lv_room (Nat.le_of_ble_eq_true rfl)) dX3_undo_13 ⟨(Nat.le_of_ble_eq_true rfl), (Nat.le_of_ble_eq_true rfl)⟩) hP hD hS hA (fun u H9 locs9 hu hP9 hD9 hS9 hzz hkk => ?_)
    clear hzz hkk hP hD hS H locs u
    revert hS9 hD9 hP9 locs9 H9
    intro H locs hP hD hS
    replace hM : MOk (put S 7 7 v3) := hu
    clear hu
    replace hP : va_P (kD E) kcl (mW E Ad (put S 7 7 v3)) H := hP
    replace hD : va_D A (mW E Ad (put S 7 7 v3)) := hD
    show W p l e _ s m args below meth c H locs _ _ Q (F0 m 16 ls [.int (zI (b2 (0 < v3)))])
    refine kz_if0B (tgt := 21) hx hb dX3_undo_16 (by decide) (fun c16 => ?_) (fun c16 => ?_)
    · skip
      obtain rfl : v3 = 0 := by omega
      refine lv_aload_n hx hb dX3_undo_21 rfl (lv_at hl 0 rfl) ?_
      refine lv_dup hx hb dX3_undo_22 rfl ?_
      have r4 : rI (S 7 5) := hM 7 5
      refine va_get (D := kD E) (ci := 2) (fs := mO Ad (put S 7 7 0)) (v := .int (zI (S 7 5))) (C := RX3) (T := TX3) (N := 19) hx hb hts in_X3 hown hK hP 0 rfl rfl 5 (by decide) (hts _ q2325) (fun _ h9 => h9) rfl dX3_undo_23 ?_
      refine kz_iconst hx hb dX3_undo_26 ?_
      refine kz_isub hx hb dX3_undo_27 ?_
      refine va_put (D := kD E) (ci := 2) (fs := mO Ad (put S 7 7 0)) (v := .int (zI ((S 7 5) - 1))) (ty := .int) (C := RX3) (T := TX3) (N := 19) hx hb hts in_X3 tyX3 tyX3_ok nmX3 hown hK hP hD hS 0 rfl rfl 5 (by decide) (hts _ q2325) (fun _ h9 => h9) rfl (by decide +kernel) rfl rfl (Nat.le_of_ble_eq_true rfl) dX3_undo_28 (fun H9 locs9 hP9 hD9 hS9 => ?_)
      rw [mW_f5] at hP9 hD9
      clear hP hD hS H locs
      revert hS9 hD9 hP9 locs9 H9
      intro H locs hP hD hS
      replace hP : va_P (kD E) kcl (mW E Ad (put (put S 7 7 0) 7 5 ((S 7 5) - 1))) H := hP
      replace hD : va_D A (mW E Ad (put (put S 7 7 0) 7 5 ((S 7 5) - 1))) := hD
      replace hM : MOk (put (put S 7 7 0) 7 5 ((S 7 5) - 1)) := hM.put 7 5 (by omega)
      refine lv_aload_n hx hb dX3_undo_31 rfl (lv_at hl 0 rfl) ?_
      refine va_get (D := kD E) (ci := 2) (fs := mO Ad (put (put S 7 7 0) 7 5 ((S 7 5) - 1))) (v := .ref (Ad 2)) (C := RX3) (T := TX3) (N := 19) hx hb hts in_X3 hown hK hP 0 rfl rfl 1 (by decide) (hts _ q2321) (fun _ h9 => h9) rfl dX3_undo_32 ?_
      refine kz_sipush hx hb dX3_undo_35 (by decide) ?_
      refine lv_aload_n hx hb dX3_undo_38 rfl (lv_at hl 0 rfl) ?_
      have r5 : rI ((S 7 5) - 1) := hM 7 5
      refine va_get (D := kD E) (ci := 2) (fs := mO Ad (put (put S 7 7 0) 7 5 ((S 7 5) - 1))) (v := .int (zI ((S 7 5) - 1))) (C := RX3) (T := TX3) (N := 19) hx hb hts in_X3 hown hK hP 0 rfl rfl 5 (by decide) (hts _ q2325) (fun _ h9 => h9) rfl dX3_undo_39 ?_
      refine kz_imul hx hb dX3_undo_42 ?_
      refine lv_aload_n hx hb dX3_undo_43 rfl (lv_at hl 0 rfl) ?_
      refine va_get (D := kD E) (ci := 2) (fs := mO Ad (put (put S 7 7 0) 7 5 ((S 7 5) - 1))) (v := .ref (Ad 1)) (C := RX3) (T := TX3) (N := 19) hx hb hts in_X3 hown hK hP 0 rfl rfl 0 (by decide) (hts _ q2320) (fun _ h9 => h9) rfl dX3_undo_44 ?_
      refine kz_iconst hx hb dX3_undo_47 ?_
      have hPD := kz_mv (ws' := [(Ad 2, .inl (kA E 0, 2432, .inl (zR (S 1)))), (Ad 1, .inl (kA E 0, 304, .inl (zR (S 0)))), (Ad 0, .inr (2, mO Ad (put (put S 7 7 0) 7 5 ((S 7 5) - 1)))), (Ad 3, .inl (kA E 0, 304, .inl (zR (S 2)))), (Ad 4, .inl (kA E 0, 304, .inl (zR (S 3)))), (Ad 5, .inl (kA E 0, 60, .inl (zR (S 4)))), (Ad 6, .inl (kA E 3, 40, .inl (zR (S 5)))), (Ad 7, .inl (kA E 0, 155, .inl (zR (S 6))))]) hP hD (kz_re [2, 1, 0, 3, 4, 5, 6, 7] 8 (Nat.le_of_ble_eq_true rfl) (by decide) rfl)
      clear hP hD
      obtain ⟨hP, hD⟩ := hPD
      refine kz_back (wc := [(Ad 2, .inl (kA E 0, 2432, .inl (zR (S 1)))), (Ad 1, .inl (kA E 0, 304, .inl (zR (S 0))))]) (wx := [(Ad 0, .inr (2, mO Ad (put (put S 7 7 0) 7 5 ((S 7 5) - 1)))), (Ad 3, .inl (kA E 0, 304, .inl (zR (S 2)))), (Ad 4, .inl (kA E 0, 304, .inl (zR (S 3)))), (Ad 5, .inl (kA E 0, 60, .inl (zR (S 4)))), (Ad 6, .inl (kA E 3, 40, .inl (zR (S 5)))), (Ad 7, .inl (kA E 0, 155, .inl (zR (S 6))))]) (va_runS (As := [.ref (Ad 2), .int (zI (304 * ((S 7 5) - 1))), .ref (Ad 1), .int (zI (0))]) (rest := []) ⟨hx, hb, hml, hown, hts⟩ (mX3_copies l E H.size (Ad 2) (Ad 1) 2432 304 (by omega) (S 1) (S 0) (fun i => hM 1 i) (304 * ((S 7 5) - 1)) (by omega) 0 (by omega) (show 0 ≤ (304 * ((S 7 5) - 1)) ∧ (304 * ((S 7 5) - 1)) + 304 ≤ 2432 by first | omega | exact hI.st _ (by omega) (by omega) | exact hI.rv _ (by omega) (by omega) | exact hI) (show 0 ≤ 0 ∧ 0 + 304 ≤ 304 by first | omega | exact hI.st _ (by omega) (by omega) | exact hI.rv _ (by omega) (by omega) | exact hI)) (va_cwS 4 hts (lw_S q2406 q2407 q83 q2408) rfl rfl rfl (by decide +kernel) ⟨(Nat.le_of_ble_eq_true rfl), (Nat.le_of_ble_eq_true rfl)⟩) (kz_pre (wc := [(Ad 2, .inl (kA E 0, 2432, .inl (zR (S 1)))), (Ad 1, .inl (kA E 0, 304, .inl (zR (S 0))))]) (wx := [(Ad 0, .inr (2, mO Ad (put (put S 7 7 0) 7 5 ((S 7 5) - 1)))), (Ad 3, .inl (kA E 0, 304, .inl (zR (S 2)))), (Ad 4, .inl (kA E 0, 304, .inl (zR (S 3)))), (Ad 5, .inl (kA E 0, 60, .inl (zR (S 4)))), (Ad 6, .inl (kA E 3, 40, .inl (zR (S 5)))), (Ad 7, .inl (kA E 0, 155, .inl (zR (S 6))))]) hG hS hAN hP hD kz_nilP kz_nilA) rfl rfl hl.1 rfl (lv_room (Nat.le_of_ble_eq_true rfl)) dX3_undo_48 ⟨(Nat.le_of_ble_eq_true rfl), (Nat.le_of_ble_eq_true rfl)⟩) hP hD hS hA (fun u H9 locs9 hu hP9 hD9 hS9 hzz hkk => ?_)
      clear hzz hkk hP hD hS H locs u
      revert hS9 hD9 hP9 locs9 H9
      intro H locs hP hD hS
      have hPD := kz_mv (ws' := mW E Ad (putR (put (put S 7 7 0) 7 5 ((S 7 5) - 1)) 0 (blit (S 1) (S 0) (304 * ((S 7 5) - 1)) 0))) hP hD (kz_re [2, 1, 0, 3, 4, 5, 6, 7] 8 (Nat.le_of_ble_eq_true rfl) (by decide) rfl)
      clear hP hD
      obtain ⟨hP, hD⟩ := hPD
      have hM : MOk (putR (put (put S 7 7 0) 7 5 ((S 7 5) - 1)) 0 (blit (S 1) (S 0) (304 * ((S 7 5) - 1)) 0)) := hM.putR 0 (blit_r (fun i => hM 1 i) (fun i => hM 0 i) _ _)
      clear hu
      replace hP : va_P (kD E) kcl (mW E Ad (putR (put (put S 7 7 0) 7 5 ((S 7 5) - 1)) 0 (blit (S 1) (S 0) (304 * ((S 7 5) - 1)) 0))) H := hP
      replace hD : va_D A (mW E Ad (putR (put (put S 7 7 0) 7 5 ((S 7 5) - 1)) 0 (blit (S 1) (S 0) (304 * ((S 7 5) - 1)) 0))) := hD
      show W p l e _ s m args below meth c H locs _ _ Q (F0 m 51 ls [])
      refine lv_aload_n hx hb dX3_undo_51 rfl (lv_at hl 0 rfl) ?_
      have r6 : rI ((S 7 5) - 1) := hM 7 5
      refine va_get (D := kD E) (ci := 2) (fs := mO Ad (putR (put (put S 7 7 0) 7 5 ((S 7 5) - 1)) 0 (blit (S 1) (S 0) (304 * ((S 7 5) - 1)) 0))) (v := .int (zI ((S 7 5) - 1))) (C := RX3) (T := TX3) (N := 19) hx hb hts in_X3 hown hK hP 0 rfl rfl 5 (by decide) (hts _ q2325) (fun _ h9 => h9) rfl dX3_undo_52 ?_
      have e0 : xUndo S = (putR (put (put S 7 7 0) 7 5 ((S 7 5) - 1)) 0 (blit (S 1) (S 0) (304 * ((S 7 5) - 1)) 0), (S 7 5) - 1) := by unfold xUndo; (repeat (first | refine Eq.trans (if_pos (by omega)) ?_ | refine Eq.trans (if_neg (by omega)) ?_)); rfl
      have e1 : (xUndo S).2 = (S 7 5) - 1 := by rw [e0]
      have e3 : (xUndo S).1 = putR (put (put S 7 7 0) 7 5 ((S 7 5) - 1)) 0 (blit (S 1) (S 0) (304 * ((S 7 5) - 1)) 0) := by rw [e0]
      exact kz_iret () hx hb hr hlk hP hD hS dX3_undo_55 (congrArg (fun z : Int => some (Value.int (zI z))) e1) ⟨(kz_r e1 (by omega)), (kz_M e3 hM)⟩ (congrArg (mW E Ad) e3) hQ (Nat.le_of_ble_eq_true rfl) (Nat.le_of_ble_eq_true rfl)
    · skip
      obtain rfl : v3 = 1 := by omega
      refine kz_iconst hx hb dX3_undo_19 ?_
      have e0 : xUndo S = (put S 7 7 1, 0) := by unfold xUndo; (repeat (first | refine Eq.trans (if_pos (by omega)) ?_ | refine Eq.trans (if_neg (by omega)) ?_)); rfl
      have e1 : (xUndo S).2 = 0 := by rw [e0]
      have e3 : (xUndo S).1 = put S 7 7 1 := by rw [e0]
      exact kz_iret () hx hb hr hlk hP hD hS dX3_undo_20 (congrArg (fun z : Int => some (Value.int (zI z))) e1) ⟨(kz_r e1 (by omega)), (kz_M e3 hM)⟩ (congrArg (mW E Ad) e3) hQ (Nat.le_of_ble_eq_true rfl) (Nat.le_of_ble_eq_true rfl)
  refine kz_if_ne (tgt := 12) hx hb dX3_undo_5 (by decide) (by omega) (fun c5 => ?_) (fun c5 => ?_)
  · skip
    refine kz_iconst hx hb dX3_undo_12 ?_
    exact J2 0 _ _ _ (Eq.symm (if_neg c5)) (by omega) hP hD hS hl
  · skip
    refine kz_iconst hx hb dX3_undo_8 ?_
    refine lv_goto (tgt := 13) hx hb dX3_undo_9 (by decide) ?_
    exact J2 1 _ _ _ (Eq.symm (if_pos c5)) (by omega) hP hD hS hl

set_option maxHeartbeats 4000000 in
set_option maxRecDepth 100000 in
theorem mX3_clear (l : Launch) (E : KE) (sz : Nat) (Ad : Nat → Nat) (S : St) (hM : MOk S) : Met l yX3_clear (ws_ yX3_clear cX3_clear 2 (some .int)) (rmk 1 0 0 21) (va_Pc [.ref (Ad 0)] (kP l E sz (mW E Ad S) [])) (kQ E (fun _ : Unit => rI ((xClear S).2) ∧ MOk ((xClear S).1)) (fun _ => some (.int (zI ((xClear S).2)))) (fun _ => (mW E Ad ((xClear S).1))) (va_A (mW E Ad S) sz)) 0 0 (va_A (mW E Ad S) sz) := by
  refine kz_start (Qf := kQ E (fun _ : Unit => rI ((xClear S).2) ∧ MOk ((xClear S).1)) (fun _ => some (.int (zI ((xClear S).2)))) (fun _ => (mW E Ad ((xClear S).1)))) (by decide) (Nat.le_of_ble_eq_true rfl) ?_
  intro p e s m args below meth c A ls Q H locs hx hb hr hlk hml hts hown hname hG hK hA hAN hP hD hR hRA hS hQ hl
  replace hown : s.vm.findClass RX3 = some m.cls := hown
  replace hl : lv_has ls 2 [(0, .ref (Ad 0))] := hl
  replace hP : va_P (kD E) kcl (mW E Ad (S)) H := hP
  replace hD : va_D A (mW E Ad (S)) := hD
  refine lv_aload_n hx hb dX3_clear_0 rfl (lv_at hl 0 rfl) ?_
  refine kz_iconst hx hb dX3_clear_1 ?_
  refine va_put (D := kD E) (ci := 2) (fs := mO Ad (S)) (v := .int (zI (0))) (ty := .int) (C := RX3) (T := TX3) (N := 19) hx hb hts in_X3 tyX3 tyX3_ok nmX3 hown hK hP hD hS 0 rfl rfl 7 (by decide) (hts _ q2327) (fun _ h9 => h9) rfl (by decide +kernel) rfl rfl (Nat.le_of_ble_eq_true rfl) dX3_clear_2 (fun H9 locs9 hP9 hD9 hS9 => ?_)
  rw [mW_f7] at hP9 hD9
  clear hP hD hS H locs
  revert hS9 hD9 hP9 locs9 H9
  intro H locs hP hD hS
  replace hP : va_P (kD E) kcl (mW E Ad (put S 7 7 0)) H := hP
  replace hD : va_D A (mW E Ad (put S 7 7 0)) := hD
  replace hM : MOk (put S 7 7 0) := hM.put 7 7 (by omega)
  refine lv_aload_n hx hb dX3_clear_5 rfl (lv_at hl 0 rfl) ?_
  refine va_get (D := kD E) (ci := 2) (fs := mO Ad (put S 7 7 0)) (v := .ref (Ad 1)) (C := RX3) (T := TX3) (N := 19) hx hb hts in_X3 hown hK hP 0 rfl rfl 0 (by decide) (hts _ q2320) (fun _ h9 => h9) rfl dX3_clear_6 ?_
  refine kz_iconst hx hb dX3_clear_9 ?_
  refine kz_iald (cA := kA E 0) (n := 304) (g := S 0) hx hb hK hP 1 0 rfl rfl (by omega) dX3_clear_10 ?_
  have r1 : rI (S 0 0) := hM 0 0
  refine lv_istore_n (lv' := [(1, .int (zI (S 0 0))), (0, .ref (Ad 0))]) hx hb dX3_clear_11 rfl hl (by decide) rfl (fun ls hl => ?_)
  refine lv_aload_n hx hb dX3_clear_12 rfl (lv_at hl 1 rfl) ?_
  refine kz_backM (va_runV (As := []) (rest := []) ⟨hx, hb, hml, hown, hts⟩ (mX3_empties l E H.size Ad (put S 7 7 0) hM) (cwV 0 hts (lw_V q2316 q2318 qs35 q83 q2319) rfl rfl rfl (by decide +kernel) ⟨(Nat.le_of_ble_eq_true rfl), (Nat.le_of_ble_eq_true rfl)⟩) (kz_preVM (wc := mW E Ad (put S 7 7 0)) (va_recv hK hP (ci := 2) (q0 := 0) rfl rfl) hG hS hAN hP hD kz_nilP kz_nilA) rfl rfl hl.1 rfl (lv_room (Nat.le_of_ble_eq_true rfl)) dX3_clear_13 ⟨(Nat.le_of_ble_eq_true rfl), (Nat.le_of_ble_eq_true rfl)⟩) hP hD hS hA (fun u H9 locs9 hu hP9 hD9 hS9 hzz hkk => ?_)
  clear hzz hkk hP hD hS H locs u
  revert hS9 hD9 hP9 locs9 H9
  intro H locs hP hD hS
  replace hM : MOk (putR (put S 7 7 0) 0 (gEmpty ((put S 7 7 0) 0))) := hu
  clear hu
  replace hP : va_P (kD E) kcl (mW E Ad (putR (put S 7 7 0) 0 (gEmpty ((put S 7 7 0) 0)))) H := hP
  replace hD : va_D A (mW E Ad (putR (put S 7 7 0) 0 (gEmpty ((put S 7 7 0) 0)))) := hD
  show W p l e _ s m args below meth c H locs _ _ Q (F0 m 16 ls [])
  refine lv_aload_n hx hb dX3_clear_16 rfl (lv_at hl 1 rfl) ?_
  refine kz_iconst hx hb dX3_clear_17 ?_
  refine va_put (D := kD E) (ci := 2) (fs := mO Ad (putR (put S 7 7 0) 0 (gEmpty ((put S 7 7 0) 0)))) (v := .int (zI (0))) (ty := .int) (C := RX3) (T := TX3) (N := 19) hx hb hts in_X3 tyX3 tyX3_ok nmX3 hown hK hP hD hS 0 rfl rfl 5 (by decide) (hts _ q2325) (fun _ h9 => h9) rfl (by decide +kernel) rfl rfl (Nat.le_of_ble_eq_true rfl) dX3_clear_18 (fun H9 locs9 hP9 hD9 hS9 => ?_)
  rw [mW_f5] at hP9 hD9
  clear hP hD hS H locs
  revert hS9 hD9 hP9 locs9 H9
  intro H locs hP hD hS
  replace hP : va_P (kD E) kcl (mW E Ad (put (putR (put S 7 7 0) 0 (gEmpty ((put S 7 7 0) 0))) 7 5 0)) H := hP
  replace hD : va_D A (mW E Ad (put (putR (put S 7 7 0) 0 (gEmpty ((put S 7 7 0) 0))) 7 5 0)) := hD
  replace hM : MOk (put (putR (put S 7 7 0) 0 (gEmpty ((put S 7 7 0) 0))) 7 5 0) := hM.put 7 5 (by omega)
  refine lv_iload_n hx hb dX3_clear_21 rfl (lv_at hl 0 rfl) ?_
  have e0 : xClear S = (put (putR (put S 7 7 0) 0 (gEmpty ((put S 7 7 0) 0))) 7 5 0, S 0 0) := by unfold xClear; (repeat (first | refine Eq.trans (if_pos (by omega)) ?_ | refine Eq.trans (if_neg (by omega)) ?_)); rfl
  have e1 : (xClear S).2 = S 0 0 := by rw [e0]
  have e3 : (xClear S).1 = put (putR (put S 7 7 0) 0 (gEmpty ((put S 7 7 0) 0))) 7 5 0 := by rw [e0]
  exact kz_iret () hx hb hr hlk hP hD hS dX3_clear_22 (congrArg (fun z : Int => some (Value.int (zI z))) e1) ⟨(kz_r e1 (by omega)), (kz_M e3 hM)⟩ (congrArg (mW E Ad) e3) hQ (Nat.le_of_ble_eq_true rfl) (Nat.le_of_ble_eq_true rfl)

set_option maxHeartbeats 4000000 in
set_option maxRecDepth 100000 in
theorem mX3_account (l : Launch) (E : KE) (sz : Nat) (Ad : Nat → Nat) (S : St) (hM : MOk S) (B : Int) (w : Int) (rw : rI w) (hI : GI B (S 0)) : Met l yX3_account (ws_ yX3_account cX3_account 2 (some .int)) (rmk 3 0 0 67) (va_Pc [.ref (Ad 0), .int (zI w)] (kP l E sz (mW E Ad S) [])) (kQ E (fun _ : Unit => rI ((xAccount S w).2) ∧ MOk ((xAccount S w).1)) (fun _ => some (.int (zI ((xAccount S w).2)))) (fun _ => (mW E Ad ((xAccount S w).1))) (va_A (mW E Ad S) sz)) 0 0 (va_A (mW E Ad S) sz) := by
  refine kz_start (Qf := kQ E (fun _ : Unit => rI ((xAccount S w).2) ∧ MOk ((xAccount S w).1)) (fun _ => some (.int (zI ((xAccount S w).2)))) (fun _ => (mW E Ad ((xAccount S w).1)))) (by decide) (Nat.le_of_ble_eq_true rfl) ?_
  intro p e s m args below meth c A ls Q H locs hx hb hr hlk hml hts hown hname hG hK hA hAN hP hD hR hRA hS hQ hl
  replace hown : s.vm.findClass RX3 = some m.cls := hown
  replace hl : lv_has ls 2 [(0, .ref (Ad 0)), (1, .int (zI (w)))] := hl
  have g0 := hI.n
  have g1 := hI.m
  have g2 := hI.ct
  replace hP : va_P (kD E) kcl (mW E Ad (S)) H := hP
  replace hD : va_D A (mW E Ad (S)) := hD
  refine lv_aload_n hx hb dX3_account_0 rfl (lv_at hl 0 rfl) ?_
  refine lv_iload_n hx hb dX3_account_1 rfl (lv_at hl 1 rfl) ?_
  refine kz_iconst hx hb dX3_account_2 ?_
  refine kz_bipush hx hb dX3_account_3 (by decide) ?_
  refine kz_back (wc := []) (wx := (mW E Ad (S))) (va_runS (As := [.int (zI (w)), .int (zI (0)), .int (zI (13))]) (rest := [.ref (Ad 0)]) ⟨hx, hb, hml, hown, hts⟩ (mX3_in l E H.size w (by omega) 0 (by omega) 13 (by omega)) (va_cwS 3 hts (lw_S q2391 q2392 q83 q2393) rfl rfl rfl (by decide +kernel) ⟨(Nat.le_of_ble_eq_true rfl), (Nat.le_of_ble_eq_true rfl)⟩) (kz_pre (wc := []) (wx := (mW E Ad (S))) hG hS hAN hP hD kz_nilP kz_nilA) rfl rfl hl.1 rfl (lv_room (Nat.le_of_ble_eq_true rfl)) dX3_account_5 ⟨(Nat.le_of_ble_eq_true rfl), (Nat.le_of_ble_eq_true rfl)⟩) hP hD hS hA (fun u H9 locs9 hu hP9 hD9 hS9 hzz hkk => ?_)
  clear hzz hkk hP hD hS H locs u
  revert hS9 hD9 hP9 locs9 H9
  intro H locs hP hD hS
  clear hu
  replace hP : va_P (kD E) kcl (mW E Ad (S)) H := hP
  replace hD : va_D A (mW E Ad (S)) := hD
  show W p l e _ s m args below meth c H locs _ _ Q (F0 m 8 ls [.int (zI (b2 (0 ≤ w ∧ w ≤ 13))), .ref (Ad 0)])
  have J1 : ∀ (v2 : Int) (H : Heap) (locs : List Loc) (ls : Array Slot), v2 = (if 0 ≤ w ∧ w ≤ 13 then 0 else 1) → rI v2 → va_P (kD E) kcl (mW E Ad (S)) H → va_D A (mW E Ad (S)) → va_S A s.heap H locs → lv_has ls 2 [(0, .ref (Ad 0)), (1, .int (zI (w)))] → W p l e (rmk 3 0 0 67) s m args below meth c H locs 0 0 Q (F0 m 16 ls [.int (zI (v2)), .ref (Ad 0)]) := by
    clear hl hS hD hP ls locs H
    intro v2 H locs ls hv2 rv2 hP hD hS hl
    have dv2 : (¬ (0 ≤ w ∧ w ≤ 13) ∧ v2 = 1) ∨ (0 ≤ w ∧ w ≤ 13 ∧ v2 = 0) := by rw [hv2]; (repeat' split) <;> first | omega | simp_all
    refine kz_backM (va_runV (As := [.int (zI (v2))]) (rest := []) ⟨hx, hb, hml, hown, hts⟩ (mX3_fails l E H.size Ad S hM v2 (by omega)) (cwV 1 hts (lw_V q2394 q2396 qs36 q83 q2397) rfl rfl rfl (by decide +kernel) ⟨(Nat.le_of_ble_eq_true rfl), (Nat.le_of_ble_eq_true rfl)⟩) (kz_preVM (wc := mW E Ad S) (va_recv hK hP (ci := 2) (q0 := 0) rfl rfl) hG hS hAN hP hD kz_nilP kz_nilA) rfl rfl hl.1 rfl (lv_room (Nat.le_of_ble_eq_true rfl)) dX3_account_16 ⟨(Nat.le_of_ble_eq_true rfl), (Nat.le_of_ble_eq_true rfl)⟩) hP hD hS hA (fun u H9 locs9 hu hP9 hD9 hS9 hzz hkk => ?_)
    clear hzz hkk hP hD hS H locs u
    revert hS9 hD9 hP9 locs9 H9
    intro H locs hP hD hS
    replace hM : MOk (put S 7 7 v2) := hu
    clear hu
    replace hP : va_P (kD E) kcl (mW E Ad (put S 7 7 v2)) H := hP
    replace hD : va_D A (mW E Ad (put S 7 7 v2)) := hD
    show W p l e _ s m args below meth c H locs _ _ Q (F0 m 19 ls [.int (zI (b2 (0 < v2)))])
    refine kz_if0B (tgt := 24) hx hb dX3_account_19 (by decide) (fun c19 => ?_) (fun c19 => ?_)
    · skip
      obtain rfl : v2 = 0 := by omega
      refine lv_iload_n hx hb dX3_account_24 rfl (lv_at hl 1 rfl) ?_
      rcases (show w = 3 ∨ w = 4 ∨ w = 5 ∨ w = 6 ∨ w = 7 ∨ w = 8 ∨ w = 9 ∨ w = 10 ∨ w = 11 ∨ w = 12 ∨ w = 13 ∨ (w < 3 ∨ 13 < w) by omega) with w25 | w25 | w25 | w25 | w25 | w25 | w25 | w25 | w25 | w25 | w25 | w25
      · skip
        refine kz_tsw (v := 3) (off := 59) (tgt := 84) hx hb dX3_account_25 w25 (by decide) (by decide) rfl (by decide) ?_
        refine lv_aload_n hx hb dX3_account_84 rfl (lv_at hl 0 rfl) ?_
        refine kz_iconst hx hb dX3_account_85 ?_
        refine kz_backM (va_runV (As := [.int (zI ((-1)))]) (rest := []) ⟨hx, hb, hml, hown, hts⟩ (mX3_stay l E H.size Ad (put S 7 7 0) hM ((-1)) (by omega) (show 0 ≤ (S 0 0) ∧ (S 0 0) ≤ 10 by first | omega | exact hI.st _ (by omega) (by omega) | exact hI.rv _ (by omega) (by omega) | exact hI)) (cwV 1 hts (lw_V q2469 q2471 qs49 q83 q2472) rfl rfl rfl (by decide +kernel) ⟨(Nat.le_of_ble_eq_true rfl), (Nat.le_of_ble_eq_true rfl)⟩) (kz_preVM (wc := mW E Ad (put S 7 7 0)) (va_recv hK hP (ci := 2) (q0 := 0) rfl rfl) hG hS hAN hP hD kz_nilP kz_nilA) rfl rfl hl.1 rfl (lv_room (Nat.le_of_ble_eq_true rfl)) dX3_account_86 ⟨(Nat.le_of_ble_eq_true rfl), (Nat.le_of_ble_eq_true rfl)⟩) hP hD hS hA (fun u H9 locs9 hu hP9 hD9 hS9 hzz hkk => ?_)
        clear hzz hkk hP hD hS H locs u
        revert hS9 hD9 hP9 locs9 H9
        intro H locs hP hD hS
        have r3 : rI (stay (S 0) ((-1))) := hu
        clear hu
        replace hP : va_P (kD E) kcl (mW E Ad (put S 7 7 0)) H := hP
        replace hD : va_D A (mW E Ad (put S 7 7 0)) := hD
        show W p l e _ s m args below meth c H locs _ _ Q (F0 m 89 ls [.int (zI (stay (S 0) ((-1))))])
        have e0 : xAccount S w = (put S 7 7 0, stay (S 0) ((-1))) := by unfold xAccount; (repeat (first | refine Eq.trans (if_pos (by omega)) ?_ | refine Eq.trans (if_neg (by omega)) ?_)); first | rfl | (refine congrArg (Prod.mk _) ?_; (repeat (first | refine Eq.trans (if_pos (by omega)) ?_ | refine Eq.trans (if_neg (by omega)) ?_)); first | rfl | (rw [show w - 4 = 3 by omega]) | (rw [show w - 4 = 4 by omega]) | (rw [show w - 4 = 5 by omega]) | (rw [show w - 4 = 6 by omega]) | (rw [show w - 4 = 7 by omega]))
        have e1 : (xAccount S w).2 = stay (S 0) ((-1)) := by rw [e0]
        have e3 : (xAccount S w).1 = put S 7 7 0 := by rw [e0]
        exact kz_iret () hx hb hr hlk hP hD hS dX3_account_89 (congrArg (fun z : Int => some (Value.int (zI z))) e1) ⟨(kz_r e1 (by omega)), (kz_M e3 hM)⟩ (congrArg (mW E Ad) e3) hQ (Nat.le_of_ble_eq_true rfl) (Nat.le_of_ble_eq_true rfl)
      · skip
        refine kz_tsw (v := 4) (off := 65) (tgt := 90) hx hb dX3_account_25 w25 (by decide) (by decide) rfl (by decide) ?_
        refine lv_aload_n hx hb dX3_account_90 rfl (lv_at hl 0 rfl) ?_
        refine kz_bipush hx hb dX3_account_91 (by decide) ?_
        refine kz_backM (va_runV (As := [.int (zI (9))]) (rest := []) ⟨hx, hb, hml, hown, hts⟩ (mX3_stay l E H.size Ad (put S 7 7 0) hM 9 (by omega) (show 0 ≤ (S 0 0) ∧ (S 0 0) ≤ 10 by first | omega | exact hI.st _ (by omega) (by omega) | exact hI.rv _ (by omega) (by omega) | exact hI)) (cwV 1 hts (lw_V q2469 q2471 qs49 q83 q2472) rfl rfl rfl (by decide +kernel) ⟨(Nat.le_of_ble_eq_true rfl), (Nat.le_of_ble_eq_true rfl)⟩) (kz_preVM (wc := mW E Ad (put S 7 7 0)) (va_recv hK hP (ci := 2) (q0 := 0) rfl rfl) hG hS hAN hP hD kz_nilP kz_nilA) rfl rfl hl.1 rfl (lv_room (Nat.le_of_ble_eq_true rfl)) dX3_account_93 ⟨(Nat.le_of_ble_eq_true rfl), (Nat.le_of_ble_eq_true rfl)⟩) hP hD hS hA (fun u H9 locs9 hu hP9 hD9 hS9 hzz hkk => ?_)
        clear hzz hkk hP hD hS H locs u
        revert hS9 hD9 hP9 locs9 H9
        intro H locs hP hD hS
        have r4 : rI (stay (S 0) 9) := hu
        clear hu
        replace hP : va_P (kD E) kcl (mW E Ad (put S 7 7 0)) H := hP
        replace hD : va_D A (mW E Ad (put S 7 7 0)) := hD
        show W p l e _ s m args below meth c H locs _ _ Q (F0 m 96 ls [.int (zI (stay (S 0) 9))])
        have e0 : xAccount S w = (put S 7 7 0, stay (S 0) 9) := by unfold xAccount; (repeat (first | refine Eq.trans (if_pos (by omega)) ?_ | refine Eq.trans (if_neg (by omega)) ?_)); first | rfl | (refine congrArg (Prod.mk _) ?_; (repeat (first | refine Eq.trans (if_pos (by omega)) ?_ | refine Eq.trans (if_neg (by omega)) ?_)); first | rfl | (rw [show w - 4 = 3 by omega]) | (rw [show w - 4 = 4 by omega]) | (rw [show w - 4 = 5 by omega]) | (rw [show w - 4 = 6 by omega]) | (rw [show w - 4 = 7 by omega]))
        have e1 : (xAccount S w).2 = stay (S 0) 9 := by rw [e0]
        have e3 : (xAccount S w).1 = put S 7 7 0 := by rw [e0]
        exact kz_iret () hx hb hr hlk hP hD hS dX3_account_96 (congrArg (fun z : Int => some (Value.int (zI z))) e1) ⟨(kz_r e1 (by omega)), (kz_M e3 hM)⟩ (congrArg (mW E Ad) e3) hQ (Nat.le_of_ble_eq_true rfl) (Nat.le_of_ble_eq_true rfl)
      · skip
        refine kz_tsw (v := 5) (off := 72) (tgt := 97) hx hb dX3_account_25 w25 (by decide) (by decide) rfl (by decide) ?_
        refine lv_aload_n hx hb dX3_account_97 rfl (lv_at hl 0 rfl) ?_
        refine kz_bipush hx hb dX3_account_98 (by decide) ?_
        refine kz_backM (va_runV (As := [.int (zI ((-2)))]) (rest := []) ⟨hx, hb, hml, hown, hts⟩ (mX3_stay l E H.size Ad (put S 7 7 0) hM ((-2)) (by omega) (show 0 ≤ (S 0 0) ∧ (S 0 0) ≤ 10 by first | omega | exact hI.st _ (by omega) (by omega) | exact hI.rv _ (by omega) (by omega) | exact hI)) (cwV 1 hts (lw_V q2469 q2471 qs49 q83 q2472) rfl rfl rfl (by decide +kernel) ⟨(Nat.le_of_ble_eq_true rfl), (Nat.le_of_ble_eq_true rfl)⟩) (kz_preVM (wc := mW E Ad (put S 7 7 0)) (va_recv hK hP (ci := 2) (q0 := 0) rfl rfl) hG hS hAN hP hD kz_nilP kz_nilA) rfl rfl hl.1 rfl (lv_room (Nat.le_of_ble_eq_true rfl)) dX3_account_100 ⟨(Nat.le_of_ble_eq_true rfl), (Nat.le_of_ble_eq_true rfl)⟩) hP hD hS hA (fun u H9 locs9 hu hP9 hD9 hS9 hzz hkk => ?_)
        clear hzz hkk hP hD hS H locs u
        revert hS9 hD9 hP9 locs9 H9
        intro H locs hP hD hS
        have r5 : rI (stay (S 0) ((-2))) := hu
        clear hu
        replace hP : va_P (kD E) kcl (mW E Ad (put S 7 7 0)) H := hP
        replace hD : va_D A (mW E Ad (put S 7 7 0)) := hD
        show W p l e _ s m args below meth c H locs _ _ Q (F0 m 103 ls [.int (zI (stay (S 0) ((-2))))])
        have e0 : xAccount S w = (put S 7 7 0, stay (S 0) ((-2))) := by unfold xAccount; (repeat (first | refine Eq.trans (if_pos (by omega)) ?_ | refine Eq.trans (if_neg (by omega)) ?_)); first | rfl | (refine congrArg (Prod.mk _) ?_; (repeat (first | refine Eq.trans (if_pos (by omega)) ?_ | refine Eq.trans (if_neg (by omega)) ?_)); first | rfl | (rw [show w - 4 = 3 by omega]) | (rw [show w - 4 = 4 by omega]) | (rw [show w - 4 = 5 by omega]) | (rw [show w - 4 = 6 by omega]) | (rw [show w - 4 = 7 by omega]))
        have e1 : (xAccount S w).2 = stay (S 0) ((-2)) := by rw [e0]
        have e3 : (xAccount S w).1 = put S 7 7 0 := by rw [e0]
        exact kz_iret () hx hb hr hlk hP hD hS dX3_account_103 (congrArg (fun z : Int => some (Value.int (zI z))) e1) ⟨(kz_r e1 (by omega)), (kz_M e3 hM)⟩ (congrArg (mW E Ad) e3) hQ (Nat.le_of_ble_eq_true rfl) (Nat.le_of_ble_eq_true rfl)
      · skip
        refine kz_tsw (v := 6) (off := 79) (tgt := 104) hx hb dX3_account_25 w25 (by decide) (by decide) rfl (by decide) ?_
        refine lv_aload_n hx hb dX3_account_104 rfl (lv_at hl 0 rfl) ?_
        refine kz_backM (va_runV (As := []) (rest := []) ⟨hx, hb, hml, hown, hts⟩ (mX3_bookings l E H.size Ad (put S 7 7 0) hM (show 0 ≤ (S 0 1) ∧ (S 0 1) ≤ 4 by first | omega | exact hI.st _ (by omega) (by omega) | exact hI.rv _ (by omega) (by omega) | exact hI)) (cwV 0 hts (lw_V q2609 q2611 qs58 q83 q2612) rfl rfl rfl (by decide +kernel) ⟨(Nat.le_of_ble_eq_true rfl), (Nat.le_of_ble_eq_true rfl)⟩) (kz_preVM (wc := mW E Ad (put S 7 7 0)) (va_recv hK hP (ci := 2) (q0 := 0) rfl rfl) hG hS hAN hP hD kz_nilP kz_nilA) rfl rfl hl.1 rfl (lv_room (Nat.le_of_ble_eq_true rfl)) dX3_account_105 ⟨(Nat.le_of_ble_eq_true rfl), (Nat.le_of_ble_eq_true rfl)⟩) hP hD hS hA (fun u H9 locs9 hu hP9 hD9 hS9 hzz hkk => ?_)
        clear hzz hkk hP hD hS H locs u
        revert hS9 hD9 hP9 locs9 H9
        intro H locs hP hD hS
        have r6 : rI (bookingsG (S 0)) := hu
        clear hu
        replace hP : va_P (kD E) kcl (mW E Ad (put S 7 7 0)) H := hP
        replace hD : va_D A (mW E Ad (put S 7 7 0)) := hD
        show W p l e _ s m args below meth c H locs _ _ Q (F0 m 108 ls [.int (zI (bookingsG (S 0)))])
        have e0 : xAccount S w = (put S 7 7 0, bookingsG (S 0)) := by unfold xAccount; (repeat (first | refine Eq.trans (if_pos (by omega)) ?_ | refine Eq.trans (if_neg (by omega)) ?_)); first | rfl | (refine congrArg (Prod.mk _) ?_; (repeat (first | refine Eq.trans (if_pos (by omega)) ?_ | refine Eq.trans (if_neg (by omega)) ?_)); first | rfl | (rw [show w - 4 = 3 by omega]) | (rw [show w - 4 = 4 by omega]) | (rw [show w - 4 = 5 by omega]) | (rw [show w - 4 = 6 by omega]) | (rw [show w - 4 = 7 by omega]))
        have e1 : (xAccount S w).2 = bookingsG (S 0) := by rw [e0]
        have e3 : (xAccount S w).1 = put S 7 7 0 := by rw [e0]
        exact kz_iret () hx hb hr hlk hP hD hS dX3_account_108 (congrArg (fun z : Int => some (Value.int (zI z))) e1) ⟨(kz_r e1 (by omega)), (kz_M e3 hM)⟩ (congrArg (mW E Ad) e3) hQ (Nat.le_of_ble_eq_true rfl) (Nat.le_of_ble_eq_true rfl)
      · skip
        refine kz_tsw (v := 7) (off := 84) (tgt := 109) hx hb dX3_account_25 w25 (by decide) (by decide) rfl (by decide) ?_
        refine lv_aload_n hx hb dX3_account_109 rfl (lv_at hl 0 rfl) ?_
        refine va_get (D := kD E) (ci := 2) (fs := mO Ad (put S 7 7 0)) (v := .ref (Ad 1)) (C := RX3) (T := TX3) (N := 19) hx hb hts in_X3 hown hK hP 0 rfl rfl 0 (by decide) (hts _ q2320) (fun _ h9 => h9) rfl dX3_account_110 ?_
        refine kz_iconst hx hb dX3_account_113 ?_
        refine kz_iald (cA := kA E 0) (n := 304) (g := S 0) hx hb hK hP 1 0 rfl rfl (by omega) dX3_account_114 ?_
        have r7 : rI (S 0 3) := hM 0 3
        have e0 : xAccount S w = (put S 7 7 0, S 0 3) := by unfold xAccount; (repeat (first | refine Eq.trans (if_pos (by omega)) ?_ | refine Eq.trans (if_neg (by omega)) ?_)); first | rfl | (refine congrArg (Prod.mk _) ?_; (repeat (first | refine Eq.trans (if_pos (by omega)) ?_ | refine Eq.trans (if_neg (by omega)) ?_)); first | rfl | (rw [show w - 4 = 3 by omega]) | (rw [show w - 4 = 4 by omega]) | (rw [show w - 4 = 5 by omega]) | (rw [show w - 4 = 6 by omega]) | (rw [show w - 4 = 7 by omega]))
        have e1 : (xAccount S w).2 = S 0 3 := by rw [e0]
        have e3 : (xAccount S w).1 = put S 7 7 0 := by rw [e0]
        exact kz_iret () hx hb hr hlk hP hD hS dX3_account_115 (congrArg (fun z : Int => some (Value.int (zI z))) e1) ⟨(kz_r e1 (by omega)), (kz_M e3 hM)⟩ (congrArg (mW E Ad) e3) hQ (Nat.le_of_ble_eq_true rfl) (Nat.le_of_ble_eq_true rfl)
      · skip
        refine kz_tsw (v := 8) (off := 91) (tgt := 116) hx hb dX3_account_25 w25 (by decide) (by decide) rfl (by decide) ?_
        refine lv_aload_n hx hb dX3_account_116 rfl (lv_at hl 0 rfl) ?_
        refine va_get (D := kD E) (ci := 2) (fs := mO Ad (put S 7 7 0)) (v := .ref (Ad 1)) (C := RX3) (T := TX3) (N := 19) hx hb hts in_X3 hown hK hP 0 rfl rfl 0 (by decide) (hts _ q2320) (fun _ h9 => h9) rfl dX3_account_117 ?_
        refine kz_iconst hx hb dX3_account_120 ?_
        refine kz_iald (cA := kA E 0) (n := 304) (g := S 0) hx hb hK hP 1 0 rfl rfl (by omega) dX3_account_121 ?_
        have r8 : rI (S 0 4) := hM 0 4
        have e0 : xAccount S w = (put S 7 7 0, S 0 4) := by unfold xAccount; (repeat (first | refine Eq.trans (if_pos (by omega)) ?_ | refine Eq.trans (if_neg (by omega)) ?_)); first | rfl | (refine congrArg (Prod.mk _) ?_; (repeat (first | refine Eq.trans (if_pos (by omega)) ?_ | refine Eq.trans (if_neg (by omega)) ?_)); first | rfl | (rw [show w - 4 = 3 by omega]) | (rw [show w - 4 = 4 by omega]) | (rw [show w - 4 = 5 by omega]) | (rw [show w - 4 = 6 by omega]) | (rw [show w - 4 = 7 by omega]))
        have e1 : (xAccount S w).2 = S 0 4 := by rw [e0]
        have e3 : (xAccount S w).1 = put S 7 7 0 := by rw [e0]
        exact kz_iret () hx hb hr hlk hP hD hS dX3_account_122 (congrArg (fun z : Int => some (Value.int (zI z))) e1) ⟨(kz_r e1 (by omega)), (kz_M e3 hM)⟩ (congrArg (mW E Ad) e3) hQ (Nat.le_of_ble_eq_true rfl) (Nat.le_of_ble_eq_true rfl)
      · skip
        refine kz_tsw (v := 9) (off := 98) (tgt := 123) hx hb dX3_account_25 w25 (by decide) (by decide) rfl (by decide) ?_
        refine lv_aload_n hx hb dX3_account_123 rfl (lv_at hl 0 rfl) ?_
        refine va_get (D := kD E) (ci := 2) (fs := mO Ad (put S 7 7 0)) (v := .ref (Ad 1)) (C := RX3) (T := TX3) (N := 19) hx hb hts in_X3 hown hK hP 0 rfl rfl 0 (by decide) (hts _ q2320) (fun _ h9 => h9) rfl dX3_account_124 ?_
        refine kz_iconst hx hb dX3_account_127 ?_
        refine kz_iald (cA := kA E 0) (n := 304) (g := S 0) hx hb hK hP 1 0 rfl rfl (by omega) dX3_account_128 ?_
        have r9 : rI (S 0 5) := hM 0 5
        have e0 : xAccount S w = (put S 7 7 0, S 0 5) := by unfold xAccount; (repeat (first | refine Eq.trans (if_pos (by omega)) ?_ | refine Eq.trans (if_neg (by omega)) ?_)); first | rfl | (refine congrArg (Prod.mk _) ?_; (repeat (first | refine Eq.trans (if_pos (by omega)) ?_ | refine Eq.trans (if_neg (by omega)) ?_)); first | rfl | (rw [show w - 4 = 3 by omega]) | (rw [show w - 4 = 4 by omega]) | (rw [show w - 4 = 5 by omega]) | (rw [show w - 4 = 6 by omega]) | (rw [show w - 4 = 7 by omega]))
        have e1 : (xAccount S w).2 = S 0 5 := by rw [e0]
        have e3 : (xAccount S w).1 = put S 7 7 0 := by rw [e0]
        exact kz_iret () hx hb hr hlk hP hD hS dX3_account_129 (congrArg (fun z : Int => some (Value.int (zI z))) e1) ⟨(kz_r e1 (by omega)), (kz_M e3 hM)⟩ (congrArg (mW E Ad) e3) hQ (Nat.le_of_ble_eq_true rfl) (Nat.le_of_ble_eq_true rfl)
      · skip
        refine kz_tsw (v := 10) (off := 105) (tgt := 130) hx hb dX3_account_25 w25 (by decide) (by decide) rfl (by decide) ?_
        refine lv_aload_n hx hb dX3_account_130 rfl (lv_at hl 0 rfl) ?_
        refine va_get (D := kD E) (ci := 2) (fs := mO Ad (put S 7 7 0)) (v := .ref (Ad 1)) (C := RX3) (T := TX3) (N := 19) hx hb hts in_X3 hown hK hP 0 rfl rfl 0 (by decide) (hts _ q2320) (fun _ h9 => h9) rfl dX3_account_131 ?_
        refine kz_bipush hx hb dX3_account_134 (by decide) ?_
        refine kz_iald (cA := kA E 0) (n := 304) (g := S 0) hx hb hK hP 1 0 rfl rfl (by omega) dX3_account_136 ?_
        have r10 : rI (S 0 6) := hM 0 6
        have e0 : xAccount S w = (put S 7 7 0, S 0 6) := by unfold xAccount; (repeat (first | refine Eq.trans (if_pos (by omega)) ?_ | refine Eq.trans (if_neg (by omega)) ?_)); first | rfl | (refine congrArg (Prod.mk _) ?_; (repeat (first | refine Eq.trans (if_pos (by omega)) ?_ | refine Eq.trans (if_neg (by omega)) ?_)); first | rfl | (rw [show w - 4 = 3 by omega]) | (rw [show w - 4 = 4 by omega]) | (rw [show w - 4 = 5 by omega]) | (rw [show w - 4 = 6 by omega]) | (rw [show w - 4 = 7 by omega]))
        have e1 : (xAccount S w).2 = S 0 6 := by rw [e0]
        have e3 : (xAccount S w).1 = put S 7 7 0 := by rw [e0]
        exact kz_iret () hx hb hr hlk hP hD hS dX3_account_137 (congrArg (fun z : Int => some (Value.int (zI z))) e1) ⟨(kz_r e1 (by omega)), (kz_M e3 hM)⟩ (congrArg (mW E Ad) e3) hQ (Nat.le_of_ble_eq_true rfl) (Nat.le_of_ble_eq_true rfl)
      · skip
        refine kz_tsw (v := 11) (off := 113) (tgt := 138) hx hb dX3_account_25 w25 (by decide) (by decide) rfl (by decide) ?_
        refine lv_aload_n hx hb dX3_account_138 rfl (lv_at hl 0 rfl) ?_
        refine va_get (D := kD E) (ci := 2) (fs := mO Ad (put S 7 7 0)) (v := .ref (Ad 1)) (C := RX3) (T := TX3) (N := 19) hx hb hts in_X3 hown hK hP 0 rfl rfl 0 (by decide) (hts _ q2320) (fun _ h9 => h9) rfl dX3_account_139 ?_
        refine kz_bipush hx hb dX3_account_142 (by decide) ?_
        refine kz_iald (cA := kA E 0) (n := 304) (g := S 0) hx hb hK hP 1 0 rfl rfl (by omega) dX3_account_144 ?_
        have r11 : rI (S 0 7) := hM 0 7
        have e0 : xAccount S w = (put S 7 7 0, S 0 7) := by unfold xAccount; (repeat (first | refine Eq.trans (if_pos (by omega)) ?_ | refine Eq.trans (if_neg (by omega)) ?_)); first | rfl | (refine congrArg (Prod.mk _) ?_; (repeat (first | refine Eq.trans (if_pos (by omega)) ?_ | refine Eq.trans (if_neg (by omega)) ?_)); first | rfl | (rw [show w - 4 = 3 by omega]) | (rw [show w - 4 = 4 by omega]) | (rw [show w - 4 = 5 by omega]) | (rw [show w - 4 = 6 by omega]) | (rw [show w - 4 = 7 by omega]))
        have e1 : (xAccount S w).2 = S 0 7 := by rw [e0]
        have e3 : (xAccount S w).1 = put S 7 7 0 := by rw [e0]
        exact kz_iret () hx hb hr hlk hP hD hS dX3_account_145 (congrArg (fun z : Int => some (Value.int (zI z))) e1) ⟨(kz_r e1 (by omega)), (kz_M e3 hM)⟩ (congrArg (mW E Ad) e3) hQ (Nat.le_of_ble_eq_true rfl) (Nat.le_of_ble_eq_true rfl)
      · skip
        refine kz_tsw (v := 12) (off := 121) (tgt := 146) hx hb dX3_account_25 w25 (by decide) (by decide) rfl (by decide) ?_
        refine lv_aload_n hx hb dX3_account_146 rfl (lv_at hl 0 rfl) ?_
        have r12 : rI (S 7 11) := hM 7 11
        refine va_get (D := kD E) (ci := 2) (fs := mO Ad (put S 7 7 0)) (v := .int (zI (S 7 11))) (C := RX3) (T := TX3) (N := 19) hx hb hts in_X3 hown hK hP 0 rfl rfl 11 (by decide) (hts _ q2331) (fun _ h9 => h9) rfl dX3_account_147 ?_
        have e0 : xAccount S w = (put S 7 7 0, S 7 11) := by unfold xAccount; (repeat (first | refine Eq.trans (if_pos (by omega)) ?_ | refine Eq.trans (if_neg (by omega)) ?_)); first | rfl | (refine congrArg (Prod.mk _) ?_; (repeat (first | refine Eq.trans (if_pos (by omega)) ?_ | refine Eq.trans (if_neg (by omega)) ?_)); first | rfl | (rw [show w - 4 = 3 by omega]) | (rw [show w - 4 = 4 by omega]) | (rw [show w - 4 = 5 by omega]) | (rw [show w - 4 = 6 by omega]) | (rw [show w - 4 = 7 by omega]))
        have e1 : (xAccount S w).2 = S 7 11 := by rw [e0]
        have e3 : (xAccount S w).1 = put S 7 7 0 := by rw [e0]
        exact kz_iret () hx hb hr hlk hP hD hS dX3_account_150 (congrArg (fun z : Int => some (Value.int (zI z))) e1) ⟨(kz_r e1 (by omega)), (kz_M e3 hM)⟩ (congrArg (mW E Ad) e3) hQ (Nat.le_of_ble_eq_true rfl) (Nat.le_of_ble_eq_true rfl)
      · skip
        refine kz_tsw (v := 13) (off := 126) (tgt := 151) hx hb dX3_account_25 w25 (by decide) (by decide) rfl (by decide) ?_
        refine lv_aload_n hx hb dX3_account_151 rfl (lv_at hl 0 rfl) ?_
        have r13 : rI (S 7 5) := hM 7 5
        refine va_get (D := kD E) (ci := 2) (fs := mO Ad (put S 7 7 0)) (v := .int (zI (S 7 5))) (C := RX3) (T := TX3) (N := 19) hx hb hts in_X3 hown hK hP 0 rfl rfl 5 (by decide) (hts _ q2325) (fun _ h9 => h9) rfl dX3_account_152 ?_
        have e0 : xAccount S w = (put S 7 7 0, S 7 5) := by unfold xAccount; (repeat (first | refine Eq.trans (if_pos (by omega)) ?_ | refine Eq.trans (if_neg (by omega)) ?_)); first | rfl | (refine congrArg (Prod.mk _) ?_; (repeat (first | refine Eq.trans (if_pos (by omega)) ?_ | refine Eq.trans (if_neg (by omega)) ?_)); first | rfl | (rw [show w - 4 = 3 by omega]) | (rw [show w - 4 = 4 by omega]) | (rw [show w - 4 = 5 by omega]) | (rw [show w - 4 = 6 by omega]) | (rw [show w - 4 = 7 by omega]))
        have e1 : (xAccount S w).2 = S 7 5 := by rw [e0]
        have e3 : (xAccount S w).1 = put S 7 7 0 := by rw [e0]
        exact kz_iret () hx hb hr hlk hP hD hS dX3_account_155 (congrArg (fun z : Int => some (Value.int (zI z))) e1) ⟨(kz_r e1 (by omega)), (kz_M e3 hM)⟩ (congrArg (mW E Ad) e3) hQ (Nat.le_of_ble_eq_true rfl) (Nat.le_of_ble_eq_true rfl)
      · skip
        refine kz_tswD (tgt := 156) hx hb dX3_account_25 (by omega) w25 (by decide) ?_
        refine lv_aload_n hx hb dX3_account_156 rfl (lv_at hl 0 rfl) ?_
        refine va_get (D := kD E) (ci := 2) (fs := mO Ad (put S 7 7 0)) (v := .ref (Ad 1)) (C := RX3) (T := TX3) (N := 19) hx hb hts in_X3 hown hK hP 0 rfl rfl 0 (by decide) (hts _ q2320) (fun _ h9 => h9) rfl dX3_account_157 ?_
        refine lv_iload_n hx hb dX3_account_160 rfl (lv_at hl 1 rfl) ?_
        refine kz_iald (cA := kA E 0) (n := 304) (g := S 0) hx hb hK hP 1 0 rfl rfl (by omega) dX3_account_161 ?_
        have r14 : rI (S 0 w) := hM 0 w
        have e0 : xAccount S w = (put S 7 7 0, S 0 w) := by unfold xAccount; (repeat (first | refine Eq.trans (if_pos (by omega)) ?_ | refine Eq.trans (if_neg (by omega)) ?_)); first | rfl | (refine congrArg (Prod.mk _) ?_; (repeat (first | refine Eq.trans (if_pos (by omega)) ?_ | refine Eq.trans (if_neg (by omega)) ?_)); first | rfl | (rw [show w - 4 = 3 by omega]) | (rw [show w - 4 = 4 by omega]) | (rw [show w - 4 = 5 by omega]) | (rw [show w - 4 = 6 by omega]) | (rw [show w - 4 = 7 by omega]))
        have e1 : (xAccount S w).2 = S 0 w := by rw [e0]
        have e3 : (xAccount S w).1 = put S 7 7 0 := by rw [e0]
        exact kz_iret () hx hb hr hlk hP hD hS dX3_account_162 (congrArg (fun z : Int => some (Value.int (zI z))) e1) ⟨(kz_r e1 (by omega)), (kz_M e3 hM)⟩ (congrArg (mW E Ad) e3) hQ (Nat.le_of_ble_eq_true rfl) (Nat.le_of_ble_eq_true rfl)
    · skip
      obtain rfl : v2 = 1 := by omega
      refine kz_iconst hx hb dX3_account_22 ?_
      have e0 : xAccount S w = (put S 7 7 1, 0) := by unfold xAccount; (repeat (first | refine Eq.trans (if_pos (by omega)) ?_ | refine Eq.trans (if_neg (by omega)) ?_)); first | rfl | (refine congrArg (Prod.mk _) ?_; (repeat (first | refine Eq.trans (if_pos (by omega)) ?_ | refine Eq.trans (if_neg (by omega)) ?_)); first | rfl | (rw [show w - 4 = 3 by omega]) | (rw [show w - 4 = 4 by omega]) | (rw [show w - 4 = 5 by omega]) | (rw [show w - 4 = 6 by omega]) | (rw [show w - 4 = 7 by omega]))
      have e1 : (xAccount S w).2 = 0 := by rw [e0]
      have e3 : (xAccount S w).1 = put S 7 7 1 := by rw [e0]
      exact kz_iret () hx hb hr hlk hP hD hS dX3_account_23 (congrArg (fun z : Int => some (Value.int (zI z))) e1) ⟨(kz_r e1 (by omega)), (kz_M e3 hM)⟩ (congrArg (mW E Ad) e3) hQ (Nat.le_of_ble_eq_true rfl) (Nat.le_of_ble_eq_true rfl)
  refine kz_if0B (tgt := 15) hx hb dX3_account_8 (by decide) (fun c8 => ?_) (fun c8 => ?_)
  · skip
    refine kz_iconst hx hb dX3_account_15 ?_
    exact J1 1 _ _ _ (Eq.symm (if_neg c8)) (by omega) hP hD hS hl
  · skip
    refine kz_iconst hx hb dX3_account_11 ?_
    refine lv_goto (tgt := 16) hx hb dX3_account_12 (by decide) ?_
    exact J1 0 _ _ _ (Eq.symm (if_pos c8)) (by omega) hP hD hS hl

