/-! THE MODEL, on: orders -/
set_option maxHeartbeats 4000000 in
set_option maxRecDepth 100000 in
theorem mX3_here (l : Launch) (E : KE) (sz : Nat) (Ad : Nat → Nat) (S : St) (hM : MOk S) (hat : 0 ≤ S 7 16 ∧ S 7 16 ≤ S 7 11 ∧ S 7 11 ≤ 60) : Met l yX3_here (ws_ yX3_here cX3_here 1 (some .int)) (rmk 0 0 0 0) (va_Pc [.ref (Ad 0)] (kP l E sz (mW E Ad S) [])) (kQ E (fun _ : Unit => rI (hereI S)) (fun _ => some (.int (zI (hereI S)))) (fun _ => (mW E Ad S)) (va_A (mW E Ad S) sz)) 0 0 (va_A (mW E Ad S) sz) := by
  refine kz_start (Qf := kQ E (fun _ : Unit => rI (hereI S)) (fun _ => some (.int (zI (hereI S)))) (fun _ => (mW E Ad S))) (by decide) (Nat.le_of_ble_eq_true rfl) ?_
  intro p e s m args below meth c A ls Q H locs hx hb hr hlk hml hts hown hname hG hK hA hAN hP hD hR hRA hS hQ hl
  replace hown : s.vm.findClass RX3 = some m.cls := hown
  replace hl : lv_has ls 1 [(0, .ref (Ad 0))] := hl
  replace hP : va_P (kD E) kcl (mW E Ad (S)) H := hP
  replace hD : va_D A (mW E Ad (S)) := hD
  refine lv_aload_n hx hb dX3_here_0 rfl (lv_at hl 0 rfl) ?_
  have r1 : rI (S 7 16) := hM 7 16
  refine va_get (D := kD E) (ci := 2) (fs := mO Ad (S)) (v := .int (zI (S 7 16))) (C := RX3) (T := TX3) (N := 19) hx hb hts in_X3 hown hK hP 0 rfl rfl 16 (by decide) (hts _ q2336) (fun _ h9 => h9) rfl dX3_here_1 ?_
  refine lv_aload_n hx hb dX3_here_4 rfl (lv_at hl 0 rfl) ?_
  have r2 : rI (S 7 11) := hM 7 11
  refine va_get (D := kD E) (ci := 2) (fs := mO Ad (S)) (v := .int (zI (S 7 11))) (C := RX3) (T := TX3) (N := 19) hx hb hts in_X3 hown hK hP 0 rfl rfl 11 (by decide) (hts _ q2331) (fun _ h9 => h9) rfl dX3_here_5 ?_
  refine kz_icmp_ge (tgt := 23) hx hb dX3_here_8 (by decide) (by omega) (by omega) (fun c8 => ?_) (fun c8 => ?_)
  · skip
    refine kz_iconst hx hb dX3_here_23 ?_
    have e1 : (hereI S : Int) = (-1) := by unfold hereI; first | exact if_pos (by omega) | exact if_neg (by omega)
    exact kz_iret () hx hb hr hlk hP hD hS dX3_here_24 (congrArg (fun z : Int => some (Value.int (zI z))) e1) (kz_r e1 (by omega)) rfl hQ (Nat.le_of_ble_eq_true rfl) (Nat.le_of_ble_eq_true rfl)
  · skip
    refine lv_aload_n hx hb dX3_here_11 rfl (lv_at hl 0 rfl) ?_
    refine va_get (D := kD E) (ci := 2) (fs := mO Ad (S)) (v := .ref (Ad 5)) (C := RX3) (T := TX3) (N := 19) hx hb hts in_X3 hown hK hP 0 rfl rfl 10 (by decide) (hts _ q2330) (fun _ h9 => h9) rfl dX3_here_12 ?_
    refine lv_aload_n hx hb dX3_here_15 rfl (lv_at hl 0 rfl) ?_
    have r3 : rI (S 7 16) := hM 7 16
    refine va_get (D := kD E) (ci := 2) (fs := mO Ad (S)) (v := .int (zI (S 7 16))) (C := RX3) (T := TX3) (N := 19) hx hb hts in_X3 hown hK hP 0 rfl rfl 16 (by decide) (hts _ q2336) (fun _ h9 => h9) rfl dX3_here_16 ?_
    refine kz_iald (cA := kA E 0) (n := 60) (g := S 4) hx hb hK hP 5 0 rfl rfl (by omega) dX3_here_19 ?_
    have r4 : rI (S 4 (S 7 16)) := hM 4 (S 7 16)
    refine lv_goto (tgt := 24) hx hb dX3_here_20 (by decide) ?_
    have e1 : (hereI S : Int) = S 4 (S 7 16) := by unfold hereI; first | exact if_pos (by omega) | exact if_neg (by omega)
    exact kz_iret () hx hb hr hlk hP hD hS dX3_here_24 (congrArg (fun z : Int => some (Value.int (zI z))) e1) (kz_r e1 (by omega)) rfl hQ (Nat.le_of_ble_eq_true rfl) (Nat.le_of_ble_eq_true rfl)

set_option maxHeartbeats 4000000 in
set_option maxRecDepth 100000 in
theorem mX3_skipsOver (l : Launch) (E : KE) (sz : Nat) (Ad : Nat → Nat) (S : St) (hM : MOk S) (ch : Int) (rch : rI ch) (hat : 0 ≤ S 7 16 ∧ S 7 16 ≤ S 7 11 ∧ S 7 11 ≤ 60) (hch : 0 ≤ ch) : Met l yX3_skipsOver (ws_ yX3_skipsOver cX3_skipsOver 2 (some .boolean)) (rmk 1 0 0 20) (va_Pc [.ref (Ad 0), .int (zI ch)] (kP l E sz (mW E Ad S) [])) (kQ E (fun _ : Unit => rI ((pSk ch S).2) ∧ MOk ((pSk ch S).1) ∧ (S 7 16 ≤ (pSk ch S).1 7 16 ∧ (pSk ch S).1 7 16 ≤ S 7 11) ∧ ((pSk ch S).2 = 0 ∨ S 7 16 + 1 ≤ (pSk ch S).1 7 16)) (fun _ => some (.int (zI ((pSk ch S).2)))) (fun _ => (mW E Ad ((pSk ch S).1))) (va_A (mW E Ad S) sz)) 0 0 (va_A (mW E Ad S) sz) := by
  refine kz_start (Qf := kQ E (fun _ : Unit => rI ((pSk ch S).2) ∧ MOk ((pSk ch S).1) ∧ (S 7 16 ≤ (pSk ch S).1 7 16 ∧ (pSk ch S).1 7 16 ≤ S 7 11) ∧ ((pSk ch S).2 = 0 ∨ S 7 16 + 1 ≤ (pSk ch S).1 7 16)) (fun _ => some (.int (zI ((pSk ch S).2)))) (fun _ => (mW E Ad ((pSk ch S).1)))) (by decide) (Nat.le_of_ble_eq_true rfl) ?_
  intro p e s m args below meth c A ls Q H locs hx hb hr hlk hml hts hown hname hG hK hA hAN hP hD hR hRA hS hQ hl
  replace hown : s.vm.findClass RX3 = some m.cls := hown
  replace hl : lv_has ls 2 [(0, .ref (Ad 0)), (1, .int (zI (ch)))] := hl
  replace hP : va_P (kD E) kcl (mW E Ad (S)) H := hP
  replace hD : va_D A (mW E Ad (S)) := hD
  refine lv_aload_n hx hb dX3_skipsOver_0 rfl (lv_at hl 0 rfl) ?_
  refine kz_backM (va_runV (As := []) (rest := []) ⟨hx, hb, hml, hown, hts⟩ (mX3_here l E H.size Ad S hM (show 0 ≤ (S 7 16) ∧ (S 7 16) ≤ (S 7 11) ∧ (S 7 11) ≤ 60 by first | omega | exact hI.st _ (by omega) (by omega) | exact hI.rv _ (by omega) (by omega) | exact hI)) (cwV 0 hts (lw_V q2641 q2643 qs62 q83 q2644) rfl rfl rfl (by decide +kernel) ⟨(Nat.le_of_ble_eq_true rfl), (Nat.le_of_ble_eq_true rfl)⟩) (kz_preVM (wc := mW E Ad S) (va_recv hK hP (ci := 2) (q0 := 0) rfl rfl) hG hS hAN hP hD kz_nilP kz_nilA) rfl rfl hl.1 rfl (lv_room (Nat.le_of_ble_eq_true rfl)) dX3_skipsOver_1 ⟨(Nat.le_of_ble_eq_true rfl), (Nat.le_of_ble_eq_true rfl)⟩) hP hD hS hA (fun u H9 locs9 hu hP9 hD9 hS9 hzz hkk => ?_)
  clear hzz hkk hP hD hS H locs u
  revert hS9 hD9 hP9 locs9 H9
  intro H locs hP hD hS
  have r1 : rI (hereI S) := hu
  clear hu
  replace hP : va_P (kD E) kcl (mW E Ad (S)) H := hP
  replace hD : va_D A (mW E Ad (S)) := hD
  show W p l e _ s m args below meth c H locs _ _ Q (F0 m 4 ls [.int (zI (hereI S))])
  refine lv_iload_n hx hb dX3_skipsOver_4 rfl (lv_at hl 1 rfl) ?_
  refine kz_icmp_eq (tgt := 10) hx hb dX3_skipsOver_5 (by decide) (by omega) (by omega) (fun c5 => ?_) (fun c5 => ?_)
  · skip
    refine lv_aload_n hx hb dX3_skipsOver_10 rfl (lv_at hl 0 rfl) ?_
    refine lv_dup hx hb dX3_skipsOver_11 rfl ?_
    have r2 : rI (S 7 16) := hM 7 16
    refine va_get (D := kD E) (ci := 2) (fs := mO Ad (S)) (v := .int (zI (S 7 16))) (C := RX3) (T := TX3) (N := 19) hx hb hts in_X3 hown hK hP 0 rfl rfl 16 (by decide) (hts _ q2336) (fun _ h9 => h9) rfl dX3_skipsOver_12 ?_
    refine kz_iconst hx hb dX3_skipsOver_15 ?_
    refine kz_iadd hx hb dX3_skipsOver_16 ?_
    refine va_put (D := kD E) (ci := 2) (fs := mO Ad (S)) (v := .int (zI ((S 7 16) + 1))) (ty := .int) (C := RX3) (T := TX3) (N := 19) hx hb hts in_X3 tyX3 tyX3_ok nmX3 hown hK hP hD hS 0 rfl rfl 16 (by decide) (hts _ q2336) (fun _ h9 => h9) rfl (by decide +kernel) rfl rfl (Nat.le_of_ble_eq_true rfl) dX3_skipsOver_17 (fun H9 locs9 hP9 hD9 hS9 => ?_)
    rw [mW_f16] at hP9 hD9
    clear hP hD hS H locs
    revert hS9 hD9 hP9 locs9 H9
    intro H locs hP hD hS
    replace hP : va_P (kD E) kcl (mW E Ad (put S 7 16 ((S 7 16) + 1))) H := hP
    replace hD : va_D A (mW E Ad (put S 7 16 ((S 7 16) + 1))) := hD
    replace hM : MOk (put S 7 16 ((S 7 16) + 1)) := hM.put 7 16 (by omega)
    refine kz_iconst hx hb dX3_skipsOver_20 ?_
    have e0 : pSk ch S = (put S 7 16 ((S 7 16) + 1), 1) := by first | exact pSk_t (by omega) | exact pSk_f (by omega)
    have e1 : (pSk ch S).2 = 1 := by rw [e0]
    have e3 : (pSk ch S).1 = put S 7 16 ((S 7 16) + 1) := by rw [e0]
    exact kz_zNret () hx hb hr hlk hP hD hS dX3_skipsOver_21 (by decide) (congrArg (fun z : Int => some (Value.int (zI z))) e1) ⟨(kz_r e1 (by omega)), (kz_M e3 hM), (by exact (PG.sk hch).m S (by omega) (by omega)), (by exact PS.sk S (by omega) (by omega))⟩ (congrArg (mW E Ad) e3) hQ (Nat.le_of_ble_eq_true rfl) (Nat.le_of_ble_eq_true rfl)
  · skip
    refine kz_iconst hx hb dX3_skipsOver_8 ?_
    have e0 : pSk ch S = (S, 0) := by first | exact pSk_t (by omega) | exact pSk_f (by omega)
    have e1 : (pSk ch S).2 = 0 := by rw [e0]
    have e3 : (pSk ch S).1 = S := by rw [e0]
    exact kz_zNret () hx hb hr hlk hP hD hS dX3_skipsOver_9 (by decide) (congrArg (fun z : Int => some (Value.int (zI z))) e1) ⟨(kz_r e1 (by omega)), (kz_M e3 hM), (by exact (PG.sk hch).m S (by omega) (by omega)), (by exact PS.sk S (by omega) (by omega))⟩ (congrArg (mW E Ad) e3) hQ (Nat.le_of_ble_eq_true rfl) (Nat.le_of_ble_eq_true rfl)

set_option maxHeartbeats 4000000 in
set_option maxRecDepth 100000 in
theorem mX3_hasOrder (l : Launch) (E : KE) (sz : Nat) (Ad : Nat → Nat) (S : St) (hM : MOk S) (wh : Int) (rwh : rI wh) (htm : 0 ≤ S 7 18 ∧ S 7 18 ≤ 30) : Met l yX3_hasOrder (ws_ yX3_hasOrder cX3_hasOrder 2 (some .boolean)) (rmk 0 0 0 0) (va_Pc [.ref (Ad 0), .int (zI wh)] (kP l E sz (mW E Ad S) [])) (kQ E (fun _ : Unit => rI ((pHas wh S).2) ∧ MOk ((pHas wh S).1)) (fun _ => some (.int (zI ((pHas wh S).2)))) (fun _ => (mW E Ad ((pHas wh S).1))) (va_A (mW E Ad S) sz)) 0 0 (va_A (mW E Ad S) sz) := by
  refine kz_start (Qf := kQ E (fun _ : Unit => rI ((pHas wh S).2) ∧ MOk ((pHas wh S).1)) (fun _ => some (.int (zI ((pHas wh S).2)))) (fun _ => (mW E Ad ((pHas wh S).1)))) (by decide) (Nat.le_of_ble_eq_true rfl) ?_
  intro p e s m args below meth c A ls Q H locs hx hb hr hlk hml hts hown hname hG hK hA hAN hP hD hR hRA hS hQ hl
  replace hown : s.vm.findClass RX3 = some m.cls := hown
  replace hl : lv_has ls 2 [(0, .ref (Ad 0)), (1, .int (zI (wh)))] := hl
  replace hP : va_P (kD E) kcl (mW E Ad (S)) H := hP
  replace hD : va_D A (mW E Ad (S)) := hD
  refine lv_aload_n hx hb dX3_hasOrder_0 rfl (lv_at hl 0 rfl) ?_
  refine va_get (D := kD E) (ci := 2) (fs := mO Ad (S)) (v := .ref (Ad 7)) (C := RX3) (T := TX3) (N := 19) hx hb hts in_X3 hown hK hP 0 rfl rfl 17 (by decide) (hts _ q2337) (fun _ h9 => h9) rfl dX3_hasOrder_1 ?_
  refine kz_iconst hx hb dX3_hasOrder_4 ?_
  refine lv_aload_n hx hb dX3_hasOrder_5 rfl (lv_at hl 0 rfl) ?_
  have r1 : rI (S 7 18) := hM 7 18
  refine va_get (D := kD E) (ci := 2) (fs := mO Ad (S)) (v := .int (zI (S 7 18))) (C := RX3) (T := TX3) (N := 19) hx hb hts in_X3 hown hK hP 0 rfl rfl 18 (by decide) (hts _ q2338) (fun _ h9 => h9) rfl dX3_hasOrder_6 ?_
  refine kz_imul hx hb dX3_hasOrder_9 ?_
  refine lv_iload_n hx hb dX3_hasOrder_10 rfl (lv_at hl 1 rfl) ?_
  refine kz_iast (cA := kA E 0) (n := 155) (g := S 6) hx hb hK hP hD hS 7 0 rfl rfl (by omega) dX3_hasOrder_11 (fun H9 locs9 hP9 hD9 hS9 => ?_)
  rw [mW_a6] at hP9 hD9
  clear hP hD hS H locs
  revert hS9 hD9 hP9 locs9 H9
  intro H locs hP hD hS
  replace hP : va_P (kD E) kcl (mW E Ad (put S 6 (5 * (S 7 18)) wh)) H := hP
  replace hD : va_D A (mW E Ad (put S 6 (5 * (S 7 18)) wh)) := hD
  replace hM : MOk (put S 6 (5 * (S 7 18)) wh) := hM.put 6 _ (by omega)
  refine kz_iconst hx hb dX3_hasOrder_12 ?_
  have e0 : pHas wh S = (put S 6 (5 * (S 7 18)) wh, 1) := by rfl
  have e1 : (pHas wh S).2 = 1 := by rw [e0]
  have e3 : (pHas wh S).1 = put S 6 (5 * (S 7 18)) wh := by rw [e0]
  exact kz_zNret () hx hb hr hlk hP hD hS dX3_hasOrder_13 (by decide) (congrArg (fun z : Int => some (Value.int (zI z))) e1) ⟨(kz_r e1 (by omega)), (kz_M e3 hM)⟩ (congrArg (mW E Ad) e3) hQ (Nat.le_of_ble_eq_true rfl) (Nat.le_of_ble_eq_true rfl)

set_option maxHeartbeats 4000000 in
set_option maxRecDepth 100000 in
theorem mX3_figures (l : Launch) (E : KE) (sz : Nat) (Ad : Nat → Nat) (S : St) (hM : MOk S) (pl : Int) (rpl : rI pl) (mo : Int) (rmo : rI mo) (hat : 0 ≤ S 7 16 ∧ S 7 16 ≤ S 7 11 ∧ S 7 11 ≤ 60) (hpl : 0 ≤ pl ∧ pl < 155) (hmo : 1 ≤ mo ∧ mo ≤ 2) : Met l yX3_figures (ws_ yX3_figures cX3_figures 4 (some .boolean)) (rmk 1 0 0 22) (va_Pc [.ref (Ad 0), .int (zI pl), .int (zI mo)] (kP l E sz (mW E Ad S) [])) (kQ E (fun _ : Unit => rI ((pFig pl mo S).2) ∧ MOk ((pFig pl mo S).1) ∧ S 7 16 ≤ (pFig pl mo S).1 7 16 ∧ (pFig pl mo S).1 7 16 ≤ S 7 11) (fun _ => some (.int (zI ((pFig pl mo S).2)))) (fun _ => (mW E Ad ((pFig pl mo S).1))) (va_A (mW E Ad S) sz)) 0 0 (va_A (mW E Ad S) sz) := by
  refine kz_start (Qf := kQ E (fun _ : Unit => rI ((pFig pl mo S).2) ∧ MOk ((pFig pl mo S).1) ∧ S 7 16 ≤ (pFig pl mo S).1 7 16 ∧ (pFig pl mo S).1 7 16 ≤ S 7 11) (fun _ => some (.int (zI ((pFig pl mo S).2)))) (fun _ => (mW E Ad ((pFig pl mo S).1)))) (by decide) (Nat.le_of_ble_eq_true rfl) ?_
  intro p e s m args below meth c A ls Q H locs hx hb hr hlk hml hts hown hname hG hK hA hAN hP hD hR hRA hS hQ hl
  replace hown : s.vm.findClass RX3 = some m.cls := hown
  replace hl : lv_has ls 4 [(0, .ref (Ad 0)), (1, .int (zI (pl))), (2, .int (zI (mo)))] := hl
  replace hP : va_P (kD E) kcl (mW E Ad (S)) H := hP
  replace hD : va_D A (mW E Ad (S)) := hD
  refine lv_aload_n hx hb dX3_figures_0 rfl (lv_at hl 0 rfl) ?_
  refine kz_backM (va_runV (As := []) (rest := []) ⟨hx, hb, hml, hown, hts⟩ (mX3_here l E H.size Ad S hM (show 0 ≤ (S 7 16) ∧ (S 7 16) ≤ (S 7 11) ∧ (S 7 11) ≤ 60 by first | omega | exact hI.st _ (by omega) (by omega) | exact hI.rv _ (by omega) (by omega) | exact hI)) (cwV 0 hts (lw_V q2641 q2643 qs62 q83 q2644) rfl rfl rfl (by decide +kernel) ⟨(Nat.le_of_ble_eq_true rfl), (Nat.le_of_ble_eq_true rfl)⟩) (kz_preVM (wc := mW E Ad S) (va_recv hK hP (ci := 2) (q0 := 0) rfl rfl) hG hS hAN hP hD kz_nilP kz_nilA) rfl rfl hl.1 rfl (lv_room (Nat.le_of_ble_eq_true rfl)) dX3_figures_1 ⟨(Nat.le_of_ble_eq_true rfl), (Nat.le_of_ble_eq_true rfl)⟩) hP hD hS hA (fun u H9 locs9 hu hP9 hD9 hS9 hzz hkk => ?_)
  clear hzz hkk hP hD hS H locs u
  revert hS9 hD9 hP9 locs9 H9
  intro H locs hP hD hS
  have r1 : rI (hereI S) := hu
  clear hu
  replace hP : va_P (kD E) kcl (mW E Ad (S)) H := hP
  replace hD : va_D A (mW E Ad (S)) := hD
  show W p l e _ s m args below meth c H locs _ _ Q (F0 m 4 ls [.int (zI (hereI S))])
  refine kz_bipush hx hb dX3_figures_4 (by decide) ?_
  refine kz_bipush hx hb dX3_figures_6 (by decide) ?_
  refine kz_back (wc := []) (wx := (mW E Ad (S))) (va_runS (As := [.int (zI (hereI S)), .int (zI (48)), .int (zI (57))]) (rest := []) ⟨hx, hb, hml, hown, hts⟩ (mX3_in l E H.size (hereI S) (by omega) 48 (by omega) 57 (by omega)) (va_cwS 3 hts (lw_S q2391 q2392 q83 q2393) rfl rfl rfl (by decide +kernel) ⟨(Nat.le_of_ble_eq_true rfl), (Nat.le_of_ble_eq_true rfl)⟩) (kz_pre (wc := []) (wx := (mW E Ad (S))) hG hS hAN hP hD kz_nilP kz_nilA) rfl rfl hl.1 rfl (lv_room (Nat.le_of_ble_eq_true rfl)) dX3_figures_8 ⟨(Nat.le_of_ble_eq_true rfl), (Nat.le_of_ble_eq_true rfl)⟩) hP hD hS hA (fun u H9 locs9 hu hP9 hD9 hS9 hzz hkk => ?_)
  clear hzz hkk hP hD hS H locs u
  revert hS9 hD9 hP9 locs9 H9
  intro H locs hP hD hS
  clear hu
  replace hP : va_P (kD E) kcl (mW E Ad (S)) H := hP
  replace hD : va_D A (mW E Ad (S)) := hD
  show W p l e _ s m args below meth c H locs _ _ Q (F0 m 11 ls [.int (zI (b2 (48 ≤ (hereI S) ∧ (hereI S) ≤ 57)))])
  refine kz_if1B (tgt := 16) hx hb dX3_figures_11 (by decide) (fun c11 => ?_) (fun c11 => ?_)
  · skip
    have hd0 : digAt S (S 7 16) := hereI_d.mp (by omega)
    refine lv_aload_n hx hb dX3_figures_16 rfl (lv_at hl 0 rfl) ?_
    refine va_get (D := kD E) (ci := 2) (fs := mO Ad (S)) (v := .ref (Ad 7)) (C := RX3) (T := TX3) (N := 19) hx hb hts in_X3 hown hK hP 0 rfl rfl 17 (by decide) (hts _ q2337) (fun _ h9 => h9) rfl dX3_figures_17 ?_
    refine lv_iload_n hx hb dX3_figures_20 rfl (lv_at hl 1 rfl) ?_
    refine kz_iconst hx hb dX3_figures_21 ?_
    refine kz_iast (cA := kA E 0) (n := 155) (g := S 6) hx hb hK hP hD hS 7 0 rfl rfl (by omega) dX3_figures_22 (fun H9 locs9 hP9 hD9 hS9 => ?_)
    rw [mW_a6] at hP9 hD9
    clear hP hD hS H locs
    revert hS9 hD9 hP9 locs9 H9
    intro H locs hP hD hS
    replace hP : va_P (kD E) kcl (mW E Ad (put S 6 pl 0)) H := hP
    replace hD : va_D A (mW E Ad (put S 6 pl 0)) := hD
    replace hM : MOk (put S 6 pl 0) := hM.put 6 _ (by omega)
    refine kz_iconst hx hb dX3_figures_23 ?_
    refine lv_istore_n (lv' := [(3, .int (zI (0))), (0, .ref (Ad 0)), (1, .int (zI (pl))), (2, .int (zI (mo)))]) hx hb dX3_figures_24 rfl hl (by decide) rfl (fun ls hl => ?_)
    have L25_2 : ∀ (fu : Nat) (k : Int) (S1 : St) (H : Heap) (locs : List Loc) (ls : Array Slot), (0 ≤ k ∧ k ≤ mo) → (S1 = put (putR S 6 (uz (S 6) pl (S1 6 pl))) 7 16 (S 7 16 + k)) → (digV S mo.toNat (S 7 16) 0 = digV S (mo - k).toNat (S 7 16 + k) (S1 6 pl)) → (digN S mo.toNat (S 7 16) = digN S (mo - k).toNat (S 7 16 + k) + k) → (0 ≤ S1 6 pl ∧ (k = 0 → S1 6 pl = 0) ∧ (k = 1 → S1 6 pl ≤ 9)) → (S1 7 11 = S 7 11) → (S1 7 16 = S 7 16 + k) → (S1 4 = S 4) → (S 7 16 + k ≤ S 7 11) → rI k → MOk S1 → (mo - k : Int).toNat < fu → va_P (kD E) kcl (mW E Ad (S1)) H → va_D A (mW E Ad (S1)) → va_S A s.heap H locs → lv_has ls 4 [(0, .ref (Ad 0)), (1, .int (zI (pl))), (2, .int (zI (mo))), (3, .int (zI (k)))] → W p l e (rmk 1 0 0 22) s m args below meth c H locs 0 0 Q (F0 m 25 ls []) := by
      clear hl hS hD hP ls locs H hM
      intro fu
      induction fu with
      | zero => intro k S1 H locs ls hk hS1 hV hN hv h11 h16 h4 hle rk hM hf; exact absurd hf (Nat.not_lt_zero _)
      | succ fu ih25 =>
        intro k S1 H locs ls hk hS1 hV hN hv h11 h16 h4 hle rk hM hf hP hD hS hl
        refine lv_iload_n hx hb dX3_figures_25 rfl (lv_at hl 3 rfl) ?_
        refine lv_iload_n hx hb dX3_figures_26 rfl (lv_at hl 2 rfl) ?_
        refine kz_icmp_ge (tgt := 83) hx hb dX3_figures_27 (by decide) (by omega) (by omega) (fun c27 => ?_) (fun c27 => ?_)
        · skip
          have hex : mo - k ≤ 0 ∨ ¬ digAt S (S 7 16 + k) := by by_cases z : mo ≤ k; (exact Or.inl (by omega)); (refine Or.inr (fun z2 => ?_); have z3 : digAt S1 (S1 7 16) := (by rw [h16]; exact ⟨by have := z2.1; omega, by rw [h4]; exact z2.2⟩); have := hereI_d.mpr z3; omega)
          refine kz_iconst hx hb dX3_figures_83 ?_
          have e0 : pFig pl mo S = (S1, 1) := by exact pFig_t hd0 hS1 (by rw [hV]; exact digV_e (by omega)) (by rw [hN, digN_e (by omega)]; omega)
          have e1 : (pFig pl mo S).2 = 1 := by rw [e0]
          have e3 : (pFig pl mo S).1 = S1 := by rw [e0]
          exact kz_zNret () hx hb hr hlk hP hD hS dX3_figures_84 (by decide) (congrArg (fun z : Int => some (Value.int (zI z))) e1) ⟨(kz_r e1 (by omega)), (kz_M e3 hM), (by exact (PG.fig pl mo).m S (by omega) (by omega))⟩ (congrArg (mW E Ad) e3) hQ (Nat.le_of_ble_eq_true rfl) (Nat.le_of_ble_eq_true rfl)
        · skip
          refine lv_aload_n hx hb dX3_figures_30 rfl (lv_at hl 0 rfl) ?_
          refine kz_backM (va_runV (As := []) (rest := []) ⟨hx, hb, hml, hown, hts⟩ (mX3_here l E H.size Ad S1 hM (show 0 ≤ (S1 7 16) ∧ (S1 7 16) ≤ (S1 7 11) ∧ (S1 7 11) ≤ 60 by first | omega | exact hI.st _ (by omega) (by omega) | exact hI.rv _ (by omega) (by omega) | exact hI)) (cwV 0 hts (lw_V q2641 q2643 qs62 q83 q2644) rfl rfl rfl (by decide +kernel) ⟨(Nat.le_of_ble_eq_true rfl), (Nat.le_of_ble_eq_true rfl)⟩) (kz_preVM (wc := mW E Ad S1) (va_recv hK hP (ci := 2) (q0 := 0) rfl rfl) hG hS hAN hP hD kz_nilP kz_nilA) rfl rfl hl.1 rfl (lv_room (Nat.le_of_ble_eq_true rfl)) dX3_figures_31 ⟨(Nat.le_of_ble_eq_true rfl), (Nat.le_of_ble_eq_true rfl)⟩) hP hD hS hA (fun u H9 locs9 hu hP9 hD9 hS9 hzz hkk => ?_)
          clear hzz hkk hP hD hS H locs u
          revert hS9 hD9 hP9 locs9 H9
          intro H locs hP hD hS
          have r3 : rI (hereI S1) := hu
          clear hu
          replace hP : va_P (kD E) kcl (mW E Ad (S1)) H := hP
          replace hD : va_D A (mW E Ad (S1)) := hD
          show W p l e _ s m args below meth c H locs _ _ Q (F0 m 34 ls [.int (zI (hereI S1))])
          refine kz_bipush hx hb dX3_figures_34 (by decide) ?_
          refine kz_bipush hx hb dX3_figures_36 (by decide) ?_
          refine kz_back (wc := []) (wx := (mW E Ad (S1))) (va_runS (As := [.int (zI (hereI S1)), .int (zI (48)), .int (zI (57))]) (rest := []) ⟨hx, hb, hml, hown, hts⟩ (mX3_in l E H.size (hereI S1) (by omega) 48 (by omega) 57 (by omega)) (va_cwS 3 hts (lw_S q2391 q2392 q83 q2393) rfl rfl rfl (by decide +kernel) ⟨(Nat.le_of_ble_eq_true rfl), (Nat.le_of_ble_eq_true rfl)⟩) (kz_pre (wc := []) (wx := (mW E Ad (S1))) hG hS hAN hP hD kz_nilP kz_nilA) rfl rfl hl.1 rfl (lv_room (Nat.le_of_ble_eq_true rfl)) dX3_figures_38 ⟨(Nat.le_of_ble_eq_true rfl), (Nat.le_of_ble_eq_true rfl)⟩) hP hD hS hA (fun u H9 locs9 hu hP9 hD9 hS9 hzz hkk => ?_)
          clear hzz hkk hP hD hS H locs u
          revert hS9 hD9 hP9 locs9 H9
          intro H locs hP hD hS
          clear hu
          replace hP : va_P (kD E) kcl (mW E Ad (S1)) H := hP
          replace hD : va_D A (mW E Ad (S1)) := hD
          show W p l e _ s m args below meth c H locs _ _ Q (F0 m 41 ls [.int (zI (b2 (48 ≤ (hereI S1) ∧ (hereI S1) ≤ 57)))])
          refine kz_if0B (tgt := 83) hx hb dX3_figures_41 (by decide) (fun c41 => ?_) (fun c41 => ?_)
          · skip
            have hex : mo - k ≤ 0 ∨ ¬ digAt S (S 7 16 + k) := by by_cases z : mo ≤ k; (exact Or.inl (by omega)); (refine Or.inr (fun z2 => ?_); have z3 : digAt S1 (S1 7 16) := (by rw [h16]; exact ⟨by have := z2.1; omega, by rw [h4]; exact z2.2⟩); have := hereI_d.mpr z3; omega)
            refine kz_iconst hx hb dX3_figures_83 ?_
            have e0 : pFig pl mo S = (S1, 1) := by exact pFig_t hd0 hS1 (by rw [hV]; exact digV_e (by omega)) (by rw [hN, digN_e (by omega)]; omega)
            have e1 : (pFig pl mo S).2 = 1 := by rw [e0]
            have e3 : (pFig pl mo S).1 = S1 := by rw [e0]
            exact kz_zNret () hx hb hr hlk hP hD hS dX3_figures_84 (by decide) (congrArg (fun z : Int => some (Value.int (zI z))) e1) ⟨(kz_r e1 (by omega)), (kz_M e3 hM), (by exact (PG.fig pl mo).m S (by omega) (by omega))⟩ (congrArg (mW E Ad) e3) hQ (Nat.le_of_ble_eq_true rfl) (Nat.le_of_ble_eq_true rfl)
          · skip
            have hd : digAt S (S 7 16 + k) := by have z := hereI_d.mp (show 48 ≤ hereI S1 ∧ hereI S1 ≤ 57 by omega); rw [h16] at z; exact ⟨by have := z.1; omega, by rw [← h4]; exact z.2⟩
            have hv1 : hereI S1 = S 4 (S 7 16 + k) := by rw [hereI_v (hereI_d.mp (by omega)), h16, h4]
            refine lv_aload_n hx hb dX3_figures_44 rfl (lv_at hl 0 rfl) ?_
            refine va_get (D := kD E) (ci := 2) (fs := mO Ad (S1)) (v := .ref (Ad 7)) (C := RX3) (T := TX3) (N := 19) hx hb hts in_X3 hown hK hP 0 rfl rfl 17 (by decide) (hts _ q2337) (fun _ h9 => h9) rfl dX3_figures_45 ?_
            refine lv_iload_n hx hb dX3_figures_48 rfl (lv_at hl 1 rfl) ?_
            refine kz_bipush hx hb dX3_figures_49 (by decide) ?_
            refine lv_aload_n hx hb dX3_figures_51 rfl (lv_at hl 0 rfl) ?_
            refine va_get (D := kD E) (ci := 2) (fs := mO Ad (S1)) (v := .ref (Ad 7)) (C := RX3) (T := TX3) (N := 19) hx hb hts in_X3 hown hK hP 0 rfl rfl 17 (by decide) (hts _ q2337) (fun _ h9 => h9) rfl dX3_figures_52 ?_
            refine lv_iload_n hx hb dX3_figures_55 rfl (lv_at hl 1 rfl) ?_
            refine kz_iald (cA := kA E 0) (n := 155) (g := S1 6) hx hb hK hP 7 0 rfl rfl (by omega) dX3_figures_56 ?_
            have r4 : rI (S1 6 pl) := hM 6 pl
            refine kz_imul hx hb dX3_figures_57 ?_
            refine lv_aload_n hx hb dX3_figures_58 rfl (lv_at hl 0 rfl) ?_
            refine kz_backM (va_runV (As := []) (rest := [.int (zI (10 * (S1 6 pl))), .int (zI (pl)), .ref (Ad 7)]) ⟨hx, hb, hml, hown, hts⟩ (mX3_here l E H.size Ad S1 hM (show 0 ≤ (S1 7 16) ∧ (S1 7 16) ≤ (S1 7 11) ∧ (S1 7 11) ≤ 60 by first | omega | exact hI.st _ (by omega) (by omega) | exact hI.rv _ (by omega) (by omega) | exact hI)) (cwV 0 hts (lw_V q2641 q2643 qs62 q83 q2644) rfl rfl rfl (by decide +kernel) ⟨(Nat.le_of_ble_eq_true rfl), (Nat.le_of_ble_eq_true rfl)⟩) (kz_preVM (wc := mW E Ad S1) (va_recv hK hP (ci := 2) (q0 := 0) rfl rfl) hG hS hAN hP hD kz_nilP kz_nilA) rfl rfl hl.1 rfl (lv_room (Nat.le_of_ble_eq_true rfl)) dX3_figures_59 ⟨(Nat.le_of_ble_eq_true rfl), (Nat.le_of_ble_eq_true rfl)⟩) hP hD hS hA (fun u H9 locs9 hu hP9 hD9 hS9 hzz hkk => ?_)
            clear hzz hkk hP hD hS H locs u
            revert hS9 hD9 hP9 locs9 H9
            intro H locs hP hD hS
            have r5 : rI (hereI S1) := hu
            clear hu
            replace hP : va_P (kD E) kcl (mW E Ad (S1)) H := hP
            replace hD : va_D A (mW E Ad (S1)) := hD
            show W p l e _ s m args below meth c H locs _ _ Q (F0 m 62 ls [.int (zI (hereI S1)), .int (zI (10 * (S1 6 pl))), .int (zI (pl)), .ref (Ad 7)])
            refine kz_iadd hx hb dX3_figures_62 ?_
            refine kz_bipush hx hb dX3_figures_63 (by decide) ?_
            refine kz_isub hx hb dX3_figures_65 ?_
            refine kz_iast (cA := kA E 0) (n := 155) (g := S1 6) hx hb hK hP hD hS 7 0 rfl rfl (by omega) dX3_figures_66 (fun H9 locs9 hP9 hD9 hS9 => ?_)
            rw [mW_a6] at hP9 hD9
            clear hP hD hS H locs
            revert hS9 hD9 hP9 locs9 H9
            intro H locs hP hD hS
            replace hP : va_P (kD E) kcl (mW E Ad (put S1 6 pl (((10 * (S1 6 pl)) + (hereI S1)) - 48))) H := hP
            replace hD : va_D A (mW E Ad (put S1 6 pl (((10 * (S1 6 pl)) + (hereI S1)) - 48))) := hD
            replace hM : MOk (put S1 6 pl (((10 * (S1 6 pl)) + (hereI S1)) - 48)) := hM.put 6 _ (by omega)
            refine lv_aload_n hx hb dX3_figures_67 rfl (lv_at hl 0 rfl) ?_
            refine lv_dup hx hb dX3_figures_68 rfl ?_
            have r6 : rI (S1 7 16) := hM 7 16
            refine va_get (D := kD E) (ci := 2) (fs := mO Ad (put S1 6 pl (((10 * (S1 6 pl)) + (hereI S1)) - 48))) (v := .int (zI (S1 7 16))) (C := RX3) (T := TX3) (N := 19) hx hb hts in_X3 hown hK hP 0 rfl rfl 16 (by decide) (hts _ q2336) (fun _ h9 => h9) rfl dX3_figures_69 ?_
            refine kz_iconst hx hb dX3_figures_72 ?_
            refine kz_iadd hx hb dX3_figures_73 ?_
            refine va_put (D := kD E) (ci := 2) (fs := mO Ad (put S1 6 pl (((10 * (S1 6 pl)) + (hereI S1)) - 48))) (v := .int (zI ((S1 7 16) + 1))) (ty := .int) (C := RX3) (T := TX3) (N := 19) hx hb hts in_X3 tyX3 tyX3_ok nmX3 hown hK hP hD hS 0 rfl rfl 16 (by decide) (hts _ q2336) (fun _ h9 => h9) rfl (by decide +kernel) rfl rfl (Nat.le_of_ble_eq_true rfl) dX3_figures_74 (fun H9 locs9 hP9 hD9 hS9 => ?_)
            rw [mW_f16] at hP9 hD9
            clear hP hD hS H locs
            revert hS9 hD9 hP9 locs9 H9
            intro H locs hP hD hS
            replace hP : va_P (kD E) kcl (mW E Ad (put (put S1 6 pl (((10 * (S1 6 pl)) + (hereI S1)) - 48)) 7 16 ((S1 7 16) + 1))) H := hP
            replace hD : va_D A (mW E Ad (put (put S1 6 pl (((10 * (S1 6 pl)) + (hereI S1)) - 48)) 7 16 ((S1 7 16) + 1))) := hD
            replace hM : MOk (put (put S1 6 pl (((10 * (S1 6 pl)) + (hereI S1)) - 48)) 7 16 ((S1 7 16) + 1)) := hM.put 7 16 (by omega)
            refine kz_iinc (lv' := [(3, .int (zI (k + 1))), (0, .ref (Ad 0)), (1, .int (zI (pl))), (2, .int (zI (mo)))]) hx hb dX3_figures_77 hl (k := 3) rfl (by decide) rfl (fun ls hl => ?_)
            refine lv_goto (tgt := 25) hx hb dX3_figures_80 (by decide) ?_
            exact ih25 (k + 1) (put (put S1 6 pl (((10 * (S1 6 pl)) + (hereI S1)) - 48)) 7 16 ((S1 7 16) + 1)) _ _ _ (by omega) (by exact pf_s hS1 _ _ _ (by rw [h16]; omega)) (by rw [hV, digV_s (by omega) hd, show mo - (k + 1) = mo - k - 1 by omega, show S 7 16 + (k + 1) = S 7 16 + k + 1 by omega]; refine congrArg (digV S (mo - k - 1).toNat (S 7 16 + k + 1)) ?_; rw [← hv1]; exact (put_s S1 6 pl _).symm) (by rw [hN, digN_s (by omega) hd, show mo - (k + 1) = mo - k - 1 by omega, show S 7 16 + (k + 1) = S 7 16 + k + 1 by omega]; omega) (by have e9 := put_s S1 6 pl (((10 * (S1 6 pl)) + (hereI S1)) - 48); have e8 : (put (put S1 6 pl (((10 * (S1 6 pl)) + (hereI S1)) - 48)) 7 16 ((S1 7 16) + 1)) 6 pl = ((10 * (S1 6 pl)) + (hereI S1)) - 48 := e9; rw [e8]; omega) (by exact h11) (by show S1 7 16 + 1 = _; omega) (by exact h4) (by have := hd.1; omega) (by omega) hM (by omega) hP hD hS (lv_sub hl [1, 2, 3, 0] rfl)
    exact L25_2 ((mo - 0 : Int).toNat + 1) 0 (put S 6 pl 0) _ _ _ (by omega) (by exact pf_0 S pl) (by rw [put_s, Int.sub_zero, Int.add_zero]) (by simp only [Int.sub_zero, Int.add_zero]) (by rw [put_s]; omega) (by rfl) (by show S 7 16 = S 7 16 + 0; omega) (by rfl) (by omega) (by omega) hM (Nat.lt_succ_self _) hP hD hS (lv_sub hl [1, 2, 3, 0] rfl)
  · skip
    refine kz_iconst hx hb dX3_figures_14 ?_
    have e0 : pFig pl mo S = (S, 0) := by exact pFig_f (fun z => absurd (hereI_d.mpr z) (by omega))
    have e1 : (pFig pl mo S).2 = 0 := by rw [e0]
    have e3 : (pFig pl mo S).1 = S := by rw [e0]
    exact kz_zNret () hx hb hr hlk hP hD hS dX3_figures_15 (by decide) (congrArg (fun z : Int => some (Value.int (zI z))) e1) ⟨(kz_r e1 (by omega)), (kz_M e3 hM), (by exact (PG.fig pl mo).m S (by omega) (by omega))⟩ (congrArg (mW E Ad) e3) hQ (Nat.le_of_ble_eq_true rfl) (Nat.le_of_ble_eq_true rfl)

