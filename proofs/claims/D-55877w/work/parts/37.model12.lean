/-! THE MODEL, on -/
set_option maxHeartbeats 4000000 in
set_option maxRecDepth 100000 in
theorem mX3_throwHere (l : Launch) (E : KE) (sz : Nat) (Ad : Nat → Nat) (S : St) (hM : MOk S) (pl : Int) (rpl : rI pl) (hat : 0 ≤ S 7 16 ∧ S 7 16 ≤ S 7 11 ∧ S 7 11 ≤ 60) (hpl : 1 ≤ pl ∧ pl ≤ 151) : Met l yX3_throwHere (ws_ yX3_throwHere cX3_throwHere 2 (some .boolean)) (rmk 2 0 0 45) (va_Pc [.ref (Ad 0), .int (zI pl)] (kP l E sz (mW E Ad S) [])) (kQ E (fun _ : Unit => rI ((pThr pl S).2) ∧ MOk (pC (pThr pl) S) ∧ S 7 16 ≤ (pC (pThr pl) S) 7 16 ∧ (pC (pThr pl) S) 7 16 ≤ S 7 11) (fun _ => some (.int (zI ((pThr pl S).2)))) (fun _ => (mW E Ad (pC (pThr pl) S))) (va_A (mW E Ad S) sz)) 0 0 (va_A (mW E Ad S) sz) := by
  refine kz_start (Qf := kQ E (fun _ : Unit => rI ((pThr pl S).2) ∧ MOk (pC (pThr pl) S) ∧ S 7 16 ≤ (pC (pThr pl) S) 7 16 ∧ (pC (pThr pl) S) 7 16 ≤ S 7 11) (fun _ => some (.int (zI ((pThr pl S).2)))) (fun _ => (mW E Ad (pC (pThr pl) S)))) (by decide) (Nat.le_of_ble_eq_true rfl) ?_
  intro p e s m args below meth c A ls Q H locs hx hb hr hlk hml hts hown hname hG hK hA hAN hP hD hR hRA hS hQ hl
  replace hown : s.vm.findClass RX3 = some m.cls := hown
  replace hl : lv_has ls 2 [(0, .ref (Ad 0)), (1, .int (zI (pl)))] := hl
  replace hP : va_P (kD E) kcl (mW E Ad (S)) H := hP
  replace hD : va_D A (mW E Ad (S)) := hD
  refine lv_aload_n hx hb dX3_throwHere_0 rfl (lv_at hl 0 rfl) ?_
  refine lv_iload_n hx hb dX3_throwHere_1 rfl (lv_at hl 1 rfl) ?_
  refine kz_iconst hx hb dX3_throwHere_2 ?_
  refine kz_backM (va_runV (As := [.int (zI (pl)), .int (zI (1))]) (rest := []) ⟨hx, hb, hml, hown, hts⟩ (mX3_figures l E H.size Ad S hM pl (by omega) 1 (by omega) (show 0 ≤ (S 7 16) ∧ (S 7 16) ≤ (S 7 11) ∧ (S 7 11) ≤ 60 by first | omega | exact hI.st _ (by omega) (by omega) | exact hI.rv _ (by omega) (by omega) | exact hI) (show 0 ≤ pl ∧ pl < 155 by first | omega | exact hI.st _ (by omega) (by omega) | exact hI.rv _ (by omega) (by omega) | exact hI) (show 1 ≤ 1 ∧ 1 ≤ 2 by first | omega | exact hI.st _ (by omega) (by omega) | exact hI.rv _ (by omega) (by omega) | exact hI)) (cwV 2 hts (lw_V q2656 q2658 qs65 q83 q2659) rfl rfl rfl (by decide +kernel) ⟨(Nat.le_of_ble_eq_true rfl), (Nat.le_of_ble_eq_true rfl)⟩) (kz_preVM (wc := mW E Ad S) (va_recv hK hP (ci := 2) (q0 := 0) rfl rfl) hG hS hAN hP hD kz_nilP kz_nilA) rfl rfl hl.1 rfl (lv_room (Nat.le_of_ble_eq_true rfl)) dX3_throwHere_3 ⟨(Nat.le_of_ble_eq_true rfl), (Nat.le_of_ble_eq_true rfl)⟩) hP hD hS hA (fun u H9 locs9 hu hP9 hD9 hS9 hzz hkk => ?_)
  clear hzz hkk hP hD hS H locs u
  revert hS9 hD9 hP9 locs9 H9
  intro H locs hP hD hS
  clear hM
  obtain ⟨r1, hM, p2⟩ := hu
  replace r1 : rI ((pFig pl 1 S).2) := r1
  replace hM : MOk ((pFig pl 1 S).1) := hM
  replace p2 : (S 7 16) ≤ (pFig pl 1 S).1 7 16 ∧ (pFig pl 1 S).1 7 16 ≤ (S 7 11) := p2
  replace hP : va_P (kD E) kcl (mW E Ad ((pFig pl 1 S).1)) H := hP
  replace hD : va_D A (mW E Ad ((pFig pl 1 S).1)) := hD
  show W p l e _ s m args below meth c H locs _ _ Q (F0 m 6 ls [.int (zI ((pFig pl 1 S).2))])
  refine kz_if_eq (tgt := 73) hx hb dX3_throwHere_6 (by decide) (by omega) (fun c6 => ?_) (fun c6 => ?_)
  · skip
    refine kz_iconst hx hb dX3_throwHere_73 ?_
    have e0 : (pThr pl) S = ((pFig pl 1 S).1, 0) := by unfold pThr; refine Eq.trans (pIf_f c6) ?_; exact rfl
    have e1 : ((pThr pl) S).2 = 0 := by rw [e0]
    have e3 : pC (pThr pl) S = (pFig pl 1 S).1 := by rw [← (PG.thr pl).c S, e0]
    exact kz_zNret () hx hb hr hlk hP hD hS dX3_throwHere_74 (by decide) (congrArg (fun z : Int => some (Value.int (zI z))) e1) ⟨(kz_r e1 (by omega)), (kz_M e3 hM), (by have z := (PG.thr pl).m S (by omega) (by omega); rw [(PG.thr pl).c S] at z; exact z)⟩ (congrArg (mW E Ad) e3) hQ (Nat.le_of_ble_eq_true rfl) (Nat.le_of_ble_eq_true rfl)
  · skip
    refine lv_aload_n hx hb dX3_throwHere_9 rfl (lv_at hl 0 rfl) ?_
    refine kz_bipush hx hb dX3_throwHere_10 (by decide) ?_
    refine kz_backM (va_runV (As := [.int (zI (62))]) (rest := []) ⟨hx, hb, hml, hown, hts⟩ (mX3_skipsOver l E H.size Ad ((pFig pl 1 S).1) hM 62 (by omega) (show 0 ≤ (((pFig pl 1 S).1) 7 16) ∧ (((pFig pl 1 S).1) 7 16) ≤ (S 7 11) ∧ (S 7 11) ≤ 60 by first | omega | exact hI.st _ (by omega) (by omega) | exact hI.rv _ (by omega) (by omega) | exact hI) (show 0 ≤ 62 by first | omega | exact hI.st _ (by omega) (by omega) | exact hI.rv _ (by omega) (by omega) | exact hI)) (cwV 1 hts (lw_V q2637 q2639 qs61 q83 q2640) rfl rfl rfl (by decide +kernel) ⟨(Nat.le_of_ble_eq_true rfl), (Nat.le_of_ble_eq_true rfl)⟩) (kz_preVM (wc := mW E Ad ((pFig pl 1 S).1)) (va_recv hK hP (ci := 2) (q0 := 0) rfl rfl) hG hS hAN hP hD kz_nilP kz_nilA) rfl rfl hl.1 rfl (lv_room (Nat.le_of_ble_eq_true rfl)) dX3_throwHere_12 ⟨(Nat.le_of_ble_eq_true rfl), (Nat.le_of_ble_eq_true rfl)⟩) hP hD hS hA (fun u H9 locs9 hu hP9 hD9 hS9 hzz hkk => ?_)
    clear hzz hkk hP hD hS H locs u
    revert hS9 hD9 hP9 locs9 H9
    intro H locs hP hD hS
    clear hM
    obtain ⟨r3, hM, p4, p5⟩ := hu
    replace r3 : rI ((pSk 62 ((pFig pl 1 S).1)).2) := r3
    replace hM : MOk ((pSk 62 ((pFig pl 1 S).1)).1) := hM
    replace p4 : (((pFig pl 1 S).1) 7 16) ≤ (pSk 62 ((pFig pl 1 S).1)).1 7 16 ∧ (pSk 62 ((pFig pl 1 S).1)).1 7 16 ≤ (S 7 11) := p4
    replace p5 : ((pSk 62 ((pFig pl 1 S).1)).2 = 0 ∨ (((pFig pl 1 S).1) 7 16) + 1 ≤ (pSk 62 ((pFig pl 1 S).1)).1 7 16) := p5
    replace hP : va_P (kD E) kcl (mW E Ad ((pSk 62 ((pFig pl 1 S).1)).1)) H := hP
    replace hD : va_D A (mW E Ad ((pSk 62 ((pFig pl 1 S).1)).1)) := hD
    show W p l e _ s m args below meth c H locs _ _ Q (F0 m 15 ls [.int (zI ((pSk 62 ((pFig pl 1 S).1)).2))])
    refine kz_if_eq (tgt := 73) hx hb dX3_throwHere_15 (by decide) (by omega) (fun c15 => ?_) (fun c15 => ?_)
    · skip
      refine kz_iconst hx hb dX3_throwHere_73 ?_
      have e0 : (pThr pl) S = ((pSk 62 ((pFig pl 1 S).1)).1, 0) := by unfold pThr; refine Eq.trans (pIf_t c6) ?_; refine Eq.trans (pIf_f c15) ?_; exact rfl
      have e1 : ((pThr pl) S).2 = 0 := by rw [e0]
      have e3 : pC (pThr pl) S = (pSk 62 ((pFig pl 1 S).1)).1 := by rw [← (PG.thr pl).c S, e0]
      exact kz_zNret () hx hb hr hlk hP hD hS dX3_throwHere_74 (by decide) (congrArg (fun z : Int => some (Value.int (zI z))) e1) ⟨(kz_r e1 (by omega)), (kz_M e3 hM), (by have z := (PG.thr pl).m S (by omega) (by omega); rw [(PG.thr pl).c S] at z; exact z)⟩ (congrArg (mW E Ad) e3) hQ (Nat.le_of_ble_eq_true rfl) (Nat.le_of_ble_eq_true rfl)
    · skip
      refine lv_aload_n hx hb dX3_throwHere_18 rfl (lv_at hl 0 rfl) ?_
      refine lv_iload_n hx hb dX3_throwHere_19 rfl (lv_at hl 1 rfl) ?_
      refine kz_iconst hx hb dX3_throwHere_20 ?_
      refine kz_iadd hx hb dX3_throwHere_21 ?_
      refine kz_iconst hx hb dX3_throwHere_22 ?_
      refine kz_backM (va_runV (As := [.int (zI (pl + 1)), .int (zI (1))]) (rest := []) ⟨hx, hb, hml, hown, hts⟩ (mX3_figures l E H.size Ad ((pSk 62 ((pFig pl 1 S).1)).1) hM (pl + 1) (by omega) 1 (by omega) (show 0 ≤ (((pSk 62 ((pFig pl 1 S).1)).1) 7 16) ∧ (((pSk 62 ((pFig pl 1 S).1)).1) 7 16) ≤ (S 7 11) ∧ (S 7 11) ≤ 60 by first | omega | exact hI.st _ (by omega) (by omega) | exact hI.rv _ (by omega) (by omega) | exact hI) (show 0 ≤ (pl + 1) ∧ (pl + 1) < 155 by first | omega | exact hI.st _ (by omega) (by omega) | exact hI.rv _ (by omega) (by omega) | exact hI) (show 1 ≤ 1 ∧ 1 ≤ 2 by first | omega | exact hI.st _ (by omega) (by omega) | exact hI.rv _ (by omega) (by omega) | exact hI)) (cwV 2 hts (lw_V q2656 q2658 qs65 q83 q2659) rfl rfl rfl (by decide +kernel) ⟨(Nat.le_of_ble_eq_true rfl), (Nat.le_of_ble_eq_true rfl)⟩) (kz_preVM (wc := mW E Ad ((pSk 62 ((pFig pl 1 S).1)).1)) (va_recv hK hP (ci := 2) (q0 := 0) rfl rfl) hG hS hAN hP hD kz_nilP kz_nilA) rfl rfl hl.1 rfl (lv_room (Nat.le_of_ble_eq_true rfl)) dX3_throwHere_23 ⟨(Nat.le_of_ble_eq_true rfl), (Nat.le_of_ble_eq_true rfl)⟩) hP hD hS hA (fun u H9 locs9 hu hP9 hD9 hS9 hzz hkk => ?_)
      clear hzz hkk hP hD hS H locs u
      revert hS9 hD9 hP9 locs9 H9
      intro H locs hP hD hS
      clear hM
      obtain ⟨r6, hM, p7⟩ := hu
      replace r6 : rI ((pFig (pl + 1) 1 ((pSk 62 ((pFig pl 1 S).1)).1)).2) := r6
      replace hM : MOk ((pFig (pl + 1) 1 ((pSk 62 ((pFig pl 1 S).1)).1)).1) := hM
      replace p7 : (((pSk 62 ((pFig pl 1 S).1)).1) 7 16) ≤ (pFig (pl + 1) 1 ((pSk 62 ((pFig pl 1 S).1)).1)).1 7 16 ∧ (pFig (pl + 1) 1 ((pSk 62 ((pFig pl 1 S).1)).1)).1 7 16 ≤ (S 7 11) := p7
      replace hP : va_P (kD E) kcl (mW E Ad ((pFig (pl + 1) 1 ((pSk 62 ((pFig pl 1 S).1)).1)).1)) H := hP
      replace hD : va_D A (mW E Ad ((pFig (pl + 1) 1 ((pSk 62 ((pFig pl 1 S).1)).1)).1)) := hD
      show W p l e _ s m args below meth c H locs _ _ Q (F0 m 26 ls [.int (zI ((pFig (pl + 1) 1 ((pSk 62 ((pFig pl 1 S).1)).1)).2))])
      refine kz_if_eq (tgt := 73) hx hb dX3_throwHere_26 (by decide) (by omega) (fun c26 => ?_) (fun c26 => ?_)
      · skip
        refine kz_iconst hx hb dX3_throwHere_73 ?_
        have e0 : (pThr pl) S = ((pFig (pl + 1) 1 ((pSk 62 ((pFig pl 1 S).1)).1)).1, 0) := by unfold pThr; refine Eq.trans (pIf_t c6) ?_; refine Eq.trans (pIf_t c15) ?_; refine Eq.trans (pIf_f c26) ?_; exact rfl
        have e1 : ((pThr pl) S).2 = 0 := by rw [e0]
        have e3 : pC (pThr pl) S = (pFig (pl + 1) 1 ((pSk 62 ((pFig pl 1 S).1)).1)).1 := by rw [← (PG.thr pl).c S, e0]
        exact kz_zNret () hx hb hr hlk hP hD hS dX3_throwHere_74 (by decide) (congrArg (fun z : Int => some (Value.int (zI z))) e1) ⟨(kz_r e1 (by omega)), (kz_M e3 hM), (by have z := (PG.thr pl).m S (by omega) (by omega); rw [(PG.thr pl).c S] at z; exact z)⟩ (congrArg (mW E Ad) e3) hQ (Nat.le_of_ble_eq_true rfl) (Nat.le_of_ble_eq_true rfl)
      · skip
        refine lv_aload_n hx hb dX3_throwHere_29 rfl (lv_at hl 0 rfl) ?_
        refine kz_bipush hx hb dX3_throwHere_30 (by decide) ?_
        refine kz_backM (va_runV (As := [.int (zI (64))]) (rest := []) ⟨hx, hb, hml, hown, hts⟩ (mX3_skipsOver l E H.size Ad ((pFig (pl + 1) 1 ((pSk 62 ((pFig pl 1 S).1)).1)).1) hM 64 (by omega) (show 0 ≤ (((pFig (pl + 1) 1 ((pSk 62 ((pFig pl 1 S).1)).1)).1) 7 16) ∧ (((pFig (pl + 1) 1 ((pSk 62 ((pFig pl 1 S).1)).1)).1) 7 16) ≤ (S 7 11) ∧ (S 7 11) ≤ 60 by first | omega | exact hI.st _ (by omega) (by omega) | exact hI.rv _ (by omega) (by omega) | exact hI) (show 0 ≤ 64 by first | omega | exact hI.st _ (by omega) (by omega) | exact hI.rv _ (by omega) (by omega) | exact hI)) (cwV 1 hts (lw_V q2637 q2639 qs61 q83 q2640) rfl rfl rfl (by decide +kernel) ⟨(Nat.le_of_ble_eq_true rfl), (Nat.le_of_ble_eq_true rfl)⟩) (kz_preVM (wc := mW E Ad ((pFig (pl + 1) 1 ((pSk 62 ((pFig pl 1 S).1)).1)).1)) (va_recv hK hP (ci := 2) (q0 := 0) rfl rfl) hG hS hAN hP hD kz_nilP kz_nilA) rfl rfl hl.1 rfl (lv_room (Nat.le_of_ble_eq_true rfl)) dX3_throwHere_32 ⟨(Nat.le_of_ble_eq_true rfl), (Nat.le_of_ble_eq_true rfl)⟩) hP hD hS hA (fun u H9 locs9 hu hP9 hD9 hS9 hzz hkk => ?_)
        clear hzz hkk hP hD hS H locs u
        revert hS9 hD9 hP9 locs9 H9
        intro H locs hP hD hS
        clear hM
        obtain ⟨r8, hM, p9, p10⟩ := hu
        replace r8 : rI ((pSk 64 ((pFig (pl + 1) 1 ((pSk 62 ((pFig pl 1 S).1)).1)).1)).2) := r8
        replace hM : MOk ((pSk 64 ((pFig (pl + 1) 1 ((pSk 62 ((pFig pl 1 S).1)).1)).1)).1) := hM
        replace p9 : (((pFig (pl + 1) 1 ((pSk 62 ((pFig pl 1 S).1)).1)).1) 7 16) ≤ (pSk 64 ((pFig (pl + 1) 1 ((pSk 62 ((pFig pl 1 S).1)).1)).1)).1 7 16 ∧ (pSk 64 ((pFig (pl + 1) 1 ((pSk 62 ((pFig pl 1 S).1)).1)).1)).1 7 16 ≤ (S 7 11) := p9
        replace p10 : ((pSk 64 ((pFig (pl + 1) 1 ((pSk 62 ((pFig pl 1 S).1)).1)).1)).2 = 0 ∨ (((pFig (pl + 1) 1 ((pSk 62 ((pFig pl 1 S).1)).1)).1) 7 16) + 1 ≤ (pSk 64 ((pFig (pl + 1) 1 ((pSk 62 ((pFig pl 1 S).1)).1)).1)).1 7 16) := p10
        replace hP : va_P (kD E) kcl (mW E Ad ((pSk 64 ((pFig (pl + 1) 1 ((pSk 62 ((pFig pl 1 S).1)).1)).1)).1)) H := hP
        replace hD : va_D A (mW E Ad ((pSk 64 ((pFig (pl + 1) 1 ((pSk 62 ((pFig pl 1 S).1)).1)).1)).1)) := hD
        show W p l e _ s m args below meth c H locs _ _ Q (F0 m 35 ls [.int (zI ((pSk 64 ((pFig (pl + 1) 1 ((pSk 62 ((pFig pl 1 S).1)).1)).1)).2))])
        refine kz_if_eq (tgt := 73) hx hb dX3_throwHere_35 (by decide) (by omega) (fun c35 => ?_) (fun c35 => ?_)
        · skip
          refine kz_iconst hx hb dX3_throwHere_73 ?_
          have e0 : (pThr pl) S = ((pSk 64 ((pFig (pl + 1) 1 ((pSk 62 ((pFig pl 1 S).1)).1)).1)).1, 0) := by unfold pThr; refine Eq.trans (pIf_t c6) ?_; refine Eq.trans (pIf_t c15) ?_; refine Eq.trans (pIf_t c26) ?_; refine Eq.trans (pIf_f c35) ?_; exact rfl
          have e1 : ((pThr pl) S).2 = 0 := by rw [e0]
          have e3 : pC (pThr pl) S = (pSk 64 ((pFig (pl + 1) 1 ((pSk 62 ((pFig pl 1 S).1)).1)).1)).1 := by rw [← (PG.thr pl).c S, e0]
          exact kz_zNret () hx hb hr hlk hP hD hS dX3_throwHere_74 (by decide) (congrArg (fun z : Int => some (Value.int (zI z))) e1) ⟨(kz_r e1 (by omega)), (kz_M e3 hM), (by have z := (PG.thr pl).m S (by omega) (by omega); rw [(PG.thr pl).c S] at z; exact z)⟩ (congrArg (mW E Ad) e3) hQ (Nat.le_of_ble_eq_true rfl) (Nat.le_of_ble_eq_true rfl)
        · skip
          refine lv_aload_n hx hb dX3_throwHere_38 rfl (lv_at hl 0 rfl) ?_
          refine lv_iload_n hx hb dX3_throwHere_39 rfl (lv_at hl 1 rfl) ?_
          refine kz_iconst hx hb dX3_throwHere_40 ?_
          refine kz_iadd hx hb dX3_throwHere_41 ?_
          refine kz_iconst hx hb dX3_throwHere_42 ?_
          refine kz_backM (va_runV (As := [.int (zI (pl + 2)), .int (zI (2))]) (rest := []) ⟨hx, hb, hml, hown, hts⟩ (mX3_figures l E H.size Ad ((pSk 64 ((pFig (pl + 1) 1 ((pSk 62 ((pFig pl 1 S).1)).1)).1)).1) hM (pl + 2) (by omega) 2 (by omega) (show 0 ≤ (((pSk 64 ((pFig (pl + 1) 1 ((pSk 62 ((pFig pl 1 S).1)).1)).1)).1) 7 16) ∧ (((pSk 64 ((pFig (pl + 1) 1 ((pSk 62 ((pFig pl 1 S).1)).1)).1)).1) 7 16) ≤ (S 7 11) ∧ (S 7 11) ≤ 60 by first | omega | exact hI.st _ (by omega) (by omega) | exact hI.rv _ (by omega) (by omega) | exact hI) (show 0 ≤ (pl + 2) ∧ (pl + 2) < 155 by first | omega | exact hI.st _ (by omega) (by omega) | exact hI.rv _ (by omega) (by omega) | exact hI) (show 1 ≤ 2 ∧ 2 ≤ 2 by first | omega | exact hI.st _ (by omega) (by omega) | exact hI.rv _ (by omega) (by omega) | exact hI)) (cwV 2 hts (lw_V q2656 q2658 qs65 q83 q2659) rfl rfl rfl (by decide +kernel) ⟨(Nat.le_of_ble_eq_true rfl), (Nat.le_of_ble_eq_true rfl)⟩) (kz_preVM (wc := mW E Ad ((pSk 64 ((pFig (pl + 1) 1 ((pSk 62 ((pFig pl 1 S).1)).1)).1)).1)) (va_recv hK hP (ci := 2) (q0 := 0) rfl rfl) hG hS hAN hP hD kz_nilP kz_nilA) rfl rfl hl.1 rfl (lv_room (Nat.le_of_ble_eq_true rfl)) dX3_throwHere_43 ⟨(Nat.le_of_ble_eq_true rfl), (Nat.le_of_ble_eq_true rfl)⟩) hP hD hS hA (fun u H9 locs9 hu hP9 hD9 hS9 hzz hkk => ?_)
          clear hzz hkk hP hD hS H locs u
          revert hS9 hD9 hP9 locs9 H9
          intro H locs hP hD hS
          clear hM
          obtain ⟨r11, hM, p12⟩ := hu
          replace r11 : rI ((pFig (pl + 2) 2 ((pSk 64 ((pFig (pl + 1) 1 ((pSk 62 ((pFig pl 1 S).1)).1)).1)).1)).2) := r11
          replace hM : MOk ((pFig (pl + 2) 2 ((pSk 64 ((pFig (pl + 1) 1 ((pSk 62 ((pFig pl 1 S).1)).1)).1)).1)).1) := hM
          replace p12 : (((pSk 64 ((pFig (pl + 1) 1 ((pSk 62 ((pFig pl 1 S).1)).1)).1)).1) 7 16) ≤ (pFig (pl + 2) 2 ((pSk 64 ((pFig (pl + 1) 1 ((pSk 62 ((pFig pl 1 S).1)).1)).1)).1)).1 7 16 ∧ (pFig (pl + 2) 2 ((pSk 64 ((pFig (pl + 1) 1 ((pSk 62 ((pFig pl 1 S).1)).1)).1)).1)).1 7 16 ≤ (S 7 11) := p12
          replace hP : va_P (kD E) kcl (mW E Ad ((pFig (pl + 2) 2 ((pSk 64 ((pFig (pl + 1) 1 ((pSk 62 ((pFig pl 1 S).1)).1)).1)).1)).1)) H := hP
          replace hD : va_D A (mW E Ad ((pFig (pl + 2) 2 ((pSk 64 ((pFig (pl + 1) 1 ((pSk 62 ((pFig pl 1 S).1)).1)).1)).1)).1)) := hD
          show W p l e _ s m args below meth c H locs _ _ Q (F0 m 46 ls [.int (zI ((pFig (pl + 2) 2 ((pSk 64 ((pFig (pl + 1) 1 ((pSk 62 ((pFig pl 1 S).1)).1)).1)).1)).2))])
          refine kz_if_eq (tgt := 73) hx hb dX3_throwHere_46 (by decide) (by omega) (fun c46 => ?_) (fun c46 => ?_)
          · skip
            refine kz_iconst hx hb dX3_throwHere_73 ?_
            have e0 : (pThr pl) S = ((pFig (pl + 2) 2 ((pSk 64 ((pFig (pl + 1) 1 ((pSk 62 ((pFig pl 1 S).1)).1)).1)).1)).1, 0) := by unfold pThr; refine Eq.trans (pIf_t c6) ?_; refine Eq.trans (pIf_t c15) ?_; refine Eq.trans (pIf_t c26) ?_; refine Eq.trans (pIf_t c35) ?_; refine Eq.trans (pIf_f c46) ?_; exact rfl
            have e1 : ((pThr pl) S).2 = 0 := by rw [e0]
            have e3 : pC (pThr pl) S = (pFig (pl + 2) 2 ((pSk 64 ((pFig (pl + 1) 1 ((pSk 62 ((pFig pl 1 S).1)).1)).1)).1)).1 := by rw [← (PG.thr pl).c S, e0]
            exact kz_zNret () hx hb hr hlk hP hD hS dX3_throwHere_74 (by decide) (congrArg (fun z : Int => some (Value.int (zI z))) e1) ⟨(kz_r e1 (by omega)), (kz_M e3 hM), (by have z := (PG.thr pl).m S (by omega) (by omega); rw [(PG.thr pl).c S] at z; exact z)⟩ (congrArg (mW E Ad) e3) hQ (Nat.le_of_ble_eq_true rfl) (Nat.le_of_ble_eq_true rfl)
          · skip
            refine lv_aload_n hx hb dX3_throwHere_49 rfl (lv_at hl 0 rfl) ?_
            refine kz_bipush hx hb dX3_throwHere_50 (by decide) ?_
            refine kz_backM (va_runV (As := [.int (zI (42))]) (rest := []) ⟨hx, hb, hml, hown, hts⟩ (mX3_skipsOver l E H.size Ad ((pFig (pl + 2) 2 ((pSk 64 ((pFig (pl + 1) 1 ((pSk 62 ((pFig pl 1 S).1)).1)).1)).1)).1) hM 42 (by omega) (show 0 ≤ (((pFig (pl + 2) 2 ((pSk 64 ((pFig (pl + 1) 1 ((pSk 62 ((pFig pl 1 S).1)).1)).1)).1)).1) 7 16) ∧ (((pFig (pl + 2) 2 ((pSk 64 ((pFig (pl + 1) 1 ((pSk 62 ((pFig pl 1 S).1)).1)).1)).1)).1) 7 16) ≤ (S 7 11) ∧ (S 7 11) ≤ 60 by first | omega | exact hI.st _ (by omega) (by omega) | exact hI.rv _ (by omega) (by omega) | exact hI) (show 0 ≤ 42 by first | omega | exact hI.st _ (by omega) (by omega) | exact hI.rv _ (by omega) (by omega) | exact hI)) (cwV 1 hts (lw_V q2637 q2639 qs61 q83 q2640) rfl rfl rfl (by decide +kernel) ⟨(Nat.le_of_ble_eq_true rfl), (Nat.le_of_ble_eq_true rfl)⟩) (kz_preVM (wc := mW E Ad ((pFig (pl + 2) 2 ((pSk 64 ((pFig (pl + 1) 1 ((pSk 62 ((pFig pl 1 S).1)).1)).1)).1)).1)) (va_recv hK hP (ci := 2) (q0 := 0) rfl rfl) hG hS hAN hP hD kz_nilP kz_nilA) rfl rfl hl.1 rfl (lv_room (Nat.le_of_ble_eq_true rfl)) dX3_throwHere_52 ⟨(Nat.le_of_ble_eq_true rfl), (Nat.le_of_ble_eq_true rfl)⟩) hP hD hS hA (fun u H9 locs9 hu hP9 hD9 hS9 hzz hkk => ?_)
            clear hzz hkk hP hD hS H locs u
            revert hS9 hD9 hP9 locs9 H9
            intro H locs hP hD hS
            clear hM
            obtain ⟨r13, hM, p14, p15⟩ := hu
            replace r13 : rI ((pSk 42 ((pFig (pl + 2) 2 ((pSk 64 ((pFig (pl + 1) 1 ((pSk 62 ((pFig pl 1 S).1)).1)).1)).1)).1)).2) := r13
            replace hM : MOk ((pSk 42 ((pFig (pl + 2) 2 ((pSk 64 ((pFig (pl + 1) 1 ((pSk 62 ((pFig pl 1 S).1)).1)).1)).1)).1)).1) := hM
            replace p14 : (((pFig (pl + 2) 2 ((pSk 64 ((pFig (pl + 1) 1 ((pSk 62 ((pFig pl 1 S).1)).1)).1)).1)).1) 7 16) ≤ (pSk 42 ((pFig (pl + 2) 2 ((pSk 64 ((pFig (pl + 1) 1 ((pSk 62 ((pFig pl 1 S).1)).1)).1)).1)).1)).1 7 16 ∧ (pSk 42 ((pFig (pl + 2) 2 ((pSk 64 ((pFig (pl + 1) 1 ((pSk 62 ((pFig pl 1 S).1)).1)).1)).1)).1)).1 7 16 ≤ (S 7 11) := p14
            replace p15 : ((pSk 42 ((pFig (pl + 2) 2 ((pSk 64 ((pFig (pl + 1) 1 ((pSk 62 ((pFig pl 1 S).1)).1)).1)).1)).1)).2 = 0 ∨ (((pFig (pl + 2) 2 ((pSk 64 ((pFig (pl + 1) 1 ((pSk 62 ((pFig pl 1 S).1)).1)).1)).1)).1) 7 16) + 1 ≤ (pSk 42 ((pFig (pl + 2) 2 ((pSk 64 ((pFig (pl + 1) 1 ((pSk 62 ((pFig pl 1 S).1)).1)).1)).1)).1)).1 7 16) := p15
            replace hP : va_P (kD E) kcl (mW E Ad ((pSk 42 ((pFig (pl + 2) 2 ((pSk 64 ((pFig (pl + 1) 1 ((pSk 62 ((pFig pl 1 S).1)).1)).1)).1)).1)).1)) H := hP
            replace hD : va_D A (mW E Ad ((pSk 42 ((pFig (pl + 2) 2 ((pSk 64 ((pFig (pl + 1) 1 ((pSk 62 ((pFig pl 1 S).1)).1)).1)).1)).1)).1)) := hD
            show W p l e _ s m args below meth c H locs _ _ Q (F0 m 55 ls [.int (zI ((pSk 42 ((pFig (pl + 2) 2 ((pSk 64 ((pFig (pl + 1) 1 ((pSk 62 ((pFig pl 1 S).1)).1)).1)).1)).1)).2))])
            refine kz_if_eq (tgt := 73) hx hb dX3_throwHere_55 (by decide) (by omega) (fun c55 => ?_) (fun c55 => ?_)
            · skip
              refine kz_iconst hx hb dX3_throwHere_73 ?_
              have e0 : (pThr pl) S = ((pSk 42 ((pFig (pl + 2) 2 ((pSk 64 ((pFig (pl + 1) 1 ((pSk 62 ((pFig pl 1 S).1)).1)).1)).1)).1)).1, 0) := by unfold pThr; refine Eq.trans (pIf_t c6) ?_; refine Eq.trans (pIf_t c15) ?_; refine Eq.trans (pIf_t c26) ?_; refine Eq.trans (pIf_t c35) ?_; refine Eq.trans (pIf_t c46) ?_; refine Eq.trans (pIf_f c55) ?_; exact rfl
              have e1 : ((pThr pl) S).2 = 0 := by rw [e0]
              have e3 : pC (pThr pl) S = (pSk 42 ((pFig (pl + 2) 2 ((pSk 64 ((pFig (pl + 1) 1 ((pSk 62 ((pFig pl 1 S).1)).1)).1)).1)).1)).1 := by rw [← (PG.thr pl).c S, e0]
              exact kz_zNret () hx hb hr hlk hP hD hS dX3_throwHere_74 (by decide) (congrArg (fun z : Int => some (Value.int (zI z))) e1) ⟨(kz_r e1 (by omega)), (kz_M e3 hM), (by have z := (PG.thr pl).m S (by omega) (by omega); rw [(PG.thr pl).c S] at z; exact z)⟩ (congrArg (mW E Ad) e3) hQ (Nat.le_of_ble_eq_true rfl) (Nat.le_of_ble_eq_true rfl)
            · skip
              refine lv_aload_n hx hb dX3_throwHere_58 rfl (lv_at hl 0 rfl) ?_
              refine lv_iload_n hx hb dX3_throwHere_59 rfl (lv_at hl 1 rfl) ?_
              refine kz_iconst hx hb dX3_throwHere_60 ?_
              refine kz_iadd hx hb dX3_throwHere_61 ?_
              refine kz_iconst hx hb dX3_throwHere_62 ?_
              refine kz_backM (va_runV (As := [.int (zI (pl + 3)), .int (zI (2))]) (rest := []) ⟨hx, hb, hml, hown, hts⟩ (mX3_figures l E H.size Ad ((pSk 42 ((pFig (pl + 2) 2 ((pSk 64 ((pFig (pl + 1) 1 ((pSk 62 ((pFig pl 1 S).1)).1)).1)).1)).1)).1) hM (pl + 3) (by omega) 2 (by omega) (show 0 ≤ (((pSk 42 ((pFig (pl + 2) 2 ((pSk 64 ((pFig (pl + 1) 1 ((pSk 62 ((pFig pl 1 S).1)).1)).1)).1)).1)).1) 7 16) ∧ (((pSk 42 ((pFig (pl + 2) 2 ((pSk 64 ((pFig (pl + 1) 1 ((pSk 62 ((pFig pl 1 S).1)).1)).1)).1)).1)).1) 7 16) ≤ (S 7 11) ∧ (S 7 11) ≤ 60 by first | omega | exact hI.st _ (by omega) (by omega) | exact hI.rv _ (by omega) (by omega) | exact hI) (show 0 ≤ (pl + 3) ∧ (pl + 3) < 155 by first | omega | exact hI.st _ (by omega) (by omega) | exact hI.rv _ (by omega) (by omega) | exact hI) (show 1 ≤ 2 ∧ 2 ≤ 2 by first | omega | exact hI.st _ (by omega) (by omega) | exact hI.rv _ (by omega) (by omega) | exact hI)) (cwV 2 hts (lw_V q2656 q2658 qs65 q83 q2659) rfl rfl rfl (by decide +kernel) ⟨(Nat.le_of_ble_eq_true rfl), (Nat.le_of_ble_eq_true rfl)⟩) (kz_preVM (wc := mW E Ad ((pSk 42 ((pFig (pl + 2) 2 ((pSk 64 ((pFig (pl + 1) 1 ((pSk 62 ((pFig pl 1 S).1)).1)).1)).1)).1)).1)) (va_recv hK hP (ci := 2) (q0 := 0) rfl rfl) hG hS hAN hP hD kz_nilP kz_nilA) rfl rfl hl.1 rfl (lv_room (Nat.le_of_ble_eq_true rfl)) dX3_throwHere_63 ⟨(Nat.le_of_ble_eq_true rfl), (Nat.le_of_ble_eq_true rfl)⟩) hP hD hS hA (fun u H9 locs9 hu hP9 hD9 hS9 hzz hkk => ?_)
              clear hzz hkk hP hD hS H locs u
              revert hS9 hD9 hP9 locs9 H9
              intro H locs hP hD hS
              clear hM
              obtain ⟨r16, hM, p17⟩ := hu
              replace r16 : rI ((pFig (pl + 3) 2 ((pSk 42 ((pFig (pl + 2) 2 ((pSk 64 ((pFig (pl + 1) 1 ((pSk 62 ((pFig pl 1 S).1)).1)).1)).1)).1)).1)).2) := r16
              replace hM : MOk ((pFig (pl + 3) 2 ((pSk 42 ((pFig (pl + 2) 2 ((pSk 64 ((pFig (pl + 1) 1 ((pSk 62 ((pFig pl 1 S).1)).1)).1)).1)).1)).1)).1) := hM
              replace p17 : (((pSk 42 ((pFig (pl + 2) 2 ((pSk 64 ((pFig (pl + 1) 1 ((pSk 62 ((pFig pl 1 S).1)).1)).1)).1)).1)).1) 7 16) ≤ (pFig (pl + 3) 2 ((pSk 42 ((pFig (pl + 2) 2 ((pSk 64 ((pFig (pl + 1) 1 ((pSk 62 ((pFig pl 1 S).1)).1)).1)).1)).1)).1)).1 7 16 ∧ (pFig (pl + 3) 2 ((pSk 42 ((pFig (pl + 2) 2 ((pSk 64 ((pFig (pl + 1) 1 ((pSk 62 ((pFig pl 1 S).1)).1)).1)).1)).1)).1)).1 7 16 ≤ (S 7 11) := p17
              replace hP : va_P (kD E) kcl (mW E Ad ((pFig (pl + 3) 2 ((pSk 42 ((pFig (pl + 2) 2 ((pSk 64 ((pFig (pl + 1) 1 ((pSk 62 ((pFig pl 1 S).1)).1)).1)).1)).1)).1)).1)) H := hP
              replace hD : va_D A (mW E Ad ((pFig (pl + 3) 2 ((pSk 42 ((pFig (pl + 2) 2 ((pSk 64 ((pFig (pl + 1) 1 ((pSk 62 ((pFig pl 1 S).1)).1)).1)).1)).1)).1)).1)) := hD
              show W p l e _ s m args below meth c H locs _ _ Q (F0 m 66 ls [.int (zI ((pFig (pl + 3) 2 ((pSk 42 ((pFig (pl + 2) 2 ((pSk 64 ((pFig (pl + 1) 1 ((pSk 62 ((pFig pl 1 S).1)).1)).1)).1)).1)).1)).2))])
              refine kz_if_eq (tgt := 73) hx hb dX3_throwHere_66 (by decide) (by omega) (fun c66 => ?_) (fun c66 => ?_)
              · skip
                refine kz_iconst hx hb dX3_throwHere_73 ?_
                have e0 : (pThr pl) S = ((pFig (pl + 3) 2 ((pSk 42 ((pFig (pl + 2) 2 ((pSk 64 ((pFig (pl + 1) 1 ((pSk 62 ((pFig pl 1 S).1)).1)).1)).1)).1)).1)).1, 0) := by unfold pThr; refine Eq.trans (pIf_t c6) ?_; refine Eq.trans (pIf_t c15) ?_; refine Eq.trans (pIf_t c26) ?_; refine Eq.trans (pIf_t c35) ?_; refine Eq.trans (pIf_t c46) ?_; refine Eq.trans (pIf_t c55) ?_; refine Eq.trans (pIf_f c66) ?_; exact rfl
                have e1 : ((pThr pl) S).2 = 0 := by rw [e0]
                have e3 : pC (pThr pl) S = (pFig (pl + 3) 2 ((pSk 42 ((pFig (pl + 2) 2 ((pSk 64 ((pFig (pl + 1) 1 ((pSk 62 ((pFig pl 1 S).1)).1)).1)).1)).1)).1)).1 := by rw [← (PG.thr pl).c S, e0]
                exact kz_zNret () hx hb hr hlk hP hD hS dX3_throwHere_74 (by decide) (congrArg (fun z : Int => some (Value.int (zI z))) e1) ⟨(kz_r e1 (by omega)), (kz_M e3 hM), (by have z := (PG.thr pl).m S (by omega) (by omega); rw [(PG.thr pl).c S] at z; exact z)⟩ (congrArg (mW E Ad) e3) hQ (Nat.le_of_ble_eq_true rfl) (Nat.le_of_ble_eq_true rfl)
              · skip
                refine kz_iconst hx hb dX3_throwHere_69 ?_
                refine lv_goto (tgt := 74) hx hb dX3_throwHere_70 (by decide) ?_
                have e0 : (pThr pl) S = ((pFig (pl + 3) 2 ((pSk 42 ((pFig (pl + 2) 2 ((pSk 64 ((pFig (pl + 1) 1 ((pSk 62 ((pFig pl 1 S).1)).1)).1)).1)).1)).1)).1, 1) := by unfold pThr; refine Eq.trans (pIf_t c6) ?_; refine Eq.trans (pIf_t c15) ?_; refine Eq.trans (pIf_t c26) ?_; refine Eq.trans (pIf_t c35) ?_; refine Eq.trans (pIf_t c46) ?_; refine Eq.trans (pIf_t c55) ?_; refine Eq.trans (pIf_t c66) ?_; exact rfl
                have e1 : ((pThr pl) S).2 = 1 := by rw [e0]
                have e3 : pC (pThr pl) S = (pFig (pl + 3) 2 ((pSk 42 ((pFig (pl + 2) 2 ((pSk 64 ((pFig (pl + 1) 1 ((pSk 62 ((pFig pl 1 S).1)).1)).1)).1)).1)).1)).1 := by rw [← (PG.thr pl).c S, e0]
                exact kz_zNret () hx hb hr hlk hP hD hS dX3_throwHere_74 (by decide) (congrArg (fun z : Int => some (Value.int (zI z))) e1) ⟨(kz_r e1 (by omega)), (kz_M e3 hM), (by have z := (PG.thr pl).m S (by omega) (by omega); rw [(PG.thr pl).c S] at z; exact z)⟩ (congrArg (mW E Ad) e3) hQ (Nat.le_of_ble_eq_true rfl) (Nat.le_of_ble_eq_true rfl)

set_option maxHeartbeats 4000000 in
set_option maxRecDepth 100000 in
theorem mX3_withT (l : Launch) (E : KE) (sz : Nat) (Ad : Nat → Nat) (S : St) (hM : MOk S) (pl : Int) (rpl : rI pl) (hat : 0 ≤ S 7 16 ∧ S 7 16 ≤ S 7 11 ∧ S 7 11 ≤ 60) (hpl : 1 ≤ pl ∧ pl ≤ 151) (htm : 0 ≤ S 7 18 ∧ S 7 18 ≤ 30) : Met l yX3_withT (ws_ yX3_withT cX3_withT 2 (some .boolean)) (rmk 5 0 0 107) (va_Pc [.ref (Ad 0), .int (zI pl)] (kP l E sz (mW E Ad S) [])) (kQ E (fun _ : Unit => rI ((pT pl S).2) ∧ MOk (pC (pT pl) S) ∧ S 7 16 ≤ (pC (pT pl) S) 7 16 ∧ (pC (pT pl) S) 7 16 ≤ S 7 11) (fun _ => some (.int (zI ((pT pl S).2)))) (fun _ => (mW E Ad (pC (pT pl) S))) (va_A (mW E Ad S) sz)) 0 0 (va_A (mW E Ad S) sz) := by
  refine kz_start (Qf := kQ E (fun _ : Unit => rI ((pT pl S).2) ∧ MOk (pC (pT pl) S) ∧ S 7 16 ≤ (pC (pT pl) S) 7 16 ∧ (pC (pT pl) S) 7 16 ≤ S 7 11) (fun _ => some (.int (zI ((pT pl S).2)))) (fun _ => (mW E Ad (pC (pT pl) S)))) (by decide) (Nat.le_of_ble_eq_true rfl) ?_
  intro p e s m args below meth c A ls Q H locs hx hb hr hlk hml hts hown hname hG hK hA hAN hP hD hR hRA hS hQ hl
  replace hown : s.vm.findClass RX3 = some m.cls := hown
  replace hl : lv_has ls 2 [(0, .ref (Ad 0)), (1, .int (zI (pl)))] := hl
  replace hP : va_P (kD E) kcl (mW E Ad (S)) H := hP
  replace hD : va_D A (mW E Ad (S)) := hD
  refine lv_aload_n hx hb dX3_withT_0 rfl (lv_at hl 0 rfl) ?_
  refine kz_bipush hx hb dX3_withT_1 (by decide) ?_
  refine kz_backM (va_runV (As := [.int (zI (101))]) (rest := []) ⟨hx, hb, hml, hown, hts⟩ (mX3_skipsOver l E H.size Ad S hM 101 (by omega) (show 0 ≤ (S 7 16) ∧ (S 7 16) ≤ (S 7 11) ∧ (S 7 11) ≤ 60 by first | omega | exact hI.st _ (by omega) (by omega) | exact hI.rv _ (by omega) (by omega) | exact hI) (show 0 ≤ 101 by first | omega | exact hI.st _ (by omega) (by omega) | exact hI.rv _ (by omega) (by omega) | exact hI)) (cwV 1 hts (lw_V q2637 q2639 qs61 q83 q2640) rfl rfl rfl (by decide +kernel) ⟨(Nat.le_of_ble_eq_true rfl), (Nat.le_of_ble_eq_true rfl)⟩) (kz_preVM (wc := mW E Ad S) (va_recv hK hP (ci := 2) (q0 := 0) rfl rfl) hG hS hAN hP hD kz_nilP kz_nilA) rfl rfl hl.1 rfl (lv_room (Nat.le_of_ble_eq_true rfl)) dX3_withT_3 ⟨(Nat.le_of_ble_eq_true rfl), (Nat.le_of_ble_eq_true rfl)⟩) hP hD hS hA (fun u H9 locs9 hu hP9 hD9 hS9 hzz hkk => ?_)
  clear hzz hkk hP hD hS H locs u
  revert hS9 hD9 hP9 locs9 H9
  intro H locs hP hD hS
  clear hM
  obtain ⟨r1, hM, p2, p3⟩ := hu
  replace r1 : rI ((pSk 101 S).2) := r1
  replace hM : MOk ((pSk 101 S).1) := hM
  replace p2 : (S 7 16) ≤ (pSk 101 S).1 7 16 ∧ (pSk 101 S).1 7 16 ≤ (S 7 11) := p2
  replace p3 : ((pSk 101 S).2 = 0 ∨ (S 7 16) + 1 ≤ (pSk 101 S).1 7 16) := p3
  replace hP : va_P (kD E) kcl (mW E Ad ((pSk 101 S).1)) H := hP
  replace hD : va_D A (mW E Ad ((pSk 101 S).1)) := hD
  show W p l e _ s m args below meth c H locs _ _ Q (F0 m 6 ls [.int (zI ((pSk 101 S).2))])
  refine kz_if_eq (tgt := 41) hx hb dX3_withT_6 (by decide) (by omega) (fun c6 => ?_) (fun c6 => ?_)
  · skip
    refine lv_aload_n hx hb dX3_withT_41 rfl (lv_at hl 0 rfl) ?_
    refine kz_bipush hx hb dX3_withT_42 (by decide) ?_
    refine kz_backM (va_runV (As := [.int (zI (114))]) (rest := []) ⟨hx, hb, hml, hown, hts⟩ (mX3_skipsOver l E H.size Ad ((pSk 101 S).1) hM 114 (by omega) (show 0 ≤ (((pSk 101 S).1) 7 16) ∧ (((pSk 101 S).1) 7 16) ≤ (S 7 11) ∧ (S 7 11) ≤ 60 by first | omega | exact hI.st _ (by omega) (by omega) | exact hI.rv _ (by omega) (by omega) | exact hI) (show 0 ≤ 114 by first | omega | exact hI.st _ (by omega) (by omega) | exact hI.rv _ (by omega) (by omega) | exact hI)) (cwV 1 hts (lw_V q2637 q2639 qs61 q83 q2640) rfl rfl rfl (by decide +kernel) ⟨(Nat.le_of_ble_eq_true rfl), (Nat.le_of_ble_eq_true rfl)⟩) (kz_preVM (wc := mW E Ad ((pSk 101 S).1)) (va_recv hK hP (ci := 2) (q0 := 0) rfl rfl) hG hS hAN hP hD kz_nilP kz_nilA) rfl rfl hl.1 rfl (lv_room (Nat.le_of_ble_eq_true rfl)) dX3_withT_44 ⟨(Nat.le_of_ble_eq_true rfl), (Nat.le_of_ble_eq_true rfl)⟩) hP hD hS hA (fun u H9 locs9 hu hP9 hD9 hS9 hzz hkk => ?_)
    clear hzz hkk hP hD hS H locs u
    revert hS9 hD9 hP9 locs9 H9
    intro H locs hP hD hS
    clear hM
    obtain ⟨r4, hM, p5, p6⟩ := hu
    replace r4 : rI ((pSk 114 ((pSk 101 S).1)).2) := r4
    replace hM : MOk ((pSk 114 ((pSk 101 S).1)).1) := hM
    replace p5 : (((pSk 101 S).1) 7 16) ≤ (pSk 114 ((pSk 101 S).1)).1 7 16 ∧ (pSk 114 ((pSk 101 S).1)).1 7 16 ≤ (S 7 11) := p5
    replace p6 : ((pSk 114 ((pSk 101 S).1)).2 = 0 ∨ (((pSk 101 S).1) 7 16) + 1 ≤ (pSk 114 ((pSk 101 S).1)).1 7 16) := p6
    replace hP : va_P (kD E) kcl (mW E Ad ((pSk 114 ((pSk 101 S).1)).1)) H := hP
    replace hD : va_D A (mW E Ad ((pSk 114 ((pSk 101 S).1)).1)) := hD
    show W p l e _ s m args below meth c H locs _ _ Q (F0 m 47 ls [.int (zI ((pSk 114 ((pSk 101 S).1)).2))])
    refine kz_if_eq (tgt := 81) hx hb dX3_withT_47 (by decide) (by omega) (fun c47 => ?_) (fun c47 => ?_)
    · skip
      refine lv_aload_n hx hb dX3_withT_81 rfl (lv_at hl 0 rfl) ?_
      refine kz_bipush hx hb dX3_withT_82 (by decide) ?_
      refine kz_backM (va_runV (As := [.int (zI (104))]) (rest := []) ⟨hx, hb, hml, hown, hts⟩ (mX3_skipsOver l E H.size Ad ((pSk 114 ((pSk 101 S).1)).1) hM 104 (by omega) (show 0 ≤ (((pSk 114 ((pSk 101 S).1)).1) 7 16) ∧ (((pSk 114 ((pSk 101 S).1)).1) 7 16) ≤ (S 7 11) ∧ (S 7 11) ≤ 60 by first | omega | exact hI.st _ (by omega) (by omega) | exact hI.rv _ (by omega) (by omega) | exact hI) (show 0 ≤ 104 by first | omega | exact hI.st _ (by omega) (by omega) | exact hI.rv _ (by omega) (by omega) | exact hI)) (cwV 1 hts (lw_V q2637 q2639 qs61 q83 q2640) rfl rfl rfl (by decide +kernel) ⟨(Nat.le_of_ble_eq_true rfl), (Nat.le_of_ble_eq_true rfl)⟩) (kz_preVM (wc := mW E Ad ((pSk 114 ((pSk 101 S).1)).1)) (va_recv hK hP (ci := 2) (q0 := 0) rfl rfl) hG hS hAN hP hD kz_nilP kz_nilA) rfl rfl hl.1 rfl (lv_room (Nat.le_of_ble_eq_true rfl)) dX3_withT_84 ⟨(Nat.le_of_ble_eq_true rfl), (Nat.le_of_ble_eq_true rfl)⟩) hP hD hS hA (fun u H9 locs9 hu hP9 hD9 hS9 hzz hkk => ?_)
      clear hzz hkk hP hD hS H locs u
      revert hS9 hD9 hP9 locs9 H9
      intro H locs hP hD hS
      clear hM
      obtain ⟨r7, hM, p8, p9⟩ := hu
      replace r7 : rI ((pSk 104 ((pSk 114 ((pSk 101 S).1)).1)).2) := r7
      replace hM : MOk ((pSk 104 ((pSk 114 ((pSk 101 S).1)).1)).1) := hM
      replace p8 : (((pSk 114 ((pSk 101 S).1)).1) 7 16) ≤ (pSk 104 ((pSk 114 ((pSk 101 S).1)).1)).1 7 16 ∧ (pSk 104 ((pSk 114 ((pSk 101 S).1)).1)).1 7 16 ≤ (S 7 11) := p8
      replace p9 : ((pSk 104 ((pSk 114 ((pSk 101 S).1)).1)).2 = 0 ∨ (((pSk 114 ((pSk 101 S).1)).1) 7 16) + 1 ≤ (pSk 104 ((pSk 114 ((pSk 101 S).1)).1)).1 7 16) := p9
      replace hP : va_P (kD E) kcl (mW E Ad ((pSk 104 ((pSk 114 ((pSk 101 S).1)).1)).1)) H := hP
      replace hD : va_D A (mW E Ad ((pSk 104 ((pSk 114 ((pSk 101 S).1)).1)).1)) := hD
      show W p l e _ s m args below meth c H locs _ _ Q (F0 m 87 ls [.int (zI ((pSk 104 ((pSk 114 ((pSk 101 S).1)).1)).2))])
      refine kz_if_eq (tgt := 120) hx hb dX3_withT_87 (by decide) (by omega) (fun c87 => ?_) (fun c87 => ?_)
      · skip
        refine kz_iconst hx hb dX3_withT_120 ?_
        have e0 : (pT pl) S = ((pSk 104 ((pSk 114 ((pSk 101 S).1)).1)).1, 0) := by unfold pT; refine Eq.trans (pIf_f c6) ?_; refine Eq.trans (pIf_f c47) ?_; refine Eq.trans (pIf_f c87) ?_; exact rfl
        have e1 : ((pT pl) S).2 = 0 := by rw [e0]
        have e3 : pC (pT pl) S = (pSk 104 ((pSk 114 ((pSk 101 S).1)).1)).1 := by rw [← (PG.t pl).c S, e0]
        exact kz_zNret () hx hb hr hlk hP hD hS dX3_withT_121 (by decide) (congrArg (fun z : Int => some (Value.int (zI z))) e1) ⟨(kz_r e1 (by omega)), (kz_M e3 hM), (by have z := (PG.t pl).m S (by omega) (by omega); rw [(PG.t pl).c S] at z; exact z)⟩ (congrArg (mW E Ad) e3) hQ (Nat.le_of_ble_eq_true rfl) (Nat.le_of_ble_eq_true rfl)
      · skip
        refine lv_aload_n hx hb dX3_withT_90 rfl (lv_at hl 0 rfl) ?_
        refine kz_bipush hx hb dX3_withT_91 (by decide) ?_
        refine kz_backM (va_runV (As := [.int (zI (6))]) (rest := []) ⟨hx, hb, hml, hown, hts⟩ (mX3_hasOrder l E H.size Ad ((pSk 104 ((pSk 114 ((pSk 101 S).1)).1)).1) hM 6 (by omega) (show 0 ≤ (S 7 18) ∧ (S 7 18) ≤ 30 by first | omega | exact hI.st _ (by omega) (by omega) | exact hI.rv _ (by omega) (by omega) | exact hI)) (cwV 1 hts (lw_V q2645 q2647 qs63 q83 q2648) rfl rfl rfl (by decide +kernel) ⟨(Nat.le_of_ble_eq_true rfl), (Nat.le_of_ble_eq_true rfl)⟩) (kz_preVM (wc := mW E Ad ((pSk 104 ((pSk 114 ((pSk 101 S).1)).1)).1)) (va_recv hK hP (ci := 2) (q0 := 0) rfl rfl) hG hS hAN hP hD kz_nilP kz_nilA) rfl rfl hl.1 rfl (lv_room (Nat.le_of_ble_eq_true rfl)) dX3_withT_93 ⟨(Nat.le_of_ble_eq_true rfl), (Nat.le_of_ble_eq_true rfl)⟩) hP hD hS hA (fun u H9 locs9 hu hP9 hD9 hS9 hzz hkk => ?_)
        clear hzz hkk hP hD hS H locs u
        revert hS9 hD9 hP9 locs9 H9
        intro H locs hP hD hS
        clear hM
        obtain ⟨r10, hM⟩ := hu
        replace r10 : rI ((pHas 6 ((pSk 104 ((pSk 114 ((pSk 101 S).1)).1)).1)).2) := r10
        replace hM : MOk ((pHas 6 ((pSk 104 ((pSk 114 ((pSk 101 S).1)).1)).1)).1) := hM
        replace hP : va_P (kD E) kcl (mW E Ad ((pHas 6 ((pSk 104 ((pSk 114 ((pSk 101 S).1)).1)).1)).1)) H := hP
        replace hD : va_D A (mW E Ad ((pHas 6 ((pSk 104 ((pSk 114 ((pSk 101 S).1)).1)).1)).1)) := hD
        show W p l e _ s m args below meth c H locs _ _ Q (F0 m 96 ls [.int (zI ((pHas 6 ((pSk 104 ((pSk 114 ((pSk 101 S).1)).1)).1)).2))])
        refine kz_if_eq (tgt := 120) hx hb dX3_withT_96 (by decide) (by omega) (fun c96 => ?_) (fun c96 => ?_)
        · skip
          refine kz_iconst hx hb dX3_withT_120 ?_
          have e0 : (pT pl) S = ((pHas 6 ((pSk 104 ((pSk 114 ((pSk 101 S).1)).1)).1)).1, 0) := by unfold pT; refine Eq.trans (pIf_f c6) ?_; refine Eq.trans (pIf_f c47) ?_; refine Eq.trans (pIf_t c87) ?_; refine Eq.trans (pIf_f c96) ?_; exact rfl
          have e1 : ((pT pl) S).2 = 0 := by rw [e0]
          have e3 : pC (pT pl) S = (pHas 6 ((pSk 104 ((pSk 114 ((pSk 101 S).1)).1)).1)).1 := by rw [← (PG.t pl).c S, e0]
          exact kz_zNret () hx hb hr hlk hP hD hS dX3_withT_121 (by decide) (congrArg (fun z : Int => some (Value.int (zI z))) e1) ⟨(kz_r e1 (by omega)), (kz_M e3 hM), (by have z := (PG.t pl).m S (by omega) (by omega); rw [(PG.t pl).c S] at z; exact z)⟩ (congrArg (mW E Ad) e3) hQ (Nat.le_of_ble_eq_true rfl) (Nat.le_of_ble_eq_true rfl)
        · skip
          refine lv_aload_n hx hb dX3_withT_99 rfl (lv_at hl 0 rfl) ?_
          have hl11 := hG.lit_row
          refine va_ldcS hx hb hown (hG.ldc hl11 q2674 (Or.inl ⟨rfl, rfl⟩)) dX3_withT_100 ?_
          refine kz_backM (va_runV (As := [.ref ((litA E "SkipSchoolModel" 201))]) (rest := []) ⟨hx, hb, hml, hown, hts⟩ (mX3_isWord l E H.size Ad ((pHas 6 ((pSk 104 ((pSk 114 ((pSk 101 S).1)).1)).1)).1) hM (litA E "SkipSchoolModel" 201) (litV E "SkipSchoolModel" 201) [114, 111, 119] (by decide) (by decide) hl11.2.2.1 hl11.2.2.2.1 (show 0 ≤ (((pSk 104 ((pSk 114 ((pSk 101 S).1)).1)).1) 7 16) ∧ (((pSk 104 ((pSk 114 ((pSk 101 S).1)).1)).1) 7 16) ≤ (S 7 11) ∧ (S 7 11) ≤ 60 by first | omega | exact hI.st _ (by omega) (by omega) | exact hI.rv _ (by omega) (by omega) | exact hI)) (cwV 1 hts (lw_V q2650 q2652 qs64 q83 q2653) rfl rfl rfl (by decide +kernel) ⟨(Nat.le_of_ble_eq_true rfl), (Nat.le_of_ble_eq_true rfl)⟩) (kz_preXV (kz_preVM (wc := mW E Ad ((pHas 6 ((pSk 104 ((pSk 114 ((pSk 101 S).1)).1)).1)).1)) (va_recv hK hP (ci := 2) (q0 := 0) rfl rfl) hG hS hAN hP hD kz_nilP kz_nilA) (fun _ _ _ _ h => h) (fun U hU hW => hl11.1.on hS (fun z => absurd (hAN _ z) (Nat.not_le.mpr hl11.2.2.1)) (fun z => absurd (hAN _ z) (Nat.not_le.mpr hl11.2.2.2.1)) hU hW)) rfl rfl hl.1 rfl (lv_room (Nat.le_of_ble_eq_true rfl)) dX3_withT_102 ⟨(Nat.le_of_ble_eq_true rfl), (Nat.le_of_ble_eq_true rfl)⟩) hP hD hS hA (fun u H9 locs9 hu hP9 hD9 hS9 hzz hkk => ?_)
          clear hzz hkk hP hD hS H locs u
          revert hS9 hD9 hP9 locs9 H9
          intro H locs hP hD hS
          clear hM
          obtain ⟨r12, hM, p13⟩ := hu
          replace r12 : rI ((pWord ([114, 111, 119]) ((pHas 6 ((pSk 104 ((pSk 114 ((pSk 101 S).1)).1)).1)).1)).2) := r12
          replace hM : MOk (pC (pWord ([114, 111, 119])) ((pHas 6 ((pSk 104 ((pSk 114 ((pSk 101 S).1)).1)).1)).1)) := hM
          replace p13 : (((pSk 104 ((pSk 114 ((pSk 101 S).1)).1)).1) 7 16) ≤ (pC (pWord ([114, 111, 119])) ((pHas 6 ((pSk 104 ((pSk 114 ((pSk 101 S).1)).1)).1)).1)) 7 16 ∧ (pC (pWord ([114, 111, 119])) ((pHas 6 ((pSk 104 ((pSk 114 ((pSk 101 S).1)).1)).1)).1)) 7 16 ≤ (S 7 11) := p13
          replace hP : va_P (kD E) kcl (mW E Ad (pC (pWord ([114, 111, 119])) ((pHas 6 ((pSk 104 ((pSk 114 ((pSk 101 S).1)).1)).1)).1))) H := hP
          replace hD : va_D A (mW E Ad (pC (pWord ([114, 111, 119])) ((pHas 6 ((pSk 104 ((pSk 114 ((pSk 101 S).1)).1)).1)).1))) := hD
          show W p l e _ s m args below meth c H locs _ _ Q (F0 m 105 ls [.int (zI ((pWord ([114, 111, 119]) ((pHas 6 ((pSk 104 ((pSk 114 ((pSk 101 S).1)).1)).1)).1)).2))])
          refine kz_if_eq (tgt := 120) hx hb dX3_withT_105 (by decide) (by omega) (fun c105 => ?_) (fun c105 => ?_)
          · skip
            refine kz_iconst hx hb dX3_withT_120 ?_
            have e0 : (pT pl) S = (pC (pWord ([114, 111, 119])) ((pHas 6 ((pSk 104 ((pSk 114 ((pSk 101 S).1)).1)).1)).1), 0) := by unfold pT; refine Eq.trans (pIf_f c6) ?_; refine Eq.trans (pIf_f c47) ?_; refine Eq.trans (pIf_t c87) ?_; refine Eq.trans (pIf_t c96) ?_; refine Eq.trans (pIf_fC (PG.word _ (by decide)) c105) ?_; exact rfl
            have e1 : ((pT pl) S).2 = 0 := by rw [e0]
            have e3 : pC (pT pl) S = pC (pWord ([114, 111, 119])) ((pHas 6 ((pSk 104 ((pSk 114 ((pSk 101 S).1)).1)).1)).1) := by rw [← (PG.t pl).c S, e0]
            exact kz_zNret () hx hb hr hlk hP hD hS dX3_withT_121 (by decide) (congrArg (fun z : Int => some (Value.int (zI z))) e1) ⟨(kz_r e1 (by omega)), (kz_M e3 hM), (by have z := (PG.t pl).m S (by omega) (by omega); rw [(PG.t pl).c S] at z; exact z)⟩ (congrArg (mW E Ad) e3) hQ (Nat.le_of_ble_eq_true rfl) (Nat.le_of_ble_eq_true rfl)
          · skip
            refine lv_aload_n hx hb dX3_withT_108 rfl (lv_at hl 0 rfl) ?_
            refine lv_iload_n hx hb dX3_withT_109 rfl (lv_at hl 1 rfl) ?_
            refine kz_backM (va_runV (As := [.int (zI (pl))]) (rest := []) ⟨hx, hb, hml, hown, hts⟩ (mX3_throwHere l E H.size Ad (pC (pWord ([114, 111, 119])) ((pHas 6 ((pSk 104 ((pSk 114 ((pSk 101 S).1)).1)).1)).1)) hM pl (by omega) (show 0 ≤ ((pC (pWord ([114, 111, 119])) ((pHas 6 ((pSk 104 ((pSk 114 ((pSk 101 S).1)).1)).1)).1)) 7 16) ∧ ((pC (pWord ([114, 111, 119])) ((pHas 6 ((pSk 104 ((pSk 114 ((pSk 101 S).1)).1)).1)).1)) 7 16) ≤ (S 7 11) ∧ (S 7 11) ≤ 60 by first | omega | exact hI.st _ (by omega) (by omega) | exact hI.rv _ (by omega) (by omega) | exact hI) (show 1 ≤ pl ∧ pl ≤ 151 by first | omega | exact hI.st _ (by omega) (by omega) | exact hI.rv _ (by omega) (by omega) | exact hI)) (cwV 1 hts (lw_V q2670 q2672 qs67 q83 q2673) rfl rfl rfl (by decide +kernel) ⟨(Nat.le_of_ble_eq_true rfl), (Nat.le_of_ble_eq_true rfl)⟩) (kz_preVM (wc := mW E Ad (pC (pWord ([114, 111, 119])) ((pHas 6 ((pSk 104 ((pSk 114 ((pSk 101 S).1)).1)).1)).1))) (va_recv hK hP (ci := 2) (q0 := 0) rfl rfl) hG hS hAN hP hD kz_nilP kz_nilA) rfl rfl hl.1 rfl (lv_room (Nat.le_of_ble_eq_true rfl)) dX3_withT_110 ⟨(Nat.le_of_ble_eq_true rfl), (Nat.le_of_ble_eq_true rfl)⟩) hP hD hS hA (fun u H9 locs9 hu hP9 hD9 hS9 hzz hkk => ?_)
            clear hzz hkk hP hD hS H locs u
            revert hS9 hD9 hP9 locs9 H9
            intro H locs hP hD hS
            clear hM
            obtain ⟨r14, hM, p15⟩ := hu
            replace r14 : rI ((pThr pl (pC (pWord ([114, 111, 119])) ((pHas 6 ((pSk 104 ((pSk 114 ((pSk 101 S).1)).1)).1)).1))).2) := r14
            replace hM : MOk (pC (pThr pl) (pC (pWord ([114, 111, 119])) ((pHas 6 ((pSk 104 ((pSk 114 ((pSk 101 S).1)).1)).1)).1))) := hM
            replace p15 : ((pC (pWord ([114, 111, 119])) ((pHas 6 ((pSk 104 ((pSk 114 ((pSk 101 S).1)).1)).1)).1)) 7 16) ≤ (pC (pThr pl) (pC (pWord ([114, 111, 119])) ((pHas 6 ((pSk 104 ((pSk 114 ((pSk 101 S).1)).1)).1)).1))) 7 16 ∧ (pC (pThr pl) (pC (pWord ([114, 111, 119])) ((pHas 6 ((pSk 104 ((pSk 114 ((pSk 101 S).1)).1)).1)).1))) 7 16 ≤ (S 7 11) := p15
            replace hP : va_P (kD E) kcl (mW E Ad (pC (pThr pl) (pC (pWord ([114, 111, 119])) ((pHas 6 ((pSk 104 ((pSk 114 ((pSk 101 S).1)).1)).1)).1)))) H := hP
            replace hD : va_D A (mW E Ad (pC (pThr pl) (pC (pWord ([114, 111, 119])) ((pHas 6 ((pSk 104 ((pSk 114 ((pSk 101 S).1)).1)).1)).1)))) := hD
            show W p l e _ s m args below meth c H locs _ _ Q (F0 m 113 ls [.int (zI ((pThr pl (pC (pWord ([114, 111, 119])) ((pHas 6 ((pSk 104 ((pSk 114 ((pSk 101 S).1)).1)).1)).1))).2))])
            refine kz_if_eq (tgt := 120) hx hb dX3_withT_113 (by decide) (by omega) (fun c113 => ?_) (fun c113 => ?_)
            · skip
              refine kz_iconst hx hb dX3_withT_120 ?_
              have e0 : (pT pl) S = (pC (pThr pl) (pC (pWord ([114, 111, 119])) ((pHas 6 ((pSk 104 ((pSk 114 ((pSk 101 S).1)).1)).1)).1)), 0) := by unfold pT; refine Eq.trans (pIf_f c6) ?_; refine Eq.trans (pIf_f c47) ?_; refine Eq.trans (pIf_t c87) ?_; refine Eq.trans (pIf_t c96) ?_; refine Eq.trans (pIf_tC (PG.word _ (by decide)) c105) ?_; refine Eq.trans (pIf_fC (PG.thr _) c113) ?_; exact rfl
              have e1 : ((pT pl) S).2 = 0 := by rw [e0]
              have e3 : pC (pT pl) S = pC (pThr pl) (pC (pWord ([114, 111, 119])) ((pHas 6 ((pSk 104 ((pSk 114 ((pSk 101 S).1)).1)).1)).1)) := by rw [← (PG.t pl).c S, e0]
              exact kz_zNret () hx hb hr hlk hP hD hS dX3_withT_121 (by decide) (congrArg (fun z : Int => some (Value.int (zI z))) e1) ⟨(kz_r e1 (by omega)), (kz_M e3 hM), (by have z := (PG.t pl).m S (by omega) (by omega); rw [(PG.t pl).c S] at z; exact z)⟩ (congrArg (mW E Ad) e3) hQ (Nat.le_of_ble_eq_true rfl) (Nat.le_of_ble_eq_true rfl)
            · skip
              refine kz_iconst hx hb dX3_withT_116 ?_
              refine lv_goto (tgt := 121) hx hb dX3_withT_117 (by decide) ?_
              have e0 : (pT pl) S = (pC (pThr pl) (pC (pWord ([114, 111, 119])) ((pHas 6 ((pSk 104 ((pSk 114 ((pSk 101 S).1)).1)).1)).1)), 1) := by unfold pT; refine Eq.trans (pIf_f c6) ?_; refine Eq.trans (pIf_f c47) ?_; refine Eq.trans (pIf_t c87) ?_; refine Eq.trans (pIf_t c96) ?_; refine Eq.trans (pIf_tC (PG.word _ (by decide)) c105) ?_; refine Eq.trans (pIf_tC (PG.thr _) c113) ?_; exact rfl
              have e1 : ((pT pl) S).2 = 1 := by rw [e0]
              have e3 : pC (pT pl) S = pC (pThr pl) (pC (pWord ([114, 111, 119])) ((pHas 6 ((pSk 104 ((pSk 114 ((pSk 101 S).1)).1)).1)).1)) := by rw [← (PG.t pl).c S, e0]
              exact kz_zNret () hx hb hr hlk hP hD hS dX3_withT_121 (by decide) (congrArg (fun z : Int => some (Value.int (zI z))) e1) ⟨(kz_r e1 (by omega)), (kz_M e3 hM), (by have z := (PG.t pl).m S (by omega) (by omega); rw [(PG.t pl).c S] at z; exact z)⟩ (congrArg (mW E Ad) e3) hQ (Nat.le_of_ble_eq_true rfl) (Nat.le_of_ble_eq_true rfl)
    · skip
      refine lv_aload_n hx hb dX3_withT_50 rfl (lv_at hl 0 rfl) ?_
      refine kz_iconst hx hb dX3_withT_51 ?_
      refine kz_backM (va_runV (As := [.int (zI (5))]) (rest := []) ⟨hx, hb, hml, hown, hts⟩ (mX3_hasOrder l E H.size Ad ((pSk 114 ((pSk 101 S).1)).1) hM 5 (by omega) (show 0 ≤ (S 7 18) ∧ (S 7 18) ≤ 30 by first | omega | exact hI.st _ (by omega) (by omega) | exact hI.rv _ (by omega) (by omega) | exact hI)) (cwV 1 hts (lw_V q2645 q2647 qs63 q83 q2648) rfl rfl rfl (by decide +kernel) ⟨(Nat.le_of_ble_eq_true rfl), (Nat.le_of_ble_eq_true rfl)⟩) (kz_preVM (wc := mW E Ad ((pSk 114 ((pSk 101 S).1)).1)) (va_recv hK hP (ci := 2) (q0 := 0) rfl rfl) hG hS hAN hP hD kz_nilP kz_nilA) rfl rfl hl.1 rfl (lv_room (Nat.le_of_ble_eq_true rfl)) dX3_withT_52 ⟨(Nat.le_of_ble_eq_true rfl), (Nat.le_of_ble_eq_true rfl)⟩) hP hD hS hA (fun u H9 locs9 hu hP9 hD9 hS9 hzz hkk => ?_)
      clear hzz hkk hP hD hS H locs u
      revert hS9 hD9 hP9 locs9 H9
      intro H locs hP hD hS
      clear hM
      obtain ⟨r16, hM⟩ := hu
      replace r16 : rI ((pHas 5 ((pSk 114 ((pSk 101 S).1)).1)).2) := r16
      replace hM : MOk ((pHas 5 ((pSk 114 ((pSk 101 S).1)).1)).1) := hM
      replace hP : va_P (kD E) kcl (mW E Ad ((pHas 5 ((pSk 114 ((pSk 101 S).1)).1)).1)) H := hP
      replace hD : va_D A (mW E Ad ((pHas 5 ((pSk 114 ((pSk 101 S).1)).1)).1)) := hD
      show W p l e _ s m args below meth c H locs _ _ Q (F0 m 55 ls [.int (zI ((pHas 5 ((pSk 114 ((pSk 101 S).1)).1)).2))])
      refine kz_if_eq (tgt := 79) hx hb dX3_withT_55 (by decide) (by omega) (fun c55 => ?_) (fun c55 => ?_)
      · skip
        refine kz_iconst hx hb dX3_withT_79 ?_
        have e0 : (pT pl) S = ((pHas 5 ((pSk 114 ((pSk 101 S).1)).1)).1, 0) := by unfold pT; refine Eq.trans (pIf_f c6) ?_; refine Eq.trans (pIf_t c47) ?_; refine Eq.trans (pIf_f c55) ?_; exact rfl
        have e1 : ((pT pl) S).2 = 0 := by rw [e0]
        have e3 : pC (pT pl) S = (pHas 5 ((pSk 114 ((pSk 101 S).1)).1)).1 := by rw [← (PG.t pl).c S, e0]
        exact kz_zNret () hx hb hr hlk hP hD hS dX3_withT_80 (by decide) (congrArg (fun z : Int => some (Value.int (zI z))) e1) ⟨(kz_r e1 (by omega)), (kz_M e3 hM), (by have z := (PG.t pl).m S (by omega) (by omega); rw [(PG.t pl).c S] at z; exact z)⟩ (congrArg (mW E Ad) e3) hQ (Nat.le_of_ble_eq_true rfl) (Nat.le_of_ble_eq_true rfl)
      · skip
        refine lv_aload_n hx hb dX3_withT_58 rfl (lv_at hl 0 rfl) ?_
        have hl17 := hG.lit_y
        refine va_ldcS hx hb hown (hG.ldc hl17 q2669 (Or.inl ⟨rfl, rfl⟩)) dX3_withT_59 ?_
        refine kz_backM (va_runV (As := [.ref ((litA E "SkipSchoolModel" 196))]) (rest := []) ⟨hx, hb, hml, hown, hts⟩ (mX3_isWord l E H.size Ad ((pHas 5 ((pSk 114 ((pSk 101 S).1)).1)).1) hM (litA E "SkipSchoolModel" 196) (litV E "SkipSchoolModel" 196) [121] (by decide) (by decide) hl17.2.2.1 hl17.2.2.2.1 (show 0 ≤ (((pSk 114 ((pSk 101 S).1)).1) 7 16) ∧ (((pSk 114 ((pSk 101 S).1)).1) 7 16) ≤ (S 7 11) ∧ (S 7 11) ≤ 60 by first | omega | exact hI.st _ (by omega) (by omega) | exact hI.rv _ (by omega) (by omega) | exact hI)) (cwV 1 hts (lw_V q2650 q2652 qs64 q83 q2653) rfl rfl rfl (by decide +kernel) ⟨(Nat.le_of_ble_eq_true rfl), (Nat.le_of_ble_eq_true rfl)⟩) (kz_preXV (kz_preVM (wc := mW E Ad ((pHas 5 ((pSk 114 ((pSk 101 S).1)).1)).1)) (va_recv hK hP (ci := 2) (q0 := 0) rfl rfl) hG hS hAN hP hD kz_nilP kz_nilA) (fun _ _ _ _ h => h) (fun U hU hW => hl17.1.on hS (fun z => absurd (hAN _ z) (Nat.not_le.mpr hl17.2.2.1)) (fun z => absurd (hAN _ z) (Nat.not_le.mpr hl17.2.2.2.1)) hU hW)) rfl rfl hl.1 rfl (lv_room (Nat.le_of_ble_eq_true rfl)) dX3_withT_61 ⟨(Nat.le_of_ble_eq_true rfl), (Nat.le_of_ble_eq_true rfl)⟩) hP hD hS hA (fun u H9 locs9 hu hP9 hD9 hS9 hzz hkk => ?_)
        clear hzz hkk hP hD hS H locs u
        revert hS9 hD9 hP9 locs9 H9
        intro H locs hP hD hS
        clear hM
        obtain ⟨r18, hM, p19⟩ := hu
        replace r18 : rI ((pWord ([121]) ((pHas 5 ((pSk 114 ((pSk 101 S).1)).1)).1)).2) := r18
        replace hM : MOk (pC (pWord ([121])) ((pHas 5 ((pSk 114 ((pSk 101 S).1)).1)).1)) := hM
        replace p19 : (((pSk 114 ((pSk 101 S).1)).1) 7 16) ≤ (pC (pWord ([121])) ((pHas 5 ((pSk 114 ((pSk 101 S).1)).1)).1)) 7 16 ∧ (pC (pWord ([121])) ((pHas 5 ((pSk 114 ((pSk 101 S).1)).1)).1)) 7 16 ≤ (S 7 11) := p19
        replace hP : va_P (kD E) kcl (mW E Ad (pC (pWord ([121])) ((pHas 5 ((pSk 114 ((pSk 101 S).1)).1)).1))) H := hP
        replace hD : va_D A (mW E Ad (pC (pWord ([121])) ((pHas 5 ((pSk 114 ((pSk 101 S).1)).1)).1))) := hD
        show W p l e _ s m args below meth c H locs _ _ Q (F0 m 64 ls [.int (zI ((pWord ([121]) ((pHas 5 ((pSk 114 ((pSk 101 S).1)).1)).1)).2))])
        refine kz_if_eq (tgt := 79) hx hb dX3_withT_64 (by decide) (by omega) (fun c64 => ?_) (fun c64 => ?_)
        · skip
          refine kz_iconst hx hb dX3_withT_79 ?_
          have e0 : (pT pl) S = (pC (pWord ([121])) ((pHas 5 ((pSk 114 ((pSk 101 S).1)).1)).1), 0) := by unfold pT; refine Eq.trans (pIf_f c6) ?_; refine Eq.trans (pIf_t c47) ?_; refine Eq.trans (pIf_t c55) ?_; refine Eq.trans (pIf_fC (PG.word _ (by decide)) c64) ?_; exact rfl
          have e1 : ((pT pl) S).2 = 0 := by rw [e0]
          have e3 : pC (pT pl) S = pC (pWord ([121])) ((pHas 5 ((pSk 114 ((pSk 101 S).1)).1)).1) := by rw [← (PG.t pl).c S, e0]
          exact kz_zNret () hx hb hr hlk hP hD hS dX3_withT_80 (by decide) (congrArg (fun z : Int => some (Value.int (zI z))) e1) ⟨(kz_r e1 (by omega)), (kz_M e3 hM), (by have z := (PG.t pl).m S (by omega) (by omega); rw [(PG.t pl).c S] at z; exact z)⟩ (congrArg (mW E Ad) e3) hQ (Nat.le_of_ble_eq_true rfl) (Nat.le_of_ble_eq_true rfl)
        · skip
          refine lv_aload_n hx hb dX3_withT_67 rfl (lv_at hl 0 rfl) ?_
          refine lv_iload_n hx hb dX3_withT_68 rfl (lv_at hl 1 rfl) ?_
          refine kz_backM (va_runV (As := [.int (zI (pl))]) (rest := []) ⟨hx, hb, hml, hown, hts⟩ (mX3_throwHere l E H.size Ad (pC (pWord ([121])) ((pHas 5 ((pSk 114 ((pSk 101 S).1)).1)).1)) hM pl (by omega) (show 0 ≤ ((pC (pWord ([121])) ((pHas 5 ((pSk 114 ((pSk 101 S).1)).1)).1)) 7 16) ∧ ((pC (pWord ([121])) ((pHas 5 ((pSk 114 ((pSk 101 S).1)).1)).1)) 7 16) ≤ (S 7 11) ∧ (S 7 11) ≤ 60 by first | omega | exact hI.st _ (by omega) (by omega) | exact hI.rv _ (by omega) (by omega) | exact hI) (show 1 ≤ pl ∧ pl ≤ 151 by first | omega | exact hI.st _ (by omega) (by omega) | exact hI.rv _ (by omega) (by omega) | exact hI)) (cwV 1 hts (lw_V q2670 q2672 qs67 q83 q2673) rfl rfl rfl (by decide +kernel) ⟨(Nat.le_of_ble_eq_true rfl), (Nat.le_of_ble_eq_true rfl)⟩) (kz_preVM (wc := mW E Ad (pC (pWord ([121])) ((pHas 5 ((pSk 114 ((pSk 101 S).1)).1)).1))) (va_recv hK hP (ci := 2) (q0 := 0) rfl rfl) hG hS hAN hP hD kz_nilP kz_nilA) rfl rfl hl.1 rfl (lv_room (Nat.le_of_ble_eq_true rfl)) dX3_withT_69 ⟨(Nat.le_of_ble_eq_true rfl), (Nat.le_of_ble_eq_true rfl)⟩) hP hD hS hA (fun u H9 locs9 hu hP9 hD9 hS9 hzz hkk => ?_)
          clear hzz hkk hP hD hS H locs u
          revert hS9 hD9 hP9 locs9 H9
          intro H locs hP hD hS
          clear hM
          obtain ⟨r20, hM, p21⟩ := hu
          replace r20 : rI ((pThr pl (pC (pWord ([121])) ((pHas 5 ((pSk 114 ((pSk 101 S).1)).1)).1))).2) := r20
          replace hM : MOk (pC (pThr pl) (pC (pWord ([121])) ((pHas 5 ((pSk 114 ((pSk 101 S).1)).1)).1))) := hM
          replace p21 : ((pC (pWord ([121])) ((pHas 5 ((pSk 114 ((pSk 101 S).1)).1)).1)) 7 16) ≤ (pC (pThr pl) (pC (pWord ([121])) ((pHas 5 ((pSk 114 ((pSk 101 S).1)).1)).1))) 7 16 ∧ (pC (pThr pl) (pC (pWord ([121])) ((pHas 5 ((pSk 114 ((pSk 101 S).1)).1)).1))) 7 16 ≤ (S 7 11) := p21
          replace hP : va_P (kD E) kcl (mW E Ad (pC (pThr pl) (pC (pWord ([121])) ((pHas 5 ((pSk 114 ((pSk 101 S).1)).1)).1)))) H := hP
          replace hD : va_D A (mW E Ad (pC (pThr pl) (pC (pWord ([121])) ((pHas 5 ((pSk 114 ((pSk 101 S).1)).1)).1)))) := hD
          show W p l e _ s m args below meth c H locs _ _ Q (F0 m 72 ls [.int (zI ((pThr pl (pC (pWord ([121])) ((pHas 5 ((pSk 114 ((pSk 101 S).1)).1)).1))).2))])
          refine kz_if_eq (tgt := 79) hx hb dX3_withT_72 (by decide) (by omega) (fun c72 => ?_) (fun c72 => ?_)
          · skip
            refine kz_iconst hx hb dX3_withT_79 ?_
            have e0 : (pT pl) S = (pC (pThr pl) (pC (pWord ([121])) ((pHas 5 ((pSk 114 ((pSk 101 S).1)).1)).1)), 0) := by unfold pT; refine Eq.trans (pIf_f c6) ?_; refine Eq.trans (pIf_t c47) ?_; refine Eq.trans (pIf_t c55) ?_; refine Eq.trans (pIf_tC (PG.word _ (by decide)) c64) ?_; refine Eq.trans (pIf_fC (PG.thr _) c72) ?_; exact rfl
            have e1 : ((pT pl) S).2 = 0 := by rw [e0]
            have e3 : pC (pT pl) S = pC (pThr pl) (pC (pWord ([121])) ((pHas 5 ((pSk 114 ((pSk 101 S).1)).1)).1)) := by rw [← (PG.t pl).c S, e0]
            exact kz_zNret () hx hb hr hlk hP hD hS dX3_withT_80 (by decide) (congrArg (fun z : Int => some (Value.int (zI z))) e1) ⟨(kz_r e1 (by omega)), (kz_M e3 hM), (by have z := (PG.t pl).m S (by omega) (by omega); rw [(PG.t pl).c S] at z; exact z)⟩ (congrArg (mW E Ad) e3) hQ (Nat.le_of_ble_eq_true rfl) (Nat.le_of_ble_eq_true rfl)
          · skip
            refine kz_iconst hx hb dX3_withT_75 ?_
            refine lv_goto (tgt := 80) hx hb dX3_withT_76 (by decide) ?_
            have e0 : (pT pl) S = (pC (pThr pl) (pC (pWord ([121])) ((pHas 5 ((pSk 114 ((pSk 101 S).1)).1)).1)), 1) := by unfold pT; refine Eq.trans (pIf_f c6) ?_; refine Eq.trans (pIf_t c47) ?_; refine Eq.trans (pIf_t c55) ?_; refine Eq.trans (pIf_tC (PG.word _ (by decide)) c64) ?_; refine Eq.trans (pIf_tC (PG.thr _) c72) ?_; exact rfl
            have e1 : ((pT pl) S).2 = 1 := by rw [e0]
            have e3 : pC (pT pl) S = pC (pThr pl) (pC (pWord ([121])) ((pHas 5 ((pSk 114 ((pSk 101 S).1)).1)).1)) := by rw [← (PG.t pl).c S, e0]
            exact kz_zNret () hx hb hr hlk hP hD hS dX3_withT_80 (by decide) (congrArg (fun z : Int => some (Value.int (zI z))) e1) ⟨(kz_r e1 (by omega)), (kz_M e3 hM), (by have z := (PG.t pl).m S (by omega) (by omega); rw [(PG.t pl).c S] at z; exact z)⟩ (congrArg (mW E Ad) e3) hQ (Nat.le_of_ble_eq_true rfl) (Nat.le_of_ble_eq_true rfl)
  · skip
    refine lv_aload_n hx hb dX3_withT_9 rfl (lv_at hl 0 rfl) ?_
    refine kz_iconst hx hb dX3_withT_10 ?_
    refine kz_backM (va_runV (As := [.int (zI (4))]) (rest := []) ⟨hx, hb, hml, hown, hts⟩ (mX3_hasOrder l E H.size Ad ((pSk 101 S).1) hM 4 (by omega) (show 0 ≤ (S 7 18) ∧ (S 7 18) ≤ 30 by first | omega | exact hI.st _ (by omega) (by omega) | exact hI.rv _ (by omega) (by omega) | exact hI)) (cwV 1 hts (lw_V q2645 q2647 qs63 q83 q2648) rfl rfl rfl (by decide +kernel) ⟨(Nat.le_of_ble_eq_true rfl), (Nat.le_of_ble_eq_true rfl)⟩) (kz_preVM (wc := mW E Ad ((pSk 101 S).1)) (va_recv hK hP (ci := 2) (q0 := 0) rfl rfl) hG hS hAN hP hD kz_nilP kz_nilA) rfl rfl hl.1 rfl (lv_room (Nat.le_of_ble_eq_true rfl)) dX3_withT_11 ⟨(Nat.le_of_ble_eq_true rfl), (Nat.le_of_ble_eq_true rfl)⟩) hP hD hS hA (fun u H9 locs9 hu hP9 hD9 hS9 hzz hkk => ?_)
    clear hzz hkk hP hD hS H locs u
    revert hS9 hD9 hP9 locs9 H9
    intro H locs hP hD hS
    clear hM
    obtain ⟨r22, hM⟩ := hu
    replace r22 : rI ((pHas 4 ((pSk 101 S).1)).2) := r22
    replace hM : MOk ((pHas 4 ((pSk 101 S).1)).1) := hM
    replace hP : va_P (kD E) kcl (mW E Ad ((pHas 4 ((pSk 101 S).1)).1)) H := hP
    replace hD : va_D A (mW E Ad ((pHas 4 ((pSk 101 S).1)).1)) := hD
    show W p l e _ s m args below meth c H locs _ _ Q (F0 m 14 ls [.int (zI ((pHas 4 ((pSk 101 S).1)).2))])
    refine kz_if_eq (tgt := 39) hx hb dX3_withT_14 (by decide) (by omega) (fun c14 => ?_) (fun c14 => ?_)
    · skip
      refine kz_iconst hx hb dX3_withT_39 ?_
      have e0 : (pT pl) S = ((pHas 4 ((pSk 101 S).1)).1, 0) := by unfold pT; refine Eq.trans (pIf_t c6) ?_; refine Eq.trans (pIf_f c14) ?_; exact rfl
      have e1 : ((pT pl) S).2 = 0 := by rw [e0]
      have e3 : pC (pT pl) S = (pHas 4 ((pSk 101 S).1)).1 := by rw [← (PG.t pl).c S, e0]
      exact kz_zNret () hx hb hr hlk hP hD hS dX3_withT_40 (by decide) (congrArg (fun z : Int => some (Value.int (zI z))) e1) ⟨(kz_r e1 (by omega)), (kz_M e3 hM), (by have z := (PG.t pl).m S (by omega) (by omega); rw [(PG.t pl).c S] at z; exact z)⟩ (congrArg (mW E Ad) e3) hQ (Nat.le_of_ble_eq_true rfl) (Nat.le_of_ble_eq_true rfl)
    · skip
      refine lv_aload_n hx hb dX3_withT_17 rfl (lv_at hl 0 rfl) ?_
      have hl23 := hG.lit_ach
      refine va_ldcS hx hb hown (hG.ldc hl23 q2668 (Or.inl ⟨rfl, rfl⟩)) dX3_withT_18 ?_
      refine kz_backM (va_runV (As := [.ref ((litA E "SkipSchoolModel" 190))]) (rest := []) ⟨hx, hb, hml, hown, hts⟩ (mX3_isWord l E H.size Ad ((pHas 4 ((pSk 101 S).1)).1) hM (litA E "SkipSchoolModel" 190) (litV E "SkipSchoolModel" 190) [97, 99, 104] (by decide) (by decide) hl23.2.2.1 hl23.2.2.2.1 (show 0 ≤ (((pSk 101 S).1) 7 16) ∧ (((pSk 101 S).1) 7 16) ≤ (S 7 11) ∧ (S 7 11) ≤ 60 by first | omega | exact hI.st _ (by omega) (by omega) | exact hI.rv _ (by omega) (by omega) | exact hI)) (cwV 1 hts (lw_V q2650 q2652 qs64 q83 q2653) rfl rfl rfl (by decide +kernel) ⟨(Nat.le_of_ble_eq_true rfl), (Nat.le_of_ble_eq_true rfl)⟩) (kz_preXV (kz_preVM (wc := mW E Ad ((pHas 4 ((pSk 101 S).1)).1)) (va_recv hK hP (ci := 2) (q0 := 0) rfl rfl) hG hS hAN hP hD kz_nilP kz_nilA) (fun _ _ _ _ h => h) (fun U hU hW => hl23.1.on hS (fun z => absurd (hAN _ z) (Nat.not_le.mpr hl23.2.2.1)) (fun z => absurd (hAN _ z) (Nat.not_le.mpr hl23.2.2.2.1)) hU hW)) rfl rfl hl.1 rfl (lv_room (Nat.le_of_ble_eq_true rfl)) dX3_withT_20 ⟨(Nat.le_of_ble_eq_true rfl), (Nat.le_of_ble_eq_true rfl)⟩) hP hD hS hA (fun u H9 locs9 hu hP9 hD9 hS9 hzz hkk => ?_)
      clear hzz hkk hP hD hS H locs u
      revert hS9 hD9 hP9 locs9 H9
      intro H locs hP hD hS
      clear hM
      obtain ⟨r24, hM, p25⟩ := hu
      replace r24 : rI ((pWord ([97, 99, 104]) ((pHas 4 ((pSk 101 S).1)).1)).2) := r24
      replace hM : MOk (pC (pWord ([97, 99, 104])) ((pHas 4 ((pSk 101 S).1)).1)) := hM
      replace p25 : (((pSk 101 S).1) 7 16) ≤ (pC (pWord ([97, 99, 104])) ((pHas 4 ((pSk 101 S).1)).1)) 7 16 ∧ (pC (pWord ([97, 99, 104])) ((pHas 4 ((pSk 101 S).1)).1)) 7 16 ≤ (S 7 11) := p25
      replace hP : va_P (kD E) kcl (mW E Ad (pC (pWord ([97, 99, 104])) ((pHas 4 ((pSk 101 S).1)).1))) H := hP
      replace hD : va_D A (mW E Ad (pC (pWord ([97, 99, 104])) ((pHas 4 ((pSk 101 S).1)).1))) := hD
      show W p l e _ s m args below meth c H locs _ _ Q (F0 m 23 ls [.int (zI ((pWord ([97, 99, 104]) ((pHas 4 ((pSk 101 S).1)).1)).2))])
      refine kz_if_eq (tgt := 39) hx hb dX3_withT_23 (by decide) (by omega) (fun c23 => ?_) (fun c23 => ?_)
      · skip
        refine kz_iconst hx hb dX3_withT_39 ?_
        have e0 : (pT pl) S = (pC (pWord ([97, 99, 104])) ((pHas 4 ((pSk 101 S).1)).1), 0) := by unfold pT; refine Eq.trans (pIf_t c6) ?_; refine Eq.trans (pIf_t c14) ?_; refine Eq.trans (pIf_fC (PG.word _ (by decide)) c23) ?_; exact rfl
        have e1 : ((pT pl) S).2 = 0 := by rw [e0]
        have e3 : pC (pT pl) S = pC (pWord ([97, 99, 104])) ((pHas 4 ((pSk 101 S).1)).1) := by rw [← (PG.t pl).c S, e0]
        exact kz_zNret () hx hb hr hlk hP hD hS dX3_withT_40 (by decide) (congrArg (fun z : Int => some (Value.int (zI z))) e1) ⟨(kz_r e1 (by omega)), (kz_M e3 hM), (by have z := (PG.t pl).m S (by omega) (by omega); rw [(PG.t pl).c S] at z; exact z)⟩ (congrArg (mW E Ad) e3) hQ (Nat.le_of_ble_eq_true rfl) (Nat.le_of_ble_eq_true rfl)
      · skip
        refine lv_aload_n hx hb dX3_withT_26 rfl (lv_at hl 0 rfl) ?_
        refine lv_iload_n hx hb dX3_withT_27 rfl (lv_at hl 1 rfl) ?_
        refine kz_iconst hx hb dX3_withT_28 ?_
        refine kz_backM (va_runV (As := [.int (zI (pl)), .int (zI (1))]) (rest := []) ⟨hx, hb, hml, hown, hts⟩ (mX3_figures l E H.size Ad (pC (pWord ([97, 99, 104])) ((pHas 4 ((pSk 101 S).1)).1)) hM pl (by omega) 1 (by omega) (show 0 ≤ ((pC (pWord ([97, 99, 104])) ((pHas 4 ((pSk 101 S).1)).1)) 7 16) ∧ ((pC (pWord ([97, 99, 104])) ((pHas 4 ((pSk 101 S).1)).1)) 7 16) ≤ (S 7 11) ∧ (S 7 11) ≤ 60 by first | omega | exact hI.st _ (by omega) (by omega) | exact hI.rv _ (by omega) (by omega) | exact hI) (show 0 ≤ pl ∧ pl < 155 by first | omega | exact hI.st _ (by omega) (by omega) | exact hI.rv _ (by omega) (by omega) | exact hI) (show 1 ≤ 1 ∧ 1 ≤ 2 by first | omega | exact hI.st _ (by omega) (by omega) | exact hI.rv _ (by omega) (by omega) | exact hI)) (cwV 2 hts (lw_V q2656 q2658 qs65 q83 q2659) rfl rfl rfl (by decide +kernel) ⟨(Nat.le_of_ble_eq_true rfl), (Nat.le_of_ble_eq_true rfl)⟩) (kz_preVM (wc := mW E Ad (pC (pWord ([97, 99, 104])) ((pHas 4 ((pSk 101 S).1)).1))) (va_recv hK hP (ci := 2) (q0 := 0) rfl rfl) hG hS hAN hP hD kz_nilP kz_nilA) rfl rfl hl.1 rfl (lv_room (Nat.le_of_ble_eq_true rfl)) dX3_withT_29 ⟨(Nat.le_of_ble_eq_true rfl), (Nat.le_of_ble_eq_true rfl)⟩) hP hD hS hA (fun u H9 locs9 hu hP9 hD9 hS9 hzz hkk => ?_)
        clear hzz hkk hP hD hS H locs u
        revert hS9 hD9 hP9 locs9 H9
        intro H locs hP hD hS
        clear hM
        obtain ⟨r26, hM, p27⟩ := hu
        replace r26 : rI ((pFig pl 1 (pC (pWord ([97, 99, 104])) ((pHas 4 ((pSk 101 S).1)).1))).2) := r26
        replace hM : MOk ((pFig pl 1 (pC (pWord ([97, 99, 104])) ((pHas 4 ((pSk 101 S).1)).1))).1) := hM
        replace p27 : ((pC (pWord ([97, 99, 104])) ((pHas 4 ((pSk 101 S).1)).1)) 7 16) ≤ (pFig pl 1 (pC (pWord ([97, 99, 104])) ((pHas 4 ((pSk 101 S).1)).1))).1 7 16 ∧ (pFig pl 1 (pC (pWord ([97, 99, 104])) ((pHas 4 ((pSk 101 S).1)).1))).1 7 16 ≤ (S 7 11) := p27
        replace hP : va_P (kD E) kcl (mW E Ad ((pFig pl 1 (pC (pWord ([97, 99, 104])) ((pHas 4 ((pSk 101 S).1)).1))).1)) H := hP
        replace hD : va_D A (mW E Ad ((pFig pl 1 (pC (pWord ([97, 99, 104])) ((pHas 4 ((pSk 101 S).1)).1))).1)) := hD
        show W p l e _ s m args below meth c H locs _ _ Q (F0 m 32 ls [.int (zI ((pFig pl 1 (pC (pWord ([97, 99, 104])) ((pHas 4 ((pSk 101 S).1)).1))).2))])
        refine kz_if_eq (tgt := 39) hx hb dX3_withT_32 (by decide) (by omega) (fun c32 => ?_) (fun c32 => ?_)
        · skip
          refine kz_iconst hx hb dX3_withT_39 ?_
          have e0 : (pT pl) S = ((pFig pl 1 (pC (pWord ([97, 99, 104])) ((pHas 4 ((pSk 101 S).1)).1))).1, 0) := by unfold pT; refine Eq.trans (pIf_t c6) ?_; refine Eq.trans (pIf_t c14) ?_; refine Eq.trans (pIf_tC (PG.word _ (by decide)) c23) ?_; refine Eq.trans (pIf_f c32) ?_; exact rfl
          have e1 : ((pT pl) S).2 = 0 := by rw [e0]
          have e3 : pC (pT pl) S = (pFig pl 1 (pC (pWord ([97, 99, 104])) ((pHas 4 ((pSk 101 S).1)).1))).1 := by rw [← (PG.t pl).c S, e0]
          exact kz_zNret () hx hb hr hlk hP hD hS dX3_withT_40 (by decide) (congrArg (fun z : Int => some (Value.int (zI z))) e1) ⟨(kz_r e1 (by omega)), (kz_M e3 hM), (by have z := (PG.t pl).m S (by omega) (by omega); rw [(PG.t pl).c S] at z; exact z)⟩ (congrArg (mW E Ad) e3) hQ (Nat.le_of_ble_eq_true rfl) (Nat.le_of_ble_eq_true rfl)
        · skip
          refine kz_iconst hx hb dX3_withT_35 ?_
          refine lv_goto (tgt := 40) hx hb dX3_withT_36 (by decide) ?_
          have e0 : (pT pl) S = ((pFig pl 1 (pC (pWord ([97, 99, 104])) ((pHas 4 ((pSk 101 S).1)).1))).1, 1) := by unfold pT; refine Eq.trans (pIf_t c6) ?_; refine Eq.trans (pIf_t c14) ?_; refine Eq.trans (pIf_tC (PG.word _ (by decide)) c23) ?_; refine Eq.trans (pIf_t c32) ?_; exact rfl
          have e1 : ((pT pl) S).2 = 1 := by rw [e0]
          have e3 : pC (pT pl) S = (pFig pl 1 (pC (pWord ([97, 99, 104])) ((pHas 4 ((pSk 101 S).1)).1))).1 := by rw [← (PG.t pl).c S, e0]
          exact kz_zNret () hx hb hr hlk hP hD hS dX3_withT_40 (by decide) (congrArg (fun z : Int => some (Value.int (zI z))) e1) ⟨(kz_r e1 (by omega)), (kz_M e3 hM), (by have z := (PG.t pl).m S (by omega) (by omega); rw [(PG.t pl).c S] at z; exact z)⟩ (congrArg (mW E Ad) e3) hQ (Nat.le_of_ble_eq_true rfl) (Nat.le_of_ble_eq_true rfl)

set_option maxHeartbeats 4000000 in
set_option maxRecDepth 100000 in
theorem mX3_withF (l : Launch) (E : KE) (sz : Nat) (Ad : Nat → Nat) (S : St) (hM : MOk S) (pl : Int) (rpl : rI pl) (hat : 0 ≤ S 7 16 ∧ S 7 16 ≤ S 7 11 ∧ S 7 11 ≤ 60) (hpl : 1 ≤ pl ∧ pl ≤ 151) (htm : 0 ≤ S 7 18 ∧ S 7 18 ≤ 30) : Met l yX3_withF (ws_ yX3_withF cX3_withF 2 (some .boolean)) (rmk 5 0 0 107) (va_Pc [.ref (Ad 0), .int (zI pl)] (kP l E sz (mW E Ad S) [])) (kQ E (fun _ : Unit => rI ((pF pl S).2) ∧ MOk (pC (pF pl) S) ∧ S 7 16 ≤ (pC (pF pl) S) 7 16 ∧ (pC (pF pl) S) 7 16 ≤ S 7 11) (fun _ => some (.int (zI ((pF pl S).2)))) (fun _ => (mW E Ad (pC (pF pl) S))) (va_A (mW E Ad S) sz)) 0 0 (va_A (mW E Ad S) sz) := by
  refine kz_start (Qf := kQ E (fun _ : Unit => rI ((pF pl S).2) ∧ MOk (pC (pF pl) S) ∧ S 7 16 ≤ (pC (pF pl) S) 7 16 ∧ (pC (pF pl) S) 7 16 ≤ S 7 11) (fun _ => some (.int (zI ((pF pl S).2)))) (fun _ => (mW E Ad (pC (pF pl) S)))) (by decide) (Nat.le_of_ble_eq_true rfl) ?_
  intro p e s m args below meth c A ls Q H locs hx hb hr hlk hml hts hown hname hG hK hA hAN hP hD hR hRA hS hQ hl
  replace hown : s.vm.findClass RX3 = some m.cls := hown
  replace hl : lv_has ls 2 [(0, .ref (Ad 0)), (1, .int (zI (pl)))] := hl
  replace hP : va_P (kD E) kcl (mW E Ad (S)) H := hP
  replace hD : va_D A (mW E Ad (S)) := hD
  refine lv_aload_n hx hb dX3_withF_0 rfl (lv_at hl 0 rfl) ?_
  refine kz_bipush hx hb dX3_withF_1 (by decide) ?_
  refine kz_backM (va_runV (As := [.int (zI (114))]) (rest := []) ⟨hx, hb, hml, hown, hts⟩ (mX3_skipsOver l E H.size Ad S hM 114 (by omega) (show 0 ≤ (S 7 16) ∧ (S 7 16) ≤ (S 7 11) ∧ (S 7 11) ≤ 60 by first | omega | exact hI.st _ (by omega) (by omega) | exact hI.rv _ (by omega) (by omega) | exact hI) (show 0 ≤ 114 by first | omega | exact hI.st _ (by omega) (by omega) | exact hI.rv _ (by omega) (by omega) | exact hI)) (cwV 1 hts (lw_V q2637 q2639 qs61 q83 q2640) rfl rfl rfl (by decide +kernel) ⟨(Nat.le_of_ble_eq_true rfl), (Nat.le_of_ble_eq_true rfl)⟩) (kz_preVM (wc := mW E Ad S) (va_recv hK hP (ci := 2) (q0 := 0) rfl rfl) hG hS hAN hP hD kz_nilP kz_nilA) rfl rfl hl.1 rfl (lv_room (Nat.le_of_ble_eq_true rfl)) dX3_withF_3 ⟨(Nat.le_of_ble_eq_true rfl), (Nat.le_of_ble_eq_true rfl)⟩) hP hD hS hA (fun u H9 locs9 hu hP9 hD9 hS9 hzz hkk => ?_)
  clear hzz hkk hP hD hS H locs u
  revert hS9 hD9 hP9 locs9 H9
  intro H locs hP hD hS
  clear hM
  obtain ⟨r1, hM, p2, p3⟩ := hu
  replace r1 : rI ((pSk 114 S).2) := r1
  replace hM : MOk ((pSk 114 S).1) := hM
  replace p2 : (S 7 16) ≤ (pSk 114 S).1 7 16 ∧ (pSk 114 S).1 7 16 ≤ (S 7 11) := p2
  replace p3 : ((pSk 114 S).2 = 0 ∨ (S 7 16) + 1 ≤ (pSk 114 S).1 7 16) := p3
  replace hP : va_P (kD E) kcl (mW E Ad ((pSk 114 S).1)) H := hP
  replace hD : va_D A (mW E Ad ((pSk 114 S).1)) := hD
  show W p l e _ s m args below meth c H locs _ _ Q (F0 m 6 ls [.int (zI ((pSk 114 S).2))])
  refine kz_if_eq (tgt := 61) hx hb dX3_withF_6 (by decide) (by omega) (fun c6 => ?_) (fun c6 => ?_)
  · skip
    refine lv_aload_n hx hb dX3_withF_61 rfl (lv_at hl 0 rfl) ?_
    refine kz_bipush hx hb dX3_withF_62 (by decide) ?_
    refine kz_backM (va_runV (As := [.int (zI (101))]) (rest := []) ⟨hx, hb, hml, hown, hts⟩ (mX3_skipsOver l E H.size Ad ((pSk 114 S).1) hM 101 (by omega) (show 0 ≤ (((pSk 114 S).1) 7 16) ∧ (((pSk 114 S).1) 7 16) ≤ (S 7 11) ∧ (S 7 11) ≤ 60 by first | omega | exact hI.st _ (by omega) (by omega) | exact hI.rv _ (by omega) (by omega) | exact hI) (show 0 ≤ 101 by first | omega | exact hI.st _ (by omega) (by omega) | exact hI.rv _ (by omega) (by omega) | exact hI)) (cwV 1 hts (lw_V q2637 q2639 qs61 q83 q2640) rfl rfl rfl (by decide +kernel) ⟨(Nat.le_of_ble_eq_true rfl), (Nat.le_of_ble_eq_true rfl)⟩) (kz_preVM (wc := mW E Ad ((pSk 114 S).1)) (va_recv hK hP (ci := 2) (q0 := 0) rfl rfl) hG hS hAN hP hD kz_nilP kz_nilA) rfl rfl hl.1 rfl (lv_room (Nat.le_of_ble_eq_true rfl)) dX3_withF_64 ⟨(Nat.le_of_ble_eq_true rfl), (Nat.le_of_ble_eq_true rfl)⟩) hP hD hS hA (fun u H9 locs9 hu hP9 hD9 hS9 hzz hkk => ?_)
    clear hzz hkk hP hD hS H locs u
    revert hS9 hD9 hP9 locs9 H9
    intro H locs hP hD hS
    clear hM
    obtain ⟨r4, hM, p5, p6⟩ := hu
    replace r4 : rI ((pSk 101 ((pSk 114 S).1)).2) := r4
    replace hM : MOk ((pSk 101 ((pSk 114 S).1)).1) := hM
    replace p5 : (((pSk 114 S).1) 7 16) ≤ (pSk 101 ((pSk 114 S).1)).1 7 16 ∧ (pSk 101 ((pSk 114 S).1)).1 7 16 ≤ (S 7 11) := p5
    replace p6 : ((pSk 101 ((pSk 114 S).1)).2 = 0 ∨ (((pSk 114 S).1) 7 16) + 1 ≤ (pSk 101 ((pSk 114 S).1)).1 7 16) := p6
    replace hP : va_P (kD E) kcl (mW E Ad ((pSk 101 ((pSk 114 S).1)).1)) H := hP
    replace hD : va_D A (mW E Ad ((pSk 101 ((pSk 114 S).1)).1)) := hD
    show W p l e _ s m args below meth c H locs _ _ Q (F0 m 67 ls [.int (zI ((pSk 101 ((pSk 114 S).1)).2))])
    refine kz_if_eq (tgt := 101) hx hb dX3_withF_67 (by decide) (by omega) (fun c67 => ?_) (fun c67 => ?_)
    · skip
      refine kz_iconst hx hb dX3_withF_101 ?_
      have e0 : (pF pl) S = ((pSk 101 ((pSk 114 S).1)).1, 0) := by unfold pF; refine Eq.trans (pIf_f c6) ?_; refine Eq.trans (pIf_f c67) ?_; exact rfl
      have e1 : ((pF pl) S).2 = 0 := by rw [e0]
      have e3 : pC (pF pl) S = (pSk 101 ((pSk 114 S).1)).1 := by rw [← (PG.f pl).c S, e0]
      exact kz_zNret () hx hb hr hlk hP hD hS dX3_withF_102 (by decide) (congrArg (fun z : Int => some (Value.int (zI z))) e1) ⟨(kz_r e1 (by omega)), (kz_M e3 hM), (by have z := (PG.f pl).m S (by omega) (by omega); rw [(PG.f pl).c S] at z; exact z)⟩ (congrArg (mW E Ad) e3) hQ (Nat.le_of_ble_eq_true rfl) (Nat.le_of_ble_eq_true rfl)
    · skip
      refine lv_aload_n hx hb dX3_withF_70 rfl (lv_at hl 0 rfl) ?_
      refine kz_bipush hx hb dX3_withF_71 (by decide) ?_
      refine kz_backM (va_runV (As := [.int (zI (7))]) (rest := []) ⟨hx, hb, hml, hown, hts⟩ (mX3_hasOrder l E H.size Ad ((pSk 101 ((pSk 114 S).1)).1) hM 7 (by omega) (show 0 ≤ (S 7 18) ∧ (S 7 18) ≤ 30 by first | omega | exact hI.st _ (by omega) (by omega) | exact hI.rv _ (by omega) (by omega) | exact hI)) (cwV 1 hts (lw_V q2645 q2647 qs63 q83 q2648) rfl rfl rfl (by decide +kernel) ⟨(Nat.le_of_ble_eq_true rfl), (Nat.le_of_ble_eq_true rfl)⟩) (kz_preVM (wc := mW E Ad ((pSk 101 ((pSk 114 S).1)).1)) (va_recv hK hP (ci := 2) (q0 := 0) rfl rfl) hG hS hAN hP hD kz_nilP kz_nilA) rfl rfl hl.1 rfl (lv_room (Nat.le_of_ble_eq_true rfl)) dX3_withF_73 ⟨(Nat.le_of_ble_eq_true rfl), (Nat.le_of_ble_eq_true rfl)⟩) hP hD hS hA (fun u H9 locs9 hu hP9 hD9 hS9 hzz hkk => ?_)
      clear hzz hkk hP hD hS H locs u
      revert hS9 hD9 hP9 locs9 H9
      intro H locs hP hD hS
      clear hM
      obtain ⟨r7, hM⟩ := hu
      replace r7 : rI ((pHas 7 ((pSk 101 ((pSk 114 S).1)).1)).2) := r7
      replace hM : MOk ((pHas 7 ((pSk 101 ((pSk 114 S).1)).1)).1) := hM
      replace hP : va_P (kD E) kcl (mW E Ad ((pHas 7 ((pSk 101 ((pSk 114 S).1)).1)).1)) H := hP
      replace hD : va_D A (mW E Ad ((pHas 7 ((pSk 101 ((pSk 114 S).1)).1)).1)) := hD
      show W p l e _ s m args below meth c H locs _ _ Q (F0 m 76 ls [.int (zI ((pHas 7 ((pSk 101 ((pSk 114 S).1)).1)).2))])
      refine kz_if_eq (tgt := 101) hx hb dX3_withF_76 (by decide) (by omega) (fun c76 => ?_) (fun c76 => ?_)
      · skip
        refine kz_iconst hx hb dX3_withF_101 ?_
        have e0 : (pF pl) S = ((pHas 7 ((pSk 101 ((pSk 114 S).1)).1)).1, 0) := by unfold pF; refine Eq.trans (pIf_f c6) ?_; refine Eq.trans (pIf_t c67) ?_; refine Eq.trans (pIf_f c76) ?_; exact rfl
        have e1 : ((pF pl) S).2 = 0 := by rw [e0]
        have e3 : pC (pF pl) S = (pHas 7 ((pSk 101 ((pSk 114 S).1)).1)).1 := by rw [← (PG.f pl).c S, e0]
        exact kz_zNret () hx hb hr hlk hP hD hS dX3_withF_102 (by decide) (congrArg (fun z : Int => some (Value.int (zI z))) e1) ⟨(kz_r e1 (by omega)), (kz_M e3 hM), (by have z := (PG.f pl).m S (by omega) (by omega); rw [(PG.f pl).c S] at z; exact z)⟩ (congrArg (mW E Ad) e3) hQ (Nat.le_of_ble_eq_true rfl) (Nat.le_of_ble_eq_true rfl)
      · skip
        refine lv_aload_n hx hb dX3_withF_79 rfl (lv_at hl 0 rfl) ?_
        have hl8 := hG.lit_tch
        refine va_ldcS hx hb hown (hG.ldc hl8 q2680 (Or.inl ⟨rfl, rfl⟩)) dX3_withF_80 ?_
        refine kz_backM (va_runV (As := [.ref ((litA E "SkipSchoolModel" 205))]) (rest := []) ⟨hx, hb, hml, hown, hts⟩ (mX3_isWord l E H.size Ad ((pHas 7 ((pSk 101 ((pSk 114 S).1)).1)).1) hM (litA E "SkipSchoolModel" 205) (litV E "SkipSchoolModel" 205) [116, 99, 104] (by decide) (by decide) hl8.2.2.1 hl8.2.2.2.1 (show 0 ≤ (((pSk 101 ((pSk 114 S).1)).1) 7 16) ∧ (((pSk 101 ((pSk 114 S).1)).1) 7 16) ≤ (S 7 11) ∧ (S 7 11) ≤ 60 by first | omega | exact hI.st _ (by omega) (by omega) | exact hI.rv _ (by omega) (by omega) | exact hI)) (cwV 1 hts (lw_V q2650 q2652 qs64 q83 q2653) rfl rfl rfl (by decide +kernel) ⟨(Nat.le_of_ble_eq_true rfl), (Nat.le_of_ble_eq_true rfl)⟩) (kz_preXV (kz_preVM (wc := mW E Ad ((pHas 7 ((pSk 101 ((pSk 114 S).1)).1)).1)) (va_recv hK hP (ci := 2) (q0 := 0) rfl rfl) hG hS hAN hP hD kz_nilP kz_nilA) (fun _ _ _ _ h => h) (fun U hU hW => hl8.1.on hS (fun z => absurd (hAN _ z) (Nat.not_le.mpr hl8.2.2.1)) (fun z => absurd (hAN _ z) (Nat.not_le.mpr hl8.2.2.2.1)) hU hW)) rfl rfl hl.1 rfl (lv_room (Nat.le_of_ble_eq_true rfl)) dX3_withF_82 ⟨(Nat.le_of_ble_eq_true rfl), (Nat.le_of_ble_eq_true rfl)⟩) hP hD hS hA (fun u H9 locs9 hu hP9 hD9 hS9 hzz hkk => ?_)
        clear hzz hkk hP hD hS H locs u
        revert hS9 hD9 hP9 locs9 H9
        intro H locs hP hD hS
        clear hM
        obtain ⟨r9, hM, p10⟩ := hu
        replace r9 : rI ((pWord ([116, 99, 104]) ((pHas 7 ((pSk 101 ((pSk 114 S).1)).1)).1)).2) := r9
        replace hM : MOk (pC (pWord ([116, 99, 104])) ((pHas 7 ((pSk 101 ((pSk 114 S).1)).1)).1)) := hM
        replace p10 : (((pSk 101 ((pSk 114 S).1)).1) 7 16) ≤ (pC (pWord ([116, 99, 104])) ((pHas 7 ((pSk 101 ((pSk 114 S).1)).1)).1)) 7 16 ∧ (pC (pWord ([116, 99, 104])) ((pHas 7 ((pSk 101 ((pSk 114 S).1)).1)).1)) 7 16 ≤ (S 7 11) := p10
        replace hP : va_P (kD E) kcl (mW E Ad (pC (pWord ([116, 99, 104])) ((pHas 7 ((pSk 101 ((pSk 114 S).1)).1)).1))) H := hP
        replace hD : va_D A (mW E Ad (pC (pWord ([116, 99, 104])) ((pHas 7 ((pSk 101 ((pSk 114 S).1)).1)).1))) := hD
        show W p l e _ s m args below meth c H locs _ _ Q (F0 m 85 ls [.int (zI ((pWord ([116, 99, 104]) ((pHas 7 ((pSk 101 ((pSk 114 S).1)).1)).1)).2))])
        refine kz_if_eq (tgt := 101) hx hb dX3_withF_85 (by decide) (by omega) (fun c85 => ?_) (fun c85 => ?_)
        · skip
          refine kz_iconst hx hb dX3_withF_101 ?_
          have e0 : (pF pl) S = (pC (pWord ([116, 99, 104])) ((pHas 7 ((pSk 101 ((pSk 114 S).1)).1)).1), 0) := by unfold pF; refine Eq.trans (pIf_f c6) ?_; refine Eq.trans (pIf_t c67) ?_; refine Eq.trans (pIf_t c76) ?_; refine Eq.trans (pIf_fC (PG.word _ (by decide)) c85) ?_; exact rfl
          have e1 : ((pF pl) S).2 = 0 := by rw [e0]
          have e3 : pC (pF pl) S = pC (pWord ([116, 99, 104])) ((pHas 7 ((pSk 101 ((pSk 114 S).1)).1)).1) := by rw [← (PG.f pl).c S, e0]
          exact kz_zNret () hx hb hr hlk hP hD hS dX3_withF_102 (by decide) (congrArg (fun z : Int => some (Value.int (zI z))) e1) ⟨(kz_r e1 (by omega)), (kz_M e3 hM), (by have z := (PG.f pl).m S (by omega) (by omega); rw [(PG.f pl).c S] at z; exact z)⟩ (congrArg (mW E Ad) e3) hQ (Nat.le_of_ble_eq_true rfl) (Nat.le_of_ble_eq_true rfl)
        · skip
          refine lv_aload_n hx hb dX3_withF_88 rfl (lv_at hl 0 rfl) ?_
          refine lv_iload_n hx hb dX3_withF_89 rfl (lv_at hl 1 rfl) ?_
          refine kz_iconst hx hb dX3_withF_90 ?_
          refine kz_backM (va_runV (As := [.int (zI (pl)), .int (zI (1))]) (rest := []) ⟨hx, hb, hml, hown, hts⟩ (mX3_figures l E H.size Ad (pC (pWord ([116, 99, 104])) ((pHas 7 ((pSk 101 ((pSk 114 S).1)).1)).1)) hM pl (by omega) 1 (by omega) (show 0 ≤ ((pC (pWord ([116, 99, 104])) ((pHas 7 ((pSk 101 ((pSk 114 S).1)).1)).1)) 7 16) ∧ ((pC (pWord ([116, 99, 104])) ((pHas 7 ((pSk 101 ((pSk 114 S).1)).1)).1)) 7 16) ≤ (S 7 11) ∧ (S 7 11) ≤ 60 by first | omega | exact hI.st _ (by omega) (by omega) | exact hI.rv _ (by omega) (by omega) | exact hI) (show 0 ≤ pl ∧ pl < 155 by first | omega | exact hI.st _ (by omega) (by omega) | exact hI.rv _ (by omega) (by omega) | exact hI) (show 1 ≤ 1 ∧ 1 ≤ 2 by first | omega | exact hI.st _ (by omega) (by omega) | exact hI.rv _ (by omega) (by omega) | exact hI)) (cwV 2 hts (lw_V q2656 q2658 qs65 q83 q2659) rfl rfl rfl (by decide +kernel) ⟨(Nat.le_of_ble_eq_true rfl), (Nat.le_of_ble_eq_true rfl)⟩) (kz_preVM (wc := mW E Ad (pC (pWord ([116, 99, 104])) ((pHas 7 ((pSk 101 ((pSk 114 S).1)).1)).1))) (va_recv hK hP (ci := 2) (q0 := 0) rfl rfl) hG hS hAN hP hD kz_nilP kz_nilA) rfl rfl hl.1 rfl (lv_room (Nat.le_of_ble_eq_true rfl)) dX3_withF_91 ⟨(Nat.le_of_ble_eq_true rfl), (Nat.le_of_ble_eq_true rfl)⟩) hP hD hS hA (fun u H9 locs9 hu hP9 hD9 hS9 hzz hkk => ?_)
          clear hzz hkk hP hD hS H locs u
          revert hS9 hD9 hP9 locs9 H9
          intro H locs hP hD hS
          clear hM
          obtain ⟨r11, hM, p12⟩ := hu
          replace r11 : rI ((pFig pl 1 (pC (pWord ([116, 99, 104])) ((pHas 7 ((pSk 101 ((pSk 114 S).1)).1)).1))).2) := r11
          replace hM : MOk ((pFig pl 1 (pC (pWord ([116, 99, 104])) ((pHas 7 ((pSk 101 ((pSk 114 S).1)).1)).1))).1) := hM
          replace p12 : ((pC (pWord ([116, 99, 104])) ((pHas 7 ((pSk 101 ((pSk 114 S).1)).1)).1)) 7 16) ≤ (pFig pl 1 (pC (pWord ([116, 99, 104])) ((pHas 7 ((pSk 101 ((pSk 114 S).1)).1)).1))).1 7 16 ∧ (pFig pl 1 (pC (pWord ([116, 99, 104])) ((pHas 7 ((pSk 101 ((pSk 114 S).1)).1)).1))).1 7 16 ≤ (S 7 11) := p12
          replace hP : va_P (kD E) kcl (mW E Ad ((pFig pl 1 (pC (pWord ([116, 99, 104])) ((pHas 7 ((pSk 101 ((pSk 114 S).1)).1)).1))).1)) H := hP
          replace hD : va_D A (mW E Ad ((pFig pl 1 (pC (pWord ([116, 99, 104])) ((pHas 7 ((pSk 101 ((pSk 114 S).1)).1)).1))).1)) := hD
          show W p l e _ s m args below meth c H locs _ _ Q (F0 m 94 ls [.int (zI ((pFig pl 1 (pC (pWord ([116, 99, 104])) ((pHas 7 ((pSk 101 ((pSk 114 S).1)).1)).1))).2))])
          refine kz_if_eq (tgt := 101) hx hb dX3_withF_94 (by decide) (by omega) (fun c94 => ?_) (fun c94 => ?_)
          · skip
            refine kz_iconst hx hb dX3_withF_101 ?_
            have e0 : (pF pl) S = ((pFig pl 1 (pC (pWord ([116, 99, 104])) ((pHas 7 ((pSk 101 ((pSk 114 S).1)).1)).1))).1, 0) := by unfold pF; refine Eq.trans (pIf_f c6) ?_; refine Eq.trans (pIf_t c67) ?_; refine Eq.trans (pIf_t c76) ?_; refine Eq.trans (pIf_tC (PG.word _ (by decide)) c85) ?_; refine Eq.trans (pIf_f c94) ?_; exact rfl
            have e1 : ((pF pl) S).2 = 0 := by rw [e0]
            have e3 : pC (pF pl) S = (pFig pl 1 (pC (pWord ([116, 99, 104])) ((pHas 7 ((pSk 101 ((pSk 114 S).1)).1)).1))).1 := by rw [← (PG.f pl).c S, e0]
            exact kz_zNret () hx hb hr hlk hP hD hS dX3_withF_102 (by decide) (congrArg (fun z : Int => some (Value.int (zI z))) e1) ⟨(kz_r e1 (by omega)), (kz_M e3 hM), (by have z := (PG.f pl).m S (by omega) (by omega); rw [(PG.f pl).c S] at z; exact z)⟩ (congrArg (mW E Ad) e3) hQ (Nat.le_of_ble_eq_true rfl) (Nat.le_of_ble_eq_true rfl)
          · skip
            refine kz_iconst hx hb dX3_withF_97 ?_
            refine lv_goto (tgt := 102) hx hb dX3_withF_98 (by decide) ?_
            have e0 : (pF pl) S = ((pFig pl 1 (pC (pWord ([116, 99, 104])) ((pHas 7 ((pSk 101 ((pSk 114 S).1)).1)).1))).1, 1) := by unfold pF; refine Eq.trans (pIf_f c6) ?_; refine Eq.trans (pIf_t c67) ?_; refine Eq.trans (pIf_t c76) ?_; refine Eq.trans (pIf_tC (PG.word _ (by decide)) c85) ?_; refine Eq.trans (pIf_t c94) ?_; exact rfl
            have e1 : ((pF pl) S).2 = 1 := by rw [e0]
            have e3 : pC (pF pl) S = (pFig pl 1 (pC (pWord ([116, 99, 104])) ((pHas 7 ((pSk 101 ((pSk 114 S).1)).1)).1))).1 := by rw [← (PG.f pl).c S, e0]
            exact kz_zNret () hx hb hr hlk hP hD hS dX3_withF_102 (by decide) (congrArg (fun z : Int => some (Value.int (zI z))) e1) ⟨(kz_r e1 (by omega)), (kz_M e3 hM), (by have z := (PG.f pl).m S (by omega) (by omega); rw [(PG.f pl).c S] at z; exact z)⟩ (congrArg (mW E Ad) e3) hQ (Nat.le_of_ble_eq_true rfl) (Nat.le_of_ble_eq_true rfl)
  · skip
    refine lv_aload_n hx hb dX3_withF_9 rfl (lv_at hl 0 rfl) ?_
    refine kz_iconst hx hb dX3_withF_10 ?_
    refine kz_backM (va_runV (As := [.int (zI (3))]) (rest := []) ⟨hx, hb, hml, hown, hts⟩ (mX3_hasOrder l E H.size Ad ((pSk 114 S).1) hM 3 (by omega) (show 0 ≤ (S 7 18) ∧ (S 7 18) ≤ 30 by first | omega | exact hI.st _ (by omega) (by omega) | exact hI.rv _ (by omega) (by omega) | exact hI)) (cwV 1 hts (lw_V q2645 q2647 qs63 q83 q2648) rfl rfl rfl (by decide +kernel) ⟨(Nat.le_of_ble_eq_true rfl), (Nat.le_of_ble_eq_true rfl)⟩) (kz_preVM (wc := mW E Ad ((pSk 114 S).1)) (va_recv hK hP (ci := 2) (q0 := 0) rfl rfl) hG hS hAN hP hD kz_nilP kz_nilA) rfl rfl hl.1 rfl (lv_room (Nat.le_of_ble_eq_true rfl)) dX3_withF_11 ⟨(Nat.le_of_ble_eq_true rfl), (Nat.le_of_ble_eq_true rfl)⟩) hP hD hS hA (fun u H9 locs9 hu hP9 hD9 hS9 hzz hkk => ?_)
    clear hzz hkk hP hD hS H locs u
    revert hS9 hD9 hP9 locs9 H9
    intro H locs hP hD hS
    clear hM
    obtain ⟨r13, hM⟩ := hu
    replace r13 : rI ((pHas 3 ((pSk 114 S).1)).2) := r13
    replace hM : MOk ((pHas 3 ((pSk 114 S).1)).1) := hM
    replace hP : va_P (kD E) kcl (mW E Ad ((pHas 3 ((pSk 114 S).1)).1)) H := hP
    replace hD : va_D A (mW E Ad ((pHas 3 ((pSk 114 S).1)).1)) := hD
    show W p l e _ s m args below meth c H locs _ _ Q (F0 m 14 ls [.int (zI ((pHas 3 ((pSk 114 S).1)).2))])
    refine kz_if_eq (tgt := 59) hx hb dX3_withF_14 (by decide) (by omega) (fun c14 => ?_) (fun c14 => ?_)
    · skip
      refine kz_iconst hx hb dX3_withF_59 ?_
      have e0 : (pF pl) S = ((pHas 3 ((pSk 114 S).1)).1, 0) := by unfold pF; refine Eq.trans (pIf_t c6) ?_; refine Eq.trans (pIf_f c14) ?_; exact rfl
      have e1 : ((pF pl) S).2 = 0 := by rw [e0]
      have e3 : pC (pF pl) S = (pHas 3 ((pSk 114 S).1)).1 := by rw [← (PG.f pl).c S, e0]
      exact kz_zNret () hx hb hr hlk hP hD hS dX3_withF_60 (by decide) (congrArg (fun z : Int => some (Value.int (zI z))) e1) ⟨(kz_r e1 (by omega)), (kz_M e3 hM), (by have z := (PG.f pl).m S (by omega) (by omega); rw [(PG.f pl).c S] at z; exact z)⟩ (congrArg (mW E Ad) e3) hQ (Nat.le_of_ble_eq_true rfl) (Nat.le_of_ble_eq_true rfl)
    · skip
      refine lv_aload_n hx hb dX3_withF_17 rfl (lv_at hl 0 rfl) ?_
      have hl14 := hG.lit_ee
      refine va_ldcS hx hb hown (hG.ldc hl14 q2679 (Or.inl ⟨rfl, rfl⟩)) dX3_withF_18 ?_
      refine kz_backM (va_runV (As := [.ref ((litA E "SkipSchoolModel" 203))]) (rest := []) ⟨hx, hb, hml, hown, hts⟩ (mX3_isWord l E H.size Ad ((pHas 3 ((pSk 114 S).1)).1) hM (litA E "SkipSchoolModel" 203) (litV E "SkipSchoolModel" 203) [101, 101] (by decide) (by decide) hl14.2.2.1 hl14.2.2.2.1 (show 0 ≤ (((pSk 114 S).1) 7 16) ∧ (((pSk 114 S).1) 7 16) ≤ (S 7 11) ∧ (S 7 11) ≤ 60 by first | omega | exact hI.st _ (by omega) (by omega) | exact hI.rv _ (by omega) (by omega) | exact hI)) (cwV 1 hts (lw_V q2650 q2652 qs64 q83 q2653) rfl rfl rfl (by decide +kernel) ⟨(Nat.le_of_ble_eq_true rfl), (Nat.le_of_ble_eq_true rfl)⟩) (kz_preXV (kz_preVM (wc := mW E Ad ((pHas 3 ((pSk 114 S).1)).1)) (va_recv hK hP (ci := 2) (q0 := 0) rfl rfl) hG hS hAN hP hD kz_nilP kz_nilA) (fun _ _ _ _ h => h) (fun U hU hW => hl14.1.on hS (fun z => absurd (hAN _ z) (Nat.not_le.mpr hl14.2.2.1)) (fun z => absurd (hAN _ z) (Nat.not_le.mpr hl14.2.2.2.1)) hU hW)) rfl rfl hl.1 rfl (lv_room (Nat.le_of_ble_eq_true rfl)) dX3_withF_20 ⟨(Nat.le_of_ble_eq_true rfl), (Nat.le_of_ble_eq_true rfl)⟩) hP hD hS hA (fun u H9 locs9 hu hP9 hD9 hS9 hzz hkk => ?_)
      clear hzz hkk hP hD hS H locs u
      revert hS9 hD9 hP9 locs9 H9
      intro H locs hP hD hS
      clear hM
      obtain ⟨r15, hM, p16⟩ := hu
      replace r15 : rI ((pWord ([101, 101]) ((pHas 3 ((pSk 114 S).1)).1)).2) := r15
      replace hM : MOk (pC (pWord ([101, 101])) ((pHas 3 ((pSk 114 S).1)).1)) := hM
      replace p16 : (((pSk 114 S).1) 7 16) ≤ (pC (pWord ([101, 101])) ((pHas 3 ((pSk 114 S).1)).1)) 7 16 ∧ (pC (pWord ([101, 101])) ((pHas 3 ((pSk 114 S).1)).1)) 7 16 ≤ (S 7 11) := p16
      replace hP : va_P (kD E) kcl (mW E Ad (pC (pWord ([101, 101])) ((pHas 3 ((pSk 114 S).1)).1))) H := hP
      replace hD : va_D A (mW E Ad (pC (pWord ([101, 101])) ((pHas 3 ((pSk 114 S).1)).1))) := hD
      show W p l e _ s m args below meth c H locs _ _ Q (F0 m 23 ls [.int (zI ((pWord ([101, 101]) ((pHas 3 ((pSk 114 S).1)).1)).2))])
      refine kz_if_eq (tgt := 59) hx hb dX3_withF_23 (by decide) (by omega) (fun c23 => ?_) (fun c23 => ?_)
      · skip
        refine kz_iconst hx hb dX3_withF_59 ?_
        have e0 : (pF pl) S = (pC (pWord ([101, 101])) ((pHas 3 ((pSk 114 S).1)).1), 0) := by unfold pF; refine Eq.trans (pIf_t c6) ?_; refine Eq.trans (pIf_t c14) ?_; refine Eq.trans (pIf_fC (PG.word _ (by decide)) c23) ?_; exact rfl
        have e1 : ((pF pl) S).2 = 0 := by rw [e0]
        have e3 : pC (pF pl) S = pC (pWord ([101, 101])) ((pHas 3 ((pSk 114 S).1)).1) := by rw [← (PG.f pl).c S, e0]
        exact kz_zNret () hx hb hr hlk hP hD hS dX3_withF_60 (by decide) (congrArg (fun z : Int => some (Value.int (zI z))) e1) ⟨(kz_r e1 (by omega)), (kz_M e3 hM), (by have z := (PG.f pl).m S (by omega) (by omega); rw [(PG.f pl).c S] at z; exact z)⟩ (congrArg (mW E Ad) e3) hQ (Nat.le_of_ble_eq_true rfl) (Nat.le_of_ble_eq_true rfl)
      · skip
        refine lv_aload_n hx hb dX3_withF_26 rfl (lv_at hl 0 rfl) ?_
        refine lv_iload_n hx hb dX3_withF_27 rfl (lv_at hl 1 rfl) ?_
        refine kz_iconst hx hb dX3_withF_28 ?_
        refine kz_backM (va_runV (As := [.int (zI (pl)), .int (zI (1))]) (rest := []) ⟨hx, hb, hml, hown, hts⟩ (mX3_figures l E H.size Ad (pC (pWord ([101, 101])) ((pHas 3 ((pSk 114 S).1)).1)) hM pl (by omega) 1 (by omega) (show 0 ≤ ((pC (pWord ([101, 101])) ((pHas 3 ((pSk 114 S).1)).1)) 7 16) ∧ ((pC (pWord ([101, 101])) ((pHas 3 ((pSk 114 S).1)).1)) 7 16) ≤ (S 7 11) ∧ (S 7 11) ≤ 60 by first | omega | exact hI.st _ (by omega) (by omega) | exact hI.rv _ (by omega) (by omega) | exact hI) (show 0 ≤ pl ∧ pl < 155 by first | omega | exact hI.st _ (by omega) (by omega) | exact hI.rv _ (by omega) (by omega) | exact hI) (show 1 ≤ 1 ∧ 1 ≤ 2 by first | omega | exact hI.st _ (by omega) (by omega) | exact hI.rv _ (by omega) (by omega) | exact hI)) (cwV 2 hts (lw_V q2656 q2658 qs65 q83 q2659) rfl rfl rfl (by decide +kernel) ⟨(Nat.le_of_ble_eq_true rfl), (Nat.le_of_ble_eq_true rfl)⟩) (kz_preVM (wc := mW E Ad (pC (pWord ([101, 101])) ((pHas 3 ((pSk 114 S).1)).1))) (va_recv hK hP (ci := 2) (q0 := 0) rfl rfl) hG hS hAN hP hD kz_nilP kz_nilA) rfl rfl hl.1 rfl (lv_room (Nat.le_of_ble_eq_true rfl)) dX3_withF_29 ⟨(Nat.le_of_ble_eq_true rfl), (Nat.le_of_ble_eq_true rfl)⟩) hP hD hS hA (fun u H9 locs9 hu hP9 hD9 hS9 hzz hkk => ?_)
        clear hzz hkk hP hD hS H locs u
        revert hS9 hD9 hP9 locs9 H9
        intro H locs hP hD hS
        clear hM
        obtain ⟨r17, hM, p18⟩ := hu
        replace r17 : rI ((pFig pl 1 (pC (pWord ([101, 101])) ((pHas 3 ((pSk 114 S).1)).1))).2) := r17
        replace hM : MOk ((pFig pl 1 (pC (pWord ([101, 101])) ((pHas 3 ((pSk 114 S).1)).1))).1) := hM
        replace p18 : ((pC (pWord ([101, 101])) ((pHas 3 ((pSk 114 S).1)).1)) 7 16) ≤ (pFig pl 1 (pC (pWord ([101, 101])) ((pHas 3 ((pSk 114 S).1)).1))).1 7 16 ∧ (pFig pl 1 (pC (pWord ([101, 101])) ((pHas 3 ((pSk 114 S).1)).1))).1 7 16 ≤ (S 7 11) := p18
        replace hP : va_P (kD E) kcl (mW E Ad ((pFig pl 1 (pC (pWord ([101, 101])) ((pHas 3 ((pSk 114 S).1)).1))).1)) H := hP
        replace hD : va_D A (mW E Ad ((pFig pl 1 (pC (pWord ([101, 101])) ((pHas 3 ((pSk 114 S).1)).1))).1)) := hD
        show W p l e _ s m args below meth c H locs _ _ Q (F0 m 32 ls [.int (zI ((pFig pl 1 (pC (pWord ([101, 101])) ((pHas 3 ((pSk 114 S).1)).1))).2))])
        refine kz_if_eq (tgt := 59) hx hb dX3_withF_32 (by decide) (by omega) (fun c32 => ?_) (fun c32 => ?_)
        · skip
          refine kz_iconst hx hb dX3_withF_59 ?_
          have e0 : (pF pl) S = ((pFig pl 1 (pC (pWord ([101, 101])) ((pHas 3 ((pSk 114 S).1)).1))).1, 0) := by unfold pF; refine Eq.trans (pIf_t c6) ?_; refine Eq.trans (pIf_t c14) ?_; refine Eq.trans (pIf_tC (PG.word _ (by decide)) c23) ?_; refine Eq.trans (pIf_f c32) ?_; exact rfl
          have e1 : ((pF pl) S).2 = 0 := by rw [e0]
          have e3 : pC (pF pl) S = (pFig pl 1 (pC (pWord ([101, 101])) ((pHas 3 ((pSk 114 S).1)).1))).1 := by rw [← (PG.f pl).c S, e0]
          exact kz_zNret () hx hb hr hlk hP hD hS dX3_withF_60 (by decide) (congrArg (fun z : Int => some (Value.int (zI z))) e1) ⟨(kz_r e1 (by omega)), (kz_M e3 hM), (by have z := (PG.f pl).m S (by omega) (by omega); rw [(PG.f pl).c S] at z; exact z)⟩ (congrArg (mW E Ad) e3) hQ (Nat.le_of_ble_eq_true rfl) (Nat.le_of_ble_eq_true rfl)
        · skip
          refine lv_aload_n hx hb dX3_withF_35 rfl (lv_at hl 0 rfl) ?_
          refine kz_bipush hx hb dX3_withF_36 (by decide) ?_
          refine kz_backM (va_runV (As := [.int (zI (43))]) (rest := []) ⟨hx, hb, hml, hown, hts⟩ (mX3_skipsOver l E H.size Ad ((pFig pl 1 (pC (pWord ([101, 101])) ((pHas 3 ((pSk 114 S).1)).1))).1) hM 43 (by omega) (show 0 ≤ (((pFig pl 1 (pC (pWord ([101, 101])) ((pHas 3 ((pSk 114 S).1)).1))).1) 7 16) ∧ (((pFig pl 1 (pC (pWord ([101, 101])) ((pHas 3 ((pSk 114 S).1)).1))).1) 7 16) ≤ (S 7 11) ∧ (S 7 11) ≤ 60 by first | omega | exact hI.st _ (by omega) (by omega) | exact hI.rv _ (by omega) (by omega) | exact hI) (show 0 ≤ 43 by first | omega | exact hI.st _ (by omega) (by omega) | exact hI.rv _ (by omega) (by omega) | exact hI)) (cwV 1 hts (lw_V q2637 q2639 qs61 q83 q2640) rfl rfl rfl (by decide +kernel) ⟨(Nat.le_of_ble_eq_true rfl), (Nat.le_of_ble_eq_true rfl)⟩) (kz_preVM (wc := mW E Ad ((pFig pl 1 (pC (pWord ([101, 101])) ((pHas 3 ((pSk 114 S).1)).1))).1)) (va_recv hK hP (ci := 2) (q0 := 0) rfl rfl) hG hS hAN hP hD kz_nilP kz_nilA) rfl rfl hl.1 rfl (lv_room (Nat.le_of_ble_eq_true rfl)) dX3_withF_38 ⟨(Nat.le_of_ble_eq_true rfl), (Nat.le_of_ble_eq_true rfl)⟩) hP hD hS hA (fun u H9 locs9 hu hP9 hD9 hS9 hzz hkk => ?_)
          clear hzz hkk hP hD hS H locs u
          revert hS9 hD9 hP9 locs9 H9
          intro H locs hP hD hS
          clear hM
          obtain ⟨r19, hM, p20, p21⟩ := hu
          replace r19 : rI ((pSk 43 ((pFig pl 1 (pC (pWord ([101, 101])) ((pHas 3 ((pSk 114 S).1)).1))).1)).2) := r19
          replace hM : MOk ((pSk 43 ((pFig pl 1 (pC (pWord ([101, 101])) ((pHas 3 ((pSk 114 S).1)).1))).1)).1) := hM
          replace p20 : (((pFig pl 1 (pC (pWord ([101, 101])) ((pHas 3 ((pSk 114 S).1)).1))).1) 7 16) ≤ (pSk 43 ((pFig pl 1 (pC (pWord ([101, 101])) ((pHas 3 ((pSk 114 S).1)).1))).1)).1 7 16 ∧ (pSk 43 ((pFig pl 1 (pC (pWord ([101, 101])) ((pHas 3 ((pSk 114 S).1)).1))).1)).1 7 16 ≤ (S 7 11) := p20
          replace p21 : ((pSk 43 ((pFig pl 1 (pC (pWord ([101, 101])) ((pHas 3 ((pSk 114 S).1)).1))).1)).2 = 0 ∨ (((pFig pl 1 (pC (pWord ([101, 101])) ((pHas 3 ((pSk 114 S).1)).1))).1) 7 16) + 1 ≤ (pSk 43 ((pFig pl 1 (pC (pWord ([101, 101])) ((pHas 3 ((pSk 114 S).1)).1))).1)).1 7 16) := p21
          replace hP : va_P (kD E) kcl (mW E Ad ((pSk 43 ((pFig pl 1 (pC (pWord ([101, 101])) ((pHas 3 ((pSk 114 S).1)).1))).1)).1)) H := hP
          replace hD : va_D A (mW E Ad ((pSk 43 ((pFig pl 1 (pC (pWord ([101, 101])) ((pHas 3 ((pSk 114 S).1)).1))).1)).1)) := hD
          show W p l e _ s m args below meth c H locs _ _ Q (F0 m 41 ls [.int (zI ((pSk 43 ((pFig pl 1 (pC (pWord ([101, 101])) ((pHas 3 ((pSk 114 S).1)).1))).1)).2))])
          refine kz_if_eq (tgt := 59) hx hb dX3_withF_41 (by decide) (by omega) (fun c41 => ?_) (fun c41 => ?_)
          · skip
            refine kz_iconst hx hb dX3_withF_59 ?_
            have e0 : (pF pl) S = ((pSk 43 ((pFig pl 1 (pC (pWord ([101, 101])) ((pHas 3 ((pSk 114 S).1)).1))).1)).1, 0) := by unfold pF; refine Eq.trans (pIf_t c6) ?_; refine Eq.trans (pIf_t c14) ?_; refine Eq.trans (pIf_tC (PG.word _ (by decide)) c23) ?_; refine Eq.trans (pIf_t c32) ?_; refine Eq.trans (pIf_f c41) ?_; exact rfl
            have e1 : ((pF pl) S).2 = 0 := by rw [e0]
            have e3 : pC (pF pl) S = (pSk 43 ((pFig pl 1 (pC (pWord ([101, 101])) ((pHas 3 ((pSk 114 S).1)).1))).1)).1 := by rw [← (PG.f pl).c S, e0]
            exact kz_zNret () hx hb hr hlk hP hD hS dX3_withF_60 (by decide) (congrArg (fun z : Int => some (Value.int (zI z))) e1) ⟨(kz_r e1 (by omega)), (kz_M e3 hM), (by have z := (PG.f pl).m S (by omega) (by omega); rw [(PG.f pl).c S] at z; exact z)⟩ (congrArg (mW E Ad) e3) hQ (Nat.le_of_ble_eq_true rfl) (Nat.le_of_ble_eq_true rfl)
          · skip
            refine lv_aload_n hx hb dX3_withF_44 rfl (lv_at hl 0 rfl) ?_
            refine lv_iload_n hx hb dX3_withF_45 rfl (lv_at hl 1 rfl) ?_
            refine kz_iconst hx hb dX3_withF_46 ?_
            refine kz_iadd hx hb dX3_withF_47 ?_
            refine kz_iconst hx hb dX3_withF_48 ?_
            refine kz_backM (va_runV (As := [.int (zI (pl + 1)), .int (zI (2))]) (rest := []) ⟨hx, hb, hml, hown, hts⟩ (mX3_figures l E H.size Ad ((pSk 43 ((pFig pl 1 (pC (pWord ([101, 101])) ((pHas 3 ((pSk 114 S).1)).1))).1)).1) hM (pl + 1) (by omega) 2 (by omega) (show 0 ≤ (((pSk 43 ((pFig pl 1 (pC (pWord ([101, 101])) ((pHas 3 ((pSk 114 S).1)).1))).1)).1) 7 16) ∧ (((pSk 43 ((pFig pl 1 (pC (pWord ([101, 101])) ((pHas 3 ((pSk 114 S).1)).1))).1)).1) 7 16) ≤ (S 7 11) ∧ (S 7 11) ≤ 60 by first | omega | exact hI.st _ (by omega) (by omega) | exact hI.rv _ (by omega) (by omega) | exact hI) (show 0 ≤ (pl + 1) ∧ (pl + 1) < 155 by first | omega | exact hI.st _ (by omega) (by omega) | exact hI.rv _ (by omega) (by omega) | exact hI) (show 1 ≤ 2 ∧ 2 ≤ 2 by first | omega | exact hI.st _ (by omega) (by omega) | exact hI.rv _ (by omega) (by omega) | exact hI)) (cwV 2 hts (lw_V q2656 q2658 qs65 q83 q2659) rfl rfl rfl (by decide +kernel) ⟨(Nat.le_of_ble_eq_true rfl), (Nat.le_of_ble_eq_true rfl)⟩) (kz_preVM (wc := mW E Ad ((pSk 43 ((pFig pl 1 (pC (pWord ([101, 101])) ((pHas 3 ((pSk 114 S).1)).1))).1)).1)) (va_recv hK hP (ci := 2) (q0 := 0) rfl rfl) hG hS hAN hP hD kz_nilP kz_nilA) rfl rfl hl.1 rfl (lv_room (Nat.le_of_ble_eq_true rfl)) dX3_withF_49 ⟨(Nat.le_of_ble_eq_true rfl), (Nat.le_of_ble_eq_true rfl)⟩) hP hD hS hA (fun u H9 locs9 hu hP9 hD9 hS9 hzz hkk => ?_)
            clear hzz hkk hP hD hS H locs u
            revert hS9 hD9 hP9 locs9 H9
            intro H locs hP hD hS
            clear hM
            obtain ⟨r22, hM, p23⟩ := hu
            replace r22 : rI ((pFig (pl + 1) 2 ((pSk 43 ((pFig pl 1 (pC (pWord ([101, 101])) ((pHas 3 ((pSk 114 S).1)).1))).1)).1)).2) := r22
            replace hM : MOk ((pFig (pl + 1) 2 ((pSk 43 ((pFig pl 1 (pC (pWord ([101, 101])) ((pHas 3 ((pSk 114 S).1)).1))).1)).1)).1) := hM
            replace p23 : (((pSk 43 ((pFig pl 1 (pC (pWord ([101, 101])) ((pHas 3 ((pSk 114 S).1)).1))).1)).1) 7 16) ≤ (pFig (pl + 1) 2 ((pSk 43 ((pFig pl 1 (pC (pWord ([101, 101])) ((pHas 3 ((pSk 114 S).1)).1))).1)).1)).1 7 16 ∧ (pFig (pl + 1) 2 ((pSk 43 ((pFig pl 1 (pC (pWord ([101, 101])) ((pHas 3 ((pSk 114 S).1)).1))).1)).1)).1 7 16 ≤ (S 7 11) := p23
            replace hP : va_P (kD E) kcl (mW E Ad ((pFig (pl + 1) 2 ((pSk 43 ((pFig pl 1 (pC (pWord ([101, 101])) ((pHas 3 ((pSk 114 S).1)).1))).1)).1)).1)) H := hP
            replace hD : va_D A (mW E Ad ((pFig (pl + 1) 2 ((pSk 43 ((pFig pl 1 (pC (pWord ([101, 101])) ((pHas 3 ((pSk 114 S).1)).1))).1)).1)).1)) := hD
            show W p l e _ s m args below meth c H locs _ _ Q (F0 m 52 ls [.int (zI ((pFig (pl + 1) 2 ((pSk 43 ((pFig pl 1 (pC (pWord ([101, 101])) ((pHas 3 ((pSk 114 S).1)).1))).1)).1)).2))])
            refine kz_if_eq (tgt := 59) hx hb dX3_withF_52 (by decide) (by omega) (fun c52 => ?_) (fun c52 => ?_)
            · skip
              refine kz_iconst hx hb dX3_withF_59 ?_
              have e0 : (pF pl) S = ((pFig (pl + 1) 2 ((pSk 43 ((pFig pl 1 (pC (pWord ([101, 101])) ((pHas 3 ((pSk 114 S).1)).1))).1)).1)).1, 0) := by unfold pF; refine Eq.trans (pIf_t c6) ?_; refine Eq.trans (pIf_t c14) ?_; refine Eq.trans (pIf_tC (PG.word _ (by decide)) c23) ?_; refine Eq.trans (pIf_t c32) ?_; refine Eq.trans (pIf_t c41) ?_; refine Eq.trans (pIf_f c52) ?_; exact rfl
              have e1 : ((pF pl) S).2 = 0 := by rw [e0]
              have e3 : pC (pF pl) S = (pFig (pl + 1) 2 ((pSk 43 ((pFig pl 1 (pC (pWord ([101, 101])) ((pHas 3 ((pSk 114 S).1)).1))).1)).1)).1 := by rw [← (PG.f pl).c S, e0]
              exact kz_zNret () hx hb hr hlk hP hD hS dX3_withF_60 (by decide) (congrArg (fun z : Int => some (Value.int (zI z))) e1) ⟨(kz_r e1 (by omega)), (kz_M e3 hM), (by have z := (PG.f pl).m S (by omega) (by omega); rw [(PG.f pl).c S] at z; exact z)⟩ (congrArg (mW E Ad) e3) hQ (Nat.le_of_ble_eq_true rfl) (Nat.le_of_ble_eq_true rfl)
            · skip
              refine kz_iconst hx hb dX3_withF_55 ?_
              refine lv_goto (tgt := 60) hx hb dX3_withF_56 (by decide) ?_
              have e0 : (pF pl) S = ((pFig (pl + 1) 2 ((pSk 43 ((pFig pl 1 (pC (pWord ([101, 101])) ((pHas 3 ((pSk 114 S).1)).1))).1)).1)).1, 1) := by unfold pF; refine Eq.trans (pIf_t c6) ?_; refine Eq.trans (pIf_t c14) ?_; refine Eq.trans (pIf_tC (PG.word _ (by decide)) c23) ?_; refine Eq.trans (pIf_t c32) ?_; refine Eq.trans (pIf_t c41) ?_; refine Eq.trans (pIf_t c52) ?_; exact rfl
              have e1 : ((pF pl) S).2 = 1 := by rw [e0]
              have e3 : pC (pF pl) S = (pFig (pl + 1) 2 ((pSk 43 ((pFig pl 1 (pC (pWord ([101, 101])) ((pHas 3 ((pSk 114 S).1)).1))).1)).1)).1 := by rw [← (PG.f pl).c S, e0]
              exact kz_zNret () hx hb hr hlk hP hD hS dX3_withF_60 (by decide) (congrArg (fun z : Int => some (Value.int (zI z))) e1) ⟨(kz_r e1 (by omega)), (kz_M e3 hM), (by have z := (PG.f pl).m S (by omega) (by omega); rw [(PG.f pl).c S] at z; exact z)⟩ (congrArg (mW E Ad) e3) hQ (Nat.le_of_ble_eq_true rfl) (Nat.le_of_ble_eq_true rfl)

