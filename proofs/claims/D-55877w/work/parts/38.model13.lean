/-! THE MODEL, on -/
set_option maxHeartbeats 4000000 in
set_option maxRecDepth 100000 in
theorem mX3_orderHere (l : Launch) (E : KE) (sz : Nat) (Ad : Nat → Nat) (S : St) (hM : MOk S) (hat : 0 ≤ S 7 16 ∧ S 7 16 ≤ S 7 11 ∧ S 7 11 ≤ 60) (htm : 0 ≤ S 7 18 ∧ S 7 18 ≤ 30) : Met l yX3_orderHere (ws_ yX3_orderHere cX3_orderHere 2 (some .boolean)) (rmk 6 0 0 128) (va_Pc [.ref (Ad 0)] (kP l E sz (mW E Ad S) [])) (kQ E (fun _ : Unit => rI ((pOrd S).2) ∧ MOk (pC (pOrd) S) ∧ (S 7 16 ≤ (pC (pOrd) S) 7 16 ∧ (pC (pOrd) S) 7 16 ≤ S 7 11) ∧ ((pOrd S).2 = 0 ∨ S 7 16 + 1 ≤ (pC (pOrd) S) 7 16)) (fun _ => some (.int (zI ((pOrd S).2)))) (fun _ => (mW E Ad (pC (pOrd) S))) (va_A (mW E Ad S) sz)) 0 0 (va_A (mW E Ad S) sz) := by
  refine kz_start (Qf := kQ E (fun _ : Unit => rI ((pOrd S).2) ∧ MOk (pC (pOrd) S) ∧ (S 7 16 ≤ (pC (pOrd) S) 7 16 ∧ (pC (pOrd) S) 7 16 ≤ S 7 11) ∧ ((pOrd S).2 = 0 ∨ S 7 16 + 1 ≤ (pC (pOrd) S) 7 16)) (fun _ => some (.int (zI ((pOrd S).2)))) (fun _ => (mW E Ad (pC (pOrd) S)))) (by decide) (Nat.le_of_ble_eq_true rfl) ?_
  intro p e s m args below meth c A ls Q H locs hx hb hr hlk hml hts hown hname hG hK hA hAN hP hD hR hRA hS hQ hl
  replace hown : s.vm.findClass RX3 = some m.cls := hown
  replace hl : lv_has ls 2 [(0, .ref (Ad 0))] := hl
  replace hP : va_P (kD E) kcl (mW E Ad (S)) H := hP
  replace hD : va_D A (mW E Ad (S)) := hD
  refine kz_iconst hx hb dX3_orderHere_0 ?_
  refine lv_aload_n hx hb dX3_orderHere_1 rfl (lv_at hl 0 rfl) ?_
  have r1 : rI (S 7 18) := hM 7 18
  refine va_get (D := kD E) (ci := 2) (fs := mO Ad (S)) (v := .int (zI (S 7 18))) (C := RX3) (T := TX3) (N := 19) hx hb hts in_X3 hown hK hP 0 rfl rfl 18 (by decide) (hts _ q2338) (fun _ h9 => h9) rfl dX3_orderHere_2 ?_
  refine kz_imul hx hb dX3_orderHere_5 ?_
  refine kz_iconst hx hb dX3_orderHere_6 ?_
  refine kz_iadd hx hb dX3_orderHere_7 ?_
  refine lv_istore_n (lv' := [(1, .int (zI ((5 * (S 7 18)) + 1))), (0, .ref (Ad 0))]) hx hb dX3_orderHere_8 rfl hl (by decide) rfl (fun ls hl => ?_)
  refine lv_aload_n hx hb dX3_orderHere_9 rfl (lv_at hl 1 rfl) ?_
  refine kz_bipush hx hb dX3_orderHere_10 (by decide) ?_
  refine kz_backM (va_runV (As := [.int (zI (115))]) (rest := []) ⟨hx, hb, hml, hown, hts⟩ (mX3_skipsOver l E H.size Ad S hM 115 (by omega) (show 0 ≤ (S 7 16) ∧ (S 7 16) ≤ (S 7 11) ∧ (S 7 11) ≤ 60 by first | omega | exact hI.st _ (by omega) (by omega) | exact hI.rv _ (by omega) (by omega) | exact hI) (show 0 ≤ 115 by first | omega | exact hI.st _ (by omega) (by omega) | exact hI.rv _ (by omega) (by omega) | exact hI)) (cwV 1 hts (lw_V q2637 q2639 qs61 q83 q2640) rfl rfl rfl (by decide +kernel) ⟨(Nat.le_of_ble_eq_true rfl), (Nat.le_of_ble_eq_true rfl)⟩) (kz_preVM (wc := mW E Ad S) (va_recv hK hP (ci := 2) (q0 := 0) rfl rfl) hG hS hAN hP hD kz_nilP kz_nilA) rfl rfl hl.1 rfl (lv_room (Nat.le_of_ble_eq_true rfl)) dX3_orderHere_12 ⟨(Nat.le_of_ble_eq_true rfl), (Nat.le_of_ble_eq_true rfl)⟩) hP hD hS hA (fun u H9 locs9 hu hP9 hD9 hS9 hzz hkk => ?_)
  clear hzz hkk hP hD hS H locs u
  revert hS9 hD9 hP9 locs9 H9
  intro H locs hP hD hS
  clear hM
  obtain ⟨r2, hM, p3, p4⟩ := hu
  replace r2 : rI ((pSk 115 S).2) := r2
  replace hM : MOk ((pSk 115 S).1) := hM
  replace p3 : (S 7 16) ≤ (pSk 115 S).1 7 16 ∧ (pSk 115 S).1 7 16 ≤ (S 7 11) := p3
  replace p4 : ((pSk 115 S).2 = 0 ∨ (S 7 16) + 1 ≤ (pSk 115 S).1 7 16) := p4
  replace hP : va_P (kD E) kcl (mW E Ad ((pSk 115 S).1)) H := hP
  replace hD : va_D A (mW E Ad ((pSk 115 S).1)) := hD
  show W p l e _ s m args below meth c H locs _ _ Q (F0 m 15 ls [.int (zI ((pSk 115 S).2))])
  refine kz_if_eq (tgt := 61) hx hb dX3_orderHere_15 (by decide) (by omega) (fun c15 => ?_) (fun c15 => ?_)
  · skip
    refine lv_aload_n hx hb dX3_orderHere_61 rfl (lv_at hl 1 rfl) ?_
    refine kz_bipush hx hb dX3_orderHere_62 (by decide) ?_
    refine kz_backM (va_runV (As := [.int (zI (114))]) (rest := []) ⟨hx, hb, hml, hown, hts⟩ (mX3_skipsOver l E H.size Ad ((pSk 115 S).1) hM 114 (by omega) (show 0 ≤ (((pSk 115 S).1) 7 16) ∧ (((pSk 115 S).1) 7 16) ≤ (S 7 11) ∧ (S 7 11) ≤ 60 by first | omega | exact hI.st _ (by omega) (by omega) | exact hI.rv _ (by omega) (by omega) | exact hI) (show 0 ≤ 114 by first | omega | exact hI.st _ (by omega) (by omega) | exact hI.rv _ (by omega) (by omega) | exact hI)) (cwV 1 hts (lw_V q2637 q2639 qs61 q83 q2640) rfl rfl rfl (by decide +kernel) ⟨(Nat.le_of_ble_eq_true rfl), (Nat.le_of_ble_eq_true rfl)⟩) (kz_preVM (wc := mW E Ad ((pSk 115 S).1)) (va_recv hK hP (ci := 2) (q0 := 0) rfl rfl) hG hS hAN hP hD kz_nilP kz_nilA) rfl rfl hl.1 rfl (lv_room (Nat.le_of_ble_eq_true rfl)) dX3_orderHere_64 ⟨(Nat.le_of_ble_eq_true rfl), (Nat.le_of_ble_eq_true rfl)⟩) hP hD hS hA (fun u H9 locs9 hu hP9 hD9 hS9 hzz hkk => ?_)
    clear hzz hkk hP hD hS H locs u
    revert hS9 hD9 hP9 locs9 H9
    intro H locs hP hD hS
    clear hM
    obtain ⟨r5, hM, p6, p7⟩ := hu
    replace r5 : rI ((pSk 114 ((pSk 115 S).1)).2) := r5
    replace hM : MOk ((pSk 114 ((pSk 115 S).1)).1) := hM
    replace p6 : (((pSk 115 S).1) 7 16) ≤ (pSk 114 ((pSk 115 S).1)).1 7 16 ∧ (pSk 114 ((pSk 115 S).1)).1 7 16 ≤ (S 7 11) := p6
    replace p7 : ((pSk 114 ((pSk 115 S).1)).2 = 0 ∨ (((pSk 115 S).1) 7 16) + 1 ≤ (pSk 114 ((pSk 115 S).1)).1 7 16) := p7
    replace hP : va_P (kD E) kcl (mW E Ad ((pSk 114 ((pSk 115 S).1)).1)) H := hP
    replace hD : va_D A (mW E Ad ((pSk 114 ((pSk 115 S).1)).1)) := hD
    show W p l e _ s m args below meth c H locs _ _ Q (F0 m 67 ls [.int (zI ((pSk 114 ((pSk 115 S).1)).2))])
    refine kz_if_eq (tgt := 122) hx hb dX3_orderHere_67 (by decide) (by omega) (fun c67 => ?_) (fun c67 => ?_)
    · skip
      refine lv_aload_n hx hb dX3_orderHere_122 rfl (lv_at hl 1 rfl) ?_
      refine kz_bipush hx hb dX3_orderHere_123 (by decide) ?_
      refine kz_backM (va_runV (As := [.int (zI (98))]) (rest := []) ⟨hx, hb, hml, hown, hts⟩ (mX3_skipsOver l E H.size Ad ((pSk 114 ((pSk 115 S).1)).1) hM 98 (by omega) (show 0 ≤ (((pSk 114 ((pSk 115 S).1)).1) 7 16) ∧ (((pSk 114 ((pSk 115 S).1)).1) 7 16) ≤ (S 7 11) ∧ (S 7 11) ≤ 60 by first | omega | exact hI.st _ (by omega) (by omega) | exact hI.rv _ (by omega) (by omega) | exact hI) (show 0 ≤ 98 by first | omega | exact hI.st _ (by omega) (by omega) | exact hI.rv _ (by omega) (by omega) | exact hI)) (cwV 1 hts (lw_V q2637 q2639 qs61 q83 q2640) rfl rfl rfl (by decide +kernel) ⟨(Nat.le_of_ble_eq_true rfl), (Nat.le_of_ble_eq_true rfl)⟩) (kz_preVM (wc := mW E Ad ((pSk 114 ((pSk 115 S).1)).1)) (va_recv hK hP (ci := 2) (q0 := 0) rfl rfl) hG hS hAN hP hD kz_nilP kz_nilA) rfl rfl hl.1 rfl (lv_room (Nat.le_of_ble_eq_true rfl)) dX3_orderHere_125 ⟨(Nat.le_of_ble_eq_true rfl), (Nat.le_of_ble_eq_true rfl)⟩) hP hD hS hA (fun u H9 locs9 hu hP9 hD9 hS9 hzz hkk => ?_)
      clear hzz hkk hP hD hS H locs u
      revert hS9 hD9 hP9 locs9 H9
      intro H locs hP hD hS
      clear hM
      obtain ⟨r8, hM, p9, p10⟩ := hu
      replace r8 : rI ((pSk 98 ((pSk 114 ((pSk 115 S).1)).1)).2) := r8
      replace hM : MOk ((pSk 98 ((pSk 114 ((pSk 115 S).1)).1)).1) := hM
      replace p9 : (((pSk 114 ((pSk 115 S).1)).1) 7 16) ≤ (pSk 98 ((pSk 114 ((pSk 115 S).1)).1)).1 7 16 ∧ (pSk 98 ((pSk 114 ((pSk 115 S).1)).1)).1 7 16 ≤ (S 7 11) := p9
      replace p10 : ((pSk 98 ((pSk 114 ((pSk 115 S).1)).1)).2 = 0 ∨ (((pSk 114 ((pSk 115 S).1)).1) 7 16) + 1 ≤ (pSk 98 ((pSk 114 ((pSk 115 S).1)).1)).1 7 16) := p10
      replace hP : va_P (kD E) kcl (mW E Ad ((pSk 98 ((pSk 114 ((pSk 115 S).1)).1)).1)) H := hP
      replace hD : va_D A (mW E Ad ((pSk 98 ((pSk 114 ((pSk 115 S).1)).1)).1)) := hD
      show W p l e _ s m args below meth c H locs _ _ Q (F0 m 128 ls [.int (zI ((pSk 98 ((pSk 114 ((pSk 115 S).1)).1)).2))])
      refine kz_if_eq (tgt := 203) hx hb dX3_orderHere_128 (by decide) (by omega) (fun c128 => ?_) (fun c128 => ?_)
      · skip
        refine lv_aload_n hx hb dX3_orderHere_203 rfl (lv_at hl 1 rfl) ?_
        refine kz_bipush hx hb dX3_orderHere_204 (by decide) ?_
        refine kz_backM (va_runV (As := [.int (zI (99))]) (rest := []) ⟨hx, hb, hml, hown, hts⟩ (mX3_skipsOver l E H.size Ad ((pSk 98 ((pSk 114 ((pSk 115 S).1)).1)).1) hM 99 (by omega) (show 0 ≤ (((pSk 98 ((pSk 114 ((pSk 115 S).1)).1)).1) 7 16) ∧ (((pSk 98 ((pSk 114 ((pSk 115 S).1)).1)).1) 7 16) ≤ (S 7 11) ∧ (S 7 11) ≤ 60 by first | omega | exact hI.st _ (by omega) (by omega) | exact hI.rv _ (by omega) (by omega) | exact hI) (show 0 ≤ 99 by first | omega | exact hI.st _ (by omega) (by omega) | exact hI.rv _ (by omega) (by omega) | exact hI)) (cwV 1 hts (lw_V q2637 q2639 qs61 q83 q2640) rfl rfl rfl (by decide +kernel) ⟨(Nat.le_of_ble_eq_true rfl), (Nat.le_of_ble_eq_true rfl)⟩) (kz_preVM (wc := mW E Ad ((pSk 98 ((pSk 114 ((pSk 115 S).1)).1)).1)) (va_recv hK hP (ci := 2) (q0 := 0) rfl rfl) hG hS hAN hP hD kz_nilP kz_nilA) rfl rfl hl.1 rfl (lv_room (Nat.le_of_ble_eq_true rfl)) dX3_orderHere_206 ⟨(Nat.le_of_ble_eq_true rfl), (Nat.le_of_ble_eq_true rfl)⟩) hP hD hS hA (fun u H9 locs9 hu hP9 hD9 hS9 hzz hkk => ?_)
        clear hzz hkk hP hD hS H locs u
        revert hS9 hD9 hP9 locs9 H9
        intro H locs hP hD hS
        clear hM
        obtain ⟨r11, hM, p12, p13⟩ := hu
        replace r11 : rI ((pSk 99 ((pSk 98 ((pSk 114 ((pSk 115 S).1)).1)).1)).2) := r11
        replace hM : MOk ((pSk 99 ((pSk 98 ((pSk 114 ((pSk 115 S).1)).1)).1)).1) := hM
        replace p12 : (((pSk 98 ((pSk 114 ((pSk 115 S).1)).1)).1) 7 16) ≤ (pSk 99 ((pSk 98 ((pSk 114 ((pSk 115 S).1)).1)).1)).1 7 16 ∧ (pSk 99 ((pSk 98 ((pSk 114 ((pSk 115 S).1)).1)).1)).1 7 16 ≤ (S 7 11) := p12
        replace p13 : ((pSk 99 ((pSk 98 ((pSk 114 ((pSk 115 S).1)).1)).1)).2 = 0 ∨ (((pSk 98 ((pSk 114 ((pSk 115 S).1)).1)).1) 7 16) + 1 ≤ (pSk 99 ((pSk 98 ((pSk 114 ((pSk 115 S).1)).1)).1)).1 7 16) := p13
        replace hP : va_P (kD E) kcl (mW E Ad ((pSk 99 ((pSk 98 ((pSk 114 ((pSk 115 S).1)).1)).1)).1)) H := hP
        replace hD : va_D A (mW E Ad ((pSk 99 ((pSk 98 ((pSk 114 ((pSk 115 S).1)).1)).1)).1)) := hD
        show W p l e _ s m args below meth c H locs _ _ Q (F0 m 209 ls [.int (zI ((pSk 99 ((pSk 98 ((pSk 114 ((pSk 115 S).1)).1)).1)).2))])
        refine kz_if_eq (tgt := 265) hx hb dX3_orderHere_209 (by decide) (by omega) (fun c209 => ?_) (fun c209 => ?_)
        · skip
          refine lv_aload_n hx hb dX3_orderHere_265 rfl (lv_at hl 1 rfl) ?_
          refine kz_bipush hx hb dX3_orderHere_266 (by decide) ?_
          refine kz_backM (va_runV (As := [.int (zI (100))]) (rest := []) ⟨hx, hb, hml, hown, hts⟩ (mX3_skipsOver l E H.size Ad ((pSk 99 ((pSk 98 ((pSk 114 ((pSk 115 S).1)).1)).1)).1) hM 100 (by omega) (show 0 ≤ (((pSk 99 ((pSk 98 ((pSk 114 ((pSk 115 S).1)).1)).1)).1) 7 16) ∧ (((pSk 99 ((pSk 98 ((pSk 114 ((pSk 115 S).1)).1)).1)).1) 7 16) ≤ (S 7 11) ∧ (S 7 11) ≤ 60 by first | omega | exact hI.st _ (by omega) (by omega) | exact hI.rv _ (by omega) (by omega) | exact hI) (show 0 ≤ 100 by first | omega | exact hI.st _ (by omega) (by omega) | exact hI.rv _ (by omega) (by omega) | exact hI)) (cwV 1 hts (lw_V q2637 q2639 qs61 q83 q2640) rfl rfl rfl (by decide +kernel) ⟨(Nat.le_of_ble_eq_true rfl), (Nat.le_of_ble_eq_true rfl)⟩) (kz_preVM (wc := mW E Ad ((pSk 99 ((pSk 98 ((pSk 114 ((pSk 115 S).1)).1)).1)).1)) (va_recv hK hP (ci := 2) (q0 := 0) rfl rfl) hG hS hAN hP hD kz_nilP kz_nilA) rfl rfl hl.1 rfl (lv_room (Nat.le_of_ble_eq_true rfl)) dX3_orderHere_268 ⟨(Nat.le_of_ble_eq_true rfl), (Nat.le_of_ble_eq_true rfl)⟩) hP hD hS hA (fun u H9 locs9 hu hP9 hD9 hS9 hzz hkk => ?_)
          clear hzz hkk hP hD hS H locs u
          revert hS9 hD9 hP9 locs9 H9
          intro H locs hP hD hS
          clear hM
          obtain ⟨r14, hM, p15, p16⟩ := hu
          replace r14 : rI ((pSk 100 ((pSk 99 ((pSk 98 ((pSk 114 ((pSk 115 S).1)).1)).1)).1)).2) := r14
          replace hM : MOk ((pSk 100 ((pSk 99 ((pSk 98 ((pSk 114 ((pSk 115 S).1)).1)).1)).1)).1) := hM
          replace p15 : (((pSk 99 ((pSk 98 ((pSk 114 ((pSk 115 S).1)).1)).1)).1) 7 16) ≤ (pSk 100 ((pSk 99 ((pSk 98 ((pSk 114 ((pSk 115 S).1)).1)).1)).1)).1 7 16 ∧ (pSk 100 ((pSk 99 ((pSk 98 ((pSk 114 ((pSk 115 S).1)).1)).1)).1)).1 7 16 ≤ (S 7 11) := p15
          replace p16 : ((pSk 100 ((pSk 99 ((pSk 98 ((pSk 114 ((pSk 115 S).1)).1)).1)).1)).2 = 0 ∨ (((pSk 99 ((pSk 98 ((pSk 114 ((pSk 115 S).1)).1)).1)).1) 7 16) + 1 ≤ (pSk 100 ((pSk 99 ((pSk 98 ((pSk 114 ((pSk 115 S).1)).1)).1)).1)).1 7 16) := p16
          replace hP : va_P (kD E) kcl (mW E Ad ((pSk 100 ((pSk 99 ((pSk 98 ((pSk 114 ((pSk 115 S).1)).1)).1)).1)).1)) H := hP
          replace hD : va_D A (mW E Ad ((pSk 100 ((pSk 99 ((pSk 98 ((pSk 114 ((pSk 115 S).1)).1)).1)).1)).1)) := hD
          show W p l e _ s m args below meth c H locs _ _ Q (F0 m 271 ls [.int (zI ((pSk 100 ((pSk 99 ((pSk 98 ((pSk 114 ((pSk 115 S).1)).1)).1)).1)).2))])
          refine kz_if_eq (tgt := 298) hx hb dX3_orderHere_271 (by decide) (by omega) (fun c271 => ?_) (fun c271 => ?_)
          · skip
            refine lv_aload_n hx hb dX3_orderHere_298 rfl (lv_at hl 1 rfl) ?_
            refine kz_bipush hx hb dX3_orderHere_299 (by decide) ?_
            refine kz_backM (va_runV (As := [.int (zI (116))]) (rest := []) ⟨hx, hb, hml, hown, hts⟩ (mX3_skipsOver l E H.size Ad ((pSk 100 ((pSk 99 ((pSk 98 ((pSk 114 ((pSk 115 S).1)).1)).1)).1)).1) hM 116 (by omega) (show 0 ≤ (((pSk 100 ((pSk 99 ((pSk 98 ((pSk 114 ((pSk 115 S).1)).1)).1)).1)).1) 7 16) ∧ (((pSk 100 ((pSk 99 ((pSk 98 ((pSk 114 ((pSk 115 S).1)).1)).1)).1)).1) 7 16) ≤ (S 7 11) ∧ (S 7 11) ≤ 60 by first | omega | exact hI.st _ (by omega) (by omega) | exact hI.rv _ (by omega) (by omega) | exact hI) (show 0 ≤ 116 by first | omega | exact hI.st _ (by omega) (by omega) | exact hI.rv _ (by omega) (by omega) | exact hI)) (cwV 1 hts (lw_V q2637 q2639 qs61 q83 q2640) rfl rfl rfl (by decide +kernel) ⟨(Nat.le_of_ble_eq_true rfl), (Nat.le_of_ble_eq_true rfl)⟩) (kz_preVM (wc := mW E Ad ((pSk 100 ((pSk 99 ((pSk 98 ((pSk 114 ((pSk 115 S).1)).1)).1)).1)).1)) (va_recv hK hP (ci := 2) (q0 := 0) rfl rfl) hG hS hAN hP hD kz_nilP kz_nilA) rfl rfl hl.1 rfl (lv_room (Nat.le_of_ble_eq_true rfl)) dX3_orderHere_301 ⟨(Nat.le_of_ble_eq_true rfl), (Nat.le_of_ble_eq_true rfl)⟩) hP hD hS hA (fun u H9 locs9 hu hP9 hD9 hS9 hzz hkk => ?_)
            clear hzz hkk hP hD hS H locs u
            revert hS9 hD9 hP9 locs9 H9
            intro H locs hP hD hS
            clear hM
            obtain ⟨r17, hM, p18, p19⟩ := hu
            replace r17 : rI ((pSk 116 ((pSk 100 ((pSk 99 ((pSk 98 ((pSk 114 ((pSk 115 S).1)).1)).1)).1)).1)).2) := r17
            replace hM : MOk ((pSk 116 ((pSk 100 ((pSk 99 ((pSk 98 ((pSk 114 ((pSk 115 S).1)).1)).1)).1)).1)).1) := hM
            replace p18 : (((pSk 100 ((pSk 99 ((pSk 98 ((pSk 114 ((pSk 115 S).1)).1)).1)).1)).1) 7 16) ≤ (pSk 116 ((pSk 100 ((pSk 99 ((pSk 98 ((pSk 114 ((pSk 115 S).1)).1)).1)).1)).1)).1 7 16 ∧ (pSk 116 ((pSk 100 ((pSk 99 ((pSk 98 ((pSk 114 ((pSk 115 S).1)).1)).1)).1)).1)).1 7 16 ≤ (S 7 11) := p18
            replace p19 : ((pSk 116 ((pSk 100 ((pSk 99 ((pSk 98 ((pSk 114 ((pSk 115 S).1)).1)).1)).1)).1)).2 = 0 ∨ (((pSk 100 ((pSk 99 ((pSk 98 ((pSk 114 ((pSk 115 S).1)).1)).1)).1)).1) 7 16) + 1 ≤ (pSk 116 ((pSk 100 ((pSk 99 ((pSk 98 ((pSk 114 ((pSk 115 S).1)).1)).1)).1)).1)).1 7 16) := p19
            replace hP : va_P (kD E) kcl (mW E Ad ((pSk 116 ((pSk 100 ((pSk 99 ((pSk 98 ((pSk 114 ((pSk 115 S).1)).1)).1)).1)).1)).1)) H := hP
            replace hD : va_D A (mW E Ad ((pSk 116 ((pSk 100 ((pSk 99 ((pSk 98 ((pSk 114 ((pSk 115 S).1)).1)).1)).1)).1)).1)) := hD
            show W p l e _ s m args below meth c H locs _ _ Q (F0 m 304 ls [.int (zI ((pSk 116 ((pSk 100 ((pSk 99 ((pSk 98 ((pSk 114 ((pSk 115 S).1)).1)).1)).1)).1)).2))])
            refine kz_if_eq (tgt := 313) hx hb dX3_orderHere_304 (by decide) (by omega) (fun c304 => ?_) (fun c304 => ?_)
            · skip
              refine lv_aload_n hx hb dX3_orderHere_313 rfl (lv_at hl 1 rfl) ?_
              refine kz_bipush hx hb dX3_orderHere_314 (by decide) ?_
              refine kz_backM (va_runV (As := [.int (zI (102))]) (rest := []) ⟨hx, hb, hml, hown, hts⟩ (mX3_skipsOver l E H.size Ad ((pSk 116 ((pSk 100 ((pSk 99 ((pSk 98 ((pSk 114 ((pSk 115 S).1)).1)).1)).1)).1)).1) hM 102 (by omega) (show 0 ≤ (((pSk 116 ((pSk 100 ((pSk 99 ((pSk 98 ((pSk 114 ((pSk 115 S).1)).1)).1)).1)).1)).1) 7 16) ∧ (((pSk 116 ((pSk 100 ((pSk 99 ((pSk 98 ((pSk 114 ((pSk 115 S).1)).1)).1)).1)).1)).1) 7 16) ≤ (S 7 11) ∧ (S 7 11) ≤ 60 by first | omega | exact hI.st _ (by omega) (by omega) | exact hI.rv _ (by omega) (by omega) | exact hI) (show 0 ≤ 102 by first | omega | exact hI.st _ (by omega) (by omega) | exact hI.rv _ (by omega) (by omega) | exact hI)) (cwV 1 hts (lw_V q2637 q2639 qs61 q83 q2640) rfl rfl rfl (by decide +kernel) ⟨(Nat.le_of_ble_eq_true rfl), (Nat.le_of_ble_eq_true rfl)⟩) (kz_preVM (wc := mW E Ad ((pSk 116 ((pSk 100 ((pSk 99 ((pSk 98 ((pSk 114 ((pSk 115 S).1)).1)).1)).1)).1)).1)) (va_recv hK hP (ci := 2) (q0 := 0) rfl rfl) hG hS hAN hP hD kz_nilP kz_nilA) rfl rfl hl.1 rfl (lv_room (Nat.le_of_ble_eq_true rfl)) dX3_orderHere_316 ⟨(Nat.le_of_ble_eq_true rfl), (Nat.le_of_ble_eq_true rfl)⟩) hP hD hS hA (fun u H9 locs9 hu hP9 hD9 hS9 hzz hkk => ?_)
              clear hzz hkk hP hD hS H locs u
              revert hS9 hD9 hP9 locs9 H9
              intro H locs hP hD hS
              clear hM
              obtain ⟨r20, hM, p21, p22⟩ := hu
              replace r20 : rI ((pSk 102 ((pSk 116 ((pSk 100 ((pSk 99 ((pSk 98 ((pSk 114 ((pSk 115 S).1)).1)).1)).1)).1)).1)).2) := r20
              replace hM : MOk ((pSk 102 ((pSk 116 ((pSk 100 ((pSk 99 ((pSk 98 ((pSk 114 ((pSk 115 S).1)).1)).1)).1)).1)).1)).1) := hM
              replace p21 : (((pSk 116 ((pSk 100 ((pSk 99 ((pSk 98 ((pSk 114 ((pSk 115 S).1)).1)).1)).1)).1)).1) 7 16) ≤ (pSk 102 ((pSk 116 ((pSk 100 ((pSk 99 ((pSk 98 ((pSk 114 ((pSk 115 S).1)).1)).1)).1)).1)).1)).1 7 16 ∧ (pSk 102 ((pSk 116 ((pSk 100 ((pSk 99 ((pSk 98 ((pSk 114 ((pSk 115 S).1)).1)).1)).1)).1)).1)).1 7 16 ≤ (S 7 11) := p21
              replace p22 : ((pSk 102 ((pSk 116 ((pSk 100 ((pSk 99 ((pSk 98 ((pSk 114 ((pSk 115 S).1)).1)).1)).1)).1)).1)).2 = 0 ∨ (((pSk 116 ((pSk 100 ((pSk 99 ((pSk 98 ((pSk 114 ((pSk 115 S).1)).1)).1)).1)).1)).1) 7 16) + 1 ≤ (pSk 102 ((pSk 116 ((pSk 100 ((pSk 99 ((pSk 98 ((pSk 114 ((pSk 115 S).1)).1)).1)).1)).1)).1)).1 7 16) := p22
              replace hP : va_P (kD E) kcl (mW E Ad ((pSk 102 ((pSk 116 ((pSk 100 ((pSk 99 ((pSk 98 ((pSk 114 ((pSk 115 S).1)).1)).1)).1)).1)).1)).1)) H := hP
              replace hD : va_D A (mW E Ad ((pSk 102 ((pSk 116 ((pSk 100 ((pSk 99 ((pSk 98 ((pSk 114 ((pSk 115 S).1)).1)).1)).1)).1)).1)).1)) := hD
              show W p l e _ s m args below meth c H locs _ _ Q (F0 m 319 ls [.int (zI ((pSk 102 ((pSk 116 ((pSk 100 ((pSk 99 ((pSk 98 ((pSk 114 ((pSk 115 S).1)).1)).1)).1)).1)).1)).2))])
              refine kz_if_eq (tgt := 334) hx hb dX3_orderHere_319 (by decide) (by omega) (fun c319 => ?_) (fun c319 => ?_)
              · skip
                refine kz_iconst hx hb dX3_orderHere_334 ?_
                have e0 : (pOrd) S = ((pSk 102 ((pSk 116 ((pSk 100 ((pSk 99 ((pSk 98 ((pSk 114 ((pSk 115 S).1)).1)).1)).1)).1)).1)).1, 0) := by show pOrdP (5 * S 7 18 + 1) S = _; unfold pOrdP; refine Eq.trans (pIf_f c15) ?_; refine Eq.trans (pIf_f c67) ?_; refine Eq.trans (pIf_f c128) ?_; refine Eq.trans (pIf_f c209) ?_; refine Eq.trans (pIf_f c271) ?_; refine Eq.trans (pIf_f c304) ?_; refine Eq.trans (pIf_f c319) ?_; exact rfl
                have e1 : ((pOrd) S).2 = 0 := by rw [e0]
                have e3 : pC (pOrd) S = (pSk 102 ((pSk 116 ((pSk 100 ((pSk 99 ((pSk 98 ((pSk 114 ((pSk 115 S).1)).1)).1)).1)).1)).1)).1 := by rw [← (PG.ord).c S, e0]
                exact kz_zNret () hx hb hr hlk hP hD hS dX3_orderHere_335 (by first | decide | exact (PG.t _).r _) (congrArg (fun z : Int => some (Value.int (zI z))) e1) ⟨(kz_r e1 (by omega)), (kz_M e3 hM), (by have z := (PG.ord).m S (by omega) (by omega); rw [(PG.ord).c S] at z; exact z), (by have z := PS.ord S (by omega) (by omega); rw [(PG.ord).c S] at z; exact z)⟩ (congrArg (mW E Ad) e3) hQ (Nat.le_of_ble_eq_true rfl) (Nat.le_of_ble_eq_true rfl)
              · skip
                refine lv_aload_n hx hb dX3_orderHere_322 rfl (lv_at hl 1 rfl) ?_
                refine lv_iload_n hx hb dX3_orderHere_323 rfl (lv_at hl 0 rfl) ?_
                refine kz_backM (va_runV (As := [.int (zI ((5 * (S 7 18)) + 1))]) (rest := []) ⟨hx, hb, hml, hown, hts⟩ (mX3_withF l E H.size Ad ((pSk 102 ((pSk 116 ((pSk 100 ((pSk 99 ((pSk 98 ((pSk 114 ((pSk 115 S).1)).1)).1)).1)).1)).1)).1) hM ((5 * (S 7 18)) + 1) (by omega) (show 0 ≤ (((pSk 102 ((pSk 116 ((pSk 100 ((pSk 99 ((pSk 98 ((pSk 114 ((pSk 115 S).1)).1)).1)).1)).1)).1)).1) 7 16) ∧ (((pSk 102 ((pSk 116 ((pSk 100 ((pSk 99 ((pSk 98 ((pSk 114 ((pSk 115 S).1)).1)).1)).1)).1)).1)).1) 7 16) ≤ (S 7 11) ∧ (S 7 11) ≤ 60 by first | omega | exact hI.st _ (by omega) (by omega) | exact hI.rv _ (by omega) (by omega) | exact hI) (show 1 ≤ ((5 * (S 7 18)) + 1) ∧ ((5 * (S 7 18)) + 1) ≤ 151 by first | omega | exact hI.st _ (by omega) (by omega) | exact hI.rv _ (by omega) (by omega) | exact hI) (show 0 ≤ (S 7 18) ∧ (S 7 18) ≤ 30 by first | omega | exact hI.st _ (by omega) (by omega) | exact hI.rv _ (by omega) (by omega) | exact hI)) (cwV 1 hts (lw_V q2675 q2677 qs68 q83 q2678) rfl rfl rfl (by decide +kernel) ⟨(Nat.le_of_ble_eq_true rfl), (Nat.le_of_ble_eq_true rfl)⟩) (kz_preVM (wc := mW E Ad ((pSk 102 ((pSk 116 ((pSk 100 ((pSk 99 ((pSk 98 ((pSk 114 ((pSk 115 S).1)).1)).1)).1)).1)).1)).1)) (va_recv hK hP (ci := 2) (q0 := 0) rfl rfl) hG hS hAN hP hD kz_nilP kz_nilA) rfl rfl hl.1 rfl (lv_room (Nat.le_of_ble_eq_true rfl)) dX3_orderHere_324 ⟨(Nat.le_of_ble_eq_true rfl), (Nat.le_of_ble_eq_true rfl)⟩) hP hD hS hA (fun u H9 locs9 hu hP9 hD9 hS9 hzz hkk => ?_)
                clear hzz hkk hP hD hS H locs u
                revert hS9 hD9 hP9 locs9 H9
                intro H locs hP hD hS
                clear hM
                obtain ⟨r23, hM, p24⟩ := hu
                replace r23 : rI ((pF ((5 * (S 7 18)) + 1) ((pSk 102 ((pSk 116 ((pSk 100 ((pSk 99 ((pSk 98 ((pSk 114 ((pSk 115 S).1)).1)).1)).1)).1)).1)).1)).2) := r23
                replace hM : MOk (pC (pF ((5 * (S 7 18)) + 1)) ((pSk 102 ((pSk 116 ((pSk 100 ((pSk 99 ((pSk 98 ((pSk 114 ((pSk 115 S).1)).1)).1)).1)).1)).1)).1)) := hM
                replace p24 : (((pSk 102 ((pSk 116 ((pSk 100 ((pSk 99 ((pSk 98 ((pSk 114 ((pSk 115 S).1)).1)).1)).1)).1)).1)).1) 7 16) ≤ (pC (pF ((5 * (S 7 18)) + 1)) ((pSk 102 ((pSk 116 ((pSk 100 ((pSk 99 ((pSk 98 ((pSk 114 ((pSk 115 S).1)).1)).1)).1)).1)).1)).1)) 7 16 ∧ (pC (pF ((5 * (S 7 18)) + 1)) ((pSk 102 ((pSk 116 ((pSk 100 ((pSk 99 ((pSk 98 ((pSk 114 ((pSk 115 S).1)).1)).1)).1)).1)).1)).1)) 7 16 ≤ (S 7 11) := p24
                replace hP : va_P (kD E) kcl (mW E Ad (pC (pF ((5 * (S 7 18)) + 1)) ((pSk 102 ((pSk 116 ((pSk 100 ((pSk 99 ((pSk 98 ((pSk 114 ((pSk 115 S).1)).1)).1)).1)).1)).1)).1))) H := hP
                replace hD : va_D A (mW E Ad (pC (pF ((5 * (S 7 18)) + 1)) ((pSk 102 ((pSk 116 ((pSk 100 ((pSk 99 ((pSk 98 ((pSk 114 ((pSk 115 S).1)).1)).1)).1)).1)).1)).1))) := hD
                show W p l e _ s m args below meth c H locs _ _ Q (F0 m 327 ls [.int (zI ((pF ((5 * (S 7 18)) + 1) ((pSk 102 ((pSk 116 ((pSk 100 ((pSk 99 ((pSk 98 ((pSk 114 ((pSk 115 S).1)).1)).1)).1)).1)).1)).1)).2))])
                refine kz_if_eq (tgt := 334) hx hb dX3_orderHere_327 (by decide) (by omega) (fun c327 => ?_) (fun c327 => ?_)
                · skip
                  refine kz_iconst hx hb dX3_orderHere_334 ?_
                  have e0 : (pOrd) S = (pC (pF ((5 * (S 7 18)) + 1)) ((pSk 102 ((pSk 116 ((pSk 100 ((pSk 99 ((pSk 98 ((pSk 114 ((pSk 115 S).1)).1)).1)).1)).1)).1)).1), 0) := by show pOrdP (5 * S 7 18 + 1) S = _; unfold pOrdP; refine Eq.trans (pIf_f c15) ?_; refine Eq.trans (pIf_f c67) ?_; refine Eq.trans (pIf_f c128) ?_; refine Eq.trans (pIf_f c209) ?_; refine Eq.trans (pIf_f c271) ?_; refine Eq.trans (pIf_f c304) ?_; refine Eq.trans (pIf_t c319) ?_; refine Eq.trans (pIf_fC (PG.f _) c327) ?_; exact rfl
                  have e1 : ((pOrd) S).2 = 0 := by rw [e0]
                  have e3 : pC (pOrd) S = pC (pF ((5 * (S 7 18)) + 1)) ((pSk 102 ((pSk 116 ((pSk 100 ((pSk 99 ((pSk 98 ((pSk 114 ((pSk 115 S).1)).1)).1)).1)).1)).1)).1) := by rw [← (PG.ord).c S, e0]
                  exact kz_zNret () hx hb hr hlk hP hD hS dX3_orderHere_335 (by first | decide | exact (PG.t _).r _) (congrArg (fun z : Int => some (Value.int (zI z))) e1) ⟨(kz_r e1 (by omega)), (kz_M e3 hM), (by have z := (PG.ord).m S (by omega) (by omega); rw [(PG.ord).c S] at z; exact z), (by have z := PS.ord S (by omega) (by omega); rw [(PG.ord).c S] at z; exact z)⟩ (congrArg (mW E Ad) e3) hQ (Nat.le_of_ble_eq_true rfl) (Nat.le_of_ble_eq_true rfl)
                · skip
                  refine kz_iconst hx hb dX3_orderHere_330 ?_
                  refine lv_goto (tgt := 335) hx hb dX3_orderHere_331 (by decide) ?_
                  have e0 : (pOrd) S = (pC (pF ((5 * (S 7 18)) + 1)) ((pSk 102 ((pSk 116 ((pSk 100 ((pSk 99 ((pSk 98 ((pSk 114 ((pSk 115 S).1)).1)).1)).1)).1)).1)).1), 1) := by show pOrdP (5 * S 7 18 + 1) S = _; unfold pOrdP; refine Eq.trans (pIf_f c15) ?_; refine Eq.trans (pIf_f c67) ?_; refine Eq.trans (pIf_f c128) ?_; refine Eq.trans (pIf_f c209) ?_; refine Eq.trans (pIf_f c271) ?_; refine Eq.trans (pIf_f c304) ?_; refine Eq.trans (pIf_t c319) ?_; refine Eq.trans (pIf_tC (PG.f _) c327) ?_; exact rfl
                  have e1 : ((pOrd) S).2 = 1 := by rw [e0]
                  have e3 : pC (pOrd) S = pC (pF ((5 * (S 7 18)) + 1)) ((pSk 102 ((pSk 116 ((pSk 100 ((pSk 99 ((pSk 98 ((pSk 114 ((pSk 115 S).1)).1)).1)).1)).1)).1)).1) := by rw [← (PG.ord).c S, e0]
                  exact kz_zNret () hx hb hr hlk hP hD hS dX3_orderHere_335 (by first | decide | exact (PG.t _).r _) (congrArg (fun z : Int => some (Value.int (zI z))) e1) ⟨(kz_r e1 (by omega)), (kz_M e3 hM), (by have z := (PG.ord).m S (by omega) (by omega); rw [(PG.ord).c S] at z; exact z), (by have z := PS.ord S (by omega) (by omega); rw [(PG.ord).c S] at z; exact z)⟩ (congrArg (mW E Ad) e3) hQ (Nat.le_of_ble_eq_true rfl) (Nat.le_of_ble_eq_true rfl)
            · skip
              refine lv_aload_n hx hb dX3_orderHere_307 rfl (lv_at hl 1 rfl) ?_
              refine lv_iload_n hx hb dX3_orderHere_308 rfl (lv_at hl 0 rfl) ?_
              refine kz_backM (va_runV (As := [.int (zI ((5 * (S 7 18)) + 1))]) (rest := []) ⟨hx, hb, hml, hown, hts⟩ (mX3_withT l E H.size Ad ((pSk 116 ((pSk 100 ((pSk 99 ((pSk 98 ((pSk 114 ((pSk 115 S).1)).1)).1)).1)).1)).1) hM ((5 * (S 7 18)) + 1) (by omega) (show 0 ≤ (((pSk 116 ((pSk 100 ((pSk 99 ((pSk 98 ((pSk 114 ((pSk 115 S).1)).1)).1)).1)).1)).1) 7 16) ∧ (((pSk 116 ((pSk 100 ((pSk 99 ((pSk 98 ((pSk 114 ((pSk 115 S).1)).1)).1)).1)).1)).1) 7 16) ≤ (S 7 11) ∧ (S 7 11) ≤ 60 by first | omega | exact hI.st _ (by omega) (by omega) | exact hI.rv _ (by omega) (by omega) | exact hI) (show 1 ≤ ((5 * (S 7 18)) + 1) ∧ ((5 * (S 7 18)) + 1) ≤ 151 by first | omega | exact hI.st _ (by omega) (by omega) | exact hI.rv _ (by omega) (by omega) | exact hI) (show 0 ≤ (S 7 18) ∧ (S 7 18) ≤ 30 by first | omega | exact hI.st _ (by omega) (by omega) | exact hI.rv _ (by omega) (by omega) | exact hI)) (cwV 1 hts (lw_V q2664 q2666 qs66 q83 q2667) rfl rfl rfl (by decide +kernel) ⟨(Nat.le_of_ble_eq_true rfl), (Nat.le_of_ble_eq_true rfl)⟩) (kz_preVM (wc := mW E Ad ((pSk 116 ((pSk 100 ((pSk 99 ((pSk 98 ((pSk 114 ((pSk 115 S).1)).1)).1)).1)).1)).1)) (va_recv hK hP (ci := 2) (q0 := 0) rfl rfl) hG hS hAN hP hD kz_nilP kz_nilA) rfl rfl hl.1 rfl (lv_room (Nat.le_of_ble_eq_true rfl)) dX3_orderHere_309 ⟨(Nat.le_of_ble_eq_true rfl), (Nat.le_of_ble_eq_true rfl)⟩) hP hD hS hA (fun u H9 locs9 hu hP9 hD9 hS9 hzz hkk => ?_)
              clear hzz hkk hP hD hS H locs u
              revert hS9 hD9 hP9 locs9 H9
              intro H locs hP hD hS
              clear hM
              obtain ⟨r25, hM, p26⟩ := hu
              replace r25 : rI ((pT ((5 * (S 7 18)) + 1) ((pSk 116 ((pSk 100 ((pSk 99 ((pSk 98 ((pSk 114 ((pSk 115 S).1)).1)).1)).1)).1)).1)).2) := r25
              replace hM : MOk (pC (pT ((5 * (S 7 18)) + 1)) ((pSk 116 ((pSk 100 ((pSk 99 ((pSk 98 ((pSk 114 ((pSk 115 S).1)).1)).1)).1)).1)).1)) := hM
              replace p26 : (((pSk 116 ((pSk 100 ((pSk 99 ((pSk 98 ((pSk 114 ((pSk 115 S).1)).1)).1)).1)).1)).1) 7 16) ≤ (pC (pT ((5 * (S 7 18)) + 1)) ((pSk 116 ((pSk 100 ((pSk 99 ((pSk 98 ((pSk 114 ((pSk 115 S).1)).1)).1)).1)).1)).1)) 7 16 ∧ (pC (pT ((5 * (S 7 18)) + 1)) ((pSk 116 ((pSk 100 ((pSk 99 ((pSk 98 ((pSk 114 ((pSk 115 S).1)).1)).1)).1)).1)).1)) 7 16 ≤ (S 7 11) := p26
              replace hP : va_P (kD E) kcl (mW E Ad (pC (pT ((5 * (S 7 18)) + 1)) ((pSk 116 ((pSk 100 ((pSk 99 ((pSk 98 ((pSk 114 ((pSk 115 S).1)).1)).1)).1)).1)).1))) H := hP
              replace hD : va_D A (mW E Ad (pC (pT ((5 * (S 7 18)) + 1)) ((pSk 116 ((pSk 100 ((pSk 99 ((pSk 98 ((pSk 114 ((pSk 115 S).1)).1)).1)).1)).1)).1))) := hD
              show W p l e _ s m args below meth c H locs _ _ Q (F0 m 312 ls [.int (zI ((pT ((5 * (S 7 18)) + 1) ((pSk 116 ((pSk 100 ((pSk 99 ((pSk 98 ((pSk 114 ((pSk 115 S).1)).1)).1)).1)).1)).1)).2))])
              have e0 : (pOrd) S = (pC (pT ((5 * (S 7 18)) + 1)) ((pSk 116 ((pSk 100 ((pSk 99 ((pSk 98 ((pSk 114 ((pSk 115 S).1)).1)).1)).1)).1)).1), (pT ((5 * (S 7 18)) + 1) ((pSk 116 ((pSk 100 ((pSk 99 ((pSk 98 ((pSk 114 ((pSk 115 S).1)).1)).1)).1)).1)).1)).2) := by show pOrdP (5 * S 7 18 + 1) S = _; unfold pOrdP; refine Eq.trans (pIf_f c15) ?_; refine Eq.trans (pIf_f c67) ?_; refine Eq.trans (pIf_f c128) ?_; refine Eq.trans (pIf_f c209) ?_; refine Eq.trans (pIf_f c271) ?_; refine Eq.trans (pIf_t c304) ?_; first | exact (PG.t _).e _ | exact (PG.f _).e _
              have e1 : ((pOrd) S).2 = (pT ((5 * (S 7 18)) + 1) ((pSk 116 ((pSk 100 ((pSk 99 ((pSk 98 ((pSk 114 ((pSk 115 S).1)).1)).1)).1)).1)).1)).2 := by rw [e0]
              have e3 : pC (pOrd) S = pC (pT ((5 * (S 7 18)) + 1)) ((pSk 116 ((pSk 100 ((pSk 99 ((pSk 98 ((pSk 114 ((pSk 115 S).1)).1)).1)).1)).1)).1) := by rw [← (PG.ord).c S, e0]
              exact kz_zNret () hx hb hr hlk hP hD hS dX3_orderHere_312 (by first | decide | exact (PG.t _).r _) (congrArg (fun z : Int => some (Value.int (zI z))) e1) ⟨(kz_r e1 (by omega)), (kz_M e3 hM), (by have z := (PG.ord).m S (by omega) (by omega); rw [(PG.ord).c S] at z; exact z), (by have z := PS.ord S (by omega) (by omega); rw [(PG.ord).c S] at z; exact z)⟩ (congrArg (mW E Ad) e3) hQ (Nat.le_of_ble_eq_true rfl) (Nat.le_of_ble_eq_true rfl)
          · skip
            refine lv_aload_n hx hb dX3_orderHere_274 rfl (lv_at hl 1 rfl) ?_
            refine kz_bipush hx hb dX3_orderHere_275 (by decide) ?_
            refine kz_backM (va_runV (As := [.int (zI (9))]) (rest := []) ⟨hx, hb, hml, hown, hts⟩ (mX3_hasOrder l E H.size Ad ((pSk 100 ((pSk 99 ((pSk 98 ((pSk 114 ((pSk 115 S).1)).1)).1)).1)).1) hM 9 (by omega) (show 0 ≤ (S 7 18) ∧ (S 7 18) ≤ 30 by first | omega | exact hI.st _ (by omega) (by omega) | exact hI.rv _ (by omega) (by omega) | exact hI)) (cwV 1 hts (lw_V q2645 q2647 qs63 q83 q2648) rfl rfl rfl (by decide +kernel) ⟨(Nat.le_of_ble_eq_true rfl), (Nat.le_of_ble_eq_true rfl)⟩) (kz_preVM (wc := mW E Ad ((pSk 100 ((pSk 99 ((pSk 98 ((pSk 114 ((pSk 115 S).1)).1)).1)).1)).1)) (va_recv hK hP (ci := 2) (q0 := 0) rfl rfl) hG hS hAN hP hD kz_nilP kz_nilA) rfl rfl hl.1 rfl (lv_room (Nat.le_of_ble_eq_true rfl)) dX3_orderHere_277 ⟨(Nat.le_of_ble_eq_true rfl), (Nat.le_of_ble_eq_true rfl)⟩) hP hD hS hA (fun u H9 locs9 hu hP9 hD9 hS9 hzz hkk => ?_)
            clear hzz hkk hP hD hS H locs u
            revert hS9 hD9 hP9 locs9 H9
            intro H locs hP hD hS
            clear hM
            obtain ⟨r27, hM⟩ := hu
            replace r27 : rI ((pHas 9 ((pSk 100 ((pSk 99 ((pSk 98 ((pSk 114 ((pSk 115 S).1)).1)).1)).1)).1)).2) := r27
            replace hM : MOk ((pHas 9 ((pSk 100 ((pSk 99 ((pSk 98 ((pSk 114 ((pSk 115 S).1)).1)).1)).1)).1)).1) := hM
            replace hP : va_P (kD E) kcl (mW E Ad ((pHas 9 ((pSk 100 ((pSk 99 ((pSk 98 ((pSk 114 ((pSk 115 S).1)).1)).1)).1)).1)).1)) H := hP
            replace hD : va_D A (mW E Ad ((pHas 9 ((pSk 100 ((pSk 99 ((pSk 98 ((pSk 114 ((pSk 115 S).1)).1)).1)).1)).1)).1)) := hD
            show W p l e _ s m args below meth c H locs _ _ Q (F0 m 280 ls [.int (zI ((pHas 9 ((pSk 100 ((pSk 99 ((pSk 98 ((pSk 114 ((pSk 115 S).1)).1)).1)).1)).1)).2))])
            refine kz_if_eq (tgt := 296) hx hb dX3_orderHere_280 (by decide) (by omega) (fun c280 => ?_) (fun c280 => ?_)
            · skip
              refine kz_iconst hx hb dX3_orderHere_296 ?_
              have e0 : (pOrd) S = ((pHas 9 ((pSk 100 ((pSk 99 ((pSk 98 ((pSk 114 ((pSk 115 S).1)).1)).1)).1)).1)).1, 0) := by show pOrdP (5 * S 7 18 + 1) S = _; unfold pOrdP; refine Eq.trans (pIf_f c15) ?_; refine Eq.trans (pIf_f c67) ?_; refine Eq.trans (pIf_f c128) ?_; refine Eq.trans (pIf_f c209) ?_; refine Eq.trans (pIf_t c271) ?_; refine Eq.trans (pIf_f c280) ?_; exact rfl
              have e1 : ((pOrd) S).2 = 0 := by rw [e0]
              have e3 : pC (pOrd) S = (pHas 9 ((pSk 100 ((pSk 99 ((pSk 98 ((pSk 114 ((pSk 115 S).1)).1)).1)).1)).1)).1 := by rw [← (PG.ord).c S, e0]
              exact kz_zNret () hx hb hr hlk hP hD hS dX3_orderHere_297 (by first | decide | exact (PG.t _).r _) (congrArg (fun z : Int => some (Value.int (zI z))) e1) ⟨(kz_r e1 (by omega)), (kz_M e3 hM), (by have z := (PG.ord).m S (by omega) (by omega); rw [(PG.ord).c S] at z; exact z), (by have z := PS.ord S (by omega) (by omega); rw [(PG.ord).c S] at z; exact z)⟩ (congrArg (mW E Ad) e3) hQ (Nat.le_of_ble_eq_true rfl) (Nat.le_of_ble_eq_true rfl)
            · skip
              refine lv_aload_n hx hb dX3_orderHere_283 rfl (lv_at hl 1 rfl) ?_
              have hl28 := hG.lit_ay
              refine va_ldcS hx hb hown (hG.ldc hl28 q2663 (Or.inl ⟨rfl, rfl⟩)) dX3_orderHere_284 ?_
              refine kz_backM (va_runV (As := [.ref ((litA E "SkipSchoolModel" 215))]) (rest := []) ⟨hx, hb, hml, hown, hts⟩ (mX3_isWord l E H.size Ad ((pHas 9 ((pSk 100 ((pSk 99 ((pSk 98 ((pSk 114 ((pSk 115 S).1)).1)).1)).1)).1)).1) hM (litA E "SkipSchoolModel" 215) (litV E "SkipSchoolModel" 215) [97, 121] (by decide) (by decide) hl28.2.2.1 hl28.2.2.2.1 (show 0 ≤ (((pSk 100 ((pSk 99 ((pSk 98 ((pSk 114 ((pSk 115 S).1)).1)).1)).1)).1) 7 16) ∧ (((pSk 100 ((pSk 99 ((pSk 98 ((pSk 114 ((pSk 115 S).1)).1)).1)).1)).1) 7 16) ≤ (S 7 11) ∧ (S 7 11) ≤ 60 by first | omega | exact hI.st _ (by omega) (by omega) | exact hI.rv _ (by omega) (by omega) | exact hI)) (cwV 1 hts (lw_V q2650 q2652 qs64 q83 q2653) rfl rfl rfl (by decide +kernel) ⟨(Nat.le_of_ble_eq_true rfl), (Nat.le_of_ble_eq_true rfl)⟩) (kz_preXV (kz_preVM (wc := mW E Ad ((pHas 9 ((pSk 100 ((pSk 99 ((pSk 98 ((pSk 114 ((pSk 115 S).1)).1)).1)).1)).1)).1)) (va_recv hK hP (ci := 2) (q0 := 0) rfl rfl) hG hS hAN hP hD kz_nilP kz_nilA) (fun _ _ _ _ h => h) (fun U hU hW => hl28.1.on hS (fun z => absurd (hAN _ z) (Nat.not_le.mpr hl28.2.2.1)) (fun z => absurd (hAN _ z) (Nat.not_le.mpr hl28.2.2.2.1)) hU hW)) rfl rfl hl.1 rfl (lv_room (Nat.le_of_ble_eq_true rfl)) dX3_orderHere_286 ⟨(Nat.le_of_ble_eq_true rfl), (Nat.le_of_ble_eq_true rfl)⟩) hP hD hS hA (fun u H9 locs9 hu hP9 hD9 hS9 hzz hkk => ?_)
              clear hzz hkk hP hD hS H locs u
              revert hS9 hD9 hP9 locs9 H9
              intro H locs hP hD hS
              clear hM
              obtain ⟨r29, hM, p30⟩ := hu
              replace r29 : rI ((pWord ([97, 121]) ((pHas 9 ((pSk 100 ((pSk 99 ((pSk 98 ((pSk 114 ((pSk 115 S).1)).1)).1)).1)).1)).1)).2) := r29
              replace hM : MOk (pC (pWord ([97, 121])) ((pHas 9 ((pSk 100 ((pSk 99 ((pSk 98 ((pSk 114 ((pSk 115 S).1)).1)).1)).1)).1)).1)) := hM
              replace p30 : (((pSk 100 ((pSk 99 ((pSk 98 ((pSk 114 ((pSk 115 S).1)).1)).1)).1)).1) 7 16) ≤ (pC (pWord ([97, 121])) ((pHas 9 ((pSk 100 ((pSk 99 ((pSk 98 ((pSk 114 ((pSk 115 S).1)).1)).1)).1)).1)).1)) 7 16 ∧ (pC (pWord ([97, 121])) ((pHas 9 ((pSk 100 ((pSk 99 ((pSk 98 ((pSk 114 ((pSk 115 S).1)).1)).1)).1)).1)).1)) 7 16 ≤ (S 7 11) := p30
              replace hP : va_P (kD E) kcl (mW E Ad (pC (pWord ([97, 121])) ((pHas 9 ((pSk 100 ((pSk 99 ((pSk 98 ((pSk 114 ((pSk 115 S).1)).1)).1)).1)).1)).1))) H := hP
              replace hD : va_D A (mW E Ad (pC (pWord ([97, 121])) ((pHas 9 ((pSk 100 ((pSk 99 ((pSk 98 ((pSk 114 ((pSk 115 S).1)).1)).1)).1)).1)).1))) := hD
              show W p l e _ s m args below meth c H locs _ _ Q (F0 m 289 ls [.int (zI ((pWord ([97, 121]) ((pHas 9 ((pSk 100 ((pSk 99 ((pSk 98 ((pSk 114 ((pSk 115 S).1)).1)).1)).1)).1)).1)).2))])
              refine kz_if_eq (tgt := 296) hx hb dX3_orderHere_289 (by decide) (by omega) (fun c289 => ?_) (fun c289 => ?_)
              · skip
                refine kz_iconst hx hb dX3_orderHere_296 ?_
                have e0 : (pOrd) S = (pC (pWord ([97, 121])) ((pHas 9 ((pSk 100 ((pSk 99 ((pSk 98 ((pSk 114 ((pSk 115 S).1)).1)).1)).1)).1)).1), 0) := by show pOrdP (5 * S 7 18 + 1) S = _; unfold pOrdP; refine Eq.trans (pIf_f c15) ?_; refine Eq.trans (pIf_f c67) ?_; refine Eq.trans (pIf_f c128) ?_; refine Eq.trans (pIf_f c209) ?_; refine Eq.trans (pIf_t c271) ?_; refine Eq.trans (pIf_t c280) ?_; refine Eq.trans (pIf_fC (PG.word _ (by decide)) c289) ?_; exact rfl
                have e1 : ((pOrd) S).2 = 0 := by rw [e0]
                have e3 : pC (pOrd) S = pC (pWord ([97, 121])) ((pHas 9 ((pSk 100 ((pSk 99 ((pSk 98 ((pSk 114 ((pSk 115 S).1)).1)).1)).1)).1)).1) := by rw [← (PG.ord).c S, e0]
                exact kz_zNret () hx hb hr hlk hP hD hS dX3_orderHere_297 (by first | decide | exact (PG.t _).r _) (congrArg (fun z : Int => some (Value.int (zI z))) e1) ⟨(kz_r e1 (by omega)), (kz_M e3 hM), (by have z := (PG.ord).m S (by omega) (by omega); rw [(PG.ord).c S] at z; exact z), (by have z := PS.ord S (by omega) (by omega); rw [(PG.ord).c S] at z; exact z)⟩ (congrArg (mW E Ad) e3) hQ (Nat.le_of_ble_eq_true rfl) (Nat.le_of_ble_eq_true rfl)
              · skip
                refine kz_iconst hx hb dX3_orderHere_292 ?_
                refine lv_goto (tgt := 297) hx hb dX3_orderHere_293 (by decide) ?_
                have e0 : (pOrd) S = (pC (pWord ([97, 121])) ((pHas 9 ((pSk 100 ((pSk 99 ((pSk 98 ((pSk 114 ((pSk 115 S).1)).1)).1)).1)).1)).1), 1) := by show pOrdP (5 * S 7 18 + 1) S = _; unfold pOrdP; refine Eq.trans (pIf_f c15) ?_; refine Eq.trans (pIf_f c67) ?_; refine Eq.trans (pIf_f c128) ?_; refine Eq.trans (pIf_f c209) ?_; refine Eq.trans (pIf_t c271) ?_; refine Eq.trans (pIf_t c280) ?_; refine Eq.trans (pIf_tC (PG.word _ (by decide)) c289) ?_; exact rfl
                have e1 : ((pOrd) S).2 = 1 := by rw [e0]
                have e3 : pC (pOrd) S = pC (pWord ([97, 121])) ((pHas 9 ((pSk 100 ((pSk 99 ((pSk 98 ((pSk 114 ((pSk 115 S).1)).1)).1)).1)).1)).1) := by rw [← (PG.ord).c S, e0]
                exact kz_zNret () hx hb hr hlk hP hD hS dX3_orderHere_297 (by first | decide | exact (PG.t _).r _) (congrArg (fun z : Int => some (Value.int (zI z))) e1) ⟨(kz_r e1 (by omega)), (kz_M e3 hM), (by have z := (PG.ord).m S (by omega) (by omega); rw [(PG.ord).c S] at z; exact z), (by have z := PS.ord S (by omega) (by omega); rw [(PG.ord).c S] at z; exact z)⟩ (congrArg (mW E Ad) e3) hQ (Nat.le_of_ble_eq_true rfl) (Nat.le_of_ble_eq_true rfl)
        · skip
          refine lv_aload_n hx hb dX3_orderHere_212 rfl (lv_at hl 1 rfl) ?_
          refine kz_bipush hx hb dX3_orderHere_213 (by decide) ?_
          refine kz_backM (va_runV (As := [.int (zI (8))]) (rest := []) ⟨hx, hb, hml, hown, hts⟩ (mX3_hasOrder l E H.size Ad ((pSk 99 ((pSk 98 ((pSk 114 ((pSk 115 S).1)).1)).1)).1) hM 8 (by omega) (show 0 ≤ (S 7 18) ∧ (S 7 18) ≤ 30 by first | omega | exact hI.st _ (by omega) (by omega) | exact hI.rv _ (by omega) (by omega) | exact hI)) (cwV 1 hts (lw_V q2645 q2647 qs63 q83 q2648) rfl rfl rfl (by decide +kernel) ⟨(Nat.le_of_ble_eq_true rfl), (Nat.le_of_ble_eq_true rfl)⟩) (kz_preVM (wc := mW E Ad ((pSk 99 ((pSk 98 ((pSk 114 ((pSk 115 S).1)).1)).1)).1)) (va_recv hK hP (ci := 2) (q0 := 0) rfl rfl) hG hS hAN hP hD kz_nilP kz_nilA) rfl rfl hl.1 rfl (lv_room (Nat.le_of_ble_eq_true rfl)) dX3_orderHere_215 ⟨(Nat.le_of_ble_eq_true rfl), (Nat.le_of_ble_eq_true rfl)⟩) hP hD hS hA (fun u H9 locs9 hu hP9 hD9 hS9 hzz hkk => ?_)
          clear hzz hkk hP hD hS H locs u
          revert hS9 hD9 hP9 locs9 H9
          intro H locs hP hD hS
          clear hM
          obtain ⟨r31, hM⟩ := hu
          replace r31 : rI ((pHas 8 ((pSk 99 ((pSk 98 ((pSk 114 ((pSk 115 S).1)).1)).1)).1)).2) := r31
          replace hM : MOk ((pHas 8 ((pSk 99 ((pSk 98 ((pSk 114 ((pSk 115 S).1)).1)).1)).1)).1) := hM
          replace hP : va_P (kD E) kcl (mW E Ad ((pHas 8 ((pSk 99 ((pSk 98 ((pSk 114 ((pSk 115 S).1)).1)).1)).1)).1)) H := hP
          replace hD : va_D A (mW E Ad ((pHas 8 ((pSk 99 ((pSk 98 ((pSk 114 ((pSk 115 S).1)).1)).1)).1)).1)) := hD
          show W p l e _ s m args below meth c H locs _ _ Q (F0 m 218 ls [.int (zI ((pHas 8 ((pSk 99 ((pSk 98 ((pSk 114 ((pSk 115 S).1)).1)).1)).1)).2))])
          refine kz_if_eq (tgt := 263) hx hb dX3_orderHere_218 (by decide) (by omega) (fun c218 => ?_) (fun c218 => ?_)
          · skip
            refine kz_iconst hx hb dX3_orderHere_263 ?_
            have e0 : (pOrd) S = ((pHas 8 ((pSk 99 ((pSk 98 ((pSk 114 ((pSk 115 S).1)).1)).1)).1)).1, 0) := by show pOrdP (5 * S 7 18 + 1) S = _; unfold pOrdP; refine Eq.trans (pIf_f c15) ?_; refine Eq.trans (pIf_f c67) ?_; refine Eq.trans (pIf_f c128) ?_; refine Eq.trans (pIf_t c209) ?_; refine Eq.trans (pIf_f c218) ?_; exact rfl
            have e1 : ((pOrd) S).2 = 0 := by rw [e0]
            have e3 : pC (pOrd) S = (pHas 8 ((pSk 99 ((pSk 98 ((pSk 114 ((pSk 115 S).1)).1)).1)).1)).1 := by rw [← (PG.ord).c S, e0]
            exact kz_zNret () hx hb hr hlk hP hD hS dX3_orderHere_264 (by first | decide | exact (PG.t _).r _) (congrArg (fun z : Int => some (Value.int (zI z))) e1) ⟨(kz_r e1 (by omega)), (kz_M e3 hM), (by have z := (PG.ord).m S (by omega) (by omega); rw [(PG.ord).c S] at z; exact z), (by have z := PS.ord S (by omega) (by omega); rw [(PG.ord).c S] at z; exact z)⟩ (congrArg (mW E Ad) e3) hQ (Nat.le_of_ble_eq_true rfl) (Nat.le_of_ble_eq_true rfl)
          · skip
            refine lv_aload_n hx hb dX3_orderHere_221 rfl (lv_at hl 1 rfl) ?_
            have hl32 := hG.lit_alm
            refine va_ldcS hx hb hown (hG.ldc hl32 q2662 (Or.inl ⟨rfl, rfl⟩)) dX3_orderHere_222 ?_
            refine kz_backM (va_runV (As := [.ref ((litA E "SkipSchoolModel" 213))]) (rest := []) ⟨hx, hb, hml, hown, hts⟩ (mX3_isWord l E H.size Ad ((pHas 8 ((pSk 99 ((pSk 98 ((pSk 114 ((pSk 115 S).1)).1)).1)).1)).1) hM (litA E "SkipSchoolModel" 213) (litV E "SkipSchoolModel" 213) [97, 108, 109] (by decide) (by decide) hl32.2.2.1 hl32.2.2.2.1 (show 0 ≤ (((pSk 99 ((pSk 98 ((pSk 114 ((pSk 115 S).1)).1)).1)).1) 7 16) ∧ (((pSk 99 ((pSk 98 ((pSk 114 ((pSk 115 S).1)).1)).1)).1) 7 16) ≤ (S 7 11) ∧ (S 7 11) ≤ 60 by first | omega | exact hI.st _ (by omega) (by omega) | exact hI.rv _ (by omega) (by omega) | exact hI)) (cwV 1 hts (lw_V q2650 q2652 qs64 q83 q2653) rfl rfl rfl (by decide +kernel) ⟨(Nat.le_of_ble_eq_true rfl), (Nat.le_of_ble_eq_true rfl)⟩) (kz_preXV (kz_preVM (wc := mW E Ad ((pHas 8 ((pSk 99 ((pSk 98 ((pSk 114 ((pSk 115 S).1)).1)).1)).1)).1)) (va_recv hK hP (ci := 2) (q0 := 0) rfl rfl) hG hS hAN hP hD kz_nilP kz_nilA) (fun _ _ _ _ h => h) (fun U hU hW => hl32.1.on hS (fun z => absurd (hAN _ z) (Nat.not_le.mpr hl32.2.2.1)) (fun z => absurd (hAN _ z) (Nat.not_le.mpr hl32.2.2.2.1)) hU hW)) rfl rfl hl.1 rfl (lv_room (Nat.le_of_ble_eq_true rfl)) dX3_orderHere_224 ⟨(Nat.le_of_ble_eq_true rfl), (Nat.le_of_ble_eq_true rfl)⟩) hP hD hS hA (fun u H9 locs9 hu hP9 hD9 hS9 hzz hkk => ?_)
            clear hzz hkk hP hD hS H locs u
            revert hS9 hD9 hP9 locs9 H9
            intro H locs hP hD hS
            clear hM
            obtain ⟨r33, hM, p34⟩ := hu
            replace r33 : rI ((pWord ([97, 108, 109]) ((pHas 8 ((pSk 99 ((pSk 98 ((pSk 114 ((pSk 115 S).1)).1)).1)).1)).1)).2) := r33
            replace hM : MOk (pC (pWord ([97, 108, 109])) ((pHas 8 ((pSk 99 ((pSk 98 ((pSk 114 ((pSk 115 S).1)).1)).1)).1)).1)) := hM
            replace p34 : (((pSk 99 ((pSk 98 ((pSk 114 ((pSk 115 S).1)).1)).1)).1) 7 16) ≤ (pC (pWord ([97, 108, 109])) ((pHas 8 ((pSk 99 ((pSk 98 ((pSk 114 ((pSk 115 S).1)).1)).1)).1)).1)) 7 16 ∧ (pC (pWord ([97, 108, 109])) ((pHas 8 ((pSk 99 ((pSk 98 ((pSk 114 ((pSk 115 S).1)).1)).1)).1)).1)) 7 16 ≤ (S 7 11) := p34
            replace hP : va_P (kD E) kcl (mW E Ad (pC (pWord ([97, 108, 109])) ((pHas 8 ((pSk 99 ((pSk 98 ((pSk 114 ((pSk 115 S).1)).1)).1)).1)).1))) H := hP
            replace hD : va_D A (mW E Ad (pC (pWord ([97, 108, 109])) ((pHas 8 ((pSk 99 ((pSk 98 ((pSk 114 ((pSk 115 S).1)).1)).1)).1)).1))) := hD
            show W p l e _ s m args below meth c H locs _ _ Q (F0 m 227 ls [.int (zI ((pWord ([97, 108, 109]) ((pHas 8 ((pSk 99 ((pSk 98 ((pSk 114 ((pSk 115 S).1)).1)).1)).1)).1)).2))])
            refine kz_if_eq (tgt := 263) hx hb dX3_orderHere_227 (by decide) (by omega) (fun c227 => ?_) (fun c227 => ?_)
            · skip
              refine kz_iconst hx hb dX3_orderHere_263 ?_
              have e0 : (pOrd) S = (pC (pWord ([97, 108, 109])) ((pHas 8 ((pSk 99 ((pSk 98 ((pSk 114 ((pSk 115 S).1)).1)).1)).1)).1), 0) := by show pOrdP (5 * S 7 18 + 1) S = _; unfold pOrdP; refine Eq.trans (pIf_f c15) ?_; refine Eq.trans (pIf_f c67) ?_; refine Eq.trans (pIf_f c128) ?_; refine Eq.trans (pIf_t c209) ?_; refine Eq.trans (pIf_t c218) ?_; refine Eq.trans (pIf_fC (PG.word _ (by decide)) c227) ?_; exact rfl
              have e1 : ((pOrd) S).2 = 0 := by rw [e0]
              have e3 : pC (pOrd) S = pC (pWord ([97, 108, 109])) ((pHas 8 ((pSk 99 ((pSk 98 ((pSk 114 ((pSk 115 S).1)).1)).1)).1)).1) := by rw [← (PG.ord).c S, e0]
              exact kz_zNret () hx hb hr hlk hP hD hS dX3_orderHere_264 (by first | decide | exact (PG.t _).r _) (congrArg (fun z : Int => some (Value.int (zI z))) e1) ⟨(kz_r e1 (by omega)), (kz_M e3 hM), (by have z := (PG.ord).m S (by omega) (by omega); rw [(PG.ord).c S] at z; exact z), (by have z := PS.ord S (by omega) (by omega); rw [(PG.ord).c S] at z; exact z)⟩ (congrArg (mW E Ad) e3) hQ (Nat.le_of_ble_eq_true rfl) (Nat.le_of_ble_eq_true rfl)
            · skip
              refine lv_aload_n hx hb dX3_orderHere_230 rfl (lv_at hl 1 rfl) ?_
              refine lv_iload_n hx hb dX3_orderHere_231 rfl (lv_at hl 0 rfl) ?_
              refine kz_iconst hx hb dX3_orderHere_232 ?_
              refine kz_backM (va_runV (As := [.int (zI ((5 * (S 7 18)) + 1)), .int (zI (1))]) (rest := []) ⟨hx, hb, hml, hown, hts⟩ (mX3_figures l E H.size Ad (pC (pWord ([97, 108, 109])) ((pHas 8 ((pSk 99 ((pSk 98 ((pSk 114 ((pSk 115 S).1)).1)).1)).1)).1)) hM ((5 * (S 7 18)) + 1) (by omega) 1 (by omega) (show 0 ≤ ((pC (pWord ([97, 108, 109])) ((pHas 8 ((pSk 99 ((pSk 98 ((pSk 114 ((pSk 115 S).1)).1)).1)).1)).1)) 7 16) ∧ ((pC (pWord ([97, 108, 109])) ((pHas 8 ((pSk 99 ((pSk 98 ((pSk 114 ((pSk 115 S).1)).1)).1)).1)).1)) 7 16) ≤ (S 7 11) ∧ (S 7 11) ≤ 60 by first | omega | exact hI.st _ (by omega) (by omega) | exact hI.rv _ (by omega) (by omega) | exact hI) (show 0 ≤ ((5 * (S 7 18)) + 1) ∧ ((5 * (S 7 18)) + 1) < 155 by first | omega | exact hI.st _ (by omega) (by omega) | exact hI.rv _ (by omega) (by omega) | exact hI) (show 1 ≤ 1 ∧ 1 ≤ 2 by first | omega | exact hI.st _ (by omega) (by omega) | exact hI.rv _ (by omega) (by omega) | exact hI)) (cwV 2 hts (lw_V q2656 q2658 qs65 q83 q2659) rfl rfl rfl (by decide +kernel) ⟨(Nat.le_of_ble_eq_true rfl), (Nat.le_of_ble_eq_true rfl)⟩) (kz_preVM (wc := mW E Ad (pC (pWord ([97, 108, 109])) ((pHas 8 ((pSk 99 ((pSk 98 ((pSk 114 ((pSk 115 S).1)).1)).1)).1)).1))) (va_recv hK hP (ci := 2) (q0 := 0) rfl rfl) hG hS hAN hP hD kz_nilP kz_nilA) rfl rfl hl.1 rfl (lv_room (Nat.le_of_ble_eq_true rfl)) dX3_orderHere_233 ⟨(Nat.le_of_ble_eq_true rfl), (Nat.le_of_ble_eq_true rfl)⟩) hP hD hS hA (fun u H9 locs9 hu hP9 hD9 hS9 hzz hkk => ?_)
              clear hzz hkk hP hD hS H locs u
              revert hS9 hD9 hP9 locs9 H9
              intro H locs hP hD hS
              clear hM
              obtain ⟨r35, hM, p36⟩ := hu
              replace r35 : rI ((pFig ((5 * (S 7 18)) + 1) 1 (pC (pWord ([97, 108, 109])) ((pHas 8 ((pSk 99 ((pSk 98 ((pSk 114 ((pSk 115 S).1)).1)).1)).1)).1))).2) := r35
              replace hM : MOk ((pFig ((5 * (S 7 18)) + 1) 1 (pC (pWord ([97, 108, 109])) ((pHas 8 ((pSk 99 ((pSk 98 ((pSk 114 ((pSk 115 S).1)).1)).1)).1)).1))).1) := hM
              replace p36 : ((pC (pWord ([97, 108, 109])) ((pHas 8 ((pSk 99 ((pSk 98 ((pSk 114 ((pSk 115 S).1)).1)).1)).1)).1)) 7 16) ≤ (pFig ((5 * (S 7 18)) + 1) 1 (pC (pWord ([97, 108, 109])) ((pHas 8 ((pSk 99 ((pSk 98 ((pSk 114 ((pSk 115 S).1)).1)).1)).1)).1))).1 7 16 ∧ (pFig ((5 * (S 7 18)) + 1) 1 (pC (pWord ([97, 108, 109])) ((pHas 8 ((pSk 99 ((pSk 98 ((pSk 114 ((pSk 115 S).1)).1)).1)).1)).1))).1 7 16 ≤ (S 7 11) := p36
              replace hP : va_P (kD E) kcl (mW E Ad ((pFig ((5 * (S 7 18)) + 1) 1 (pC (pWord ([97, 108, 109])) ((pHas 8 ((pSk 99 ((pSk 98 ((pSk 114 ((pSk 115 S).1)).1)).1)).1)).1))).1)) H := hP
              replace hD : va_D A (mW E Ad ((pFig ((5 * (S 7 18)) + 1) 1 (pC (pWord ([97, 108, 109])) ((pHas 8 ((pSk 99 ((pSk 98 ((pSk 114 ((pSk 115 S).1)).1)).1)).1)).1))).1)) := hD
              show W p l e _ s m args below meth c H locs _ _ Q (F0 m 236 ls [.int (zI ((pFig ((5 * (S 7 18)) + 1) 1 (pC (pWord ([97, 108, 109])) ((pHas 8 ((pSk 99 ((pSk 98 ((pSk 114 ((pSk 115 S).1)).1)).1)).1)).1))).2))])
              refine kz_if_eq (tgt := 263) hx hb dX3_orderHere_236 (by decide) (by omega) (fun c236 => ?_) (fun c236 => ?_)
              · skip
                refine kz_iconst hx hb dX3_orderHere_263 ?_
                have e0 : (pOrd) S = ((pFig ((5 * (S 7 18)) + 1) 1 (pC (pWord ([97, 108, 109])) ((pHas 8 ((pSk 99 ((pSk 98 ((pSk 114 ((pSk 115 S).1)).1)).1)).1)).1))).1, 0) := by show pOrdP (5 * S 7 18 + 1) S = _; unfold pOrdP; refine Eq.trans (pIf_f c15) ?_; refine Eq.trans (pIf_f c67) ?_; refine Eq.trans (pIf_f c128) ?_; refine Eq.trans (pIf_t c209) ?_; refine Eq.trans (pIf_t c218) ?_; refine Eq.trans (pIf_tC (PG.word _ (by decide)) c227) ?_; refine Eq.trans (pIf_f c236) ?_; exact rfl
                have e1 : ((pOrd) S).2 = 0 := by rw [e0]
                have e3 : pC (pOrd) S = (pFig ((5 * (S 7 18)) + 1) 1 (pC (pWord ([97, 108, 109])) ((pHas 8 ((pSk 99 ((pSk 98 ((pSk 114 ((pSk 115 S).1)).1)).1)).1)).1))).1 := by rw [← (PG.ord).c S, e0]
                exact kz_zNret () hx hb hr hlk hP hD hS dX3_orderHere_264 (by first | decide | exact (PG.t _).r _) (congrArg (fun z : Int => some (Value.int (zI z))) e1) ⟨(kz_r e1 (by omega)), (kz_M e3 hM), (by have z := (PG.ord).m S (by omega) (by omega); rw [(PG.ord).c S] at z; exact z), (by have z := PS.ord S (by omega) (by omega); rw [(PG.ord).c S] at z; exact z)⟩ (congrArg (mW E Ad) e3) hQ (Nat.le_of_ble_eq_true rfl) (Nat.le_of_ble_eq_true rfl)
              · skip
                refine lv_aload_n hx hb dX3_orderHere_239 rfl (lv_at hl 1 rfl) ?_
                refine kz_bipush hx hb dX3_orderHere_240 (by decide) ?_
                refine kz_backM (va_runV (As := [.int (zI (61))]) (rest := []) ⟨hx, hb, hml, hown, hts⟩ (mX3_skipsOver l E H.size Ad ((pFig ((5 * (S 7 18)) + 1) 1 (pC (pWord ([97, 108, 109])) ((pHas 8 ((pSk 99 ((pSk 98 ((pSk 114 ((pSk 115 S).1)).1)).1)).1)).1))).1) hM 61 (by omega) (show 0 ≤ (((pFig ((5 * (S 7 18)) + 1) 1 (pC (pWord ([97, 108, 109])) ((pHas 8 ((pSk 99 ((pSk 98 ((pSk 114 ((pSk 115 S).1)).1)).1)).1)).1))).1) 7 16) ∧ (((pFig ((5 * (S 7 18)) + 1) 1 (pC (pWord ([97, 108, 109])) ((pHas 8 ((pSk 99 ((pSk 98 ((pSk 114 ((pSk 115 S).1)).1)).1)).1)).1))).1) 7 16) ≤ (S 7 11) ∧ (S 7 11) ≤ 60 by first | omega | exact hI.st _ (by omega) (by omega) | exact hI.rv _ (by omega) (by omega) | exact hI) (show 0 ≤ 61 by first | omega | exact hI.st _ (by omega) (by omega) | exact hI.rv _ (by omega) (by omega) | exact hI)) (cwV 1 hts (lw_V q2637 q2639 qs61 q83 q2640) rfl rfl rfl (by decide +kernel) ⟨(Nat.le_of_ble_eq_true rfl), (Nat.le_of_ble_eq_true rfl)⟩) (kz_preVM (wc := mW E Ad ((pFig ((5 * (S 7 18)) + 1) 1 (pC (pWord ([97, 108, 109])) ((pHas 8 ((pSk 99 ((pSk 98 ((pSk 114 ((pSk 115 S).1)).1)).1)).1)).1))).1)) (va_recv hK hP (ci := 2) (q0 := 0) rfl rfl) hG hS hAN hP hD kz_nilP kz_nilA) rfl rfl hl.1 rfl (lv_room (Nat.le_of_ble_eq_true rfl)) dX3_orderHere_242 ⟨(Nat.le_of_ble_eq_true rfl), (Nat.le_of_ble_eq_true rfl)⟩) hP hD hS hA (fun u H9 locs9 hu hP9 hD9 hS9 hzz hkk => ?_)
                clear hzz hkk hP hD hS H locs u
                revert hS9 hD9 hP9 locs9 H9
                intro H locs hP hD hS
                clear hM
                obtain ⟨r37, hM, p38, p39⟩ := hu
                replace r37 : rI ((pSk 61 ((pFig ((5 * (S 7 18)) + 1) 1 (pC (pWord ([97, 108, 109])) ((pHas 8 ((pSk 99 ((pSk 98 ((pSk 114 ((pSk 115 S).1)).1)).1)).1)).1))).1)).2) := r37
                replace hM : MOk ((pSk 61 ((pFig ((5 * (S 7 18)) + 1) 1 (pC (pWord ([97, 108, 109])) ((pHas 8 ((pSk 99 ((pSk 98 ((pSk 114 ((pSk 115 S).1)).1)).1)).1)).1))).1)).1) := hM
                replace p38 : (((pFig ((5 * (S 7 18)) + 1) 1 (pC (pWord ([97, 108, 109])) ((pHas 8 ((pSk 99 ((pSk 98 ((pSk 114 ((pSk 115 S).1)).1)).1)).1)).1))).1) 7 16) ≤ (pSk 61 ((pFig ((5 * (S 7 18)) + 1) 1 (pC (pWord ([97, 108, 109])) ((pHas 8 ((pSk 99 ((pSk 98 ((pSk 114 ((pSk 115 S).1)).1)).1)).1)).1))).1)).1 7 16 ∧ (pSk 61 ((pFig ((5 * (S 7 18)) + 1) 1 (pC (pWord ([97, 108, 109])) ((pHas 8 ((pSk 99 ((pSk 98 ((pSk 114 ((pSk 115 S).1)).1)).1)).1)).1))).1)).1 7 16 ≤ (S 7 11) := p38
                replace p39 : ((pSk 61 ((pFig ((5 * (S 7 18)) + 1) 1 (pC (pWord ([97, 108, 109])) ((pHas 8 ((pSk 99 ((pSk 98 ((pSk 114 ((pSk 115 S).1)).1)).1)).1)).1))).1)).2 = 0 ∨ (((pFig ((5 * (S 7 18)) + 1) 1 (pC (pWord ([97, 108, 109])) ((pHas 8 ((pSk 99 ((pSk 98 ((pSk 114 ((pSk 115 S).1)).1)).1)).1)).1))).1) 7 16) + 1 ≤ (pSk 61 ((pFig ((5 * (S 7 18)) + 1) 1 (pC (pWord ([97, 108, 109])) ((pHas 8 ((pSk 99 ((pSk 98 ((pSk 114 ((pSk 115 S).1)).1)).1)).1)).1))).1)).1 7 16) := p39
                replace hP : va_P (kD E) kcl (mW E Ad ((pSk 61 ((pFig ((5 * (S 7 18)) + 1) 1 (pC (pWord ([97, 108, 109])) ((pHas 8 ((pSk 99 ((pSk 98 ((pSk 114 ((pSk 115 S).1)).1)).1)).1)).1))).1)).1)) H := hP
                replace hD : va_D A (mW E Ad ((pSk 61 ((pFig ((5 * (S 7 18)) + 1) 1 (pC (pWord ([97, 108, 109])) ((pHas 8 ((pSk 99 ((pSk 98 ((pSk 114 ((pSk 115 S).1)).1)).1)).1)).1))).1)).1)) := hD
                show W p l e _ s m args below meth c H locs _ _ Q (F0 m 245 ls [.int (zI ((pSk 61 ((pFig ((5 * (S 7 18)) + 1) 1 (pC (pWord ([97, 108, 109])) ((pHas 8 ((pSk 99 ((pSk 98 ((pSk 114 ((pSk 115 S).1)).1)).1)).1)).1))).1)).2))])
                refine kz_if_eq (tgt := 263) hx hb dX3_orderHere_245 (by decide) (by omega) (fun c245 => ?_) (fun c245 => ?_)
                · skip
                  refine kz_iconst hx hb dX3_orderHere_263 ?_
                  have e0 : (pOrd) S = ((pSk 61 ((pFig ((5 * (S 7 18)) + 1) 1 (pC (pWord ([97, 108, 109])) ((pHas 8 ((pSk 99 ((pSk 98 ((pSk 114 ((pSk 115 S).1)).1)).1)).1)).1))).1)).1, 0) := by show pOrdP (5 * S 7 18 + 1) S = _; unfold pOrdP; refine Eq.trans (pIf_f c15) ?_; refine Eq.trans (pIf_f c67) ?_; refine Eq.trans (pIf_f c128) ?_; refine Eq.trans (pIf_t c209) ?_; refine Eq.trans (pIf_t c218) ?_; refine Eq.trans (pIf_tC (PG.word _ (by decide)) c227) ?_; refine Eq.trans (pIf_t c236) ?_; refine Eq.trans (pIf_f c245) ?_; exact rfl
                  have e1 : ((pOrd) S).2 = 0 := by rw [e0]
                  have e3 : pC (pOrd) S = (pSk 61 ((pFig ((5 * (S 7 18)) + 1) 1 (pC (pWord ([97, 108, 109])) ((pHas 8 ((pSk 99 ((pSk 98 ((pSk 114 ((pSk 115 S).1)).1)).1)).1)).1))).1)).1 := by rw [← (PG.ord).c S, e0]
                  exact kz_zNret () hx hb hr hlk hP hD hS dX3_orderHere_264 (by first | decide | exact (PG.t _).r _) (congrArg (fun z : Int => some (Value.int (zI z))) e1) ⟨(kz_r e1 (by omega)), (kz_M e3 hM), (by have z := (PG.ord).m S (by omega) (by omega); rw [(PG.ord).c S] at z; exact z), (by have z := PS.ord S (by omega) (by omega); rw [(PG.ord).c S] at z; exact z)⟩ (congrArg (mW E Ad) e3) hQ (Nat.le_of_ble_eq_true rfl) (Nat.le_of_ble_eq_true rfl)
                · skip
                  refine lv_aload_n hx hb dX3_orderHere_248 rfl (lv_at hl 1 rfl) ?_
                  refine lv_iload_n hx hb dX3_orderHere_249 rfl (lv_at hl 0 rfl) ?_
                  refine kz_iconst hx hb dX3_orderHere_250 ?_
                  refine kz_iadd hx hb dX3_orderHere_251 ?_
                  refine kz_iconst hx hb dX3_orderHere_252 ?_
                  refine kz_backM (va_runV (As := [.int (zI (((5 * (S 7 18)) + 1) + 1)), .int (zI (1))]) (rest := []) ⟨hx, hb, hml, hown, hts⟩ (mX3_figures l E H.size Ad ((pSk 61 ((pFig ((5 * (S 7 18)) + 1) 1 (pC (pWord ([97, 108, 109])) ((pHas 8 ((pSk 99 ((pSk 98 ((pSk 114 ((pSk 115 S).1)).1)).1)).1)).1))).1)).1) hM (((5 * (S 7 18)) + 1) + 1) (by omega) 1 (by omega) (show 0 ≤ (((pSk 61 ((pFig ((5 * (S 7 18)) + 1) 1 (pC (pWord ([97, 108, 109])) ((pHas 8 ((pSk 99 ((pSk 98 ((pSk 114 ((pSk 115 S).1)).1)).1)).1)).1))).1)).1) 7 16) ∧ (((pSk 61 ((pFig ((5 * (S 7 18)) + 1) 1 (pC (pWord ([97, 108, 109])) ((pHas 8 ((pSk 99 ((pSk 98 ((pSk 114 ((pSk 115 S).1)).1)).1)).1)).1))).1)).1) 7 16) ≤ (S 7 11) ∧ (S 7 11) ≤ 60 by first | omega | exact hI.st _ (by omega) (by omega) | exact hI.rv _ (by omega) (by omega) | exact hI) (show 0 ≤ (((5 * (S 7 18)) + 1) + 1) ∧ (((5 * (S 7 18)) + 1) + 1) < 155 by first | omega | exact hI.st _ (by omega) (by omega) | exact hI.rv _ (by omega) (by omega) | exact hI) (show 1 ≤ 1 ∧ 1 ≤ 2 by first | omega | exact hI.st _ (by omega) (by omega) | exact hI.rv _ (by omega) (by omega) | exact hI)) (cwV 2 hts (lw_V q2656 q2658 qs65 q83 q2659) rfl rfl rfl (by decide +kernel) ⟨(Nat.le_of_ble_eq_true rfl), (Nat.le_of_ble_eq_true rfl)⟩) (kz_preVM (wc := mW E Ad ((pSk 61 ((pFig ((5 * (S 7 18)) + 1) 1 (pC (pWord ([97, 108, 109])) ((pHas 8 ((pSk 99 ((pSk 98 ((pSk 114 ((pSk 115 S).1)).1)).1)).1)).1))).1)).1)) (va_recv hK hP (ci := 2) (q0 := 0) rfl rfl) hG hS hAN hP hD kz_nilP kz_nilA) rfl rfl hl.1 rfl (lv_room (Nat.le_of_ble_eq_true rfl)) dX3_orderHere_253 ⟨(Nat.le_of_ble_eq_true rfl), (Nat.le_of_ble_eq_true rfl)⟩) hP hD hS hA (fun u H9 locs9 hu hP9 hD9 hS9 hzz hkk => ?_)
                  clear hzz hkk hP hD hS H locs u
                  revert hS9 hD9 hP9 locs9 H9
                  intro H locs hP hD hS
                  clear hM
                  obtain ⟨r40, hM, p41⟩ := hu
                  replace r40 : rI ((pFig (((5 * (S 7 18)) + 1) + 1) 1 ((pSk 61 ((pFig ((5 * (S 7 18)) + 1) 1 (pC (pWord ([97, 108, 109])) ((pHas 8 ((pSk 99 ((pSk 98 ((pSk 114 ((pSk 115 S).1)).1)).1)).1)).1))).1)).1)).2) := r40
                  replace hM : MOk ((pFig (((5 * (S 7 18)) + 1) + 1) 1 ((pSk 61 ((pFig ((5 * (S 7 18)) + 1) 1 (pC (pWord ([97, 108, 109])) ((pHas 8 ((pSk 99 ((pSk 98 ((pSk 114 ((pSk 115 S).1)).1)).1)).1)).1))).1)).1)).1) := hM
                  replace p41 : (((pSk 61 ((pFig ((5 * (S 7 18)) + 1) 1 (pC (pWord ([97, 108, 109])) ((pHas 8 ((pSk 99 ((pSk 98 ((pSk 114 ((pSk 115 S).1)).1)).1)).1)).1))).1)).1) 7 16) ≤ (pFig (((5 * (S 7 18)) + 1) + 1) 1 ((pSk 61 ((pFig ((5 * (S 7 18)) + 1) 1 (pC (pWord ([97, 108, 109])) ((pHas 8 ((pSk 99 ((pSk 98 ((pSk 114 ((pSk 115 S).1)).1)).1)).1)).1))).1)).1)).1 7 16 ∧ (pFig (((5 * (S 7 18)) + 1) + 1) 1 ((pSk 61 ((pFig ((5 * (S 7 18)) + 1) 1 (pC (pWord ([97, 108, 109])) ((pHas 8 ((pSk 99 ((pSk 98 ((pSk 114 ((pSk 115 S).1)).1)).1)).1)).1))).1)).1)).1 7 16 ≤ (S 7 11) := p41
                  replace hP : va_P (kD E) kcl (mW E Ad ((pFig (((5 * (S 7 18)) + 1) + 1) 1 ((pSk 61 ((pFig ((5 * (S 7 18)) + 1) 1 (pC (pWord ([97, 108, 109])) ((pHas 8 ((pSk 99 ((pSk 98 ((pSk 114 ((pSk 115 S).1)).1)).1)).1)).1))).1)).1)).1)) H := hP
                  replace hD : va_D A (mW E Ad ((pFig (((5 * (S 7 18)) + 1) + 1) 1 ((pSk 61 ((pFig ((5 * (S 7 18)) + 1) 1 (pC (pWord ([97, 108, 109])) ((pHas 8 ((pSk 99 ((pSk 98 ((pSk 114 ((pSk 115 S).1)).1)).1)).1)).1))).1)).1)).1)) := hD
                  show W p l e _ s m args below meth c H locs _ _ Q (F0 m 256 ls [.int (zI ((pFig (((5 * (S 7 18)) + 1) + 1) 1 ((pSk 61 ((pFig ((5 * (S 7 18)) + 1) 1 (pC (pWord ([97, 108, 109])) ((pHas 8 ((pSk 99 ((pSk 98 ((pSk 114 ((pSk 115 S).1)).1)).1)).1)).1))).1)).1)).2))])
                  refine kz_if_eq (tgt := 263) hx hb dX3_orderHere_256 (by decide) (by omega) (fun c256 => ?_) (fun c256 => ?_)
                  · skip
                    refine kz_iconst hx hb dX3_orderHere_263 ?_
                    have e0 : (pOrd) S = ((pFig (((5 * (S 7 18)) + 1) + 1) 1 ((pSk 61 ((pFig ((5 * (S 7 18)) + 1) 1 (pC (pWord ([97, 108, 109])) ((pHas 8 ((pSk 99 ((pSk 98 ((pSk 114 ((pSk 115 S).1)).1)).1)).1)).1))).1)).1)).1, 0) := by show pOrdP (5 * S 7 18 + 1) S = _; unfold pOrdP; refine Eq.trans (pIf_f c15) ?_; refine Eq.trans (pIf_f c67) ?_; refine Eq.trans (pIf_f c128) ?_; refine Eq.trans (pIf_t c209) ?_; refine Eq.trans (pIf_t c218) ?_; refine Eq.trans (pIf_tC (PG.word _ (by decide)) c227) ?_; refine Eq.trans (pIf_t c236) ?_; refine Eq.trans (pIf_t c245) ?_; refine Eq.trans (pIf_f c256) ?_; exact rfl
                    have e1 : ((pOrd) S).2 = 0 := by rw [e0]
                    have e3 : pC (pOrd) S = (pFig (((5 * (S 7 18)) + 1) + 1) 1 ((pSk 61 ((pFig ((5 * (S 7 18)) + 1) 1 (pC (pWord ([97, 108, 109])) ((pHas 8 ((pSk 99 ((pSk 98 ((pSk 114 ((pSk 115 S).1)).1)).1)).1)).1))).1)).1)).1 := by rw [← (PG.ord).c S, e0]
                    exact kz_zNret () hx hb hr hlk hP hD hS dX3_orderHere_264 (by first | decide | exact (PG.t _).r _) (congrArg (fun z : Int => some (Value.int (zI z))) e1) ⟨(kz_r e1 (by omega)), (kz_M e3 hM), (by have z := (PG.ord).m S (by omega) (by omega); rw [(PG.ord).c S] at z; exact z), (by have z := PS.ord S (by omega) (by omega); rw [(PG.ord).c S] at z; exact z)⟩ (congrArg (mW E Ad) e3) hQ (Nat.le_of_ble_eq_true rfl) (Nat.le_of_ble_eq_true rfl)
                  · skip
                    refine kz_iconst hx hb dX3_orderHere_259 ?_
                    refine lv_goto (tgt := 264) hx hb dX3_orderHere_260 (by decide) ?_
                    have e0 : (pOrd) S = ((pFig (((5 * (S 7 18)) + 1) + 1) 1 ((pSk 61 ((pFig ((5 * (S 7 18)) + 1) 1 (pC (pWord ([97, 108, 109])) ((pHas 8 ((pSk 99 ((pSk 98 ((pSk 114 ((pSk 115 S).1)).1)).1)).1)).1))).1)).1)).1, 1) := by show pOrdP (5 * S 7 18 + 1) S = _; unfold pOrdP; refine Eq.trans (pIf_f c15) ?_; refine Eq.trans (pIf_f c67) ?_; refine Eq.trans (pIf_f c128) ?_; refine Eq.trans (pIf_t c209) ?_; refine Eq.trans (pIf_t c218) ?_; refine Eq.trans (pIf_tC (PG.word _ (by decide)) c227) ?_; refine Eq.trans (pIf_t c236) ?_; refine Eq.trans (pIf_t c245) ?_; refine Eq.trans (pIf_t c256) ?_; exact rfl
                    have e1 : ((pOrd) S).2 = 1 := by rw [e0]
                    have e3 : pC (pOrd) S = (pFig (((5 * (S 7 18)) + 1) + 1) 1 ((pSk 61 ((pFig ((5 * (S 7 18)) + 1) 1 (pC (pWord ([97, 108, 109])) ((pHas 8 ((pSk 99 ((pSk 98 ((pSk 114 ((pSk 115 S).1)).1)).1)).1)).1))).1)).1)).1 := by rw [← (PG.ord).c S, e0]
                    exact kz_zNret () hx hb hr hlk hP hD hS dX3_orderHere_264 (by first | decide | exact (PG.t _).r _) (congrArg (fun z : Int => some (Value.int (zI z))) e1) ⟨(kz_r e1 (by omega)), (kz_M e3 hM), (by have z := (PG.ord).m S (by omega) (by omega); rw [(PG.ord).c S] at z; exact z), (by have z := PS.ord S (by omega) (by omega); rw [(PG.ord).c S] at z; exact z)⟩ (congrArg (mW E Ad) e3) hQ (Nat.le_of_ble_eq_true rfl) (Nat.le_of_ble_eq_true rfl)
      · skip
        refine lv_aload_n hx hb dX3_orderHere_131 rfl (lv_at hl 1 rfl) ?_
        refine kz_iconst hx hb dX3_orderHere_132 ?_
        refine kz_backM (va_runV (As := [.int (zI (2))]) (rest := []) ⟨hx, hb, hml, hown, hts⟩ (mX3_hasOrder l E H.size Ad ((pSk 98 ((pSk 114 ((pSk 115 S).1)).1)).1) hM 2 (by omega) (show 0 ≤ (S 7 18) ∧ (S 7 18) ≤ 30 by first | omega | exact hI.st _ (by omega) (by omega) | exact hI.rv _ (by omega) (by omega) | exact hI)) (cwV 1 hts (lw_V q2645 q2647 qs63 q83 q2648) rfl rfl rfl (by decide +kernel) ⟨(Nat.le_of_ble_eq_true rfl), (Nat.le_of_ble_eq_true rfl)⟩) (kz_preVM (wc := mW E Ad ((pSk 98 ((pSk 114 ((pSk 115 S).1)).1)).1)) (va_recv hK hP (ci := 2) (q0 := 0) rfl rfl) hG hS hAN hP hD kz_nilP kz_nilA) rfl rfl hl.1 rfl (lv_room (Nat.le_of_ble_eq_true rfl)) dX3_orderHere_133 ⟨(Nat.le_of_ble_eq_true rfl), (Nat.le_of_ble_eq_true rfl)⟩) hP hD hS hA (fun u H9 locs9 hu hP9 hD9 hS9 hzz hkk => ?_)
        clear hzz hkk hP hD hS H locs u
        revert hS9 hD9 hP9 locs9 H9
        intro H locs hP hD hS
        clear hM
        obtain ⟨r42, hM⟩ := hu
        replace r42 : rI ((pHas 2 ((pSk 98 ((pSk 114 ((pSk 115 S).1)).1)).1)).2) := r42
        replace hM : MOk ((pHas 2 ((pSk 98 ((pSk 114 ((pSk 115 S).1)).1)).1)).1) := hM
        replace hP : va_P (kD E) kcl (mW E Ad ((pHas 2 ((pSk 98 ((pSk 114 ((pSk 115 S).1)).1)).1)).1)) H := hP
        replace hD : va_D A (mW E Ad ((pHas 2 ((pSk 98 ((pSk 114 ((pSk 115 S).1)).1)).1)).1)) := hD
        show W p l e _ s m args below meth c H locs _ _ Q (F0 m 136 ls [.int (zI ((pHas 2 ((pSk 98 ((pSk 114 ((pSk 115 S).1)).1)).1)).2))])
        refine kz_if_eq (tgt := 201) hx hb dX3_orderHere_136 (by decide) (by omega) (fun c136 => ?_) (fun c136 => ?_)
        · skip
          refine kz_iconst hx hb dX3_orderHere_201 ?_
          have e0 : (pOrd) S = ((pHas 2 ((pSk 98 ((pSk 114 ((pSk 115 S).1)).1)).1)).1, 0) := by show pOrdP (5 * S 7 18 + 1) S = _; unfold pOrdP; refine Eq.trans (pIf_f c15) ?_; refine Eq.trans (pIf_f c67) ?_; refine Eq.trans (pIf_t c128) ?_; refine Eq.trans (pIf_f c136) ?_; exact rfl
          have e1 : ((pOrd) S).2 = 0 := by rw [e0]
          have e3 : pC (pOrd) S = (pHas 2 ((pSk 98 ((pSk 114 ((pSk 115 S).1)).1)).1)).1 := by rw [← (PG.ord).c S, e0]
          exact kz_zNret () hx hb hr hlk hP hD hS dX3_orderHere_202 (by first | decide | exact (PG.t _).r _) (congrArg (fun z : Int => some (Value.int (zI z))) e1) ⟨(kz_r e1 (by omega)), (kz_M e3 hM), (by have z := (PG.ord).m S (by omega) (by omega); rw [(PG.ord).c S] at z; exact z), (by have z := PS.ord S (by omega) (by omega); rw [(PG.ord).c S] at z; exact z)⟩ (congrArg (mW E Ad) e3) hQ (Nat.le_of_ble_eq_true rfl) (Nat.le_of_ble_eq_true rfl)
        · skip
          refine lv_aload_n hx hb dX3_orderHere_139 rfl (lv_at hl 1 rfl) ?_
          have hl43 := hG.lit_ook
          refine va_ldcS hx hb hown (hG.ldc hl43 q2661 (Or.inl ⟨rfl, rfl⟩)) dX3_orderHere_140 ?_
          refine kz_backM (va_runV (As := [.ref ((litA E "SkipSchoolModel" 211))]) (rest := []) ⟨hx, hb, hml, hown, hts⟩ (mX3_isWord l E H.size Ad ((pHas 2 ((pSk 98 ((pSk 114 ((pSk 115 S).1)).1)).1)).1) hM (litA E "SkipSchoolModel" 211) (litV E "SkipSchoolModel" 211) [111, 111, 107] (by decide) (by decide) hl43.2.2.1 hl43.2.2.2.1 (show 0 ≤ (((pSk 98 ((pSk 114 ((pSk 115 S).1)).1)).1) 7 16) ∧ (((pSk 98 ((pSk 114 ((pSk 115 S).1)).1)).1) 7 16) ≤ (S 7 11) ∧ (S 7 11) ≤ 60 by first | omega | exact hI.st _ (by omega) (by omega) | exact hI.rv _ (by omega) (by omega) | exact hI)) (cwV 1 hts (lw_V q2650 q2652 qs64 q83 q2653) rfl rfl rfl (by decide +kernel) ⟨(Nat.le_of_ble_eq_true rfl), (Nat.le_of_ble_eq_true rfl)⟩) (kz_preXV (kz_preVM (wc := mW E Ad ((pHas 2 ((pSk 98 ((pSk 114 ((pSk 115 S).1)).1)).1)).1)) (va_recv hK hP (ci := 2) (q0 := 0) rfl rfl) hG hS hAN hP hD kz_nilP kz_nilA) (fun _ _ _ _ h => h) (fun U hU hW => hl43.1.on hS (fun z => absurd (hAN _ z) (Nat.not_le.mpr hl43.2.2.1)) (fun z => absurd (hAN _ z) (Nat.not_le.mpr hl43.2.2.2.1)) hU hW)) rfl rfl hl.1 rfl (lv_room (Nat.le_of_ble_eq_true rfl)) dX3_orderHere_142 ⟨(Nat.le_of_ble_eq_true rfl), (Nat.le_of_ble_eq_true rfl)⟩) hP hD hS hA (fun u H9 locs9 hu hP9 hD9 hS9 hzz hkk => ?_)
          clear hzz hkk hP hD hS H locs u
          revert hS9 hD9 hP9 locs9 H9
          intro H locs hP hD hS
          clear hM
          obtain ⟨r44, hM, p45⟩ := hu
          replace r44 : rI ((pWord ([111, 111, 107]) ((pHas 2 ((pSk 98 ((pSk 114 ((pSk 115 S).1)).1)).1)).1)).2) := r44
          replace hM : MOk (pC (pWord ([111, 111, 107])) ((pHas 2 ((pSk 98 ((pSk 114 ((pSk 115 S).1)).1)).1)).1)) := hM
          replace p45 : (((pSk 98 ((pSk 114 ((pSk 115 S).1)).1)).1) 7 16) ≤ (pC (pWord ([111, 111, 107])) ((pHas 2 ((pSk 98 ((pSk 114 ((pSk 115 S).1)).1)).1)).1)) 7 16 ∧ (pC (pWord ([111, 111, 107])) ((pHas 2 ((pSk 98 ((pSk 114 ((pSk 115 S).1)).1)).1)).1)) 7 16 ≤ (S 7 11) := p45
          replace hP : va_P (kD E) kcl (mW E Ad (pC (pWord ([111, 111, 107])) ((pHas 2 ((pSk 98 ((pSk 114 ((pSk 115 S).1)).1)).1)).1))) H := hP
          replace hD : va_D A (mW E Ad (pC (pWord ([111, 111, 107])) ((pHas 2 ((pSk 98 ((pSk 114 ((pSk 115 S).1)).1)).1)).1))) := hD
          show W p l e _ s m args below meth c H locs _ _ Q (F0 m 145 ls [.int (zI ((pWord ([111, 111, 107]) ((pHas 2 ((pSk 98 ((pSk 114 ((pSk 115 S).1)).1)).1)).1)).2))])
          refine kz_if_eq (tgt := 201) hx hb dX3_orderHere_145 (by decide) (by omega) (fun c145 => ?_) (fun c145 => ?_)
          · skip
            refine kz_iconst hx hb dX3_orderHere_201 ?_
            have e0 : (pOrd) S = (pC (pWord ([111, 111, 107])) ((pHas 2 ((pSk 98 ((pSk 114 ((pSk 115 S).1)).1)).1)).1), 0) := by show pOrdP (5 * S 7 18 + 1) S = _; unfold pOrdP; refine Eq.trans (pIf_f c15) ?_; refine Eq.trans (pIf_f c67) ?_; refine Eq.trans (pIf_t c128) ?_; refine Eq.trans (pIf_t c136) ?_; refine Eq.trans (pIf_fC (PG.word _ (by decide)) c145) ?_; exact rfl
            have e1 : ((pOrd) S).2 = 0 := by rw [e0]
            have e3 : pC (pOrd) S = pC (pWord ([111, 111, 107])) ((pHas 2 ((pSk 98 ((pSk 114 ((pSk 115 S).1)).1)).1)).1) := by rw [← (PG.ord).c S, e0]
            exact kz_zNret () hx hb hr hlk hP hD hS dX3_orderHere_202 (by first | decide | exact (PG.t _).r _) (congrArg (fun z : Int => some (Value.int (zI z))) e1) ⟨(kz_r e1 (by omega)), (kz_M e3 hM), (by have z := (PG.ord).m S (by omega) (by omega); rw [(PG.ord).c S] at z; exact z), (by have z := PS.ord S (by omega) (by omega); rw [(PG.ord).c S] at z; exact z)⟩ (congrArg (mW E Ad) e3) hQ (Nat.le_of_ble_eq_true rfl) (Nat.le_of_ble_eq_true rfl)
          · skip
            refine lv_aload_n hx hb dX3_orderHere_148 rfl (lv_at hl 1 rfl) ?_
            refine lv_iload_n hx hb dX3_orderHere_149 rfl (lv_at hl 0 rfl) ?_
            refine kz_iconst hx hb dX3_orderHere_150 ?_
            refine kz_backM (va_runV (As := [.int (zI ((5 * (S 7 18)) + 1)), .int (zI (1))]) (rest := []) ⟨hx, hb, hml, hown, hts⟩ (mX3_figures l E H.size Ad (pC (pWord ([111, 111, 107])) ((pHas 2 ((pSk 98 ((pSk 114 ((pSk 115 S).1)).1)).1)).1)) hM ((5 * (S 7 18)) + 1) (by omega) 1 (by omega) (show 0 ≤ ((pC (pWord ([111, 111, 107])) ((pHas 2 ((pSk 98 ((pSk 114 ((pSk 115 S).1)).1)).1)).1)) 7 16) ∧ ((pC (pWord ([111, 111, 107])) ((pHas 2 ((pSk 98 ((pSk 114 ((pSk 115 S).1)).1)).1)).1)) 7 16) ≤ (S 7 11) ∧ (S 7 11) ≤ 60 by first | omega | exact hI.st _ (by omega) (by omega) | exact hI.rv _ (by omega) (by omega) | exact hI) (show 0 ≤ ((5 * (S 7 18)) + 1) ∧ ((5 * (S 7 18)) + 1) < 155 by first | omega | exact hI.st _ (by omega) (by omega) | exact hI.rv _ (by omega) (by omega) | exact hI) (show 1 ≤ 1 ∧ 1 ≤ 2 by first | omega | exact hI.st _ (by omega) (by omega) | exact hI.rv _ (by omega) (by omega) | exact hI)) (cwV 2 hts (lw_V q2656 q2658 qs65 q83 q2659) rfl rfl rfl (by decide +kernel) ⟨(Nat.le_of_ble_eq_true rfl), (Nat.le_of_ble_eq_true rfl)⟩) (kz_preVM (wc := mW E Ad (pC (pWord ([111, 111, 107])) ((pHas 2 ((pSk 98 ((pSk 114 ((pSk 115 S).1)).1)).1)).1))) (va_recv hK hP (ci := 2) (q0 := 0) rfl rfl) hG hS hAN hP hD kz_nilP kz_nilA) rfl rfl hl.1 rfl (lv_room (Nat.le_of_ble_eq_true rfl)) dX3_orderHere_151 ⟨(Nat.le_of_ble_eq_true rfl), (Nat.le_of_ble_eq_true rfl)⟩) hP hD hS hA (fun u H9 locs9 hu hP9 hD9 hS9 hzz hkk => ?_)
            clear hzz hkk hP hD hS H locs u
            revert hS9 hD9 hP9 locs9 H9
            intro H locs hP hD hS
            clear hM
            obtain ⟨r46, hM, p47⟩ := hu
            replace r46 : rI ((pFig ((5 * (S 7 18)) + 1) 1 (pC (pWord ([111, 111, 107])) ((pHas 2 ((pSk 98 ((pSk 114 ((pSk 115 S).1)).1)).1)).1))).2) := r46
            replace hM : MOk ((pFig ((5 * (S 7 18)) + 1) 1 (pC (pWord ([111, 111, 107])) ((pHas 2 ((pSk 98 ((pSk 114 ((pSk 115 S).1)).1)).1)).1))).1) := hM
            replace p47 : ((pC (pWord ([111, 111, 107])) ((pHas 2 ((pSk 98 ((pSk 114 ((pSk 115 S).1)).1)).1)).1)) 7 16) ≤ (pFig ((5 * (S 7 18)) + 1) 1 (pC (pWord ([111, 111, 107])) ((pHas 2 ((pSk 98 ((pSk 114 ((pSk 115 S).1)).1)).1)).1))).1 7 16 ∧ (pFig ((5 * (S 7 18)) + 1) 1 (pC (pWord ([111, 111, 107])) ((pHas 2 ((pSk 98 ((pSk 114 ((pSk 115 S).1)).1)).1)).1))).1 7 16 ≤ (S 7 11) := p47
            replace hP : va_P (kD E) kcl (mW E Ad ((pFig ((5 * (S 7 18)) + 1) 1 (pC (pWord ([111, 111, 107])) ((pHas 2 ((pSk 98 ((pSk 114 ((pSk 115 S).1)).1)).1)).1))).1)) H := hP
            replace hD : va_D A (mW E Ad ((pFig ((5 * (S 7 18)) + 1) 1 (pC (pWord ([111, 111, 107])) ((pHas 2 ((pSk 98 ((pSk 114 ((pSk 115 S).1)).1)).1)).1))).1)) := hD
            show W p l e _ s m args below meth c H locs _ _ Q (F0 m 154 ls [.int (zI ((pFig ((5 * (S 7 18)) + 1) 1 (pC (pWord ([111, 111, 107])) ((pHas 2 ((pSk 98 ((pSk 114 ((pSk 115 S).1)).1)).1)).1))).2))])
            refine kz_if_eq (tgt := 201) hx hb dX3_orderHere_154 (by decide) (by omega) (fun c154 => ?_) (fun c154 => ?_)
            · skip
              refine kz_iconst hx hb dX3_orderHere_201 ?_
              have e0 : (pOrd) S = ((pFig ((5 * (S 7 18)) + 1) 1 (pC (pWord ([111, 111, 107])) ((pHas 2 ((pSk 98 ((pSk 114 ((pSk 115 S).1)).1)).1)).1))).1, 0) := by show pOrdP (5 * S 7 18 + 1) S = _; unfold pOrdP; refine Eq.trans (pIf_f c15) ?_; refine Eq.trans (pIf_f c67) ?_; refine Eq.trans (pIf_t c128) ?_; refine Eq.trans (pIf_t c136) ?_; refine Eq.trans (pIf_tC (PG.word _ (by decide)) c145) ?_; refine Eq.trans (pIf_f c154) ?_; exact rfl
              have e1 : ((pOrd) S).2 = 0 := by rw [e0]
              have e3 : pC (pOrd) S = (pFig ((5 * (S 7 18)) + 1) 1 (pC (pWord ([111, 111, 107])) ((pHas 2 ((pSk 98 ((pSk 114 ((pSk 115 S).1)).1)).1)).1))).1 := by rw [← (PG.ord).c S, e0]
              exact kz_zNret () hx hb hr hlk hP hD hS dX3_orderHere_202 (by first | decide | exact (PG.t _).r _) (congrArg (fun z : Int => some (Value.int (zI z))) e1) ⟨(kz_r e1 (by omega)), (kz_M e3 hM), (by have z := (PG.ord).m S (by omega) (by omega); rw [(PG.ord).c S] at z; exact z), (by have z := PS.ord S (by omega) (by omega); rw [(PG.ord).c S] at z; exact z)⟩ (congrArg (mW E Ad) e3) hQ (Nat.le_of_ble_eq_true rfl) (Nat.le_of_ble_eq_true rfl)
            · skip
              refine lv_aload_n hx hb dX3_orderHere_157 rfl (lv_at hl 1 rfl) ?_
              refine kz_bipush hx hb dX3_orderHere_158 (by decide) ?_
              refine kz_backM (va_runV (As := [.int (zI (62))]) (rest := []) ⟨hx, hb, hml, hown, hts⟩ (mX3_skipsOver l E H.size Ad ((pFig ((5 * (S 7 18)) + 1) 1 (pC (pWord ([111, 111, 107])) ((pHas 2 ((pSk 98 ((pSk 114 ((pSk 115 S).1)).1)).1)).1))).1) hM 62 (by omega) (show 0 ≤ (((pFig ((5 * (S 7 18)) + 1) 1 (pC (pWord ([111, 111, 107])) ((pHas 2 ((pSk 98 ((pSk 114 ((pSk 115 S).1)).1)).1)).1))).1) 7 16) ∧ (((pFig ((5 * (S 7 18)) + 1) 1 (pC (pWord ([111, 111, 107])) ((pHas 2 ((pSk 98 ((pSk 114 ((pSk 115 S).1)).1)).1)).1))).1) 7 16) ≤ (S 7 11) ∧ (S 7 11) ≤ 60 by first | omega | exact hI.st _ (by omega) (by omega) | exact hI.rv _ (by omega) (by omega) | exact hI) (show 0 ≤ 62 by first | omega | exact hI.st _ (by omega) (by omega) | exact hI.rv _ (by omega) (by omega) | exact hI)) (cwV 1 hts (lw_V q2637 q2639 qs61 q83 q2640) rfl rfl rfl (by decide +kernel) ⟨(Nat.le_of_ble_eq_true rfl), (Nat.le_of_ble_eq_true rfl)⟩) (kz_preVM (wc := mW E Ad ((pFig ((5 * (S 7 18)) + 1) 1 (pC (pWord ([111, 111, 107])) ((pHas 2 ((pSk 98 ((pSk 114 ((pSk 115 S).1)).1)).1)).1))).1)) (va_recv hK hP (ci := 2) (q0 := 0) rfl rfl) hG hS hAN hP hD kz_nilP kz_nilA) rfl rfl hl.1 rfl (lv_room (Nat.le_of_ble_eq_true rfl)) dX3_orderHere_160 ⟨(Nat.le_of_ble_eq_true rfl), (Nat.le_of_ble_eq_true rfl)⟩) hP hD hS hA (fun u H9 locs9 hu hP9 hD9 hS9 hzz hkk => ?_)
              clear hzz hkk hP hD hS H locs u
              revert hS9 hD9 hP9 locs9 H9
              intro H locs hP hD hS
              clear hM
              obtain ⟨r48, hM, p49, p50⟩ := hu
              replace r48 : rI ((pSk 62 ((pFig ((5 * (S 7 18)) + 1) 1 (pC (pWord ([111, 111, 107])) ((pHas 2 ((pSk 98 ((pSk 114 ((pSk 115 S).1)).1)).1)).1))).1)).2) := r48
              replace hM : MOk ((pSk 62 ((pFig ((5 * (S 7 18)) + 1) 1 (pC (pWord ([111, 111, 107])) ((pHas 2 ((pSk 98 ((pSk 114 ((pSk 115 S).1)).1)).1)).1))).1)).1) := hM
              replace p49 : (((pFig ((5 * (S 7 18)) + 1) 1 (pC (pWord ([111, 111, 107])) ((pHas 2 ((pSk 98 ((pSk 114 ((pSk 115 S).1)).1)).1)).1))).1) 7 16) ≤ (pSk 62 ((pFig ((5 * (S 7 18)) + 1) 1 (pC (pWord ([111, 111, 107])) ((pHas 2 ((pSk 98 ((pSk 114 ((pSk 115 S).1)).1)).1)).1))).1)).1 7 16 ∧ (pSk 62 ((pFig ((5 * (S 7 18)) + 1) 1 (pC (pWord ([111, 111, 107])) ((pHas 2 ((pSk 98 ((pSk 114 ((pSk 115 S).1)).1)).1)).1))).1)).1 7 16 ≤ (S 7 11) := p49
              replace p50 : ((pSk 62 ((pFig ((5 * (S 7 18)) + 1) 1 (pC (pWord ([111, 111, 107])) ((pHas 2 ((pSk 98 ((pSk 114 ((pSk 115 S).1)).1)).1)).1))).1)).2 = 0 ∨ (((pFig ((5 * (S 7 18)) + 1) 1 (pC (pWord ([111, 111, 107])) ((pHas 2 ((pSk 98 ((pSk 114 ((pSk 115 S).1)).1)).1)).1))).1) 7 16) + 1 ≤ (pSk 62 ((pFig ((5 * (S 7 18)) + 1) 1 (pC (pWord ([111, 111, 107])) ((pHas 2 ((pSk 98 ((pSk 114 ((pSk 115 S).1)).1)).1)).1))).1)).1 7 16) := p50
              replace hP : va_P (kD E) kcl (mW E Ad ((pSk 62 ((pFig ((5 * (S 7 18)) + 1) 1 (pC (pWord ([111, 111, 107])) ((pHas 2 ((pSk 98 ((pSk 114 ((pSk 115 S).1)).1)).1)).1))).1)).1)) H := hP
              replace hD : va_D A (mW E Ad ((pSk 62 ((pFig ((5 * (S 7 18)) + 1) 1 (pC (pWord ([111, 111, 107])) ((pHas 2 ((pSk 98 ((pSk 114 ((pSk 115 S).1)).1)).1)).1))).1)).1)) := hD
              show W p l e _ s m args below meth c H locs _ _ Q (F0 m 163 ls [.int (zI ((pSk 62 ((pFig ((5 * (S 7 18)) + 1) 1 (pC (pWord ([111, 111, 107])) ((pHas 2 ((pSk 98 ((pSk 114 ((pSk 115 S).1)).1)).1)).1))).1)).2))])
              refine kz_if_eq (tgt := 201) hx hb dX3_orderHere_163 (by decide) (by omega) (fun c163 => ?_) (fun c163 => ?_)
              · skip
                refine kz_iconst hx hb dX3_orderHere_201 ?_
                have e0 : (pOrd) S = ((pSk 62 ((pFig ((5 * (S 7 18)) + 1) 1 (pC (pWord ([111, 111, 107])) ((pHas 2 ((pSk 98 ((pSk 114 ((pSk 115 S).1)).1)).1)).1))).1)).1, 0) := by show pOrdP (5 * S 7 18 + 1) S = _; unfold pOrdP; refine Eq.trans (pIf_f c15) ?_; refine Eq.trans (pIf_f c67) ?_; refine Eq.trans (pIf_t c128) ?_; refine Eq.trans (pIf_t c136) ?_; refine Eq.trans (pIf_tC (PG.word _ (by decide)) c145) ?_; refine Eq.trans (pIf_t c154) ?_; refine Eq.trans (pIf_f c163) ?_; exact rfl
                have e1 : ((pOrd) S).2 = 0 := by rw [e0]
                have e3 : pC (pOrd) S = (pSk 62 ((pFig ((5 * (S 7 18)) + 1) 1 (pC (pWord ([111, 111, 107])) ((pHas 2 ((pSk 98 ((pSk 114 ((pSk 115 S).1)).1)).1)).1))).1)).1 := by rw [← (PG.ord).c S, e0]
                exact kz_zNret () hx hb hr hlk hP hD hS dX3_orderHere_202 (by first | decide | exact (PG.t _).r _) (congrArg (fun z : Int => some (Value.int (zI z))) e1) ⟨(kz_r e1 (by omega)), (kz_M e3 hM), (by have z := (PG.ord).m S (by omega) (by omega); rw [(PG.ord).c S] at z; exact z), (by have z := PS.ord S (by omega) (by omega); rw [(PG.ord).c S] at z; exact z)⟩ (congrArg (mW E Ad) e3) hQ (Nat.le_of_ble_eq_true rfl) (Nat.le_of_ble_eq_true rfl)
              · skip
                refine lv_aload_n hx hb dX3_orderHere_166 rfl (lv_at hl 1 rfl) ?_
                refine lv_iload_n hx hb dX3_orderHere_167 rfl (lv_at hl 0 rfl) ?_
                refine kz_iconst hx hb dX3_orderHere_168 ?_
                refine kz_iadd hx hb dX3_orderHere_169 ?_
                refine kz_iconst hx hb dX3_orderHere_170 ?_
                refine kz_backM (va_runV (As := [.int (zI (((5 * (S 7 18)) + 1) + 1)), .int (zI (1))]) (rest := []) ⟨hx, hb, hml, hown, hts⟩ (mX3_figures l E H.size Ad ((pSk 62 ((pFig ((5 * (S 7 18)) + 1) 1 (pC (pWord ([111, 111, 107])) ((pHas 2 ((pSk 98 ((pSk 114 ((pSk 115 S).1)).1)).1)).1))).1)).1) hM (((5 * (S 7 18)) + 1) + 1) (by omega) 1 (by omega) (show 0 ≤ (((pSk 62 ((pFig ((5 * (S 7 18)) + 1) 1 (pC (pWord ([111, 111, 107])) ((pHas 2 ((pSk 98 ((pSk 114 ((pSk 115 S).1)).1)).1)).1))).1)).1) 7 16) ∧ (((pSk 62 ((pFig ((5 * (S 7 18)) + 1) 1 (pC (pWord ([111, 111, 107])) ((pHas 2 ((pSk 98 ((pSk 114 ((pSk 115 S).1)).1)).1)).1))).1)).1) 7 16) ≤ (S 7 11) ∧ (S 7 11) ≤ 60 by first | omega | exact hI.st _ (by omega) (by omega) | exact hI.rv _ (by omega) (by omega) | exact hI) (show 0 ≤ (((5 * (S 7 18)) + 1) + 1) ∧ (((5 * (S 7 18)) + 1) + 1) < 155 by first | omega | exact hI.st _ (by omega) (by omega) | exact hI.rv _ (by omega) (by omega) | exact hI) (show 1 ≤ 1 ∧ 1 ≤ 2 by first | omega | exact hI.st _ (by omega) (by omega) | exact hI.rv _ (by omega) (by omega) | exact hI)) (cwV 2 hts (lw_V q2656 q2658 qs65 q83 q2659) rfl rfl rfl (by decide +kernel) ⟨(Nat.le_of_ble_eq_true rfl), (Nat.le_of_ble_eq_true rfl)⟩) (kz_preVM (wc := mW E Ad ((pSk 62 ((pFig ((5 * (S 7 18)) + 1) 1 (pC (pWord ([111, 111, 107])) ((pHas 2 ((pSk 98 ((pSk 114 ((pSk 115 S).1)).1)).1)).1))).1)).1)) (va_recv hK hP (ci := 2) (q0 := 0) rfl rfl) hG hS hAN hP hD kz_nilP kz_nilA) rfl rfl hl.1 rfl (lv_room (Nat.le_of_ble_eq_true rfl)) dX3_orderHere_171 ⟨(Nat.le_of_ble_eq_true rfl), (Nat.le_of_ble_eq_true rfl)⟩) hP hD hS hA (fun u H9 locs9 hu hP9 hD9 hS9 hzz hkk => ?_)
                clear hzz hkk hP hD hS H locs u
                revert hS9 hD9 hP9 locs9 H9
                intro H locs hP hD hS
                clear hM
                obtain ⟨r51, hM, p52⟩ := hu
                replace r51 : rI ((pFig (((5 * (S 7 18)) + 1) + 1) 1 ((pSk 62 ((pFig ((5 * (S 7 18)) + 1) 1 (pC (pWord ([111, 111, 107])) ((pHas 2 ((pSk 98 ((pSk 114 ((pSk 115 S).1)).1)).1)).1))).1)).1)).2) := r51
                replace hM : MOk ((pFig (((5 * (S 7 18)) + 1) + 1) 1 ((pSk 62 ((pFig ((5 * (S 7 18)) + 1) 1 (pC (pWord ([111, 111, 107])) ((pHas 2 ((pSk 98 ((pSk 114 ((pSk 115 S).1)).1)).1)).1))).1)).1)).1) := hM
                replace p52 : (((pSk 62 ((pFig ((5 * (S 7 18)) + 1) 1 (pC (pWord ([111, 111, 107])) ((pHas 2 ((pSk 98 ((pSk 114 ((pSk 115 S).1)).1)).1)).1))).1)).1) 7 16) ≤ (pFig (((5 * (S 7 18)) + 1) + 1) 1 ((pSk 62 ((pFig ((5 * (S 7 18)) + 1) 1 (pC (pWord ([111, 111, 107])) ((pHas 2 ((pSk 98 ((pSk 114 ((pSk 115 S).1)).1)).1)).1))).1)).1)).1 7 16 ∧ (pFig (((5 * (S 7 18)) + 1) + 1) 1 ((pSk 62 ((pFig ((5 * (S 7 18)) + 1) 1 (pC (pWord ([111, 111, 107])) ((pHas 2 ((pSk 98 ((pSk 114 ((pSk 115 S).1)).1)).1)).1))).1)).1)).1 7 16 ≤ (S 7 11) := p52
                replace hP : va_P (kD E) kcl (mW E Ad ((pFig (((5 * (S 7 18)) + 1) + 1) 1 ((pSk 62 ((pFig ((5 * (S 7 18)) + 1) 1 (pC (pWord ([111, 111, 107])) ((pHas 2 ((pSk 98 ((pSk 114 ((pSk 115 S).1)).1)).1)).1))).1)).1)).1)) H := hP
                replace hD : va_D A (mW E Ad ((pFig (((5 * (S 7 18)) + 1) + 1) 1 ((pSk 62 ((pFig ((5 * (S 7 18)) + 1) 1 (pC (pWord ([111, 111, 107])) ((pHas 2 ((pSk 98 ((pSk 114 ((pSk 115 S).1)).1)).1)).1))).1)).1)).1)) := hD
                show W p l e _ s m args below meth c H locs _ _ Q (F0 m 174 ls [.int (zI ((pFig (((5 * (S 7 18)) + 1) + 1) 1 ((pSk 62 ((pFig ((5 * (S 7 18)) + 1) 1 (pC (pWord ([111, 111, 107])) ((pHas 2 ((pSk 98 ((pSk 114 ((pSk 115 S).1)).1)).1)).1))).1)).1)).2))])
                refine kz_if_eq (tgt := 201) hx hb dX3_orderHere_174 (by decide) (by omega) (fun c174 => ?_) (fun c174 => ?_)
                · skip
                  refine kz_iconst hx hb dX3_orderHere_201 ?_
                  have e0 : (pOrd) S = ((pFig (((5 * (S 7 18)) + 1) + 1) 1 ((pSk 62 ((pFig ((5 * (S 7 18)) + 1) 1 (pC (pWord ([111, 111, 107])) ((pHas 2 ((pSk 98 ((pSk 114 ((pSk 115 S).1)).1)).1)).1))).1)).1)).1, 0) := by show pOrdP (5 * S 7 18 + 1) S = _; unfold pOrdP; refine Eq.trans (pIf_f c15) ?_; refine Eq.trans (pIf_f c67) ?_; refine Eq.trans (pIf_t c128) ?_; refine Eq.trans (pIf_t c136) ?_; refine Eq.trans (pIf_tC (PG.word _ (by decide)) c145) ?_; refine Eq.trans (pIf_t c154) ?_; refine Eq.trans (pIf_t c163) ?_; refine Eq.trans (pIf_f c174) ?_; exact rfl
                  have e1 : ((pOrd) S).2 = 0 := by rw [e0]
                  have e3 : pC (pOrd) S = (pFig (((5 * (S 7 18)) + 1) + 1) 1 ((pSk 62 ((pFig ((5 * (S 7 18)) + 1) 1 (pC (pWord ([111, 111, 107])) ((pHas 2 ((pSk 98 ((pSk 114 ((pSk 115 S).1)).1)).1)).1))).1)).1)).1 := by rw [← (PG.ord).c S, e0]
                  exact kz_zNret () hx hb hr hlk hP hD hS dX3_orderHere_202 (by first | decide | exact (PG.t _).r _) (congrArg (fun z : Int => some (Value.int (zI z))) e1) ⟨(kz_r e1 (by omega)), (kz_M e3 hM), (by have z := (PG.ord).m S (by omega) (by omega); rw [(PG.ord).c S] at z; exact z), (by have z := PS.ord S (by omega) (by omega); rw [(PG.ord).c S] at z; exact z)⟩ (congrArg (mW E Ad) e3) hQ (Nat.le_of_ble_eq_true rfl) (Nat.le_of_ble_eq_true rfl)
                · skip
                  refine lv_aload_n hx hb dX3_orderHere_177 rfl (lv_at hl 1 rfl) ?_
                  refine kz_bipush hx hb dX3_orderHere_178 (by decide) ?_
                  refine kz_backM (va_runV (As := [.int (zI (43))]) (rest := []) ⟨hx, hb, hml, hown, hts⟩ (mX3_skipsOver l E H.size Ad ((pFig (((5 * (S 7 18)) + 1) + 1) 1 ((pSk 62 ((pFig ((5 * (S 7 18)) + 1) 1 (pC (pWord ([111, 111, 107])) ((pHas 2 ((pSk 98 ((pSk 114 ((pSk 115 S).1)).1)).1)).1))).1)).1)).1) hM 43 (by omega) (show 0 ≤ (((pFig (((5 * (S 7 18)) + 1) + 1) 1 ((pSk 62 ((pFig ((5 * (S 7 18)) + 1) 1 (pC (pWord ([111, 111, 107])) ((pHas 2 ((pSk 98 ((pSk 114 ((pSk 115 S).1)).1)).1)).1))).1)).1)).1) 7 16) ∧ (((pFig (((5 * (S 7 18)) + 1) + 1) 1 ((pSk 62 ((pFig ((5 * (S 7 18)) + 1) 1 (pC (pWord ([111, 111, 107])) ((pHas 2 ((pSk 98 ((pSk 114 ((pSk 115 S).1)).1)).1)).1))).1)).1)).1) 7 16) ≤ (S 7 11) ∧ (S 7 11) ≤ 60 by first | omega | exact hI.st _ (by omega) (by omega) | exact hI.rv _ (by omega) (by omega) | exact hI) (show 0 ≤ 43 by first | omega | exact hI.st _ (by omega) (by omega) | exact hI.rv _ (by omega) (by omega) | exact hI)) (cwV 1 hts (lw_V q2637 q2639 qs61 q83 q2640) rfl rfl rfl (by decide +kernel) ⟨(Nat.le_of_ble_eq_true rfl), (Nat.le_of_ble_eq_true rfl)⟩) (kz_preVM (wc := mW E Ad ((pFig (((5 * (S 7 18)) + 1) + 1) 1 ((pSk 62 ((pFig ((5 * (S 7 18)) + 1) 1 (pC (pWord ([111, 111, 107])) ((pHas 2 ((pSk 98 ((pSk 114 ((pSk 115 S).1)).1)).1)).1))).1)).1)).1)) (va_recv hK hP (ci := 2) (q0 := 0) rfl rfl) hG hS hAN hP hD kz_nilP kz_nilA) rfl rfl hl.1 rfl (lv_room (Nat.le_of_ble_eq_true rfl)) dX3_orderHere_180 ⟨(Nat.le_of_ble_eq_true rfl), (Nat.le_of_ble_eq_true rfl)⟩) hP hD hS hA (fun u H9 locs9 hu hP9 hD9 hS9 hzz hkk => ?_)
                  clear hzz hkk hP hD hS H locs u
                  revert hS9 hD9 hP9 locs9 H9
                  intro H locs hP hD hS
                  clear hM
                  obtain ⟨r53, hM, p54, p55⟩ := hu
                  replace r53 : rI ((pSk 43 ((pFig (((5 * (S 7 18)) + 1) + 1) 1 ((pSk 62 ((pFig ((5 * (S 7 18)) + 1) 1 (pC (pWord ([111, 111, 107])) ((pHas 2 ((pSk 98 ((pSk 114 ((pSk 115 S).1)).1)).1)).1))).1)).1)).1)).2) := r53
                  replace hM : MOk ((pSk 43 ((pFig (((5 * (S 7 18)) + 1) + 1) 1 ((pSk 62 ((pFig ((5 * (S 7 18)) + 1) 1 (pC (pWord ([111, 111, 107])) ((pHas 2 ((pSk 98 ((pSk 114 ((pSk 115 S).1)).1)).1)).1))).1)).1)).1)).1) := hM
                  replace p54 : (((pFig (((5 * (S 7 18)) + 1) + 1) 1 ((pSk 62 ((pFig ((5 * (S 7 18)) + 1) 1 (pC (pWord ([111, 111, 107])) ((pHas 2 ((pSk 98 ((pSk 114 ((pSk 115 S).1)).1)).1)).1))).1)).1)).1) 7 16) ≤ (pSk 43 ((pFig (((5 * (S 7 18)) + 1) + 1) 1 ((pSk 62 ((pFig ((5 * (S 7 18)) + 1) 1 (pC (pWord ([111, 111, 107])) ((pHas 2 ((pSk 98 ((pSk 114 ((pSk 115 S).1)).1)).1)).1))).1)).1)).1)).1 7 16 ∧ (pSk 43 ((pFig (((5 * (S 7 18)) + 1) + 1) 1 ((pSk 62 ((pFig ((5 * (S 7 18)) + 1) 1 (pC (pWord ([111, 111, 107])) ((pHas 2 ((pSk 98 ((pSk 114 ((pSk 115 S).1)).1)).1)).1))).1)).1)).1)).1 7 16 ≤ (S 7 11) := p54
                  replace p55 : ((pSk 43 ((pFig (((5 * (S 7 18)) + 1) + 1) 1 ((pSk 62 ((pFig ((5 * (S 7 18)) + 1) 1 (pC (pWord ([111, 111, 107])) ((pHas 2 ((pSk 98 ((pSk 114 ((pSk 115 S).1)).1)).1)).1))).1)).1)).1)).2 = 0 ∨ (((pFig (((5 * (S 7 18)) + 1) + 1) 1 ((pSk 62 ((pFig ((5 * (S 7 18)) + 1) 1 (pC (pWord ([111, 111, 107])) ((pHas 2 ((pSk 98 ((pSk 114 ((pSk 115 S).1)).1)).1)).1))).1)).1)).1) 7 16) + 1 ≤ (pSk 43 ((pFig (((5 * (S 7 18)) + 1) + 1) 1 ((pSk 62 ((pFig ((5 * (S 7 18)) + 1) 1 (pC (pWord ([111, 111, 107])) ((pHas 2 ((pSk 98 ((pSk 114 ((pSk 115 S).1)).1)).1)).1))).1)).1)).1)).1 7 16) := p55
                  replace hP : va_P (kD E) kcl (mW E Ad ((pSk 43 ((pFig (((5 * (S 7 18)) + 1) + 1) 1 ((pSk 62 ((pFig ((5 * (S 7 18)) + 1) 1 (pC (pWord ([111, 111, 107])) ((pHas 2 ((pSk 98 ((pSk 114 ((pSk 115 S).1)).1)).1)).1))).1)).1)).1)).1)) H := hP
                  replace hD : va_D A (mW E Ad ((pSk 43 ((pFig (((5 * (S 7 18)) + 1) + 1) 1 ((pSk 62 ((pFig ((5 * (S 7 18)) + 1) 1 (pC (pWord ([111, 111, 107])) ((pHas 2 ((pSk 98 ((pSk 114 ((pSk 115 S).1)).1)).1)).1))).1)).1)).1)).1)) := hD
                  show W p l e _ s m args below meth c H locs _ _ Q (F0 m 183 ls [.int (zI ((pSk 43 ((pFig (((5 * (S 7 18)) + 1) + 1) 1 ((pSk 62 ((pFig ((5 * (S 7 18)) + 1) 1 (pC (pWord ([111, 111, 107])) ((pHas 2 ((pSk 98 ((pSk 114 ((pSk 115 S).1)).1)).1)).1))).1)).1)).1)).2))])
                  refine kz_if_eq (tgt := 201) hx hb dX3_orderHere_183 (by decide) (by omega) (fun c183 => ?_) (fun c183 => ?_)
                  · skip
                    refine kz_iconst hx hb dX3_orderHere_201 ?_
                    have e0 : (pOrd) S = ((pSk 43 ((pFig (((5 * (S 7 18)) + 1) + 1) 1 ((pSk 62 ((pFig ((5 * (S 7 18)) + 1) 1 (pC (pWord ([111, 111, 107])) ((pHas 2 ((pSk 98 ((pSk 114 ((pSk 115 S).1)).1)).1)).1))).1)).1)).1)).1, 0) := by show pOrdP (5 * S 7 18 + 1) S = _; unfold pOrdP; refine Eq.trans (pIf_f c15) ?_; refine Eq.trans (pIf_f c67) ?_; refine Eq.trans (pIf_t c128) ?_; refine Eq.trans (pIf_t c136) ?_; refine Eq.trans (pIf_tC (PG.word _ (by decide)) c145) ?_; refine Eq.trans (pIf_t c154) ?_; refine Eq.trans (pIf_t c163) ?_; refine Eq.trans (pIf_t c174) ?_; refine Eq.trans (pIf_f c183) ?_; exact rfl
                    have e1 : ((pOrd) S).2 = 0 := by rw [e0]
                    have e3 : pC (pOrd) S = (pSk 43 ((pFig (((5 * (S 7 18)) + 1) + 1) 1 ((pSk 62 ((pFig ((5 * (S 7 18)) + 1) 1 (pC (pWord ([111, 111, 107])) ((pHas 2 ((pSk 98 ((pSk 114 ((pSk 115 S).1)).1)).1)).1))).1)).1)).1)).1 := by rw [← (PG.ord).c S, e0]
                    exact kz_zNret () hx hb hr hlk hP hD hS dX3_orderHere_202 (by first | decide | exact (PG.t _).r _) (congrArg (fun z : Int => some (Value.int (zI z))) e1) ⟨(kz_r e1 (by omega)), (kz_M e3 hM), (by have z := (PG.ord).m S (by omega) (by omega); rw [(PG.ord).c S] at z; exact z), (by have z := PS.ord S (by omega) (by omega); rw [(PG.ord).c S] at z; exact z)⟩ (congrArg (mW E Ad) e3) hQ (Nat.le_of_ble_eq_true rfl) (Nat.le_of_ble_eq_true rfl)
                  · skip
                    refine lv_aload_n hx hb dX3_orderHere_186 rfl (lv_at hl 1 rfl) ?_
                    refine lv_iload_n hx hb dX3_orderHere_187 rfl (lv_at hl 0 rfl) ?_
                    refine kz_iconst hx hb dX3_orderHere_188 ?_
                    refine kz_iadd hx hb dX3_orderHere_189 ?_
                    refine kz_iconst hx hb dX3_orderHere_190 ?_
                    refine kz_backM (va_runV (As := [.int (zI (((5 * (S 7 18)) + 1) + 2)), .int (zI (2))]) (rest := []) ⟨hx, hb, hml, hown, hts⟩ (mX3_figures l E H.size Ad ((pSk 43 ((pFig (((5 * (S 7 18)) + 1) + 1) 1 ((pSk 62 ((pFig ((5 * (S 7 18)) + 1) 1 (pC (pWord ([111, 111, 107])) ((pHas 2 ((pSk 98 ((pSk 114 ((pSk 115 S).1)).1)).1)).1))).1)).1)).1)).1) hM (((5 * (S 7 18)) + 1) + 2) (by omega) 2 (by omega) (show 0 ≤ (((pSk 43 ((pFig (((5 * (S 7 18)) + 1) + 1) 1 ((pSk 62 ((pFig ((5 * (S 7 18)) + 1) 1 (pC (pWord ([111, 111, 107])) ((pHas 2 ((pSk 98 ((pSk 114 ((pSk 115 S).1)).1)).1)).1))).1)).1)).1)).1) 7 16) ∧ (((pSk 43 ((pFig (((5 * (S 7 18)) + 1) + 1) 1 ((pSk 62 ((pFig ((5 * (S 7 18)) + 1) 1 (pC (pWord ([111, 111, 107])) ((pHas 2 ((pSk 98 ((pSk 114 ((pSk 115 S).1)).1)).1)).1))).1)).1)).1)).1) 7 16) ≤ (S 7 11) ∧ (S 7 11) ≤ 60 by first | omega | exact hI.st _ (by omega) (by omega) | exact hI.rv _ (by omega) (by omega) | exact hI) (show 0 ≤ (((5 * (S 7 18)) + 1) + 2) ∧ (((5 * (S 7 18)) + 1) + 2) < 155 by first | omega | exact hI.st _ (by omega) (by omega) | exact hI.rv _ (by omega) (by omega) | exact hI) (show 1 ≤ 2 ∧ 2 ≤ 2 by first | omega | exact hI.st _ (by omega) (by omega) | exact hI.rv _ (by omega) (by omega) | exact hI)) (cwV 2 hts (lw_V q2656 q2658 qs65 q83 q2659) rfl rfl rfl (by decide +kernel) ⟨(Nat.le_of_ble_eq_true rfl), (Nat.le_of_ble_eq_true rfl)⟩) (kz_preVM (wc := mW E Ad ((pSk 43 ((pFig (((5 * (S 7 18)) + 1) + 1) 1 ((pSk 62 ((pFig ((5 * (S 7 18)) + 1) 1 (pC (pWord ([111, 111, 107])) ((pHas 2 ((pSk 98 ((pSk 114 ((pSk 115 S).1)).1)).1)).1))).1)).1)).1)).1)) (va_recv hK hP (ci := 2) (q0 := 0) rfl rfl) hG hS hAN hP hD kz_nilP kz_nilA) rfl rfl hl.1 rfl (lv_room (Nat.le_of_ble_eq_true rfl)) dX3_orderHere_191 ⟨(Nat.le_of_ble_eq_true rfl), (Nat.le_of_ble_eq_true rfl)⟩) hP hD hS hA (fun u H9 locs9 hu hP9 hD9 hS9 hzz hkk => ?_)
                    clear hzz hkk hP hD hS H locs u
                    revert hS9 hD9 hP9 locs9 H9
                    intro H locs hP hD hS
                    clear hM
                    obtain ⟨r56, hM, p57⟩ := hu
                    replace r56 : rI ((pFig (((5 * (S 7 18)) + 1) + 2) 2 ((pSk 43 ((pFig (((5 * (S 7 18)) + 1) + 1) 1 ((pSk 62 ((pFig ((5 * (S 7 18)) + 1) 1 (pC (pWord ([111, 111, 107])) ((pHas 2 ((pSk 98 ((pSk 114 ((pSk 115 S).1)).1)).1)).1))).1)).1)).1)).1)).2) := r56
                    replace hM : MOk ((pFig (((5 * (S 7 18)) + 1) + 2) 2 ((pSk 43 ((pFig (((5 * (S 7 18)) + 1) + 1) 1 ((pSk 62 ((pFig ((5 * (S 7 18)) + 1) 1 (pC (pWord ([111, 111, 107])) ((pHas 2 ((pSk 98 ((pSk 114 ((pSk 115 S).1)).1)).1)).1))).1)).1)).1)).1)).1) := hM
                    replace p57 : (((pSk 43 ((pFig (((5 * (S 7 18)) + 1) + 1) 1 ((pSk 62 ((pFig ((5 * (S 7 18)) + 1) 1 (pC (pWord ([111, 111, 107])) ((pHas 2 ((pSk 98 ((pSk 114 ((pSk 115 S).1)).1)).1)).1))).1)).1)).1)).1) 7 16) ≤ (pFig (((5 * (S 7 18)) + 1) + 2) 2 ((pSk 43 ((pFig (((5 * (S 7 18)) + 1) + 1) 1 ((pSk 62 ((pFig ((5 * (S 7 18)) + 1) 1 (pC (pWord ([111, 111, 107])) ((pHas 2 ((pSk 98 ((pSk 114 ((pSk 115 S).1)).1)).1)).1))).1)).1)).1)).1)).1 7 16 ∧ (pFig (((5 * (S 7 18)) + 1) + 2) 2 ((pSk 43 ((pFig (((5 * (S 7 18)) + 1) + 1) 1 ((pSk 62 ((pFig ((5 * (S 7 18)) + 1) 1 (pC (pWord ([111, 111, 107])) ((pHas 2 ((pSk 98 ((pSk 114 ((pSk 115 S).1)).1)).1)).1))).1)).1)).1)).1)).1 7 16 ≤ (S 7 11) := p57
                    replace hP : va_P (kD E) kcl (mW E Ad ((pFig (((5 * (S 7 18)) + 1) + 2) 2 ((pSk 43 ((pFig (((5 * (S 7 18)) + 1) + 1) 1 ((pSk 62 ((pFig ((5 * (S 7 18)) + 1) 1 (pC (pWord ([111, 111, 107])) ((pHas 2 ((pSk 98 ((pSk 114 ((pSk 115 S).1)).1)).1)).1))).1)).1)).1)).1)).1)) H := hP
                    replace hD : va_D A (mW E Ad ((pFig (((5 * (S 7 18)) + 1) + 2) 2 ((pSk 43 ((pFig (((5 * (S 7 18)) + 1) + 1) 1 ((pSk 62 ((pFig ((5 * (S 7 18)) + 1) 1 (pC (pWord ([111, 111, 107])) ((pHas 2 ((pSk 98 ((pSk 114 ((pSk 115 S).1)).1)).1)).1))).1)).1)).1)).1)).1)) := hD
                    show W p l e _ s m args below meth c H locs _ _ Q (F0 m 194 ls [.int (zI ((pFig (((5 * (S 7 18)) + 1) + 2) 2 ((pSk 43 ((pFig (((5 * (S 7 18)) + 1) + 1) 1 ((pSk 62 ((pFig ((5 * (S 7 18)) + 1) 1 (pC (pWord ([111, 111, 107])) ((pHas 2 ((pSk 98 ((pSk 114 ((pSk 115 S).1)).1)).1)).1))).1)).1)).1)).1)).2))])
                    refine kz_if_eq (tgt := 201) hx hb dX3_orderHere_194 (by decide) (by omega) (fun c194 => ?_) (fun c194 => ?_)
                    · skip
                      refine kz_iconst hx hb dX3_orderHere_201 ?_
                      have e0 : (pOrd) S = ((pFig (((5 * (S 7 18)) + 1) + 2) 2 ((pSk 43 ((pFig (((5 * (S 7 18)) + 1) + 1) 1 ((pSk 62 ((pFig ((5 * (S 7 18)) + 1) 1 (pC (pWord ([111, 111, 107])) ((pHas 2 ((pSk 98 ((pSk 114 ((pSk 115 S).1)).1)).1)).1))).1)).1)).1)).1)).1, 0) := by show pOrdP (5 * S 7 18 + 1) S = _; unfold pOrdP; refine Eq.trans (pIf_f c15) ?_; refine Eq.trans (pIf_f c67) ?_; refine Eq.trans (pIf_t c128) ?_; refine Eq.trans (pIf_t c136) ?_; refine Eq.trans (pIf_tC (PG.word _ (by decide)) c145) ?_; refine Eq.trans (pIf_t c154) ?_; refine Eq.trans (pIf_t c163) ?_; refine Eq.trans (pIf_t c174) ?_; refine Eq.trans (pIf_t c183) ?_; refine Eq.trans (pIf_f c194) ?_; exact rfl
                      have e1 : ((pOrd) S).2 = 0 := by rw [e0]
                      have e3 : pC (pOrd) S = (pFig (((5 * (S 7 18)) + 1) + 2) 2 ((pSk 43 ((pFig (((5 * (S 7 18)) + 1) + 1) 1 ((pSk 62 ((pFig ((5 * (S 7 18)) + 1) 1 (pC (pWord ([111, 111, 107])) ((pHas 2 ((pSk 98 ((pSk 114 ((pSk 115 S).1)).1)).1)).1))).1)).1)).1)).1)).1 := by rw [← (PG.ord).c S, e0]
                      exact kz_zNret () hx hb hr hlk hP hD hS dX3_orderHere_202 (by first | decide | exact (PG.t _).r _) (congrArg (fun z : Int => some (Value.int (zI z))) e1) ⟨(kz_r e1 (by omega)), (kz_M e3 hM), (by have z := (PG.ord).m S (by omega) (by omega); rw [(PG.ord).c S] at z; exact z), (by have z := PS.ord S (by omega) (by omega); rw [(PG.ord).c S] at z; exact z)⟩ (congrArg (mW E Ad) e3) hQ (Nat.le_of_ble_eq_true rfl) (Nat.le_of_ble_eq_true rfl)
                    · skip
                      refine kz_iconst hx hb dX3_orderHere_197 ?_
                      refine lv_goto (tgt := 202) hx hb dX3_orderHere_198 (by decide) ?_
                      have e0 : (pOrd) S = ((pFig (((5 * (S 7 18)) + 1) + 2) 2 ((pSk 43 ((pFig (((5 * (S 7 18)) + 1) + 1) 1 ((pSk 62 ((pFig ((5 * (S 7 18)) + 1) 1 (pC (pWord ([111, 111, 107])) ((pHas 2 ((pSk 98 ((pSk 114 ((pSk 115 S).1)).1)).1)).1))).1)).1)).1)).1)).1, 1) := by show pOrdP (5 * S 7 18 + 1) S = _; unfold pOrdP; refine Eq.trans (pIf_f c15) ?_; refine Eq.trans (pIf_f c67) ?_; refine Eq.trans (pIf_t c128) ?_; refine Eq.trans (pIf_t c136) ?_; refine Eq.trans (pIf_tC (PG.word _ (by decide)) c145) ?_; refine Eq.trans (pIf_t c154) ?_; refine Eq.trans (pIf_t c163) ?_; refine Eq.trans (pIf_t c174) ?_; refine Eq.trans (pIf_t c183) ?_; refine Eq.trans (pIf_t c194) ?_; exact rfl
                      have e1 : ((pOrd) S).2 = 1 := by rw [e0]
                      have e3 : pC (pOrd) S = (pFig (((5 * (S 7 18)) + 1) + 2) 2 ((pSk 43 ((pFig (((5 * (S 7 18)) + 1) + 1) 1 ((pSk 62 ((pFig ((5 * (S 7 18)) + 1) 1 (pC (pWord ([111, 111, 107])) ((pHas 2 ((pSk 98 ((pSk 114 ((pSk 115 S).1)).1)).1)).1))).1)).1)).1)).1)).1 := by rw [← (PG.ord).c S, e0]
                      exact kz_zNret () hx hb hr hlk hP hD hS dX3_orderHere_202 (by first | decide | exact (PG.t _).r _) (congrArg (fun z : Int => some (Value.int (zI z))) e1) ⟨(kz_r e1 (by omega)), (kz_M e3 hM), (by have z := (PG.ord).m S (by omega) (by omega); rw [(PG.ord).c S] at z; exact z), (by have z := PS.ord S (by omega) (by omega); rw [(PG.ord).c S] at z; exact z)⟩ (congrArg (mW E Ad) e3) hQ (Nat.le_of_ble_eq_true rfl) (Nat.le_of_ble_eq_true rfl)
    · skip
      refine lv_aload_n hx hb dX3_orderHere_70 rfl (lv_at hl 1 rfl) ?_
      refine kz_iconst hx hb dX3_orderHere_71 ?_
      refine kz_backM (va_runV (As := [.int (zI (1))]) (rest := []) ⟨hx, hb, hml, hown, hts⟩ (mX3_hasOrder l E H.size Ad ((pSk 114 ((pSk 115 S).1)).1) hM 1 (by omega) (show 0 ≤ (S 7 18) ∧ (S 7 18) ≤ 30 by first | omega | exact hI.st _ (by omega) (by omega) | exact hI.rv _ (by omega) (by omega) | exact hI)) (cwV 1 hts (lw_V q2645 q2647 qs63 q83 q2648) rfl rfl rfl (by decide +kernel) ⟨(Nat.le_of_ble_eq_true rfl), (Nat.le_of_ble_eq_true rfl)⟩) (kz_preVM (wc := mW E Ad ((pSk 114 ((pSk 115 S).1)).1)) (va_recv hK hP (ci := 2) (q0 := 0) rfl rfl) hG hS hAN hP hD kz_nilP kz_nilA) rfl rfl hl.1 rfl (lv_room (Nat.le_of_ble_eq_true rfl)) dX3_orderHere_72 ⟨(Nat.le_of_ble_eq_true rfl), (Nat.le_of_ble_eq_true rfl)⟩) hP hD hS hA (fun u H9 locs9 hu hP9 hD9 hS9 hzz hkk => ?_)
      clear hzz hkk hP hD hS H locs u
      revert hS9 hD9 hP9 locs9 H9
      intro H locs hP hD hS
      clear hM
      obtain ⟨r58, hM⟩ := hu
      replace r58 : rI ((pHas 1 ((pSk 114 ((pSk 115 S).1)).1)).2) := r58
      replace hM : MOk ((pHas 1 ((pSk 114 ((pSk 115 S).1)).1)).1) := hM
      replace hP : va_P (kD E) kcl (mW E Ad ((pHas 1 ((pSk 114 ((pSk 115 S).1)).1)).1)) H := hP
      replace hD : va_D A (mW E Ad ((pHas 1 ((pSk 114 ((pSk 115 S).1)).1)).1)) := hD
      show W p l e _ s m args below meth c H locs _ _ Q (F0 m 75 ls [.int (zI ((pHas 1 ((pSk 114 ((pSk 115 S).1)).1)).2))])
      refine kz_if_eq (tgt := 120) hx hb dX3_orderHere_75 (by decide) (by omega) (fun c75 => ?_) (fun c75 => ?_)
      · skip
        refine kz_iconst hx hb dX3_orderHere_120 ?_
        have e0 : (pOrd) S = ((pHas 1 ((pSk 114 ((pSk 115 S).1)).1)).1, 0) := by show pOrdP (5 * S 7 18 + 1) S = _; unfold pOrdP; refine Eq.trans (pIf_f c15) ?_; refine Eq.trans (pIf_t c67) ?_; refine Eq.trans (pIf_f c75) ?_; exact rfl
        have e1 : ((pOrd) S).2 = 0 := by rw [e0]
        have e3 : pC (pOrd) S = (pHas 1 ((pSk 114 ((pSk 115 S).1)).1)).1 := by rw [← (PG.ord).c S, e0]
        exact kz_zNret () hx hb hr hlk hP hD hS dX3_orderHere_121 (by first | decide | exact (PG.t _).r _) (congrArg (fun z : Int => some (Value.int (zI z))) e1) ⟨(kz_r e1 (by omega)), (kz_M e3 hM), (by have z := (PG.ord).m S (by omega) (by omega); rw [(PG.ord).c S] at z; exact z), (by have z := PS.ord S (by omega) (by omega); rw [(PG.ord).c S] at z; exact z)⟩ (congrArg (mW E Ad) e3) hQ (Nat.le_of_ble_eq_true rfl) (Nat.le_of_ble_eq_true rfl)
      · skip
        refine lv_aload_n hx hb dX3_orderHere_78 rfl (lv_at hl 1 rfl) ?_
        have hl59 := hG.lit_iver
        refine va_ldcS hx hb hown (hG.ldc hl59 q2660 (Or.inl ⟨rfl, rfl⟩)) dX3_orderHere_79 ?_
        refine kz_backM (va_runV (As := [.ref ((litA E "SkipSchoolModel" 209))]) (rest := []) ⟨hx, hb, hml, hown, hts⟩ (mX3_isWord l E H.size Ad ((pHas 1 ((pSk 114 ((pSk 115 S).1)).1)).1) hM (litA E "SkipSchoolModel" 209) (litV E "SkipSchoolModel" 209) [105, 118, 101, 114] (by decide) (by decide) hl59.2.2.1 hl59.2.2.2.1 (show 0 ≤ (((pSk 114 ((pSk 115 S).1)).1) 7 16) ∧ (((pSk 114 ((pSk 115 S).1)).1) 7 16) ≤ (S 7 11) ∧ (S 7 11) ≤ 60 by first | omega | exact hI.st _ (by omega) (by omega) | exact hI.rv _ (by omega) (by omega) | exact hI)) (cwV 1 hts (lw_V q2650 q2652 qs64 q83 q2653) rfl rfl rfl (by decide +kernel) ⟨(Nat.le_of_ble_eq_true rfl), (Nat.le_of_ble_eq_true rfl)⟩) (kz_preXV (kz_preVM (wc := mW E Ad ((pHas 1 ((pSk 114 ((pSk 115 S).1)).1)).1)) (va_recv hK hP (ci := 2) (q0 := 0) rfl rfl) hG hS hAN hP hD kz_nilP kz_nilA) (fun _ _ _ _ h => h) (fun U hU hW => hl59.1.on hS (fun z => absurd (hAN _ z) (Nat.not_le.mpr hl59.2.2.1)) (fun z => absurd (hAN _ z) (Nat.not_le.mpr hl59.2.2.2.1)) hU hW)) rfl rfl hl.1 rfl (lv_room (Nat.le_of_ble_eq_true rfl)) dX3_orderHere_81 ⟨(Nat.le_of_ble_eq_true rfl), (Nat.le_of_ble_eq_true rfl)⟩) hP hD hS hA (fun u H9 locs9 hu hP9 hD9 hS9 hzz hkk => ?_)
        clear hzz hkk hP hD hS H locs u
        revert hS9 hD9 hP9 locs9 H9
        intro H locs hP hD hS
        clear hM
        obtain ⟨r60, hM, p61⟩ := hu
        replace r60 : rI ((pWord ([105, 118, 101, 114]) ((pHas 1 ((pSk 114 ((pSk 115 S).1)).1)).1)).2) := r60
        replace hM : MOk (pC (pWord ([105, 118, 101, 114])) ((pHas 1 ((pSk 114 ((pSk 115 S).1)).1)).1)) := hM
        replace p61 : (((pSk 114 ((pSk 115 S).1)).1) 7 16) ≤ (pC (pWord ([105, 118, 101, 114])) ((pHas 1 ((pSk 114 ((pSk 115 S).1)).1)).1)) 7 16 ∧ (pC (pWord ([105, 118, 101, 114])) ((pHas 1 ((pSk 114 ((pSk 115 S).1)).1)).1)) 7 16 ≤ (S 7 11) := p61
        replace hP : va_P (kD E) kcl (mW E Ad (pC (pWord ([105, 118, 101, 114])) ((pHas 1 ((pSk 114 ((pSk 115 S).1)).1)).1))) H := hP
        replace hD : va_D A (mW E Ad (pC (pWord ([105, 118, 101, 114])) ((pHas 1 ((pSk 114 ((pSk 115 S).1)).1)).1))) := hD
        show W p l e _ s m args below meth c H locs _ _ Q (F0 m 84 ls [.int (zI ((pWord ([105, 118, 101, 114]) ((pHas 1 ((pSk 114 ((pSk 115 S).1)).1)).1)).2))])
        refine kz_if_eq (tgt := 120) hx hb dX3_orderHere_84 (by decide) (by omega) (fun c84 => ?_) (fun c84 => ?_)
        · skip
          refine kz_iconst hx hb dX3_orderHere_120 ?_
          have e0 : (pOrd) S = (pC (pWord ([105, 118, 101, 114])) ((pHas 1 ((pSk 114 ((pSk 115 S).1)).1)).1), 0) := by show pOrdP (5 * S 7 18 + 1) S = _; unfold pOrdP; refine Eq.trans (pIf_f c15) ?_; refine Eq.trans (pIf_t c67) ?_; refine Eq.trans (pIf_t c75) ?_; refine Eq.trans (pIf_fC (PG.word _ (by decide)) c84) ?_; exact rfl
          have e1 : ((pOrd) S).2 = 0 := by rw [e0]
          have e3 : pC (pOrd) S = pC (pWord ([105, 118, 101, 114])) ((pHas 1 ((pSk 114 ((pSk 115 S).1)).1)).1) := by rw [← (PG.ord).c S, e0]
          exact kz_zNret () hx hb hr hlk hP hD hS dX3_orderHere_121 (by first | decide | exact (PG.t _).r _) (congrArg (fun z : Int => some (Value.int (zI z))) e1) ⟨(kz_r e1 (by omega)), (kz_M e3 hM), (by have z := (PG.ord).m S (by omega) (by omega); rw [(PG.ord).c S] at z; exact z), (by have z := PS.ord S (by omega) (by omega); rw [(PG.ord).c S] at z; exact z)⟩ (congrArg (mW E Ad) e3) hQ (Nat.le_of_ble_eq_true rfl) (Nat.le_of_ble_eq_true rfl)
        · skip
          refine lv_aload_n hx hb dX3_orderHere_87 rfl (lv_at hl 1 rfl) ?_
          refine lv_iload_n hx hb dX3_orderHere_88 rfl (lv_at hl 0 rfl) ?_
          refine kz_iconst hx hb dX3_orderHere_89 ?_
          refine kz_backM (va_runV (As := [.int (zI ((5 * (S 7 18)) + 1)), .int (zI (2))]) (rest := []) ⟨hx, hb, hml, hown, hts⟩ (mX3_figures l E H.size Ad (pC (pWord ([105, 118, 101, 114])) ((pHas 1 ((pSk 114 ((pSk 115 S).1)).1)).1)) hM ((5 * (S 7 18)) + 1) (by omega) 2 (by omega) (show 0 ≤ ((pC (pWord ([105, 118, 101, 114])) ((pHas 1 ((pSk 114 ((pSk 115 S).1)).1)).1)) 7 16) ∧ ((pC (pWord ([105, 118, 101, 114])) ((pHas 1 ((pSk 114 ((pSk 115 S).1)).1)).1)) 7 16) ≤ (S 7 11) ∧ (S 7 11) ≤ 60 by first | omega | exact hI.st _ (by omega) (by omega) | exact hI.rv _ (by omega) (by omega) | exact hI) (show 0 ≤ ((5 * (S 7 18)) + 1) ∧ ((5 * (S 7 18)) + 1) < 155 by first | omega | exact hI.st _ (by omega) (by omega) | exact hI.rv _ (by omega) (by omega) | exact hI) (show 1 ≤ 2 ∧ 2 ≤ 2 by first | omega | exact hI.st _ (by omega) (by omega) | exact hI.rv _ (by omega) (by omega) | exact hI)) (cwV 2 hts (lw_V q2656 q2658 qs65 q83 q2659) rfl rfl rfl (by decide +kernel) ⟨(Nat.le_of_ble_eq_true rfl), (Nat.le_of_ble_eq_true rfl)⟩) (kz_preVM (wc := mW E Ad (pC (pWord ([105, 118, 101, 114])) ((pHas 1 ((pSk 114 ((pSk 115 S).1)).1)).1))) (va_recv hK hP (ci := 2) (q0 := 0) rfl rfl) hG hS hAN hP hD kz_nilP kz_nilA) rfl rfl hl.1 rfl (lv_room (Nat.le_of_ble_eq_true rfl)) dX3_orderHere_90 ⟨(Nat.le_of_ble_eq_true rfl), (Nat.le_of_ble_eq_true rfl)⟩) hP hD hS hA (fun u H9 locs9 hu hP9 hD9 hS9 hzz hkk => ?_)
          clear hzz hkk hP hD hS H locs u
          revert hS9 hD9 hP9 locs9 H9
          intro H locs hP hD hS
          clear hM
          obtain ⟨r62, hM, p63⟩ := hu
          replace r62 : rI ((pFig ((5 * (S 7 18)) + 1) 2 (pC (pWord ([105, 118, 101, 114])) ((pHas 1 ((pSk 114 ((pSk 115 S).1)).1)).1))).2) := r62
          replace hM : MOk ((pFig ((5 * (S 7 18)) + 1) 2 (pC (pWord ([105, 118, 101, 114])) ((pHas 1 ((pSk 114 ((pSk 115 S).1)).1)).1))).1) := hM
          replace p63 : ((pC (pWord ([105, 118, 101, 114])) ((pHas 1 ((pSk 114 ((pSk 115 S).1)).1)).1)) 7 16) ≤ (pFig ((5 * (S 7 18)) + 1) 2 (pC (pWord ([105, 118, 101, 114])) ((pHas 1 ((pSk 114 ((pSk 115 S).1)).1)).1))).1 7 16 ∧ (pFig ((5 * (S 7 18)) + 1) 2 (pC (pWord ([105, 118, 101, 114])) ((pHas 1 ((pSk 114 ((pSk 115 S).1)).1)).1))).1 7 16 ≤ (S 7 11) := p63
          replace hP : va_P (kD E) kcl (mW E Ad ((pFig ((5 * (S 7 18)) + 1) 2 (pC (pWord ([105, 118, 101, 114])) ((pHas 1 ((pSk 114 ((pSk 115 S).1)).1)).1))).1)) H := hP
          replace hD : va_D A (mW E Ad ((pFig ((5 * (S 7 18)) + 1) 2 (pC (pWord ([105, 118, 101, 114])) ((pHas 1 ((pSk 114 ((pSk 115 S).1)).1)).1))).1)) := hD
          show W p l e _ s m args below meth c H locs _ _ Q (F0 m 93 ls [.int (zI ((pFig ((5 * (S 7 18)) + 1) 2 (pC (pWord ([105, 118, 101, 114])) ((pHas 1 ((pSk 114 ((pSk 115 S).1)).1)).1))).2))])
          refine kz_if_eq (tgt := 120) hx hb dX3_orderHere_93 (by decide) (by omega) (fun c93 => ?_) (fun c93 => ?_)
          · skip
            refine kz_iconst hx hb dX3_orderHere_120 ?_
            have e0 : (pOrd) S = ((pFig ((5 * (S 7 18)) + 1) 2 (pC (pWord ([105, 118, 101, 114])) ((pHas 1 ((pSk 114 ((pSk 115 S).1)).1)).1))).1, 0) := by show pOrdP (5 * S 7 18 + 1) S = _; unfold pOrdP; refine Eq.trans (pIf_f c15) ?_; refine Eq.trans (pIf_t c67) ?_; refine Eq.trans (pIf_t c75) ?_; refine Eq.trans (pIf_tC (PG.word _ (by decide)) c84) ?_; refine Eq.trans (pIf_f c93) ?_; exact rfl
            have e1 : ((pOrd) S).2 = 0 := by rw [e0]
            have e3 : pC (pOrd) S = (pFig ((5 * (S 7 18)) + 1) 2 (pC (pWord ([105, 118, 101, 114])) ((pHas 1 ((pSk 114 ((pSk 115 S).1)).1)).1))).1 := by rw [← (PG.ord).c S, e0]
            exact kz_zNret () hx hb hr hlk hP hD hS dX3_orderHere_121 (by first | decide | exact (PG.t _).r _) (congrArg (fun z : Int => some (Value.int (zI z))) e1) ⟨(kz_r e1 (by omega)), (kz_M e3 hM), (by have z := (PG.ord).m S (by omega) (by omega); rw [(PG.ord).c S] at z; exact z), (by have z := PS.ord S (by omega) (by omega); rw [(PG.ord).c S] at z; exact z)⟩ (congrArg (mW E Ad) e3) hQ (Nat.le_of_ble_eq_true rfl) (Nat.le_of_ble_eq_true rfl)
          · skip
            refine lv_aload_n hx hb dX3_orderHere_96 rfl (lv_at hl 1 rfl) ?_
            refine kz_bipush hx hb dX3_orderHere_97 (by decide) ?_
            refine kz_backM (va_runV (As := [.int (zI (47))]) (rest := []) ⟨hx, hb, hml, hown, hts⟩ (mX3_skipsOver l E H.size Ad ((pFig ((5 * (S 7 18)) + 1) 2 (pC (pWord ([105, 118, 101, 114])) ((pHas 1 ((pSk 114 ((pSk 115 S).1)).1)).1))).1) hM 47 (by omega) (show 0 ≤ (((pFig ((5 * (S 7 18)) + 1) 2 (pC (pWord ([105, 118, 101, 114])) ((pHas 1 ((pSk 114 ((pSk 115 S).1)).1)).1))).1) 7 16) ∧ (((pFig ((5 * (S 7 18)) + 1) 2 (pC (pWord ([105, 118, 101, 114])) ((pHas 1 ((pSk 114 ((pSk 115 S).1)).1)).1))).1) 7 16) ≤ (S 7 11) ∧ (S 7 11) ≤ 60 by first | omega | exact hI.st _ (by omega) (by omega) | exact hI.rv _ (by omega) (by omega) | exact hI) (show 0 ≤ 47 by first | omega | exact hI.st _ (by omega) (by omega) | exact hI.rv _ (by omega) (by omega) | exact hI)) (cwV 1 hts (lw_V q2637 q2639 qs61 q83 q2640) rfl rfl rfl (by decide +kernel) ⟨(Nat.le_of_ble_eq_true rfl), (Nat.le_of_ble_eq_true rfl)⟩) (kz_preVM (wc := mW E Ad ((pFig ((5 * (S 7 18)) + 1) 2 (pC (pWord ([105, 118, 101, 114])) ((pHas 1 ((pSk 114 ((pSk 115 S).1)).1)).1))).1)) (va_recv hK hP (ci := 2) (q0 := 0) rfl rfl) hG hS hAN hP hD kz_nilP kz_nilA) rfl rfl hl.1 rfl (lv_room (Nat.le_of_ble_eq_true rfl)) dX3_orderHere_99 ⟨(Nat.le_of_ble_eq_true rfl), (Nat.le_of_ble_eq_true rfl)⟩) hP hD hS hA (fun u H9 locs9 hu hP9 hD9 hS9 hzz hkk => ?_)
            clear hzz hkk hP hD hS H locs u
            revert hS9 hD9 hP9 locs9 H9
            intro H locs hP hD hS
            clear hM
            obtain ⟨r64, hM, p65, p66⟩ := hu
            replace r64 : rI ((pSk 47 ((pFig ((5 * (S 7 18)) + 1) 2 (pC (pWord ([105, 118, 101, 114])) ((pHas 1 ((pSk 114 ((pSk 115 S).1)).1)).1))).1)).2) := r64
            replace hM : MOk ((pSk 47 ((pFig ((5 * (S 7 18)) + 1) 2 (pC (pWord ([105, 118, 101, 114])) ((pHas 1 ((pSk 114 ((pSk 115 S).1)).1)).1))).1)).1) := hM
            replace p65 : (((pFig ((5 * (S 7 18)) + 1) 2 (pC (pWord ([105, 118, 101, 114])) ((pHas 1 ((pSk 114 ((pSk 115 S).1)).1)).1))).1) 7 16) ≤ (pSk 47 ((pFig ((5 * (S 7 18)) + 1) 2 (pC (pWord ([105, 118, 101, 114])) ((pHas 1 ((pSk 114 ((pSk 115 S).1)).1)).1))).1)).1 7 16 ∧ (pSk 47 ((pFig ((5 * (S 7 18)) + 1) 2 (pC (pWord ([105, 118, 101, 114])) ((pHas 1 ((pSk 114 ((pSk 115 S).1)).1)).1))).1)).1 7 16 ≤ (S 7 11) := p65
            replace p66 : ((pSk 47 ((pFig ((5 * (S 7 18)) + 1) 2 (pC (pWord ([105, 118, 101, 114])) ((pHas 1 ((pSk 114 ((pSk 115 S).1)).1)).1))).1)).2 = 0 ∨ (((pFig ((5 * (S 7 18)) + 1) 2 (pC (pWord ([105, 118, 101, 114])) ((pHas 1 ((pSk 114 ((pSk 115 S).1)).1)).1))).1) 7 16) + 1 ≤ (pSk 47 ((pFig ((5 * (S 7 18)) + 1) 2 (pC (pWord ([105, 118, 101, 114])) ((pHas 1 ((pSk 114 ((pSk 115 S).1)).1)).1))).1)).1 7 16) := p66
            replace hP : va_P (kD E) kcl (mW E Ad ((pSk 47 ((pFig ((5 * (S 7 18)) + 1) 2 (pC (pWord ([105, 118, 101, 114])) ((pHas 1 ((pSk 114 ((pSk 115 S).1)).1)).1))).1)).1)) H := hP
            replace hD : va_D A (mW E Ad ((pSk 47 ((pFig ((5 * (S 7 18)) + 1) 2 (pC (pWord ([105, 118, 101, 114])) ((pHas 1 ((pSk 114 ((pSk 115 S).1)).1)).1))).1)).1)) := hD
            show W p l e _ s m args below meth c H locs _ _ Q (F0 m 102 ls [.int (zI ((pSk 47 ((pFig ((5 * (S 7 18)) + 1) 2 (pC (pWord ([105, 118, 101, 114])) ((pHas 1 ((pSk 114 ((pSk 115 S).1)).1)).1))).1)).2))])
            refine kz_if_eq (tgt := 120) hx hb dX3_orderHere_102 (by decide) (by omega) (fun c102 => ?_) (fun c102 => ?_)
            · skip
              refine kz_iconst hx hb dX3_orderHere_120 ?_
              have e0 : (pOrd) S = ((pSk 47 ((pFig ((5 * (S 7 18)) + 1) 2 (pC (pWord ([105, 118, 101, 114])) ((pHas 1 ((pSk 114 ((pSk 115 S).1)).1)).1))).1)).1, 0) := by show pOrdP (5 * S 7 18 + 1) S = _; unfold pOrdP; refine Eq.trans (pIf_f c15) ?_; refine Eq.trans (pIf_t c67) ?_; refine Eq.trans (pIf_t c75) ?_; refine Eq.trans (pIf_tC (PG.word _ (by decide)) c84) ?_; refine Eq.trans (pIf_t c93) ?_; refine Eq.trans (pIf_f c102) ?_; exact rfl
              have e1 : ((pOrd) S).2 = 0 := by rw [e0]
              have e3 : pC (pOrd) S = (pSk 47 ((pFig ((5 * (S 7 18)) + 1) 2 (pC (pWord ([105, 118, 101, 114])) ((pHas 1 ((pSk 114 ((pSk 115 S).1)).1)).1))).1)).1 := by rw [← (PG.ord).c S, e0]
              exact kz_zNret () hx hb hr hlk hP hD hS dX3_orderHere_121 (by first | decide | exact (PG.t _).r _) (congrArg (fun z : Int => some (Value.int (zI z))) e1) ⟨(kz_r e1 (by omega)), (kz_M e3 hM), (by have z := (PG.ord).m S (by omega) (by omega); rw [(PG.ord).c S] at z; exact z), (by have z := PS.ord S (by omega) (by omega); rw [(PG.ord).c S] at z; exact z)⟩ (congrArg (mW E Ad) e3) hQ (Nat.le_of_ble_eq_true rfl) (Nat.le_of_ble_eq_true rfl)
            · skip
              refine lv_aload_n hx hb dX3_orderHere_105 rfl (lv_at hl 1 rfl) ?_
              refine lv_iload_n hx hb dX3_orderHere_106 rfl (lv_at hl 0 rfl) ?_
              refine kz_iconst hx hb dX3_orderHere_107 ?_
              refine kz_iadd hx hb dX3_orderHere_108 ?_
              refine kz_iconst hx hb dX3_orderHere_109 ?_
              refine kz_backM (va_runV (As := [.int (zI (((5 * (S 7 18)) + 1) + 1)), .int (zI (1))]) (rest := []) ⟨hx, hb, hml, hown, hts⟩ (mX3_figures l E H.size Ad ((pSk 47 ((pFig ((5 * (S 7 18)) + 1) 2 (pC (pWord ([105, 118, 101, 114])) ((pHas 1 ((pSk 114 ((pSk 115 S).1)).1)).1))).1)).1) hM (((5 * (S 7 18)) + 1) + 1) (by omega) 1 (by omega) (show 0 ≤ (((pSk 47 ((pFig ((5 * (S 7 18)) + 1) 2 (pC (pWord ([105, 118, 101, 114])) ((pHas 1 ((pSk 114 ((pSk 115 S).1)).1)).1))).1)).1) 7 16) ∧ (((pSk 47 ((pFig ((5 * (S 7 18)) + 1) 2 (pC (pWord ([105, 118, 101, 114])) ((pHas 1 ((pSk 114 ((pSk 115 S).1)).1)).1))).1)).1) 7 16) ≤ (S 7 11) ∧ (S 7 11) ≤ 60 by first | omega | exact hI.st _ (by omega) (by omega) | exact hI.rv _ (by omega) (by omega) | exact hI) (show 0 ≤ (((5 * (S 7 18)) + 1) + 1) ∧ (((5 * (S 7 18)) + 1) + 1) < 155 by first | omega | exact hI.st _ (by omega) (by omega) | exact hI.rv _ (by omega) (by omega) | exact hI) (show 1 ≤ 1 ∧ 1 ≤ 2 by first | omega | exact hI.st _ (by omega) (by omega) | exact hI.rv _ (by omega) (by omega) | exact hI)) (cwV 2 hts (lw_V q2656 q2658 qs65 q83 q2659) rfl rfl rfl (by decide +kernel) ⟨(Nat.le_of_ble_eq_true rfl), (Nat.le_of_ble_eq_true rfl)⟩) (kz_preVM (wc := mW E Ad ((pSk 47 ((pFig ((5 * (S 7 18)) + 1) 2 (pC (pWord ([105, 118, 101, 114])) ((pHas 1 ((pSk 114 ((pSk 115 S).1)).1)).1))).1)).1)) (va_recv hK hP (ci := 2) (q0 := 0) rfl rfl) hG hS hAN hP hD kz_nilP kz_nilA) rfl rfl hl.1 rfl (lv_room (Nat.le_of_ble_eq_true rfl)) dX3_orderHere_110 ⟨(Nat.le_of_ble_eq_true rfl), (Nat.le_of_ble_eq_true rfl)⟩) hP hD hS hA (fun u H9 locs9 hu hP9 hD9 hS9 hzz hkk => ?_)
              clear hzz hkk hP hD hS H locs u
              revert hS9 hD9 hP9 locs9 H9
              intro H locs hP hD hS
              clear hM
              obtain ⟨r67, hM, p68⟩ := hu
              replace r67 : rI ((pFig (((5 * (S 7 18)) + 1) + 1) 1 ((pSk 47 ((pFig ((5 * (S 7 18)) + 1) 2 (pC (pWord ([105, 118, 101, 114])) ((pHas 1 ((pSk 114 ((pSk 115 S).1)).1)).1))).1)).1)).2) := r67
              replace hM : MOk ((pFig (((5 * (S 7 18)) + 1) + 1) 1 ((pSk 47 ((pFig ((5 * (S 7 18)) + 1) 2 (pC (pWord ([105, 118, 101, 114])) ((pHas 1 ((pSk 114 ((pSk 115 S).1)).1)).1))).1)).1)).1) := hM
              replace p68 : (((pSk 47 ((pFig ((5 * (S 7 18)) + 1) 2 (pC (pWord ([105, 118, 101, 114])) ((pHas 1 ((pSk 114 ((pSk 115 S).1)).1)).1))).1)).1) 7 16) ≤ (pFig (((5 * (S 7 18)) + 1) + 1) 1 ((pSk 47 ((pFig ((5 * (S 7 18)) + 1) 2 (pC (pWord ([105, 118, 101, 114])) ((pHas 1 ((pSk 114 ((pSk 115 S).1)).1)).1))).1)).1)).1 7 16 ∧ (pFig (((5 * (S 7 18)) + 1) + 1) 1 ((pSk 47 ((pFig ((5 * (S 7 18)) + 1) 2 (pC (pWord ([105, 118, 101, 114])) ((pHas 1 ((pSk 114 ((pSk 115 S).1)).1)).1))).1)).1)).1 7 16 ≤ (S 7 11) := p68
              replace hP : va_P (kD E) kcl (mW E Ad ((pFig (((5 * (S 7 18)) + 1) + 1) 1 ((pSk 47 ((pFig ((5 * (S 7 18)) + 1) 2 (pC (pWord ([105, 118, 101, 114])) ((pHas 1 ((pSk 114 ((pSk 115 S).1)).1)).1))).1)).1)).1)) H := hP
              replace hD : va_D A (mW E Ad ((pFig (((5 * (S 7 18)) + 1) + 1) 1 ((pSk 47 ((pFig ((5 * (S 7 18)) + 1) 2 (pC (pWord ([105, 118, 101, 114])) ((pHas 1 ((pSk 114 ((pSk 115 S).1)).1)).1))).1)).1)).1)) := hD
              show W p l e _ s m args below meth c H locs _ _ Q (F0 m 113 ls [.int (zI ((pFig (((5 * (S 7 18)) + 1) + 1) 1 ((pSk 47 ((pFig ((5 * (S 7 18)) + 1) 2 (pC (pWord ([105, 118, 101, 114])) ((pHas 1 ((pSk 114 ((pSk 115 S).1)).1)).1))).1)).1)).2))])
              refine kz_if_eq (tgt := 120) hx hb dX3_orderHere_113 (by decide) (by omega) (fun c113 => ?_) (fun c113 => ?_)
              · skip
                refine kz_iconst hx hb dX3_orderHere_120 ?_
                have e0 : (pOrd) S = ((pFig (((5 * (S 7 18)) + 1) + 1) 1 ((pSk 47 ((pFig ((5 * (S 7 18)) + 1) 2 (pC (pWord ([105, 118, 101, 114])) ((pHas 1 ((pSk 114 ((pSk 115 S).1)).1)).1))).1)).1)).1, 0) := by show pOrdP (5 * S 7 18 + 1) S = _; unfold pOrdP; refine Eq.trans (pIf_f c15) ?_; refine Eq.trans (pIf_t c67) ?_; refine Eq.trans (pIf_t c75) ?_; refine Eq.trans (pIf_tC (PG.word _ (by decide)) c84) ?_; refine Eq.trans (pIf_t c93) ?_; refine Eq.trans (pIf_t c102) ?_; refine Eq.trans (pIf_f c113) ?_; exact rfl
                have e1 : ((pOrd) S).2 = 0 := by rw [e0]
                have e3 : pC (pOrd) S = (pFig (((5 * (S 7 18)) + 1) + 1) 1 ((pSk 47 ((pFig ((5 * (S 7 18)) + 1) 2 (pC (pWord ([105, 118, 101, 114])) ((pHas 1 ((pSk 114 ((pSk 115 S).1)).1)).1))).1)).1)).1 := by rw [← (PG.ord).c S, e0]
                exact kz_zNret () hx hb hr hlk hP hD hS dX3_orderHere_121 (by first | decide | exact (PG.t _).r _) (congrArg (fun z : Int => some (Value.int (zI z))) e1) ⟨(kz_r e1 (by omega)), (kz_M e3 hM), (by have z := (PG.ord).m S (by omega) (by omega); rw [(PG.ord).c S] at z; exact z), (by have z := PS.ord S (by omega) (by omega); rw [(PG.ord).c S] at z; exact z)⟩ (congrArg (mW E Ad) e3) hQ (Nat.le_of_ble_eq_true rfl) (Nat.le_of_ble_eq_true rfl)
              · skip
                refine kz_iconst hx hb dX3_orderHere_116 ?_
                refine lv_goto (tgt := 121) hx hb dX3_orderHere_117 (by decide) ?_
                have e0 : (pOrd) S = ((pFig (((5 * (S 7 18)) + 1) + 1) 1 ((pSk 47 ((pFig ((5 * (S 7 18)) + 1) 2 (pC (pWord ([105, 118, 101, 114])) ((pHas 1 ((pSk 114 ((pSk 115 S).1)).1)).1))).1)).1)).1, 1) := by show pOrdP (5 * S 7 18 + 1) S = _; unfold pOrdP; refine Eq.trans (pIf_f c15) ?_; refine Eq.trans (pIf_t c67) ?_; refine Eq.trans (pIf_t c75) ?_; refine Eq.trans (pIf_tC (PG.word _ (by decide)) c84) ?_; refine Eq.trans (pIf_t c93) ?_; refine Eq.trans (pIf_t c102) ?_; refine Eq.trans (pIf_t c113) ?_; exact rfl
                have e1 : ((pOrd) S).2 = 1 := by rw [e0]
                have e3 : pC (pOrd) S = (pFig (((5 * (S 7 18)) + 1) + 1) 1 ((pSk 47 ((pFig ((5 * (S 7 18)) + 1) 2 (pC (pWord ([105, 118, 101, 114])) ((pHas 1 ((pSk 114 ((pSk 115 S).1)).1)).1))).1)).1)).1 := by rw [← (PG.ord).c S, e0]
                exact kz_zNret () hx hb hr hlk hP hD hS dX3_orderHere_121 (by first | decide | exact (PG.t _).r _) (congrArg (fun z : Int => some (Value.int (zI z))) e1) ⟨(kz_r e1 (by omega)), (kz_M e3 hM), (by have z := (PG.ord).m S (by omega) (by omega); rw [(PG.ord).c S] at z; exact z), (by have z := PS.ord S (by omega) (by omega); rw [(PG.ord).c S] at z; exact z)⟩ (congrArg (mW E Ad) e3) hQ (Nat.le_of_ble_eq_true rfl) (Nat.le_of_ble_eq_true rfl)
  · skip
    refine lv_aload_n hx hb dX3_orderHere_18 rfl (lv_at hl 1 rfl) ?_
    refine kz_iconst hx hb dX3_orderHere_19 ?_
    refine kz_backM (va_runV (As := [.int (zI (0))]) (rest := []) ⟨hx, hb, hml, hown, hts⟩ (mX3_hasOrder l E H.size Ad ((pSk 115 S).1) hM 0 (by omega) (show 0 ≤ (S 7 18) ∧ (S 7 18) ≤ 30 by first | omega | exact hI.st _ (by omega) (by omega) | exact hI.rv _ (by omega) (by omega) | exact hI)) (cwV 1 hts (lw_V q2645 q2647 qs63 q83 q2648) rfl rfl rfl (by decide +kernel) ⟨(Nat.le_of_ble_eq_true rfl), (Nat.le_of_ble_eq_true rfl)⟩) (kz_preVM (wc := mW E Ad ((pSk 115 S).1)) (va_recv hK hP (ci := 2) (q0 := 0) rfl rfl) hG hS hAN hP hD kz_nilP kz_nilA) rfl rfl hl.1 rfl (lv_room (Nat.le_of_ble_eq_true rfl)) dX3_orderHere_20 ⟨(Nat.le_of_ble_eq_true rfl), (Nat.le_of_ble_eq_true rfl)⟩) hP hD hS hA (fun u H9 locs9 hu hP9 hD9 hS9 hzz hkk => ?_)
    clear hzz hkk hP hD hS H locs u
    revert hS9 hD9 hP9 locs9 H9
    intro H locs hP hD hS
    clear hM
    obtain ⟨r69, hM⟩ := hu
    replace r69 : rI ((pHas 0 ((pSk 115 S).1)).2) := r69
    replace hM : MOk ((pHas 0 ((pSk 115 S).1)).1) := hM
    replace hP : va_P (kD E) kcl (mW E Ad ((pHas 0 ((pSk 115 S).1)).1)) H := hP
    replace hD : va_D A (mW E Ad ((pHas 0 ((pSk 115 S).1)).1)) := hD
    show W p l e _ s m args below meth c H locs _ _ Q (F0 m 23 ls [.int (zI ((pHas 0 ((pSk 115 S).1)).2))])
    refine kz_if_eq (tgt := 59) hx hb dX3_orderHere_23 (by decide) (by omega) (fun c23 => ?_) (fun c23 => ?_)
    · skip
      refine kz_iconst hx hb dX3_orderHere_59 ?_
      have e0 : (pOrd) S = ((pHas 0 ((pSk 115 S).1)).1, 0) := by show pOrdP (5 * S 7 18 + 1) S = _; unfold pOrdP; refine Eq.trans (pIf_t c15) ?_; refine Eq.trans (pIf_f c23) ?_; exact rfl
      have e1 : ((pOrd) S).2 = 0 := by rw [e0]
      have e3 : pC (pOrd) S = (pHas 0 ((pSk 115 S).1)).1 := by rw [← (PG.ord).c S, e0]
      exact kz_zNret () hx hb hr hlk hP hD hS dX3_orderHere_60 (by first | decide | exact (PG.t _).r _) (congrArg (fun z : Int => some (Value.int (zI z))) e1) ⟨(kz_r e1 (by omega)), (kz_M e3 hM), (by have z := (PG.ord).m S (by omega) (by omega); rw [(PG.ord).c S] at z; exact z), (by have z := PS.ord S (by omega) (by omega); rw [(PG.ord).c S] at z; exact z)⟩ (congrArg (mW E Ad) e3) hQ (Nat.le_of_ble_eq_true rfl) (Nat.le_of_ble_eq_true rfl)
    · skip
      refine lv_aload_n hx hb dX3_orderHere_26 rfl (lv_at hl 1 rfl) ?_
      have hl70 := hG.lit_tone
      refine va_ldcS hx hb hown (hG.ldc hl70 q2649 (Or.inl ⟨rfl, rfl⟩)) dX3_orderHere_27 ?_
      refine kz_backM (va_runV (As := [.ref ((litA E "SkipSchoolModel" 207))]) (rest := []) ⟨hx, hb, hml, hown, hts⟩ (mX3_isWord l E H.size Ad ((pHas 0 ((pSk 115 S).1)).1) hM (litA E "SkipSchoolModel" 207) (litV E "SkipSchoolModel" 207) [116, 111, 110, 101] (by decide) (by decide) hl70.2.2.1 hl70.2.2.2.1 (show 0 ≤ (((pSk 115 S).1) 7 16) ∧ (((pSk 115 S).1) 7 16) ≤ (S 7 11) ∧ (S 7 11) ≤ 60 by first | omega | exact hI.st _ (by omega) (by omega) | exact hI.rv _ (by omega) (by omega) | exact hI)) (cwV 1 hts (lw_V q2650 q2652 qs64 q83 q2653) rfl rfl rfl (by decide +kernel) ⟨(Nat.le_of_ble_eq_true rfl), (Nat.le_of_ble_eq_true rfl)⟩) (kz_preXV (kz_preVM (wc := mW E Ad ((pHas 0 ((pSk 115 S).1)).1)) (va_recv hK hP (ci := 2) (q0 := 0) rfl rfl) hG hS hAN hP hD kz_nilP kz_nilA) (fun _ _ _ _ h => h) (fun U hU hW => hl70.1.on hS (fun z => absurd (hAN _ z) (Nat.not_le.mpr hl70.2.2.1)) (fun z => absurd (hAN _ z) (Nat.not_le.mpr hl70.2.2.2.1)) hU hW)) rfl rfl hl.1 rfl (lv_room (Nat.le_of_ble_eq_true rfl)) dX3_orderHere_29 ⟨(Nat.le_of_ble_eq_true rfl), (Nat.le_of_ble_eq_true rfl)⟩) hP hD hS hA (fun u H9 locs9 hu hP9 hD9 hS9 hzz hkk => ?_)
      clear hzz hkk hP hD hS H locs u
      revert hS9 hD9 hP9 locs9 H9
      intro H locs hP hD hS
      clear hM
      obtain ⟨r71, hM, p72⟩ := hu
      replace r71 : rI ((pWord ([116, 111, 110, 101]) ((pHas 0 ((pSk 115 S).1)).1)).2) := r71
      replace hM : MOk (pC (pWord ([116, 111, 110, 101])) ((pHas 0 ((pSk 115 S).1)).1)) := hM
      replace p72 : (((pSk 115 S).1) 7 16) ≤ (pC (pWord ([116, 111, 110, 101])) ((pHas 0 ((pSk 115 S).1)).1)) 7 16 ∧ (pC (pWord ([116, 111, 110, 101])) ((pHas 0 ((pSk 115 S).1)).1)) 7 16 ≤ (S 7 11) := p72
      replace hP : va_P (kD E) kcl (mW E Ad (pC (pWord ([116, 111, 110, 101])) ((pHas 0 ((pSk 115 S).1)).1))) H := hP
      replace hD : va_D A (mW E Ad (pC (pWord ([116, 111, 110, 101])) ((pHas 0 ((pSk 115 S).1)).1))) := hD
      show W p l e _ s m args below meth c H locs _ _ Q (F0 m 32 ls [.int (zI ((pWord ([116, 111, 110, 101]) ((pHas 0 ((pSk 115 S).1)).1)).2))])
      refine kz_if_eq (tgt := 59) hx hb dX3_orderHere_32 (by decide) (by omega) (fun c32 => ?_) (fun c32 => ?_)
      · skip
        refine kz_iconst hx hb dX3_orderHere_59 ?_
        have e0 : (pOrd) S = (pC (pWord ([116, 111, 110, 101])) ((pHas 0 ((pSk 115 S).1)).1), 0) := by show pOrdP (5 * S 7 18 + 1) S = _; unfold pOrdP; refine Eq.trans (pIf_t c15) ?_; refine Eq.trans (pIf_t c23) ?_; refine Eq.trans (pIf_fC (PG.word _ (by decide)) c32) ?_; exact rfl
        have e1 : ((pOrd) S).2 = 0 := by rw [e0]
        have e3 : pC (pOrd) S = pC (pWord ([116, 111, 110, 101])) ((pHas 0 ((pSk 115 S).1)).1) := by rw [← (PG.ord).c S, e0]
        exact kz_zNret () hx hb hr hlk hP hD hS dX3_orderHere_60 (by first | decide | exact (PG.t _).r _) (congrArg (fun z : Int => some (Value.int (zI z))) e1) ⟨(kz_r e1 (by omega)), (kz_M e3 hM), (by have z := (PG.ord).m S (by omega) (by omega); rw [(PG.ord).c S] at z; exact z), (by have z := PS.ord S (by omega) (by omega); rw [(PG.ord).c S] at z; exact z)⟩ (congrArg (mW E Ad) e3) hQ (Nat.le_of_ble_eq_true rfl) (Nat.le_of_ble_eq_true rfl)
      · skip
        refine lv_aload_n hx hb dX3_orderHere_35 rfl (lv_at hl 1 rfl) ?_
        refine lv_iload_n hx hb dX3_orderHere_36 rfl (lv_at hl 0 rfl) ?_
        refine kz_iconst hx hb dX3_orderHere_37 ?_
        refine kz_backM (va_runV (As := [.int (zI ((5 * (S 7 18)) + 1)), .int (zI (1))]) (rest := []) ⟨hx, hb, hml, hown, hts⟩ (mX3_figures l E H.size Ad (pC (pWord ([116, 111, 110, 101])) ((pHas 0 ((pSk 115 S).1)).1)) hM ((5 * (S 7 18)) + 1) (by omega) 1 (by omega) (show 0 ≤ ((pC (pWord ([116, 111, 110, 101])) ((pHas 0 ((pSk 115 S).1)).1)) 7 16) ∧ ((pC (pWord ([116, 111, 110, 101])) ((pHas 0 ((pSk 115 S).1)).1)) 7 16) ≤ (S 7 11) ∧ (S 7 11) ≤ 60 by first | omega | exact hI.st _ (by omega) (by omega) | exact hI.rv _ (by omega) (by omega) | exact hI) (show 0 ≤ ((5 * (S 7 18)) + 1) ∧ ((5 * (S 7 18)) + 1) < 155 by first | omega | exact hI.st _ (by omega) (by omega) | exact hI.rv _ (by omega) (by omega) | exact hI) (show 1 ≤ 1 ∧ 1 ≤ 2 by first | omega | exact hI.st _ (by omega) (by omega) | exact hI.rv _ (by omega) (by omega) | exact hI)) (cwV 2 hts (lw_V q2656 q2658 qs65 q83 q2659) rfl rfl rfl (by decide +kernel) ⟨(Nat.le_of_ble_eq_true rfl), (Nat.le_of_ble_eq_true rfl)⟩) (kz_preVM (wc := mW E Ad (pC (pWord ([116, 111, 110, 101])) ((pHas 0 ((pSk 115 S).1)).1))) (va_recv hK hP (ci := 2) (q0 := 0) rfl rfl) hG hS hAN hP hD kz_nilP kz_nilA) rfl rfl hl.1 rfl (lv_room (Nat.le_of_ble_eq_true rfl)) dX3_orderHere_38 ⟨(Nat.le_of_ble_eq_true rfl), (Nat.le_of_ble_eq_true rfl)⟩) hP hD hS hA (fun u H9 locs9 hu hP9 hD9 hS9 hzz hkk => ?_)
        clear hzz hkk hP hD hS H locs u
        revert hS9 hD9 hP9 locs9 H9
        intro H locs hP hD hS
        clear hM
        obtain ⟨r73, hM, p74⟩ := hu
        replace r73 : rI ((pFig ((5 * (S 7 18)) + 1) 1 (pC (pWord ([116, 111, 110, 101])) ((pHas 0 ((pSk 115 S).1)).1))).2) := r73
        replace hM : MOk ((pFig ((5 * (S 7 18)) + 1) 1 (pC (pWord ([116, 111, 110, 101])) ((pHas 0 ((pSk 115 S).1)).1))).1) := hM
        replace p74 : ((pC (pWord ([116, 111, 110, 101])) ((pHas 0 ((pSk 115 S).1)).1)) 7 16) ≤ (pFig ((5 * (S 7 18)) + 1) 1 (pC (pWord ([116, 111, 110, 101])) ((pHas 0 ((pSk 115 S).1)).1))).1 7 16 ∧ (pFig ((5 * (S 7 18)) + 1) 1 (pC (pWord ([116, 111, 110, 101])) ((pHas 0 ((pSk 115 S).1)).1))).1 7 16 ≤ (S 7 11) := p74
        replace hP : va_P (kD E) kcl (mW E Ad ((pFig ((5 * (S 7 18)) + 1) 1 (pC (pWord ([116, 111, 110, 101])) ((pHas 0 ((pSk 115 S).1)).1))).1)) H := hP
        replace hD : va_D A (mW E Ad ((pFig ((5 * (S 7 18)) + 1) 1 (pC (pWord ([116, 111, 110, 101])) ((pHas 0 ((pSk 115 S).1)).1))).1)) := hD
        show W p l e _ s m args below meth c H locs _ _ Q (F0 m 41 ls [.int (zI ((pFig ((5 * (S 7 18)) + 1) 1 (pC (pWord ([116, 111, 110, 101])) ((pHas 0 ((pSk 115 S).1)).1))).2))])
        refine kz_if_eq (tgt := 59) hx hb dX3_orderHere_41 (by decide) (by omega) (fun c41 => ?_) (fun c41 => ?_)
        · skip
          refine kz_iconst hx hb dX3_orderHere_59 ?_
          have e0 : (pOrd) S = ((pFig ((5 * (S 7 18)) + 1) 1 (pC (pWord ([116, 111, 110, 101])) ((pHas 0 ((pSk 115 S).1)).1))).1, 0) := by show pOrdP (5 * S 7 18 + 1) S = _; unfold pOrdP; refine Eq.trans (pIf_t c15) ?_; refine Eq.trans (pIf_t c23) ?_; refine Eq.trans (pIf_tC (PG.word _ (by decide)) c32) ?_; refine Eq.trans (pIf_f c41) ?_; exact rfl
          have e1 : ((pOrd) S).2 = 0 := by rw [e0]
          have e3 : pC (pOrd) S = (pFig ((5 * (S 7 18)) + 1) 1 (pC (pWord ([116, 111, 110, 101])) ((pHas 0 ((pSk 115 S).1)).1))).1 := by rw [← (PG.ord).c S, e0]
          exact kz_zNret () hx hb hr hlk hP hD hS dX3_orderHere_60 (by first | decide | exact (PG.t _).r _) (congrArg (fun z : Int => some (Value.int (zI z))) e1) ⟨(kz_r e1 (by omega)), (kz_M e3 hM), (by have z := (PG.ord).m S (by omega) (by omega); rw [(PG.ord).c S] at z; exact z), (by have z := PS.ord S (by omega) (by omega); rw [(PG.ord).c S] at z; exact z)⟩ (congrArg (mW E Ad) e3) hQ (Nat.le_of_ble_eq_true rfl) (Nat.le_of_ble_eq_true rfl)
        · skip
          refine lv_aload_n hx hb dX3_orderHere_44 rfl (lv_at hl 1 rfl) ?_
          refine lv_iload_n hx hb dX3_orderHere_45 rfl (lv_at hl 0 rfl) ?_
          refine kz_iconst hx hb dX3_orderHere_46 ?_
          refine kz_iadd hx hb dX3_orderHere_47 ?_
          refine kz_iconst hx hb dX3_orderHere_48 ?_
          refine kz_backM (va_runV (As := [.int (zI (((5 * (S 7 18)) + 1) + 1)), .int (zI (1))]) (rest := []) ⟨hx, hb, hml, hown, hts⟩ (mX3_figures l E H.size Ad ((pFig ((5 * (S 7 18)) + 1) 1 (pC (pWord ([116, 111, 110, 101])) ((pHas 0 ((pSk 115 S).1)).1))).1) hM (((5 * (S 7 18)) + 1) + 1) (by omega) 1 (by omega) (show 0 ≤ (((pFig ((5 * (S 7 18)) + 1) 1 (pC (pWord ([116, 111, 110, 101])) ((pHas 0 ((pSk 115 S).1)).1))).1) 7 16) ∧ (((pFig ((5 * (S 7 18)) + 1) 1 (pC (pWord ([116, 111, 110, 101])) ((pHas 0 ((pSk 115 S).1)).1))).1) 7 16) ≤ (S 7 11) ∧ (S 7 11) ≤ 60 by first | omega | exact hI.st _ (by omega) (by omega) | exact hI.rv _ (by omega) (by omega) | exact hI) (show 0 ≤ (((5 * (S 7 18)) + 1) + 1) ∧ (((5 * (S 7 18)) + 1) + 1) < 155 by first | omega | exact hI.st _ (by omega) (by omega) | exact hI.rv _ (by omega) (by omega) | exact hI) (show 1 ≤ 1 ∧ 1 ≤ 2 by first | omega | exact hI.st _ (by omega) (by omega) | exact hI.rv _ (by omega) (by omega) | exact hI)) (cwV 2 hts (lw_V q2656 q2658 qs65 q83 q2659) rfl rfl rfl (by decide +kernel) ⟨(Nat.le_of_ble_eq_true rfl), (Nat.le_of_ble_eq_true rfl)⟩) (kz_preVM (wc := mW E Ad ((pFig ((5 * (S 7 18)) + 1) 1 (pC (pWord ([116, 111, 110, 101])) ((pHas 0 ((pSk 115 S).1)).1))).1)) (va_recv hK hP (ci := 2) (q0 := 0) rfl rfl) hG hS hAN hP hD kz_nilP kz_nilA) rfl rfl hl.1 rfl (lv_room (Nat.le_of_ble_eq_true rfl)) dX3_orderHere_49 ⟨(Nat.le_of_ble_eq_true rfl), (Nat.le_of_ble_eq_true rfl)⟩) hP hD hS hA (fun u H9 locs9 hu hP9 hD9 hS9 hzz hkk => ?_)
          clear hzz hkk hP hD hS H locs u
          revert hS9 hD9 hP9 locs9 H9
          intro H locs hP hD hS
          clear hM
          obtain ⟨r75, hM, p76⟩ := hu
          replace r75 : rI ((pFig (((5 * (S 7 18)) + 1) + 1) 1 ((pFig ((5 * (S 7 18)) + 1) 1 (pC (pWord ([116, 111, 110, 101])) ((pHas 0 ((pSk 115 S).1)).1))).1)).2) := r75
          replace hM : MOk ((pFig (((5 * (S 7 18)) + 1) + 1) 1 ((pFig ((5 * (S 7 18)) + 1) 1 (pC (pWord ([116, 111, 110, 101])) ((pHas 0 ((pSk 115 S).1)).1))).1)).1) := hM
          replace p76 : (((pFig ((5 * (S 7 18)) + 1) 1 (pC (pWord ([116, 111, 110, 101])) ((pHas 0 ((pSk 115 S).1)).1))).1) 7 16) ≤ (pFig (((5 * (S 7 18)) + 1) + 1) 1 ((pFig ((5 * (S 7 18)) + 1) 1 (pC (pWord ([116, 111, 110, 101])) ((pHas 0 ((pSk 115 S).1)).1))).1)).1 7 16 ∧ (pFig (((5 * (S 7 18)) + 1) + 1) 1 ((pFig ((5 * (S 7 18)) + 1) 1 (pC (pWord ([116, 111, 110, 101])) ((pHas 0 ((pSk 115 S).1)).1))).1)).1 7 16 ≤ (S 7 11) := p76
          replace hP : va_P (kD E) kcl (mW E Ad ((pFig (((5 * (S 7 18)) + 1) + 1) 1 ((pFig ((5 * (S 7 18)) + 1) 1 (pC (pWord ([116, 111, 110, 101])) ((pHas 0 ((pSk 115 S).1)).1))).1)).1)) H := hP
          replace hD : va_D A (mW E Ad ((pFig (((5 * (S 7 18)) + 1) + 1) 1 ((pFig ((5 * (S 7 18)) + 1) 1 (pC (pWord ([116, 111, 110, 101])) ((pHas 0 ((pSk 115 S).1)).1))).1)).1)) := hD
          show W p l e _ s m args below meth c H locs _ _ Q (F0 m 52 ls [.int (zI ((pFig (((5 * (S 7 18)) + 1) + 1) 1 ((pFig ((5 * (S 7 18)) + 1) 1 (pC (pWord ([116, 111, 110, 101])) ((pHas 0 ((pSk 115 S).1)).1))).1)).2))])
          refine kz_if_eq (tgt := 59) hx hb dX3_orderHere_52 (by decide) (by omega) (fun c52 => ?_) (fun c52 => ?_)
          · skip
            refine kz_iconst hx hb dX3_orderHere_59 ?_
            have e0 : (pOrd) S = ((pFig (((5 * (S 7 18)) + 1) + 1) 1 ((pFig ((5 * (S 7 18)) + 1) 1 (pC (pWord ([116, 111, 110, 101])) ((pHas 0 ((pSk 115 S).1)).1))).1)).1, 0) := by show pOrdP (5 * S 7 18 + 1) S = _; unfold pOrdP; refine Eq.trans (pIf_t c15) ?_; refine Eq.trans (pIf_t c23) ?_; refine Eq.trans (pIf_tC (PG.word _ (by decide)) c32) ?_; refine Eq.trans (pIf_t c41) ?_; refine Eq.trans (pIf_f c52) ?_; exact rfl
            have e1 : ((pOrd) S).2 = 0 := by rw [e0]
            have e3 : pC (pOrd) S = (pFig (((5 * (S 7 18)) + 1) + 1) 1 ((pFig ((5 * (S 7 18)) + 1) 1 (pC (pWord ([116, 111, 110, 101])) ((pHas 0 ((pSk 115 S).1)).1))).1)).1 := by rw [← (PG.ord).c S, e0]
            exact kz_zNret () hx hb hr hlk hP hD hS dX3_orderHere_60 (by first | decide | exact (PG.t _).r _) (congrArg (fun z : Int => some (Value.int (zI z))) e1) ⟨(kz_r e1 (by omega)), (kz_M e3 hM), (by have z := (PG.ord).m S (by omega) (by omega); rw [(PG.ord).c S] at z; exact z), (by have z := PS.ord S (by omega) (by omega); rw [(PG.ord).c S] at z; exact z)⟩ (congrArg (mW E Ad) e3) hQ (Nat.le_of_ble_eq_true rfl) (Nat.le_of_ble_eq_true rfl)
          · skip
            refine kz_iconst hx hb dX3_orderHere_55 ?_
            refine lv_goto (tgt := 60) hx hb dX3_orderHere_56 (by decide) ?_
            have e0 : (pOrd) S = ((pFig (((5 * (S 7 18)) + 1) + 1) 1 ((pFig ((5 * (S 7 18)) + 1) 1 (pC (pWord ([116, 111, 110, 101])) ((pHas 0 ((pSk 115 S).1)).1))).1)).1, 1) := by show pOrdP (5 * S 7 18 + 1) S = _; unfold pOrdP; refine Eq.trans (pIf_t c15) ?_; refine Eq.trans (pIf_t c23) ?_; refine Eq.trans (pIf_tC (PG.word _ (by decide)) c32) ?_; refine Eq.trans (pIf_t c41) ?_; refine Eq.trans (pIf_t c52) ?_; exact rfl
            have e1 : ((pOrd) S).2 = 1 := by rw [e0]
            have e3 : pC (pOrd) S = (pFig (((5 * (S 7 18)) + 1) + 1) 1 ((pFig ((5 * (S 7 18)) + 1) 1 (pC (pWord ([116, 111, 110, 101])) ((pHas 0 ((pSk 115 S).1)).1))).1)).1 := by rw [← (PG.ord).c S, e0]
            exact kz_zNret () hx hb hr hlk hP hD hS dX3_orderHere_60 (by first | decide | exact (PG.t _).r _) (congrArg (fun z : Int => some (Value.int (zI z))) e1) ⟨(kz_r e1 (by omega)), (kz_M e3 hM), (by have z := (PG.ord).m S (by omega) (by omega); rw [(PG.ord).c S] at z; exact z), (by have z := PS.ord S (by omega) (by omega); rw [(PG.ord).c S] at z; exact z)⟩ (congrArg (mW E Ad) e3) hQ (Nat.le_of_ble_eq_true rfl) (Nat.le_of_ble_eq_true rfl)

set_option maxHeartbeats 4000000 in
set_option maxRecDepth 100000 in
theorem mX3_isText (l : Launch) (E : KE) (sz : Nat) (Ad : Nat → Nat) (S : St) (hM : MOk S) (hln : 0 ≤ S 7 11 ∧ S 7 11 ≤ 60) : Met l yX3_isText (ws_ yX3_isText cX3_isText 1 (some .boolean)) (rmk 7 0 0 149) (va_Pc [.ref (Ad 0)] (kP l E sz (mW E Ad S) [])) (kQ E (fun _ : Unit => rI ((pTxt S).2) ∧ MOk (pX S) ∧ (0 ≤ (pX S) 7 16 ∧ (pX S) 7 16 ≤ S 7 11) ∧ 0 ≤ (pX S) 7 18 ∧ (pX S) 7 18 ≤ 31) (fun _ => some (.int (zI ((pTxt S).2)))) (fun _ => (mW E Ad (pX S))) (va_A (mW E Ad S) sz)) 0 0 (va_A (mW E Ad S) sz) := by
  refine kz_start (Qf := kQ E (fun _ : Unit => rI ((pTxt S).2) ∧ MOk (pX S) ∧ (0 ≤ (pX S) 7 16 ∧ (pX S) 7 16 ≤ S 7 11) ∧ 0 ≤ (pX S) 7 18 ∧ (pX S) 7 18 ≤ 31) (fun _ => some (.int (zI ((pTxt S).2)))) (fun _ => (mW E Ad (pX S)))) (by decide) (Nat.le_of_ble_eq_true rfl) ?_
  intro p e s m args below meth c A ls Q H locs hx hb hr hlk hml hts hown hname hG hK hA hAN hP hD hR hRA hS hQ hl
  replace hown : s.vm.findClass RX3 = some m.cls := hown
  replace hl : lv_has ls 1 [(0, .ref (Ad 0))] := hl
  replace hP : va_P (kD E) kcl (mW E Ad (S)) H := hP
  replace hD : va_D A (mW E Ad (S)) := hD
  refine lv_aload_n hx hb dX3_isText_0 rfl (lv_at hl 0 rfl) ?_
  refine kz_iconst hx hb dX3_isText_1 ?_
  refine va_put (D := kD E) (ci := 2) (fs := mO Ad (S)) (v := .int (zI (0))) (ty := .int) (C := RX3) (T := TX3) (N := 19) hx hb hts in_X3 tyX3 tyX3_ok nmX3 hown hK hP hD hS 0 rfl rfl 16 (by decide) (hts _ q2336) (fun _ h9 => h9) rfl (by decide +kernel) rfl rfl (Nat.le_of_ble_eq_true rfl) dX3_isText_2 (fun H9 locs9 hP9 hD9 hS9 => ?_)
  rw [mW_f16] at hP9 hD9
  clear hP hD hS H locs
  revert hS9 hD9 hP9 locs9 H9
  intro H locs hP hD hS
  replace hP : va_P (kD E) kcl (mW E Ad (put S 7 16 0)) H := hP
  replace hD : va_D A (mW E Ad (put S 7 16 0)) := hD
  replace hM : MOk (put S 7 16 0) := hM.put 7 16 (by omega)
  refine lv_aload_n hx hb dX3_isText_5 rfl (lv_at hl 0 rfl) ?_
  refine kz_iconst hx hb dX3_isText_6 ?_
  refine va_put (D := kD E) (ci := 2) (fs := mO Ad (put S 7 16 0)) (v := .int (zI (0))) (ty := .int) (C := RX3) (T := TX3) (N := 19) hx hb hts in_X3 tyX3 tyX3_ok nmX3 hown hK hP hD hS 0 rfl rfl 18 (by decide) (hts _ q2338) (fun _ h9 => h9) rfl (by decide +kernel) rfl rfl (Nat.le_of_ble_eq_true rfl) dX3_isText_7 (fun H9 locs9 hP9 hD9 hS9 => ?_)
  rw [mW_f18] at hP9 hD9
  clear hP hD hS H locs
  revert hS9 hD9 hP9 locs9 H9
  intro H locs hP hD hS
  replace hP : va_P (kD E) kcl (mW E Ad (put (put S 7 16 0) 7 18 0)) H := hP
  replace hD : va_D A (mW E Ad (put (put S 7 16 0) 7 18 0)) := hD
  replace hM : MOk (put (put S 7 16 0) 7 18 0) := hM.put 7 18 (by omega)
  have L10_1 : ∀ (fu : Nat) (S1 : St) (H : Heap) (locs : List Loc) (ls : Array Slot), (0 ≤ S1 7 18 ∧ 2 * S1 7 18 ≤ S1 7 16 ∧ S1 7 16 ≤ S 7 11) → (S1 7 11 = S 7 11) → (∃ n : Nat, pTxt S = pTxtN n S1 ∧ 61 - S1 7 16 ≤ n) → MOk S1 → (61 - S1 7 16 : Int).toNat < fu → va_P (kD E) kcl (mW E Ad (S1)) H → va_D A (mW E Ad (S1)) → va_S A s.heap H locs → lv_has ls 1 [(0, .ref (Ad 0))] → W p l e (rmk 7 0 0 149) s m args below meth c H locs 0 0 Q (F0 m 10 ls []) := by
    clear hl hS hD hP ls locs H hM
    intro fu
    induction fu with
    | zero => intro S1 H locs ls hb1 h11 hT hM hf; exact absurd hf (Nat.not_lt_zero _)
    | succ fu ih10 =>
      intro S1 H locs ls hb1 h11 hT hM hf hP hD hS hl
      obtain ⟨n, hT, hn⟩ := hT
      obtain ⟨n, rfl⟩ : ∃ k, n = k + 1 := ⟨n - 1, by omega⟩
      refine lv_aload_n hx hb dX3_isText_10 rfl (lv_at hl 0 rfl) ?_
      refine kz_backM (va_runV (As := []) (rest := []) ⟨hx, hb, hml, hown, hts⟩ (mX3_orderHere l E H.size Ad S1 hM (show 0 ≤ (S1 7 16) ∧ (S1 7 16) ≤ (S1 7 11) ∧ (S1 7 11) ≤ 60 by first | omega | exact hI.st _ (by omega) (by omega) | exact hI.rv _ (by omega) (by omega) | exact hI) (show 0 ≤ (S1 7 18) ∧ (S1 7 18) ≤ 30 by first | omega | exact hI.st _ (by omega) (by omega) | exact hI.rv _ (by omega) (by omega) | exact hI)) (cwV 0 hts (lw_V q2633 q2635 qs60 q83 q2636) rfl rfl rfl (by decide +kernel) ⟨(Nat.le_of_ble_eq_true rfl), (Nat.le_of_ble_eq_true rfl)⟩) (kz_preVM (wc := mW E Ad S1) (va_recv hK hP (ci := 2) (q0 := 0) rfl rfl) hG hS hAN hP hD kz_nilP kz_nilA) rfl rfl hl.1 rfl (lv_room (Nat.le_of_ble_eq_true rfl)) dX3_isText_11 ⟨(Nat.le_of_ble_eq_true rfl), (Nat.le_of_ble_eq_true rfl)⟩) hP hD hS hA (fun u H9 locs9 hu hP9 hD9 hS9 hzz hkk => ?_)
      clear hzz hkk hP hD hS H locs u
      revert hS9 hD9 hP9 locs9 H9
      intro H locs hP hD hS
      clear hM
      obtain ⟨r2, hM, p3, p4⟩ := hu
      replace r2 : rI ((pOrd S1).2) := r2
      replace hM : MOk (pC (pOrd) S1) := hM
      replace p3 : (S1 7 16) ≤ (pC (pOrd) S1) 7 16 ∧ (pC (pOrd) S1) 7 16 ≤ (S1 7 11) := p3
      replace p4 : ((pOrd S1).2 = 0 ∨ (S1 7 16) + 1 ≤ (pC (pOrd) S1) 7 16) := p4
      replace hP : va_P (kD E) kcl (mW E Ad (pC (pOrd) S1)) H := hP
      replace hD : va_D A (mW E Ad (pC (pOrd) S1)) := hD
      show W p l e _ s m args below meth c H locs _ _ Q (F0 m 14 ls [.int (zI ((pOrd S1).2))])
      refine kz_if_ne (tgt := 19) hx hb dX3_isText_14 (by decide) (by omega) (fun c14 => ?_) (fun c14 => ?_)
      · skip
        refine lv_aload_n hx hb dX3_isText_19 rfl (lv_at hl 0 rfl) ?_
        refine lv_dup hx hb dX3_isText_20 rfl ?_
        have r5 : rI (S1 7 18) := hM 7 18
        refine va_get (D := kD E) (ci := 2) (fs := mO Ad (pC (pOrd) S1)) (v := .int (zI (S1 7 18))) (C := RX3) (T := TX3) (N := 19) hx hb hts in_X3 hown hK hP 0 rfl rfl 18 (by decide) (hts _ q2338) (fun _ h9 => h9) rfl dX3_isText_21 ?_
        refine kz_iconst hx hb dX3_isText_24 ?_
        refine kz_iadd hx hb dX3_isText_25 ?_
        refine va_put (D := kD E) (ci := 2) (fs := mO Ad (pC (pOrd) S1)) (v := .int (zI ((S1 7 18) + 1))) (ty := .int) (C := RX3) (T := TX3) (N := 19) hx hb hts in_X3 tyX3 tyX3_ok nmX3 hown hK hP hD hS 0 rfl rfl 18 (by decide) (hts _ q2338) (fun _ h9 => h9) rfl (by decide +kernel) rfl rfl (Nat.le_of_ble_eq_true rfl) dX3_isText_26 (fun H9 locs9 hP9 hD9 hS9 => ?_)
        rw [mW_f18] at hP9 hD9
        clear hP hD hS H locs
        revert hS9 hD9 hP9 locs9 H9
        intro H locs hP hD hS
        replace hP : va_P (kD E) kcl (mW E Ad (put (pC (pOrd) S1) 7 18 ((S1 7 18) + 1))) H := hP
        replace hD : va_D A (mW E Ad (put (pC (pOrd) S1) 7 18 ((S1 7 18) + 1))) := hD
        replace hM : MOk (put (pC (pOrd) S1) 7 18 ((S1 7 18) + 1)) := hM.put 7 18 (by omega)
        refine lv_aload_n hx hb dX3_isText_29 rfl (lv_at hl 0 rfl) ?_
        refine kz_bipush hx hb dX3_isText_30 (by decide) ?_
        refine kz_backM (va_runV (As := [.int (zI (59))]) (rest := []) ⟨hx, hb, hml, hown, hts⟩ (mX3_skipsOver l E H.size Ad (put (pC (pOrd) S1) 7 18 ((S1 7 18) + 1)) hM 59 (by omega) (show 0 ≤ ((pC (pOrd) S1) 7 16) ∧ ((pC (pOrd) S1) 7 16) ≤ (S1 7 11) ∧ (S1 7 11) ≤ 60 by first | omega | exact hI.st _ (by omega) (by omega) | exact hI.rv _ (by omega) (by omega) | exact hI) (show 0 ≤ 59 by first | omega | exact hI.st _ (by omega) (by omega) | exact hI.rv _ (by omega) (by omega) | exact hI)) (cwV 1 hts (lw_V q2637 q2639 qs61 q83 q2640) rfl rfl rfl (by decide +kernel) ⟨(Nat.le_of_ble_eq_true rfl), (Nat.le_of_ble_eq_true rfl)⟩) (kz_preVM (wc := mW E Ad (put (pC (pOrd) S1) 7 18 ((S1 7 18) + 1))) (va_recv hK hP (ci := 2) (q0 := 0) rfl rfl) hG hS hAN hP hD kz_nilP kz_nilA) rfl rfl hl.1 rfl (lv_room (Nat.le_of_ble_eq_true rfl)) dX3_isText_32 ⟨(Nat.le_of_ble_eq_true rfl), (Nat.le_of_ble_eq_true rfl)⟩) hP hD hS hA (fun u H9 locs9 hu hP9 hD9 hS9 hzz hkk => ?_)
        clear hzz hkk hP hD hS H locs u
        revert hS9 hD9 hP9 locs9 H9
        intro H locs hP hD hS
        clear hM
        obtain ⟨r6, hM, p7, p8⟩ := hu
        replace r6 : rI ((pSk 59 (put (pC (pOrd) S1) 7 18 ((S1 7 18) + 1))).2) := r6
        replace hM : MOk ((pSk 59 (put (pC (pOrd) S1) 7 18 ((S1 7 18) + 1))).1) := hM
        replace p7 : ((pC (pOrd) S1) 7 16) ≤ (pSk 59 (put (pC (pOrd) S1) 7 18 ((S1 7 18) + 1))).1 7 16 ∧ (pSk 59 (put (pC (pOrd) S1) 7 18 ((S1 7 18) + 1))).1 7 16 ≤ (S1 7 11) := p7
        replace p8 : ((pSk 59 (put (pC (pOrd) S1) 7 18 ((S1 7 18) + 1))).2 = 0 ∨ ((pC (pOrd) S1) 7 16) + 1 ≤ (pSk 59 (put (pC (pOrd) S1) 7 18 ((S1 7 18) + 1))).1 7 16) := p8
        replace hP : va_P (kD E) kcl (mW E Ad ((pSk 59 (put (pC (pOrd) S1) 7 18 ((S1 7 18) + 1))).1)) H := hP
        replace hD : va_D A (mW E Ad ((pSk 59 (put (pC (pOrd) S1) 7 18 ((S1 7 18) + 1))).1)) := hD
        show W p l e _ s m args below meth c H locs _ _ Q (F0 m 35 ls [.int (zI ((pSk 59 (put (pC (pOrd) S1) 7 18 ((S1 7 18) + 1))).2))])
        have e18 : ((pSk 59 (put (pC (pOrd) S1) 7 18 ((S1 7 18) + 1))).1) 7 18 = S1 7 18 + 1 := rfl
        refine kz_if_ne (tgt := 10) hx hb dX3_isText_35 (by decide) (by omega) (fun c35 => ?_) (fun c35 => ?_)
        · skip
          exact ih10 ((pSk 59 (put (pC (pOrd) S1) 7 18 ((S1 7 18) + 1))).1) _ _ _ (by omega) (by exact h11) (by refine ⟨n, ?_, by omega⟩; rw [hT, pTxtN_s, if_neg (by assumption), PG.ord.c S1, if_neg (by assumption)]) hM (by omega) hP hD hS hl
        · skip
          rw [pTxtN_s, if_neg (by assumption), PG.ord.c S1, if_pos (by assumption)] at hT
          refine lv_aload_n hx hb dX3_isText_38 rfl (lv_at hl 0 rfl) ?_
          have r9 : rI (((pSk 59 (put (pC (pOrd) S1) 7 18 ((S1 7 18) + 1))).1) 7 16) := hM 7 16
          refine va_get (D := kD E) (ci := 2) (fs := mO Ad ((pSk 59 (put (pC (pOrd) S1) 7 18 ((S1 7 18) + 1))).1)) (v := .int (zI (((pSk 59 (put (pC (pOrd) S1) 7 18 ((S1 7 18) + 1))).1) 7 16))) (C := RX3) (T := TX3) (N := 19) hx hb hts in_X3 hown hK hP 0 rfl rfl 16 (by decide) (hts _ q2336) (fun _ h9 => h9) rfl dX3_isText_39 ?_
          refine lv_aload_n hx hb dX3_isText_42 rfl (lv_at hl 0 rfl) ?_
          have r10 : rI (S1 7 11) := hM 7 11
          refine va_get (D := kD E) (ci := 2) (fs := mO Ad ((pSk 59 (put (pC (pOrd) S1) 7 18 ((S1 7 18) + 1))).1)) (v := .int (zI (S1 7 11))) (C := RX3) (T := TX3) (N := 19) hx hb hts in_X3 hown hK hP 0 rfl rfl 11 (by decide) (hts _ q2331) (fun _ h9 => h9) rfl dX3_isText_43 ?_
          refine kz_icmp_ne (tgt := 53) hx hb dX3_isText_46 (by decide) (by omega) (by omega) (fun c46 => ?_) (fun c46 => ?_)
          · skip
            rw [b2_f (by omega)] at hT
            refine kz_iconst hx hb dX3_isText_53 ?_
            have e0 : pTxt S = ((pSk 59 (put (pC (pOrd) S1) 7 18 ((S1 7 18) + 1))).1, 0) := by first | (rw [hT]; done) | (rw [hT]; rfl)
            have e1 : (pTxt S).2 = 0 := by rw [e0]
            have e3 : pX S = (pSk 59 (put (pC (pOrd) S1) 7 18 ((S1 7 18) + 1))).1 := by rw [← pX_e S, e0]
            exact kz_zNret () hx hb hr hlk hP hD hS dX3_isText_54 (by decide) (congrArg (fun z : Int => some (Value.int (zI z))) e1) ⟨(kz_r e1 (by omega)), (kz_M e3 hM), (by rw [e3]; omega), (by rw [e3]; omega)⟩ (congrArg (mW E Ad) e3) hQ (Nat.le_of_ble_eq_true rfl) (Nat.le_of_ble_eq_true rfl)
          · skip
            rw [b2_t (by omega)] at hT
            refine kz_iconst hx hb dX3_isText_49 ?_
            refine lv_goto (tgt := 54) hx hb dX3_isText_50 (by decide) ?_
            have e0 : pTxt S = ((pSk 59 (put (pC (pOrd) S1) 7 18 ((S1 7 18) + 1))).1, 1) := by first | (rw [hT]; done) | (rw [hT]; rfl)
            have e1 : (pTxt S).2 = 1 := by rw [e0]
            have e3 : pX S = (pSk 59 (put (pC (pOrd) S1) 7 18 ((S1 7 18) + 1))).1 := by rw [← pX_e S, e0]
            exact kz_zNret () hx hb hr hlk hP hD hS dX3_isText_54 (by decide) (congrArg (fun z : Int => some (Value.int (zI z))) e1) ⟨(kz_r e1 (by omega)), (kz_M e3 hM), (by rw [e3]; omega), (by rw [e3]; omega)⟩ (congrArg (mW E Ad) e3) hQ (Nat.le_of_ble_eq_true rfl) (Nat.le_of_ble_eq_true rfl)
      · skip
        have e17 : (pC (pOrd) S1) 7 18 = S1 7 18 := rfl
        rw [pTxtN_s, if_pos (by assumption), PG.ord.c S1] at hT
        refine kz_iconst hx hb dX3_isText_17 ?_
        have e0 : pTxt S = (pC (pOrd) S1, 0) := by first | (rw [hT]; done) | (rw [hT]; rfl)
        have e1 : (pTxt S).2 = 0 := by rw [e0]
        have e3 : pX S = pC (pOrd) S1 := by rw [← pX_e S, e0]
        exact kz_zNret () hx hb hr hlk hP hD hS dX3_isText_18 (by decide) (congrArg (fun z : Int => some (Value.int (zI z))) e1) ⟨(kz_r e1 (by omega)), (kz_M e3 hM), (by rw [e3]; omega), (by rw [e3]; omega)⟩ (congrArg (mW E Ad) e3) hQ (Nat.le_of_ble_eq_true rfl) (Nat.le_of_ble_eq_true rfl)
  exact L10_1 ((61 - (put (put S 7 16 0) 7 18 0) 7 16 : Int).toNat + 1) (put (put S 7 16 0) 7 18 0) _ _ _ (by show 0 ≤ (0 : Int) ∧ 2 * (0 : Int) ≤ 0 ∧ (0 : Int) ≤ S 7 11; omega) (by rfl) (by exact ⟨61, rfl, by show (61 : Int) - 0 ≤ 61; omega⟩) hM (Nat.lt_succ_self _) hP hD hS hl

