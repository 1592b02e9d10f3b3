/-! THE MODEL, on -/
set_option maxHeartbeats 4000000 in
set_option maxRecDepth 100000 in
theorem mX3_skips (l : Launch) (E : KE) (sz : Nat) (Ad : Nat → Nat) (S : St) (hM : MOk S) (B : Int) (k : Int) (rk : rI k) (river : Int) (rriver : rI river) (a : Int) (ra : rI a) (sp : Int) (rsp : rI sp) (again : Prop) [Decidable again] (hI : GI B (S 0)) : Met l yX3_skips (ws_ yX3_skips cX3_skips 6 (some .int)) (rmk 4 0 0 93) (va_Pc [.ref (Ad 0), .int (zI k), .int (zI river), .int (zI a), .int (zI sp), .int (zI (b2 again))] (kP l E sz (mW E Ad S) [])) (kQ E (fun _ : Unit => rI ((xSkips S k river a sp).2) ∧ MOk ((xSkips S k river a sp).1)) (fun _ => some (.int (zI ((xSkips S k river a sp).2)))) (fun _ => (mW E Ad ((xSkips S k river a sp).1))) (va_A (mW E Ad S) sz)) 0 0 (va_A (mW E Ad S) sz) := by
  refine kz_start (Qf := kQ E (fun _ : Unit => rI ((xSkips S k river a sp).2) ∧ MOk ((xSkips S k river a sp).1)) (fun _ => some (.int (zI ((xSkips S k river a sp).2)))) (fun _ => (mW E Ad ((xSkips S k river a sp).1)))) (by decide) (Nat.le_of_ble_eq_true rfl) ?_
  intro p e s m args below meth c A ls Q H locs hx hb hr hlk hml hts hown hname hG hK hA hAN hP hD hR hRA hS hQ hl
  replace hown : s.vm.findClass RX3 = some m.cls := hown
  replace hl : lv_has ls 6 [(0, .ref (Ad 0)), (1, .int (zI (k))), (2, .int (zI (river))), (3, .int (zI (a))), (4, .int (zI (sp))), (5, .int (zI (b2 (again))))] := hl
  have g0 := hI.n
  have g1 := hI.m
  have g2 := hI.ct
  replace hP : va_P (kD E) kcl (mW E Ad (S)) H := hP
  replace hD : va_D A (mW E Ad (S)) := hD
  refine lv_aload_n hx hb dX3_skips_0 rfl (lv_at hl 0 rfl) ?_
  refine lv_iload_n hx hb dX3_skips_1 rfl (lv_at hl 1 rfl) ?_
  refine lv_iload_n hx hb dX3_skips_2 rfl (lv_at hl 2 rfl) ?_
  refine lv_iload_n hx hb dX3_skips_3 rfl (lv_at hl 3 rfl) ?_
  refine lv_iload hx hb dX3_skips_4 (lv_at hl 4 rfl) ?_
  refine kz_backM (va_runV (As := [.int (zI (k)), .int (zI (river)), .int (zI (a)), .int (zI (sp))]) (rest := []) ⟨hx, hb, hml, hown, hts⟩ (mX3_isWrong l E H.size Ad S hM k (by omega) river (by omega) a (by omega) sp (by omega) (show 0 ≤ (S 0 0) ∧ (S 0 0) ≤ 10 by first | omega | exact hI.st _ (by omega) (by omega) | exact hI.rv _ (by omega) (by omega) | exact hI) (show 0 ≤ (S 0 1) ∧ (S 0 1) ≤ 4 by first | omega | exact hI.st _ (by omega) (by omega) | exact hI.rv _ (by omega) (by omega) | exact hI)) (cwV 4 hts (lw_V q2507 q2509 qs51 q83 q2510) rfl rfl rfl (by decide +kernel) ⟨(Nat.le_of_ble_eq_true rfl), (Nat.le_of_ble_eq_true rfl)⟩) (kz_preVM (wc := mW E Ad S) (va_recv hK hP (ci := 2) (q0 := 0) rfl rfl) hG hS hAN hP hD kz_nilP kz_nilA) rfl rfl hl.1 rfl (lv_room (Nat.le_of_ble_eq_true rfl)) dX3_skips_6 ⟨(Nat.le_of_ble_eq_true rfl), (Nat.le_of_ble_eq_true rfl)⟩) hP hD hS hA (fun u H9 locs9 hu hP9 hD9 hS9 hzz hkk => ?_)
  clear hzz hkk hP hD hS H locs u
  revert hS9 hD9 hP9 locs9 H9
  intro H locs hP hD hS
  replace hM : MOk (put S 7 7 (throwCode (S 0) k river a sp)) := hu
  clear hu
  replace hP : va_P (kD E) kcl (mW E Ad (put S 7 7 (throwCode (S 0) k river a sp))) H := hP
  replace hD : va_D A (mW E Ad (put S 7 7 (throwCode (S 0) k river a sp))) := hD
  show W p l e _ s m args below meth c H locs _ _ Q (F0 m 9 ls [.int (zI (b2 (0 < throwCode (S 0) k river a sp)))])
  refine kz_if0B (tgt := 16) hx hb dX3_skips_9 (by decide) (fun c9 => ?_) (fun c9 => ?_)
  · skip
    have q0 : throwCode (S 0) k river a sp = 0 := by have := throwCode_b (S 0) k river a sp; omega
    have q1 := throwCode_0 q0
    have hsb := hI.st k (by omega) (by omega)
    have hrb := hI.rv river (by omega) (by omega)
    have hsx := hI.sx k (by omega) (by omega)
    have hrx := hI.rx river (by omega) (by omega)
    have hbk := hI.bk river 0 (by omega) (by omega) (by omega) (by omega)
    refine lv_aload_n hx hb dX3_skips_16 rfl (lv_at hl 0 rfl) ?_
    refine lv_iload_n hx hb dX3_skips_17 rfl (lv_at hl 1 rfl) ?_
    refine lv_iload_n hx hb dX3_skips_18 rfl (lv_at hl 2 rfl) ?_
    refine lv_iload_n hx hb dX3_skips_19 rfl (lv_at hl 3 rfl) ?_
    refine lv_iload hx hb dX3_skips_20 (lv_at hl 4 rfl) ?_
    refine kz_backM (va_runV (As := [.int (zI (k)), .int (zI (river)), .int (zI (a)), .int (zI (sp))]) (rest := []) ⟨hx, hb, hml, hown, hts⟩ (mX3_skipsOf l E H.size Ad (put S 7 7 (throwCode (S 0) k river a sp)) hM k (by omega) river (by omega) a (by omega) sp (by omega) (show 0 ≤ k ∧ k < 10 by first | omega | exact hI.st _ (by omega) (by omega) | exact hI.rv _ (by omega) (by omega) | exact hI) (show 0 ≤ river ∧ river < 4 by first | omega | exact hI.st _ (by omega) (by omega) | exact hI.rv _ (by omega) (by omega) | exact hI) (show SB (S 0) k by first | omega | exact hI.st _ (by omega) (by omega) | exact hI.rv _ (by omega) (by omega) | exact hI) (show RB (S 0) river by first | omega | exact hI.st _ (by omega) (by omega) | exact hI.rv _ (by omega) (by omega) | exact hI) (show 0 ≤ a ∧ a ≤ 90 by first | omega | exact hI.st _ (by omega) (by omega) | exact hI.rv _ (by omega) (by omega) | exact hI) (show 1 ≤ sp ∧ sp ≤ 20 by first | omega | exact hI.st _ (by omega) (by omega) | exact hI.rv _ (by omega) (by omega) | exact hI)) (cwV 4 hts (lw_V q2514 q2516 qs52 q83 q2517) rfl rfl rfl (by decide +kernel) ⟨(Nat.le_of_ble_eq_true rfl), (Nat.le_of_ble_eq_true rfl)⟩) (kz_preVM (wc := mW E Ad (put S 7 7 (throwCode (S 0) k river a sp))) (va_recv hK hP (ci := 2) (q0 := 0) rfl rfl) hG hS hAN hP hD kz_nilP kz_nilA) rfl rfl hl.1 rfl (lv_room (Nat.le_of_ble_eq_true rfl)) dX3_skips_22 ⟨(Nat.le_of_ble_eq_true rfl), (Nat.le_of_ble_eq_true rfl)⟩) hP hD hS hA (fun u H9 locs9 hu hP9 hD9 hS9 hzz hkk => ?_)
    clear hzz hkk hP hD hS H locs u
    revert hS9 hD9 hP9 locs9 H9
    intro H locs hP hD hS
    obtain ⟨r1, p2⟩ := hu
    replace r1 : rI (skipsG (S 0) k river a sp) := r1
    replace p2 : 0 ≤ skipsG (S 0) k river a sp ∧ skipsG (S 0) k river a sp ≤ 240 := p2
    replace hP : va_P (kD E) kcl (mW E Ad (put S 7 7 (throwCode (S 0) k river a sp))) H := hP
    replace hD : va_D A (mW E Ad (put S 7 7 (throwCode (S 0) k river a sp))) := hD
    show W p l e _ s m args below meth c H locs _ _ Q (F0 m 25 ls [.int (zI (skipsG (S 0) k river a sp))])
    have e0 : xSkips S k river a sp = (put S 7 7 (throwCode (S 0) k river a sp), skipsG (S 0) k river a sp) := by unfold xSkips; refine congrArg (Prod.mk _) ?_; (repeat (first | refine Eq.trans (if_pos (by omega)) ?_ | refine Eq.trans (if_neg (by omega)) ?_)); all_goals rfl
    have e1 : (xSkips S k river a sp).2 = skipsG (S 0) k river a sp := by rw [e0]
    have e3 : (xSkips S k river a sp).1 = put S 7 7 (throwCode (S 0) k river a sp) := by rw [e0]
    exact kz_iret () hx hb hr hlk hP hD hS dX3_skips_25 (congrArg (fun z : Int => some (Value.int (zI z))) e1) ⟨(kz_r e1 (by omega)), (kz_M e3 hM)⟩ (congrArg (mW E Ad) e3) hQ (Nat.le_of_ble_eq_true rfl) (Nat.le_of_ble_eq_true rfl)
  · skip
    refine kz_iconst hx hb dX3_skips_12 ?_
    refine lv_goto (tgt := 25) hx hb dX3_skips_13 (by decide) ?_
    have e0 : xSkips S k river a sp = (put S 7 7 (throwCode (S 0) k river a sp), 0) := by unfold xSkips; refine congrArg (Prod.mk _) ?_; (repeat (first | refine Eq.trans (if_pos (by omega)) ?_ | refine Eq.trans (if_neg (by omega)) ?_)); all_goals rfl
    have e1 : (xSkips S k river a sp).2 = 0 := by rw [e0]
    have e3 : (xSkips S k river a sp).1 = put S 7 7 (throwCode (S 0) k river a sp) := by rw [e0]
    exact kz_iret () hx hb hr hlk hP hD hS dX3_skips_25 (congrArg (fun z : Int => some (Value.int (zI z))) e1) ⟨(kz_r e1 (by omega)), (kz_M e3 hM)⟩ (congrArg (mW E Ad) e3) hQ (Nat.le_of_ble_eq_true rfl) (Nat.le_of_ble_eq_true rfl)

set_option maxHeartbeats 4000000 in
set_option maxRecDepth 100000 in
theorem mX3_way (l : Launch) (E : KE) (sz : Nat) (Ad : Nat → Nat) (S : St) (hM : MOk S) (B : Int) (k : Int) (rk : rI k) (river : Int) (rriver : rI river) (a : Int) (ra : rI a) (sp : Int) (rsp : rI sp) (again : Prop) [Decidable again] (hI : GI B (S 0)) : Met l yX3_way (ws_ yX3_way cX3_way 6 (some .int)) (rmk 4 0 0 93) (va_Pc [.ref (Ad 0), .int (zI k), .int (zI river), .int (zI a), .int (zI sp), .int (zI (b2 again))] (kP l E sz (mW E Ad S) [])) (kQ E (fun _ : Unit => rI ((xWay S k river a sp).2) ∧ MOk ((xWay S k river a sp).1)) (fun _ => some (.int (zI ((xWay S k river a sp).2)))) (fun _ => (mW E Ad ((xWay S k river a sp).1))) (va_A (mW E Ad S) sz)) 0 0 (va_A (mW E Ad S) sz) := by
  refine kz_start (Qf := kQ E (fun _ : Unit => rI ((xWay S k river a sp).2) ∧ MOk ((xWay S k river a sp).1)) (fun _ => some (.int (zI ((xWay S k river a sp).2)))) (fun _ => (mW E Ad ((xWay S k river a sp).1)))) (by decide) (Nat.le_of_ble_eq_true rfl) ?_
  intro p e s m args below meth c A ls Q H locs hx hb hr hlk hml hts hown hname hG hK hA hAN hP hD hR hRA hS hQ hl
  replace hown : s.vm.findClass RX3 = some m.cls := hown
  replace hl : lv_has ls 6 [(0, .ref (Ad 0)), (1, .int (zI (k))), (2, .int (zI (river))), (3, .int (zI (a))), (4, .int (zI (sp))), (5, .int (zI (b2 (again))))] := hl
  have g0 := hI.n
  have g1 := hI.m
  have g2 := hI.ct
  replace hP : va_P (kD E) kcl (mW E Ad (S)) H := hP
  replace hD : va_D A (mW E Ad (S)) := hD
  refine lv_aload_n hx hb dX3_way_0 rfl (lv_at hl 0 rfl) ?_
  refine lv_iload_n hx hb dX3_way_1 rfl (lv_at hl 1 rfl) ?_
  refine lv_iload_n hx hb dX3_way_2 rfl (lv_at hl 2 rfl) ?_
  refine lv_iload_n hx hb dX3_way_3 rfl (lv_at hl 3 rfl) ?_
  refine lv_iload hx hb dX3_way_4 (lv_at hl 4 rfl) ?_
  refine kz_backM (va_runV (As := [.int (zI (k)), .int (zI (river)), .int (zI (a)), .int (zI (sp))]) (rest := []) ⟨hx, hb, hml, hown, hts⟩ (mX3_isWrong l E H.size Ad S hM k (by omega) river (by omega) a (by omega) sp (by omega) (show 0 ≤ (S 0 0) ∧ (S 0 0) ≤ 10 by first | omega | exact hI.st _ (by omega) (by omega) | exact hI.rv _ (by omega) (by omega) | exact hI) (show 0 ≤ (S 0 1) ∧ (S 0 1) ≤ 4 by first | omega | exact hI.st _ (by omega) (by omega) | exact hI.rv _ (by omega) (by omega) | exact hI)) (cwV 4 hts (lw_V q2507 q2509 qs51 q83 q2510) rfl rfl rfl (by decide +kernel) ⟨(Nat.le_of_ble_eq_true rfl), (Nat.le_of_ble_eq_true rfl)⟩) (kz_preVM (wc := mW E Ad S) (va_recv hK hP (ci := 2) (q0 := 0) rfl rfl) hG hS hAN hP hD kz_nilP kz_nilA) rfl rfl hl.1 rfl (lv_room (Nat.le_of_ble_eq_true rfl)) dX3_way_6 ⟨(Nat.le_of_ble_eq_true rfl), (Nat.le_of_ble_eq_true rfl)⟩) hP hD hS hA (fun u H9 locs9 hu hP9 hD9 hS9 hzz hkk => ?_)
  clear hzz hkk hP hD hS H locs u
  revert hS9 hD9 hP9 locs9 H9
  intro H locs hP hD hS
  replace hM : MOk (put S 7 7 (throwCode (S 0) k river a sp)) := hu
  clear hu
  replace hP : va_P (kD E) kcl (mW E Ad (put S 7 7 (throwCode (S 0) k river a sp))) H := hP
  replace hD : va_D A (mW E Ad (put S 7 7 (throwCode (S 0) k river a sp))) := hD
  show W p l e _ s m args below meth c H locs _ _ Q (F0 m 9 ls [.int (zI (b2 (0 < throwCode (S 0) k river a sp)))])
  refine kz_if0B (tgt := 16) hx hb dX3_way_9 (by decide) (fun c9 => ?_) (fun c9 => ?_)
  · skip
    have q0 : throwCode (S 0) k river a sp = 0 := by have := throwCode_b (S 0) k river a sp; omega
    have q1 := throwCode_0 q0
    have hsb := hI.st k (by omega) (by omega)
    have hrb := hI.rv river (by omega) (by omega)
    have hsx := hI.sx k (by omega) (by omega)
    have hrx := hI.rx river (by omega) (by omega)
    have hbk := hI.bk river 0 (by omega) (by omega) (by omega) (by omega)
    refine lv_aload_n hx hb dX3_way_16 rfl (lv_at hl 0 rfl) ?_
    refine lv_iload_n hx hb dX3_way_17 rfl (lv_at hl 1 rfl) ?_
    refine lv_iload_n hx hb dX3_way_18 rfl (lv_at hl 2 rfl) ?_
    refine lv_iload_n hx hb dX3_way_19 rfl (lv_at hl 3 rfl) ?_
    refine lv_iload hx hb dX3_way_20 (lv_at hl 4 rfl) ?_
    refine kz_backM (va_runV (As := [.int (zI (k)), .int (zI (river)), .int (zI (a)), .int (zI (sp))]) (rest := []) ⟨hx, hb, hml, hown, hts⟩ (mX3_wayOf l E H.size Ad (put S 7 7 (throwCode (S 0) k river a sp)) hM k (by omega) river (by omega) a (by omega) sp (by omega) (show 0 ≤ k ∧ k < 10 by first | omega | exact hI.st _ (by omega) (by omega) | exact hI.rv _ (by omega) (by omega) | exact hI) (show 0 ≤ river ∧ river < 4 by first | omega | exact hI.st _ (by omega) (by omega) | exact hI.rv _ (by omega) (by omega) | exact hI) (show SB (S 0) k by first | omega | exact hI.st _ (by omega) (by omega) | exact hI.rv _ (by omega) (by omega) | exact hI) (show RB (S 0) river by first | omega | exact hI.st _ (by omega) (by omega) | exact hI.rv _ (by omega) (by omega) | exact hI) (show 0 ≤ a ∧ a ≤ 90 by first | omega | exact hI.st _ (by omega) (by omega) | exact hI.rv _ (by omega) (by omega) | exact hI) (show 1 ≤ sp ∧ sp ≤ 20 by first | omega | exact hI.st _ (by omega) (by omega) | exact hI.rv _ (by omega) (by omega) | exact hI)) (cwV 4 hts (lw_V q2533 q2535 qs55 q83 q2536) rfl rfl rfl (by decide +kernel) ⟨(Nat.le_of_ble_eq_true rfl), (Nat.le_of_ble_eq_true rfl)⟩) (kz_preVM (wc := mW E Ad (put S 7 7 (throwCode (S 0) k river a sp))) (va_recv hK hP (ci := 2) (q0 := 0) rfl rfl) hG hS hAN hP hD kz_nilP kz_nilA) rfl rfl hl.1 rfl (lv_room (Nat.le_of_ble_eq_true rfl)) dX3_way_22 ⟨(Nat.le_of_ble_eq_true rfl), (Nat.le_of_ble_eq_true rfl)⟩) hP hD hS hA (fun u H9 locs9 hu hP9 hD9 hS9 hzz hkk => ?_)
    clear hzz hkk hP hD hS H locs u
    revert hS9 hD9 hP9 locs9 H9
    intro H locs hP hD hS
    obtain ⟨r1, p2⟩ := hu
    replace r1 : rI (wayG (S 0) k river a sp) := r1
    replace p2 : 0 ≤ wayG (S 0) k river a sp ∧ wayG (S 0) k river a sp ≤ 57840 := p2
    replace hP : va_P (kD E) kcl (mW E Ad (put S 7 7 (throwCode (S 0) k river a sp))) H := hP
    replace hD : va_D A (mW E Ad (put S 7 7 (throwCode (S 0) k river a sp))) := hD
    show W p l e _ s m args below meth c H locs _ _ Q (F0 m 25 ls [.int (zI (wayG (S 0) k river a sp))])
    have e0 : xWay S k river a sp = (put S 7 7 (throwCode (S 0) k river a sp), wayG (S 0) k river a sp) := by unfold xWay; refine congrArg (Prod.mk _) ?_; (repeat (first | refine Eq.trans (if_pos (by omega)) ?_ | refine Eq.trans (if_neg (by omega)) ?_)); all_goals rfl
    have e1 : (xWay S k river a sp).2 = wayG (S 0) k river a sp := by rw [e0]
    have e3 : (xWay S k river a sp).1 = put S 7 7 (throwCode (S 0) k river a sp) := by rw [e0]
    exact kz_iret () hx hb hr hlk hP hD hS dX3_way_25 (congrArg (fun z : Int => some (Value.int (zI z))) e1) ⟨(kz_r e1 (by omega)), (kz_M e3 hM)⟩ (congrArg (mW E Ad) e3) hQ (Nat.le_of_ble_eq_true rfl) (Nat.le_of_ble_eq_true rfl)
  · skip
    refine kz_iconst hx hb dX3_way_12 ?_
    refine lv_goto (tgt := 25) hx hb dX3_way_13 (by decide) ?_
    have e0 : xWay S k river a sp = (put S 7 7 (throwCode (S 0) k river a sp), 0) := by unfold xWay; refine congrArg (Prod.mk _) ?_; (repeat (first | refine Eq.trans (if_pos (by omega)) ?_ | refine Eq.trans (if_neg (by omega)) ?_)); all_goals rfl
    have e1 : (xWay S k river a sp).2 = 0 := by rw [e0]
    have e3 : (xWay S k river a sp).1 = put S 7 7 (throwCode (S 0) k river a sp) := by rw [e0]
    exact kz_iret () hx hb hr hlk hP hD hS dX3_way_25 (congrArg (fun z : Int => some (Value.int (zI z))) e1) ⟨(kz_r e1 (by omega)), (kz_M e3 hM)⟩ (congrArg (mW E Ad) e3) hQ (Nat.le_of_ble_eq_true rfl) (Nat.le_of_ble_eq_true rfl)

set_option maxHeartbeats 4000000 in
set_option maxRecDepth 100000 in
theorem mX3_bestAngle (l : Launch) (E : KE) (sz : Nat) (Ad : Nat → Nat) (S : St) (hM : MOk S) (B : Int) (k : Int) (rk : rI k) (river : Int) (rriver : rI river) (sp : Int) (rsp : rI sp) (hI : GI B (S 0)) : Met l yX3_bestAngle (ws_ yX3_bestAngle cX3_bestAngle 6 (some .int)) (rmk 4 0 0 93) (va_Pc [.ref (Ad 0), .int (zI k), .int (zI river), .int (zI sp)] (kP l E sz (mW E Ad S) [])) (kQ E (fun _ : Unit => rI ((xBest S k river sp).2) ∧ MOk ((xBest S k river sp).1)) (fun _ => some (.int (zI ((xBest S k river sp).2)))) (fun _ => (mW E Ad ((xBest S k river sp).1))) (va_A (mW E Ad S) sz)) 0 0 (va_A (mW E Ad S) sz) := by
  refine kz_start (Qf := kQ E (fun _ : Unit => rI ((xBest S k river sp).2) ∧ MOk ((xBest S k river sp).1)) (fun _ => some (.int (zI ((xBest S k river sp).2)))) (fun _ => (mW E Ad ((xBest S k river sp).1)))) (by decide) (Nat.le_of_ble_eq_true rfl) ?_
  intro p e s m args below meth c A ls Q H locs hx hb hr hlk hml hts hown hname hG hK hA hAN hP hD hR hRA hS hQ hl
  replace hown : s.vm.findClass RX3 = some m.cls := hown
  replace hl : lv_has ls 6 [(0, .ref (Ad 0)), (1, .int (zI (k))), (2, .int (zI (river))), (3, .int (zI (sp)))] := hl
  have g0 := hI.n
  have g1 := hI.m
  have g2 := hI.ct
  replace hP : va_P (kD E) kcl (mW E Ad (S)) H := hP
  replace hD : va_D A (mW E Ad (S)) := hD
  refine lv_aload_n hx hb dX3_bestAngle_0 rfl (lv_at hl 0 rfl) ?_
  refine lv_iload_n hx hb dX3_bestAngle_1 rfl (lv_at hl 1 rfl) ?_
  refine lv_iload_n hx hb dX3_bestAngle_2 rfl (lv_at hl 2 rfl) ?_
  refine kz_iconst hx hb dX3_bestAngle_3 ?_
  refine lv_iload_n hx hb dX3_bestAngle_4 rfl (lv_at hl 3 rfl) ?_
  refine kz_backM (va_runV (As := [.int (zI (k)), .int (zI (river)), .int (zI (0)), .int (zI (sp))]) (rest := []) ⟨hx, hb, hml, hown, hts⟩ (mX3_isWrong l E H.size Ad S hM k (by omega) river (by omega) 0 (by omega) sp (by omega) (show 0 ≤ (S 0 0) ∧ (S 0 0) ≤ 10 by first | omega | exact hI.st _ (by omega) (by omega) | exact hI.rv _ (by omega) (by omega) | exact hI) (show 0 ≤ (S 0 1) ∧ (S 0 1) ≤ 4 by first | omega | exact hI.st _ (by omega) (by omega) | exact hI.rv _ (by omega) (by omega) | exact hI)) (cwV 4 hts (lw_V q2507 q2509 qs51 q83 q2510) rfl rfl rfl (by decide +kernel) ⟨(Nat.le_of_ble_eq_true rfl), (Nat.le_of_ble_eq_true rfl)⟩) (kz_preVM (wc := mW E Ad S) (va_recv hK hP (ci := 2) (q0 := 0) rfl rfl) hG hS hAN hP hD kz_nilP kz_nilA) rfl rfl hl.1 rfl (lv_room (Nat.le_of_ble_eq_true rfl)) dX3_bestAngle_5 ⟨(Nat.le_of_ble_eq_true rfl), (Nat.le_of_ble_eq_true rfl)⟩) hP hD hS hA (fun u H9 locs9 hu hP9 hD9 hS9 hzz hkk => ?_)
  clear hzz hkk hP hD hS H locs u
  revert hS9 hD9 hP9 locs9 H9
  intro H locs hP hD hS
  replace hM : MOk (put S 7 7 (throwCode (S 0) k river 0 sp)) := hu
  clear hu
  replace hP : va_P (kD E) kcl (mW E Ad (put S 7 7 (throwCode (S 0) k river 0 sp))) H := hP
  replace hD : va_D A (mW E Ad (put S 7 7 (throwCode (S 0) k river 0 sp))) := hD
  show W p l e _ s m args below meth c H locs _ _ Q (F0 m 8 ls [.int (zI (b2 (0 < throwCode (S 0) k river 0 sp)))])
  refine kz_if0B (tgt := 13) hx hb dX3_bestAngle_8 (by decide) (fun c8 => ?_) (fun c8 => ?_)
  · skip
    have q0 : throwCode (S 0) k river 0 sp = 0 := by have := throwCode_b (S 0) k river 0 sp; omega
    have q1 := throwCode_0 q0
    have hsb := hI.st k (by omega) (by omega)
    have hrb := hI.rv river (by omega) (by omega)
    have hsx := hI.sx k (by omega) (by omega)
    have hrx := hI.rx river (by omega) (by omega)
    have hbk := hI.bk river 0 (by omega) (by omega) (by omega) (by omega)
    refine kz_iconst hx hb dX3_bestAngle_13 ?_
    refine lv_istore (lv' := [(4, .int (zI (0))), (0, .ref (Ad 0)), (1, .int (zI (k))), (2, .int (zI (river))), (3, .int (zI (sp)))]) hx hb dX3_bestAngle_14 hl (by decide) rfl (fun ls hl => ?_)
    refine kz_iconst hx hb dX3_bestAngle_16 ?_
    refine lv_istore (lv' := [(5, .int (zI (1))), (4, .int (zI (0))), (0, .ref (Ad 0)), (1, .int (zI (k))), (2, .int (zI (river))), (3, .int (zI (sp)))]) hx hb dX3_bestAngle_17 hl (by decide) rfl (fun ls hl => ?_)
    have L19_1 : ∀ (fu : Nat) (best j : Int) (H : Heap) (locs : List Loc) (ls : Array Slot), (1 ≤ j ∧ j ≤ 91 ∧ 0 ≤ best ∧ best ≤ 90) → (best = bestF (fun a => wayG (S 0) k river a sp) (j - 1).toNat) → rI best → rI j → (91 - j : Int).toNat < fu → va_P (kD E) kcl (mW E Ad (put S 7 7 (throwCode (S 0) k river 0 sp))) H → va_D A (mW E Ad (put S 7 7 (throwCode (S 0) k river 0 sp))) → va_S A s.heap H locs → lv_has ls 6 [(0, .ref (Ad 0)), (1, .int (zI (k))), (2, .int (zI (river))), (3, .int (zI (sp))), (4, .int (zI (best))), (5, .int (zI (j)))] → W p l e (rmk 4 0 0 93) s m args below meth c H locs 0 0 Q (F0 m 19 ls []) := by
      clear hl hS hD hP ls locs H
      intro fu
      induction fu with
      | zero => intro best j H locs ls hj hbb rbest rj hf; exact absurd hf (Nat.not_lt_zero _)
      | succ fu ih19 =>
        intro best j H locs ls hj hbb rbest rj hf hP hD hS hl
        refine lv_iload hx hb dX3_bestAngle_19 (lv_at hl 5 rfl) ?_
        refine kz_bipush hx hb dX3_bestAngle_21 (by decide) ?_
        refine kz_icmp_gt (tgt := 57) hx hb dX3_bestAngle_23 (by decide) (by omega) (by omega) (fun c23 => ?_) (fun c23 => ?_)
        · skip
          refine lv_iload hx hb dX3_bestAngle_57 (lv_at hl 4 rfl) ?_
          have e0 : xBest S k river sp = (put S 7 7 (throwCode (S 0) k river 0 sp), best) := by unfold xBest; (first | rw [hbb, show (j - 1).toNat = 90 by omega] | skip); refine congrArg (Prod.mk _) ?_; (repeat (first | refine Eq.trans (if_pos (by omega)) ?_ | refine Eq.trans (if_neg (by omega)) ?_)); all_goals rfl
          have e1 : (xBest S k river sp).2 = best := by rw [e0]
          have e3 : (xBest S k river sp).1 = put S 7 7 (throwCode (S 0) k river 0 sp) := by rw [e0]
          exact kz_iret () hx hb hr hlk hP hD hS dX3_bestAngle_59 (congrArg (fun z : Int => some (Value.int (zI z))) e1) ⟨(kz_r e1 (by omega)), (kz_M e3 hM)⟩ (congrArg (mW E Ad) e3) hQ (Nat.le_of_ble_eq_true rfl) (Nat.le_of_ble_eq_true rfl)
        · skip
          refine lv_aload_n hx hb dX3_bestAngle_26 rfl (lv_at hl 0 rfl) ?_
          refine lv_iload_n hx hb dX3_bestAngle_27 rfl (lv_at hl 1 rfl) ?_
          refine lv_iload_n hx hb dX3_bestAngle_28 rfl (lv_at hl 2 rfl) ?_
          refine lv_iload hx hb dX3_bestAngle_29 (lv_at hl 5 rfl) ?_
          refine lv_iload_n hx hb dX3_bestAngle_31 rfl (lv_at hl 3 rfl) ?_
          refine kz_backM (va_runV (As := [.int (zI (k)), .int (zI (river)), .int (zI (j)), .int (zI (sp))]) (rest := []) ⟨hx, hb, hml, hown, hts⟩ (mX3_wayOf l E H.size Ad (put S 7 7 (throwCode (S 0) k river 0 sp)) hM k (by omega) river (by omega) j (by omega) sp (by omega) (show 0 ≤ k ∧ k < 10 by first | omega | exact hI.st _ (by omega) (by omega) | exact hI.rv _ (by omega) (by omega) | exact hI) (show 0 ≤ river ∧ river < 4 by first | omega | exact hI.st _ (by omega) (by omega) | exact hI.rv _ (by omega) (by omega) | exact hI) (show SB (S 0) k by first | omega | exact hI.st _ (by omega) (by omega) | exact hI.rv _ (by omega) (by omega) | exact hI) (show RB (S 0) river by first | omega | exact hI.st _ (by omega) (by omega) | exact hI.rv _ (by omega) (by omega) | exact hI) (show 0 ≤ j ∧ j ≤ 90 by first | omega | exact hI.st _ (by omega) (by omega) | exact hI.rv _ (by omega) (by omega) | exact hI) (show 1 ≤ sp ∧ sp ≤ 20 by first | omega | exact hI.st _ (by omega) (by omega) | exact hI.rv _ (by omega) (by omega) | exact hI)) (cwV 4 hts (lw_V q2533 q2535 qs55 q83 q2536) rfl rfl rfl (by decide +kernel) ⟨(Nat.le_of_ble_eq_true rfl), (Nat.le_of_ble_eq_true rfl)⟩) (kz_preVM (wc := mW E Ad (put S 7 7 (throwCode (S 0) k river 0 sp))) (va_recv hK hP (ci := 2) (q0 := 0) rfl rfl) hG hS hAN hP hD kz_nilP kz_nilA) rfl rfl hl.1 rfl (lv_room (Nat.le_of_ble_eq_true rfl)) dX3_bestAngle_32 ⟨(Nat.le_of_ble_eq_true rfl), (Nat.le_of_ble_eq_true rfl)⟩) hP hD hS hA (fun u H9 locs9 hu hP9 hD9 hS9 hzz hkk => ?_)
          clear hzz hkk hP hD hS H locs u
          revert hS9 hD9 hP9 locs9 H9
          intro H locs hP hD hS
          obtain ⟨r2, p3⟩ := hu
          replace r2 : rI (wayG (S 0) k river j sp) := r2
          replace p3 : 0 ≤ wayG (S 0) k river j sp ∧ wayG (S 0) k river j sp ≤ 57840 := p3
          replace hP : va_P (kD E) kcl (mW E Ad (put S 7 7 (throwCode (S 0) k river 0 sp))) H := hP
          replace hD : va_D A (mW E Ad (put S 7 7 (throwCode (S 0) k river 0 sp))) := hD
          show W p l e _ s m args below meth c H locs _ _ Q (F0 m 35 ls [.int (zI (wayG (S 0) k river j sp))])
          refine lv_aload_n hx hb dX3_bestAngle_35 rfl (lv_at hl 0 rfl) ?_
          refine lv_iload_n hx hb dX3_bestAngle_36 rfl (lv_at hl 1 rfl) ?_
          refine lv_iload_n hx hb dX3_bestAngle_37 rfl (lv_at hl 2 rfl) ?_
          refine lv_iload hx hb dX3_bestAngle_38 (lv_at hl 4 rfl) ?_
          refine lv_iload_n hx hb dX3_bestAngle_40 rfl (lv_at hl 3 rfl) ?_
          refine kz_backM (va_runV (As := [.int (zI (k)), .int (zI (river)), .int (zI (best)), .int (zI (sp))]) (rest := [.int (zI (wayG (S 0) k river j sp))]) ⟨hx, hb, hml, hown, hts⟩ (mX3_wayOf l E H.size Ad (put S 7 7 (throwCode (S 0) k river 0 sp)) hM k (by omega) river (by omega) best (by omega) sp (by omega) (show 0 ≤ k ∧ k < 10 by first | omega | exact hI.st _ (by omega) (by omega) | exact hI.rv _ (by omega) (by omega) | exact hI) (show 0 ≤ river ∧ river < 4 by first | omega | exact hI.st _ (by omega) (by omega) | exact hI.rv _ (by omega) (by omega) | exact hI) (show SB (S 0) k by first | omega | exact hI.st _ (by omega) (by omega) | exact hI.rv _ (by omega) (by omega) | exact hI) (show RB (S 0) river by first | omega | exact hI.st _ (by omega) (by omega) | exact hI.rv _ (by omega) (by omega) | exact hI) (show 0 ≤ best ∧ best ≤ 90 by first | omega | exact hI.st _ (by omega) (by omega) | exact hI.rv _ (by omega) (by omega) | exact hI) (show 1 ≤ sp ∧ sp ≤ 20 by first | omega | exact hI.st _ (by omega) (by omega) | exact hI.rv _ (by omega) (by omega) | exact hI)) (cwV 4 hts (lw_V q2533 q2535 qs55 q83 q2536) rfl rfl rfl (by decide +kernel) ⟨(Nat.le_of_ble_eq_true rfl), (Nat.le_of_ble_eq_true rfl)⟩) (kz_preVM (wc := mW E Ad (put S 7 7 (throwCode (S 0) k river 0 sp))) (va_recv hK hP (ci := 2) (q0 := 0) rfl rfl) hG hS hAN hP hD kz_nilP kz_nilA) rfl rfl hl.1 rfl (lv_room (Nat.le_of_ble_eq_true rfl)) dX3_bestAngle_41 ⟨(Nat.le_of_ble_eq_true rfl), (Nat.le_of_ble_eq_true rfl)⟩) hP hD hS hA (fun u H9 locs9 hu hP9 hD9 hS9 hzz hkk => ?_)
          clear hzz hkk hP hD hS H locs u
          revert hS9 hD9 hP9 locs9 H9
          intro H locs hP hD hS
          obtain ⟨r4, p5⟩ := hu
          replace r4 : rI (wayG (S 0) k river best sp) := r4
          replace p5 : 0 ≤ wayG (S 0) k river best sp ∧ wayG (S 0) k river best sp ≤ 57840 := p5
          replace hP : va_P (kD E) kcl (mW E Ad (put S 7 7 (throwCode (S 0) k river 0 sp))) H := hP
          replace hD : va_D A (mW E Ad (put S 7 7 (throwCode (S 0) k river 0 sp))) := hD
          show W p l e _ s m args below meth c H locs _ _ Q (F0 m 44 ls [.int (zI (wayG (S 0) k river best sp)), .int (zI (wayG (S 0) k river j sp))])
          have J6 : ∀ (v7 : Int) (H : Heap) (locs : List Loc) (ls : Array Slot), v7 = (if (wayG (S 0) k river j sp) ≤ (wayG (S 0) k river best sp) then best else j) → rI v7 → va_P (kD E) kcl (mW E Ad (put S 7 7 (throwCode (S 0) k river 0 sp))) H → va_D A (mW E Ad (put S 7 7 (throwCode (S 0) k river 0 sp))) → va_S A s.heap H locs → lv_has ls 6 [(0, .ref (Ad 0)), (1, .int (zI (k))), (2, .int (zI (river))), (3, .int (zI (sp))), (4, .int (zI (v7))), (5, .int (zI (j)))] → W p l e (rmk 4 0 0 93) s m args below meth c H locs 0 0 Q (F0 m 51 ls []) := by
            clear hl hS hD hP ls locs H
            intro v7 H locs ls hv7 rv7 hP hD hS hl
            refine kz_iinc (lv' := [(5, .int (zI (j + 1))), (0, .ref (Ad 0)), (1, .int (zI (k))), (2, .int (zI (river))), (3, .int (zI (sp))), (4, .int (zI (v7)))]) hx hb dX3_bestAngle_51 hl (k := 5) rfl (by decide) rfl (fun ls hl => ?_)
            refine lv_goto (tgt := 19) hx hb dX3_bestAngle_54 (by decide) ?_
            exact ih19 v7 (j + 1) _ _ _ (by omega) (by have z := bestF_s (fun a => wayG (S 0) k river a sp) (k := j - 1) (by omega); rw [← hbb, show j - 1 + 1 = j by omega] at z; rw [show j + 1 - 1 = j by omega, z]; (repeat' split) <;> omega) (by omega) (by omega) (by omega) hP hD hS (lv_sub hl [1, 2, 3, 4, 5, 0] rfl)
          refine kz_icmp_le (tgt := 51) hx hb dX3_bestAngle_44 (by decide) (by omega) (by omega) (fun c44 => ?_) (fun c44 => ?_)
          · skip
            exact J6 best _ _ _ (Eq.symm (if_pos c44)) (by omega) hP hD hS hl
          · skip
            refine lv_iload hx hb dX3_bestAngle_47 (lv_at hl 5 rfl) ?_
            refine lv_istore (lv' := [(4, .int (zI (j))), (0, .ref (Ad 0)), (1, .int (zI (k))), (2, .int (zI (river))), (3, .int (zI (sp))), (5, .int (zI (j)))]) hx hb dX3_bestAngle_49 hl (by decide) rfl (fun ls hl => ?_)
            exact J6 j _ _ _ (Eq.symm (if_neg c44)) (by omega) hP hD hS (lv_sub hl [1, 2, 3, 4, 0, 5] rfl)
    exact L19_1 ((91 - 1 : Int).toNat + 1) 0 1 _ _ _ (by omega) (by rfl) (by omega) (by omega) (Nat.lt_succ_self _) hP hD hS (lv_sub hl [2, 3, 4, 5, 1, 0] rfl)
  · skip
    refine kz_iconst hx hb dX3_bestAngle_11 ?_
    have e0 : xBest S k river sp = (put S 7 7 (throwCode (S 0) k river 0 sp), 0) := by unfold xBest; (first | rw [hbb, show (j - 1).toNat = 90 by omega] | skip); refine congrArg (Prod.mk _) ?_; (repeat (first | refine Eq.trans (if_pos (by omega)) ?_ | refine Eq.trans (if_neg (by omega)) ?_)); all_goals rfl
    have e1 : (xBest S k river sp).2 = 0 := by rw [e0]
    have e3 : (xBest S k river sp).1 = put S 7 7 (throwCode (S 0) k river 0 sp) := by rw [e0]
    exact kz_iret () hx hb hr hlk hP hD hS dX3_bestAngle_12 (congrArg (fun z : Int => some (Value.int (zI z))) e1) ⟨(kz_r e1 (by omega)), (kz_M e3 hM)⟩ (congrArg (mW E Ad) e3) hQ (Nat.le_of_ble_eq_true rfl) (Nat.le_of_ble_eq_true rfl)

set_option maxHeartbeats 4000000 in
set_option maxRecDepth 100000 in
theorem mX3_leastSpeed (l : Launch) (E : KE) (sz : Nat) (Ad : Nat → Nat) (S : St) (hM : MOk S) (B : Int) (k : Int) (rk : rI k) (river : Int) (rriver : rI river) (a : Int) (ra : rI a) (hI : GI B (S 0)) : Met l yX3_leastSpeed (ws_ yX3_leastSpeed cX3_leastSpeed 5 (some .int)) (rmk 4 0 0 93) (va_Pc [.ref (Ad 0), .int (zI k), .int (zI river), .int (zI a)] (kP l E sz (mW E Ad S) [])) (kQ E (fun _ : Unit => rI ((xLeast S k river a).2) ∧ MOk ((xLeast S k river a).1)) (fun _ => some (.int (zI ((xLeast S k river a).2)))) (fun _ => (mW E Ad ((xLeast S k river a).1))) (va_A (mW E Ad S) sz)) 0 0 (va_A (mW E Ad S) sz) := by
  refine kz_start (Qf := kQ E (fun _ : Unit => rI ((xLeast S k river a).2) ∧ MOk ((xLeast S k river a).1)) (fun _ => some (.int (zI ((xLeast S k river a).2)))) (fun _ => (mW E Ad ((xLeast S k river a).1)))) (by decide) (Nat.le_of_ble_eq_true rfl) ?_
  intro p e s m args below meth c A ls Q H locs hx hb hr hlk hml hts hown hname hG hK hA hAN hP hD hR hRA hS hQ hl
  replace hown : s.vm.findClass RX3 = some m.cls := hown
  replace hl : lv_has ls 5 [(0, .ref (Ad 0)), (1, .int (zI (k))), (2, .int (zI (river))), (3, .int (zI (a)))] := hl
  have g0 := hI.n
  have g1 := hI.m
  have g2 := hI.ct
  replace hP : va_P (kD E) kcl (mW E Ad (S)) H := hP
  replace hD : va_D A (mW E Ad (S)) := hD
  refine lv_aload_n hx hb dX3_leastSpeed_0 rfl (lv_at hl 0 rfl) ?_
  refine lv_iload_n hx hb dX3_leastSpeed_1 rfl (lv_at hl 1 rfl) ?_
  refine lv_iload_n hx hb dX3_leastSpeed_2 rfl (lv_at hl 2 rfl) ?_
  refine lv_iload_n hx hb dX3_leastSpeed_3 rfl (lv_at hl 3 rfl) ?_
  refine kz_iconst hx hb dX3_leastSpeed_4 ?_
  refine kz_backM (va_runV (As := [.int (zI (k)), .int (zI (river)), .int (zI (a)), .int (zI (1))]) (rest := []) ⟨hx, hb, hml, hown, hts⟩ (mX3_isWrong l E H.size Ad S hM k (by omega) river (by omega) a (by omega) 1 (by omega) (show 0 ≤ (S 0 0) ∧ (S 0 0) ≤ 10 by first | omega | exact hI.st _ (by omega) (by omega) | exact hI.rv _ (by omega) (by omega) | exact hI) (show 0 ≤ (S 0 1) ∧ (S 0 1) ≤ 4 by first | omega | exact hI.st _ (by omega) (by omega) | exact hI.rv _ (by omega) (by omega) | exact hI)) (cwV 4 hts (lw_V q2507 q2509 qs51 q83 q2510) rfl rfl rfl (by decide +kernel) ⟨(Nat.le_of_ble_eq_true rfl), (Nat.le_of_ble_eq_true rfl)⟩) (kz_preVM (wc := mW E Ad S) (va_recv hK hP (ci := 2) (q0 := 0) rfl rfl) hG hS hAN hP hD kz_nilP kz_nilA) rfl rfl hl.1 rfl (lv_room (Nat.le_of_ble_eq_true rfl)) dX3_leastSpeed_5 ⟨(Nat.le_of_ble_eq_true rfl), (Nat.le_of_ble_eq_true rfl)⟩) hP hD hS hA (fun u H9 locs9 hu hP9 hD9 hS9 hzz hkk => ?_)
  clear hzz hkk hP hD hS H locs u
  revert hS9 hD9 hP9 locs9 H9
  intro H locs hP hD hS
  replace hM : MOk (put S 7 7 (throwCode (S 0) k river a 1)) := hu
  clear hu
  replace hP : va_P (kD E) kcl (mW E Ad (put S 7 7 (throwCode (S 0) k river a 1))) H := hP
  replace hD : va_D A (mW E Ad (put S 7 7 (throwCode (S 0) k river a 1))) := hD
  show W p l e _ s m args below meth c H locs _ _ Q (F0 m 8 ls [.int (zI (b2 (0 < throwCode (S 0) k river a 1)))])
  refine kz_if0B (tgt := 13) hx hb dX3_leastSpeed_8 (by decide) (fun c8 => ?_) (fun c8 => ?_)
  · skip
    have q0 : throwCode (S 0) k river a 1 = 0 := by have := throwCode_b (S 0) k river a 1; omega
    have q1 := throwCode_0 q0
    have hsb := hI.st k (by omega) (by omega)
    have hrb := hI.rv river (by omega) (by omega)
    have hsx := hI.sx k (by omega) (by omega)
    have hrx := hI.rx river (by omega) (by omega)
    have hbk := hI.bk river 0 (by omega) (by omega) (by omega) (by omega)
    rw [q0] at hP hD hM
    refine kz_iconst hx hb dX3_leastSpeed_13 ?_
    refine lv_istore (lv' := [(4, .int (zI (1))), (0, .ref (Ad 0)), (1, .int (zI (k))), (2, .int (zI (river))), (3, .int (zI (a)))]) hx hb dX3_leastSpeed_14 hl (by decide) rfl (fun ls hl => ?_)
    have L16_1 : ∀ (fu : Nat) (j : Int) (H : Heap) (locs : List Loc) (ls : Array Slot), (1 ≤ j ∧ j ≤ 21) → (leastG (S 0) k river a = firstF (fun sp => S 0 (150 + 6 * river + 0) ≤ wayG (S 0) k river a sp) (21 - j).toNat j) → rI j → (21 - j : Int).toNat < fu → va_P (kD E) kcl (mW E Ad (put S 7 7 0)) H → va_D A (mW E Ad (put S 7 7 0)) → va_S A s.heap H locs → lv_has ls 5 [(0, .ref (Ad 0)), (1, .int (zI (k))), (2, .int (zI (river))), (3, .int (zI (a))), (4, .int (zI (j)))] → W p l e (rmk 4 0 0 93) s m args below meth c H locs 0 0 Q (F0 m 16 ls []) := by
      clear hl hS hD hP ls locs H
      intro fu
      induction fu with
      | zero => intro j H locs ls hj hn rj hf; exact absurd hf (Nat.not_lt_zero _)
      | succ fu ih16 =>
        intro j H locs ls hj hn rj hf hP hD hS hl
        refine lv_iload hx hb dX3_leastSpeed_16 (lv_at hl 4 rfl) ?_
        refine kz_bipush hx hb dX3_leastSpeed_18 (by decide) ?_
        refine kz_icmp_gt (tgt := 50) hx hb dX3_leastSpeed_20 (by decide) (by omega) (by omega) (fun c20 => ?_) (fun c20 => ?_)
        · skip
          rw [firstF_0 _ (by omega)] at hn
          refine lv_aload_n hx hb dX3_leastSpeed_50 rfl (lv_at hl 0 rfl) ?_
          refine kz_iconst hx hb dX3_leastSpeed_51 ?_
          refine va_put (D := kD E) (ci := 2) (fs := mO Ad (put S 7 7 0)) (v := .int (zI (3))) (ty := .int) (C := RX3) (T := TX3) (N := 19) hx hb hts in_X3 tyX3 tyX3_ok nmX3 hown hK hP hD hS 0 rfl rfl 7 (by decide) (hts _ q2327) (fun _ h9 => h9) rfl (by decide +kernel) rfl rfl (Nat.le_of_ble_eq_true rfl) dX3_leastSpeed_52 (fun H9 locs9 hP9 hD9 hS9 => ?_)
          rw [mW_f7] at hP9 hD9
          clear hP hD hS H locs
          revert hS9 hD9 hP9 locs9 H9
          intro H locs hP hD hS
          replace hP : va_P (kD E) kcl (mW E Ad (put (put S 7 7 0) 7 7 3)) H := hP
          replace hD : va_D A (mW E Ad (put (put S 7 7 0) 7 7 3)) := hD
          replace hM : MOk (put (put S 7 7 0) 7 7 3) := hM.put 7 7 (by omega)
          refine kz_iconst hx hb dX3_leastSpeed_55 ?_
          have e0 : xLeast S k river a = (put (put S 7 7 0) 7 7 3, 0) := by unfold xLeast; (repeat (first | refine Eq.trans (if_pos (by omega)) ?_ | refine Eq.trans (if_neg (by omega)) ?_)); first | rfl | (refine Prod.ext rfl ?_; exact hn2)
          have e1 : (xLeast S k river a).2 = 0 := by rw [e0]
          have e3 : (xLeast S k river a).1 = put (put S 7 7 0) 7 7 3 := by rw [e0]
          exact kz_iret () hx hb hr hlk hP hD hS dX3_leastSpeed_56 (congrArg (fun z : Int => some (Value.int (zI z))) e1) ⟨(kz_r e1 (by omega)), (kz_M e3 hM)⟩ (congrArg (mW E Ad) e3) hQ (Nat.le_of_ble_eq_true rfl) (Nat.le_of_ble_eq_true rfl)
        · skip
          refine lv_aload_n hx hb dX3_leastSpeed_23 rfl (lv_at hl 0 rfl) ?_
          refine lv_iload_n hx hb dX3_leastSpeed_24 rfl (lv_at hl 1 rfl) ?_
          refine lv_iload_n hx hb dX3_leastSpeed_25 rfl (lv_at hl 2 rfl) ?_
          refine lv_iload_n hx hb dX3_leastSpeed_26 rfl (lv_at hl 3 rfl) ?_
          refine lv_iload hx hb dX3_leastSpeed_27 (lv_at hl 4 rfl) ?_
          refine kz_backM (va_runV (As := [.int (zI (k)), .int (zI (river)), .int (zI (a)), .int (zI (j))]) (rest := []) ⟨hx, hb, hml, hown, hts⟩ (mX3_wayOf l E H.size Ad (put S 7 7 0) hM k (by omega) river (by omega) a (by omega) j (by omega) (show 0 ≤ k ∧ k < 10 by first | omega | exact hI.st _ (by omega) (by omega) | exact hI.rv _ (by omega) (by omega) | exact hI) (show 0 ≤ river ∧ river < 4 by first | omega | exact hI.st _ (by omega) (by omega) | exact hI.rv _ (by omega) (by omega) | exact hI) (show SB (S 0) k by first | omega | exact hI.st _ (by omega) (by omega) | exact hI.rv _ (by omega) (by omega) | exact hI) (show RB (S 0) river by first | omega | exact hI.st _ (by omega) (by omega) | exact hI.rv _ (by omega) (by omega) | exact hI) (show 0 ≤ a ∧ a ≤ 90 by first | omega | exact hI.st _ (by omega) (by omega) | exact hI.rv _ (by omega) (by omega) | exact hI) (show 1 ≤ j ∧ j ≤ 20 by first | omega | exact hI.st _ (by omega) (by omega) | exact hI.rv _ (by omega) (by omega) | exact hI)) (cwV 4 hts (lw_V q2533 q2535 qs55 q83 q2536) rfl rfl rfl (by decide +kernel) ⟨(Nat.le_of_ble_eq_true rfl), (Nat.le_of_ble_eq_true rfl)⟩) (kz_preVM (wc := mW E Ad (put S 7 7 0)) (va_recv hK hP (ci := 2) (q0 := 0) rfl rfl) hG hS hAN hP hD kz_nilP kz_nilA) rfl rfl hl.1 rfl (lv_room (Nat.le_of_ble_eq_true rfl)) dX3_leastSpeed_29 ⟨(Nat.le_of_ble_eq_true rfl), (Nat.le_of_ble_eq_true rfl)⟩) hP hD hS hA (fun u H9 locs9 hu hP9 hD9 hS9 hzz hkk => ?_)
          clear hzz hkk hP hD hS H locs u
          revert hS9 hD9 hP9 locs9 H9
          intro H locs hP hD hS
          obtain ⟨r2, p3⟩ := hu
          replace r2 : rI (wayG (S 0) k river a j) := r2
          replace p3 : 0 ≤ wayG (S 0) k river a j ∧ wayG (S 0) k river a j ≤ 57840 := p3
          replace hP : va_P (kD E) kcl (mW E Ad (put S 7 7 0)) H := hP
          replace hD : va_D A (mW E Ad (put S 7 7 0)) := hD
          show W p l e _ s m args below meth c H locs _ _ Q (F0 m 32 ls [.int (zI (wayG (S 0) k river a j))])
          refine lv_aload_n hx hb dX3_leastSpeed_32 rfl (lv_at hl 0 rfl) ?_
          refine lv_iload_n hx hb dX3_leastSpeed_33 rfl (lv_at hl 2 rfl) ?_
          refine kz_iconst hx hb dX3_leastSpeed_34 ?_
          refine kz_backM (va_runV (As := [.int (zI (river)), .int (zI (0))]) (rest := [.int (zI (wayG (S 0) k river a j))]) ⟨hx, hb, hml, hown, hts⟩ (mX3_its l E H.size Ad (put S 7 7 0) hM river (by omega) 0 (by omega) (show 0 ≤ river ∧ river < 4 by first | omega | exact hI.st _ (by omega) (by omega) | exact hI.rv _ (by omega) (by omega) | exact hI) (show 0 ≤ 0 ∧ 0 < 6 by first | omega | exact hI.st _ (by omega) (by omega) | exact hI.rv _ (by omega) (by omega) | exact hI)) (cwV 2 hts (lw_V q2425 q2427 qs41 q83 q2428) rfl rfl rfl (by decide +kernel) ⟨(Nat.le_of_ble_eq_true rfl), (Nat.le_of_ble_eq_true rfl)⟩) (kz_preVM (wc := mW E Ad (put S 7 7 0)) (va_recv hK hP (ci := 2) (q0 := 0) rfl rfl) hG hS hAN hP hD kz_nilP kz_nilA) rfl rfl hl.1 rfl (lv_room (Nat.le_of_ble_eq_true rfl)) dX3_leastSpeed_35 ⟨(Nat.le_of_ble_eq_true rfl), (Nat.le_of_ble_eq_true rfl)⟩) hP hD hS hA (fun u H9 locs9 hu hP9 hD9 hS9 hzz hkk => ?_)
          clear hzz hkk hP hD hS H locs u
          revert hS9 hD9 hP9 locs9 H9
          intro H locs hP hD hS
          have r4 : rI ((S 0 ((150 + 6 * river + 0)))) := hu
          clear hu
          replace hP : va_P (kD E) kcl (mW E Ad (put S 7 7 0)) H := hP
          replace hD : va_D A (mW E Ad (put S 7 7 0)) := hD
          show W p l e _ s m args below meth c H locs _ _ Q (F0 m 38 ls [.int (zI ((S 0 ((150 + 6 * river + 0))))), .int (zI (wayG (S 0) k river a j))])
          refine kz_icmp_lt (tgt := 44) hx hb dX3_leastSpeed_38 (by decide) (by omega) (by omega) (fun c38 => ?_) (fun c38 => ?_)
          · skip
            refine kz_iinc (lv' := [(4, .int (zI (j + 1))), (0, .ref (Ad 0)), (1, .int (zI (k))), (2, .int (zI (river))), (3, .int (zI (a)))]) hx hb dX3_leastSpeed_44 hl (k := 4) rfl (by decide) rfl (fun ls hl => ?_)
            refine lv_goto (tgt := 16) hx hb dX3_leastSpeed_47 (by decide) ?_
            exact ih16 (j + 1) _ _ _ (by omega) (by rw [firstF_s _ (by omega), if_neg (by omega)] at hn; exact hn) (by omega) (by omega) hP hD hS (lv_sub hl [1, 2, 3, 4, 0] rfl)
          · skip
            rw [firstF_s _ (by omega), if_pos (by omega)] at hn
            have hn2 := hn
            refine lv_iload hx hb dX3_leastSpeed_41 (lv_at hl 4 rfl) ?_
            have e0 : xLeast S k river a = (put S 7 7 0, j) := by unfold xLeast; (repeat (first | refine Eq.trans (if_pos (by omega)) ?_ | refine Eq.trans (if_neg (by omega)) ?_)); first | rfl | (refine Prod.ext rfl ?_; exact hn2)
            have e1 : (xLeast S k river a).2 = j := by rw [e0]
            have e3 : (xLeast S k river a).1 = put S 7 7 0 := by rw [e0]
            exact kz_iret () hx hb hr hlk hP hD hS dX3_leastSpeed_43 (congrArg (fun z : Int => some (Value.int (zI z))) e1) ⟨(kz_r e1 (by omega)), (kz_M e3 hM)⟩ (congrArg (mW E Ad) e3) hQ (Nat.le_of_ble_eq_true rfl) (Nat.le_of_ble_eq_true rfl)
    exact L16_1 ((21 - 1 : Int).toNat + 1) 1 _ _ _ (by omega) (by rfl) (by omega) (Nat.lt_succ_self _) hP hD hS (lv_sub hl [1, 2, 3, 4, 0] rfl)
  · skip
    refine kz_iconst hx hb dX3_leastSpeed_11 ?_
    have e0 : xLeast S k river a = (put S 7 7 (throwCode (S 0) k river a 1), 0) := by unfold xLeast; (repeat (first | refine Eq.trans (if_pos (by omega)) ?_ | refine Eq.trans (if_neg (by omega)) ?_)); first | rfl | (refine Prod.ext rfl ?_; exact hn2)
    have e1 : (xLeast S k river a).2 = 0 := by rw [e0]
    have e3 : (xLeast S k river a).1 = put S 7 7 (throwCode (S 0) k river a 1) := by rw [e0]
    exact kz_iret () hx hb hr hlk hP hD hS dX3_leastSpeed_12 (congrArg (fun z : Int => some (Value.int (zI z))) e1) ⟨(kz_r e1 (by omega)), (kz_M e3 hM)⟩ (congrArg (mW E Ad) e3) hQ (Nat.le_of_ble_eq_true rfl) (Nat.le_of_ble_eq_true rfl)

