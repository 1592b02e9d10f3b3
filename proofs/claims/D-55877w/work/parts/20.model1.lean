/-! THE MODEL: small members -/
set_option maxHeartbeats 4000000 in
set_option maxRecDepth 100000 in
theorem mX3_in (l : Launch) (E : KE) (sz : Nat) (v : Int) (rv : rI v) (low : Int) (rlow : rI low) (high : Int) (rhigh : rI high) : Met l yX3_in (ws_ yX3_in cX3_in 3 (some .boolean)) (rmk 0 0 0 0) (va_Pc [.int (zI v), .int (zI low), .int (zI high)] (kP l E sz [] [])) (kQ E (fun _ : Unit => True) (fun _ => some (.int (zI (b2 (low ≤ v ∧ v ≤ high))))) (fun _ => []) (va_A [] sz)) 0 0 (va_A [] sz) := by
  refine kz_start (Qf := kQ E (fun _ : Unit => True) (fun _ => some (.int (zI (b2 (low ≤ v ∧ v ≤ high))))) (fun _ => [])) (by decide) (Nat.le_of_ble_eq_true rfl) ?_
  intro p e s m args below meth c A ls Q H locs hx hb hr hlk hml hts hown hname hG hK hA hAN hP hD hR hRA hS hQ hl
  replace hown : s.vm.findClass RX3 = some m.cls := hown
  replace hl : lv_has ls 3 [(0, .int (zI (v))), (1, .int (zI (low))), (2, .int (zI (high)))] := hl
  replace hP : va_P (kD E) kcl [] H := hP
  replace hD : va_D A [] := hD
  refine lv_iload_n hx hb dX3_in_0 rfl (lv_at hl 0 rfl) ?_
  refine lv_iload_n hx hb dX3_in_1 rfl (lv_at hl 1 rfl) ?_
  refine kz_icmp_lt (tgt := 14) hx hb dX3_in_2 (by decide) (by omega) (by omega) (fun c2 => ?_) (fun c2 => ?_)
  · skip
    refine kz_iconst hx hb dX3_in_14 ?_
    have e1 : b2 (low ≤ v ∧ v ≤ high) = (0 : Int) := b2_f (by omega)
    exact kz_zNret () hx hb hr hlk hP hD hS dX3_in_15 (by decide) (congrArg (fun z : Int => some (Value.int (zI z))) e1) trivial rfl hQ (Nat.le_of_ble_eq_true rfl) (Nat.le_of_ble_eq_true rfl)
  · skip
    refine lv_iload_n hx hb dX3_in_5 rfl (lv_at hl 0 rfl) ?_
    refine lv_iload_n hx hb dX3_in_6 rfl (lv_at hl 2 rfl) ?_
    refine kz_icmp_gt (tgt := 14) hx hb dX3_in_7 (by decide) (by omega) (by omega) (fun c7 => ?_) (fun c7 => ?_)
    · skip
      refine kz_iconst hx hb dX3_in_14 ?_
      have e1 : b2 (low ≤ v ∧ v ≤ high) = (0 : Int) := b2_f (by omega)
      exact kz_zNret () hx hb hr hlk hP hD hS dX3_in_15 (by decide) (congrArg (fun z : Int => some (Value.int (zI z))) e1) trivial rfl hQ (Nat.le_of_ble_eq_true rfl) (Nat.le_of_ble_eq_true rfl)
    · skip
      refine kz_iconst hx hb dX3_in_10 ?_
      refine lv_goto (tgt := 15) hx hb dX3_in_11 (by decide) ?_
      have e1 : b2 (low ≤ v ∧ v ≤ high) = (1 : Int) := b2_t (by omega)
      exact kz_zNret () hx hb hr hlk hP hD hS dX3_in_15 (by decide) (congrArg (fun z : Int => some (Value.int (zI z))) e1) trivial rfl hQ (Nat.le_of_ble_eq_true rfl) (Nat.le_of_ble_eq_true rfl)

set_option maxHeartbeats 4000000 in
set_option maxRecDepth 100000 in
theorem mX3_atMost (l : Launch) (E : KE) (sz : Nat) (v : Int) (rv : rI v) (most : Int) (rmost : rI most) : Met l yX3_atMost (ws_ yX3_atMost cX3_atMost 2 (some .int)) (rmk 0 0 0 0) (va_Pc [.int (zI v), .int (zI most)] (kP l E sz [] [])) (kQ E (fun _ : Unit => rI (min v most)) (fun _ => some (.int (zI (min v most)))) (fun _ => []) (va_A [] sz)) 0 0 (va_A [] sz) := by
  refine kz_start (Qf := kQ E (fun _ : Unit => rI (min v most)) (fun _ => some (.int (zI (min v most)))) (fun _ => [])) (by decide) (Nat.le_of_ble_eq_true rfl) ?_
  intro p e s m args below meth c A ls Q H locs hx hb hr hlk hml hts hown hname hG hK hA hAN hP hD hR hRA hS hQ hl
  replace hown : s.vm.findClass RX3 = some m.cls := hown
  replace hl : lv_has ls 2 [(0, .int (zI (v))), (1, .int (zI (most)))] := hl
  replace hP : va_P (kD E) kcl [] H := hP
  replace hD : va_D A [] := hD
  refine lv_iload_n hx hb dX3_atMost_0 rfl (lv_at hl 0 rfl) ?_
  refine lv_iload_n hx hb dX3_atMost_1 rfl (lv_at hl 1 rfl) ?_
  refine kz_icmp_ge (tgt := 9) hx hb dX3_atMost_2 (by decide) (by omega) (by omega) (fun c2 => ?_) (fun c2 => ?_)
  · skip
    refine lv_iload_n hx hb dX3_atMost_9 rfl (lv_at hl 1 rfl) ?_
    have e1 : (min v most : Int) = most := by omega
    exact kz_iret () hx hb hr hlk hP hD hS dX3_atMost_10 (congrArg (fun z : Int => some (Value.int (zI z))) e1) (kz_r e1 (by omega)) rfl hQ (Nat.le_of_ble_eq_true rfl) (Nat.le_of_ble_eq_true rfl)
  · skip
    refine lv_iload_n hx hb dX3_atMost_5 rfl (lv_at hl 0 rfl) ?_
    refine lv_goto (tgt := 10) hx hb dX3_atMost_6 (by decide) ?_
    have e1 : (min v most : Int) = v := by omega
    exact kz_iret () hx hb hr hlk hP hD hS dX3_atMost_10 (congrArg (fun z : Int => some (Value.int (zI z))) e1) (kz_r e1 (by omega)) rfl hQ (Nat.le_of_ble_eq_true rfl) (Nat.le_of_ble_eq_true rfl)

set_option maxHeartbeats 4000000 in
set_option maxRecDepth 100000 in
theorem mX3_apart (l : Launch) (E : KE) (sz : Nat) (a : Int) (ra : rI a) (b : Int) (rb : rI b) (hab : -1000000 ≤ a ∧ a ≤ 1000000 ∧ -1000000 ≤ b ∧ b ≤ 1000000) : Met l yX3_apart (ws_ yX3_apart cX3_apart 2 (some .int)) (rmk 0 0 0 0) (va_Pc [.int (zI a), .int (zI b)] (kP l E sz [] [])) (kQ E (fun _ : Unit => rI (apartG a b)) (fun _ => some (.int (zI (apartG a b)))) (fun _ => []) (va_A [] sz)) 0 0 (va_A [] sz) := by
  refine kz_start (Qf := kQ E (fun _ : Unit => rI (apartG a b)) (fun _ => some (.int (zI (apartG a b)))) (fun _ => [])) (by decide) (Nat.le_of_ble_eq_true rfl) ?_
  intro p e s m args below meth c A ls Q H locs hx hb hr hlk hml hts hown hname hG hK hA hAN hP hD hR hRA hS hQ hl
  replace hown : s.vm.findClass RX3 = some m.cls := hown
  replace hl : lv_has ls 2 [(0, .int (zI (a))), (1, .int (zI (b)))] := hl
  replace hP : va_P (kD E) kcl [] H := hP
  replace hD : va_D A [] := hD
  refine lv_iload_n hx hb dX3_apart_0 rfl (lv_at hl 0 rfl) ?_
  refine lv_iload_n hx hb dX3_apart_1 rfl (lv_at hl 1 rfl) ?_
  refine kz_icmp_ge (tgt := 11) hx hb dX3_apart_2 (by decide) (by omega) (by omega) (fun c2 => ?_) (fun c2 => ?_)
  · skip
    refine lv_iload_n hx hb dX3_apart_11 rfl (lv_at hl 0 rfl) ?_
    refine lv_iload_n hx hb dX3_apart_12 rfl (lv_at hl 1 rfl) ?_
    refine kz_isub hx hb dX3_apart_13 ?_
    have e1 : (apartG a b : Int) = a - b := by unfold apartG; first | exact if_pos (by omega) | exact if_neg (by omega)
    exact kz_iret () hx hb hr hlk hP hD hS dX3_apart_14 (congrArg (fun z : Int => some (Value.int (zI z))) e1) (kz_r e1 (by omega)) rfl hQ (Nat.le_of_ble_eq_true rfl) (Nat.le_of_ble_eq_true rfl)
  · skip
    refine lv_iload_n hx hb dX3_apart_5 rfl (lv_at hl 1 rfl) ?_
    refine lv_iload_n hx hb dX3_apart_6 rfl (lv_at hl 0 rfl) ?_
    refine kz_isub hx hb dX3_apart_7 ?_
    refine lv_goto (tgt := 14) hx hb dX3_apart_8 (by decide) ?_
    have e1 : (apartG a b : Int) = b - a := by unfold apartG; first | exact if_pos (by omega) | exact if_neg (by omega)
    exact kz_iret () hx hb hr hlk hP hD hS dX3_apart_14 (congrArg (fun z : Int => some (Value.int (zI z))) e1) (kz_r e1 (by omega)) rfl hQ (Nat.le_of_ble_eq_true rfl) (Nat.le_of_ble_eq_true rfl)

set_option maxHeartbeats 4000000 in
set_option maxRecDepth 100000 in
theorem mX3_isAhead (l : Launch) (E : KE) (sz : Nat) (a : Int) (ra : rI a) : Met l yX3_isAhead (ws_ yX3_isAhead cX3_isAhead 1 (some .boolean)) (rmk 1 0 0 22) (va_Pc [.int (zI a)] (kP l E sz [] [])) (kQ E (fun _ : Unit => True) (fun _ => some (.int (zI (b2 (0 ≤ a ∧ a ≤ 29))))) (fun _ => []) (va_A [] sz)) 0 0 (va_A [] sz) := by
  refine kz_start (Qf := kQ E (fun _ : Unit => True) (fun _ => some (.int (zI (b2 (0 ≤ a ∧ a ≤ 29))))) (fun _ => [])) (by decide) (Nat.le_of_ble_eq_true rfl) ?_
  intro p e s m args below meth c A ls Q H locs hx hb hr hlk hml hts hown hname hG hK hA hAN hP hD hR hRA hS hQ hl
  replace hown : s.vm.findClass RX3 = some m.cls := hown
  replace hl : lv_has ls 1 [(0, .int (zI (a)))] := hl
  replace hP : va_P (kD E) kcl [] H := hP
  replace hD : va_D A [] := hD
  refine lv_iload_n hx hb dX3_isAhead_0 rfl (lv_at hl 0 rfl) ?_
  refine kz_iconst hx hb dX3_isAhead_1 ?_
  refine kz_bipush hx hb dX3_isAhead_2 (by decide) ?_
  refine kz_back (wc := []) (wx := []) (va_runS (As := [.int (zI (a)), .int (zI (0)), .int (zI (29))]) (rest := []) ⟨hx, hb, hml, hown, hts⟩ (mX3_in l E H.size a (by omega) 0 (by omega) 29 (by omega)) (va_cwS 3 hts (lw_S q2391 q2392 q83 q2393) rfl rfl rfl (by decide +kernel) ⟨(Nat.le_of_ble_eq_true rfl), (Nat.le_of_ble_eq_true rfl)⟩) (kz_pre (wc := []) (wx := []) hG hS hAN hP hD kz_nilP kz_nilA) rfl rfl hl.1 rfl (lv_room (Nat.le_of_ble_eq_true rfl)) dX3_isAhead_4 ⟨(Nat.le_of_ble_eq_true rfl), (Nat.le_of_ble_eq_true rfl)⟩) hP hD hS hA (fun u H9 locs9 hu hP9 hD9 hS9 hzz hkk => ?_)
  clear hzz hkk hP hD hS H locs u
  revert hS9 hD9 hP9 locs9 H9
  intro H locs hP hD hS
  clear hu
  replace hP : va_P (kD E) kcl [] H := hP
  replace hD : va_D A [] := hD
  show W p l e _ s m args below meth c H locs _ _ Q (F0 m 7 ls [.int (zI (b2 (0 ≤ a ∧ a ≤ 29)))])
  have e1 : b2 (0 ≤ a ∧ a ≤ 29) = b2 (0 ≤ a ∧ a ≤ 29) := b2_c (by first | exact Iff.rfl | omega)
  exact kz_zret () hx hb hr hlk hP hD hS dX3_isAhead_7 (congrArg (fun z : Int => some (Value.int (zI z))) e1) trivial rfl hQ (Nat.le_of_ble_eq_true rfl) (Nat.le_of_ble_eq_true rfl)

set_option maxHeartbeats 4000000 in
set_option maxRecDepth 100000 in
theorem mX3_isThrow (l : Launch) (E : KE) (sz : Nat) (a : Int) (ra : rI a) (b : Int) (rb : rI b) : Met l yX3_isThrow (ws_ yX3_isThrow cX3_isThrow 2 (some .boolean)) (rmk 1 0 0 22) (va_Pc [.int (zI a), .int (zI b)] (kP l E sz [] [])) (kQ E (fun _ : Unit => True) (fun _ => some (.int (zI (b2 (0 ≤ a ∧ a ≤ 90 ∧ 1 ≤ b ∧ b ≤ 20))))) (fun _ => []) (va_A [] sz)) 0 0 (va_A [] sz) := by
  refine kz_start (Qf := kQ E (fun _ : Unit => True) (fun _ => some (.int (zI (b2 (0 ≤ a ∧ a ≤ 90 ∧ 1 ≤ b ∧ b ≤ 20))))) (fun _ => [])) (by decide) (Nat.le_of_ble_eq_true rfl) ?_
  intro p e s m args below meth c A ls Q H locs hx hb hr hlk hml hts hown hname hG hK hA hAN hP hD hR hRA hS hQ hl
  replace hown : s.vm.findClass RX3 = some m.cls := hown
  replace hl : lv_has ls 2 [(0, .int (zI (a))), (1, .int (zI (b)))] := hl
  replace hP : va_P (kD E) kcl [] H := hP
  replace hD : va_D A [] := hD
  refine lv_iload_n hx hb dX3_isThrow_0 rfl (lv_at hl 0 rfl) ?_
  refine kz_iconst hx hb dX3_isThrow_1 ?_
  refine kz_bipush hx hb dX3_isThrow_2 (by decide) ?_
  refine kz_back (wc := []) (wx := []) (va_runS (As := [.int (zI (a)), .int (zI (0)), .int (zI (90))]) (rest := []) ⟨hx, hb, hml, hown, hts⟩ (mX3_in l E H.size a (by omega) 0 (by omega) 90 (by omega)) (va_cwS 3 hts (lw_S q2391 q2392 q83 q2393) rfl rfl rfl (by decide +kernel) ⟨(Nat.le_of_ble_eq_true rfl), (Nat.le_of_ble_eq_true rfl)⟩) (kz_pre (wc := []) (wx := []) hG hS hAN hP hD kz_nilP kz_nilA) rfl rfl hl.1 rfl (lv_room (Nat.le_of_ble_eq_true rfl)) dX3_isThrow_4 ⟨(Nat.le_of_ble_eq_true rfl), (Nat.le_of_ble_eq_true rfl)⟩) hP hD hS hA (fun u H9 locs9 hu hP9 hD9 hS9 hzz hkk => ?_)
  clear hzz hkk hP hD hS H locs u
  revert hS9 hD9 hP9 locs9 H9
  intro H locs hP hD hS
  clear hu
  replace hP : va_P (kD E) kcl [] H := hP
  replace hD : va_D A [] := hD
  show W p l e _ s m args below meth c H locs _ _ Q (F0 m 7 ls [.int (zI (b2 (0 ≤ a ∧ a ≤ 90)))])
  refine kz_if0B (tgt := 24) hx hb dX3_isThrow_7 (by decide) (fun c7 => ?_) (fun c7 => ?_)
  · skip
    refine kz_iconst hx hb dX3_isThrow_24 ?_
    have e1 : b2 (0 ≤ a ∧ a ≤ 90 ∧ 1 ≤ b ∧ b ≤ 20) = (0 : Int) := b2_f (by omega)
    exact kz_zNret () hx hb hr hlk hP hD hS dX3_isThrow_25 (by decide) (congrArg (fun z : Int => some (Value.int (zI z))) e1) trivial rfl hQ (Nat.le_of_ble_eq_true rfl) (Nat.le_of_ble_eq_true rfl)
  · skip
    refine lv_iload_n hx hb dX3_isThrow_10 rfl (lv_at hl 1 rfl) ?_
    refine kz_iconst hx hb dX3_isThrow_11 ?_
    refine kz_bipush hx hb dX3_isThrow_12 (by decide) ?_
    refine kz_back (wc := []) (wx := []) (va_runS (As := [.int (zI (b)), .int (zI (1)), .int (zI (20))]) (rest := []) ⟨hx, hb, hml, hown, hts⟩ (mX3_in l E H.size b (by omega) 1 (by omega) 20 (by omega)) (va_cwS 3 hts (lw_S q2391 q2392 q83 q2393) rfl rfl rfl (by decide +kernel) ⟨(Nat.le_of_ble_eq_true rfl), (Nat.le_of_ble_eq_true rfl)⟩) (kz_pre (wc := []) (wx := []) hG hS hAN hP hD kz_nilP kz_nilA) rfl rfl hl.1 rfl (lv_room (Nat.le_of_ble_eq_true rfl)) dX3_isThrow_14 ⟨(Nat.le_of_ble_eq_true rfl), (Nat.le_of_ble_eq_true rfl)⟩) hP hD hS hA (fun u H9 locs9 hu hP9 hD9 hS9 hzz hkk => ?_)
    clear hzz hkk hP hD hS H locs u
    revert hS9 hD9 hP9 locs9 H9
    intro H locs hP hD hS
    clear hu
    replace hP : va_P (kD E) kcl [] H := hP
    replace hD : va_D A [] := hD
    show W p l e _ s m args below meth c H locs _ _ Q (F0 m 17 ls [.int (zI (b2 (1 ≤ b ∧ b ≤ 20)))])
    refine kz_if0B (tgt := 24) hx hb dX3_isThrow_17 (by decide) (fun c17 => ?_) (fun c17 => ?_)
    · skip
      refine kz_iconst hx hb dX3_isThrow_24 ?_
      have e1 : b2 (0 ≤ a ∧ a ≤ 90 ∧ 1 ≤ b ∧ b ≤ 20) = (0 : Int) := b2_f (by omega)
      exact kz_zNret () hx hb hr hlk hP hD hS dX3_isThrow_25 (by decide) (congrArg (fun z : Int => some (Value.int (zI z))) e1) trivial rfl hQ (Nat.le_of_ble_eq_true rfl) (Nat.le_of_ble_eq_true rfl)
    · skip
      refine kz_iconst hx hb dX3_isThrow_20 ?_
      refine lv_goto (tgt := 25) hx hb dX3_isThrow_21 (by decide) ?_
      have e1 : b2 (0 ≤ a ∧ a ≤ 90 ∧ 1 ≤ b ∧ b ≤ 20) = (1 : Int) := b2_t (by omega)
      exact kz_zNret () hx hb hr hlk hP hD hS dX3_isThrow_25 (by decide) (congrArg (fun z : Int => some (Value.int (zI z))) e1) trivial rfl hQ (Nat.le_of_ble_eq_true rfl) (Nat.le_of_ble_eq_true rfl)

set_option maxHeartbeats 4000000 in
set_option maxRecDepth 100000 in
theorem mX3_thrown (l : Launch) (E : KE) (sz : Nat) (Ad : Nat → Nat) (S : St) (hM : MOk S) : Met l yX3_thrown (ws_ yX3_thrown cX3_thrown 1 (some .int)) (rmk 0 0 0 0) (va_Pc [.ref (Ad 0)] (kP l E sz (mW E Ad S) [])) (kQ E (fun _ : Unit => rI (S 7 7)) (fun _ => some (.int (zI (S 7 7)))) (fun _ => (mW E Ad S)) (va_A (mW E Ad S) sz)) 0 0 (va_A (mW E Ad S) sz) := by
  refine kz_start (Qf := kQ E (fun _ : Unit => rI (S 7 7)) (fun _ => some (.int (zI (S 7 7)))) (fun _ => (mW E Ad S))) (by decide) (Nat.le_of_ble_eq_true rfl) ?_
  intro p e s m args below meth c A ls Q H locs hx hb hr hlk hml hts hown hname hG hK hA hAN hP hD hR hRA hS hQ hl
  replace hown : s.vm.findClass RX3 = some m.cls := hown
  replace hl : lv_has ls 1 [(0, .ref (Ad 0))] := hl
  replace hP : va_P (kD E) kcl (mW E Ad (S)) H := hP
  replace hD : va_D A (mW E Ad (S)) := hD
  refine lv_aload_n hx hb dX3_thrown_0 rfl (lv_at hl 0 rfl) ?_
  have r1 : rI (S 7 7) := hM 7 7
  refine va_get (D := kD E) (ci := 2) (fs := mO Ad (S)) (v := .int (zI (S 7 7))) (C := RX3) (T := TX3) (N := 19) hx hb hts in_X3 hown hK hP 0 rfl rfl 7 (by decide) (hts _ q2327) (fun _ h9 => h9) rfl dX3_thrown_1 ?_
  have e1 : (S 7 7 : Int) = S 7 7 := by first | rfl | omega
  exact kz_iret () hx hb hr hlk hP hD hS dX3_thrown_4 (congrArg (fun z : Int => some (Value.int (zI z))) e1) (kz_r e1 (by omega)) rfl hQ (Nat.le_of_ble_eq_true rfl) (Nat.le_of_ble_eq_true rfl)

set_option maxHeartbeats 4000000 in
set_option maxRecDepth 100000 in
theorem mX3_fails (l : Launch) (E : KE) (sz : Nat) (Ad : Nat → Nat) (S : St) (hM : MOk S) (place : Int) (rplace : rI place) : Met l yX3_fails (ws_ yX3_fails cX3_fails 2 (some .boolean)) (rmk 0 0 0 0) (va_Pc [.ref (Ad 0), .int (zI place)] (kP l E sz (mW E Ad S) [])) (kQ E (fun _ : Unit => MOk (put S 7 7 place)) (fun _ => some (.int (zI (b2 (0 < place))))) (fun _ => (mW E Ad (put S 7 7 place))) (va_A (mW E Ad S) sz)) 0 0 (va_A (mW E Ad S) sz) := by
  refine kz_start (Qf := kQ E (fun _ : Unit => MOk (put S 7 7 place)) (fun _ => some (.int (zI (b2 (0 < place))))) (fun _ => (mW E Ad (put S 7 7 place)))) (by decide) (Nat.le_of_ble_eq_true rfl) ?_
  intro p e s m args below meth c A ls Q H locs hx hb hr hlk hml hts hown hname hG hK hA hAN hP hD hR hRA hS hQ hl
  replace hown : s.vm.findClass RX3 = some m.cls := hown
  replace hl : lv_has ls 2 [(0, .ref (Ad 0)), (1, .int (zI (place)))] := hl
  replace hP : va_P (kD E) kcl (mW E Ad (S)) H := hP
  replace hD : va_D A (mW E Ad (S)) := hD
  refine lv_aload_n hx hb dX3_fails_0 rfl (lv_at hl 0 rfl) ?_
  refine lv_iload_n hx hb dX3_fails_1 rfl (lv_at hl 1 rfl) ?_
  refine va_put (D := kD E) (ci := 2) (fs := mO Ad (S)) (v := .int (zI (place))) (ty := .int) (C := RX3) (T := TX3) (N := 19) hx hb hts in_X3 tyX3 tyX3_ok nmX3 hown hK hP hD hS 0 rfl rfl 7 (by decide) (hts _ q2327) (fun _ h9 => h9) rfl (by decide +kernel) rfl rfl (Nat.le_of_ble_eq_true rfl) dX3_fails_2 (fun H9 locs9 hP9 hD9 hS9 => ?_)
  rw [mW_f7] at hP9 hD9
  clear hP hD hS H locs
  revert hS9 hD9 hP9 locs9 H9
  intro H locs hP hD hS
  replace hP : va_P (kD E) kcl (mW E Ad (put S 7 7 place)) H := hP
  replace hD : va_D A (mW E Ad (put S 7 7 place)) := hD
  replace hM : MOk (put S 7 7 place) := hM.put 7 7 (by omega)
  refine lv_iload_n hx hb dX3_fails_5 rfl (lv_at hl 1 rfl) ?_
  refine kz_if_le (tgt := 13) hx hb dX3_fails_6 (by decide) (by omega) (fun c6 => ?_) (fun c6 => ?_)
  · skip
    refine kz_iconst hx hb dX3_fails_13 ?_
    have e1 : b2 (0 < place) = (0 : Int) := b2_f (by omega)
    have e3 : put S 7 7 place = put S 7 7 place := by rfl
    exact kz_zNret () hx hb hr hlk hP hD hS dX3_fails_14 (by decide) (congrArg (fun z : Int => some (Value.int (zI z))) e1) (kz_M e3 hM) (congrArg (mW E Ad) e3) hQ (Nat.le_of_ble_eq_true rfl) (Nat.le_of_ble_eq_true rfl)
  · skip
    refine kz_iconst hx hb dX3_fails_9 ?_
    refine lv_goto (tgt := 14) hx hb dX3_fails_10 (by decide) ?_
    have e1 : b2 (0 < place) = (1 : Int) := b2_t (by omega)
    have e3 : put S 7 7 place = put S 7 7 place := by rfl
    exact kz_zNret () hx hb hr hlk hP hD hS dX3_fails_14 (by decide) (congrArg (fun z : Int => some (Value.int (zI z))) e1) (kz_M e3 hM) (congrArg (mW E Ad) e3) hQ (Nat.le_of_ble_eq_true rfl) (Nat.le_of_ble_eq_true rfl)

set_option maxHeartbeats 4000000 in
set_option maxRecDepth 100000 in
theorem mX3_refuses (l : Launch) (E : KE) (sz : Nat) (Ad : Nat → Nat) (S : St) (hM : MOk S) (place : Int) (rplace : rI place) (why : Int) (rwhy : rI why) (of : Int) (rof : rI of) : Met l yX3_refuses (ws_ yX3_refuses cX3_refuses 4 (some .int)) (rmk 0 0 0 0) (va_Pc [.ref (Ad 0), .int (zI place), .int (zI why), .int (zI of)] (kP l E sz (mW E Ad S) [])) (kQ E (fun _ : Unit => rI (0) ∧ MOk (put (put (put S 7 7 place) 7 8 why) 7 9 of)) (fun _ => some (.int (zI (0)))) (fun _ => (mW E Ad (put (put (put S 7 7 place) 7 8 why) 7 9 of))) (va_A (mW E Ad S) sz)) 0 0 (va_A (mW E Ad S) sz) := by
  refine kz_start (Qf := kQ E (fun _ : Unit => rI (0) ∧ MOk (put (put (put S 7 7 place) 7 8 why) 7 9 of)) (fun _ => some (.int (zI (0)))) (fun _ => (mW E Ad (put (put (put S 7 7 place) 7 8 why) 7 9 of)))) (by decide) (Nat.le_of_ble_eq_true rfl) ?_
  intro p e s m args below meth c A ls Q H locs hx hb hr hlk hml hts hown hname hG hK hA hAN hP hD hR hRA hS hQ hl
  replace hown : s.vm.findClass RX3 = some m.cls := hown
  replace hl : lv_has ls 4 [(0, .ref (Ad 0)), (1, .int (zI (place))), (2, .int (zI (why))), (3, .int (zI (of)))] := hl
  replace hP : va_P (kD E) kcl (mW E Ad (S)) H := hP
  replace hD : va_D A (mW E Ad (S)) := hD
  refine lv_aload_n hx hb dX3_refuses_0 rfl (lv_at hl 0 rfl) ?_
  refine lv_iload_n hx hb dX3_refuses_1 rfl (lv_at hl 1 rfl) ?_
  refine va_put (D := kD E) (ci := 2) (fs := mO Ad (S)) (v := .int (zI (place))) (ty := .int) (C := RX3) (T := TX3) (N := 19) hx hb hts in_X3 tyX3 tyX3_ok nmX3 hown hK hP hD hS 0 rfl rfl 7 (by decide) (hts _ q2327) (fun _ h9 => h9) rfl (by decide +kernel) rfl rfl (Nat.le_of_ble_eq_true rfl) dX3_refuses_2 (fun H9 locs9 hP9 hD9 hS9 => ?_)
  rw [mW_f7] at hP9 hD9
  clear hP hD hS H locs
  revert hS9 hD9 hP9 locs9 H9
  intro H locs hP hD hS
  replace hP : va_P (kD E) kcl (mW E Ad (put S 7 7 place)) H := hP
  replace hD : va_D A (mW E Ad (put S 7 7 place)) := hD
  replace hM : MOk (put S 7 7 place) := hM.put 7 7 (by omega)
  refine lv_aload_n hx hb dX3_refuses_5 rfl (lv_at hl 0 rfl) ?_
  refine lv_iload_n hx hb dX3_refuses_6 rfl (lv_at hl 2 rfl) ?_
  refine va_put (D := kD E) (ci := 2) (fs := mO Ad (put S 7 7 place)) (v := .int (zI (why))) (ty := .int) (C := RX3) (T := TX3) (N := 19) hx hb hts in_X3 tyX3 tyX3_ok nmX3 hown hK hP hD hS 0 rfl rfl 8 (by decide) (hts _ q2328) (fun _ h9 => h9) rfl (by decide +kernel) rfl rfl (Nat.le_of_ble_eq_true rfl) dX3_refuses_7 (fun H9 locs9 hP9 hD9 hS9 => ?_)
  rw [mW_f8] at hP9 hD9
  clear hP hD hS H locs
  revert hS9 hD9 hP9 locs9 H9
  intro H locs hP hD hS
  replace hP : va_P (kD E) kcl (mW E Ad (put (put S 7 7 place) 7 8 why)) H := hP
  replace hD : va_D A (mW E Ad (put (put S 7 7 place) 7 8 why)) := hD
  replace hM : MOk (put (put S 7 7 place) 7 8 why) := hM.put 7 8 (by omega)
  refine lv_aload_n hx hb dX3_refuses_10 rfl (lv_at hl 0 rfl) ?_
  refine lv_iload_n hx hb dX3_refuses_11 rfl (lv_at hl 3 rfl) ?_
  refine va_put (D := kD E) (ci := 2) (fs := mO Ad (put (put S 7 7 place) 7 8 why)) (v := .int (zI (of))) (ty := .int) (C := RX3) (T := TX3) (N := 19) hx hb hts in_X3 tyX3 tyX3_ok nmX3 hown hK hP hD hS 0 rfl rfl 9 (by decide) (hts _ q2329) (fun _ h9 => h9) rfl (by decide +kernel) rfl rfl (Nat.le_of_ble_eq_true rfl) dX3_refuses_12 (fun H9 locs9 hP9 hD9 hS9 => ?_)
  rw [mW_f9] at hP9 hD9
  clear hP hD hS H locs
  revert hS9 hD9 hP9 locs9 H9
  intro H locs hP hD hS
  replace hP : va_P (kD E) kcl (mW E Ad (put (put (put S 7 7 place) 7 8 why) 7 9 of)) H := hP
  replace hD : va_D A (mW E Ad (put (put (put S 7 7 place) 7 8 why) 7 9 of)) := hD
  replace hM : MOk (put (put (put S 7 7 place) 7 8 why) 7 9 of) := hM.put 7 9 (by omega)
  refine kz_iconst hx hb dX3_refuses_15 ?_
  have e1 : (0 : Int) = 0 := by first | rfl | omega
  have e3 : put (put (put S 7 7 place) 7 8 why) 7 9 of = put (put (put S 7 7 place) 7 8 why) 7 9 of := by rfl
  exact kz_iret () hx hb hr hlk hP hD hS dX3_refuses_16 (congrArg (fun z : Int => some (Value.int (zI z))) e1) ⟨(kz_r e1 (by omega)), (kz_M e3 hM)⟩ (congrArg (mW E Ad) e3) hQ (Nat.le_of_ble_eq_true rfl) (Nat.le_of_ble_eq_true rfl)

set_option maxHeartbeats 4000000 in
set_option maxRecDepth 100000 in
theorem mX3_of (l : Launch) (E : KE) (sz : Nat) (Ad : Nat → Nat) (S : St) (hM : MOk S) (stone : Int) (rstone : rI stone) (what : Int) (rwhat : rI what) (hst : 0 ≤ stone ∧ stone < 10) (hwh : 0 ≤ what ∧ what < 14) : Met l yX3_of (ws_ yX3_of cX3_of 3 (some .int)) (rmk 0 0 0 0) (va_Pc [.ref (Ad 0), .int (zI stone), .int (zI what)] (kP l E sz (mW E Ad S) [])) (kQ E (fun _ : Unit => rI (S 0 (10 + 14 * stone + what))) (fun _ => some (.int (zI (S 0 (10 + 14 * stone + what))))) (fun _ => (mW E Ad S)) (va_A (mW E Ad S) sz)) 0 0 (va_A (mW E Ad S) sz) := by
  refine kz_start (Qf := kQ E (fun _ : Unit => rI (S 0 (10 + 14 * stone + what))) (fun _ => some (.int (zI (S 0 (10 + 14 * stone + what))))) (fun _ => (mW E Ad S))) (by decide) (Nat.le_of_ble_eq_true rfl) ?_
  intro p e s m args below meth c A ls Q H locs hx hb hr hlk hml hts hown hname hG hK hA hAN hP hD hR hRA hS hQ hl
  replace hown : s.vm.findClass RX3 = some m.cls := hown
  replace hl : lv_has ls 3 [(0, .ref (Ad 0)), (1, .int (zI (stone))), (2, .int (zI (what)))] := hl
  replace hP : va_P (kD E) kcl (mW E Ad (S)) H := hP
  replace hD : va_D A (mW E Ad (S)) := hD
  refine lv_aload_n hx hb dX3_of_0 rfl (lv_at hl 0 rfl) ?_
  refine va_get (D := kD E) (ci := 2) (fs := mO Ad (S)) (v := .ref (Ad 1)) (C := RX3) (T := TX3) (N := 19) hx hb hts in_X3 hown hK hP 0 rfl rfl 0 (by decide) (hts _ q2320) (fun _ h9 => h9) rfl dX3_of_1 ?_
  refine kz_bipush hx hb dX3_of_4 (by decide) ?_
  refine kz_bipush hx hb dX3_of_6 (by decide) ?_
  refine lv_iload_n hx hb dX3_of_8 rfl (lv_at hl 1 rfl) ?_
  refine kz_imul hx hb dX3_of_9 ?_
  refine kz_iadd hx hb dX3_of_10 ?_
  refine lv_iload_n hx hb dX3_of_11 rfl (lv_at hl 2 rfl) ?_
  refine kz_iadd hx hb dX3_of_12 ?_
  refine kz_iald (cA := kA E 0) (n := 304) (g := S 0) hx hb hK hP 1 0 rfl rfl (by omega) dX3_of_13 ?_
  have r1 : rI (S 0 ((10 + (14 * stone)) + what)) := hM 0 ((10 + (14 * stone)) + what)
  have e1 : (S 0 (10 + 14 * stone + what) : Int) = S 0 ((10 + (14 * stone)) + what) := by first | rfl | omega
  exact kz_iret () hx hb hr hlk hP hD hS dX3_of_14 (congrArg (fun z : Int => some (Value.int (zI z))) e1) (kz_r e1 (by omega)) rfl hQ (Nat.le_of_ble_eq_true rfl) (Nat.le_of_ble_eq_true rfl)

set_option maxHeartbeats 4000000 in
set_option maxRecDepth 100000 in
theorem mX3_lays (l : Launch) (E : KE) (sz : Nat) (Ad : Nat → Nat) (S : St) (hM : MOk S) (stone : Int) (rstone : rI stone) (what : Int) (rwhat : rI what) (v : Int) (rv : rI v) (hst : 0 ≤ stone ∧ stone < 10) (hwh : 0 ≤ what ∧ what < 14) : Met l yX3_lays (ws_ yX3_lays cX3_lays 4 none) (rmk 0 0 0 0) (va_Pc [.ref (Ad 0), .int (zI stone), .int (zI what), .int (zI v)] (kP l E sz (mW E Ad S) [])) (kQ E (fun _ : Unit => MOk (put S 0 (10 + 14 * stone + what) v)) (fun _ => none) (fun _ => (mW E Ad (put S 0 (10 + 14 * stone + what) v))) (va_A (mW E Ad S) sz)) 0 0 (va_A (mW E Ad S) sz) := by
  refine kz_start (Qf := kQ E (fun _ : Unit => MOk (put S 0 (10 + 14 * stone + what) v)) (fun _ => none) (fun _ => (mW E Ad (put S 0 (10 + 14 * stone + what) v)))) (by decide) (Nat.le_of_ble_eq_true rfl) ?_
  intro p e s m args below meth c A ls Q H locs hx hb hr hlk hml hts hown hname hG hK hA hAN hP hD hR hRA hS hQ hl
  replace hown : s.vm.findClass RX3 = some m.cls := hown
  replace hl : lv_has ls 4 [(0, .ref (Ad 0)), (1, .int (zI (stone))), (2, .int (zI (what))), (3, .int (zI (v)))] := hl
  replace hP : va_P (kD E) kcl (mW E Ad (S)) H := hP
  replace hD : va_D A (mW E Ad (S)) := hD
  refine lv_aload_n hx hb dX3_lays_0 rfl (lv_at hl 0 rfl) ?_
  refine va_get (D := kD E) (ci := 2) (fs := mO Ad (S)) (v := .ref (Ad 1)) (C := RX3) (T := TX3) (N := 19) hx hb hts in_X3 hown hK hP 0 rfl rfl 0 (by decide) (hts _ q2320) (fun _ h9 => h9) rfl dX3_lays_1 ?_
  refine kz_bipush hx hb dX3_lays_4 (by decide) ?_
  refine kz_bipush hx hb dX3_lays_6 (by decide) ?_
  refine lv_iload_n hx hb dX3_lays_8 rfl (lv_at hl 1 rfl) ?_
  refine kz_imul hx hb dX3_lays_9 ?_
  refine kz_iadd hx hb dX3_lays_10 ?_
  refine lv_iload_n hx hb dX3_lays_11 rfl (lv_at hl 2 rfl) ?_
  refine kz_iadd hx hb dX3_lays_12 ?_
  refine lv_iload_n hx hb dX3_lays_13 rfl (lv_at hl 3 rfl) ?_
  refine kz_iast (cA := kA E 0) (n := 304) (g := S 0) hx hb hK hP hD hS 1 0 rfl rfl (by omega) dX3_lays_14 (fun H9 locs9 hP9 hD9 hS9 => ?_)
  rw [mW_a0] at hP9 hD9
  clear hP hD hS H locs
  revert hS9 hD9 hP9 locs9 H9
  intro H locs hP hD hS
  replace hP : va_P (kD E) kcl (mW E Ad (put S 0 ((10 + (14 * stone)) + what) v)) H := hP
  replace hD : va_D A (mW E Ad (put S 0 ((10 + (14 * stone)) + what) v)) := hD
  replace hM : MOk (put S 0 ((10 + (14 * stone)) + what) v) := hM.put 0 _ (by omega)
  have e3 : put S 0 (10 + 14 * stone + what) v = put S 0 ((10 + (14 * stone)) + what) v := by rfl
  exact kz_vret () hx hb hr hlk hP hD hS dX3_lays_15 rfl (kz_M e3 hM) (congrArg (mW E Ad) e3) hQ (Nat.le_of_ble_eq_true rfl) (Nat.le_of_ble_eq_true rfl)

set_option maxHeartbeats 4000000 in
set_option maxRecDepth 100000 in
theorem mX3_its (l : Launch) (E : KE) (sz : Nat) (Ad : Nat → Nat) (S : St) (hM : MOk S) (river : Int) (rriver : rI river) (what : Int) (rwhat : rI what) (hst : 0 ≤ river ∧ river < 4) (hwh : 0 ≤ what ∧ what < 6) : Met l yX3_its (ws_ yX3_its cX3_its 3 (some .int)) (rmk 0 0 0 0) (va_Pc [.ref (Ad 0), .int (zI river), .int (zI what)] (kP l E sz (mW E Ad S) [])) (kQ E (fun _ : Unit => rI (S 0 (150 + 6 * river + what))) (fun _ => some (.int (zI (S 0 (150 + 6 * river + what))))) (fun _ => (mW E Ad S)) (va_A (mW E Ad S) sz)) 0 0 (va_A (mW E Ad S) sz) := by
  refine kz_start (Qf := kQ E (fun _ : Unit => rI (S 0 (150 + 6 * river + what))) (fun _ => some (.int (zI (S 0 (150 + 6 * river + what))))) (fun _ => (mW E Ad S))) (by decide) (Nat.le_of_ble_eq_true rfl) ?_
  intro p e s m args below meth c A ls Q H locs hx hb hr hlk hml hts hown hname hG hK hA hAN hP hD hR hRA hS hQ hl
  replace hown : s.vm.findClass RX3 = some m.cls := hown
  replace hl : lv_has ls 3 [(0, .ref (Ad 0)), (1, .int (zI (river))), (2, .int (zI (what)))] := hl
  replace hP : va_P (kD E) kcl (mW E Ad (S)) H := hP
  replace hD : va_D A (mW E Ad (S)) := hD
  refine lv_aload_n hx hb dX3_its_0 rfl (lv_at hl 0 rfl) ?_
  refine va_get (D := kD E) (ci := 2) (fs := mO Ad (S)) (v := .ref (Ad 1)) (C := RX3) (T := TX3) (N := 19) hx hb hts in_X3 hown hK hP 0 rfl rfl 0 (by decide) (hts _ q2320) (fun _ h9 => h9) rfl dX3_its_1 ?_
  refine kz_sipush hx hb dX3_its_4 (by decide) ?_
  refine kz_bipush hx hb dX3_its_7 (by decide) ?_
  refine lv_iload_n hx hb dX3_its_9 rfl (lv_at hl 1 rfl) ?_
  refine kz_imul hx hb dX3_its_10 ?_
  refine kz_iadd hx hb dX3_its_11 ?_
  refine lv_iload_n hx hb dX3_its_12 rfl (lv_at hl 2 rfl) ?_
  refine kz_iadd hx hb dX3_its_13 ?_
  refine kz_iald (cA := kA E 0) (n := 304) (g := S 0) hx hb hK hP 1 0 rfl rfl (by omega) dX3_its_14 ?_
  have r1 : rI (S 0 ((150 + (6 * river)) + what)) := hM 0 ((150 + (6 * river)) + what)
  have e1 : (S 0 (150 + 6 * river + what) : Int) = S 0 ((150 + (6 * river)) + what) := by first | rfl | omega
  exact kz_iret () hx hb hr hlk hP hD hS dX3_its_15 (congrArg (fun z : Int => some (Value.int (zI z))) e1) (kz_r e1 (by omega)) rfl hQ (Nat.le_of_ble_eq_true rfl) (Nat.le_of_ble_eq_true rfl)

set_option maxHeartbeats 4000000 in
set_option maxRecDepth 100000 in
theorem mX3_bookedFor (l : Launch) (E : KE) (sz : Nat) (Ad : Nat → Nat) (S : St) (hM : MOk S) (river : Int) (rriver : rI river) (ahead : Int) (rahead : rI ahead) (hst : 0 ≤ river ∧ river < 4) (hwh : 0 ≤ ahead ∧ ahead < 30) : Met l yX3_bookedFor (ws_ yX3_bookedFor cX3_bookedFor 3 (some .int)) (rmk 0 0 0 0) (va_Pc [.ref (Ad 0), .int (zI river), .int (zI ahead)] (kP l E sz (mW E Ad S) [])) (kQ E (fun _ : Unit => rI (S 0 (174 + 30 * river + ahead))) (fun _ => some (.int (zI (S 0 (174 + 30 * river + ahead))))) (fun _ => (mW E Ad S)) (va_A (mW E Ad S) sz)) 0 0 (va_A (mW E Ad S) sz) := by
  refine kz_start (Qf := kQ E (fun _ : Unit => rI (S 0 (174 + 30 * river + ahead))) (fun _ => some (.int (zI (S 0 (174 + 30 * river + ahead))))) (fun _ => (mW E Ad S))) (by decide) (Nat.le_of_ble_eq_true rfl) ?_
  intro p e s m args below meth c A ls Q H locs hx hb hr hlk hml hts hown hname hG hK hA hAN hP hD hR hRA hS hQ hl
  replace hown : s.vm.findClass RX3 = some m.cls := hown
  replace hl : lv_has ls 3 [(0, .ref (Ad 0)), (1, .int (zI (river))), (2, .int (zI (ahead)))] := hl
  replace hP : va_P (kD E) kcl (mW E Ad (S)) H := hP
  replace hD : va_D A (mW E Ad (S)) := hD
  refine lv_aload_n hx hb dX3_bookedFor_0 rfl (lv_at hl 0 rfl) ?_
  refine va_get (D := kD E) (ci := 2) (fs := mO Ad (S)) (v := .ref (Ad 1)) (C := RX3) (T := TX3) (N := 19) hx hb hts in_X3 hown hK hP 0 rfl rfl 0 (by decide) (hts _ q2320) (fun _ h9 => h9) rfl dX3_bookedFor_1 ?_
  refine kz_sipush hx hb dX3_bookedFor_4 (by decide) ?_
  refine kz_bipush hx hb dX3_bookedFor_7 (by decide) ?_
  refine lv_iload_n hx hb dX3_bookedFor_9 rfl (lv_at hl 1 rfl) ?_
  refine kz_imul hx hb dX3_bookedFor_10 ?_
  refine kz_iadd hx hb dX3_bookedFor_11 ?_
  refine lv_iload_n hx hb dX3_bookedFor_12 rfl (lv_at hl 2 rfl) ?_
  refine kz_iadd hx hb dX3_bookedFor_13 ?_
  refine kz_iald (cA := kA E 0) (n := 304) (g := S 0) hx hb hK hP 1 0 rfl rfl (by omega) dX3_bookedFor_14 ?_
  have r1 : rI (S 0 ((174 + (30 * river)) + ahead)) := hM 0 ((174 + (30 * river)) + ahead)
  have e1 : (S 0 (174 + 30 * river + ahead) : Int) = S 0 ((174 + (30 * river)) + ahead) := by first | rfl | omega
  exact kz_iret () hx hb hr hlk hP hD hS dX3_bookedFor_15 (congrArg (fun z : Int => some (Value.int (zI z))) e1) (kz_r e1 (by omega)) rfl hQ (Nat.le_of_ble_eq_true rfl) (Nat.le_of_ble_eq_true rfl)

set_option maxHeartbeats 4000000 in
set_option maxRecDepth 100000 in
theorem mX3_isStone (l : Launch) (E : KE) (sz : Nat) (Ad : Nat → Nat) (S : St) (hM : MOk S) (stone : Int) (rstone : rI stone) (g0 : 0 ≤ S 0 0 ∧ S 0 0 ≤ 10) : Met l yX3_isStone (ws_ yX3_isStone cX3_isStone 2 (some .boolean)) (rmk 1 0 0 22) (va_Pc [.ref (Ad 0), .int (zI stone)] (kP l E sz (mW E Ad S) [])) (kQ E (fun _ : Unit => True) (fun _ => some (.int (zI (b2 (0 ≤ stone ∧ stone ≤ S 0 0 - 1))))) (fun _ => (mW E Ad S)) (va_A (mW E Ad S) sz)) 0 0 (va_A (mW E Ad S) sz) := by
  refine kz_start (Qf := kQ E (fun _ : Unit => True) (fun _ => some (.int (zI (b2 (0 ≤ stone ∧ stone ≤ S 0 0 - 1))))) (fun _ => (mW E Ad S))) (by decide) (Nat.le_of_ble_eq_true rfl) ?_
  intro p e s m args below meth c A ls Q H locs hx hb hr hlk hml hts hown hname hG hK hA hAN hP hD hR hRA hS hQ hl
  replace hown : s.vm.findClass RX3 = some m.cls := hown
  replace hl : lv_has ls 2 [(0, .ref (Ad 0)), (1, .int (zI (stone)))] := hl
  replace hP : va_P (kD E) kcl (mW E Ad (S)) H := hP
  replace hD : va_D A (mW E Ad (S)) := hD
  refine lv_iload_n hx hb dX3_isStone_0 rfl (lv_at hl 1 rfl) ?_
  refine kz_iconst hx hb dX3_isStone_1 ?_
  refine lv_aload_n hx hb dX3_isStone_2 rfl (lv_at hl 0 rfl) ?_
  refine va_get (D := kD E) (ci := 2) (fs := mO Ad (S)) (v := .ref (Ad 1)) (C := RX3) (T := TX3) (N := 19) hx hb hts in_X3 hown hK hP 0 rfl rfl 0 (by decide) (hts _ q2320) (fun _ h9 => h9) rfl dX3_isStone_3 ?_
  refine kz_iconst hx hb dX3_isStone_6 ?_
  refine kz_iald (cA := kA E 0) (n := 304) (g := S 0) hx hb hK hP 1 0 rfl rfl (by omega) dX3_isStone_7 ?_
  have r1 : rI (S 0 0) := hM 0 0
  refine kz_iconst hx hb dX3_isStone_8 ?_
  refine kz_isub hx hb dX3_isStone_9 ?_
  refine kz_back (wc := []) (wx := (mW E Ad (S))) (va_runS (As := [.int (zI (stone)), .int (zI (0)), .int (zI ((S 0 0) - 1))]) (rest := []) ⟨hx, hb, hml, hown, hts⟩ (mX3_in l E H.size stone (by omega) 0 (by omega) ((S 0 0) - 1) (by omega)) (va_cwS 3 hts (lw_S q2391 q2392 q83 q2393) rfl rfl rfl (by decide +kernel) ⟨(Nat.le_of_ble_eq_true rfl), (Nat.le_of_ble_eq_true rfl)⟩) (kz_pre (wc := []) (wx := (mW E Ad (S))) hG hS hAN hP hD kz_nilP kz_nilA) rfl rfl hl.1 rfl (lv_room (Nat.le_of_ble_eq_true rfl)) dX3_isStone_10 ⟨(Nat.le_of_ble_eq_true rfl), (Nat.le_of_ble_eq_true rfl)⟩) hP hD hS hA (fun u H9 locs9 hu hP9 hD9 hS9 hzz hkk => ?_)
  clear hzz hkk hP hD hS H locs u
  revert hS9 hD9 hP9 locs9 H9
  intro H locs hP hD hS
  clear hu
  replace hP : va_P (kD E) kcl (mW E Ad (S)) H := hP
  replace hD : va_D A (mW E Ad (S)) := hD
  show W p l e _ s m args below meth c H locs _ _ Q (F0 m 13 ls [.int (zI (b2 (0 ≤ stone ∧ stone ≤ ((S 0 0) - 1))))])
  have e1 : b2 (0 ≤ stone ∧ stone ≤ S 0 0 - 1) = b2 (0 ≤ stone ∧ stone ≤ ((S 0 0) - 1)) := b2_c (by first | exact Iff.rfl | omega)
  exact kz_zret () hx hb hr hlk hP hD hS dX3_isStone_13 (congrArg (fun z : Int => some (Value.int (zI z))) e1) trivial rfl hQ (Nat.le_of_ble_eq_true rfl) (Nat.le_of_ble_eq_true rfl)

set_option maxHeartbeats 4000000 in
set_option maxRecDepth 100000 in
theorem mX3_isRiver (l : Launch) (E : KE) (sz : Nat) (Ad : Nat → Nat) (S : St) (hM : MOk S) (river : Int) (rriver : rI river) (g1 : 0 ≤ S 0 1 ∧ S 0 1 ≤ 4) : Met l yX3_isRiver (ws_ yX3_isRiver cX3_isRiver 2 (some .boolean)) (rmk 1 0 0 22) (va_Pc [.ref (Ad 0), .int (zI river)] (kP l E sz (mW E Ad S) [])) (kQ E (fun _ : Unit => True) (fun _ => some (.int (zI (b2 (0 ≤ river ∧ river ≤ S 0 1 - 1))))) (fun _ => (mW E Ad S)) (va_A (mW E Ad S) sz)) 0 0 (va_A (mW E Ad S) sz) := by
  refine kz_start (Qf := kQ E (fun _ : Unit => True) (fun _ => some (.int (zI (b2 (0 ≤ river ∧ river ≤ S 0 1 - 1))))) (fun _ => (mW E Ad S))) (by decide) (Nat.le_of_ble_eq_true rfl) ?_
  intro p e s m args below meth c A ls Q H locs hx hb hr hlk hml hts hown hname hG hK hA hAN hP hD hR hRA hS hQ hl
  replace hown : s.vm.findClass RX3 = some m.cls := hown
  replace hl : lv_has ls 2 [(0, .ref (Ad 0)), (1, .int (zI (river)))] := hl
  replace hP : va_P (kD E) kcl (mW E Ad (S)) H := hP
  replace hD : va_D A (mW E Ad (S)) := hD
  refine lv_iload_n hx hb dX3_isRiver_0 rfl (lv_at hl 1 rfl) ?_
  refine kz_iconst hx hb dX3_isRiver_1 ?_
  refine lv_aload_n hx hb dX3_isRiver_2 rfl (lv_at hl 0 rfl) ?_
  refine va_get (D := kD E) (ci := 2) (fs := mO Ad (S)) (v := .ref (Ad 1)) (C := RX3) (T := TX3) (N := 19) hx hb hts in_X3 hown hK hP 0 rfl rfl 0 (by decide) (hts _ q2320) (fun _ h9 => h9) rfl dX3_isRiver_3 ?_
  refine kz_iconst hx hb dX3_isRiver_6 ?_
  refine kz_iald (cA := kA E 0) (n := 304) (g := S 0) hx hb hK hP 1 0 rfl rfl (by omega) dX3_isRiver_7 ?_
  have r1 : rI (S 0 1) := hM 0 1
  refine kz_iconst hx hb dX3_isRiver_8 ?_
  refine kz_isub hx hb dX3_isRiver_9 ?_
  refine kz_back (wc := []) (wx := (mW E Ad (S))) (va_runS (As := [.int (zI (river)), .int (zI (0)), .int (zI ((S 0 1) - 1))]) (rest := []) ⟨hx, hb, hml, hown, hts⟩ (mX3_in l E H.size river (by omega) 0 (by omega) ((S 0 1) - 1) (by omega)) (va_cwS 3 hts (lw_S q2391 q2392 q83 q2393) rfl rfl rfl (by decide +kernel) ⟨(Nat.le_of_ble_eq_true rfl), (Nat.le_of_ble_eq_true rfl)⟩) (kz_pre (wc := []) (wx := (mW E Ad (S))) hG hS hAN hP hD kz_nilP kz_nilA) rfl rfl hl.1 rfl (lv_room (Nat.le_of_ble_eq_true rfl)) dX3_isRiver_10 ⟨(Nat.le_of_ble_eq_true rfl), (Nat.le_of_ble_eq_true rfl)⟩) hP hD hS hA (fun u H9 locs9 hu hP9 hD9 hS9 hzz hkk => ?_)
  clear hzz hkk hP hD hS H locs u
  revert hS9 hD9 hP9 locs9 H9
  intro H locs hP hD hS
  clear hu
  replace hP : va_P (kD E) kcl (mW E Ad (S)) H := hP
  replace hD : va_D A (mW E Ad (S)) := hD
  show W p l e _ s m args below meth c H locs _ _ Q (F0 m 13 ls [.int (zI (b2 (0 ≤ river ∧ river ≤ ((S 0 1) - 1))))])
  have e1 : b2 (0 ≤ river ∧ river ≤ S 0 1 - 1) = b2 (0 ≤ river ∧ river ≤ ((S 0 1) - 1)) := b2_c (by first | exact Iff.rfl | omega)
  exact kz_zret () hx hb hr hlk hP hD hS dX3_isRiver_13 (congrArg (fun z : Int => some (Value.int (zI z))) e1) trivial rfl hQ (Nat.le_of_ble_eq_true rfl) (Nat.le_of_ble_eq_true rfl)

set_option maxHeartbeats 4000000 in
set_option maxRecDepth 100000 in
theorem mX3_isSunk (l : Launch) (E : KE) (sz : Nat) (Ad : Nat → Nat) (S : St) (hM : MOk S) (stone : Int) (rstone : rI stone) (hst : 0 ≤ stone ∧ stone < 10) : Met l yX3_isSunk (ws_ yX3_isSunk cX3_isSunk 2 (some .boolean)) (rmk 1 0 0 22) (va_Pc [.ref (Ad 0), .int (zI stone)] (kP l E sz (mW E Ad S) [])) (kQ E (fun _ : Unit => True) (fun _ => some (.int (zI (b2 (S 0 (10 + 14 * stone + 5) = -2))))) (fun _ => (mW E Ad S)) (va_A (mW E Ad S) sz)) 0 0 (va_A (mW E Ad S) sz) := by
  refine kz_start (Qf := kQ E (fun _ : Unit => True) (fun _ => some (.int (zI (b2 (S 0 (10 + 14 * stone + 5) = -2))))) (fun _ => (mW E Ad S))) (by decide) (Nat.le_of_ble_eq_true rfl) ?_
  intro p e s m args below meth c A ls Q H locs hx hb hr hlk hml hts hown hname hG hK hA hAN hP hD hR hRA hS hQ hl
  replace hown : s.vm.findClass RX3 = some m.cls := hown
  replace hl : lv_has ls 2 [(0, .ref (Ad 0)), (1, .int (zI (stone)))] := hl
  replace hP : va_P (kD E) kcl (mW E Ad (S)) H := hP
  replace hD : va_D A (mW E Ad (S)) := hD
  refine lv_aload_n hx hb dX3_isSunk_0 rfl (lv_at hl 0 rfl) ?_
  refine lv_iload_n hx hb dX3_isSunk_1 rfl (lv_at hl 1 rfl) ?_
  refine kz_iconst hx hb dX3_isSunk_2 ?_
  refine kz_backM (va_runV (As := [.int (zI (stone)), .int (zI (5))]) (rest := []) ⟨hx, hb, hml, hown, hts⟩ (mX3_of l E H.size Ad S hM stone (by omega) 5 (by omega) (show 0 ≤ stone ∧ stone < 10 by first | omega | exact hI.st _ (by omega) (by omega) | exact hI.rv _ (by omega) (by omega) | exact hI) (show 0 ≤ 5 ∧ 5 < 14 by first | omega | exact hI.st _ (by omega) (by omega) | exact hI.rv _ (by omega) (by omega) | exact hI)) (cwV 2 hts (lw_V q2441 q2443 qs44 q83 q2444) rfl rfl rfl (by decide +kernel) ⟨(Nat.le_of_ble_eq_true rfl), (Nat.le_of_ble_eq_true rfl)⟩) (kz_preVM (wc := mW E Ad S) (va_recv hK hP (ci := 2) (q0 := 0) rfl rfl) hG hS hAN hP hD kz_nilP kz_nilA) rfl rfl hl.1 rfl (lv_room (Nat.le_of_ble_eq_true rfl)) dX3_isSunk_3 ⟨(Nat.le_of_ble_eq_true rfl), (Nat.le_of_ble_eq_true rfl)⟩) hP hD hS hA (fun u H9 locs9 hu hP9 hD9 hS9 hzz hkk => ?_)
  clear hzz hkk hP hD hS H locs u
  revert hS9 hD9 hP9 locs9 H9
  intro H locs hP hD hS
  have r1 : rI ((S 0 ((10 + 14 * stone + 5)))) := hu
  clear hu
  replace hP : va_P (kD E) kcl (mW E Ad (S)) H := hP
  replace hD : va_D A (mW E Ad (S)) := hD
  show W p l e _ s m args below meth c H locs _ _ Q (F0 m 6 ls [.int (zI ((S 0 ((10 + 14 * stone + 5)))))])
  refine kz_bipush hx hb dX3_isSunk_6 (by decide) ?_
  refine kz_icmp_ne (tgt := 15) hx hb dX3_isSunk_8 (by decide) (by omega) (by omega) (fun c8 => ?_) (fun c8 => ?_)
  · skip
    refine kz_iconst hx hb dX3_isSunk_15 ?_
    have e1 : b2 (S 0 (10 + 14 * stone + 5) = -2) = (0 : Int) := b2_f (by omega)
    exact kz_zNret () hx hb hr hlk hP hD hS dX3_isSunk_16 (by decide) (congrArg (fun z : Int => some (Value.int (zI z))) e1) trivial rfl hQ (Nat.le_of_ble_eq_true rfl) (Nat.le_of_ble_eq_true rfl)
  · skip
    refine kz_iconst hx hb dX3_isSunk_11 ?_
    refine lv_goto (tgt := 16) hx hb dX3_isSunk_12 (by decide) ?_
    have e1 : b2 (S 0 (10 + 14 * stone + 5) = -2) = (1 : Int) := b2_t (by omega)
    exact kz_zNret () hx hb hr hlk hP hD hS dX3_isSunk_16 (by decide) (congrArg (fun z : Int => some (Value.int (zI z))) e1) trivial rfl hQ (Nat.le_of_ble_eq_true rfl) (Nat.le_of_ble_eq_true rfl)

set_option maxHeartbeats 4000000 in
set_option maxRecDepth 100000 in
theorem mX3_copies (l : Launch) (E : KE) (sz : Nat) (a b : Nat) (na nb : Nat) (hn : na ≤ 100000 ∧ nb ≤ 100000) (f h : Int → Int) (hh : ∀ i, rI (f i)) (at0 : Int) (rat0 : rI at0) (on : Int) (ron : rI on) (h1 : 0 ≤ at0 ∧ at0 + 304 ≤ na) (h2 : 0 ≤ on ∧ on + 304 ≤ nb) : Met l yX3_copies (ws_ yX3_copies cX3_copies 5 none) (rmk 0 0 0 0) (va_Pc [.ref a, .int (zI at0), .ref b, .int (zI on)] (kP l E sz [(a, .inl (kA E 0, na, .inl (zR (f)))), (b, .inl (kA E 0, nb, .inl (zR (h))))] [])) (kQ E (fun _ : Unit => True) (fun _ => none) (fun _ => [(a, .inl (kA E 0, na, .inl (zR (f)))), (b, .inl (kA E 0, nb, .inl (zR (blit f h at0 on))))]) (va_A [(a, .inl (kA E 0, na, .inl (zR (f)))), (b, .inl (kA E 0, nb, .inl (zR (h))))] sz)) 0 0 (va_A [(a, .inl (kA E 0, na, .inl (zR (f)))), (b, .inl (kA E 0, nb, .inl (zR (h))))] sz) := by
  refine kz_start (Qf := kQ E (fun _ : Unit => True) (fun _ => none) (fun _ => [(a, .inl (kA E 0, na, .inl (zR (f)))), (b, .inl (kA E 0, nb, .inl (zR (blit f h at0 on))))])) (by decide) (Nat.le_of_ble_eq_true rfl) ?_
  intro p e s m args below meth c A ls Q H locs hx hb hr hlk hml hts hown hname hG hK hA hAN hP hD hR hRA hS hQ hl
  replace hown : s.vm.findClass RX3 = some m.cls := hown
  replace hl : lv_has ls 5 [(0, .ref a), (1, .int (zI (at0))), (2, .ref b), (3, .int (zI (on)))] := hl
  replace hP : va_P (kD E) kcl [(a, .inl (kA E 0, na, .inl (zR (f)))), (b, .inl (kA E 0, nb, .inl (zR (h))))] H := hP
  replace hD : va_D A [(a, .inl (kA E 0, na, .inl (zR (f)))), (b, .inl (kA E 0, nb, .inl (zR (h))))] := hD
  refine kz_iconst hx hb dX3_copies_0 ?_
  refine lv_istore (lv' := [(4, .int (zI (0))), (0, .ref a), (1, .int (zI (at0))), (2, .ref b), (3, .int (zI (on)))]) hx hb dX3_copies_1 hl (by decide) rfl (fun ls hl => ?_)
  have L3_1 : ∀ (fu : Nat) (k : Int) (h1 : Int → Int) (H : Heap) (locs : List Loc) (ls : Array Slot), (0 ≤ k ∧ k ≤ 304) → (h1 = blitN f h at0 on k) → rI k → ((304 - k) : Int).toNat < fu → va_P (kD E) kcl [(a, .inl (kA E 0, na, .inl (zR (f)))), (b, .inl (kA E 0, nb, .inl (zR h1)))] H → va_D A [(a, .inl (kA E 0, na, .inl (zR (f)))), (b, .inl (kA E 0, nb, .inl (zR h1)))] → va_S A s.heap H locs → lv_has ls 5 [(0, .ref a), (1, .int (zI (at0))), (2, .ref b), (3, .int (zI (on))), (4, .int (zI (k)))] → W p l e (rmk 0 0 0 0) s m args below meth c H locs 0 0 Q (F0 m 3 ls []) := by
    clear hl hS hD hP ls locs H
    intro fu
    induction fu with
    | zero => intro k h1 H locs ls hk hh1 rk hf; exact absurd hf (Nat.not_lt_zero _)
    | succ fu ih3 =>
      intro k h1 H locs ls hk hh1 rk hf hP hD hS hl
      refine lv_iload hx hb dX3_copies_3 (lv_at hl 4 rfl) ?_
      refine kz_sipush hx hb dX3_copies_5 (by decide) ?_
      refine kz_icmp_ge (tgt := 29) hx hb dX3_copies_8 (by decide) (by omega) (by omega) (fun c8 => ?_) (fun c8 => ?_)
      · skip
        have e5 : h1 = blit f h at0 on := by rw [hh1, show k = 304 by omega]; rfl
        rw [e5] at hP hD
        exact kz_vret () hx hb hr hlk hP hD hS dX3_copies_29 rfl trivial rfl hQ (Nat.le_of_ble_eq_true rfl) (Nat.le_of_ble_eq_true rfl)
      · skip
        refine lv_aload_n hx hb dX3_copies_11 rfl (lv_at hl 2 rfl) ?_
        refine lv_iload_n hx hb dX3_copies_12 rfl (lv_at hl 3 rfl) ?_
        refine lv_iload hx hb dX3_copies_13 (lv_at hl 4 rfl) ?_
        refine kz_iadd hx hb dX3_copies_15 ?_
        refine lv_aload_n hx hb dX3_copies_16 rfl (lv_at hl 0 rfl) ?_
        refine lv_iload_n hx hb dX3_copies_17 rfl (lv_at hl 1 rfl) ?_
        refine lv_iload hx hb dX3_copies_18 (lv_at hl 4 rfl) ?_
        refine kz_iadd hx hb dX3_copies_20 ?_
        refine kz_iald (cA := kA E 0) (n := na) (g := f) hx hb hK hP 0 0 rfl rfl (by omega) dX3_copies_21 ?_
        have r2 : rI (f (at0 + k)) := hh (at0 + k)
        refine kz_iast (cA := kA E 0) (n := nb) (g := h1) hx hb hK hP hD hS 1 0 rfl rfl (by omega) dX3_copies_22 (fun H9 locs9 hP9 hD9 hS9 => ?_)
        clear hP hD hS H locs
        revert hS9 hD9 hP9 locs9 H9
        intro H locs hP hD hS
        replace hP : va_P (kD E) kcl [(a, .inl (kA E 0, na, .inl (zR (f)))), (b, .inl (kA E 0, nb, .inl (zR (uz h1 (on + k) (f (at0 + k))))))] H := hP
        replace hD : va_D A [(a, .inl (kA E 0, na, .inl (zR (f)))), (b, .inl (kA E 0, nb, .inl (zR (uz h1 (on + k) (f (at0 + k))))))] := hD
        refine kz_iinc (lv' := [(4, .int (zI (k + 1))), (0, .ref a), (1, .int (zI (at0))), (2, .ref b), (3, .int (zI (on)))]) hx hb dX3_copies_23 hl (k := 4) rfl (by decide) rfl (fun ls hl => ?_)
        refine lv_goto (tgt := 3) hx hb dX3_copies_26 (by decide) ?_
        exact ih3 (k + 1) (uz h1 (on + k) (f (at0 + k))) _ _ _ (by omega) (by rw [hh1]; exact blitN_s f h at0 on hk.1) (by omega) (by omega) hP hD hS (lv_sub hl [1, 2, 3, 4, 0] rfl)
  exact L3_1 (((304 - 0) : Int).toNat + 1) 0 h _ _ _ (by omega) (by exact (blitN_0 f h at0 on rfl).symm) (by omega) (Nat.lt_succ_self _) hP hD hS (lv_sub hl [1, 2, 3, 4, 0] rfl)

set_option maxHeartbeats 4000000 in
set_option maxRecDepth 100000 in
theorem mX3_keeps (l : Launch) (E : KE) (sz : Nat) (Ad : Nat → Nat) (S : St) (hM : MOk S) (c0 : 0 ≤ S 7 5 ∧ S 7 5 ≤ 8) : Met l yX3_keeps (ws_ yX3_keeps cX3_keeps 3 none) (rmk 1 0 0 24) (va_Pc [.ref (Ad 0), .ref (Ad 1)] (kP l E sz (mW E Ad S) [])) (kQ E (fun _ : Unit => MOk (mKeeps S 0)) (fun _ => none) (fun _ => (mW E Ad (mKeeps S 0))) (va_A (mW E Ad S) sz)) 0 0 (va_A (mW E Ad S) sz) := by
  refine kz_start (Qf := kQ E (fun _ : Unit => MOk (mKeeps S 0)) (fun _ => none) (fun _ => (mW E Ad (mKeeps S 0)))) (by decide) (Nat.le_of_ble_eq_true rfl) ?_
  intro p e s m args below meth c A ls Q H locs hx hb hr hlk hml hts hown hname hG hK hA hAN hP hD hR hRA hS hQ hl
  replace hown : s.vm.findClass RX3 = some m.cls := hown
  replace hl : lv_has ls 3 [(0, .ref (Ad 0)), (1, .ref (Ad 1))] := hl
  replace hP : va_P (kD E) kcl (mW E Ad (S)) H := hP
  replace hD : va_D A (mW E Ad (S)) := hD
  refine lv_aload_n hx hb dX3_keeps_0 rfl (lv_at hl 0 rfl) ?_
  refine kz_iconst hx hb dX3_keeps_1 ?_
  refine va_put (D := kD E) (ci := 2) (fs := mO Ad (S)) (v := .int (zI (0))) (ty := .int) (C := RX3) (T := TX3) (N := 19) hx hb hts in_X3 tyX3 tyX3_ok nmX3 hown hK hP hD hS 0 rfl rfl 7 (by decide) (hts _ q2327) (fun _ h9 => h9) rfl (by decide +kernel) rfl rfl (Nat.le_of_ble_eq_true rfl) dX3_keeps_2 (fun H9 locs9 hP9 hD9 hS9 => ?_)
  rw [mW_f7] at hP9 hD9
  clear hP hD hS H locs
  revert hS9 hD9 hP9 locs9 H9
  intro H locs hP hD hS
  replace hP : va_P (kD E) kcl (mW E Ad (put S 7 7 0)) H := hP
  replace hD : va_D A (mW E Ad (put S 7 7 0)) := hD
  replace hM : MOk (put S 7 7 0) := hM.put 7 7 (by omega)
  refine lv_aload_n hx hb dX3_keeps_5 rfl (lv_at hl 0 rfl) ?_
  have r1 : rI (S 7 6) := hM 7 6
  refine va_get (D := kD E) (ci := 2) (fs := mO Ad (put S 7 7 0)) (v := .int (zI (S 7 6))) (C := RX3) (T := TX3) (N := 19) hx hb hts in_X3 hown hK hP 0 rfl rfl 6 (by decide) (hts _ q2326) (fun _ h9 => h9) rfl dX3_keeps_6 ?_
  refine kz_if_eq (tgt := 13) hx hb dX3_keeps_9 (by decide) (by omega) (fun c9 => ?_) (fun c9 => ?_)
  · skip
    refine lv_aload_n hx hb dX3_keeps_13 rfl (lv_at hl 0 rfl) ?_
    have r2 : rI (S 7 5) := hM 7 5
    refine va_get (D := kD E) (ci := 2) (fs := mO Ad (put S 7 7 0)) (v := .int (zI (S 7 5))) (C := RX3) (T := TX3) (N := 19) hx hb hts in_X3 hown hK hP 0 rfl rfl 5 (by decide) (hts _ q2325) (fun _ h9 => h9) rfl dX3_keeps_14 ?_
    refine kz_bipush hx hb dX3_keeps_17 (by decide) ?_
    refine kz_icmp_ne (tgt := 63) hx hb dX3_keeps_19 (by decide) (by omega) (by omega) (fun c19 => ?_) (fun c19 => ?_)
    · skip
      refine lv_aload_n hx hb dX3_keeps_63 rfl (lv_at hl 1 rfl) ?_
      refine kz_iconst hx hb dX3_keeps_64 ?_
      refine lv_aload_n hx hb dX3_keeps_65 rfl (lv_at hl 0 rfl) ?_
      refine va_get (D := kD E) (ci := 2) (fs := mO Ad (put S 7 7 0)) (v := .ref (Ad 2)) (C := RX3) (T := TX3) (N := 19) hx hb hts in_X3 hown hK hP 0 rfl rfl 1 (by decide) (hts _ q2321) (fun _ h9 => h9) rfl dX3_keeps_66 ?_
      refine kz_sipush hx hb dX3_keeps_69 (by decide) ?_
      refine lv_aload_n hx hb dX3_keeps_72 rfl (lv_at hl 0 rfl) ?_
      have r3 : rI (S 7 5) := hM 7 5
      refine va_get (D := kD E) (ci := 2) (fs := mO Ad (put S 7 7 0)) (v := .int (zI (S 7 5))) (C := RX3) (T := TX3) (N := 19) hx hb hts in_X3 hown hK hP 0 rfl rfl 5 (by decide) (hts _ q2325) (fun _ h9 => h9) rfl dX3_keeps_73 ?_
      refine kz_imul hx hb dX3_keeps_76 ?_
      have hPD := kz_mv (ws' := [(Ad 1, .inl (kA E 0, 304, .inl (zR (S 0)))), (Ad 2, .inl (kA E 0, 2432, .inl (zR (S 1)))), (Ad 0, .inr (2, mO Ad (put S 7 7 0))), (Ad 3, .inl (kA E 0, 304, .inl (zR (S 2)))), (Ad 4, .inl (kA E 0, 304, .inl (zR (S 3)))), (Ad 5, .inl (kA E 0, 60, .inl (zR (S 4)))), (Ad 6, .inl (kA E 3, 40, .inl (zR (S 5)))), (Ad 7, .inl (kA E 0, 155, .inl (zR (S 6))))]) hP hD (kz_re [1, 2, 0, 3, 4, 5, 6, 7] 8 (Nat.le_of_ble_eq_true rfl) (by decide) rfl)
      clear hP hD
      obtain ⟨hP, hD⟩ := hPD
      refine kz_back (wc := [(Ad 1, .inl (kA E 0, 304, .inl (zR (S 0)))), (Ad 2, .inl (kA E 0, 2432, .inl (zR (S 1))))]) (wx := [(Ad 0, .inr (2, mO Ad (put S 7 7 0))), (Ad 3, .inl (kA E 0, 304, .inl (zR (S 2)))), (Ad 4, .inl (kA E 0, 304, .inl (zR (S 3)))), (Ad 5, .inl (kA E 0, 60, .inl (zR (S 4)))), (Ad 6, .inl (kA E 3, 40, .inl (zR (S 5)))), (Ad 7, .inl (kA E 0, 155, .inl (zR (S 6))))]) (va_runS (As := [.ref (Ad 1), .int (zI (0)), .ref (Ad 2), .int (zI (304 * (S 7 5)))]) (rest := []) ⟨hx, hb, hml, hown, hts⟩ (mX3_copies l E H.size (Ad 1) (Ad 2) 304 2432 (by omega) (S 0) (S 1) (fun i => hM 0 i) 0 (by omega) (304 * (S 7 5)) (by omega) (show 0 ≤ 0 ∧ 0 + 304 ≤ 304 by first | omega | exact hI.st _ (by omega) (by omega) | exact hI.rv _ (by omega) (by omega) | exact hI) (show 0 ≤ (304 * (S 7 5)) ∧ (304 * (S 7 5)) + 304 ≤ 2432 by first | omega | exact hI.st _ (by omega) (by omega) | exact hI.rv _ (by omega) (by omega) | exact hI)) (va_cwS 4 hts (lw_S q2406 q2407 q83 q2408) rfl rfl rfl (by decide +kernel) ⟨(Nat.le_of_ble_eq_true rfl), (Nat.le_of_ble_eq_true rfl)⟩) (kz_pre (wc := [(Ad 1, .inl (kA E 0, 304, .inl (zR (S 0)))), (Ad 2, .inl (kA E 0, 2432, .inl (zR (S 1))))]) (wx := [(Ad 0, .inr (2, mO Ad (put S 7 7 0))), (Ad 3, .inl (kA E 0, 304, .inl (zR (S 2)))), (Ad 4, .inl (kA E 0, 304, .inl (zR (S 3)))), (Ad 5, .inl (kA E 0, 60, .inl (zR (S 4)))), (Ad 6, .inl (kA E 3, 40, .inl (zR (S 5)))), (Ad 7, .inl (kA E 0, 155, .inl (zR (S 6))))]) hG hS hAN hP hD kz_nilP kz_nilA) rfl rfl hl.1 rfl (lv_room (Nat.le_of_ble_eq_true rfl)) dX3_keeps_77 ⟨(Nat.le_of_ble_eq_true rfl), (Nat.le_of_ble_eq_true rfl)⟩) hP hD hS hA (fun u H9 locs9 hu hP9 hD9 hS9 hzz hkk => ?_)
      clear hzz hkk hP hD hS H locs u
      revert hS9 hD9 hP9 locs9 H9
      intro H locs hP hD hS
      have hPD := kz_mv (ws' := mW E Ad (putR (put S 7 7 0) 1 (blit (S 0) (S 1) 0 (304 * (S 7 5))))) hP hD (kz_re [2, 0, 1, 3, 4, 5, 6, 7] 8 (Nat.le_of_ble_eq_true rfl) (by decide) rfl)
      clear hP hD
      obtain ⟨hP, hD⟩ := hPD
      have hM : MOk (putR (put S 7 7 0) 1 (blit (S 0) (S 1) 0 (304 * (S 7 5)))) := hM.putR 1 (blit_r (fun i => hM 0 i) (fun i => hM 1 i) _ _)
      clear hu
      replace hP : va_P (kD E) kcl (mW E Ad (putR (put S 7 7 0) 1 (blit (S 0) (S 1) 0 (304 * (S 7 5))))) H := hP
      replace hD : va_D A (mW E Ad (putR (put S 7 7 0) 1 (blit (S 0) (S 1) 0 (304 * (S 7 5))))) := hD
      show W p l e _ s m args below meth c H locs _ _ Q (F0 m 80 ls [])
      refine lv_aload_n hx hb dX3_keeps_80 rfl (lv_at hl 0 rfl) ?_
      refine lv_dup hx hb dX3_keeps_81 rfl ?_
      have r4 : rI (S 7 5) := hM 7 5
      refine va_get (D := kD E) (ci := 2) (fs := mO Ad (putR (put S 7 7 0) 1 (blit (S 0) (S 1) 0 (304 * (S 7 5))))) (v := .int (zI (S 7 5))) (C := RX3) (T := TX3) (N := 19) hx hb hts in_X3 hown hK hP 0 rfl rfl 5 (by decide) (hts _ q2325) (fun _ h9 => h9) rfl dX3_keeps_82 ?_
      refine kz_iconst hx hb dX3_keeps_85 ?_
      refine kz_iadd hx hb dX3_keeps_86 ?_
      refine va_put (D := kD E) (ci := 2) (fs := mO Ad (putR (put S 7 7 0) 1 (blit (S 0) (S 1) 0 (304 * (S 7 5))))) (v := .int (zI ((S 7 5) + 1))) (ty := .int) (C := RX3) (T := TX3) (N := 19) hx hb hts in_X3 tyX3 tyX3_ok nmX3 hown hK hP hD hS 0 rfl rfl 5 (by decide) (hts _ q2325) (fun _ h9 => h9) rfl (by decide +kernel) rfl rfl (Nat.le_of_ble_eq_true rfl) dX3_keeps_87 (fun H9 locs9 hP9 hD9 hS9 => ?_)
      rw [mW_f5] at hP9 hD9
      clear hP hD hS H locs
      revert hS9 hD9 hP9 locs9 H9
      intro H locs hP hD hS
      replace hP : va_P (kD E) kcl (mW E Ad (put (putR (put S 7 7 0) 1 (blit (S 0) (S 1) 0 (304 * (S 7 5)))) 7 5 ((S 7 5) + 1))) H := hP
      replace hD : va_D A (mW E Ad (put (putR (put S 7 7 0) 1 (blit (S 0) (S 1) 0 (304 * (S 7 5)))) 7 5 ((S 7 5) + 1))) := hD
      replace hM : MOk (put (putR (put S 7 7 0) 1 (blit (S 0) (S 1) 0 (304 * (S 7 5)))) 7 5 ((S 7 5) + 1)) := hM.put 7 5 (by omega)
      have e3 : mKeeps S 0 = put (putR (put S 7 7 0) 1 (blit (S 0) (S 1) 0 (304 * (S 7 5)))) 7 5 ((S 7 5) + 1) := by
        first | exact mKeeps_w S 0 (by omega) | (rw [mKeeps_n S 0 (by omega), keepRow, if_neg (by omega), if_neg (by omega)]; exact mKeeps_a S _ _ _ (by omega)) | (rw [mKeeps_n S 0 (by omega), keepRow, if_pos (by omega), if_pos (by omega), show S1 7 5 - 1 = 7 by omega, hS1, show k = 2128 by omega]; exact mKeeps_b S (shiftN (S 1) 2128) _ _ _ _ rfl)
      exact kz_vret () hx hb hr hlk hP hD hS dX3_keeps_90 rfl (kz_M e3 hM) (congrArg (mW E Ad) e3) hQ (Nat.le_of_ble_eq_true rfl) (Nat.le_of_ble_eq_true rfl)
    · skip
      refine kz_iconst hx hb dX3_keeps_22 ?_
      refine lv_istore_n (lv' := [(2, .int (zI (0))), (0, .ref (Ad 0)), (1, .ref (Ad 1))]) hx hb dX3_keeps_23 rfl hl (by decide) rfl (fun ls hl => ?_)
      have L24_5 : ∀ (fu : Nat) (k : Int) (S1 : St) (H : Heap) (locs : List Loc) (ls : Array Slot), (0 ≤ k ∧ k ≤ 2128) → (S1 = putR (put S 7 7 0) 1 (shiftN (S 1) k)) → rI k → MOk S1 → ((2128 - k) : Int).toNat < fu → va_P (kD E) kcl (mW E Ad (S1)) H → va_D A (mW E Ad (S1)) → va_S A s.heap H locs → lv_has ls 3 [(0, .ref (Ad 0)), (1, .ref (Ad 1)), (2, .int (zI (k)))] → W p l e (rmk 1 0 0 24) s m args below meth c H locs 0 0 Q (F0 m 24 ls []) := by
        clear hl hS hD hP ls locs H hM
        intro fu
        induction fu with
        | zero => intro k S1 H locs ls hk hS1 rk hM hf; exact absurd hf (Nat.not_lt_zero _)
        | succ fu ih24 =>
          intro k S1 H locs ls hk hS1 rk hM hf hP hD hS hl
          have q5 : S1 7 5 = S 7 5 := by rw [hS1]; rfl
          refine lv_iload_n hx hb dX3_keeps_24 rfl (lv_at hl 2 rfl) ?_
          refine kz_sipush hx hb dX3_keeps_25 (by decide) ?_
          refine kz_icmp_ge (tgt := 53) hx hb dX3_keeps_28 (by decide) (by omega) (by omega) (fun c28 => ?_) (fun c28 => ?_)
          · skip
            refine lv_aload_n hx hb dX3_keeps_53 rfl (lv_at hl 0 rfl) ?_
            refine lv_dup hx hb dX3_keeps_54 rfl ?_
            have r6 : rI (S1 7 5) := hM 7 5
            refine va_get (D := kD E) (ci := 2) (fs := mO Ad (S1)) (v := .int (zI (S1 7 5))) (C := RX3) (T := TX3) (N := 19) hx hb hts in_X3 hown hK hP 0 rfl rfl 5 (by decide) (hts _ q2325) (fun _ h9 => h9) rfl dX3_keeps_55 ?_
            refine kz_iconst hx hb dX3_keeps_58 ?_
            refine kz_isub hx hb dX3_keeps_59 ?_
            refine va_put (D := kD E) (ci := 2) (fs := mO Ad (S1)) (v := .int (zI ((S1 7 5) - 1))) (ty := .int) (C := RX3) (T := TX3) (N := 19) hx hb hts in_X3 tyX3 tyX3_ok nmX3 hown hK hP hD hS 0 rfl rfl 5 (by decide) (hts _ q2325) (fun _ h9 => h9) rfl (by decide +kernel) rfl rfl (Nat.le_of_ble_eq_true rfl) dX3_keeps_60 (fun H9 locs9 hP9 hD9 hS9 => ?_)
            rw [mW_f5] at hP9 hD9
            clear hP hD hS H locs
            revert hS9 hD9 hP9 locs9 H9
            intro H locs hP hD hS
            replace hP : va_P (kD E) kcl (mW E Ad (put S1 7 5 ((S1 7 5) - 1))) H := hP
            replace hD : va_D A (mW E Ad (put S1 7 5 ((S1 7 5) - 1))) := hD
            replace hM : MOk (put S1 7 5 ((S1 7 5) - 1)) := hM.put 7 5 (by omega)
            refine lv_aload_n hx hb dX3_keeps_63 rfl (lv_at hl 1 rfl) ?_
            refine kz_iconst hx hb dX3_keeps_64 ?_
            refine lv_aload_n hx hb dX3_keeps_65 rfl (lv_at hl 0 rfl) ?_
            refine va_get (D := kD E) (ci := 2) (fs := mO Ad (put S1 7 5 ((S1 7 5) - 1))) (v := .ref (Ad 2)) (C := RX3) (T := TX3) (N := 19) hx hb hts in_X3 hown hK hP 0 rfl rfl 1 (by decide) (hts _ q2321) (fun _ h9 => h9) rfl dX3_keeps_66 ?_
            refine kz_sipush hx hb dX3_keeps_69 (by decide) ?_
            refine lv_aload_n hx hb dX3_keeps_72 rfl (lv_at hl 0 rfl) ?_
            have r7 : rI ((S1 7 5) - 1) := hM 7 5
            refine va_get (D := kD E) (ci := 2) (fs := mO Ad (put S1 7 5 ((S1 7 5) - 1))) (v := .int (zI ((S1 7 5) - 1))) (C := RX3) (T := TX3) (N := 19) hx hb hts in_X3 hown hK hP 0 rfl rfl 5 (by decide) (hts _ q2325) (fun _ h9 => h9) rfl dX3_keeps_73 ?_
            refine kz_imul hx hb dX3_keeps_76 ?_
            have hPD := kz_mv (ws' := [(Ad 1, .inl (kA E 0, 304, .inl (zR (S1 0)))), (Ad 2, .inl (kA E 0, 2432, .inl (zR (S1 1)))), (Ad 0, .inr (2, mO Ad (put S1 7 5 ((S1 7 5) - 1)))), (Ad 3, .inl (kA E 0, 304, .inl (zR (S1 2)))), (Ad 4, .inl (kA E 0, 304, .inl (zR (S1 3)))), (Ad 5, .inl (kA E 0, 60, .inl (zR (S1 4)))), (Ad 6, .inl (kA E 3, 40, .inl (zR (S1 5)))), (Ad 7, .inl (kA E 0, 155, .inl (zR (S1 6))))]) hP hD (kz_re [1, 2, 0, 3, 4, 5, 6, 7] 8 (Nat.le_of_ble_eq_true rfl) (by decide) rfl)
            clear hP hD
            obtain ⟨hP, hD⟩ := hPD
            refine kz_back (wc := [(Ad 1, .inl (kA E 0, 304, .inl (zR (S1 0)))), (Ad 2, .inl (kA E 0, 2432, .inl (zR (S1 1))))]) (wx := [(Ad 0, .inr (2, mO Ad (put S1 7 5 ((S1 7 5) - 1)))), (Ad 3, .inl (kA E 0, 304, .inl (zR (S1 2)))), (Ad 4, .inl (kA E 0, 304, .inl (zR (S1 3)))), (Ad 5, .inl (kA E 0, 60, .inl (zR (S1 4)))), (Ad 6, .inl (kA E 3, 40, .inl (zR (S1 5)))), (Ad 7, .inl (kA E 0, 155, .inl (zR (S1 6))))]) (va_runS (As := [.ref (Ad 1), .int (zI (0)), .ref (Ad 2), .int (zI (304 * ((S1 7 5) - 1)))]) (rest := []) ⟨hx, hb, hml, hown, hts⟩ (mX3_copies l E H.size (Ad 1) (Ad 2) 304 2432 (by omega) (S1 0) (S1 1) (fun i => hM 0 i) 0 (by omega) (304 * ((S1 7 5) - 1)) (by omega) (show 0 ≤ 0 ∧ 0 + 304 ≤ 304 by first | omega | exact hI.st _ (by omega) (by omega) | exact hI.rv _ (by omega) (by omega) | exact hI) (show 0 ≤ (304 * ((S1 7 5) - 1)) ∧ (304 * ((S1 7 5) - 1)) + 304 ≤ 2432 by first | omega | exact hI.st _ (by omega) (by omega) | exact hI.rv _ (by omega) (by omega) | exact hI)) (va_cwS 4 hts (lw_S q2406 q2407 q83 q2408) rfl rfl rfl (by decide +kernel) ⟨(Nat.le_of_ble_eq_true rfl), (Nat.le_of_ble_eq_true rfl)⟩) (kz_pre (wc := [(Ad 1, .inl (kA E 0, 304, .inl (zR (S1 0)))), (Ad 2, .inl (kA E 0, 2432, .inl (zR (S1 1))))]) (wx := [(Ad 0, .inr (2, mO Ad (put S1 7 5 ((S1 7 5) - 1)))), (Ad 3, .inl (kA E 0, 304, .inl (zR (S1 2)))), (Ad 4, .inl (kA E 0, 304, .inl (zR (S1 3)))), (Ad 5, .inl (kA E 0, 60, .inl (zR (S1 4)))), (Ad 6, .inl (kA E 3, 40, .inl (zR (S1 5)))), (Ad 7, .inl (kA E 0, 155, .inl (zR (S1 6))))]) hG hS hAN hP hD kz_nilP kz_nilA) rfl rfl hl.1 rfl (lv_room (Nat.le_of_ble_eq_true rfl)) dX3_keeps_77 ⟨(Nat.le_of_ble_eq_true rfl), (Nat.le_of_ble_eq_true rfl)⟩) hP hD hS hA (fun u H9 locs9 hu hP9 hD9 hS9 hzz hkk => ?_)
            clear hzz hkk hP hD hS H locs u
            revert hS9 hD9 hP9 locs9 H9
            intro H locs hP hD hS
            have hPD := kz_mv (ws' := mW E Ad (putR (put S1 7 5 ((S1 7 5) - 1)) 1 (blit (S1 0) (S1 1) 0 (304 * ((S1 7 5) - 1))))) hP hD (kz_re [2, 0, 1, 3, 4, 5, 6, 7] 8 (Nat.le_of_ble_eq_true rfl) (by decide) rfl)
            clear hP hD
            obtain ⟨hP, hD⟩ := hPD
            have hM : MOk (putR (put S1 7 5 ((S1 7 5) - 1)) 1 (blit (S1 0) (S1 1) 0 (304 * ((S1 7 5) - 1)))) := hM.putR 1 (blit_r (fun i => hM 0 i) (fun i => hM 1 i) _ _)
            clear hu
            replace hP : va_P (kD E) kcl (mW E Ad (putR (put S1 7 5 ((S1 7 5) - 1)) 1 (blit (S1 0) (S1 1) 0 (304 * ((S1 7 5) - 1))))) H := hP
            replace hD : va_D A (mW E Ad (putR (put S1 7 5 ((S1 7 5) - 1)) 1 (blit (S1 0) (S1 1) 0 (304 * ((S1 7 5) - 1))))) := hD
            show W p l e _ s m args below meth c H locs _ _ Q (F0 m 80 ls [])
            refine lv_aload_n hx hb dX3_keeps_80 rfl (lv_at hl 0 rfl) ?_
            refine lv_dup hx hb dX3_keeps_81 rfl ?_
            have r8 : rI ((S1 7 5) - 1) := hM 7 5
            refine va_get (D := kD E) (ci := 2) (fs := mO Ad (putR (put S1 7 5 ((S1 7 5) - 1)) 1 (blit (S1 0) (S1 1) 0 (304 * ((S1 7 5) - 1))))) (v := .int (zI ((S1 7 5) - 1))) (C := RX3) (T := TX3) (N := 19) hx hb hts in_X3 hown hK hP 0 rfl rfl 5 (by decide) (hts _ q2325) (fun _ h9 => h9) rfl dX3_keeps_82 ?_
            refine kz_iconst hx hb dX3_keeps_85 ?_
            refine kz_iadd hx hb dX3_keeps_86 ?_
            refine va_put (D := kD E) (ci := 2) (fs := mO Ad (putR (put S1 7 5 ((S1 7 5) - 1)) 1 (blit (S1 0) (S1 1) 0 (304 * ((S1 7 5) - 1))))) (v := .int (zI (((S1 7 5) - 1) + 1))) (ty := .int) (C := RX3) (T := TX3) (N := 19) hx hb hts in_X3 tyX3 tyX3_ok nmX3 hown hK hP hD hS 0 rfl rfl 5 (by decide) (hts _ q2325) (fun _ h9 => h9) rfl (by decide +kernel) rfl rfl (Nat.le_of_ble_eq_true rfl) dX3_keeps_87 (fun H9 locs9 hP9 hD9 hS9 => ?_)
            rw [mW_f5] at hP9 hD9
            clear hP hD hS H locs
            revert hS9 hD9 hP9 locs9 H9
            intro H locs hP hD hS
            replace hP : va_P (kD E) kcl (mW E Ad (put (putR (put S1 7 5 ((S1 7 5) - 1)) 1 (blit (S1 0) (S1 1) 0 (304 * ((S1 7 5) - 1)))) 7 5 (((S1 7 5) - 1) + 1))) H := hP
            replace hD : va_D A (mW E Ad (put (putR (put S1 7 5 ((S1 7 5) - 1)) 1 (blit (S1 0) (S1 1) 0 (304 * ((S1 7 5) - 1)))) 7 5 (((S1 7 5) - 1) + 1))) := hD
            replace hM : MOk (put (putR (put S1 7 5 ((S1 7 5) - 1)) 1 (blit (S1 0) (S1 1) 0 (304 * ((S1 7 5) - 1)))) 7 5 (((S1 7 5) - 1) + 1)) := hM.put 7 5 (by omega)
            have e3 : mKeeps S 0 = put (putR (put S1 7 5 ((S1 7 5) - 1)) 1 (blit (S1 0) (S1 1) 0 (304 * ((S1 7 5) - 1)))) 7 5 (((S1 7 5) - 1) + 1) := by
              first | exact mKeeps_w S 0 (by omega) | (rw [mKeeps_n S 0 (by omega), keepRow, if_neg (by omega), if_neg (by omega)]; exact mKeeps_a S _ _ _ (by omega)) | (rw [mKeeps_n S 0 (by omega), keepRow, if_pos (by omega), if_pos (by omega), show S1 7 5 - 1 = 7 by omega, hS1, show k = 2128 by omega]; exact mKeeps_b S (shiftN (S 1) 2128) _ _ _ _ rfl)
            exact kz_vret () hx hb hr hlk hP hD hS dX3_keeps_90 rfl (kz_M e3 hM) (congrArg (mW E Ad) e3) hQ (Nat.le_of_ble_eq_true rfl) (Nat.le_of_ble_eq_true rfl)
          · skip
            refine lv_aload_n hx hb dX3_keeps_31 rfl (lv_at hl 0 rfl) ?_
            refine va_get (D := kD E) (ci := 2) (fs := mO Ad (S1)) (v := .ref (Ad 2)) (C := RX3) (T := TX3) (N := 19) hx hb hts in_X3 hown hK hP 0 rfl rfl 1 (by decide) (hts _ q2321) (fun _ h9 => h9) rfl dX3_keeps_32 ?_
            refine lv_iload_n hx hb dX3_keeps_35 rfl (lv_at hl 2 rfl) ?_
            refine lv_aload_n hx hb dX3_keeps_36 rfl (lv_at hl 0 rfl) ?_
            refine va_get (D := kD E) (ci := 2) (fs := mO Ad (S1)) (v := .ref (Ad 2)) (C := RX3) (T := TX3) (N := 19) hx hb hts in_X3 hown hK hP 0 rfl rfl 1 (by decide) (hts _ q2321) (fun _ h9 => h9) rfl dX3_keeps_37 ?_
            refine lv_iload_n hx hb dX3_keeps_40 rfl (lv_at hl 2 rfl) ?_
            refine kz_sipush hx hb dX3_keeps_41 (by decide) ?_
            refine kz_iadd hx hb dX3_keeps_44 ?_
            refine kz_iald (cA := kA E 0) (n := 2432) (g := S1 1) hx hb hK hP 2 0 rfl rfl (by omega) dX3_keeps_45 ?_
            have r9 : rI (S1 1 (k + 304)) := hM 1 (k + 304)
            refine kz_iast (cA := kA E 0) (n := 2432) (g := S1 1) hx hb hK hP hD hS 2 0 rfl rfl (by omega) dX3_keeps_46 (fun H9 locs9 hP9 hD9 hS9 => ?_)
            rw [mW_a1] at hP9 hD9
            clear hP hD hS H locs
            revert hS9 hD9 hP9 locs9 H9
            intro H locs hP hD hS
            replace hP : va_P (kD E) kcl (mW E Ad (put S1 1 k (S1 1 (k + 304)))) H := hP
            replace hD : va_D A (mW E Ad (put S1 1 k (S1 1 (k + 304)))) := hD
            replace hM : MOk (put S1 1 k (S1 1 (k + 304))) := hM.put 1 _ (by omega)
            refine kz_iinc (lv' := [(2, .int (zI (k + 1))), (0, .ref (Ad 0)), (1, .ref (Ad 1))]) hx hb dX3_keeps_47 hl (k := 2) rfl (by decide) rfl (fun ls hl => ?_)
            refine lv_goto (tgt := 24) hx hb dX3_keeps_50 (by decide) ?_
            exact ih24 (k + 1) (put S1 1 k (S1 1 (k + 304))) _ _ _ (by omega) (by rw [hS1, put_putR]; exact congrArg _ (shiftN_s _ hk.1)) (by omega) hM (by omega) hP hD hS (lv_sub hl [1, 2, 0] rfl)
      exact L24_5 (((2128 - 0) : Int).toNat + 1) 0 (put S 7 7 0) _ _ _ (by omega) (by rw [shiftN_0 _ rfl]; exact (putR_self _ 1).symm) (by omega) hM (Nat.lt_succ_self _) hP hD hS (lv_sub hl [1, 2, 0] rfl)
  · skip
    have e3 : mKeeps S 0 = put S 7 7 0 := by
      first | exact mKeeps_w S 0 (by omega) | (rw [mKeeps_n S 0 (by omega), keepRow, if_neg (by omega), if_neg (by omega)]; exact mKeeps_a S _ _ _ (by omega)) | (rw [mKeeps_n S 0 (by omega), keepRow, if_pos (by omega), if_pos (by omega), show S1 7 5 - 1 = 7 by omega, hS1, show k = 2128 by omega]; exact mKeeps_b S (shiftN (S 1) 2128) _ _ _ _ rfl)
    exact kz_vret () hx hb hr hlk hP hD hS dX3_keeps_12 rfl (kz_M e3 hM) (congrArg (mW E Ad) e3) hQ (Nat.le_of_ble_eq_true rfl) (Nat.le_of_ble_eq_true rfl)

set_option maxHeartbeats 4000000 in
set_option maxRecDepth 100000 in
theorem mX3_keeps_B (l : Launch) (E : KE) (sz : Nat) (Ad : Nat → Nat) (S : St) (hM : MOk S) (c0 : 0 ≤ S 7 5 ∧ S 7 5 ≤ 8) : Met l yX3_keeps (ws_ yX3_keeps cX3_keeps 3 none) (rmk 1 0 0 24) (va_Pc [.ref (Ad 0), .ref (Ad 4)] (kP l E sz (mW E Ad S) [])) (kQ E (fun _ : Unit => MOk (mKeeps S 3)) (fun _ => none) (fun _ => (mW E Ad (mKeeps S 3))) (va_A (mW E Ad S) sz)) 0 0 (va_A (mW E Ad S) sz) := by
  refine kz_start (Qf := kQ E (fun _ : Unit => MOk (mKeeps S 3)) (fun _ => none) (fun _ => (mW E Ad (mKeeps S 3)))) (by decide) (Nat.le_of_ble_eq_true rfl) ?_
  intro p e s m args below meth c A ls Q H locs hx hb hr hlk hml hts hown hname hG hK hA hAN hP hD hR hRA hS hQ hl
  replace hown : s.vm.findClass RX3 = some m.cls := hown
  replace hl : lv_has ls 3 [(0, .ref (Ad 0)), (1, .ref (Ad 4))] := hl
  replace hP : va_P (kD E) kcl (mW E Ad (S)) H := hP
  replace hD : va_D A (mW E Ad (S)) := hD
  refine lv_aload_n hx hb dX3_keeps_0 rfl (lv_at hl 0 rfl) ?_
  refine kz_iconst hx hb dX3_keeps_1 ?_
  refine va_put (D := kD E) (ci := 2) (fs := mO Ad (S)) (v := .int (zI (0))) (ty := .int) (C := RX3) (T := TX3) (N := 19) hx hb hts in_X3 tyX3 tyX3_ok nmX3 hown hK hP hD hS 0 rfl rfl 7 (by decide) (hts _ q2327) (fun _ h9 => h9) rfl (by decide +kernel) rfl rfl (Nat.le_of_ble_eq_true rfl) dX3_keeps_2 (fun H9 locs9 hP9 hD9 hS9 => ?_)
  rw [mW_f7] at hP9 hD9
  clear hP hD hS H locs
  revert hS9 hD9 hP9 locs9 H9
  intro H locs hP hD hS
  replace hP : va_P (kD E) kcl (mW E Ad (put S 7 7 0)) H := hP
  replace hD : va_D A (mW E Ad (put S 7 7 0)) := hD
  replace hM : MOk (put S 7 7 0) := hM.put 7 7 (by omega)
  refine lv_aload_n hx hb dX3_keeps_5 rfl (lv_at hl 0 rfl) ?_
  have r1 : rI (S 7 6) := hM 7 6
  refine va_get (D := kD E) (ci := 2) (fs := mO Ad (put S 7 7 0)) (v := .int (zI (S 7 6))) (C := RX3) (T := TX3) (N := 19) hx hb hts in_X3 hown hK hP 0 rfl rfl 6 (by decide) (hts _ q2326) (fun _ h9 => h9) rfl dX3_keeps_6 ?_
  refine kz_if_eq (tgt := 13) hx hb dX3_keeps_9 (by decide) (by omega) (fun c9 => ?_) (fun c9 => ?_)
  · skip
    refine lv_aload_n hx hb dX3_keeps_13 rfl (lv_at hl 0 rfl) ?_
    have r2 : rI (S 7 5) := hM 7 5
    refine va_get (D := kD E) (ci := 2) (fs := mO Ad (put S 7 7 0)) (v := .int (zI (S 7 5))) (C := RX3) (T := TX3) (N := 19) hx hb hts in_X3 hown hK hP 0 rfl rfl 5 (by decide) (hts _ q2325) (fun _ h9 => h9) rfl dX3_keeps_14 ?_
    refine kz_bipush hx hb dX3_keeps_17 (by decide) ?_
    refine kz_icmp_ne (tgt := 63) hx hb dX3_keeps_19 (by decide) (by omega) (by omega) (fun c19 => ?_) (fun c19 => ?_)
    · skip
      refine lv_aload_n hx hb dX3_keeps_63 rfl (lv_at hl 1 rfl) ?_
      refine kz_iconst hx hb dX3_keeps_64 ?_
      refine lv_aload_n hx hb dX3_keeps_65 rfl (lv_at hl 0 rfl) ?_
      refine va_get (D := kD E) (ci := 2) (fs := mO Ad (put S 7 7 0)) (v := .ref (Ad 2)) (C := RX3) (T := TX3) (N := 19) hx hb hts in_X3 hown hK hP 0 rfl rfl 1 (by decide) (hts _ q2321) (fun _ h9 => h9) rfl dX3_keeps_66 ?_
      refine kz_sipush hx hb dX3_keeps_69 (by decide) ?_
      refine lv_aload_n hx hb dX3_keeps_72 rfl (lv_at hl 0 rfl) ?_
      have r3 : rI (S 7 5) := hM 7 5
      refine va_get (D := kD E) (ci := 2) (fs := mO Ad (put S 7 7 0)) (v := .int (zI (S 7 5))) (C := RX3) (T := TX3) (N := 19) hx hb hts in_X3 hown hK hP 0 rfl rfl 5 (by decide) (hts _ q2325) (fun _ h9 => h9) rfl dX3_keeps_73 ?_
      refine kz_imul hx hb dX3_keeps_76 ?_
      have hPD := kz_mv (ws' := [(Ad 4, .inl (kA E 0, 304, .inl (zR (S 3)))), (Ad 2, .inl (kA E 0, 2432, .inl (zR (S 1)))), (Ad 0, .inr (2, mO Ad (put S 7 7 0))), (Ad 1, .inl (kA E 0, 304, .inl (zR (S 0)))), (Ad 3, .inl (kA E 0, 304, .inl (zR (S 2)))), (Ad 5, .inl (kA E 0, 60, .inl (zR (S 4)))), (Ad 6, .inl (kA E 3, 40, .inl (zR (S 5)))), (Ad 7, .inl (kA E 0, 155, .inl (zR (S 6))))]) hP hD (kz_re [4, 2, 0, 1, 3, 5, 6, 7] 8 (Nat.le_of_ble_eq_true rfl) (by decide) rfl)
      clear hP hD
      obtain ⟨hP, hD⟩ := hPD
      refine kz_back (wc := [(Ad 4, .inl (kA E 0, 304, .inl (zR (S 3)))), (Ad 2, .inl (kA E 0, 2432, .inl (zR (S 1))))]) (wx := [(Ad 0, .inr (2, mO Ad (put S 7 7 0))), (Ad 1, .inl (kA E 0, 304, .inl (zR (S 0)))), (Ad 3, .inl (kA E 0, 304, .inl (zR (S 2)))), (Ad 5, .inl (kA E 0, 60, .inl (zR (S 4)))), (Ad 6, .inl (kA E 3, 40, .inl (zR (S 5)))), (Ad 7, .inl (kA E 0, 155, .inl (zR (S 6))))]) (va_runS (As := [.ref (Ad 4), .int (zI (0)), .ref (Ad 2), .int (zI (304 * (S 7 5)))]) (rest := []) ⟨hx, hb, hml, hown, hts⟩ (mX3_copies l E H.size (Ad 4) (Ad 2) 304 2432 (by omega) (S 3) (S 1) (fun i => hM 3 i) 0 (by omega) (304 * (S 7 5)) (by omega) (show 0 ≤ 0 ∧ 0 + 304 ≤ 304 by first | omega | exact hI.st _ (by omega) (by omega) | exact hI.rv _ (by omega) (by omega) | exact hI) (show 0 ≤ (304 * (S 7 5)) ∧ (304 * (S 7 5)) + 304 ≤ 2432 by first | omega | exact hI.st _ (by omega) (by omega) | exact hI.rv _ (by omega) (by omega) | exact hI)) (va_cwS 4 hts (lw_S q2406 q2407 q83 q2408) rfl rfl rfl (by decide +kernel) ⟨(Nat.le_of_ble_eq_true rfl), (Nat.le_of_ble_eq_true rfl)⟩) (kz_pre (wc := [(Ad 4, .inl (kA E 0, 304, .inl (zR (S 3)))), (Ad 2, .inl (kA E 0, 2432, .inl (zR (S 1))))]) (wx := [(Ad 0, .inr (2, mO Ad (put S 7 7 0))), (Ad 1, .inl (kA E 0, 304, .inl (zR (S 0)))), (Ad 3, .inl (kA E 0, 304, .inl (zR (S 2)))), (Ad 5, .inl (kA E 0, 60, .inl (zR (S 4)))), (Ad 6, .inl (kA E 3, 40, .inl (zR (S 5)))), (Ad 7, .inl (kA E 0, 155, .inl (zR (S 6))))]) hG hS hAN hP hD kz_nilP kz_nilA) rfl rfl hl.1 rfl (lv_room (Nat.le_of_ble_eq_true rfl)) dX3_keeps_77 ⟨(Nat.le_of_ble_eq_true rfl), (Nat.le_of_ble_eq_true rfl)⟩) hP hD hS hA (fun u H9 locs9 hu hP9 hD9 hS9 hzz hkk => ?_)
      clear hzz hkk hP hD hS H locs u
      revert hS9 hD9 hP9 locs9 H9
      intro H locs hP hD hS
      have hPD := kz_mv (ws' := mW E Ad (putR (put S 7 7 0) 1 (blit (S 3) (S 1) 0 (304 * (S 7 5))))) hP hD (kz_re [2, 3, 1, 4, 0, 5, 6, 7] 8 (Nat.le_of_ble_eq_true rfl) (by decide) rfl)
      clear hP hD
      obtain ⟨hP, hD⟩ := hPD
      have hM : MOk (putR (put S 7 7 0) 1 (blit (S 3) (S 1) 0 (304 * (S 7 5)))) := hM.putR 1 (blit_r (fun i => hM 3 i) (fun i => hM 1 i) _ _)
      clear hu
      replace hP : va_P (kD E) kcl (mW E Ad (putR (put S 7 7 0) 1 (blit (S 3) (S 1) 0 (304 * (S 7 5))))) H := hP
      replace hD : va_D A (mW E Ad (putR (put S 7 7 0) 1 (blit (S 3) (S 1) 0 (304 * (S 7 5))))) := hD
      show W p l e _ s m args below meth c H locs _ _ Q (F0 m 80 ls [])
      refine lv_aload_n hx hb dX3_keeps_80 rfl (lv_at hl 0 rfl) ?_
      refine lv_dup hx hb dX3_keeps_81 rfl ?_
      have r4 : rI (S 7 5) := hM 7 5
      refine va_get (D := kD E) (ci := 2) (fs := mO Ad (putR (put S 7 7 0) 1 (blit (S 3) (S 1) 0 (304 * (S 7 5))))) (v := .int (zI (S 7 5))) (C := RX3) (T := TX3) (N := 19) hx hb hts in_X3 hown hK hP 0 rfl rfl 5 (by decide) (hts _ q2325) (fun _ h9 => h9) rfl dX3_keeps_82 ?_
      refine kz_iconst hx hb dX3_keeps_85 ?_
      refine kz_iadd hx hb dX3_keeps_86 ?_
      refine va_put (D := kD E) (ci := 2) (fs := mO Ad (putR (put S 7 7 0) 1 (blit (S 3) (S 1) 0 (304 * (S 7 5))))) (v := .int (zI ((S 7 5) + 1))) (ty := .int) (C := RX3) (T := TX3) (N := 19) hx hb hts in_X3 tyX3 tyX3_ok nmX3 hown hK hP hD hS 0 rfl rfl 5 (by decide) (hts _ q2325) (fun _ h9 => h9) rfl (by decide +kernel) rfl rfl (Nat.le_of_ble_eq_true rfl) dX3_keeps_87 (fun H9 locs9 hP9 hD9 hS9 => ?_)
      rw [mW_f5] at hP9 hD9
      clear hP hD hS H locs
      revert hS9 hD9 hP9 locs9 H9
      intro H locs hP hD hS
      replace hP : va_P (kD E) kcl (mW E Ad (put (putR (put S 7 7 0) 1 (blit (S 3) (S 1) 0 (304 * (S 7 5)))) 7 5 ((S 7 5) + 1))) H := hP
      replace hD : va_D A (mW E Ad (put (putR (put S 7 7 0) 1 (blit (S 3) (S 1) 0 (304 * (S 7 5)))) 7 5 ((S 7 5) + 1))) := hD
      replace hM : MOk (put (putR (put S 7 7 0) 1 (blit (S 3) (S 1) 0 (304 * (S 7 5)))) 7 5 ((S 7 5) + 1)) := hM.put 7 5 (by omega)
      have e3 : mKeeps S 3 = put (putR (put S 7 7 0) 1 (blit (S 3) (S 1) 0 (304 * (S 7 5)))) 7 5 ((S 7 5) + 1) := by
        first | exact mKeeps_w S 3 (by omega) | (rw [mKeeps_n S 3 (by omega), keepRow, if_neg (by omega), if_neg (by omega)]; exact mKeeps_a S _ _ _ (by omega)) | (rw [mKeeps_n S 3 (by omega), keepRow, if_pos (by omega), if_pos (by omega), show S1 7 5 - 1 = 7 by omega, hS1, show k = 2128 by omega]; exact mKeeps_b S (shiftN (S 1) 2128) _ _ _ _ rfl)
      exact kz_vret () hx hb hr hlk hP hD hS dX3_keeps_90 rfl (kz_M e3 hM) (congrArg (mW E Ad) e3) hQ (Nat.le_of_ble_eq_true rfl) (Nat.le_of_ble_eq_true rfl)
    · skip
      refine kz_iconst hx hb dX3_keeps_22 ?_
      refine lv_istore_n (lv' := [(2, .int (zI (0))), (0, .ref (Ad 0)), (1, .ref (Ad 4))]) hx hb dX3_keeps_23 rfl hl (by decide) rfl (fun ls hl => ?_)
      have L24_5 : ∀ (fu : Nat) (k : Int) (S1 : St) (H : Heap) (locs : List Loc) (ls : Array Slot), (0 ≤ k ∧ k ≤ 2128) → (S1 = putR (put S 7 7 0) 1 (shiftN (S 1) k)) → rI k → MOk S1 → ((2128 - k) : Int).toNat < fu → va_P (kD E) kcl (mW E Ad (S1)) H → va_D A (mW E Ad (S1)) → va_S A s.heap H locs → lv_has ls 3 [(0, .ref (Ad 0)), (1, .ref (Ad 4)), (2, .int (zI (k)))] → W p l e (rmk 1 0 0 24) s m args below meth c H locs 0 0 Q (F0 m 24 ls []) := by
        clear hl hS hD hP ls locs H hM
        intro fu
        induction fu with
        | zero => intro k S1 H locs ls hk hS1 rk hM hf; exact absurd hf (Nat.not_lt_zero _)
        | succ fu ih24 =>
          intro k S1 H locs ls hk hS1 rk hM hf hP hD hS hl
          have q5 : S1 7 5 = S 7 5 := by rw [hS1]; rfl
          refine lv_iload_n hx hb dX3_keeps_24 rfl (lv_at hl 2 rfl) ?_
          refine kz_sipush hx hb dX3_keeps_25 (by decide) ?_
          refine kz_icmp_ge (tgt := 53) hx hb dX3_keeps_28 (by decide) (by omega) (by omega) (fun c28 => ?_) (fun c28 => ?_)
          · skip
            refine lv_aload_n hx hb dX3_keeps_53 rfl (lv_at hl 0 rfl) ?_
            refine lv_dup hx hb dX3_keeps_54 rfl ?_
            have r6 : rI (S1 7 5) := hM 7 5
            refine va_get (D := kD E) (ci := 2) (fs := mO Ad (S1)) (v := .int (zI (S1 7 5))) (C := RX3) (T := TX3) (N := 19) hx hb hts in_X3 hown hK hP 0 rfl rfl 5 (by decide) (hts _ q2325) (fun _ h9 => h9) rfl dX3_keeps_55 ?_
            refine kz_iconst hx hb dX3_keeps_58 ?_
            refine kz_isub hx hb dX3_keeps_59 ?_
            refine va_put (D := kD E) (ci := 2) (fs := mO Ad (S1)) (v := .int (zI ((S1 7 5) - 1))) (ty := .int) (C := RX3) (T := TX3) (N := 19) hx hb hts in_X3 tyX3 tyX3_ok nmX3 hown hK hP hD hS 0 rfl rfl 5 (by decide) (hts _ q2325) (fun _ h9 => h9) rfl (by decide +kernel) rfl rfl (Nat.le_of_ble_eq_true rfl) dX3_keeps_60 (fun H9 locs9 hP9 hD9 hS9 => ?_)
            rw [mW_f5] at hP9 hD9
            clear hP hD hS H locs
            revert hS9 hD9 hP9 locs9 H9
            intro H locs hP hD hS
            replace hP : va_P (kD E) kcl (mW E Ad (put S1 7 5 ((S1 7 5) - 1))) H := hP
            replace hD : va_D A (mW E Ad (put S1 7 5 ((S1 7 5) - 1))) := hD
            replace hM : MOk (put S1 7 5 ((S1 7 5) - 1)) := hM.put 7 5 (by omega)
            refine lv_aload_n hx hb dX3_keeps_63 rfl (lv_at hl 1 rfl) ?_
            refine kz_iconst hx hb dX3_keeps_64 ?_
            refine lv_aload_n hx hb dX3_keeps_65 rfl (lv_at hl 0 rfl) ?_
            refine va_get (D := kD E) (ci := 2) (fs := mO Ad (put S1 7 5 ((S1 7 5) - 1))) (v := .ref (Ad 2)) (C := RX3) (T := TX3) (N := 19) hx hb hts in_X3 hown hK hP 0 rfl rfl 1 (by decide) (hts _ q2321) (fun _ h9 => h9) rfl dX3_keeps_66 ?_
            refine kz_sipush hx hb dX3_keeps_69 (by decide) ?_
            refine lv_aload_n hx hb dX3_keeps_72 rfl (lv_at hl 0 rfl) ?_
            have r7 : rI ((S1 7 5) - 1) := hM 7 5
            refine va_get (D := kD E) (ci := 2) (fs := mO Ad (put S1 7 5 ((S1 7 5) - 1))) (v := .int (zI ((S1 7 5) - 1))) (C := RX3) (T := TX3) (N := 19) hx hb hts in_X3 hown hK hP 0 rfl rfl 5 (by decide) (hts _ q2325) (fun _ h9 => h9) rfl dX3_keeps_73 ?_
            refine kz_imul hx hb dX3_keeps_76 ?_
            have hPD := kz_mv (ws' := [(Ad 4, .inl (kA E 0, 304, .inl (zR (S1 3)))), (Ad 2, .inl (kA E 0, 2432, .inl (zR (S1 1)))), (Ad 0, .inr (2, mO Ad (put S1 7 5 ((S1 7 5) - 1)))), (Ad 1, .inl (kA E 0, 304, .inl (zR (S1 0)))), (Ad 3, .inl (kA E 0, 304, .inl (zR (S1 2)))), (Ad 5, .inl (kA E 0, 60, .inl (zR (S1 4)))), (Ad 6, .inl (kA E 3, 40, .inl (zR (S1 5)))), (Ad 7, .inl (kA E 0, 155, .inl (zR (S1 6))))]) hP hD (kz_re [4, 2, 0, 1, 3, 5, 6, 7] 8 (Nat.le_of_ble_eq_true rfl) (by decide) rfl)
            clear hP hD
            obtain ⟨hP, hD⟩ := hPD
            refine kz_back (wc := [(Ad 4, .inl (kA E 0, 304, .inl (zR (S1 3)))), (Ad 2, .inl (kA E 0, 2432, .inl (zR (S1 1))))]) (wx := [(Ad 0, .inr (2, mO Ad (put S1 7 5 ((S1 7 5) - 1)))), (Ad 1, .inl (kA E 0, 304, .inl (zR (S1 0)))), (Ad 3, .inl (kA E 0, 304, .inl (zR (S1 2)))), (Ad 5, .inl (kA E 0, 60, .inl (zR (S1 4)))), (Ad 6, .inl (kA E 3, 40, .inl (zR (S1 5)))), (Ad 7, .inl (kA E 0, 155, .inl (zR (S1 6))))]) (va_runS (As := [.ref (Ad 4), .int (zI (0)), .ref (Ad 2), .int (zI (304 * ((S1 7 5) - 1)))]) (rest := []) ⟨hx, hb, hml, hown, hts⟩ (mX3_copies l E H.size (Ad 4) (Ad 2) 304 2432 (by omega) (S1 3) (S1 1) (fun i => hM 3 i) 0 (by omega) (304 * ((S1 7 5) - 1)) (by omega) (show 0 ≤ 0 ∧ 0 + 304 ≤ 304 by first | omega | exact hI.st _ (by omega) (by omega) | exact hI.rv _ (by omega) (by omega) | exact hI) (show 0 ≤ (304 * ((S1 7 5) - 1)) ∧ (304 * ((S1 7 5) - 1)) + 304 ≤ 2432 by first | omega | exact hI.st _ (by omega) (by omega) | exact hI.rv _ (by omega) (by omega) | exact hI)) (va_cwS 4 hts (lw_S q2406 q2407 q83 q2408) rfl rfl rfl (by decide +kernel) ⟨(Nat.le_of_ble_eq_true rfl), (Nat.le_of_ble_eq_true rfl)⟩) (kz_pre (wc := [(Ad 4, .inl (kA E 0, 304, .inl (zR (S1 3)))), (Ad 2, .inl (kA E 0, 2432, .inl (zR (S1 1))))]) (wx := [(Ad 0, .inr (2, mO Ad (put S1 7 5 ((S1 7 5) - 1)))), (Ad 1, .inl (kA E 0, 304, .inl (zR (S1 0)))), (Ad 3, .inl (kA E 0, 304, .inl (zR (S1 2)))), (Ad 5, .inl (kA E 0, 60, .inl (zR (S1 4)))), (Ad 6, .inl (kA E 3, 40, .inl (zR (S1 5)))), (Ad 7, .inl (kA E 0, 155, .inl (zR (S1 6))))]) hG hS hAN hP hD kz_nilP kz_nilA) rfl rfl hl.1 rfl (lv_room (Nat.le_of_ble_eq_true rfl)) dX3_keeps_77 ⟨(Nat.le_of_ble_eq_true rfl), (Nat.le_of_ble_eq_true rfl)⟩) hP hD hS hA (fun u H9 locs9 hu hP9 hD9 hS9 hzz hkk => ?_)
            clear hzz hkk hP hD hS H locs u
            revert hS9 hD9 hP9 locs9 H9
            intro H locs hP hD hS
            have hPD := kz_mv (ws' := mW E Ad (putR (put S1 7 5 ((S1 7 5) - 1)) 1 (blit (S1 3) (S1 1) 0 (304 * ((S1 7 5) - 1))))) hP hD (kz_re [2, 3, 1, 4, 0, 5, 6, 7] 8 (Nat.le_of_ble_eq_true rfl) (by decide) rfl)
            clear hP hD
            obtain ⟨hP, hD⟩ := hPD
            have hM : MOk (putR (put S1 7 5 ((S1 7 5) - 1)) 1 (blit (S1 3) (S1 1) 0 (304 * ((S1 7 5) - 1)))) := hM.putR 1 (blit_r (fun i => hM 3 i) (fun i => hM 1 i) _ _)
            clear hu
            replace hP : va_P (kD E) kcl (mW E Ad (putR (put S1 7 5 ((S1 7 5) - 1)) 1 (blit (S1 3) (S1 1) 0 (304 * ((S1 7 5) - 1))))) H := hP
            replace hD : va_D A (mW E Ad (putR (put S1 7 5 ((S1 7 5) - 1)) 1 (blit (S1 3) (S1 1) 0 (304 * ((S1 7 5) - 1))))) := hD
            show W p l e _ s m args below meth c H locs _ _ Q (F0 m 80 ls [])
            refine lv_aload_n hx hb dX3_keeps_80 rfl (lv_at hl 0 rfl) ?_
            refine lv_dup hx hb dX3_keeps_81 rfl ?_
            have r8 : rI ((S1 7 5) - 1) := hM 7 5
            refine va_get (D := kD E) (ci := 2) (fs := mO Ad (putR (put S1 7 5 ((S1 7 5) - 1)) 1 (blit (S1 3) (S1 1) 0 (304 * ((S1 7 5) - 1))))) (v := .int (zI ((S1 7 5) - 1))) (C := RX3) (T := TX3) (N := 19) hx hb hts in_X3 hown hK hP 0 rfl rfl 5 (by decide) (hts _ q2325) (fun _ h9 => h9) rfl dX3_keeps_82 ?_
            refine kz_iconst hx hb dX3_keeps_85 ?_
            refine kz_iadd hx hb dX3_keeps_86 ?_
            refine va_put (D := kD E) (ci := 2) (fs := mO Ad (putR (put S1 7 5 ((S1 7 5) - 1)) 1 (blit (S1 3) (S1 1) 0 (304 * ((S1 7 5) - 1))))) (v := .int (zI (((S1 7 5) - 1) + 1))) (ty := .int) (C := RX3) (T := TX3) (N := 19) hx hb hts in_X3 tyX3 tyX3_ok nmX3 hown hK hP hD hS 0 rfl rfl 5 (by decide) (hts _ q2325) (fun _ h9 => h9) rfl (by decide +kernel) rfl rfl (Nat.le_of_ble_eq_true rfl) dX3_keeps_87 (fun H9 locs9 hP9 hD9 hS9 => ?_)
            rw [mW_f5] at hP9 hD9
            clear hP hD hS H locs
            revert hS9 hD9 hP9 locs9 H9
            intro H locs hP hD hS
            replace hP : va_P (kD E) kcl (mW E Ad (put (putR (put S1 7 5 ((S1 7 5) - 1)) 1 (blit (S1 3) (S1 1) 0 (304 * ((S1 7 5) - 1)))) 7 5 (((S1 7 5) - 1) + 1))) H := hP
            replace hD : va_D A (mW E Ad (put (putR (put S1 7 5 ((S1 7 5) - 1)) 1 (blit (S1 3) (S1 1) 0 (304 * ((S1 7 5) - 1)))) 7 5 (((S1 7 5) - 1) + 1))) := hD
            replace hM : MOk (put (putR (put S1 7 5 ((S1 7 5) - 1)) 1 (blit (S1 3) (S1 1) 0 (304 * ((S1 7 5) - 1)))) 7 5 (((S1 7 5) - 1) + 1)) := hM.put 7 5 (by omega)
            have e3 : mKeeps S 3 = put (putR (put S1 7 5 ((S1 7 5) - 1)) 1 (blit (S1 3) (S1 1) 0 (304 * ((S1 7 5) - 1)))) 7 5 (((S1 7 5) - 1) + 1) := by
              first | exact mKeeps_w S 3 (by omega) | (rw [mKeeps_n S 3 (by omega), keepRow, if_neg (by omega), if_neg (by omega)]; exact mKeeps_a S _ _ _ (by omega)) | (rw [mKeeps_n S 3 (by omega), keepRow, if_pos (by omega), if_pos (by omega), show S1 7 5 - 1 = 7 by omega, hS1, show k = 2128 by omega]; exact mKeeps_b S (shiftN (S 1) 2128) _ _ _ _ rfl)
            exact kz_vret () hx hb hr hlk hP hD hS dX3_keeps_90 rfl (kz_M e3 hM) (congrArg (mW E Ad) e3) hQ (Nat.le_of_ble_eq_true rfl) (Nat.le_of_ble_eq_true rfl)
          · skip
            refine lv_aload_n hx hb dX3_keeps_31 rfl (lv_at hl 0 rfl) ?_
            refine va_get (D := kD E) (ci := 2) (fs := mO Ad (S1)) (v := .ref (Ad 2)) (C := RX3) (T := TX3) (N := 19) hx hb hts in_X3 hown hK hP 0 rfl rfl 1 (by decide) (hts _ q2321) (fun _ h9 => h9) rfl dX3_keeps_32 ?_
            refine lv_iload_n hx hb dX3_keeps_35 rfl (lv_at hl 2 rfl) ?_
            refine lv_aload_n hx hb dX3_keeps_36 rfl (lv_at hl 0 rfl) ?_
            refine va_get (D := kD E) (ci := 2) (fs := mO Ad (S1)) (v := .ref (Ad 2)) (C := RX3) (T := TX3) (N := 19) hx hb hts in_X3 hown hK hP 0 rfl rfl 1 (by decide) (hts _ q2321) (fun _ h9 => h9) rfl dX3_keeps_37 ?_
            refine lv_iload_n hx hb dX3_keeps_40 rfl (lv_at hl 2 rfl) ?_
            refine kz_sipush hx hb dX3_keeps_41 (by decide) ?_
            refine kz_iadd hx hb dX3_keeps_44 ?_
            refine kz_iald (cA := kA E 0) (n := 2432) (g := S1 1) hx hb hK hP 2 0 rfl rfl (by omega) dX3_keeps_45 ?_
            have r9 : rI (S1 1 (k + 304)) := hM 1 (k + 304)
            refine kz_iast (cA := kA E 0) (n := 2432) (g := S1 1) hx hb hK hP hD hS 2 0 rfl rfl (by omega) dX3_keeps_46 (fun H9 locs9 hP9 hD9 hS9 => ?_)
            rw [mW_a1] at hP9 hD9
            clear hP hD hS H locs
            revert hS9 hD9 hP9 locs9 H9
            intro H locs hP hD hS
            replace hP : va_P (kD E) kcl (mW E Ad (put S1 1 k (S1 1 (k + 304)))) H := hP
            replace hD : va_D A (mW E Ad (put S1 1 k (S1 1 (k + 304)))) := hD
            replace hM : MOk (put S1 1 k (S1 1 (k + 304))) := hM.put 1 _ (by omega)
            refine kz_iinc (lv' := [(2, .int (zI (k + 1))), (0, .ref (Ad 0)), (1, .ref (Ad 4))]) hx hb dX3_keeps_47 hl (k := 2) rfl (by decide) rfl (fun ls hl => ?_)
            refine lv_goto (tgt := 24) hx hb dX3_keeps_50 (by decide) ?_
            exact ih24 (k + 1) (put S1 1 k (S1 1 (k + 304))) _ _ _ (by omega) (by rw [hS1, put_putR]; exact congrArg _ (shiftN_s _ hk.1)) (by omega) hM (by omega) hP hD hS (lv_sub hl [1, 2, 0] rfl)
      exact L24_5 (((2128 - 0) : Int).toNat + 1) 0 (put S 7 7 0) _ _ _ (by omega) (by rw [shiftN_0 _ rfl]; exact (putR_self _ 1).symm) (by omega) hM (Nat.lt_succ_self _) hP hD hS (lv_sub hl [1, 2, 0] rfl)
  · skip
    have e3 : mKeeps S 3 = put S 7 7 0 := by
      first | exact mKeeps_w S 3 (by omega) | (rw [mKeeps_n S 3 (by omega), keepRow, if_neg (by omega), if_neg (by omega)]; exact mKeeps_a S _ _ _ (by omega)) | (rw [mKeeps_n S 3 (by omega), keepRow, if_pos (by omega), if_pos (by omega), show S1 7 5 - 1 = 7 by omega, hS1, show k = 2128 by omega]; exact mKeeps_b S (shiftN (S 1) 2128) _ _ _ _ rfl)
    exact kz_vret () hx hb hr hlk hP hD hS dX3_keeps_12 rfl (kz_M e3 hM) (congrArg (mW E Ad) e3) hQ (Nat.le_of_ble_eq_true rfl) (Nat.le_of_ble_eq_true rfl)

set_option maxHeartbeats 4000000 in
set_option maxRecDepth 100000 in
theorem mX3_empties (l : Launch) (E : KE) (sz : Nat) (Ad : Nat → Nat) (S : St) (hM : MOk S) : Met l yX3_empties (ws_ yX3_empties cX3_empties 2 none) (rmk 0 0 0 0) (va_Pc [.ref (Ad 0)] (kP l E sz (mW E Ad S) [])) (kQ E (fun _ : Unit => MOk (putR S 0 (gEmpty (S 0)))) (fun _ => none) (fun _ => (mW E Ad (putR S 0 (gEmpty (S 0))))) (va_A (mW E Ad S) sz)) 0 0 (va_A (mW E Ad S) sz) := by
  refine kz_start (Qf := kQ E (fun _ : Unit => MOk (putR S 0 (gEmpty (S 0)))) (fun _ => none) (fun _ => (mW E Ad (putR S 0 (gEmpty (S 0)))))) (by decide) (Nat.le_of_ble_eq_true rfl) ?_
  intro p e s m args below meth c A ls Q H locs hx hb hr hlk hml hts hown hname hG hK hA hAN hP hD hR hRA hS hQ hl
  replace hown : s.vm.findClass RX3 = some m.cls := hown
  replace hl : lv_has ls 2 [(0, .ref (Ad 0))] := hl
  replace hP : va_P (kD E) kcl (mW E Ad (S)) H := hP
  replace hD : va_D A (mW E Ad (S)) := hD
  refine kz_iconst hx hb dX3_empties_0 ?_
  refine lv_istore_n (lv' := [(1, .int (zI (0))), (0, .ref (Ad 0))]) hx hb dX3_empties_1 rfl hl (by decide) rfl (fun ls hl => ?_)
  have L2_1 : ∀ (fu : Nat) (k : Int) (S1 : St) (H : Heap) (locs : List Loc) (ls : Array Slot), (0 ≤ k ∧ k ≤ 304) → (S1 = putR S 0 (fillN (S 0) 0 0 k)) → rI k → MOk S1 → ((304 - k) : Int).toNat < fu → va_P (kD E) kcl (mW E Ad (S1)) H → va_D A (mW E Ad (S1)) → va_S A s.heap H locs → lv_has ls 2 [(0, .ref (Ad 0)), (1, .int (zI (k)))] → W p l e (rmk 0 0 0 0) s m args below meth c H locs 0 0 Q (F0 m 2 ls []) := by
    clear hl hS hD hP ls locs H hM
    intro fu
    induction fu with
    | zero => intro k S1 H locs ls hk hS1 rk hM hf; exact absurd hf (Nat.not_lt_zero _)
    | succ fu ih2 =>
      intro k S1 H locs ls hk hS1 rk hM hf hP hD hS hl
      refine lv_iload_n hx hb dX3_empties_2 rfl (lv_at hl 1 rfl) ?_
      refine kz_sipush hx hb dX3_empties_3 (by decide) ?_
      refine kz_icmp_ge (tgt := 22) hx hb dX3_empties_6 (by decide) (by omega) (by omega) (fun c6 => ?_) (fun c6 => ?_)
      · skip
        refine kz_sipush hx hb dX3_empties_22 (by decide) ?_
        refine lv_istore_n (lv' := [(1, .int (zI (174))), (0, .ref (Ad 0))]) hx hb dX3_empties_25 rfl hl (by decide) rfl (fun ls hl => ?_)
        have L26_2 : ∀ (fu : Nat) (j : Int) (S2 : St) (H : Heap) (locs : List Loc) (ls : Array Slot), (174 ≤ j ∧ j ≤ 294) → (S2 = putR S 0 (fillN (fillN (S 0) 0 0 304) 174 (-1) j)) → rI j → MOk S2 → ((294 - j) : Int).toNat < fu → va_P (kD E) kcl (mW E Ad (S2)) H → va_D A (mW E Ad (S2)) → va_S A s.heap H locs → lv_has ls 2 [(0, .ref (Ad 0)), (1, .int (zI (j)))] → W p l e (rmk 0 0 0 0) s m args below meth c H locs 0 0 Q (F0 m 26 ls []) := by
          clear hl hS hD hP ls locs H hM
          intro fu
          induction fu with
          | zero => intro j S2 H locs ls hj hS2 rj hM hf; exact absurd hf (Nat.not_lt_zero _)
          | succ fu ih26 =>
            intro j S2 H locs ls hj hS2 rj hM hf hP hD hS hl
            refine lv_iload_n hx hb dX3_empties_26 rfl (lv_at hl 1 rfl) ?_
            refine kz_sipush hx hb dX3_empties_27 (by decide) ?_
            refine kz_icmp_ge (tgt := 46) hx hb dX3_empties_30 (by decide) (by omega) (by omega) (fun c30 => ?_) (fun c30 => ?_)
            · skip
              have e3 : putR S 0 (gEmpty (S 0)) = S2 := by rw [hS2, show j = 294 by omega]; rfl
              exact kz_vret () hx hb hr hlk hP hD hS dX3_empties_46 rfl (kz_M e3 hM) (congrArg (mW E Ad) e3) hQ (Nat.le_of_ble_eq_true rfl) (Nat.le_of_ble_eq_true rfl)
            · skip
              refine lv_aload_n hx hb dX3_empties_33 rfl (lv_at hl 0 rfl) ?_
              refine va_get (D := kD E) (ci := 2) (fs := mO Ad (S2)) (v := .ref (Ad 1)) (C := RX3) (T := TX3) (N := 19) hx hb hts in_X3 hown hK hP 0 rfl rfl 0 (by decide) (hts _ q2320) (fun _ h9 => h9) rfl dX3_empties_34 ?_
              refine lv_iload_n hx hb dX3_empties_37 rfl (lv_at hl 1 rfl) ?_
              refine kz_iconst hx hb dX3_empties_38 ?_
              refine kz_iast (cA := kA E 0) (n := 304) (g := S2 0) hx hb hK hP hD hS 1 0 rfl rfl (by omega) dX3_empties_39 (fun H9 locs9 hP9 hD9 hS9 => ?_)
              rw [mW_a0] at hP9 hD9
              clear hP hD hS H locs
              revert hS9 hD9 hP9 locs9 H9
              intro H locs hP hD hS
              replace hP : va_P (kD E) kcl (mW E Ad (put S2 0 j ((-1)))) H := hP
              replace hD : va_D A (mW E Ad (put S2 0 j ((-1)))) := hD
              replace hM : MOk (put S2 0 j ((-1))) := hM.put 0 _ (by omega)
              refine kz_iinc (lv' := [(1, .int (zI (j + 1))), (0, .ref (Ad 0))]) hx hb dX3_empties_40 hl (k := 1) rfl (by decide) rfl (fun ls hl => ?_)
              refine lv_goto (tgt := 26) hx hb dX3_empties_43 (by decide) ?_
              exact ih26 (j + 1) (put S2 0 j ((-1))) _ _ _ (by omega) (by rw [hS2, put_putR]; exact congrArg _ (fillN_s _ 174 (-1) hj.1)) (by omega) hM (by omega) hP hD hS (lv_sub hl [1, 0] rfl)
        exact L26_2 (((294 - 174) : Int).toNat + 1) 174 S1 _ _ _ (by omega) (by rw [fillN_0 _ 174 (-1) rfl, hS1, show k = 304 by omega]) (by omega) hM (Nat.lt_succ_self _) hP hD hS (lv_sub hl [1, 0] rfl)
      · skip
        refine lv_aload_n hx hb dX3_empties_9 rfl (lv_at hl 0 rfl) ?_
        refine va_get (D := kD E) (ci := 2) (fs := mO Ad (S1)) (v := .ref (Ad 1)) (C := RX3) (T := TX3) (N := 19) hx hb hts in_X3 hown hK hP 0 rfl rfl 0 (by decide) (hts _ q2320) (fun _ h9 => h9) rfl dX3_empties_10 ?_
        refine lv_iload_n hx hb dX3_empties_13 rfl (lv_at hl 1 rfl) ?_
        refine kz_iconst hx hb dX3_empties_14 ?_
        refine kz_iast (cA := kA E 0) (n := 304) (g := S1 0) hx hb hK hP hD hS 1 0 rfl rfl (by omega) dX3_empties_15 (fun H9 locs9 hP9 hD9 hS9 => ?_)
        rw [mW_a0] at hP9 hD9
        clear hP hD hS H locs
        revert hS9 hD9 hP9 locs9 H9
        intro H locs hP hD hS
        replace hP : va_P (kD E) kcl (mW E Ad (put S1 0 k 0)) H := hP
        replace hD : va_D A (mW E Ad (put S1 0 k 0)) := hD
        replace hM : MOk (put S1 0 k 0) := hM.put 0 _ (by omega)
        refine kz_iinc (lv' := [(1, .int (zI (k + 1))), (0, .ref (Ad 0))]) hx hb dX3_empties_16 hl (k := 1) rfl (by decide) rfl (fun ls hl => ?_)
        refine lv_goto (tgt := 2) hx hb dX3_empties_19 (by decide) ?_
        exact ih2 (k + 1) (put S1 0 k 0) _ _ _ (by omega) (by rw [hS1, put_putR]; exact congrArg _ (fillN_s _ 0 0 hk.1)) (by omega) hM (by omega) hP hD hS (lv_sub hl [1, 0] rfl)
  exact L2_1 (((304 - 0) : Int).toNat + 1) 0 S _ _ _ (by omega) (by rw [fillN_0 _ 0 0 rfl]; exact (putR_self _ 0).symm) (by omega) hM (Nat.lt_succ_self _) hP hD hS (lv_sub hl [1, 0] rfl)

