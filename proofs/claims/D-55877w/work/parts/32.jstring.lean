/-! THE JDK -/
set_option maxHeartbeats 4000000 in
set_option maxRecDepth 100000 in
theorem mJ8_coder (l : Launch) (E : KE) (sz : Nat) (a v n : Nat) (f : Int → Int) (hn : n ≤ 100000) : Met l yJ8_coder (ws_ yJ8_coder cJ8_coder 1 (some .byte)) (rmk 0 0 0 0) (va_Pc [.ref a] (kPx l E sz [] [] (fun U : State => StrR a v n f U))) (kQ E (fun _ : Unit => rI (0)) (fun _ => some (.int (zI (0)))) (fun _ => []) (va_A [] sz)) 0 0 (va_A [] sz) := by
  refine kz_startX (Qf := kQ E (fun _ : Unit => rI (0)) (fun _ => some (.int (zI (0)))) (fun _ => [])) (by decide) (Nat.le_of_ble_eq_true rfl) ?_
  intro p e s m args below meth c A ls Q H locs hx hb hr hlk hml hts hown hname hG hK hA hAN hP hD hR hRA hS hQ hl hX hXA
  replace hX : StrR a v n f s := hX
  replace hown : s.vm.findClass RJ8 = some m.cls := hown
  replace hl : lv_has ls 1 [(0, .ref a)] := hl
  have na : ¬ A a := hXA a hX.lt.1 (fun _ h => by simp at h)
  have nv : ¬ A v := hXA v hX.lt.2 (fun _ h => by simp at h)
  replace hP : va_P (kD E) kcl [] H := hP
  replace hD : va_D A [] := hD
  refine va_gets (v := .int (zI (1))) hx hb (hG.Zi (z := 1) hAN (C := "java/lang/String") (n := "COMPACT_STRINGS") (d := "Z") q252 (lw_all_tbl q81) (List.mem_of_getElem? (i := 8) (by decide +kernel))) hS hown (hts _ q569) (fun _ h9 => h9) dJ8_coder_0 ?_
  refine kz_if_eq (tgt := 13) hx hb dJ8_coder_3 (by decide) (by omega) (fun c3 => by exact absurd c3 (by decide)) (fun c3 => ?_)
  refine lv_aload_n hx hb dJ8_coder_6 rfl (lv_at hl 0 rfl) ?_
  refine vk_getf (v := .int (zI (0))) hx hb (hX.co na) hS hown (hts _ q720) (fun _ h9 => h9) dJ8_coder_7 ?_
  refine lv_goto (tgt := 14) hx hb dJ8_coder_10 (by decide) ?_
  have e1 : (0 : Int) = 0 := by first | rfl | omega
  exact kz_bret () hx hb hr hlk hP hD hS dJ8_coder_14 (by omega) (congrArg (fun z : Int => some (Value.int (zI z))) e1) (kz_r e1 (by omega)) rfl hQ (Nat.le_of_ble_eq_true rfl) (Nat.le_of_ble_eq_true rfl)

set_option maxHeartbeats 4000000 in
set_option maxRecDepth 100000 in
theorem mJ8_isLatin1 (l : Launch) (E : KE) (sz : Nat) (a v n : Nat) (f : Int → Int) (hn : n ≤ 100000) : Met l yJ8_isLatin1 (ws_ yJ8_isLatin1 cJ8_isLatin1 1 (some .boolean)) (rmk 0 0 0 0) (va_Pc [.ref a] (kPx l E sz [] [] (fun U : State => StrR a v n f U))) (kQ E (fun _ : Unit => rI (1)) (fun _ => some (.int (zI (1)))) (fun _ => []) (va_A [] sz)) 0 0 (va_A [] sz) := by
  refine kz_startX (Qf := kQ E (fun _ : Unit => rI (1)) (fun _ => some (.int (zI (1)))) (fun _ => [])) (by decide) (Nat.le_of_ble_eq_true rfl) ?_
  intro p e s m args below meth c A ls Q H locs hx hb hr hlk hml hts hown hname hG hK hA hAN hP hD hR hRA hS hQ hl hX hXA
  replace hX : StrR a v n f s := hX
  replace hown : s.vm.findClass RJ8 = some m.cls := hown
  replace hl : lv_has ls 1 [(0, .ref a)] := hl
  have na : ¬ A a := hXA a hX.lt.1 (fun _ h => by simp at h)
  have nv : ¬ A v := hXA v hX.lt.2 (fun _ h => by simp at h)
  replace hP : va_P (kD E) kcl [] H := hP
  replace hD : va_D A [] := hD
  refine va_gets (v := .int (zI (1))) hx hb (hG.Zi (z := 1) hAN (C := "java/lang/String") (n := "COMPACT_STRINGS") (d := "Z") q252 (lw_all_tbl q81) (List.mem_of_getElem? (i := 8) (by decide +kernel))) hS hown (hts _ q569) (fun _ h9 => h9) dJ8_isLatin1_0 ?_
  refine kz_if_eq (tgt := 17) hx hb dJ8_isLatin1_3 (by decide) (by omega) (fun c3 => by exact absurd c3 (by decide)) (fun c3 => ?_)
  refine lv_aload_n hx hb dJ8_isLatin1_6 rfl (lv_at hl 0 rfl) ?_
  refine vk_getf (v := .int (zI (0))) hx hb (hX.co na) hS hown (hts _ q720) (fun _ h9 => h9) dJ8_isLatin1_7 ?_
  refine kz_if_ne (tgt := 17) hx hb dJ8_isLatin1_10 (by decide) (by omega) (fun c10 => by exact absurd c10 (by decide)) (fun c10 => ?_)
  refine kz_iconst hx hb dJ8_isLatin1_13 ?_
  refine lv_goto (tgt := 18) hx hb dJ8_isLatin1_14 (by decide) ?_
  have e1 : (1 : Int) = 1 := by first | rfl | omega
  exact kz_zNret () hx hb hr hlk hP hD hS dJ8_isLatin1_18 (by decide) (congrArg (fun z : Int => some (Value.int (zI z))) e1) (kz_r e1 (by omega)) rfl hQ (Nat.le_of_ble_eq_true rfl) (Nat.le_of_ble_eq_true rfl)

set_option maxHeartbeats 4000000 in
set_option maxRecDepth 100000 in
theorem mJ8_length (l : Launch) (E : KE) (sz : Nat) (a v n : Nat) (f : Int → Int) (hn : n ≤ 100000) : Met l yJ8_length (ws_ yJ8_length cJ8_length 1 (some .int)) (rmk 1 0 0 20) (va_Pc [.ref a] (kPx l E sz [] [] (fun U : State => StrR a v n f U))) (kQ E (fun _ : Unit => rI ((n : Int))) (fun _ => some (.int (zI ((n : Int))))) (fun _ => []) (va_A [] sz)) 0 0 (va_A [] sz) := by
  refine kz_startX (Qf := kQ E (fun _ : Unit => rI ((n : Int))) (fun _ => some (.int (zI ((n : Int))))) (fun _ => [])) (by decide) (Nat.le_of_ble_eq_true rfl) ?_
  intro p e s m args below meth c A ls Q H locs hx hb hr hlk hml hts hown hname hG hK hA hAN hP hD hR hRA hS hQ hl hX hXA
  replace hX : StrR a v n f s := hX
  replace hown : s.vm.findClass RJ8 = some m.cls := hown
  replace hl : lv_has ls 1 [(0, .ref a)] := hl
  have na : ¬ A a := hXA a hX.lt.1 (fun _ h => by simp at h)
  have nv : ¬ A v := hXA v hX.lt.2 (fun _ h => by simp at h)
  replace hP : va_P (kD E) kcl [] H := hP
  replace hD : va_D A [] := hD
  refine lv_aload_n hx hb dJ8_length_0 rfl (lv_at hl 0 rfl) ?_
  refine vk_getf (v := .ref v) hx hb (hX.va na) hS hown (hts _ q719) (fun _ h9 => h9) dJ8_length_1 ?_
  refine kz_slen hx hb hX nv hS dJ8_length_4 ?_
  refine lv_aload_n hx hb dJ8_length_5 rfl (lv_at hl 0 rfl) ?_
  refine kz_back (wc := []) (wx := []) (va_runV (As := []) (rest := [.int (zI ((n : Int)))]) ⟨hx, hb, hml, hown, hts⟩ (mJ8_coder l E H.size a v n f (by omega)) (cwV 0 hts (lw_V q565 q566 q567 q81 q568) rfl rfl rfl (by decide +kernel) ⟨(Nat.le_of_ble_eq_true rfl), (Nat.le_of_ble_eq_true rfl)⟩) (kz_preXV (kz_preV (wc := []) (wx := []) (hX.re na hS) hG hS hAN hP hD kz_nilP kz_nilA) (fun _ _ _ _ h => h) (fun U hU hW => hX.on hS na nv hU hW)) rfl rfl hl.1 rfl (lv_room (Nat.le_of_ble_eq_true rfl)) dJ8_length_6 ⟨(Nat.le_of_ble_eq_true rfl), (Nat.le_of_ble_eq_true rfl)⟩) hP hD hS hA (fun u H9 locs9 hu hP9 hD9 hS9 hzz hkk => ?_)
  clear hzz hkk hP hD hS H locs u
  revert hS9 hD9 hP9 locs9 H9
  intro H locs hP hD hS
  have r1 : rI (0) := hu
  clear hu
  replace hP : va_P (kD E) kcl [] H := hP
  replace hD : va_D A [] := hD
  show W p l e _ s m args below meth c H locs _ _ Q (F0 m 9 ls [.int (zI (0)), .int (zI ((n : Int)))])
  refine kz_ishr0 hx hb dJ8_length_9 ?_
  have e1 : ((n : Int) : Int) = (n : Int) := by first | rfl | omega
  exact kz_iret () hx hb hr hlk hP hD hS dJ8_length_10 (congrArg (fun z : Int => some (Value.int (zI z))) e1) (kz_r e1 (by omega)) rfl hQ (Nat.le_of_ble_eq_true rfl) (Nat.le_of_ble_eq_true rfl)

set_option maxHeartbeats 4000000 in
set_option maxRecDepth 100000 in
theorem mJ12_checkIndex (l : Launch) (E : KE) (sz : Nat) (i : Int) (ri : rI i) (n : Int) (rn : rI n) (fm : Nat) (hi : 0 ≤ i ∧ i < n) : Met l yJ12_checkIndex (ws_ yJ12_checkIndex cJ12_checkIndex 3 (some .int)) (rmk 0 0 0 0) (va_Pc [.int (zI i), .int (zI n), .ref fm] (kP l E sz [] [])) (kQ E (fun _ : Unit => rI (i)) (fun _ => some (.int (zI (i)))) (fun _ => []) (va_A [] sz)) 0 0 (va_A [] sz) := by
  refine kz_start (Qf := kQ E (fun _ : Unit => rI (i)) (fun _ => some (.int (zI (i)))) (fun _ => [])) (by decide) (Nat.le_of_ble_eq_true rfl) ?_
  intro p e s m args below meth c A ls Q H locs hx hb hr hlk hml hts hown hname hG hK hA hAN hP hD hR hRA hS hQ hl
  replace hown : s.vm.findClass RJ12 = some m.cls := hown
  replace hl : lv_has ls 3 [(0, .int (zI (i))), (1, .int (zI (n))), (2, .ref fm)] := hl
  replace hP : va_P (kD E) kcl [] H := hP
  replace hD : va_D A [] := hD
  refine lv_iload_n hx hb dJ12_checkIndex_0 rfl (lv_at hl 0 rfl) ?_
  refine kz_if_lt (tgt := 9) hx hb dJ12_checkIndex_1 (by decide) (by omega) (fun c1 => by omega) (fun c1 => ?_)
  refine lv_iload_n hx hb dJ12_checkIndex_4 rfl (lv_at hl 0 rfl) ?_
  refine lv_iload_n hx hb dJ12_checkIndex_5 rfl (lv_at hl 1 rfl) ?_
  refine kz_icmp_lt (tgt := 16) hx hb dJ12_checkIndex_6 (by decide) (by omega) (by omega) (fun c6 => ?_) (fun c6 => by omega)
  refine lv_iload_n hx hb dJ12_checkIndex_16 rfl (lv_at hl 0 rfl) ?_
  have e1 : (i : Int) = i := by first | rfl | omega
  exact kz_iret () hx hb hr hlk hP hD hS dJ12_checkIndex_17 (congrArg (fun z : Int => some (Value.int (zI z))) e1) (kz_r e1 (by omega)) rfl hQ (Nat.le_of_ble_eq_true rfl) (Nat.le_of_ble_eq_true rfl)

set_option maxHeartbeats 4000000 in
set_option maxRecDepth 100000 in
theorem mJ12_checkIndex_N (l : Launch) (E : KE) (sz : Nat) (i : Int) (ri : rI i) (n : Int) (rn : rI n) (hi : 0 ≤ i ∧ i < n) : Met l yJ12_checkIndex (ws_ yJ12_checkIndex cJ12_checkIndex 3 (some .int)) (rmk 0 0 0 0) (va_Pc [.int (zI i), .int (zI n), .null] (kP l E sz [] [])) (kQ E (fun _ : Unit => rI (i)) (fun _ => some (.int (zI (i)))) (fun _ => []) (va_A [] sz)) 0 0 (va_A [] sz) := by
  refine kz_start (Qf := kQ E (fun _ : Unit => rI (i)) (fun _ => some (.int (zI (i)))) (fun _ => [])) (by decide) (Nat.le_of_ble_eq_true rfl) ?_
  intro p e s m args below meth c A ls Q H locs hx hb hr hlk hml hts hown hname hG hK hA hAN hP hD hR hRA hS hQ hl
  replace hown : s.vm.findClass RJ12 = some m.cls := hown
  replace hl : lv_has ls 3 [(0, .int (zI (i))), (1, .int (zI (n))), (2, .null)] := hl
  replace hP : va_P (kD E) kcl [] H := hP
  replace hD : va_D A [] := hD
  refine lv_iload_n hx hb dJ12_checkIndex_0 rfl (lv_at hl 0 rfl) ?_
  refine kz_if_lt (tgt := 9) hx hb dJ12_checkIndex_1 (by decide) (by omega) (fun c1 => by omega) (fun c1 => ?_)
  refine lv_iload_n hx hb dJ12_checkIndex_4 rfl (lv_at hl 0 rfl) ?_
  refine lv_iload_n hx hb dJ12_checkIndex_5 rfl (lv_at hl 1 rfl) ?_
  refine kz_icmp_lt (tgt := 16) hx hb dJ12_checkIndex_6 (by decide) (by omega) (by omega) (fun c6 => ?_) (fun c6 => by omega)
  refine lv_iload_n hx hb dJ12_checkIndex_16 rfl (lv_at hl 0 rfl) ?_
  have e1 : (i : Int) = i := by first | rfl | omega
  exact kz_iret () hx hb hr hlk hP hD hS dJ12_checkIndex_17 (congrArg (fun z : Int => some (Value.int (zI z))) e1) (kz_r e1 (by omega)) rfl hQ (Nat.le_of_ble_eq_true rfl) (Nat.le_of_ble_eq_true rfl)

set_option maxHeartbeats 4000000 in
set_option maxRecDepth 100000 in
theorem mJ11_checkIndex (l : Launch) (E : KE) (sz : Nat) (i : Int) (ri : rI i) (n : Int) (rn : rI n) (hi : 0 ≤ i ∧ i < n) : Met l yJ11_checkIndex (ws_ yJ11_checkIndex cJ11_checkIndex 2 (some .int)) (rmk 1 0 0 22) (va_Pc [.int (zI i), .int (zI n)] (kP l E sz [] [])) (kQ E (fun _ : Unit => rI (i)) (fun _ => some (.int (zI (i)))) (fun _ => []) (va_A [] sz)) 0 0 (va_A [] sz) := by
  refine kz_start (Qf := kQ E (fun _ : Unit => rI (i)) (fun _ => some (.int (zI (i)))) (fun _ => [])) (by decide) (Nat.le_of_ble_eq_true rfl) ?_
  intro p e s m args below meth c A ls Q H locs hx hb hr hlk hml hts hown hname hG hK hA hAN hP hD hR hRA hS hQ hl
  replace hown : s.vm.findClass RJ11 = some m.cls := hown
  replace hl : lv_has ls 2 [(0, .int (zI (i))), (1, .int (zI (n)))] := hl
  replace hP : va_P (kD E) kcl [] H := hP
  replace hD : va_D A [] := hD
  refine lv_iload_n hx hb dJ11_checkIndex_0 rfl (lv_at hl 0 rfl) ?_
  refine lv_iload_n hx hb dJ11_checkIndex_1 rfl (lv_at hl 1 rfl) ?_
  refine lv_null hx hb dJ11_checkIndex_2 ?_
  refine kz_back (wc := []) (wx := []) (va_runS (As := [.int (zI (i)), .int (zI (n)), .null]) (rest := []) ⟨hx, hb, hml, hown, hts⟩ (mJ12_checkIndex_N l E H.size i (by omega) n (by omega) (show 0 ≤ i ∧ i < n by first | omega | exact hI.st _ (by omega) (by omega) | exact hI.rv _ (by omega) (by omega) | exact hI)) (va_cwS 3 hts (lw_S q412 q413 q86 q414) rfl rfl rfl (by decide +kernel) ⟨(Nat.le_of_ble_eq_true rfl), (Nat.le_of_ble_eq_true rfl)⟩) (kz_pre (wc := []) (wx := []) hG hS hAN hP hD kz_nilP kz_nilA) rfl rfl hl.1 rfl (lv_room (Nat.le_of_ble_eq_true rfl)) dJ11_checkIndex_3 ⟨(Nat.le_of_ble_eq_true rfl), (Nat.le_of_ble_eq_true rfl)⟩) hP hD hS hA (fun u H9 locs9 hu hP9 hD9 hS9 hzz hkk => ?_)
  clear hzz hkk hP hD hS H locs u
  revert hS9 hD9 hP9 locs9 H9
  intro H locs hP hD hS
  have r1 : rI (i) := hu
  clear hu
  replace hP : va_P (kD E) kcl [] H := hP
  replace hD : va_D A [] := hD
  show W p l e _ s m args below meth c H locs _ _ Q (F0 m 6 ls [.int (zI (i))])
  have e1 : (i : Int) = i := by first | rfl | omega
  exact kz_iret () hx hb hr hlk hP hD hS dJ11_checkIndex_6 (congrArg (fun z : Int => some (Value.int (zI z))) e1) (kz_r e1 (by omega)) rfl hQ (Nat.le_of_ble_eq_true rfl) (Nat.le_of_ble_eq_true rfl)

set_option maxHeartbeats 4000000 in
set_option maxRecDepth 100000 in
theorem mJ8_checkIndex (l : Launch) (E : KE) (sz : Nat) (i : Int) (ri : rI i) (n : Int) (rn : rI n) (hi : 0 ≤ i ∧ i < n) : Met l yJ8_checkIndex (ws_ yJ8_checkIndex cJ8_checkIndex 2 none) (rmk 1 0 0 22) (va_Pc [.int (zI i), .int (zI n)] (kP l E sz [] [])) (kQ E (fun _ : Unit => True) (fun _ => none) (fun _ => []) (va_A [] sz)) 0 0 (va_A [] sz) := by
  refine kz_start (Qf := kQ E (fun _ : Unit => True) (fun _ => none) (fun _ => [])) (by decide) (Nat.le_of_ble_eq_true rfl) ?_
  intro p e s m args below meth c A ls Q H locs hx hb hr hlk hml hts hown hname hG hK hA hAN hP hD hR hRA hS hQ hl
  replace hown : s.vm.findClass RJ8 = some m.cls := hown
  replace hl : lv_has ls 2 [(0, .int (zI (i))), (1, .int (zI (n)))] := hl
  replace hP : va_P (kD E) kcl [] H := hP
  replace hD : va_D A [] := hD
  refine lv_iload_n hx hb dJ8_checkIndex_0 rfl (lv_at hl 0 rfl) ?_
  refine lv_iload_n hx hb dJ8_checkIndex_1 rfl (lv_at hl 1 rfl) ?_
  rcases hG.Zq hAN (C := "jdk/internal/util/Preconditions") (n := "SIOOBE_FORMATTER") (d := "Ljava/util/function/BiFunction;") q548 (lw_all_tbl q86) (List.mem_of_getElem? (i := 11) (by decide +kernel)) with hz1 | ⟨fz, hz1⟩
  · skip
    refine va_gets (v := .null) hx hb hz1 hS hown (hts _ q547) (fun _ h9 => h9) dJ8_checkIndex_2 ?_
    refine kz_back (wc := []) (wx := []) (va_runS (As := [.int (zI (i)), .int (zI (n)), .null]) (rest := []) ⟨hx, hb, hml, hown, hts⟩ (mJ12_checkIndex_N l E H.size i (by omega) n (by omega) (show 0 ≤ i ∧ i < n by first | omega | exact hI.st _ (by omega) (by omega) | exact hI.rv _ (by omega) (by omega) | exact hI)) (va_cwS 3 hts (lw_S q2021 q413 q86 q414) rfl rfl rfl (by decide +kernel) ⟨(Nat.le_of_ble_eq_true rfl), (Nat.le_of_ble_eq_true rfl)⟩) (kz_pre (wc := []) (wx := []) hG hS hAN hP hD kz_nilP kz_nilA) rfl rfl hl.1 rfl (lv_room (Nat.le_of_ble_eq_true rfl)) dJ8_checkIndex_5 ⟨(Nat.le_of_ble_eq_true rfl), (Nat.le_of_ble_eq_true rfl)⟩) hP hD hS hA (fun u H9 locs9 hu hP9 hD9 hS9 hzz hkk => ?_)
    clear hzz hkk hP hD hS H locs u
    revert hS9 hD9 hP9 locs9 H9
    intro H locs hP hD hS
    have r2 : rI (i) := hu
    clear hu
    replace hP : va_P (kD E) kcl [] H := hP
    replace hD : va_D A [] := hD
    show W p l e _ s m args below meth c H locs _ _ Q (F0 m 8 ls [.int (zI (i))])
    refine lv_pop hx hb dJ8_checkIndex_8 rfl ?_
    exact kz_vret () hx hb hr hlk hP hD hS dJ8_checkIndex_9 rfl trivial rfl hQ (Nat.le_of_ble_eq_true rfl) (Nat.le_of_ble_eq_true rfl)
  · skip
    refine va_gets (v := .ref fz) hx hb hz1 hS hown (hts _ q547) (fun _ h9 => h9) dJ8_checkIndex_2 ?_
    refine kz_back (wc := []) (wx := []) (va_runS (As := [.int (zI (i)), .int (zI (n)), .ref fz]) (rest := []) ⟨hx, hb, hml, hown, hts⟩ (mJ12_checkIndex l E H.size i (by omega) n (by omega) fz (show 0 ≤ i ∧ i < n by first | omega | exact hI.st _ (by omega) (by omega) | exact hI.rv _ (by omega) (by omega) | exact hI)) (va_cwS 3 hts (lw_S q2021 q413 q86 q414) rfl rfl rfl (by decide +kernel) ⟨(Nat.le_of_ble_eq_true rfl), (Nat.le_of_ble_eq_true rfl)⟩) (kz_pre (wc := []) (wx := []) hG hS hAN hP hD kz_nilP kz_nilA) rfl rfl hl.1 rfl (lv_room (Nat.le_of_ble_eq_true rfl)) dJ8_checkIndex_5 ⟨(Nat.le_of_ble_eq_true rfl), (Nat.le_of_ble_eq_true rfl)⟩) hP hD hS hA (fun u H9 locs9 hu hP9 hD9 hS9 hzz hkk => ?_)
    clear hzz hkk hP hD hS H locs u
    revert hS9 hD9 hP9 locs9 H9
    intro H locs hP hD hS
    have r3 : rI (i) := hu
    clear hu
    replace hP : va_P (kD E) kcl [] H := hP
    replace hD : va_D A [] := hD
    show W p l e _ s m args below meth c H locs _ _ Q (F0 m 8 ls [.int (zI (i))])
    refine lv_pop hx hb dJ8_checkIndex_8 rfl ?_
    exact kz_vret () hx hb hr hlk hP hD hS dJ8_checkIndex_9 rfl trivial rfl hQ (Nat.le_of_ble_eq_true rfl) (Nat.le_of_ble_eq_true rfl)

set_option maxHeartbeats 4000000 in
set_option maxRecDepth 100000 in
theorem mJ20_charAt (l : Launch) (E : KE) (sz : Nat) (a v n : Nat) (f : Int → Int) (hn : n ≤ 100000) (i : Int) (ri : rI i) (hf : ∀ j, 0 ≤ f j ∧ f j < 128) (hi : 0 ≤ i ∧ i < n) : Met l yJ20_charAt (ws_ yJ20_charAt cJ20_charAt 2 (some .char)) (rmk 2 0 0 43) (va_Pc [.ref v, .int (zI i)] (kPx l E sz [] [] (fun U : State => StrR a v n f U))) (kQ E (fun _ : Unit => rI (f i)) (fun _ => some (.int (zI (f i)))) (fun _ => []) (va_A [] sz)) 0 0 (va_A [] sz) := by
  refine kz_startX (Qf := kQ E (fun _ : Unit => rI (f i)) (fun _ => some (.int (zI (f i)))) (fun _ => [])) (by decide) (Nat.le_of_ble_eq_true rfl) ?_
  intro p e s m args below meth c A ls Q H locs hx hb hr hlk hml hts hown hname hG hK hA hAN hP hD hR hRA hS hQ hl hX hXA
  replace hX : StrR a v n f s := hX
  replace hown : s.vm.findClass RJ20 = some m.cls := hown
  replace hl : lv_has ls 2 [(0, .ref v), (1, .int (zI (i)))] := hl
  have na : ¬ A a := hXA a hX.lt.1 (fun _ h => by simp at h)
  have nv : ¬ A v := hXA v hX.lt.2 (fun _ h => by simp at h)
  have hfi := hf i
  replace hP : va_P (kD E) kcl [] H := hP
  replace hD : va_D A [] := hD
  refine lv_iload_n hx hb dJ20_charAt_0 rfl (lv_at hl 1 rfl) ?_
  refine lv_aload_n hx hb dJ20_charAt_1 rfl (lv_at hl 0 rfl) ?_
  refine kz_slen hx hb hX nv hS dJ20_charAt_2 ?_
  refine kz_back (wc := []) (wx := []) (va_runS (As := [.int (zI (i)), .int (zI ((n : Int)))]) (rest := []) ⟨hx, hb, hml, hown, hts⟩ (mJ8_checkIndex l E H.size i (by omega) ((n : Int)) (by omega) (show 0 ≤ i ∧ i < ((n : Int)) by first | omega | exact hI.st _ (by omega) (by omega) | exact hI.rv _ (by omega) (by omega) | exact hI)) (va_cwS 2 hts (lw_S q2038 q2019 q81 q2020) rfl rfl rfl (by decide +kernel) ⟨(Nat.le_of_ble_eq_true rfl), (Nat.le_of_ble_eq_true rfl)⟩) (kz_pre (wc := []) (wx := []) hG hS hAN hP hD kz_nilP kz_nilA) rfl rfl hl.1 rfl (lv_room (Nat.le_of_ble_eq_true rfl)) dJ20_charAt_3 ⟨(Nat.le_of_ble_eq_true rfl), (Nat.le_of_ble_eq_true rfl)⟩) hP hD hS hA (fun u H9 locs9 hu hP9 hD9 hS9 hzz hkk => ?_)
  clear hzz hkk hP hD hS H locs u
  revert hS9 hD9 hP9 locs9 H9
  intro H locs hP hD hS
  clear hu
  replace hP : va_P (kD E) kcl [] H := hP
  replace hD : va_D A [] := hD
  show W p l e _ s m args below meth c H locs _ _ Q (F0 m 6 ls [])
  refine lv_aload_n hx hb dJ20_charAt_6 rfl (lv_at hl 0 rfl) ?_
  refine lv_iload_n hx hb dJ20_charAt_7 rfl (lv_at hl 1 rfl) ?_
  refine kz_sby hx hb hX nv hS (by omega) dJ20_charAt_8 ?_
  refine kz_sipush hx hb dJ20_charAt_9 (by decide) ?_
  refine kz_and255 hx hb dJ20_charAt_12 (by omega) ?_
  refine kz_i2c hx hb dJ20_charAt_13 (by omega) ?_
  have e1 : (f i : Int) = f i := by first | rfl | omega
  exact kz_cret () hx hb hr hlk hP hD hS dJ20_charAt_14 (by omega) (congrArg (fun z : Int => some (Value.int (zI z))) e1) (kz_r e1 (by omega)) rfl hQ (Nat.le_of_ble_eq_true rfl) (Nat.le_of_ble_eq_true rfl)

set_option maxHeartbeats 4000000 in
set_option maxRecDepth 100000 in
theorem mJ8_charAt (l : Launch) (E : KE) (sz : Nat) (a v n : Nat) (f : Int → Int) (hn : n ≤ 100000) (i : Int) (ri : rI i) (hf : ∀ j, 0 ≤ f j ∧ f j < 128) (hi : 0 ≤ i ∧ i < n) : Met l yJ8_charAt (ws_ yJ8_charAt cJ8_charAt 2 (some .char)) (rmk 3 0 0 64) (va_Pc [.ref a, .int (zI i)] (kPx l E sz [] [] (fun U : State => StrR a v n f U))) (kQ E (fun _ : Unit => rI (f i)) (fun _ => some (.int (zI (f i)))) (fun _ => []) (va_A [] sz)) 0 0 (va_A [] sz) := by
  refine kz_startX (Qf := kQ E (fun _ : Unit => rI (f i)) (fun _ => some (.int (zI (f i)))) (fun _ => [])) (by decide) (Nat.le_of_ble_eq_true rfl) ?_
  intro p e s m args below meth c A ls Q H locs hx hb hr hlk hml hts hown hname hG hK hA hAN hP hD hR hRA hS hQ hl hX hXA
  replace hX : StrR a v n f s := hX
  replace hown : s.vm.findClass RJ8 = some m.cls := hown
  replace hl : lv_has ls 2 [(0, .ref a), (1, .int (zI (i)))] := hl
  have na : ¬ A a := hXA a hX.lt.1 (fun _ h => by simp at h)
  have nv : ¬ A v := hXA v hX.lt.2 (fun _ h => by simp at h)
  have hfi := hf i
  replace hP : va_P (kD E) kcl [] H := hP
  replace hD : va_D A [] := hD
  refine lv_aload_n hx hb dJ8_charAt_0 rfl (lv_at hl 0 rfl) ?_
  refine kz_back (wc := []) (wx := []) (va_runV (As := []) (rest := []) ⟨hx, hb, hml, hown, hts⟩ (mJ8_isLatin1 l E H.size a v n f (by omega)) (cwV 0 hts (lw_V q1144 q1145 q1146 q81 q1147) rfl rfl rfl (by decide +kernel) ⟨(Nat.le_of_ble_eq_true rfl), (Nat.le_of_ble_eq_true rfl)⟩) (kz_preXV (kz_preV (wc := []) (wx := []) (hX.re na hS) hG hS hAN hP hD kz_nilP kz_nilA) (fun _ _ _ _ h => h) (fun U hU hW => hX.on hS na nv hU hW)) rfl rfl hl.1 rfl (lv_room (Nat.le_of_ble_eq_true rfl)) dJ8_charAt_1 ⟨(Nat.le_of_ble_eq_true rfl), (Nat.le_of_ble_eq_true rfl)⟩) hP hD hS hA (fun u H9 locs9 hu hP9 hD9 hS9 hzz hkk => ?_)
  clear hzz hkk hP hD hS H locs u
  revert hS9 hD9 hP9 locs9 H9
  intro H locs hP hD hS
  have r1 : rI (1) := hu
  clear hu
  replace hP : va_P (kD E) kcl [] H := hP
  replace hD : va_D A [] := hD
  show W p l e _ s m args below meth c H locs _ _ Q (F0 m 4 ls [.int (zI (1))])
  refine kz_if_eq (tgt := 16) hx hb dJ8_charAt_4 (by decide) (by omega) (fun c4 => by exact absurd c4 (by decide)) (fun c4 => ?_)
  refine lv_aload_n hx hb dJ8_charAt_7 rfl (lv_at hl 0 rfl) ?_
  refine vk_getf (v := .ref v) hx hb (hX.va na) hS hown (hts _ q719) (fun _ h9 => h9) dJ8_charAt_8 ?_
  refine lv_iload_n hx hb dJ8_charAt_11 rfl (lv_at hl 1 rfl) ?_
  refine kz_back (wc := []) (wx := []) (va_runS (As := [.ref v, .int (zI (i))]) (rest := []) ⟨hx, hb, hml, hown, hts⟩ (mJ20_charAt l E H.size a v n f (by omega) i (by omega) (show ∀ j, 0 ≤ f j ∧ f j < 128 by exact hf) (show 0 ≤ i ∧ i < n by omega)) (va_cwS 2 hts (lw_S q2035 q2036 q95 q2037) rfl rfl rfl (by decide +kernel) ⟨(Nat.le_of_ble_eq_true rfl), (Nat.le_of_ble_eq_true rfl)⟩) (kz_preXS (kz_pre (wc := []) (wx := []) hG hS hAN hP hD kz_nilP kz_nilA) (fun _ _ _ _ h => h) (fun U hU hW => hX.on hS na nv hU hW)) rfl rfl hl.1 rfl (lv_room (Nat.le_of_ble_eq_true rfl)) dJ8_charAt_12 ⟨(Nat.le_of_ble_eq_true rfl), (Nat.le_of_ble_eq_true rfl)⟩) hP hD hS hA (fun u H9 locs9 hu hP9 hD9 hS9 hzz hkk => ?_)
  clear hzz hkk hP hD hS H locs u
  revert hS9 hD9 hP9 locs9 H9
  intro H locs hP hD hS
  have r2 : rI (f i) := hu
  clear hu
  replace hP : va_P (kD E) kcl [] H := hP
  replace hD : va_D A [] := hD
  show W p l e _ s m args below meth c H locs _ _ Q (F0 m 15 ls [.int (zI (f i))])
  have e1 : (f i : Int) = f i := by first | rfl | omega
  exact kz_cret () hx hb hr hlk hP hD hS dJ8_charAt_15 (by omega) (congrArg (fun z : Int => some (Value.int (zI z))) e1) (kz_r e1 (by omega)) rfl hQ (Nat.le_of_ble_eq_true rfl) (Nat.le_of_ble_eq_true rfl)

