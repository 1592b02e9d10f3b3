/-! THE MODEL, on -/
set_option maxHeartbeats 4000000 in
set_option maxRecDepth 100000 in
theorem mX3_stone (l : Launch) (E : KE) (sz : Nat) (Ad : Nat → Nat) (S : St) (hM : MOk S) (B : Int) (f : Int) (rf : rI f) (w : Int) (rw : rI w) (hI : GI B (S 0)) (c0 : 0 ≤ S 7 5 ∧ S 7 5 ≤ 8) : Met l yX3_stone (ws_ yX3_stone cX3_stone 5 (some .int)) (rmk 2 0 0 46) (va_Pc [.ref (Ad 0), .int (zI f), .int (zI w)] (kP l E sz (mW E Ad S) [])) (kQ E (fun _ : Unit => rI ((xStone S f w).2) ∧ MOk ((xStone S f w).1)) (fun _ => some (.int (zI ((xStone S f w).2)))) (fun _ => (mW E Ad ((xStone S f w).1))) (va_A (mW E Ad S) sz)) 0 0 (va_A (mW E Ad S) sz) := by
  refine kz_start (Qf := kQ E (fun _ : Unit => rI ((xStone S f w).2) ∧ MOk ((xStone S f w).1)) (fun _ => some (.int (zI ((xStone S f w).2)))) (fun _ => (mW E Ad ((xStone S f w).1)))) (by decide) (Nat.le_of_ble_eq_true rfl) ?_
  intro p e s m args below meth c A ls Q H locs hx hb hr hlk hml hts hown hname hG hK hA hAN hP hD hR hRA hS hQ hl
  replace hown : s.vm.findClass RX3 = some m.cls := hown
  replace hl : lv_has ls 5 [(0, .ref (Ad 0)), (1, .int (zI (f))), (2, .int (zI (w)))] := hl
  have g0 := hI.n
  have g1 := hI.m
  have g2 := hI.ct
  replace hP : va_P (kD E) kcl (mW E Ad (S)) H := hP
  replace hD : va_D A (mW E Ad (S)) := hD
  refine lv_aload_n hx hb dX3_stone_0 rfl (lv_at hl 0 rfl) ?_
  refine lv_iload_n hx hb dX3_stone_1 rfl (lv_at hl 1 rfl) ?_
  refine kz_iconst hx hb dX3_stone_2 ?_
  refine kz_bipush hx hb dX3_stone_3 (by decide) ?_
  refine kz_back (wc := []) (wx := (mW E Ad (S))) (va_runS (As := [.int (zI (f)), .int (zI (0)), .int (zI (9))]) (rest := [.ref (Ad 0)]) ⟨hx, hb, hml, hown, hts⟩ (mX3_in l E H.size f (by omega) 0 (by omega) 9 (by omega)) (va_cwS 3 hts (lw_S q2391 q2392 q83 q2393) rfl rfl rfl (by decide +kernel) ⟨(Nat.le_of_ble_eq_true rfl), (Nat.le_of_ble_eq_true rfl)⟩) (kz_pre (wc := []) (wx := (mW E Ad (S))) hG hS hAN hP hD kz_nilP kz_nilA) rfl rfl hl.1 rfl (lv_room (Nat.le_of_ble_eq_true rfl)) dX3_stone_5 ⟨(Nat.le_of_ble_eq_true rfl), (Nat.le_of_ble_eq_true rfl)⟩) hP hD hS hA (fun u H9 locs9 hu hP9 hD9 hS9 hzz hkk => ?_)
  clear hzz hkk hP hD hS H locs u
  revert hS9 hD9 hP9 locs9 H9
  intro H locs hP hD hS
  clear hu
  replace hP : va_P (kD E) kcl (mW E Ad (S)) H := hP
  replace hD : va_D A (mW E Ad (S)) := hD
  show W p l e _ s m args below meth c H locs _ _ Q (F0 m 8 ls [.int (zI (b2 (0 ≤ f ∧ f ≤ 9))), .ref (Ad 0)])
  have J1 : ∀ (v2 : Int) (H : Heap) (locs : List Loc) (ls : Array Slot), v2 = (if 0 ≤ f ∧ f ≤ 9 then (if 1 ≤ w ∧ w ≤ 9 then 0 else 1) else 1) → rI v2 → va_P (kD E) kcl (mW E Ad (S)) H → va_D A (mW E Ad (S)) → va_S A s.heap H locs → lv_has ls 5 [(0, .ref (Ad 0)), (1, .int (zI (f))), (2, .int (zI (w)))] → W p l e (rmk 2 0 0 46) s m args below meth c H locs 0 0 Q (F0 m 26 ls [.int (zI (v2)), .ref (Ad 0)]) := by
    clear hl hS hD hP ls locs H
    intro v2 H locs ls hv2 rv2 hP hD hS hl
    have dv2 : (¬ (0 ≤ f ∧ f ≤ 9) ∧ v2 = 1) ∨ (0 ≤ f ∧ f ≤ 9 ∧ ¬ (1 ≤ w ∧ w ≤ 9) ∧ v2 = 1) ∨ (0 ≤ f ∧ f ≤ 9 ∧ 1 ≤ w ∧ w ≤ 9 ∧ v2 = 0) := by rw [hv2]; (repeat' split) <;> first | omega | simp_all
    refine kz_backM (va_runV (As := [.int (zI (v2))]) (rest := []) ⟨hx, hb, hml, hown, hts⟩ (mX3_fails l E H.size Ad S hM v2 (by omega)) (cwV 1 hts (lw_V q2394 q2396 qs36 q83 q2397) rfl rfl rfl (by decide +kernel) ⟨(Nat.le_of_ble_eq_true rfl), (Nat.le_of_ble_eq_true rfl)⟩) (kz_preVM (wc := mW E Ad S) (va_recv hK hP (ci := 2) (q0 := 0) rfl rfl) hG hS hAN hP hD kz_nilP kz_nilA) rfl rfl hl.1 rfl (lv_room (Nat.le_of_ble_eq_true rfl)) dX3_stone_26 ⟨(Nat.le_of_ble_eq_true rfl), (Nat.le_of_ble_eq_true rfl)⟩) hP hD hS hA (fun u H9 locs9 hu hP9 hD9 hS9 hzz hkk => ?_)
    clear hzz hkk hP hD hS H locs u
    revert hS9 hD9 hP9 locs9 H9
    intro H locs hP hD hS
    replace hM : MOk (put S 7 7 v2) := hu
    clear hu
    replace hP : va_P (kD E) kcl (mW E Ad (put S 7 7 v2)) H := hP
    replace hD : va_D A (mW E Ad (put S 7 7 v2)) := hD
    show W p l e _ s m args below meth c H locs _ _ Q (F0 m 29 ls [.int (zI (b2 (0 < v2)))])
    refine kz_if0B (tgt := 34) hx hb dX3_stone_29 (by decide) (fun c29 => ?_) (fun c29 => ?_)
    · skip
      obtain rfl : v2 = 0 := by omega
      refine lv_aload_n hx hb dX3_stone_34 rfl (lv_at hl 0 rfl) ?_
      refine va_get (D := kD E) (ci := 2) (fs := mO Ad (put S 7 7 0)) (v := .ref (Ad 1)) (C := RX3) (T := TX3) (N := 19) hx hb hts in_X3 hown hK hP 0 rfl rfl 0 (by decide) (hts _ q2320) (fun _ h9 => h9) rfl dX3_stone_35 ?_
      refine kz_iconst hx hb dX3_stone_38 ?_
      refine kz_iald (cA := kA E 0) (n := 304) (g := S 0) hx hb hK hP 1 0 rfl rfl (by omega) dX3_stone_39 ?_
      have r3 : rI (S 0 0) := hM 0 0
      refine kz_bipush hx hb dX3_stone_40 (by decide) ?_
      refine kz_icmp_ne (tgt := 54) hx hb dX3_stone_42 (by decide) (by omega) (by omega) (fun c42 => ?_) (fun c42 => ?_)
      · skip
        refine lv_aload_n hx hb dX3_stone_54 rfl (lv_at hl 0 rfl) ?_
        refine lv_aload_n hx hb dX3_stone_55 rfl (lv_at hl 0 rfl) ?_
        refine va_get (D := kD E) (ci := 2) (fs := mO Ad (put S 7 7 0)) (v := .ref (Ad 1)) (C := RX3) (T := TX3) (N := 19) hx hb hts in_X3 hown hK hP 0 rfl rfl 0 (by decide) (hts _ q2320) (fun _ h9 => h9) rfl dX3_stone_56 ?_
        refine kz_backM (va_runV (As := [.ref (Ad 1)]) (rest := []) ⟨hx, hb, hml, hown, hts⟩ (mX3_keeps l E H.size Ad (put S 7 7 0) hM (show 0 ≤ (S 7 5) ∧ (S 7 5) ≤ 8 by first | omega | exact hI.st _ (by omega) (by omega) | exact hI.rv _ (by omega) (by omega) | exact hI)) (cwV 1 hts (lw_V q2402 q2404 qs38 q83 q2405) rfl rfl rfl (by decide +kernel) ⟨(Nat.le_of_ble_eq_true rfl), (Nat.le_of_ble_eq_true rfl)⟩) (kz_preVM (wc := mW E Ad (put S 7 7 0)) (va_recv hK hP (ci := 2) (q0 := 0) rfl rfl) hG hS hAN hP hD kz_nilP kz_nilA) rfl rfl hl.1 rfl (lv_room (Nat.le_of_ble_eq_true rfl)) dX3_stone_59 ⟨(Nat.le_of_ble_eq_true rfl), (Nat.le_of_ble_eq_true rfl)⟩) hP hD hS hA (fun u H9 locs9 hu hP9 hD9 hS9 hzz hkk => ?_)
        clear hzz hkk hP hD hS H locs u
        revert hS9 hD9 hP9 locs9 H9
        intro H locs hP hD hS
        replace hM : MOk (mKeeps (put S 7 7 0) 0) := hu
        clear hu
        replace hP : va_P (kD E) kcl (mW E Ad (mKeeps (put S 7 7 0) 0)) H := hP
        replace hD : va_D A (mW E Ad (mKeeps (put S 7 7 0) 0)) := hD
        show W p l e _ s m args below meth c H locs _ _ Q (F0 m 62 ls [])
        refine lv_aload_n hx hb dX3_stone_62 rfl (lv_at hl 0 rfl) ?_
        refine va_get (D := kD E) (ci := 2) (fs := mO Ad (mKeeps (put S 7 7 0) 0)) (v := .ref (Ad 1)) (C := RX3) (T := TX3) (N := 19) hx hb hts in_X3 hown hK hP 0 rfl rfl 0 (by decide) (hts _ q2320) (fun _ h9 => h9) rfl dX3_stone_63 ?_
        refine kz_iconst hx hb dX3_stone_66 ?_
        refine kz_iald (cA := kA E 0) (n := 304) (g := S 0) hx hb hK hP 1 0 rfl rfl (by omega) dX3_stone_67 ?_
        have r4 : rI (S 0 0) := hM 0 0
        refine lv_istore_n (lv' := [(3, .int (zI (S 0 0))), (0, .ref (Ad 0)), (1, .int (zI (f))), (2, .int (zI (w)))]) hx hb dX3_stone_68 rfl hl (by decide) rfl (fun ls hl => ?_)
        refine lv_aload_n hx hb dX3_stone_69 rfl (lv_at hl 1 rfl) ?_
        refine va_get (D := kD E) (ci := 2) (fs := mO Ad (mKeeps (put S 7 7 0) 0)) (v := .ref (Ad 1)) (C := RX3) (T := TX3) (N := 19) hx hb hts in_X3 hown hK hP 0 rfl rfl 0 (by decide) (hts _ q2320) (fun _ h9 => h9) rfl dX3_stone_70 ?_
        refine kz_iconst hx hb dX3_stone_73 ?_
        refine lv_dup2_11 hx hb dX3_stone_74 rfl rfl ?_
        refine kz_iald (cA := kA E 0) (n := 304) (g := S 0) hx hb hK hP 1 0 rfl rfl (by omega) dX3_stone_75 ?_
        have r5 : rI (S 0 0) := hM 0 0
        refine kz_iconst hx hb dX3_stone_76 ?_
        refine kz_iadd hx hb dX3_stone_77 ?_
        refine kz_iast (cA := kA E 0) (n := 304) (g := (mKeeps (put S 7 7 0) 0) 0) hx hb hK hP hD hS 1 0 rfl rfl (by omega) dX3_stone_78 (fun H9 locs9 hP9 hD9 hS9 => ?_)
        rw [mW_a0] at hP9 hD9
        clear hP hD hS H locs
        revert hS9 hD9 hP9 locs9 H9
        intro H locs hP hD hS
        replace hP : va_P (kD E) kcl (mW E Ad (put (mKeeps (put S 7 7 0) 0) 0 0 ((S 0 0) + 1))) H := hP
        replace hD : va_D A (mW E Ad (put (mKeeps (put S 7 7 0) 0) 0 0 ((S 0 0) + 1))) := hD
        replace hM : MOk (put (mKeeps (put S 7 7 0) 0) 0 0 ((S 0 0) + 1)) := hM.put 0 _ (by omega)
        refine kz_iconst hx hb dX3_stone_79 ?_
        refine lv_istore (lv' := [(4, .int (zI (0))), (3, .int (zI (S 0 0))), (0, .ref (Ad 0)), (1, .int (zI (f))), (2, .int (zI (w)))]) hx hb dX3_stone_80 hl (by decide) rfl (fun ls hl => ?_)
        have L82_6 : ∀ (fu : Nat) (k : Int) (S1 : St) (H : Heap) (locs : List Loc) (ls : Array Slot), (0 ≤ k ∧ k ≤ 14) → (S1 = putR (mKeeps (put S 7 7 0) 0) 0 (fillN (uz (S 0) 0 (S 0 0 + 1)) (10 + 14 * S 0 0) 0 (10 + 14 * S 0 0 + k))) → rI k → MOk S1 → (14 - k : Int).toNat < fu → va_P (kD E) kcl (mW E Ad (S1)) H → va_D A (mW E Ad (S1)) → va_S A s.heap H locs → lv_has ls 5 [(0, .ref (Ad 0)), (1, .int (zI (f))), (2, .int (zI (w))), (3, .int (zI (S 0 0))), (4, .int (zI (k)))] → W p l e (rmk 2 0 0 46) s m args below meth c H locs 0 0 Q (F0 m 82 ls []) := by
          clear hl hS hD hP ls locs H hM
          intro fu
          induction fu with
          | zero => intro k S1 H locs ls hk hS1 rk hM hf; exact absurd hf (Nat.not_lt_zero _)
          | succ fu ih82 =>
            intro k S1 H locs ls hk hS1 rk hM hf hP hD hS hl
            refine lv_iload hx hb dX3_stone_82 (lv_at hl 4 rfl) ?_
            refine kz_bipush hx hb dX3_stone_84 (by decide) ?_
            refine kz_icmp_ge (tgt := 103) hx hb dX3_stone_86 (by decide) (by omega) (by omega) (fun c86 => ?_) (fun c86 => ?_)
            · skip
              refine lv_aload_n hx hb dX3_stone_103 rfl (lv_at hl 0 rfl) ?_
              refine lv_iload_n hx hb dX3_stone_104 rfl (lv_at hl 3 rfl) ?_
              refine kz_iconst hx hb dX3_stone_105 ?_
              refine lv_iload_n hx hb dX3_stone_106 rfl (lv_at hl 1 rfl) ?_
              refine kz_backM (va_runV (As := [.int (zI (S 0 0)), .int (zI (0)), .int (zI (f))]) (rest := []) ⟨hx, hb, hml, hown, hts⟩ (mX3_lays l E H.size Ad S1 hM (S 0 0) (by omega) 0 (by omega) f (by omega) (show 0 ≤ (S 0 0) ∧ (S 0 0) < 10 by first | omega | exact hI.st _ (by omega) (by omega) | exact hI.rv _ (by omega) (by omega) | exact hI) (show 0 ≤ 0 ∧ 0 < 14 by first | omega | exact hI.st _ (by omega) (by omega) | exact hI.rv _ (by omega) (by omega) | exact hI)) (cwV 3 hts (lw_V q2409 q2411 qs39 q83 q2412) rfl rfl rfl (by decide +kernel) ⟨(Nat.le_of_ble_eq_true rfl), (Nat.le_of_ble_eq_true rfl)⟩) (kz_preVM (wc := mW E Ad S1) (va_recv hK hP (ci := 2) (q0 := 0) rfl rfl) hG hS hAN hP hD kz_nilP kz_nilA) rfl rfl hl.1 rfl (lv_room (Nat.le_of_ble_eq_true rfl)) dX3_stone_107 ⟨(Nat.le_of_ble_eq_true rfl), (Nat.le_of_ble_eq_true rfl)⟩) hP hD hS hA (fun u H9 locs9 hu hP9 hD9 hS9 hzz hkk => ?_)
              clear hzz hkk hP hD hS H locs u
              revert hS9 hD9 hP9 locs9 H9
              intro H locs hP hD hS
              replace hM : MOk (put S1 0 (10 + 14 * (S 0 0) + 0) f) := hu
              clear hu
              replace hP : va_P (kD E) kcl (mW E Ad (put S1 0 (10 + 14 * (S 0 0) + 0) f)) H := hP
              replace hD : va_D A (mW E Ad (put S1 0 (10 + 14 * (S 0 0) + 0) f)) := hD
              show W p l e _ s m args below meth c H locs _ _ Q (F0 m 110 ls [])
              refine lv_aload_n hx hb dX3_stone_110 rfl (lv_at hl 0 rfl) ?_
              refine lv_iload_n hx hb dX3_stone_111 rfl (lv_at hl 3 rfl) ?_
              refine kz_iconst hx hb dX3_stone_112 ?_
              refine lv_iload_n hx hb dX3_stone_113 rfl (lv_at hl 2 rfl) ?_
              refine kz_backM (va_runV (As := [.int (zI (S 0 0)), .int (zI (1)), .int (zI (w))]) (rest := []) ⟨hx, hb, hml, hown, hts⟩ (mX3_lays l E H.size Ad (put S1 0 (10 + 14 * (S 0 0) + 0) f) hM (S 0 0) (by omega) 1 (by omega) w (by omega) (show 0 ≤ (S 0 0) ∧ (S 0 0) < 10 by first | omega | exact hI.st _ (by omega) (by omega) | exact hI.rv _ (by omega) (by omega) | exact hI) (show 0 ≤ 1 ∧ 1 < 14 by first | omega | exact hI.st _ (by omega) (by omega) | exact hI.rv _ (by omega) (by omega) | exact hI)) (cwV 3 hts (lw_V q2409 q2411 qs39 q83 q2412) rfl rfl rfl (by decide +kernel) ⟨(Nat.le_of_ble_eq_true rfl), (Nat.le_of_ble_eq_true rfl)⟩) (kz_preVM (wc := mW E Ad (put S1 0 (10 + 14 * (S 0 0) + 0) f)) (va_recv hK hP (ci := 2) (q0 := 0) rfl rfl) hG hS hAN hP hD kz_nilP kz_nilA) rfl rfl hl.1 rfl (lv_room (Nat.le_of_ble_eq_true rfl)) dX3_stone_114 ⟨(Nat.le_of_ble_eq_true rfl), (Nat.le_of_ble_eq_true rfl)⟩) hP hD hS hA (fun u H9 locs9 hu hP9 hD9 hS9 hzz hkk => ?_)
              clear hzz hkk hP hD hS H locs u
              revert hS9 hD9 hP9 locs9 H9
              intro H locs hP hD hS
              replace hM : MOk (put (put S1 0 (10 + 14 * (S 0 0) + 0) f) 0 (10 + 14 * (S 0 0) + 1) w) := hu
              clear hu
              replace hP : va_P (kD E) kcl (mW E Ad (put (put S1 0 (10 + 14 * (S 0 0) + 0) f) 0 (10 + 14 * (S 0 0) + 1) w)) H := hP
              replace hD : va_D A (mW E Ad (put (put S1 0 (10 + 14 * (S 0 0) + 0) f) 0 (10 + 14 * (S 0 0) + 1) w)) := hD
              show W p l e _ s m args below meth c H locs _ _ Q (F0 m 117 ls [])
              refine lv_aload_n hx hb dX3_stone_117 rfl (lv_at hl 0 rfl) ?_
              refine lv_iload_n hx hb dX3_stone_118 rfl (lv_at hl 3 rfl) ?_
              refine kz_iconst hx hb dX3_stone_119 ?_
              refine kz_iconst hx hb dX3_stone_120 ?_
              refine kz_backM (va_runV (As := [.int (zI (S 0 0)), .int (zI (3)), .int (zI ((-1)))]) (rest := []) ⟨hx, hb, hml, hown, hts⟩ (mX3_lays l E H.size Ad (put (put S1 0 (10 + 14 * (S 0 0) + 0) f) 0 (10 + 14 * (S 0 0) + 1) w) hM (S 0 0) (by omega) 3 (by omega) ((-1)) (by omega) (show 0 ≤ (S 0 0) ∧ (S 0 0) < 10 by first | omega | exact hI.st _ (by omega) (by omega) | exact hI.rv _ (by omega) (by omega) | exact hI) (show 0 ≤ 3 ∧ 3 < 14 by first | omega | exact hI.st _ (by omega) (by omega) | exact hI.rv _ (by omega) (by omega) | exact hI)) (cwV 3 hts (lw_V q2409 q2411 qs39 q83 q2412) rfl rfl rfl (by decide +kernel) ⟨(Nat.le_of_ble_eq_true rfl), (Nat.le_of_ble_eq_true rfl)⟩) (kz_preVM (wc := mW E Ad (put (put S1 0 (10 + 14 * (S 0 0) + 0) f) 0 (10 + 14 * (S 0 0) + 1) w)) (va_recv hK hP (ci := 2) (q0 := 0) rfl rfl) hG hS hAN hP hD kz_nilP kz_nilA) rfl rfl hl.1 rfl (lv_room (Nat.le_of_ble_eq_true rfl)) dX3_stone_121 ⟨(Nat.le_of_ble_eq_true rfl), (Nat.le_of_ble_eq_true rfl)⟩) hP hD hS hA (fun u H9 locs9 hu hP9 hD9 hS9 hzz hkk => ?_)
              clear hzz hkk hP hD hS H locs u
              revert hS9 hD9 hP9 locs9 H9
              intro H locs hP hD hS
              replace hM : MOk (put (put (put S1 0 (10 + 14 * (S 0 0) + 0) f) 0 (10 + 14 * (S 0 0) + 1) w) 0 (10 + 14 * (S 0 0) + 3) (((-1)))) := hu
              clear hu
              replace hP : va_P (kD E) kcl (mW E Ad (put (put (put S1 0 (10 + 14 * (S 0 0) + 0) f) 0 (10 + 14 * (S 0 0) + 1) w) 0 (10 + 14 * (S 0 0) + 3) (((-1))))) H := hP
              replace hD : va_D A (mW E Ad (put (put (put S1 0 (10 + 14 * (S 0 0) + 0) f) 0 (10 + 14 * (S 0 0) + 1) w) 0 (10 + 14 * (S 0 0) + 3) (((-1))))) := hD
              show W p l e _ s m args below meth c H locs _ _ Q (F0 m 124 ls [])
              refine lv_aload_n hx hb dX3_stone_124 rfl (lv_at hl 0 rfl) ?_
              refine lv_iload_n hx hb dX3_stone_125 rfl (lv_at hl 3 rfl) ?_
              refine kz_iconst hx hb dX3_stone_126 ?_
              refine kz_iconst hx hb dX3_stone_127 ?_
              refine kz_backM (va_runV (As := [.int (zI (S 0 0)), .int (zI (5)), .int (zI ((-1)))]) (rest := []) ⟨hx, hb, hml, hown, hts⟩ (mX3_lays l E H.size Ad (put (put (put S1 0 (10 + 14 * (S 0 0) + 0) f) 0 (10 + 14 * (S 0 0) + 1) w) 0 (10 + 14 * (S 0 0) + 3) (((-1)))) hM (S 0 0) (by omega) 5 (by omega) ((-1)) (by omega) (show 0 ≤ (S 0 0) ∧ (S 0 0) < 10 by first | omega | exact hI.st _ (by omega) (by omega) | exact hI.rv _ (by omega) (by omega) | exact hI) (show 0 ≤ 5 ∧ 5 < 14 by first | omega | exact hI.st _ (by omega) (by omega) | exact hI.rv _ (by omega) (by omega) | exact hI)) (cwV 3 hts (lw_V q2409 q2411 qs39 q83 q2412) rfl rfl rfl (by decide +kernel) ⟨(Nat.le_of_ble_eq_true rfl), (Nat.le_of_ble_eq_true rfl)⟩) (kz_preVM (wc := mW E Ad (put (put (put S1 0 (10 + 14 * (S 0 0) + 0) f) 0 (10 + 14 * (S 0 0) + 1) w) 0 (10 + 14 * (S 0 0) + 3) (((-1))))) (va_recv hK hP (ci := 2) (q0 := 0) rfl rfl) hG hS hAN hP hD kz_nilP kz_nilA) rfl rfl hl.1 rfl (lv_room (Nat.le_of_ble_eq_true rfl)) dX3_stone_128 ⟨(Nat.le_of_ble_eq_true rfl), (Nat.le_of_ble_eq_true rfl)⟩) hP hD hS hA (fun u H9 locs9 hu hP9 hD9 hS9 hzz hkk => ?_)
              clear hzz hkk hP hD hS H locs u
              revert hS9 hD9 hP9 locs9 H9
              intro H locs hP hD hS
              replace hM : MOk (put (put (put (put S1 0 (10 + 14 * (S 0 0) + 0) f) 0 (10 + 14 * (S 0 0) + 1) w) 0 (10 + 14 * (S 0 0) + 3) (((-1)))) 0 (10 + 14 * (S 0 0) + 5) (((-1)))) := hu
              clear hu
              replace hP : va_P (kD E) kcl (mW E Ad (put (put (put (put S1 0 (10 + 14 * (S 0 0) + 0) f) 0 (10 + 14 * (S 0 0) + 1) w) 0 (10 + 14 * (S 0 0) + 3) (((-1)))) 0 (10 + 14 * (S 0 0) + 5) (((-1))))) H := hP
              replace hD : va_D A (mW E Ad (put (put (put (put S1 0 (10 + 14 * (S 0 0) + 0) f) 0 (10 + 14 * (S 0 0) + 1) w) 0 (10 + 14 * (S 0 0) + 3) (((-1)))) 0 (10 + 14 * (S 0 0) + 5) (((-1))))) := hD
              show W p l e _ s m args below meth c H locs _ _ Q (F0 m 131 ls [])
              refine lv_aload_n hx hb dX3_stone_131 rfl (lv_at hl 0 rfl) ?_
              refine lv_iload_n hx hb dX3_stone_132 rfl (lv_at hl 3 rfl) ?_
              refine kz_bipush hx hb dX3_stone_133 (by decide) ?_
              refine kz_iconst hx hb dX3_stone_135 ?_
              refine kz_backM (va_runV (As := [.int (zI (S 0 0)), .int (zI (8)), .int (zI ((-1)))]) (rest := []) ⟨hx, hb, hml, hown, hts⟩ (mX3_lays l E H.size Ad (put (put (put (put S1 0 (10 + 14 * (S 0 0) + 0) f) 0 (10 + 14 * (S 0 0) + 1) w) 0 (10 + 14 * (S 0 0) + 3) (((-1)))) 0 (10 + 14 * (S 0 0) + 5) (((-1)))) hM (S 0 0) (by omega) 8 (by omega) ((-1)) (by omega) (show 0 ≤ (S 0 0) ∧ (S 0 0) < 10 by first | omega | exact hI.st _ (by omega) (by omega) | exact hI.rv _ (by omega) (by omega) | exact hI) (show 0 ≤ 8 ∧ 8 < 14 by first | omega | exact hI.st _ (by omega) (by omega) | exact hI.rv _ (by omega) (by omega) | exact hI)) (cwV 3 hts (lw_V q2409 q2411 qs39 q83 q2412) rfl rfl rfl (by decide +kernel) ⟨(Nat.le_of_ble_eq_true rfl), (Nat.le_of_ble_eq_true rfl)⟩) (kz_preVM (wc := mW E Ad (put (put (put (put S1 0 (10 + 14 * (S 0 0) + 0) f) 0 (10 + 14 * (S 0 0) + 1) w) 0 (10 + 14 * (S 0 0) + 3) (((-1)))) 0 (10 + 14 * (S 0 0) + 5) (((-1))))) (va_recv hK hP (ci := 2) (q0 := 0) rfl rfl) hG hS hAN hP hD kz_nilP kz_nilA) rfl rfl hl.1 rfl (lv_room (Nat.le_of_ble_eq_true rfl)) dX3_stone_136 ⟨(Nat.le_of_ble_eq_true rfl), (Nat.le_of_ble_eq_true rfl)⟩) hP hD hS hA (fun u H9 locs9 hu hP9 hD9 hS9 hzz hkk => ?_)
              clear hzz hkk hP hD hS H locs u
              revert hS9 hD9 hP9 locs9 H9
              intro H locs hP hD hS
              replace hM : MOk (put (put (put (put (put S1 0 (10 + 14 * (S 0 0) + 0) f) 0 (10 + 14 * (S 0 0) + 1) w) 0 (10 + 14 * (S 0 0) + 3) (((-1)))) 0 (10 + 14 * (S 0 0) + 5) (((-1)))) 0 (10 + 14 * (S 0 0) + 8) (((-1)))) := hu
              clear hu
              replace hP : va_P (kD E) kcl (mW E Ad (put (put (put (put (put S1 0 (10 + 14 * (S 0 0) + 0) f) 0 (10 + 14 * (S 0 0) + 1) w) 0 (10 + 14 * (S 0 0) + 3) (((-1)))) 0 (10 + 14 * (S 0 0) + 5) (((-1)))) 0 (10 + 14 * (S 0 0) + 8) (((-1))))) H := hP
              replace hD : va_D A (mW E Ad (put (put (put (put (put S1 0 (10 + 14 * (S 0 0) + 0) f) 0 (10 + 14 * (S 0 0) + 1) w) 0 (10 + 14 * (S 0 0) + 3) (((-1)))) 0 (10 + 14 * (S 0 0) + 5) (((-1)))) 0 (10 + 14 * (S 0 0) + 8) (((-1))))) := hD
              show W p l e _ s m args below meth c H locs _ _ Q (F0 m 139 ls [])
              refine lv_aload_n hx hb dX3_stone_139 rfl (lv_at hl 0 rfl) ?_
              refine lv_iload_n hx hb dX3_stone_140 rfl (lv_at hl 3 rfl) ?_
              refine kz_bipush hx hb dX3_stone_141 (by decide) ?_
              refine kz_iconst hx hb dX3_stone_143 ?_
              refine kz_backM (va_runV (As := [.int (zI (S 0 0)), .int (zI (9)), .int (zI ((-1)))]) (rest := []) ⟨hx, hb, hml, hown, hts⟩ (mX3_lays l E H.size Ad (put (put (put (put (put S1 0 (10 + 14 * (S 0 0) + 0) f) 0 (10 + 14 * (S 0 0) + 1) w) 0 (10 + 14 * (S 0 0) + 3) (((-1)))) 0 (10 + 14 * (S 0 0) + 5) (((-1)))) 0 (10 + 14 * (S 0 0) + 8) (((-1)))) hM (S 0 0) (by omega) 9 (by omega) ((-1)) (by omega) (show 0 ≤ (S 0 0) ∧ (S 0 0) < 10 by first | omega | exact hI.st _ (by omega) (by omega) | exact hI.rv _ (by omega) (by omega) | exact hI) (show 0 ≤ 9 ∧ 9 < 14 by first | omega | exact hI.st _ (by omega) (by omega) | exact hI.rv _ (by omega) (by omega) | exact hI)) (cwV 3 hts (lw_V q2409 q2411 qs39 q83 q2412) rfl rfl rfl (by decide +kernel) ⟨(Nat.le_of_ble_eq_true rfl), (Nat.le_of_ble_eq_true rfl)⟩) (kz_preVM (wc := mW E Ad (put (put (put (put (put S1 0 (10 + 14 * (S 0 0) + 0) f) 0 (10 + 14 * (S 0 0) + 1) w) 0 (10 + 14 * (S 0 0) + 3) (((-1)))) 0 (10 + 14 * (S 0 0) + 5) (((-1)))) 0 (10 + 14 * (S 0 0) + 8) (((-1))))) (va_recv hK hP (ci := 2) (q0 := 0) rfl rfl) hG hS hAN hP hD kz_nilP kz_nilA) rfl rfl hl.1 rfl (lv_room (Nat.le_of_ble_eq_true rfl)) dX3_stone_144 ⟨(Nat.le_of_ble_eq_true rfl), (Nat.le_of_ble_eq_true rfl)⟩) hP hD hS hA (fun u H9 locs9 hu hP9 hD9 hS9 hzz hkk => ?_)
              clear hzz hkk hP hD hS H locs u
              revert hS9 hD9 hP9 locs9 H9
              intro H locs hP hD hS
              replace hM : MOk (put (put (put (put (put (put S1 0 (10 + 14 * (S 0 0) + 0) f) 0 (10 + 14 * (S 0 0) + 1) w) 0 (10 + 14 * (S 0 0) + 3) (((-1)))) 0 (10 + 14 * (S 0 0) + 5) (((-1)))) 0 (10 + 14 * (S 0 0) + 8) (((-1)))) 0 (10 + 14 * (S 0 0) + 9) (((-1)))) := hu
              clear hu
              replace hP : va_P (kD E) kcl (mW E Ad (put (put (put (put (put (put S1 0 (10 + 14 * (S 0 0) + 0) f) 0 (10 + 14 * (S 0 0) + 1) w) 0 (10 + 14 * (S 0 0) + 3) (((-1)))) 0 (10 + 14 * (S 0 0) + 5) (((-1)))) 0 (10 + 14 * (S 0 0) + 8) (((-1)))) 0 (10 + 14 * (S 0 0) + 9) (((-1))))) H := hP
              replace hD : va_D A (mW E Ad (put (put (put (put (put (put S1 0 (10 + 14 * (S 0 0) + 0) f) 0 (10 + 14 * (S 0 0) + 1) w) 0 (10 + 14 * (S 0 0) + 3) (((-1)))) 0 (10 + 14 * (S 0 0) + 5) (((-1)))) 0 (10 + 14 * (S 0 0) + 8) (((-1)))) 0 (10 + 14 * (S 0 0) + 9) (((-1))))) := hD
              show W p l e _ s m args below meth c H locs _ _ Q (F0 m 147 ls [])
              refine lv_iload_n hx hb dX3_stone_147 rfl (lv_at hl 3 rfl) ?_
              have e0 : xStone S f w = (put (put (put (put (put (put S1 0 (10 + 14 * (S 0 0) + 0) f) 0 (10 + 14 * (S 0 0) + 1) w) 0 (10 + 14 * (S 0 0) + 3) (((-1)))) 0 (10 + 14 * (S 0 0) + 5) (((-1)))) 0 (10 + 14 * (S 0 0) + 8) (((-1)))) 0 (10 + 14 * (S 0 0) + 9) (((-1))), S 0 0) := by unfold xStone gStone; (repeat (first | refine Eq.trans (if_pos (by omega)) ?_ | refine Eq.trans (if_neg (by omega)) ?_)); (try rw [hS1, show k = 14 by omega]); (try simp only [putR_put _ 0, putR_putR, putR_at]); all_goals rfl
              have e1 : (xStone S f w).2 = S 0 0 := by rw [e0]
              have e3 : (xStone S f w).1 = put (put (put (put (put (put S1 0 (10 + 14 * (S 0 0) + 0) f) 0 (10 + 14 * (S 0 0) + 1) w) 0 (10 + 14 * (S 0 0) + 3) (((-1)))) 0 (10 + 14 * (S 0 0) + 5) (((-1)))) 0 (10 + 14 * (S 0 0) + 8) (((-1)))) 0 (10 + 14 * (S 0 0) + 9) (((-1))) := by rw [e0]
              exact kz_iret () hx hb hr hlk hP hD hS dX3_stone_148 (congrArg (fun z : Int => some (Value.int (zI z))) e1) ⟨(kz_r e1 (by omega)), (kz_M e3 hM)⟩ (congrArg (mW E Ad) e3) hQ (Nat.le_of_ble_eq_true rfl) (Nat.le_of_ble_eq_true rfl)
            · skip
              refine lv_aload_n hx hb dX3_stone_89 rfl (lv_at hl 0 rfl) ?_
              refine lv_iload_n hx hb dX3_stone_90 rfl (lv_at hl 3 rfl) ?_
              refine lv_iload hx hb dX3_stone_91 (lv_at hl 4 rfl) ?_
              refine kz_iconst hx hb dX3_stone_93 ?_
              refine kz_backM (va_runV (As := [.int (zI (S 0 0)), .int (zI (k)), .int (zI (0))]) (rest := []) ⟨hx, hb, hml, hown, hts⟩ (mX3_lays l E H.size Ad S1 hM (S 0 0) (by omega) k (by omega) 0 (by omega) (show 0 ≤ (S 0 0) ∧ (S 0 0) < 10 by first | omega | exact hI.st _ (by omega) (by omega) | exact hI.rv _ (by omega) (by omega) | exact hI) (show 0 ≤ k ∧ k < 14 by first | omega | exact hI.st _ (by omega) (by omega) | exact hI.rv _ (by omega) (by omega) | exact hI)) (cwV 3 hts (lw_V q2409 q2411 qs39 q83 q2412) rfl rfl rfl (by decide +kernel) ⟨(Nat.le_of_ble_eq_true rfl), (Nat.le_of_ble_eq_true rfl)⟩) (kz_preVM (wc := mW E Ad S1) (va_recv hK hP (ci := 2) (q0 := 0) rfl rfl) hG hS hAN hP hD kz_nilP kz_nilA) rfl rfl hl.1 rfl (lv_room (Nat.le_of_ble_eq_true rfl)) dX3_stone_94 ⟨(Nat.le_of_ble_eq_true rfl), (Nat.le_of_ble_eq_true rfl)⟩) hP hD hS hA (fun u H9 locs9 hu hP9 hD9 hS9 hzz hkk => ?_)
              clear hzz hkk hP hD hS H locs u
              revert hS9 hD9 hP9 locs9 H9
              intro H locs hP hD hS
              replace hM : MOk (put S1 0 (10 + 14 * (S 0 0) + k) 0) := hu
              clear hu
              replace hP : va_P (kD E) kcl (mW E Ad (put S1 0 (10 + 14 * (S 0 0) + k) 0)) H := hP
              replace hD : va_D A (mW E Ad (put S1 0 (10 + 14 * (S 0 0) + k) 0)) := hD
              show W p l e _ s m args below meth c H locs _ _ Q (F0 m 97 ls [])
              refine kz_iinc (lv' := [(4, .int (zI (k + 1))), (0, .ref (Ad 0)), (1, .int (zI (f))), (2, .int (zI (w))), (3, .int (zI (S 0 0)))]) hx hb dX3_stone_97 hl (k := 4) rfl (by decide) rfl (fun ls hl => ?_)
              refine lv_goto (tgt := 82) hx hb dX3_stone_100 (by decide) ?_
              exact ih82 (k + 1) (put S1 0 (10 + 14 * (S 0 0) + k) 0) _ _ _ (by omega) (by rw [hS1, put_putR, show 10 + 14 * S 0 0 + (k + 1) = 10 + 14 * S 0 0 + k + 1 by omega]; exact congrArg _ (fillN_s _ _ 0 (by omega))) (by omega) hM (by omega) hP hD hS (lv_sub hl [1, 2, 3, 4, 0] rfl)
        exact L82_6 ((14 - 0 : Int).toNat + 1) 0 (put (mKeeps (put S 7 7 0) 0) 0 0 ((S 0 0) + 1)) _ _ _ (by omega) (by rw [fillN_0 _ _ 0 (by omega)]; rfl) (by omega) hM (Nat.lt_succ_self _) hP hD hS (lv_sub hl [2, 3, 4, 1, 0] rfl)
      · skip
        refine lv_aload_n hx hb dX3_stone_45 rfl (lv_at hl 0 rfl) ?_
        refine kz_iconst hx hb dX3_stone_46 ?_
        refine kz_iconst hx hb dX3_stone_47 ?_
        refine kz_bipush hx hb dX3_stone_48 (by decide) ?_
        refine kz_backM (va_runV (As := [.int (zI (2)), .int (zI (1)), .int (zI (10))]) (rest := []) ⟨hx, hb, hml, hown, hts⟩ (mX3_refuses l E H.size Ad (put S 7 7 0) hM 2 (by omega) 1 (by omega) 10 (by omega)) (cwV 3 hts (lw_V q2398 q2400 qs37 q83 q2401) rfl rfl rfl (by decide +kernel) ⟨(Nat.le_of_ble_eq_true rfl), (Nat.le_of_ble_eq_true rfl)⟩) (kz_preVM (wc := mW E Ad (put S 7 7 0)) (va_recv hK hP (ci := 2) (q0 := 0) rfl rfl) hG hS hAN hP hD kz_nilP kz_nilA) rfl rfl hl.1 rfl (lv_room (Nat.le_of_ble_eq_true rfl)) dX3_stone_50 ⟨(Nat.le_of_ble_eq_true rfl), (Nat.le_of_ble_eq_true rfl)⟩) hP hD hS hA (fun u H9 locs9 hu hP9 hD9 hS9 hzz hkk => ?_)
        clear hzz hkk hP hD hS H locs u
        revert hS9 hD9 hP9 locs9 H9
        intro H locs hP hD hS
        clear hM
        obtain ⟨r7, hM⟩ := hu
        replace r7 : rI (0) := r7
        replace hM : MOk (put (put (put (put S 7 7 0) 7 7 2) 7 8 1) 7 9 10) := hM
        replace hP : va_P (kD E) kcl (mW E Ad (put (put (put (put S 7 7 0) 7 7 2) 7 8 1) 7 9 10)) H := hP
        replace hD : va_D A (mW E Ad (put (put (put (put S 7 7 0) 7 7 2) 7 8 1) 7 9 10)) := hD
        show W p l e _ s m args below meth c H locs _ _ Q (F0 m 53 ls [.int (zI (0))])
        have e0 : xStone S f w = (put (put (put (put S 7 7 0) 7 7 2) 7 8 1) 7 9 10, 0) := by unfold xStone gStone; (repeat (first | refine Eq.trans (if_pos (by omega)) ?_ | refine Eq.trans (if_neg (by omega)) ?_)); (try rw [hS1, show k = 14 by omega]); (try simp only [putR_put _ 0, putR_putR, putR_at]); all_goals rfl
        have e1 : (xStone S f w).2 = 0 := by rw [e0]
        have e3 : (xStone S f w).1 = put (put (put (put S 7 7 0) 7 7 2) 7 8 1) 7 9 10 := by rw [e0]
        exact kz_iret () hx hb hr hlk hP hD hS dX3_stone_53 (congrArg (fun z : Int => some (Value.int (zI z))) e1) ⟨(kz_r e1 (by omega)), (kz_M e3 hM)⟩ (congrArg (mW E Ad) e3) hQ (Nat.le_of_ble_eq_true rfl) (Nat.le_of_ble_eq_true rfl)
    · skip
      obtain rfl : v2 = 1 := by omega
      refine kz_iconst hx hb dX3_stone_32 ?_
      have e0 : xStone S f w = (put S 7 7 1, 0) := by unfold xStone gStone; (repeat (first | refine Eq.trans (if_pos (by omega)) ?_ | refine Eq.trans (if_neg (by omega)) ?_)); (try rw [hS1, show k = 14 by omega]); (try simp only [putR_put _ 0, putR_putR, putR_at]); all_goals rfl
      have e1 : (xStone S f w).2 = 0 := by rw [e0]
      have e3 : (xStone S f w).1 = put S 7 7 1 := by rw [e0]
      exact kz_iret () hx hb hr hlk hP hD hS dX3_stone_33 (congrArg (fun z : Int => some (Value.int (zI z))) e1) ⟨(kz_r e1 (by omega)), (kz_M e3 hM)⟩ (congrArg (mW E Ad) e3) hQ (Nat.le_of_ble_eq_true rfl) (Nat.le_of_ble_eq_true rfl)
  refine kz_if0B (tgt := 25) hx hb dX3_stone_8 (by decide) (fun c8 => ?_) (fun c8 => ?_)
  · skip
    refine kz_iconst hx hb dX3_stone_25 ?_
    exact J1 1 _ _ _ (Eq.symm (if_neg c8)) (by omega) hP hD hS hl
  · skip
    refine lv_iload_n hx hb dX3_stone_11 rfl (lv_at hl 2 rfl) ?_
    refine kz_iconst hx hb dX3_stone_12 ?_
    refine kz_bipush hx hb dX3_stone_13 (by decide) ?_
    refine kz_back (wc := []) (wx := (mW E Ad (S))) (va_runS (As := [.int (zI (w)), .int (zI (1)), .int (zI (9))]) (rest := [.ref (Ad 0)]) ⟨hx, hb, hml, hown, hts⟩ (mX3_in l E H.size w (by omega) 1 (by omega) 9 (by omega)) (va_cwS 3 hts (lw_S q2391 q2392 q83 q2393) rfl rfl rfl (by decide +kernel) ⟨(Nat.le_of_ble_eq_true rfl), (Nat.le_of_ble_eq_true rfl)⟩) (kz_pre (wc := []) (wx := (mW E Ad (S))) hG hS hAN hP hD kz_nilP kz_nilA) rfl rfl hl.1 rfl (lv_room (Nat.le_of_ble_eq_true rfl)) dX3_stone_15 ⟨(Nat.le_of_ble_eq_true rfl), (Nat.le_of_ble_eq_true rfl)⟩) hP hD hS hA (fun u H9 locs9 hu hP9 hD9 hS9 hzz hkk => ?_)
    clear hzz hkk hP hD hS H locs u
    revert hS9 hD9 hP9 locs9 H9
    intro H locs hP hD hS
    clear hu
    replace hP : va_P (kD E) kcl (mW E Ad (S)) H := hP
    replace hD : va_D A (mW E Ad (S)) := hD
    show W p l e _ s m args below meth c H locs _ _ Q (F0 m 18 ls [.int (zI (b2 (1 ≤ w ∧ w ≤ 9))), .ref (Ad 0)])
    refine kz_if0B (tgt := 25) hx hb dX3_stone_18 (by decide) (fun c18 => ?_) (fun c18 => ?_)
    · skip
      refine kz_iconst hx hb dX3_stone_25 ?_
      exact J1 1 _ _ _ (Eq.symm (Eq.trans (if_pos c8) (if_neg c18))) (by omega) hP hD hS hl
    · skip
      refine kz_iconst hx hb dX3_stone_21 ?_
      refine lv_goto (tgt := 26) hx hb dX3_stone_22 (by decide) ?_
      exact J1 0 _ _ _ (Eq.symm (Eq.trans (if_pos c8) (if_pos c18))) (by omega) hP hD hS hl

set_option maxHeartbeats 4000000 in
set_option maxRecDepth 100000 in
theorem mX3_river (l : Launch) (E : KE) (sz : Nat) (Ad : Nat → Nat) (S : St) (hM : MOk S) (B : Int) (wd : Int) (rwd : rI wd) (cal : Int) (rcal : rI cal) (hI : GI B (S 0)) (c0 : 0 ≤ S 7 5 ∧ S 7 5 ≤ 8) : Met l yX3_river (ws_ yX3_river cX3_river 5 (some .int)) (rmk 2 0 0 46) (va_Pc [.ref (Ad 0), .int (zI wd), .int (zI cal)] (kP l E sz (mW E Ad S) [])) (kQ E (fun _ : Unit => rI ((xRiver S wd cal).2) ∧ MOk ((xRiver S wd cal).1)) (fun _ => some (.int (zI ((xRiver S wd cal).2)))) (fun _ => (mW E Ad ((xRiver S wd cal).1))) (va_A (mW E Ad S) sz)) 0 0 (va_A (mW E Ad S) sz) := by
  refine kz_start (Qf := kQ E (fun _ : Unit => rI ((xRiver S wd cal).2) ∧ MOk ((xRiver S wd cal).1)) (fun _ => some (.int (zI ((xRiver S wd cal).2)))) (fun _ => (mW E Ad ((xRiver S wd cal).1)))) (by decide) (Nat.le_of_ble_eq_true rfl) ?_
  intro p e s m args below meth c A ls Q H locs hx hb hr hlk hml hts hown hname hG hK hA hAN hP hD hR hRA hS hQ hl
  replace hown : s.vm.findClass RX3 = some m.cls := hown
  replace hl : lv_has ls 5 [(0, .ref (Ad 0)), (1, .int (zI (wd))), (2, .int (zI (cal)))] := hl
  have g0 := hI.n
  have g1 := hI.m
  have g2 := hI.ct
  replace hP : va_P (kD E) kcl (mW E Ad (S)) H := hP
  replace hD : va_D A (mW E Ad (S)) := hD
  refine lv_aload_n hx hb dX3_river_0 rfl (lv_at hl 0 rfl) ?_
  refine lv_iload_n hx hb dX3_river_1 rfl (lv_at hl 1 rfl) ?_
  refine kz_iconst hx hb dX3_river_2 ?_
  refine kz_bipush hx hb dX3_river_3 (by decide) ?_
  refine kz_back (wc := []) (wx := (mW E Ad (S))) (va_runS (As := [.int (zI (wd)), .int (zI (5)), .int (zI (60))]) (rest := [.ref (Ad 0)]) ⟨hx, hb, hml, hown, hts⟩ (mX3_in l E H.size wd (by omega) 5 (by omega) 60 (by omega)) (va_cwS 3 hts (lw_S q2391 q2392 q83 q2393) rfl rfl rfl (by decide +kernel) ⟨(Nat.le_of_ble_eq_true rfl), (Nat.le_of_ble_eq_true rfl)⟩) (kz_pre (wc := []) (wx := (mW E Ad (S))) hG hS hAN hP hD kz_nilP kz_nilA) rfl rfl hl.1 rfl (lv_room (Nat.le_of_ble_eq_true rfl)) dX3_river_5 ⟨(Nat.le_of_ble_eq_true rfl), (Nat.le_of_ble_eq_true rfl)⟩) hP hD hS hA (fun u H9 locs9 hu hP9 hD9 hS9 hzz hkk => ?_)
  clear hzz hkk hP hD hS H locs u
  revert hS9 hD9 hP9 locs9 H9
  intro H locs hP hD hS
  clear hu
  replace hP : va_P (kD E) kcl (mW E Ad (S)) H := hP
  replace hD : va_D A (mW E Ad (S)) := hD
  show W p l e _ s m args below meth c H locs _ _ Q (F0 m 8 ls [.int (zI (b2 (5 ≤ wd ∧ wd ≤ 60))), .ref (Ad 0)])
  have J1 : ∀ (v2 : Int) (H : Heap) (locs : List Loc) (ls : Array Slot), v2 = (if 5 ≤ wd ∧ wd ≤ 60 then (if 0 ≤ cal ∧ cal ≤ 9 then 0 else 1) else 1) → rI v2 → va_P (kD E) kcl (mW E Ad (S)) H → va_D A (mW E Ad (S)) → va_S A s.heap H locs → lv_has ls 5 [(0, .ref (Ad 0)), (1, .int (zI (wd))), (2, .int (zI (cal)))] → W p l e (rmk 2 0 0 46) s m args below meth c H locs 0 0 Q (F0 m 26 ls [.int (zI (v2)), .ref (Ad 0)]) := by
    clear hl hS hD hP ls locs H
    intro v2 H locs ls hv2 rv2 hP hD hS hl
    have dv2 : (¬ (5 ≤ wd ∧ wd ≤ 60) ∧ v2 = 1) ∨ (5 ≤ wd ∧ wd ≤ 60 ∧ ¬ (0 ≤ cal ∧ cal ≤ 9) ∧ v2 = 1) ∨ (5 ≤ wd ∧ wd ≤ 60 ∧ 0 ≤ cal ∧ cal ≤ 9 ∧ v2 = 0) := by rw [hv2]; (repeat' split) <;> first | omega | simp_all
    refine kz_backM (va_runV (As := [.int (zI (v2))]) (rest := []) ⟨hx, hb, hml, hown, hts⟩ (mX3_fails l E H.size Ad S hM v2 (by omega)) (cwV 1 hts (lw_V q2394 q2396 qs36 q83 q2397) rfl rfl rfl (by decide +kernel) ⟨(Nat.le_of_ble_eq_true rfl), (Nat.le_of_ble_eq_true rfl)⟩) (kz_preVM (wc := mW E Ad S) (va_recv hK hP (ci := 2) (q0 := 0) rfl rfl) hG hS hAN hP hD kz_nilP kz_nilA) rfl rfl hl.1 rfl (lv_room (Nat.le_of_ble_eq_true rfl)) dX3_river_26 ⟨(Nat.le_of_ble_eq_true rfl), (Nat.le_of_ble_eq_true rfl)⟩) hP hD hS hA (fun u H9 locs9 hu hP9 hD9 hS9 hzz hkk => ?_)
    clear hzz hkk hP hD hS H locs u
    revert hS9 hD9 hP9 locs9 H9
    intro H locs hP hD hS
    replace hM : MOk (put S 7 7 v2) := hu
    clear hu
    replace hP : va_P (kD E) kcl (mW E Ad (put S 7 7 v2)) H := hP
    replace hD : va_D A (mW E Ad (put S 7 7 v2)) := hD
    show W p l e _ s m args below meth c H locs _ _ Q (F0 m 29 ls [.int (zI (b2 (0 < v2)))])
    refine kz_if0B (tgt := 34) hx hb dX3_river_29 (by decide) (fun c29 => ?_) (fun c29 => ?_)
    · skip
      obtain rfl : v2 = 0 := by omega
      refine lv_aload_n hx hb dX3_river_34 rfl (lv_at hl 0 rfl) ?_
      refine va_get (D := kD E) (ci := 2) (fs := mO Ad (put S 7 7 0)) (v := .ref (Ad 1)) (C := RX3) (T := TX3) (N := 19) hx hb hts in_X3 hown hK hP 0 rfl rfl 0 (by decide) (hts _ q2320) (fun _ h9 => h9) rfl dX3_river_35 ?_
      refine kz_iconst hx hb dX3_river_38 ?_
      refine kz_iald (cA := kA E 0) (n := 304) (g := S 0) hx hb hK hP 1 0 rfl rfl (by omega) dX3_river_39 ?_
      have r3 : rI (S 0 1) := hM 0 1
      refine kz_iconst hx hb dX3_river_40 ?_
      refine kz_icmp_ne (tgt := 52) hx hb dX3_river_41 (by decide) (by omega) (by omega) (fun c41 => ?_) (fun c41 => ?_)
      · skip
        refine lv_aload_n hx hb dX3_river_52 rfl (lv_at hl 0 rfl) ?_
        refine lv_aload_n hx hb dX3_river_53 rfl (lv_at hl 0 rfl) ?_
        refine va_get (D := kD E) (ci := 2) (fs := mO Ad (put S 7 7 0)) (v := .ref (Ad 1)) (C := RX3) (T := TX3) (N := 19) hx hb hts in_X3 hown hK hP 0 rfl rfl 0 (by decide) (hts _ q2320) (fun _ h9 => h9) rfl dX3_river_54 ?_
        refine kz_backM (va_runV (As := [.ref (Ad 1)]) (rest := []) ⟨hx, hb, hml, hown, hts⟩ (mX3_keeps l E H.size Ad (put S 7 7 0) hM (show 0 ≤ (S 7 5) ∧ (S 7 5) ≤ 8 by first | omega | exact hI.st _ (by omega) (by omega) | exact hI.rv _ (by omega) (by omega) | exact hI)) (cwV 1 hts (lw_V q2402 q2404 qs38 q83 q2405) rfl rfl rfl (by decide +kernel) ⟨(Nat.le_of_ble_eq_true rfl), (Nat.le_of_ble_eq_true rfl)⟩) (kz_preVM (wc := mW E Ad (put S 7 7 0)) (va_recv hK hP (ci := 2) (q0 := 0) rfl rfl) hG hS hAN hP hD kz_nilP kz_nilA) rfl rfl hl.1 rfl (lv_room (Nat.le_of_ble_eq_true rfl)) dX3_river_57 ⟨(Nat.le_of_ble_eq_true rfl), (Nat.le_of_ble_eq_true rfl)⟩) hP hD hS hA (fun u H9 locs9 hu hP9 hD9 hS9 hzz hkk => ?_)
        clear hzz hkk hP hD hS H locs u
        revert hS9 hD9 hP9 locs9 H9
        intro H locs hP hD hS
        replace hM : MOk (mKeeps (put S 7 7 0) 0) := hu
        clear hu
        replace hP : va_P (kD E) kcl (mW E Ad (mKeeps (put S 7 7 0) 0)) H := hP
        replace hD : va_D A (mW E Ad (mKeeps (put S 7 7 0) 0)) := hD
        show W p l e _ s m args below meth c H locs _ _ Q (F0 m 60 ls [])
        refine kz_sipush hx hb dX3_river_60 (by decide) ?_
        refine kz_bipush hx hb dX3_river_63 (by decide) ?_
        refine lv_aload_n hx hb dX3_river_65 rfl (lv_at hl 0 rfl) ?_
        refine va_get (D := kD E) (ci := 2) (fs := mO Ad (mKeeps (put S 7 7 0) 0)) (v := .ref (Ad 1)) (C := RX3) (T := TX3) (N := 19) hx hb hts in_X3 hown hK hP 0 rfl rfl 0 (by decide) (hts _ q2320) (fun _ h9 => h9) rfl dX3_river_66 ?_
        refine kz_iconst hx hb dX3_river_69 ?_
        refine kz_iald (cA := kA E 0) (n := 304) (g := S 0) hx hb hK hP 1 0 rfl rfl (by omega) dX3_river_70 ?_
        have r4 : rI (S 0 1) := hM 0 1
        refine kz_imul hx hb dX3_river_71 ?_
        refine kz_iadd hx hb dX3_river_72 ?_
        refine lv_istore_n (lv' := [(3, .int (zI (150 + (6 * (S 0 1))))), (0, .ref (Ad 0)), (1, .int (zI (wd))), (2, .int (zI (cal)))]) hx hb dX3_river_73 rfl hl (by decide) rfl (fun ls hl => ?_)
        refine kz_iconst hx hb dX3_river_74 ?_
        refine lv_istore (lv' := [(4, .int (zI (0))), (3, .int (zI (150 + (6 * (S 0 1))))), (0, .ref (Ad 0)), (1, .int (zI (wd))), (2, .int (zI (cal)))]) hx hb dX3_river_75 hl (by decide) rfl (fun ls hl => ?_)
        have L77_5 : ∀ (fu : Nat) (k : Int) (S1 : St) (H : Heap) (locs : List Loc) (ls : Array Slot), (0 ≤ k ∧ k ≤ 6) → (S1 = putR (mKeeps (put S 7 7 0) 0) 0 (fillN (S 0) (150 + 6 * S 0 1) 0 (150 + 6 * S 0 1 + k))) → (S1 0 1 = S 0 1) → rI k → MOk S1 → (6 - k : Int).toNat < fu → va_P (kD E) kcl (mW E Ad (S1)) H → va_D A (mW E Ad (S1)) → va_S A s.heap H locs → lv_has ls 5 [(0, .ref (Ad 0)), (1, .int (zI (wd))), (2, .int (zI (cal))), (3, .int (zI (150 + (6 * (S 0 1))))), (4, .int (zI (k)))] → W p l e (rmk 2 0 0 46) s m args below meth c H locs 0 0 Q (F0 m 77 ls []) := by
          clear hl hS hD hP ls locs H hM
          intro fu
          induction fu with
          | zero => intro k S1 H locs ls hk hS1 h11 rk hM hf; exact absurd hf (Nat.not_lt_zero _)
          | succ fu ih77 =>
            intro k S1 H locs ls hk hS1 h11 rk hM hf hP hD hS hl
            refine lv_iload hx hb dX3_river_77 (lv_at hl 4 rfl) ?_
            refine kz_bipush hx hb dX3_river_79 (by decide) ?_
            refine kz_icmp_ge (tgt := 100) hx hb dX3_river_81 (by decide) (by omega) (by omega) (fun c81 => ?_) (fun c81 => ?_)
            · skip
              refine lv_aload_n hx hb dX3_river_100 rfl (lv_at hl 0 rfl) ?_
              refine va_get (D := kD E) (ci := 2) (fs := mO Ad (S1)) (v := .ref (Ad 1)) (C := RX3) (T := TX3) (N := 19) hx hb hts in_X3 hown hK hP 0 rfl rfl 0 (by decide) (hts _ q2320) (fun _ h9 => h9) rfl dX3_river_101 ?_
              refine lv_iload_n hx hb dX3_river_104 rfl (lv_at hl 3 rfl) ?_
              refine kz_iconst hx hb dX3_river_105 ?_
              refine kz_iadd hx hb dX3_river_106 ?_
              refine lv_iload_n hx hb dX3_river_107 rfl (lv_at hl 1 rfl) ?_
              refine kz_iast (cA := kA E 0) (n := 304) (g := S1 0) hx hb hK hP hD hS 1 0 rfl rfl (by omega) dX3_river_108 (fun H9 locs9 hP9 hD9 hS9 => ?_)
              rw [mW_a0] at hP9 hD9
              clear hP hD hS H locs
              revert hS9 hD9 hP9 locs9 H9
              intro H locs hP hD hS
              replace hP : va_P (kD E) kcl (mW E Ad (put S1 0 ((150 + (6 * (S 0 1))) + 0) wd)) H := hP
              replace hD : va_D A (mW E Ad (put S1 0 ((150 + (6 * (S 0 1))) + 0) wd)) := hD
              replace hM : MOk (put S1 0 ((150 + (6 * (S 0 1))) + 0) wd) := hM.put 0 _ (by omega)
              refine lv_aload_n hx hb dX3_river_109 rfl (lv_at hl 0 rfl) ?_
              refine va_get (D := kD E) (ci := 2) (fs := mO Ad (put S1 0 ((150 + (6 * (S 0 1))) + 0) wd)) (v := .ref (Ad 1)) (C := RX3) (T := TX3) (N := 19) hx hb hts in_X3 hown hK hP 0 rfl rfl 0 (by decide) (hts _ q2320) (fun _ h9 => h9) rfl dX3_river_110 ?_
              refine lv_iload_n hx hb dX3_river_113 rfl (lv_at hl 3 rfl) ?_
              refine kz_iconst hx hb dX3_river_114 ?_
              refine kz_iadd hx hb dX3_river_115 ?_
              refine lv_iload_n hx hb dX3_river_116 rfl (lv_at hl 2 rfl) ?_
              refine kz_iast (cA := kA E 0) (n := 304) (g := (put S1 0 ((150 + (6 * (S 0 1))) + 0) wd) 0) hx hb hK hP hD hS 1 0 rfl rfl (by omega) dX3_river_117 (fun H9 locs9 hP9 hD9 hS9 => ?_)
              rw [mW_a0] at hP9 hD9
              clear hP hD hS H locs
              revert hS9 hD9 hP9 locs9 H9
              intro H locs hP hD hS
              replace hP : va_P (kD E) kcl (mW E Ad (put (put S1 0 ((150 + (6 * (S 0 1))) + 0) wd) 0 ((150 + (6 * (S 0 1))) + 1) cal)) H := hP
              replace hD : va_D A (mW E Ad (put (put S1 0 ((150 + (6 * (S 0 1))) + 0) wd) 0 ((150 + (6 * (S 0 1))) + 1) cal)) := hD
              replace hM : MOk (put (put S1 0 ((150 + (6 * (S 0 1))) + 0) wd) 0 ((150 + (6 * (S 0 1))) + 1) cal) := hM.put 0 _ (by omega)
              refine lv_aload_n hx hb dX3_river_118 rfl (lv_at hl 0 rfl) ?_
              refine va_get (D := kD E) (ci := 2) (fs := mO Ad (put (put S1 0 ((150 + (6 * (S 0 1))) + 0) wd) 0 ((150 + (6 * (S 0 1))) + 1) cal)) (v := .ref (Ad 1)) (C := RX3) (T := TX3) (N := 19) hx hb hts in_X3 hown hK hP 0 rfl rfl 0 (by decide) (hts _ q2320) (fun _ h9 => h9) rfl dX3_river_119 ?_
              refine lv_iload_n hx hb dX3_river_122 rfl (lv_at hl 3 rfl) ?_
              refine kz_iconst hx hb dX3_river_123 ?_
              refine kz_iadd hx hb dX3_river_124 ?_
              refine kz_iconst hx hb dX3_river_125 ?_
              refine kz_iast (cA := kA E 0) (n := 304) (g := (put (put S1 0 ((150 + (6 * (S 0 1))) + 0) wd) 0 ((150 + (6 * (S 0 1))) + 1) cal) 0) hx hb hK hP hD hS 1 0 rfl rfl (by omega) dX3_river_126 (fun H9 locs9 hP9 hD9 hS9 => ?_)
              rw [mW_a0] at hP9 hD9
              clear hP hD hS H locs
              revert hS9 hD9 hP9 locs9 H9
              intro H locs hP hD hS
              replace hP : va_P (kD E) kcl (mW E Ad (put (put (put S1 0 ((150 + (6 * (S 0 1))) + 0) wd) 0 ((150 + (6 * (S 0 1))) + 1) cal) 0 ((150 + (6 * (S 0 1))) + 3) ((-1)))) H := hP
              replace hD : va_D A (mW E Ad (put (put (put S1 0 ((150 + (6 * (S 0 1))) + 0) wd) 0 ((150 + (6 * (S 0 1))) + 1) cal) 0 ((150 + (6 * (S 0 1))) + 3) ((-1)))) := hD
              replace hM : MOk (put (put (put S1 0 ((150 + (6 * (S 0 1))) + 0) wd) 0 ((150 + (6 * (S 0 1))) + 1) cal) 0 ((150 + (6 * (S 0 1))) + 3) ((-1))) := hM.put 0 _ (by omega)
              refine lv_aload_n hx hb dX3_river_127 rfl (lv_at hl 0 rfl) ?_
              refine va_get (D := kD E) (ci := 2) (fs := mO Ad (put (put (put S1 0 ((150 + (6 * (S 0 1))) + 0) wd) 0 ((150 + (6 * (S 0 1))) + 1) cal) 0 ((150 + (6 * (S 0 1))) + 3) ((-1)))) (v := .ref (Ad 1)) (C := RX3) (T := TX3) (N := 19) hx hb hts in_X3 hown hK hP 0 rfl rfl 0 (by decide) (hts _ q2320) (fun _ h9 => h9) rfl dX3_river_128 ?_
              refine kz_iconst hx hb dX3_river_131 ?_
              refine lv_dup2_11 hx hb dX3_river_132 rfl rfl ?_
              refine kz_iald (cA := kA E 0) (n := 304) (g := (put (put (put S1 0 ((150 + (6 * (S 0 1))) + 0) wd) 0 ((150 + (6 * (S 0 1))) + 1) cal) 0 ((150 + (6 * (S 0 1))) + 3) ((-1))) 0) hx hb hK hP 1 0 rfl rfl (by omega) dX3_river_133 ?_
              have r6 : rI ((put (put (put S1 0 ((150 + (6 * (S 0 1))) + 0) wd) 0 ((150 + (6 * (S 0 1))) + 1) cal) 0 ((150 + (6 * (S 0 1))) + 3) ((-1))) 0 1) := hM 0 1
              have q7 : (put (put (put S1 0 ((150 + (6 * (S 0 1))) + 0) wd) 0 ((150 + (6 * (S 0 1))) + 1) cal) 0 ((150 + (6 * (S 0 1))) + 3) ((-1))) 0 1 = S1 0 1 := by
                show uz ((put (put S1 0 ((150 + (6 * (S 0 1))) + 0) wd) 0 ((150 + (6 * (S 0 1))) + 1) cal) 0) ((150 + (6 * (S 0 1))) + 3) ((-1)) 1 = _
                rw [uz_n (by omega)]
                show uz ((put S1 0 ((150 + (6 * (S 0 1))) + 0) wd) 0) ((150 + (6 * (S 0 1))) + 1) cal 1 = _
                rw [uz_n (by omega)]
                show uz (S1 0) ((150 + (6 * (S 0 1))) + 0) wd 1 = _
                rw [uz_n (by omega)]
                all_goals rfl
              rw [q7]
              rw [q7] at r6
              refine kz_iconst hx hb dX3_river_134 ?_
              refine kz_iadd hx hb dX3_river_135 ?_
              refine kz_iast (cA := kA E 0) (n := 304) (g := (put (put (put S1 0 ((150 + (6 * (S 0 1))) + 0) wd) 0 ((150 + (6 * (S 0 1))) + 1) cal) 0 ((150 + (6 * (S 0 1))) + 3) ((-1))) 0) hx hb hK hP hD hS 1 0 rfl rfl (by omega) dX3_river_136 (fun H9 locs9 hP9 hD9 hS9 => ?_)
              rw [mW_a0] at hP9 hD9
              clear hP hD hS H locs
              revert hS9 hD9 hP9 locs9 H9
              intro H locs hP hD hS
              replace hP : va_P (kD E) kcl (mW E Ad (put (put (put (put S1 0 ((150 + (6 * (S 0 1))) + 0) wd) 0 ((150 + (6 * (S 0 1))) + 1) cal) 0 ((150 + (6 * (S 0 1))) + 3) ((-1))) 0 1 ((S1 0 1) + 1))) H := hP
              replace hD : va_D A (mW E Ad (put (put (put (put S1 0 ((150 + (6 * (S 0 1))) + 0) wd) 0 ((150 + (6 * (S 0 1))) + 1) cal) 0 ((150 + (6 * (S 0 1))) + 3) ((-1))) 0 1 ((S1 0 1) + 1))) := hD
              replace hM : MOk (put (put (put (put S1 0 ((150 + (6 * (S 0 1))) + 0) wd) 0 ((150 + (6 * (S 0 1))) + 1) cal) 0 ((150 + (6 * (S 0 1))) + 3) ((-1))) 0 1 ((S1 0 1) + 1)) := hM.put 0 _ (by omega)
              refine lv_aload_n hx hb dX3_river_137 rfl (lv_at hl 0 rfl) ?_
              refine va_get (D := kD E) (ci := 2) (fs := mO Ad (put (put (put (put S1 0 ((150 + (6 * (S 0 1))) + 0) wd) 0 ((150 + (6 * (S 0 1))) + 1) cal) 0 ((150 + (6 * (S 0 1))) + 3) ((-1))) 0 1 ((S1 0 1) + 1))) (v := .ref (Ad 1)) (C := RX3) (T := TX3) (N := 19) hx hb hts in_X3 hown hK hP 0 rfl rfl 0 (by decide) (hts _ q2320) (fun _ h9 => h9) rfl dX3_river_138 ?_
              refine kz_iconst hx hb dX3_river_141 ?_
              refine kz_iald (cA := kA E 0) (n := 304) (g := (put (put (put (put S1 0 ((150 + (6 * (S 0 1))) + 0) wd) 0 ((150 + (6 * (S 0 1))) + 1) cal) 0 ((150 + (6 * (S 0 1))) + 3) ((-1))) 0 1 ((S1 0 1) + 1)) 0) hx hb hK hP 1 0 rfl rfl (by omega) dX3_river_142 ?_
              have r8 : rI ((S1 0 1) + 1) := hM 0 1
              refine kz_iconst hx hb dX3_river_143 ?_
              refine kz_isub hx hb dX3_river_144 ?_
              have e0 : xRiver S wd cal = (put (put (put (put S1 0 ((150 + (6 * (S 0 1))) + 0) wd) 0 ((150 + (6 * (S 0 1))) + 1) cal) 0 ((150 + (6 * (S 0 1))) + 3) ((-1))) 0 1 ((S1 0 1) + 1), ((S1 0 1) + 1) - 1) := by unfold xRiver gRiver; (repeat (first | refine Eq.trans (if_pos (by omega)) ?_ | refine Eq.trans (if_neg (by omega)) ?_)); (try rw [h11]); (try rw [hS1, show k = 6 by omega]); (try simp only [putR_put _ 0, putR_putR, putR_at]); all_goals rfl
              have e1 : (xRiver S wd cal).2 = ((S1 0 1) + 1) - 1 := by rw [e0]
              have e3 : (xRiver S wd cal).1 = put (put (put (put S1 0 ((150 + (6 * (S 0 1))) + 0) wd) 0 ((150 + (6 * (S 0 1))) + 1) cal) 0 ((150 + (6 * (S 0 1))) + 3) ((-1))) 0 1 ((S1 0 1) + 1) := by rw [e0]
              exact kz_iret () hx hb hr hlk hP hD hS dX3_river_145 (congrArg (fun z : Int => some (Value.int (zI z))) e1) ⟨(kz_r e1 (by omega)), (kz_M e3 hM)⟩ (congrArg (mW E Ad) e3) hQ (Nat.le_of_ble_eq_true rfl) (Nat.le_of_ble_eq_true rfl)
            · skip
              refine lv_aload_n hx hb dX3_river_84 rfl (lv_at hl 0 rfl) ?_
              refine va_get (D := kD E) (ci := 2) (fs := mO Ad (S1)) (v := .ref (Ad 1)) (C := RX3) (T := TX3) (N := 19) hx hb hts in_X3 hown hK hP 0 rfl rfl 0 (by decide) (hts _ q2320) (fun _ h9 => h9) rfl dX3_river_85 ?_
              refine lv_iload_n hx hb dX3_river_88 rfl (lv_at hl 3 rfl) ?_
              refine lv_iload hx hb dX3_river_89 (lv_at hl 4 rfl) ?_
              refine kz_iadd hx hb dX3_river_91 ?_
              refine kz_iconst hx hb dX3_river_92 ?_
              refine kz_iast (cA := kA E 0) (n := 304) (g := S1 0) hx hb hK hP hD hS 1 0 rfl rfl (by omega) dX3_river_93 (fun H9 locs9 hP9 hD9 hS9 => ?_)
              rw [mW_a0] at hP9 hD9
              clear hP hD hS H locs
              revert hS9 hD9 hP9 locs9 H9
              intro H locs hP hD hS
              replace hP : va_P (kD E) kcl (mW E Ad (put S1 0 ((150 + (6 * (S 0 1))) + k) 0)) H := hP
              replace hD : va_D A (mW E Ad (put S1 0 ((150 + (6 * (S 0 1))) + k) 0)) := hD
              replace hM : MOk (put S1 0 ((150 + (6 * (S 0 1))) + k) 0) := hM.put 0 _ (by omega)
              refine kz_iinc (lv' := [(4, .int (zI (k + 1))), (0, .ref (Ad 0)), (1, .int (zI (wd))), (2, .int (zI (cal))), (3, .int (zI (150 + (6 * (S 0 1)))))]) hx hb dX3_river_94 hl (k := 4) rfl (by decide) rfl (fun ls hl => ?_)
              refine lv_goto (tgt := 77) hx hb dX3_river_97 (by decide) ?_
              exact ih77 (k + 1) (put S1 0 ((150 + (6 * (S 0 1))) + k) 0) _ _ _ (by omega) (by rw [hS1, put_putR, show 150 + 6 * S 0 1 + (k + 1) = 150 + 6 * S 0 1 + k + 1 by omega]; exact congrArg _ (fillN_s _ _ 0 (by omega))) (by show uz (S1 0) _ _ 1 = _; rw [uz_n (by omega), h11]) (by omega) hM (by omega) hP hD hS (lv_sub hl [1, 2, 3, 4, 0] rfl)
        exact L77_5 ((6 - 0 : Int).toNat + 1) 0 (mKeeps (put S 7 7 0) 0) _ _ _ (by omega) (by rw [fillN_0 _ _ 0 (by omega)]; exact (putR_self _ 0).symm) (by rfl) (by omega) hM (Nat.lt_succ_self _) hP hD hS (lv_sub hl [2, 3, 4, 1, 0] rfl)
      · skip
        refine lv_aload_n hx hb dX3_river_44 rfl (lv_at hl 0 rfl) ?_
        refine kz_iconst hx hb dX3_river_45 ?_
        refine kz_iconst hx hb dX3_river_46 ?_
        refine kz_iconst hx hb dX3_river_47 ?_
        refine kz_backM (va_runV (As := [.int (zI (2)), .int (zI (1)), .int (zI (4))]) (rest := []) ⟨hx, hb, hml, hown, hts⟩ (mX3_refuses l E H.size Ad (put S 7 7 0) hM 2 (by omega) 1 (by omega) 4 (by omega)) (cwV 3 hts (lw_V q2398 q2400 qs37 q83 q2401) rfl rfl rfl (by decide +kernel) ⟨(Nat.le_of_ble_eq_true rfl), (Nat.le_of_ble_eq_true rfl)⟩) (kz_preVM (wc := mW E Ad (put S 7 7 0)) (va_recv hK hP (ci := 2) (q0 := 0) rfl rfl) hG hS hAN hP hD kz_nilP kz_nilA) rfl rfl hl.1 rfl (lv_room (Nat.le_of_ble_eq_true rfl)) dX3_river_48 ⟨(Nat.le_of_ble_eq_true rfl), (Nat.le_of_ble_eq_true rfl)⟩) hP hD hS hA (fun u H9 locs9 hu hP9 hD9 hS9 hzz hkk => ?_)
        clear hzz hkk hP hD hS H locs u
        revert hS9 hD9 hP9 locs9 H9
        intro H locs hP hD hS
        clear hM
        obtain ⟨r9, hM⟩ := hu
        replace r9 : rI (0) := r9
        replace hM : MOk (put (put (put (put S 7 7 0) 7 7 2) 7 8 1) 7 9 4) := hM
        replace hP : va_P (kD E) kcl (mW E Ad (put (put (put (put S 7 7 0) 7 7 2) 7 8 1) 7 9 4)) H := hP
        replace hD : va_D A (mW E Ad (put (put (put (put S 7 7 0) 7 7 2) 7 8 1) 7 9 4)) := hD
        show W p l e _ s m args below meth c H locs _ _ Q (F0 m 51 ls [.int (zI (0))])
        have e0 : xRiver S wd cal = (put (put (put (put S 7 7 0) 7 7 2) 7 8 1) 7 9 4, 0) := by unfold xRiver gRiver; (repeat (first | refine Eq.trans (if_pos (by omega)) ?_ | refine Eq.trans (if_neg (by omega)) ?_)); (try rw [h11]); (try rw [hS1, show k = 6 by omega]); (try simp only [putR_put _ 0, putR_putR, putR_at]); all_goals rfl
        have e1 : (xRiver S wd cal).2 = 0 := by rw [e0]
        have e3 : (xRiver S wd cal).1 = put (put (put (put S 7 7 0) 7 7 2) 7 8 1) 7 9 4 := by rw [e0]
        exact kz_iret () hx hb hr hlk hP hD hS dX3_river_51 (congrArg (fun z : Int => some (Value.int (zI z))) e1) ⟨(kz_r e1 (by omega)), (kz_M e3 hM)⟩ (congrArg (mW E Ad) e3) hQ (Nat.le_of_ble_eq_true rfl) (Nat.le_of_ble_eq_true rfl)
    · skip
      obtain rfl : v2 = 1 := by omega
      refine kz_iconst hx hb dX3_river_32 ?_
      have e0 : xRiver S wd cal = (put S 7 7 1, 0) := by unfold xRiver gRiver; (repeat (first | refine Eq.trans (if_pos (by omega)) ?_ | refine Eq.trans (if_neg (by omega)) ?_)); (try rw [h11]); (try rw [hS1, show k = 6 by omega]); (try simp only [putR_put _ 0, putR_putR, putR_at]); all_goals rfl
      have e1 : (xRiver S wd cal).2 = 0 := by rw [e0]
      have e3 : (xRiver S wd cal).1 = put S 7 7 1 := by rw [e0]
      exact kz_iret () hx hb hr hlk hP hD hS dX3_river_33 (congrArg (fun z : Int => some (Value.int (zI z))) e1) ⟨(kz_r e1 (by omega)), (kz_M e3 hM)⟩ (congrArg (mW E Ad) e3) hQ (Nat.le_of_ble_eq_true rfl) (Nat.le_of_ble_eq_true rfl)
  refine kz_if0B (tgt := 25) hx hb dX3_river_8 (by decide) (fun c8 => ?_) (fun c8 => ?_)
  · skip
    refine kz_iconst hx hb dX3_river_25 ?_
    exact J1 1 _ _ _ (Eq.symm (if_neg c8)) (by omega) hP hD hS hl
  · skip
    refine lv_iload_n hx hb dX3_river_11 rfl (lv_at hl 2 rfl) ?_
    refine kz_iconst hx hb dX3_river_12 ?_
    refine kz_bipush hx hb dX3_river_13 (by decide) ?_
    refine kz_back (wc := []) (wx := (mW E Ad (S))) (va_runS (As := [.int (zI (cal)), .int (zI (0)), .int (zI (9))]) (rest := [.ref (Ad 0)]) ⟨hx, hb, hml, hown, hts⟩ (mX3_in l E H.size cal (by omega) 0 (by omega) 9 (by omega)) (va_cwS 3 hts (lw_S q2391 q2392 q83 q2393) rfl rfl rfl (by decide +kernel) ⟨(Nat.le_of_ble_eq_true rfl), (Nat.le_of_ble_eq_true rfl)⟩) (kz_pre (wc := []) (wx := (mW E Ad (S))) hG hS hAN hP hD kz_nilP kz_nilA) rfl rfl hl.1 rfl (lv_room (Nat.le_of_ble_eq_true rfl)) dX3_river_15 ⟨(Nat.le_of_ble_eq_true rfl), (Nat.le_of_ble_eq_true rfl)⟩) hP hD hS hA (fun u H9 locs9 hu hP9 hD9 hS9 hzz hkk => ?_)
    clear hzz hkk hP hD hS H locs u
    revert hS9 hD9 hP9 locs9 H9
    intro H locs hP hD hS
    clear hu
    replace hP : va_P (kD E) kcl (mW E Ad (S)) H := hP
    replace hD : va_D A (mW E Ad (S)) := hD
    show W p l e _ s m args below meth c H locs _ _ Q (F0 m 18 ls [.int (zI (b2 (0 ≤ cal ∧ cal ≤ 9))), .ref (Ad 0)])
    refine kz_if0B (tgt := 25) hx hb dX3_river_18 (by decide) (fun c18 => ?_) (fun c18 => ?_)
    · skip
      refine kz_iconst hx hb dX3_river_25 ?_
      exact J1 1 _ _ _ (Eq.symm (Eq.trans (if_pos c8) (if_neg c18))) (by omega) hP hD hS hl
    · skip
      refine kz_iconst hx hb dX3_river_21 ?_
      refine lv_goto (tgt := 26) hx hb dX3_river_22 (by decide) ?_
      exact J1 0 _ _ _ (Eq.symm (Eq.trans (if_pos c8) (if_pos c18))) (by omega) hP hD hS hl

set_option maxHeartbeats 4000000 in
set_option maxRecDepth 100000 in
theorem mX3_trial (l : Launch) (E : KE) (sz : Nat) (Ad : Nat → Nat) (S : St) (hM : MOk S) (B : Int) (k : Int) (rk : rI k) (river : Int) (rriver : rI river) (a : Int) (ra : rI a) (sp : Int) (rsp : rI sp) (hI : GI B (S 0)) (c0 : 0 ≤ S 7 5 ∧ S 7 5 ≤ 8) : Met l yX3_trial (ws_ yX3_trial cX3_trial 6 (some .int)) (rmk 4 0 0 93) (va_Pc [.ref (Ad 0), .int (zI k), .int (zI river), .int (zI a), .int (zI sp)] (kP l E sz (mW E Ad S) [])) (kQ E (fun _ : Unit => rI ((xTrial S k river a sp).2) ∧ MOk ((xTrial S k river a sp).1)) (fun _ => some (.int (zI ((xTrial S k river a sp).2)))) (fun _ => (mW E Ad ((xTrial S k river a sp).1))) (va_A (mW E Ad S) sz)) 0 0 (va_A (mW E Ad S) sz) := by
  refine kz_start (Qf := kQ E (fun _ : Unit => rI ((xTrial S k river a sp).2) ∧ MOk ((xTrial S k river a sp).1)) (fun _ => some (.int (zI ((xTrial S k river a sp).2)))) (fun _ => (mW E Ad ((xTrial S k river a sp).1)))) (by decide) (Nat.le_of_ble_eq_true rfl) ?_
  intro p e s m args below meth c A ls Q H locs hx hb hr hlk hml hts hown hname hG hK hA hAN hP hD hR hRA hS hQ hl
  replace hown : s.vm.findClass RX3 = some m.cls := hown
  replace hl : lv_has ls 6 [(0, .ref (Ad 0)), (1, .int (zI (k))), (2, .int (zI (river))), (3, .int (zI (a))), (4, .int (zI (sp)))] := hl
  have g0 := hI.n
  have g1 := hI.m
  have g2 := hI.ct
  replace hP : va_P (kD E) kcl (mW E Ad (S)) H := hP
  replace hD : va_D A (mW E Ad (S)) := hD
  refine lv_aload_n hx hb dX3_trial_0 rfl (lv_at hl 0 rfl) ?_
  refine lv_iload_n hx hb dX3_trial_1 rfl (lv_at hl 1 rfl) ?_
  refine lv_iload_n hx hb dX3_trial_2 rfl (lv_at hl 2 rfl) ?_
  refine lv_iload_n hx hb dX3_trial_3 rfl (lv_at hl 3 rfl) ?_
  refine lv_iload hx hb dX3_trial_4 (lv_at hl 4 rfl) ?_
  refine kz_backM (va_runV (As := [.int (zI (k)), .int (zI (river)), .int (zI (a)), .int (zI (sp))]) (rest := []) ⟨hx, hb, hml, hown, hts⟩ (mX3_isWrong l E H.size Ad S hM k (by omega) river (by omega) a (by omega) sp (by omega) (show 0 ≤ (S 0 0) ∧ (S 0 0) ≤ 10 by first | omega | exact hI.st _ (by omega) (by omega) | exact hI.rv _ (by omega) (by omega) | exact hI) (show 0 ≤ (S 0 1) ∧ (S 0 1) ≤ 4 by first | omega | exact hI.st _ (by omega) (by omega) | exact hI.rv _ (by omega) (by omega) | exact hI)) (cwV 4 hts (lw_V q2507 q2509 qs51 q83 q2510) rfl rfl rfl (by decide +kernel) ⟨(Nat.le_of_ble_eq_true rfl), (Nat.le_of_ble_eq_true rfl)⟩) (kz_preVM (wc := mW E Ad S) (va_recv hK hP (ci := 2) (q0 := 0) rfl rfl) hG hS hAN hP hD kz_nilP kz_nilA) rfl rfl hl.1 rfl (lv_room (Nat.le_of_ble_eq_true rfl)) dX3_trial_6 ⟨(Nat.le_of_ble_eq_true rfl), (Nat.le_of_ble_eq_true rfl)⟩) hP hD hS hA (fun u H9 locs9 hu hP9 hD9 hS9 hzz hkk => ?_)
  clear hzz hkk hP hD hS H locs u
  revert hS9 hD9 hP9 locs9 H9
  intro H locs hP hD hS
  replace hM : MOk (put S 7 7 (throwCode (S 0) k river a sp)) := hu
  clear hu
  replace hP : va_P (kD E) kcl (mW E Ad (put S 7 7 (throwCode (S 0) k river a sp))) H := hP
  replace hD : va_D A (mW E Ad (put S 7 7 (throwCode (S 0) k river a sp))) := hD
  show W p l e _ s m args below meth c H locs _ _ Q (F0 m 9 ls [.int (zI (b2 (0 < throwCode (S 0) k river a sp)))])
  refine kz_if0B (tgt := 14) hx hb dX3_trial_9 (by decide) (fun c9 => ?_) (fun c9 => ?_)
  · skip
    have q0 : throwCode (S 0) k river a sp = 0 := by have := throwCode_b (S 0) k river a sp; omega
    have q1 := throwCode_0 q0
    have hsb := hI.st k (by omega) (by omega)
    have hrb := hI.rv river (by omega) (by omega)
    have hsx := hI.sx k (by omega) (by omega)
    have hrx := hI.rx river (by omega) (by omega)
    have hbk := hI.bk river 0 (by omega) (by omega) (by omega) (by omega)
    rw [q0] at hP hD hM
    refine lv_aload_n hx hb dX3_trial_14 rfl (lv_at hl 0 rfl) ?_
    refine lv_iload_n hx hb dX3_trial_15 rfl (lv_at hl 1 rfl) ?_
    refine kz_backM (va_runV (As := [.int (zI (k))]) (rest := []) ⟨hx, hb, hml, hown, hts⟩ (mX3_isSunk l E H.size Ad (put S 7 7 0) hM k (by omega) (show 0 ≤ k ∧ k < 10 by first | omega | exact hI.st _ (by omega) (by omega) | exact hI.rv _ (by omega) (by omega) | exact hI)) (cwV 1 hts (lw_V q2480 q2482 qs50 q83 q2483) rfl rfl rfl (by decide +kernel) ⟨(Nat.le_of_ble_eq_true rfl), (Nat.le_of_ble_eq_true rfl)⟩) (kz_preVM (wc := mW E Ad (put S 7 7 0)) (va_recv hK hP (ci := 2) (q0 := 0) rfl rfl) hG hS hAN hP hD kz_nilP kz_nilA) rfl rfl hl.1 rfl (lv_room (Nat.le_of_ble_eq_true rfl)) dX3_trial_16 ⟨(Nat.le_of_ble_eq_true rfl), (Nat.le_of_ble_eq_true rfl)⟩) hP hD hS hA (fun u H9 locs9 hu hP9 hD9 hS9 hzz hkk => ?_)
    clear hzz hkk hP hD hS H locs u
    revert hS9 hD9 hP9 locs9 H9
    intro H locs hP hD hS
    clear hu
    replace hP : va_P (kD E) kcl (mW E Ad (put S 7 7 0)) H := hP
    replace hD : va_D A (mW E Ad (put S 7 7 0)) := hD
    show W p l e _ s m args below meth c H locs _ _ Q (F0 m 19 ls [.int (zI (b2 ((S 0 ((10 + 14 * k + 5))) = -2)))])
    refine kz_if0B (tgt := 36) hx hb dX3_trial_19 (by decide) (fun c19 => ?_) (fun c19 => ?_)
    · skip
      refine lv_aload_n hx hb dX3_trial_36 rfl (lv_at hl 0 rfl) ?_
      refine lv_iload_n hx hb dX3_trial_37 rfl (lv_at hl 1 rfl) ?_
      refine kz_bipush hx hb dX3_trial_38 (by decide) ?_
      refine kz_backM (va_runV (As := [.int (zI (k)), .int (zI (9))]) (rest := []) ⟨hx, hb, hml, hown, hts⟩ (mX3_of l E H.size Ad (put S 7 7 0) hM k (by omega) 9 (by omega) (show 0 ≤ k ∧ k < 10 by first | omega | exact hI.st _ (by omega) (by omega) | exact hI.rv _ (by omega) (by omega) | exact hI) (show 0 ≤ 9 ∧ 9 < 14 by first | omega | exact hI.st _ (by omega) (by omega) | exact hI.rv _ (by omega) (by omega) | exact hI)) (cwV 2 hts (lw_V q2441 q2443 qs44 q83 q2444) rfl rfl rfl (by decide +kernel) ⟨(Nat.le_of_ble_eq_true rfl), (Nat.le_of_ble_eq_true rfl)⟩) (kz_preVM (wc := mW E Ad (put S 7 7 0)) (va_recv hK hP (ci := 2) (q0 := 0) rfl rfl) hG hS hAN hP hD kz_nilP kz_nilA) rfl rfl hl.1 rfl (lv_room (Nat.le_of_ble_eq_true rfl)) dX3_trial_40 ⟨(Nat.le_of_ble_eq_true rfl), (Nat.le_of_ble_eq_true rfl)⟩) hP hD hS hA (fun u H9 locs9 hu hP9 hD9 hS9 hzz hkk => ?_)
      clear hzz hkk hP hD hS H locs u
      revert hS9 hD9 hP9 locs9 H9
      intro H locs hP hD hS
      have r1 : rI ((S 0 ((10 + 14 * k + 9)))) := hu
      clear hu
      replace hP : va_P (kD E) kcl (mW E Ad (put S 7 7 0)) H := hP
      replace hD : va_D A (mW E Ad (put S 7 7 0)) := hD
      show W p l e _ s m args below meth c H locs _ _ Q (F0 m 43 ls [.int (zI ((S 0 ((10 + 14 * k + 9)))))])
      refine lv_aload_n hx hb dX3_trial_43 rfl (lv_at hl 0 rfl) ?_
      refine va_get (D := kD E) (ci := 2) (fs := mO Ad (put S 7 7 0)) (v := .ref (Ad 1)) (C := RX3) (T := TX3) (N := 19) hx hb hts in_X3 hown hK hP 0 rfl rfl 0 (by decide) (hts _ q2320) (fun _ h9 => h9) rfl dX3_trial_44 ?_
      refine kz_iconst hx hb dX3_trial_47 ?_
      refine kz_iald (cA := kA E 0) (n := 304) (g := S 0) hx hb hK hP 1 0 rfl rfl (by omega) dX3_trial_48 ?_
      have r2 : rI (S 0 2) := hM 0 2
      refine kz_icmp_ne (tgt := 66) hx hb dX3_trial_49 (by decide) (by omega) (by omega) (fun c49 => ?_) (fun c49 => ?_)
      · skip
        refine lv_aload_n hx hb dX3_trial_66 rfl (lv_at hl 0 rfl) ?_
        refine lv_aload_n hx hb dX3_trial_67 rfl (lv_at hl 0 rfl) ?_
        refine va_get (D := kD E) (ci := 2) (fs := mO Ad (put S 7 7 0)) (v := .ref (Ad 1)) (C := RX3) (T := TX3) (N := 19) hx hb hts in_X3 hown hK hP 0 rfl rfl 0 (by decide) (hts _ q2320) (fun _ h9 => h9) rfl dX3_trial_68 ?_
        refine kz_backM (va_runV (As := [.ref (Ad 1)]) (rest := []) ⟨hx, hb, hml, hown, hts⟩ (mX3_keeps l E H.size Ad (put S 7 7 0) hM (show 0 ≤ (S 7 5) ∧ (S 7 5) ≤ 8 by first | omega | exact hI.st _ (by omega) (by omega) | exact hI.rv _ (by omega) (by omega) | exact hI)) (cwV 1 hts (lw_V q2402 q2404 qs38 q83 q2405) rfl rfl rfl (by decide +kernel) ⟨(Nat.le_of_ble_eq_true rfl), (Nat.le_of_ble_eq_true rfl)⟩) (kz_preVM (wc := mW E Ad (put S 7 7 0)) (va_recv hK hP (ci := 2) (q0 := 0) rfl rfl) hG hS hAN hP hD kz_nilP kz_nilA) rfl rfl hl.1 rfl (lv_room (Nat.le_of_ble_eq_true rfl)) dX3_trial_71 ⟨(Nat.le_of_ble_eq_true rfl), (Nat.le_of_ble_eq_true rfl)⟩) hP hD hS hA (fun u H9 locs9 hu hP9 hD9 hS9 hzz hkk => ?_)
        clear hzz hkk hP hD hS H locs u
        revert hS9 hD9 hP9 locs9 H9
        intro H locs hP hD hS
        replace hM : MOk (mKeeps (put S 7 7 0) 0) := hu
        clear hu
        replace hP : va_P (kD E) kcl (mW E Ad (mKeeps (put S 7 7 0) 0)) H := hP
        replace hD : va_D A (mW E Ad (mKeeps (put S 7 7 0) 0)) := hD
        show W p l e _ s m args below meth c H locs _ _ Q (F0 m 74 ls [])
        refine lv_aload_n hx hb dX3_trial_74 rfl (lv_at hl 0 rfl) ?_
        refine lv_iload_n hx hb dX3_trial_75 rfl (lv_at hl 1 rfl) ?_
        refine lv_iload_n hx hb dX3_trial_76 rfl (lv_at hl 2 rfl) ?_
        refine lv_iload_n hx hb dX3_trial_77 rfl (lv_at hl 3 rfl) ?_
        refine lv_iload hx hb dX3_trial_78 (lv_at hl 4 rfl) ?_
        refine kz_backM (va_runV (As := [.int (zI (k)), .int (zI (river)), .int (zI (a)), .int (zI (sp))]) (rest := []) ⟨hx, hb, hml, hown, hts⟩ (mX3_skipsOf l E H.size Ad (mKeeps (put S 7 7 0) 0) hM k (by omega) river (by omega) a (by omega) sp (by omega) (show 0 ≤ k ∧ k < 10 by first | omega | exact hI.st _ (by omega) (by omega) | exact hI.rv _ (by omega) (by omega) | exact hI) (show 0 ≤ river ∧ river < 4 by first | omega | exact hI.st _ (by omega) (by omega) | exact hI.rv _ (by omega) (by omega) | exact hI) (show SB (S 0) k by first | omega | exact hI.st _ (by omega) (by omega) | exact hI.rv _ (by omega) (by omega) | exact hI) (show RB (S 0) river by first | omega | exact hI.st _ (by omega) (by omega) | exact hI.rv _ (by omega) (by omega) | exact hI) (show 0 ≤ a ∧ a ≤ 90 by first | omega | exact hI.st _ (by omega) (by omega) | exact hI.rv _ (by omega) (by omega) | exact hI) (show 1 ≤ sp ∧ sp ≤ 20 by first | omega | exact hI.st _ (by omega) (by omega) | exact hI.rv _ (by omega) (by omega) | exact hI)) (cwV 4 hts (lw_V q2514 q2516 qs52 q83 q2517) rfl rfl rfl (by decide +kernel) ⟨(Nat.le_of_ble_eq_true rfl), (Nat.le_of_ble_eq_true rfl)⟩) (kz_preVM (wc := mW E Ad (mKeeps (put S 7 7 0) 0)) (va_recv hK hP (ci := 2) (q0 := 0) rfl rfl) hG hS hAN hP hD kz_nilP kz_nilA) rfl rfl hl.1 rfl (lv_room (Nat.le_of_ble_eq_true rfl)) dX3_trial_80 ⟨(Nat.le_of_ble_eq_true rfl), (Nat.le_of_ble_eq_true rfl)⟩) hP hD hS hA (fun u H9 locs9 hu hP9 hD9 hS9 hzz hkk => ?_)
        clear hzz hkk hP hD hS H locs u
        revert hS9 hD9 hP9 locs9 H9
        intro H locs hP hD hS
        obtain ⟨r3, p4⟩ := hu
        replace r3 : rI (skipsG (S 0) k river a sp) := r3
        replace p4 : 0 ≤ skipsG (S 0) k river a sp ∧ skipsG (S 0) k river a sp ≤ 240 := p4
        replace hP : va_P (kD E) kcl (mW E Ad (mKeeps (put S 7 7 0) 0)) H := hP
        replace hD : va_D A (mW E Ad (mKeeps (put S 7 7 0) 0)) := hD
        show W p l e _ s m args below meth c H locs _ _ Q (F0 m 83 ls [.int (zI (skipsG (S 0) k river a sp))])
        refine lv_istore (lv' := [(5, .int (zI (skipsG (S 0) k river a sp))), (0, .ref (Ad 0)), (1, .int (zI (k))), (2, .int (zI (river))), (3, .int (zI (a))), (4, .int (zI (sp)))]) hx hb dX3_trial_83 hl (by decide) rfl (fun ls hl => ?_)
        refine lv_iload hx hb dX3_trial_85 (lv_at hl 0 rfl) ?_
        refine lv_aload_n hx hb dX3_trial_87 rfl (lv_at hl 1 rfl) ?_
        refine lv_iload_n hx hb dX3_trial_88 rfl (lv_at hl 2 rfl) ?_
        refine kz_iconst hx hb dX3_trial_89 ?_
        refine kz_backM (va_runV (As := [.int (zI (k)), .int (zI (4))]) (rest := [.int (zI (skipsG (S 0) k river a sp))]) ⟨hx, hb, hml, hown, hts⟩ (mX3_of l E H.size Ad (mKeeps (put S 7 7 0) 0) hM k (by omega) 4 (by omega) (show 0 ≤ k ∧ k < 10 by first | omega | exact hI.st _ (by omega) (by omega) | exact hI.rv _ (by omega) (by omega) | exact hI) (show 0 ≤ 4 ∧ 4 < 14 by first | omega | exact hI.st _ (by omega) (by omega) | exact hI.rv _ (by omega) (by omega) | exact hI)) (cwV 2 hts (lw_V q2441 q2443 qs44 q83 q2444) rfl rfl rfl (by decide +kernel) ⟨(Nat.le_of_ble_eq_true rfl), (Nat.le_of_ble_eq_true rfl)⟩) (kz_preVM (wc := mW E Ad (mKeeps (put S 7 7 0) 0)) (va_recv hK hP (ci := 2) (q0 := 0) rfl rfl) hG hS hAN hP hD kz_nilP kz_nilA) rfl rfl hl.1 rfl (lv_room (Nat.le_of_ble_eq_true rfl)) dX3_trial_90 ⟨(Nat.le_of_ble_eq_true rfl), (Nat.le_of_ble_eq_true rfl)⟩) hP hD hS hA (fun u H9 locs9 hu hP9 hD9 hS9 hzz hkk => ?_)
        clear hzz hkk hP hD hS H locs u
        revert hS9 hD9 hP9 locs9 H9
        intro H locs hP hD hS
        have r5 : rI ((S 0 ((10 + 14 * k + 4)))) := hu
        clear hu
        replace hP : va_P (kD E) kcl (mW E Ad (mKeeps (put S 7 7 0) 0)) H := hP
        replace hD : va_D A (mW E Ad (mKeeps (put S 7 7 0) 0)) := hD
        show W p l e _ s m args below meth c H locs _ _ Q (F0 m 93 ls [.int (zI ((S 0 ((10 + 14 * k + 4))))), .int (zI (skipsG (S 0) k river a sp))])
        refine kz_icmp_gt (tgt := 105) hx hb dX3_trial_93 (by decide) (by omega) (by omega) (fun c93 => ?_) (fun c93 => ?_)
        · skip
          refine lv_aload_n hx hb dX3_trial_105 rfl (lv_at hl 1 rfl) ?_
          refine lv_iload_n hx hb dX3_trial_106 rfl (lv_at hl 2 rfl) ?_
          refine kz_iconst hx hb dX3_trial_107 ?_
          refine lv_iload_n hx hb dX3_trial_108 rfl (lv_at hl 4 rfl) ?_
          refine kz_backM (va_runV (As := [.int (zI (k)), .int (zI (3)), .int (zI (a))]) (rest := []) ⟨hx, hb, hml, hown, hts⟩ (mX3_lays l E H.size Ad (mKeeps (put S 7 7 0) 0) hM k (by omega) 3 (by omega) a (by omega) (show 0 ≤ k ∧ k < 10 by first | omega | exact hI.st _ (by omega) (by omega) | exact hI.rv _ (by omega) (by omega) | exact hI) (show 0 ≤ 3 ∧ 3 < 14 by first | omega | exact hI.st _ (by omega) (by omega) | exact hI.rv _ (by omega) (by omega) | exact hI)) (cwV 3 hts (lw_V q2409 q2411 qs39 q83 q2412) rfl rfl rfl (by decide +kernel) ⟨(Nat.le_of_ble_eq_true rfl), (Nat.le_of_ble_eq_true rfl)⟩) (kz_preVM (wc := mW E Ad (mKeeps (put S 7 7 0) 0)) (va_recv hK hP (ci := 2) (q0 := 0) rfl rfl) hG hS hAN hP hD kz_nilP kz_nilA) rfl rfl hl.1 rfl (lv_room (Nat.le_of_ble_eq_true rfl)) dX3_trial_109 ⟨(Nat.le_of_ble_eq_true rfl), (Nat.le_of_ble_eq_true rfl)⟩) hP hD hS hA (fun u H9 locs9 hu hP9 hD9 hS9 hzz hkk => ?_)
          clear hzz hkk hP hD hS H locs u
          revert hS9 hD9 hP9 locs9 H9
          intro H locs hP hD hS
          replace hM : MOk (put (mKeeps (put S 7 7 0) 0) 0 (10 + 14 * k + 3) a) := hu
          clear hu
          replace hP : va_P (kD E) kcl (mW E Ad (put (mKeeps (put S 7 7 0) 0) 0 (10 + 14 * k + 3) a)) H := hP
          replace hD : va_D A (mW E Ad (put (mKeeps (put S 7 7 0) 0) 0 (10 + 14 * k + 3) a)) := hD
          show W p l e _ s m args below meth c H locs _ _ Q (F0 m 112 ls [])
          refine lv_aload_n hx hb dX3_trial_112 rfl (lv_at hl 1 rfl) ?_
          refine lv_iload_n hx hb dX3_trial_113 rfl (lv_at hl 2 rfl) ?_
          refine kz_iconst hx hb dX3_trial_114 ?_
          refine lv_iload hx hb dX3_trial_115 (lv_at hl 0 rfl) ?_
          refine kz_backM (va_runV (As := [.int (zI (k)), .int (zI (4)), .int (zI (skipsG (S 0) k river a sp))]) (rest := []) ⟨hx, hb, hml, hown, hts⟩ (mX3_lays l E H.size Ad (put (mKeeps (put S 7 7 0) 0) 0 (10 + 14 * k + 3) a) hM k (by omega) 4 (by omega) (skipsG (S 0) k river a sp) (by omega) (show 0 ≤ k ∧ k < 10 by first | omega | exact hI.st _ (by omega) (by omega) | exact hI.rv _ (by omega) (by omega) | exact hI) (show 0 ≤ 4 ∧ 4 < 14 by first | omega | exact hI.st _ (by omega) (by omega) | exact hI.rv _ (by omega) (by omega) | exact hI)) (cwV 3 hts (lw_V q2409 q2411 qs39 q83 q2412) rfl rfl rfl (by decide +kernel) ⟨(Nat.le_of_ble_eq_true rfl), (Nat.le_of_ble_eq_true rfl)⟩) (kz_preVM (wc := mW E Ad (put (mKeeps (put S 7 7 0) 0) 0 (10 + 14 * k + 3) a)) (va_recv hK hP (ci := 2) (q0 := 0) rfl rfl) hG hS hAN hP hD kz_nilP kz_nilA) rfl rfl hl.1 rfl (lv_room (Nat.le_of_ble_eq_true rfl)) dX3_trial_117 ⟨(Nat.le_of_ble_eq_true rfl), (Nat.le_of_ble_eq_true rfl)⟩) hP hD hS hA (fun u H9 locs9 hu hP9 hD9 hS9 hzz hkk => ?_)
          clear hzz hkk hP hD hS H locs u
          revert hS9 hD9 hP9 locs9 H9
          intro H locs hP hD hS
          replace hM : MOk (put (put (mKeeps (put S 7 7 0) 0) 0 (10 + 14 * k + 3) a) 0 (10 + 14 * k + 4) ((skipsG (S 0) k river a sp))) := hu
          clear hu
          replace hP : va_P (kD E) kcl (mW E Ad (put (put (mKeeps (put S 7 7 0) 0) 0 (10 + 14 * k + 3) a) 0 (10 + 14 * k + 4) ((skipsG (S 0) k river a sp)))) H := hP
          replace hD : va_D A (mW E Ad (put (put (mKeeps (put S 7 7 0) 0) 0 (10 + 14 * k + 3) a) 0 (10 + 14 * k + 4) ((skipsG (S 0) k river a sp)))) := hD
          show W p l e _ s m args below meth c H locs _ _ Q (F0 m 120 ls [])
          refine lv_aload_n hx hb dX3_trial_120 rfl (lv_at hl 1 rfl) ?_
          refine lv_iload_n hx hb dX3_trial_121 rfl (lv_at hl 2 rfl) ?_
          refine kz_bipush hx hb dX3_trial_122 (by decide) ?_
          refine lv_aload_n hx hb dX3_trial_124 rfl (lv_at hl 1 rfl) ?_
          refine va_get (D := kD E) (ci := 2) (fs := mO Ad (put (put (mKeeps (put S 7 7 0) 0) 0 (10 + 14 * k + 3) a) 0 (10 + 14 * k + 4) ((skipsG (S 0) k river a sp)))) (v := .ref (Ad 1)) (C := RX3) (T := TX3) (N := 19) hx hb hts in_X3 hown hK hP 0 rfl rfl 0 (by decide) (hts _ q2320) (fun _ h9 => h9) rfl dX3_trial_125 ?_
          refine kz_iconst hx hb dX3_trial_128 ?_
          refine kz_iald (cA := kA E 0) (n := 304) (g := (put (put (mKeeps (put S 7 7 0) 0) 0 (10 + 14 * k + 3) a) 0 (10 + 14 * k + 4) ((skipsG (S 0) k river a sp))) 0) hx hb hK hP 1 0 rfl rfl (by omega) dX3_trial_129 ?_
          have r6 : rI ((put (put (mKeeps (put S 7 7 0) 0) 0 (10 + 14 * k + 3) a) 0 (10 + 14 * k + 4) ((skipsG (S 0) k river a sp))) 0 2) := hM 0 2
          have q7 : (put (put (mKeeps (put S 7 7 0) 0) 0 (10 + 14 * k + 3) a) 0 (10 + 14 * k + 4) ((skipsG (S 0) k river a sp))) 0 2 = S 0 2 := by
            show uz ((put (mKeeps (put S 7 7 0) 0) 0 (10 + 14 * k + 3) a) 0) (10 + 14 * k + 4) ((skipsG (S 0) k river a sp)) 2 = _
            rw [uz_n (by omega)]
            show uz ((mKeeps (put S 7 7 0) 0) 0) (10 + 14 * k + 3) a 2 = _
            rw [uz_n (by omega)]
            all_goals rfl
          rw [q7]
          rw [q7] at r6
          refine kz_backM (va_runV (As := [.int (zI (k)), .int (zI (9)), .int (zI (S 0 2))]) (rest := []) ⟨hx, hb, hml, hown, hts⟩ (mX3_lays l E H.size Ad (put (put (mKeeps (put S 7 7 0) 0) 0 (10 + 14 * k + 3) a) 0 (10 + 14 * k + 4) ((skipsG (S 0) k river a sp))) hM k (by omega) 9 (by omega) (S 0 2) (by omega) (show 0 ≤ k ∧ k < 10 by first | omega | exact hI.st _ (by omega) (by omega) | exact hI.rv _ (by omega) (by omega) | exact hI) (show 0 ≤ 9 ∧ 9 < 14 by first | omega | exact hI.st _ (by omega) (by omega) | exact hI.rv _ (by omega) (by omega) | exact hI)) (cwV 3 hts (lw_V q2409 q2411 qs39 q83 q2412) rfl rfl rfl (by decide +kernel) ⟨(Nat.le_of_ble_eq_true rfl), (Nat.le_of_ble_eq_true rfl)⟩) (kz_preVM (wc := mW E Ad (put (put (mKeeps (put S 7 7 0) 0) 0 (10 + 14 * k + 3) a) 0 (10 + 14 * k + 4) ((skipsG (S 0) k river a sp)))) (va_recv hK hP (ci := 2) (q0 := 0) rfl rfl) hG hS hAN hP hD kz_nilP kz_nilA) rfl rfl hl.1 rfl (lv_room (Nat.le_of_ble_eq_true rfl)) dX3_trial_130 ⟨(Nat.le_of_ble_eq_true rfl), (Nat.le_of_ble_eq_true rfl)⟩) hP hD hS hA (fun u H9 locs9 hu hP9 hD9 hS9 hzz hkk => ?_)
          clear hzz hkk hP hD hS H locs u
          revert hS9 hD9 hP9 locs9 H9
          intro H locs hP hD hS
          replace hM : MOk (put (put (put (mKeeps (put S 7 7 0) 0) 0 (10 + 14 * k + 3) a) 0 (10 + 14 * k + 4) ((skipsG (S 0) k river a sp))) 0 (10 + 14 * k + 9) ((S 0 2))) := hu
          clear hu
          replace hP : va_P (kD E) kcl (mW E Ad (put (put (put (mKeeps (put S 7 7 0) 0) 0 (10 + 14 * k + 3) a) 0 (10 + 14 * k + 4) ((skipsG (S 0) k river a sp))) 0 (10 + 14 * k + 9) ((S 0 2)))) H := hP
          replace hD : va_D A (mW E Ad (put (put (put (mKeeps (put S 7 7 0) 0) 0 (10 + 14 * k + 3) a) 0 (10 + 14 * k + 4) ((skipsG (S 0) k river a sp))) 0 (10 + 14 * k + 9) ((S 0 2)))) := hD
          show W p l e _ s m args below meth c H locs _ _ Q (F0 m 133 ls [])
          refine lv_aload_n hx hb dX3_trial_133 rfl (lv_at hl 1 rfl) ?_
          refine va_get (D := kD E) (ci := 2) (fs := mO Ad (put (put (put (mKeeps (put S 7 7 0) 0) 0 (10 + 14 * k + 3) a) 0 (10 + 14 * k + 4) ((skipsG (S 0) k river a sp))) 0 (10 + 14 * k + 9) ((S 0 2)))) (v := .ref (Ad 1)) (C := RX3) (T := TX3) (N := 19) hx hb hts in_X3 hown hK hP 0 rfl rfl 0 (by decide) (hts _ q2320) (fun _ h9 => h9) rfl dX3_trial_134 ?_
          refine kz_iconst hx hb dX3_trial_137 ?_
          refine lv_dup2_11 hx hb dX3_trial_138 rfl rfl ?_
          refine kz_iald (cA := kA E 0) (n := 304) (g := (put (put (put (mKeeps (put S 7 7 0) 0) 0 (10 + 14 * k + 3) a) 0 (10 + 14 * k + 4) ((skipsG (S 0) k river a sp))) 0 (10 + 14 * k + 9) ((S 0 2))) 0) hx hb hK hP 1 0 rfl rfl (by omega) dX3_trial_139 ?_
          have r8 : rI ((put (put (put (mKeeps (put S 7 7 0) 0) 0 (10 + 14 * k + 3) a) 0 (10 + 14 * k + 4) ((skipsG (S 0) k river a sp))) 0 (10 + 14 * k + 9) ((S 0 2))) 0 4) := hM 0 4
          have q9 : (put (put (put (mKeeps (put S 7 7 0) 0) 0 (10 + 14 * k + 3) a) 0 (10 + 14 * k + 4) ((skipsG (S 0) k river a sp))) 0 (10 + 14 * k + 9) ((S 0 2))) 0 4 = S 0 4 := by
            show uz ((put (put (mKeeps (put S 7 7 0) 0) 0 (10 + 14 * k + 3) a) 0 (10 + 14 * k + 4) ((skipsG (S 0) k river a sp))) 0) (10 + 14 * k + 9) ((S 0 2)) 4 = _
            rw [uz_n (by omega)]
            show uz ((put (mKeeps (put S 7 7 0) 0) 0 (10 + 14 * k + 3) a) 0) (10 + 14 * k + 4) ((skipsG (S 0) k river a sp)) 4 = _
            rw [uz_n (by omega)]
            show uz ((mKeeps (put S 7 7 0) 0) 0) (10 + 14 * k + 3) a 4 = _
            rw [uz_n (by omega)]
            all_goals rfl
          rw [q9]
          rw [q9] at r8
          refine kz_iconst hx hb dX3_trial_140 ?_
          refine kz_iadd hx hb dX3_trial_141 ?_
          refine kz_iast (cA := kA E 0) (n := 304) (g := (put (put (put (mKeeps (put S 7 7 0) 0) 0 (10 + 14 * k + 3) a) 0 (10 + 14 * k + 4) ((skipsG (S 0) k river a sp))) 0 (10 + 14 * k + 9) ((S 0 2))) 0) hx hb hK hP hD hS 1 0 rfl rfl (by omega) dX3_trial_142 (fun H9 locs9 hP9 hD9 hS9 => ?_)
          rw [mW_a0] at hP9 hD9
          clear hP hD hS H locs
          revert hS9 hD9 hP9 locs9 H9
          intro H locs hP hD hS
          replace hP : va_P (kD E) kcl (mW E Ad (put (put (put (put (mKeeps (put S 7 7 0) 0) 0 (10 + 14 * k + 3) a) 0 (10 + 14 * k + 4) ((skipsG (S 0) k river a sp))) 0 (10 + 14 * k + 9) ((S 0 2))) 0 4 ((S 0 4) + 1))) H := hP
          replace hD : va_D A (mW E Ad (put (put (put (put (mKeeps (put S 7 7 0) 0) 0 (10 + 14 * k + 3) a) 0 (10 + 14 * k + 4) ((skipsG (S 0) k river a sp))) 0 (10 + 14 * k + 9) ((S 0 2))) 0 4 ((S 0 4) + 1))) := hD
          replace hM : MOk (put (put (put (put (mKeeps (put S 7 7 0) 0) 0 (10 + 14 * k + 3) a) 0 (10 + 14 * k + 4) ((skipsG (S 0) k river a sp))) 0 (10 + 14 * k + 9) ((S 0 2))) 0 4 ((S 0 4) + 1)) := hM.put 0 _ (by omega)
          refine lv_iload hx hb dX3_trial_143 (lv_at hl 0 rfl) ?_
          have e0 : xTrial S k river a sp = (put (put (put (put (mKeeps (put S 7 7 0) 0) 0 (10 + 14 * k + 3) a) 0 (10 + 14 * k + 4) ((skipsG (S 0) k river a sp))) 0 (10 + 14 * k + 9) ((S 0 2))) 0 4 ((S 0 4) + 1), skipsG (S 0) k river a sp) := by unfold xTrial gTrial; (repeat (first | refine Eq.trans (if_pos (by omega)) ?_ | refine Eq.trans (if_neg (by omega)) ?_)); first | rfl | (split <;> first | (exfalso; omega) | ((try simp only [putR_put _ 0, putR_putR, putR_at]); all_goals rfl))
          have e1 : (xTrial S k river a sp).2 = skipsG (S 0) k river a sp := by rw [e0]
          have e3 : (xTrial S k river a sp).1 = put (put (put (put (mKeeps (put S 7 7 0) 0) 0 (10 + 14 * k + 3) a) 0 (10 + 14 * k + 4) ((skipsG (S 0) k river a sp))) 0 (10 + 14 * k + 9) ((S 0 2))) 0 4 ((S 0 4) + 1) := by rw [e0]
          exact kz_iret () hx hb hr hlk hP hD hS dX3_trial_145 (congrArg (fun z : Int => some (Value.int (zI z))) e1) ⟨(kz_r e1 (by omega)), (kz_M e3 hM)⟩ (congrArg (mW E Ad) e3) hQ (Nat.le_of_ble_eq_true rfl) (Nat.le_of_ble_eq_true rfl)
        · skip
          refine lv_aload_n hx hb dX3_trial_96 rfl (lv_at hl 1 rfl) ?_
          refine lv_iload_n hx hb dX3_trial_97 rfl (lv_at hl 2 rfl) ?_
          refine kz_iconst hx hb dX3_trial_98 ?_
          refine kz_backM (va_runV (As := [.int (zI (k)), .int (zI (3))]) (rest := []) ⟨hx, hb, hml, hown, hts⟩ (mX3_of l E H.size Ad (mKeeps (put S 7 7 0) 0) hM k (by omega) 3 (by omega) (show 0 ≤ k ∧ k < 10 by first | omega | exact hI.st _ (by omega) (by omega) | exact hI.rv _ (by omega) (by omega) | exact hI) (show 0 ≤ 3 ∧ 3 < 14 by first | omega | exact hI.st _ (by omega) (by omega) | exact hI.rv _ (by omega) (by omega) | exact hI)) (cwV 2 hts (lw_V q2441 q2443 qs44 q83 q2444) rfl rfl rfl (by decide +kernel) ⟨(Nat.le_of_ble_eq_true rfl), (Nat.le_of_ble_eq_true rfl)⟩) (kz_preVM (wc := mW E Ad (mKeeps (put S 7 7 0) 0)) (va_recv hK hP (ci := 2) (q0 := 0) rfl rfl) hG hS hAN hP hD kz_nilP kz_nilA) rfl rfl hl.1 rfl (lv_room (Nat.le_of_ble_eq_true rfl)) dX3_trial_99 ⟨(Nat.le_of_ble_eq_true rfl), (Nat.le_of_ble_eq_true rfl)⟩) hP hD hS hA (fun u H9 locs9 hu hP9 hD9 hS9 hzz hkk => ?_)
          clear hzz hkk hP hD hS H locs u
          revert hS9 hD9 hP9 locs9 H9
          intro H locs hP hD hS
          have r10 : rI ((S 0 ((10 + 14 * k + 3)))) := hu
          clear hu
          replace hP : va_P (kD E) kcl (mW E Ad (mKeeps (put S 7 7 0) 0)) H := hP
          replace hD : va_D A (mW E Ad (mKeeps (put S 7 7 0) 0)) := hD
          show W p l e _ s m args below meth c H locs _ _ Q (F0 m 102 ls [.int (zI ((S 0 ((10 + 14 * k + 3)))))])
          refine kz_if_ge (tgt := 120) hx hb dX3_trial_102 (by decide) (by omega) (fun c102 => ?_) (fun c102 => ?_)
          · skip
            refine lv_aload_n hx hb dX3_trial_120 rfl (lv_at hl 1 rfl) ?_
            refine lv_iload_n hx hb dX3_trial_121 rfl (lv_at hl 2 rfl) ?_
            refine kz_bipush hx hb dX3_trial_122 (by decide) ?_
            refine lv_aload_n hx hb dX3_trial_124 rfl (lv_at hl 1 rfl) ?_
            refine va_get (D := kD E) (ci := 2) (fs := mO Ad (mKeeps (put S 7 7 0) 0)) (v := .ref (Ad 1)) (C := RX3) (T := TX3) (N := 19) hx hb hts in_X3 hown hK hP 0 rfl rfl 0 (by decide) (hts _ q2320) (fun _ h9 => h9) rfl dX3_trial_125 ?_
            refine kz_iconst hx hb dX3_trial_128 ?_
            refine kz_iald (cA := kA E 0) (n := 304) (g := S 0) hx hb hK hP 1 0 rfl rfl (by omega) dX3_trial_129 ?_
            have r11 : rI (S 0 2) := hM 0 2
            refine kz_backM (va_runV (As := [.int (zI (k)), .int (zI (9)), .int (zI (S 0 2))]) (rest := []) ⟨hx, hb, hml, hown, hts⟩ (mX3_lays l E H.size Ad (mKeeps (put S 7 7 0) 0) hM k (by omega) 9 (by omega) (S 0 2) (by omega) (show 0 ≤ k ∧ k < 10 by first | omega | exact hI.st _ (by omega) (by omega) | exact hI.rv _ (by omega) (by omega) | exact hI) (show 0 ≤ 9 ∧ 9 < 14 by first | omega | exact hI.st _ (by omega) (by omega) | exact hI.rv _ (by omega) (by omega) | exact hI)) (cwV 3 hts (lw_V q2409 q2411 qs39 q83 q2412) rfl rfl rfl (by decide +kernel) ⟨(Nat.le_of_ble_eq_true rfl), (Nat.le_of_ble_eq_true rfl)⟩) (kz_preVM (wc := mW E Ad (mKeeps (put S 7 7 0) 0)) (va_recv hK hP (ci := 2) (q0 := 0) rfl rfl) hG hS hAN hP hD kz_nilP kz_nilA) rfl rfl hl.1 rfl (lv_room (Nat.le_of_ble_eq_true rfl)) dX3_trial_130 ⟨(Nat.le_of_ble_eq_true rfl), (Nat.le_of_ble_eq_true rfl)⟩) hP hD hS hA (fun u H9 locs9 hu hP9 hD9 hS9 hzz hkk => ?_)
            clear hzz hkk hP hD hS H locs u
            revert hS9 hD9 hP9 locs9 H9
            intro H locs hP hD hS
            replace hM : MOk (put (mKeeps (put S 7 7 0) 0) 0 (10 + 14 * k + 9) ((S 0 2))) := hu
            clear hu
            replace hP : va_P (kD E) kcl (mW E Ad (put (mKeeps (put S 7 7 0) 0) 0 (10 + 14 * k + 9) ((S 0 2)))) H := hP
            replace hD : va_D A (mW E Ad (put (mKeeps (put S 7 7 0) 0) 0 (10 + 14 * k + 9) ((S 0 2)))) := hD
            show W p l e _ s m args below meth c H locs _ _ Q (F0 m 133 ls [])
            refine lv_aload_n hx hb dX3_trial_133 rfl (lv_at hl 1 rfl) ?_
            refine va_get (D := kD E) (ci := 2) (fs := mO Ad (put (mKeeps (put S 7 7 0) 0) 0 (10 + 14 * k + 9) ((S 0 2)))) (v := .ref (Ad 1)) (C := RX3) (T := TX3) (N := 19) hx hb hts in_X3 hown hK hP 0 rfl rfl 0 (by decide) (hts _ q2320) (fun _ h9 => h9) rfl dX3_trial_134 ?_
            refine kz_iconst hx hb dX3_trial_137 ?_
            refine lv_dup2_11 hx hb dX3_trial_138 rfl rfl ?_
            refine kz_iald (cA := kA E 0) (n := 304) (g := (put (mKeeps (put S 7 7 0) 0) 0 (10 + 14 * k + 9) ((S 0 2))) 0) hx hb hK hP 1 0 rfl rfl (by omega) dX3_trial_139 ?_
            have r12 : rI ((put (mKeeps (put S 7 7 0) 0) 0 (10 + 14 * k + 9) ((S 0 2))) 0 4) := hM 0 4
            have q13 : (put (mKeeps (put S 7 7 0) 0) 0 (10 + 14 * k + 9) ((S 0 2))) 0 4 = S 0 4 := by
              show uz ((mKeeps (put S 7 7 0) 0) 0) (10 + 14 * k + 9) ((S 0 2)) 4 = _
              rw [uz_n (by omega)]
              all_goals rfl
            rw [q13]
            rw [q13] at r12
            refine kz_iconst hx hb dX3_trial_140 ?_
            refine kz_iadd hx hb dX3_trial_141 ?_
            refine kz_iast (cA := kA E 0) (n := 304) (g := (put (mKeeps (put S 7 7 0) 0) 0 (10 + 14 * k + 9) ((S 0 2))) 0) hx hb hK hP hD hS 1 0 rfl rfl (by omega) dX3_trial_142 (fun H9 locs9 hP9 hD9 hS9 => ?_)
            rw [mW_a0] at hP9 hD9
            clear hP hD hS H locs
            revert hS9 hD9 hP9 locs9 H9
            intro H locs hP hD hS
            replace hP : va_P (kD E) kcl (mW E Ad (put (put (mKeeps (put S 7 7 0) 0) 0 (10 + 14 * k + 9) ((S 0 2))) 0 4 ((S 0 4) + 1))) H := hP
            replace hD : va_D A (mW E Ad (put (put (mKeeps (put S 7 7 0) 0) 0 (10 + 14 * k + 9) ((S 0 2))) 0 4 ((S 0 4) + 1))) := hD
            replace hM : MOk (put (put (mKeeps (put S 7 7 0) 0) 0 (10 + 14 * k + 9) ((S 0 2))) 0 4 ((S 0 4) + 1)) := hM.put 0 _ (by omega)
            refine lv_iload hx hb dX3_trial_143 (lv_at hl 0 rfl) ?_
            have e0 : xTrial S k river a sp = (put (put (mKeeps (put S 7 7 0) 0) 0 (10 + 14 * k + 9) ((S 0 2))) 0 4 ((S 0 4) + 1), skipsG (S 0) k river a sp) := by unfold xTrial gTrial; (repeat (first | refine Eq.trans (if_pos (by omega)) ?_ | refine Eq.trans (if_neg (by omega)) ?_)); first | rfl | (split <;> first | (exfalso; omega) | ((try simp only [putR_put _ 0, putR_putR, putR_at]); all_goals rfl))
            have e1 : (xTrial S k river a sp).2 = skipsG (S 0) k river a sp := by rw [e0]
            have e3 : (xTrial S k river a sp).1 = put (put (mKeeps (put S 7 7 0) 0) 0 (10 + 14 * k + 9) ((S 0 2))) 0 4 ((S 0 4) + 1) := by rw [e0]
            exact kz_iret () hx hb hr hlk hP hD hS dX3_trial_145 (congrArg (fun z : Int => some (Value.int (zI z))) e1) ⟨(kz_r e1 (by omega)), (kz_M e3 hM)⟩ (congrArg (mW E Ad) e3) hQ (Nat.le_of_ble_eq_true rfl) (Nat.le_of_ble_eq_true rfl)
          · skip
            refine lv_aload_n hx hb dX3_trial_105 rfl (lv_at hl 1 rfl) ?_
            refine lv_iload_n hx hb dX3_trial_106 rfl (lv_at hl 2 rfl) ?_
            refine kz_iconst hx hb dX3_trial_107 ?_
            refine lv_iload_n hx hb dX3_trial_108 rfl (lv_at hl 4 rfl) ?_
            refine kz_backM (va_runV (As := [.int (zI (k)), .int (zI (3)), .int (zI (a))]) (rest := []) ⟨hx, hb, hml, hown, hts⟩ (mX3_lays l E H.size Ad (mKeeps (put S 7 7 0) 0) hM k (by omega) 3 (by omega) a (by omega) (show 0 ≤ k ∧ k < 10 by first | omega | exact hI.st _ (by omega) (by omega) | exact hI.rv _ (by omega) (by omega) | exact hI) (show 0 ≤ 3 ∧ 3 < 14 by first | omega | exact hI.st _ (by omega) (by omega) | exact hI.rv _ (by omega) (by omega) | exact hI)) (cwV 3 hts (lw_V q2409 q2411 qs39 q83 q2412) rfl rfl rfl (by decide +kernel) ⟨(Nat.le_of_ble_eq_true rfl), (Nat.le_of_ble_eq_true rfl)⟩) (kz_preVM (wc := mW E Ad (mKeeps (put S 7 7 0) 0)) (va_recv hK hP (ci := 2) (q0 := 0) rfl rfl) hG hS hAN hP hD kz_nilP kz_nilA) rfl rfl hl.1 rfl (lv_room (Nat.le_of_ble_eq_true rfl)) dX3_trial_109 ⟨(Nat.le_of_ble_eq_true rfl), (Nat.le_of_ble_eq_true rfl)⟩) hP hD hS hA (fun u H9 locs9 hu hP9 hD9 hS9 hzz hkk => ?_)
            clear hzz hkk hP hD hS H locs u
            revert hS9 hD9 hP9 locs9 H9
            intro H locs hP hD hS
            replace hM : MOk (put (mKeeps (put S 7 7 0) 0) 0 (10 + 14 * k + 3) a) := hu
            clear hu
            replace hP : va_P (kD E) kcl (mW E Ad (put (mKeeps (put S 7 7 0) 0) 0 (10 + 14 * k + 3) a)) H := hP
            replace hD : va_D A (mW E Ad (put (mKeeps (put S 7 7 0) 0) 0 (10 + 14 * k + 3) a)) := hD
            show W p l e _ s m args below meth c H locs _ _ Q (F0 m 112 ls [])
            refine lv_aload_n hx hb dX3_trial_112 rfl (lv_at hl 1 rfl) ?_
            refine lv_iload_n hx hb dX3_trial_113 rfl (lv_at hl 2 rfl) ?_
            refine kz_iconst hx hb dX3_trial_114 ?_
            refine lv_iload hx hb dX3_trial_115 (lv_at hl 0 rfl) ?_
            refine kz_backM (va_runV (As := [.int (zI (k)), .int (zI (4)), .int (zI (skipsG (S 0) k river a sp))]) (rest := []) ⟨hx, hb, hml, hown, hts⟩ (mX3_lays l E H.size Ad (put (mKeeps (put S 7 7 0) 0) 0 (10 + 14 * k + 3) a) hM k (by omega) 4 (by omega) (skipsG (S 0) k river a sp) (by omega) (show 0 ≤ k ∧ k < 10 by first | omega | exact hI.st _ (by omega) (by omega) | exact hI.rv _ (by omega) (by omega) | exact hI) (show 0 ≤ 4 ∧ 4 < 14 by first | omega | exact hI.st _ (by omega) (by omega) | exact hI.rv _ (by omega) (by omega) | exact hI)) (cwV 3 hts (lw_V q2409 q2411 qs39 q83 q2412) rfl rfl rfl (by decide +kernel) ⟨(Nat.le_of_ble_eq_true rfl), (Nat.le_of_ble_eq_true rfl)⟩) (kz_preVM (wc := mW E Ad (put (mKeeps (put S 7 7 0) 0) 0 (10 + 14 * k + 3) a)) (va_recv hK hP (ci := 2) (q0 := 0) rfl rfl) hG hS hAN hP hD kz_nilP kz_nilA) rfl rfl hl.1 rfl (lv_room (Nat.le_of_ble_eq_true rfl)) dX3_trial_117 ⟨(Nat.le_of_ble_eq_true rfl), (Nat.le_of_ble_eq_true rfl)⟩) hP hD hS hA (fun u H9 locs9 hu hP9 hD9 hS9 hzz hkk => ?_)
            clear hzz hkk hP hD hS H locs u
            revert hS9 hD9 hP9 locs9 H9
            intro H locs hP hD hS
            replace hM : MOk (put (put (mKeeps (put S 7 7 0) 0) 0 (10 + 14 * k + 3) a) 0 (10 + 14 * k + 4) ((skipsG (S 0) k river a sp))) := hu
            clear hu
            replace hP : va_P (kD E) kcl (mW E Ad (put (put (mKeeps (put S 7 7 0) 0) 0 (10 + 14 * k + 3) a) 0 (10 + 14 * k + 4) ((skipsG (S 0) k river a sp)))) H := hP
            replace hD : va_D A (mW E Ad (put (put (mKeeps (put S 7 7 0) 0) 0 (10 + 14 * k + 3) a) 0 (10 + 14 * k + 4) ((skipsG (S 0) k river a sp)))) := hD
            show W p l e _ s m args below meth c H locs _ _ Q (F0 m 120 ls [])
            refine lv_aload_n hx hb dX3_trial_120 rfl (lv_at hl 1 rfl) ?_
            refine lv_iload_n hx hb dX3_trial_121 rfl (lv_at hl 2 rfl) ?_
            refine kz_bipush hx hb dX3_trial_122 (by decide) ?_
            refine lv_aload_n hx hb dX3_trial_124 rfl (lv_at hl 1 rfl) ?_
            refine va_get (D := kD E) (ci := 2) (fs := mO Ad (put (put (mKeeps (put S 7 7 0) 0) 0 (10 + 14 * k + 3) a) 0 (10 + 14 * k + 4) ((skipsG (S 0) k river a sp)))) (v := .ref (Ad 1)) (C := RX3) (T := TX3) (N := 19) hx hb hts in_X3 hown hK hP 0 rfl rfl 0 (by decide) (hts _ q2320) (fun _ h9 => h9) rfl dX3_trial_125 ?_
            refine kz_iconst hx hb dX3_trial_128 ?_
            refine kz_iald (cA := kA E 0) (n := 304) (g := (put (put (mKeeps (put S 7 7 0) 0) 0 (10 + 14 * k + 3) a) 0 (10 + 14 * k + 4) ((skipsG (S 0) k river a sp))) 0) hx hb hK hP 1 0 rfl rfl (by omega) dX3_trial_129 ?_
            have r14 : rI ((put (put (mKeeps (put S 7 7 0) 0) 0 (10 + 14 * k + 3) a) 0 (10 + 14 * k + 4) ((skipsG (S 0) k river a sp))) 0 2) := hM 0 2
            have q15 : (put (put (mKeeps (put S 7 7 0) 0) 0 (10 + 14 * k + 3) a) 0 (10 + 14 * k + 4) ((skipsG (S 0) k river a sp))) 0 2 = S 0 2 := by
              show uz ((put (mKeeps (put S 7 7 0) 0) 0 (10 + 14 * k + 3) a) 0) (10 + 14 * k + 4) ((skipsG (S 0) k river a sp)) 2 = _
              rw [uz_n (by omega)]
              show uz ((mKeeps (put S 7 7 0) 0) 0) (10 + 14 * k + 3) a 2 = _
              rw [uz_n (by omega)]
              all_goals rfl
            rw [q15]
            rw [q15] at r14
            refine kz_backM (va_runV (As := [.int (zI (k)), .int (zI (9)), .int (zI (S 0 2))]) (rest := []) ⟨hx, hb, hml, hown, hts⟩ (mX3_lays l E H.size Ad (put (put (mKeeps (put S 7 7 0) 0) 0 (10 + 14 * k + 3) a) 0 (10 + 14 * k + 4) ((skipsG (S 0) k river a sp))) hM k (by omega) 9 (by omega) (S 0 2) (by omega) (show 0 ≤ k ∧ k < 10 by first | omega | exact hI.st _ (by omega) (by omega) | exact hI.rv _ (by omega) (by omega) | exact hI) (show 0 ≤ 9 ∧ 9 < 14 by first | omega | exact hI.st _ (by omega) (by omega) | exact hI.rv _ (by omega) (by omega) | exact hI)) (cwV 3 hts (lw_V q2409 q2411 qs39 q83 q2412) rfl rfl rfl (by decide +kernel) ⟨(Nat.le_of_ble_eq_true rfl), (Nat.le_of_ble_eq_true rfl)⟩) (kz_preVM (wc := mW E Ad (put (put (mKeeps (put S 7 7 0) 0) 0 (10 + 14 * k + 3) a) 0 (10 + 14 * k + 4) ((skipsG (S 0) k river a sp)))) (va_recv hK hP (ci := 2) (q0 := 0) rfl rfl) hG hS hAN hP hD kz_nilP kz_nilA) rfl rfl hl.1 rfl (lv_room (Nat.le_of_ble_eq_true rfl)) dX3_trial_130 ⟨(Nat.le_of_ble_eq_true rfl), (Nat.le_of_ble_eq_true rfl)⟩) hP hD hS hA (fun u H9 locs9 hu hP9 hD9 hS9 hzz hkk => ?_)
            clear hzz hkk hP hD hS H locs u
            revert hS9 hD9 hP9 locs9 H9
            intro H locs hP hD hS
            replace hM : MOk (put (put (put (mKeeps (put S 7 7 0) 0) 0 (10 + 14 * k + 3) a) 0 (10 + 14 * k + 4) ((skipsG (S 0) k river a sp))) 0 (10 + 14 * k + 9) ((S 0 2))) := hu
            clear hu
            replace hP : va_P (kD E) kcl (mW E Ad (put (put (put (mKeeps (put S 7 7 0) 0) 0 (10 + 14 * k + 3) a) 0 (10 + 14 * k + 4) ((skipsG (S 0) k river a sp))) 0 (10 + 14 * k + 9) ((S 0 2)))) H := hP
            replace hD : va_D A (mW E Ad (put (put (put (mKeeps (put S 7 7 0) 0) 0 (10 + 14 * k + 3) a) 0 (10 + 14 * k + 4) ((skipsG (S 0) k river a sp))) 0 (10 + 14 * k + 9) ((S 0 2)))) := hD
            show W p l e _ s m args below meth c H locs _ _ Q (F0 m 133 ls [])
            refine lv_aload_n hx hb dX3_trial_133 rfl (lv_at hl 1 rfl) ?_
            refine va_get (D := kD E) (ci := 2) (fs := mO Ad (put (put (put (mKeeps (put S 7 7 0) 0) 0 (10 + 14 * k + 3) a) 0 (10 + 14 * k + 4) ((skipsG (S 0) k river a sp))) 0 (10 + 14 * k + 9) ((S 0 2)))) (v := .ref (Ad 1)) (C := RX3) (T := TX3) (N := 19) hx hb hts in_X3 hown hK hP 0 rfl rfl 0 (by decide) (hts _ q2320) (fun _ h9 => h9) rfl dX3_trial_134 ?_
            refine kz_iconst hx hb dX3_trial_137 ?_
            refine lv_dup2_11 hx hb dX3_trial_138 rfl rfl ?_
            refine kz_iald (cA := kA E 0) (n := 304) (g := (put (put (put (mKeeps (put S 7 7 0) 0) 0 (10 + 14 * k + 3) a) 0 (10 + 14 * k + 4) ((skipsG (S 0) k river a sp))) 0 (10 + 14 * k + 9) ((S 0 2))) 0) hx hb hK hP 1 0 rfl rfl (by omega) dX3_trial_139 ?_
            have r16 : rI ((put (put (put (mKeeps (put S 7 7 0) 0) 0 (10 + 14 * k + 3) a) 0 (10 + 14 * k + 4) ((skipsG (S 0) k river a sp))) 0 (10 + 14 * k + 9) ((S 0 2))) 0 4) := hM 0 4
            have q17 : (put (put (put (mKeeps (put S 7 7 0) 0) 0 (10 + 14 * k + 3) a) 0 (10 + 14 * k + 4) ((skipsG (S 0) k river a sp))) 0 (10 + 14 * k + 9) ((S 0 2))) 0 4 = S 0 4 := by
              show uz ((put (put (mKeeps (put S 7 7 0) 0) 0 (10 + 14 * k + 3) a) 0 (10 + 14 * k + 4) ((skipsG (S 0) k river a sp))) 0) (10 + 14 * k + 9) ((S 0 2)) 4 = _
              rw [uz_n (by omega)]
              show uz ((put (mKeeps (put S 7 7 0) 0) 0 (10 + 14 * k + 3) a) 0) (10 + 14 * k + 4) ((skipsG (S 0) k river a sp)) 4 = _
              rw [uz_n (by omega)]
              show uz ((mKeeps (put S 7 7 0) 0) 0) (10 + 14 * k + 3) a 4 = _
              rw [uz_n (by omega)]
              all_goals rfl
            rw [q17]
            rw [q17] at r16
            refine kz_iconst hx hb dX3_trial_140 ?_
            refine kz_iadd hx hb dX3_trial_141 ?_
            refine kz_iast (cA := kA E 0) (n := 304) (g := (put (put (put (mKeeps (put S 7 7 0) 0) 0 (10 + 14 * k + 3) a) 0 (10 + 14 * k + 4) ((skipsG (S 0) k river a sp))) 0 (10 + 14 * k + 9) ((S 0 2))) 0) hx hb hK hP hD hS 1 0 rfl rfl (by omega) dX3_trial_142 (fun H9 locs9 hP9 hD9 hS9 => ?_)
            rw [mW_a0] at hP9 hD9
            clear hP hD hS H locs
            revert hS9 hD9 hP9 locs9 H9
            intro H locs hP hD hS
            replace hP : va_P (kD E) kcl (mW E Ad (put (put (put (put (mKeeps (put S 7 7 0) 0) 0 (10 + 14 * k + 3) a) 0 (10 + 14 * k + 4) ((skipsG (S 0) k river a sp))) 0 (10 + 14 * k + 9) ((S 0 2))) 0 4 ((S 0 4) + 1))) H := hP
            replace hD : va_D A (mW E Ad (put (put (put (put (mKeeps (put S 7 7 0) 0) 0 (10 + 14 * k + 3) a) 0 (10 + 14 * k + 4) ((skipsG (S 0) k river a sp))) 0 (10 + 14 * k + 9) ((S 0 2))) 0 4 ((S 0 4) + 1))) := hD
            replace hM : MOk (put (put (put (put (mKeeps (put S 7 7 0) 0) 0 (10 + 14 * k + 3) a) 0 (10 + 14 * k + 4) ((skipsG (S 0) k river a sp))) 0 (10 + 14 * k + 9) ((S 0 2))) 0 4 ((S 0 4) + 1)) := hM.put 0 _ (by omega)
            refine lv_iload hx hb dX3_trial_143 (lv_at hl 0 rfl) ?_
            have e0 : xTrial S k river a sp = (put (put (put (put (mKeeps (put S 7 7 0) 0) 0 (10 + 14 * k + 3) a) 0 (10 + 14 * k + 4) ((skipsG (S 0) k river a sp))) 0 (10 + 14 * k + 9) ((S 0 2))) 0 4 ((S 0 4) + 1), skipsG (S 0) k river a sp) := by unfold xTrial gTrial; (repeat (first | refine Eq.trans (if_pos (by omega)) ?_ | refine Eq.trans (if_neg (by omega)) ?_)); first | rfl | (split <;> first | (exfalso; omega) | ((try simp only [putR_put _ 0, putR_putR, putR_at]); all_goals rfl))
            have e1 : (xTrial S k river a sp).2 = skipsG (S 0) k river a sp := by rw [e0]
            have e3 : (xTrial S k river a sp).1 = put (put (put (put (mKeeps (put S 7 7 0) 0) 0 (10 + 14 * k + 3) a) 0 (10 + 14 * k + 4) ((skipsG (S 0) k river a sp))) 0 (10 + 14 * k + 9) ((S 0 2))) 0 4 ((S 0 4) + 1) := by rw [e0]
            exact kz_iret () hx hb hr hlk hP hD hS dX3_trial_145 (congrArg (fun z : Int => some (Value.int (zI z))) e1) ⟨(kz_r e1 (by omega)), (kz_M e3 hM)⟩ (congrArg (mW E Ad) e3) hQ (Nat.le_of_ble_eq_true rfl) (Nat.le_of_ble_eq_true rfl)
      · skip
        refine lv_aload_n hx hb dX3_trial_52 rfl (lv_at hl 0 rfl) ?_
        refine kz_iconst hx hb dX3_trial_53 ?_
        refine kz_bipush hx hb dX3_trial_54 (by decide) ?_
        refine lv_aload_n hx hb dX3_trial_56 rfl (lv_at hl 0 rfl) ?_
        refine va_get (D := kD E) (ci := 2) (fs := mO Ad (put S 7 7 0)) (v := .ref (Ad 1)) (C := RX3) (T := TX3) (N := 19) hx hb hts in_X3 hown hK hP 0 rfl rfl 0 (by decide) (hts _ q2320) (fun _ h9 => h9) rfl dX3_trial_57 ?_
        refine kz_iconst hx hb dX3_trial_60 ?_
        refine kz_iald (cA := kA E 0) (n := 304) (g := S 0) hx hb hK hP 1 0 rfl rfl (by omega) dX3_trial_61 ?_
        have r18 : rI (S 0 2) := hM 0 2
        refine kz_backM (va_runV (As := [.int (zI (3)), .int (zI (8)), .int (zI (S 0 2))]) (rest := []) ⟨hx, hb, hml, hown, hts⟩ (mX3_refuses l E H.size Ad (put S 7 7 0) hM 3 (by omega) 8 (by omega) (S 0 2) (by omega)) (cwV 3 hts (lw_V q2398 q2400 qs37 q83 q2401) rfl rfl rfl (by decide +kernel) ⟨(Nat.le_of_ble_eq_true rfl), (Nat.le_of_ble_eq_true rfl)⟩) (kz_preVM (wc := mW E Ad (put S 7 7 0)) (va_recv hK hP (ci := 2) (q0 := 0) rfl rfl) hG hS hAN hP hD kz_nilP kz_nilA) rfl rfl hl.1 rfl (lv_room (Nat.le_of_ble_eq_true rfl)) dX3_trial_62 ⟨(Nat.le_of_ble_eq_true rfl), (Nat.le_of_ble_eq_true rfl)⟩) hP hD hS hA (fun u H9 locs9 hu hP9 hD9 hS9 hzz hkk => ?_)
        clear hzz hkk hP hD hS H locs u
        revert hS9 hD9 hP9 locs9 H9
        intro H locs hP hD hS
        clear hM
        obtain ⟨r19, hM⟩ := hu
        replace r19 : rI (0) := r19
        replace hM : MOk (put (put (put (put S 7 7 0) 7 7 3) 7 8 8) 7 9 ((S 0 2))) := hM
        replace hP : va_P (kD E) kcl (mW E Ad (put (put (put (put S 7 7 0) 7 7 3) 7 8 8) 7 9 ((S 0 2)))) H := hP
        replace hD : va_D A (mW E Ad (put (put (put (put S 7 7 0) 7 7 3) 7 8 8) 7 9 ((S 0 2)))) := hD
        show W p l e _ s m args below meth c H locs _ _ Q (F0 m 65 ls [.int (zI (0))])
        have e0 : xTrial S k river a sp = (put (put (put (put S 7 7 0) 7 7 3) 7 8 8) 7 9 ((S 0 2)), 0) := by unfold xTrial gTrial; (repeat (first | refine Eq.trans (if_pos (by omega)) ?_ | refine Eq.trans (if_neg (by omega)) ?_)); first | rfl | (split <;> first | (exfalso; omega) | ((try simp only [putR_put _ 0, putR_putR, putR_at]); all_goals rfl))
        have e1 : (xTrial S k river a sp).2 = 0 := by rw [e0]
        have e3 : (xTrial S k river a sp).1 = put (put (put (put S 7 7 0) 7 7 3) 7 8 8) 7 9 ((S 0 2)) := by rw [e0]
        exact kz_iret () hx hb hr hlk hP hD hS dX3_trial_65 (congrArg (fun z : Int => some (Value.int (zI z))) e1) ⟨(kz_r e1 (by omega)), (kz_M e3 hM)⟩ (congrArg (mW E Ad) e3) hQ (Nat.le_of_ble_eq_true rfl) (Nat.le_of_ble_eq_true rfl)
    · skip
      refine lv_aload_n hx hb dX3_trial_22 rfl (lv_at hl 0 rfl) ?_
      refine kz_iconst hx hb dX3_trial_23 ?_
      refine kz_iconst hx hb dX3_trial_24 ?_
      refine lv_aload_n hx hb dX3_trial_25 rfl (lv_at hl 0 rfl) ?_
      refine lv_iload_n hx hb dX3_trial_26 rfl (lv_at hl 1 rfl) ?_
      refine kz_bipush hx hb dX3_trial_27 (by decide) ?_
      refine kz_backM (va_runV (As := [.int (zI (k)), .int (zI (10))]) (rest := [.int (zI (4)), .int (zI (3)), .ref (Ad 0)]) ⟨hx, hb, hml, hown, hts⟩ (mX3_of l E H.size Ad (put S 7 7 0) hM k (by omega) 10 (by omega) (show 0 ≤ k ∧ k < 10 by first | omega | exact hI.st _ (by omega) (by omega) | exact hI.rv _ (by omega) (by omega) | exact hI) (show 0 ≤ 10 ∧ 10 < 14 by first | omega | exact hI.st _ (by omega) (by omega) | exact hI.rv _ (by omega) (by omega) | exact hI)) (cwV 2 hts (lw_V q2441 q2443 qs44 q83 q2444) rfl rfl rfl (by decide +kernel) ⟨(Nat.le_of_ble_eq_true rfl), (Nat.le_of_ble_eq_true rfl)⟩) (kz_preVM (wc := mW E Ad (put S 7 7 0)) (va_recv hK hP (ci := 2) (q0 := 0) rfl rfl) hG hS hAN hP hD kz_nilP kz_nilA) rfl rfl hl.1 rfl (lv_room (Nat.le_of_ble_eq_true rfl)) dX3_trial_29 ⟨(Nat.le_of_ble_eq_true rfl), (Nat.le_of_ble_eq_true rfl)⟩) hP hD hS hA (fun u H9 locs9 hu hP9 hD9 hS9 hzz hkk => ?_)
      clear hzz hkk hP hD hS H locs u
      revert hS9 hD9 hP9 locs9 H9
      intro H locs hP hD hS
      have r20 : rI ((S 0 ((10 + 14 * k + 10)))) := hu
      clear hu
      replace hP : va_P (kD E) kcl (mW E Ad (put S 7 7 0)) H := hP
      replace hD : va_D A (mW E Ad (put S 7 7 0)) := hD
      show W p l e _ s m args below meth c H locs _ _ Q (F0 m 32 ls [.int (zI ((S 0 ((10 + 14 * k + 10))))), .int (zI (4)), .int (zI (3)), .ref (Ad 0)])
      refine kz_backM (va_runV (As := [.int (zI (3)), .int (zI (4)), .int (zI ((S 0 ((10 + 14 * k + 10)))))]) (rest := []) ⟨hx, hb, hml, hown, hts⟩ (mX3_refuses l E H.size Ad (put S 7 7 0) hM 3 (by omega) 4 (by omega) ((S 0 ((10 + 14 * k + 10)))) (by omega)) (cwV 3 hts (lw_V q2398 q2400 qs37 q83 q2401) rfl rfl rfl (by decide +kernel) ⟨(Nat.le_of_ble_eq_true rfl), (Nat.le_of_ble_eq_true rfl)⟩) (kz_preVM (wc := mW E Ad (put S 7 7 0)) (va_recv hK hP (ci := 2) (q0 := 0) rfl rfl) hG hS hAN hP hD kz_nilP kz_nilA) rfl rfl hl.1 rfl (lv_room (Nat.le_of_ble_eq_true rfl)) dX3_trial_32 ⟨(Nat.le_of_ble_eq_true rfl), (Nat.le_of_ble_eq_true rfl)⟩) hP hD hS hA (fun u H9 locs9 hu hP9 hD9 hS9 hzz hkk => ?_)
      clear hzz hkk hP hD hS H locs u
      revert hS9 hD9 hP9 locs9 H9
      intro H locs hP hD hS
      clear hM
      obtain ⟨r21, hM⟩ := hu
      replace r21 : rI (0) := r21
      replace hM : MOk (put (put (put (put S 7 7 0) 7 7 3) 7 8 4) 7 9 (((S 0 ((10 + 14 * k + 10)))))) := hM
      replace hP : va_P (kD E) kcl (mW E Ad (put (put (put (put S 7 7 0) 7 7 3) 7 8 4) 7 9 (((S 0 ((10 + 14 * k + 10))))))) H := hP
      replace hD : va_D A (mW E Ad (put (put (put (put S 7 7 0) 7 7 3) 7 8 4) 7 9 (((S 0 ((10 + 14 * k + 10))))))) := hD
      show W p l e _ s m args below meth c H locs _ _ Q (F0 m 35 ls [.int (zI (0))])
      have e0 : xTrial S k river a sp = (put (put (put (put S 7 7 0) 7 7 3) 7 8 4) 7 9 (((S 0 ((10 + 14 * k + 10))))), 0) := by unfold xTrial gTrial; (repeat (first | refine Eq.trans (if_pos (by omega)) ?_ | refine Eq.trans (if_neg (by omega)) ?_)); first | rfl | (split <;> first | (exfalso; omega) | ((try simp only [putR_put _ 0, putR_putR, putR_at]); all_goals rfl))
      have e1 : (xTrial S k river a sp).2 = 0 := by rw [e0]
      have e3 : (xTrial S k river a sp).1 = put (put (put (put S 7 7 0) 7 7 3) 7 8 4) 7 9 (((S 0 ((10 + 14 * k + 10))))) := by rw [e0]
      exact kz_iret () hx hb hr hlk hP hD hS dX3_trial_35 (congrArg (fun z : Int => some (Value.int (zI z))) e1) ⟨(kz_r e1 (by omega)), (kz_M e3 hM)⟩ (congrArg (mW E Ad) e3) hQ (Nat.le_of_ble_eq_true rfl) (Nat.le_of_ble_eq_true rfl)
  · skip
    refine kz_iconst hx hb dX3_trial_12 ?_
    have e0 : xTrial S k river a sp = (put S 7 7 (throwCode (S 0) k river a sp), 0) := by unfold xTrial gTrial; (repeat (first | refine Eq.trans (if_pos (by omega)) ?_ | refine Eq.trans (if_neg (by omega)) ?_)); first | rfl | (split <;> first | (exfalso; omega) | ((try simp only [putR_put _ 0, putR_putR, putR_at]); all_goals rfl))
    have e1 : (xTrial S k river a sp).2 = 0 := by rw [e0]
    have e3 : (xTrial S k river a sp).1 = put S 7 7 (throwCode (S 0) k river a sp) := by rw [e0]
    exact kz_iret () hx hb hr hlk hP hD hS dX3_trial_13 (congrArg (fun z : Int => some (Value.int (zI z))) e1) ⟨(kz_r e1 (by omega)), (kz_M e3 hM)⟩ (congrArg (mW E Ad) e3) hQ (Nat.le_of_ble_eq_true rfl) (Nat.le_of_ble_eq_true rfl)

set_option maxHeartbeats 4000000 in
set_option maxRecDepth 100000 in
theorem mX3_skim (l : Launch) (E : KE) (sz : Nat) (Ad : Nat → Nat) (S : St) (hM : MOk S) (B : Int) (k : Int) (rk : rI k) (river : Int) (rriver : rI river) (a : Int) (ra : rI a) (sp : Int) (rsp : rI sp) (hI : GI B (S 0)) (c0 : 0 ≤ S 7 5 ∧ S 7 5 ≤ 8) : Met l yX3_skim (ws_ yX3_skim cX3_skim 7 (some .int)) (rmk 4 0 0 93) (va_Pc [.ref (Ad 0), .int (zI k), .int (zI river), .int (zI a), .int (zI sp)] (kP l E sz (mW E Ad S) [])) (kQ E (fun _ : Unit => rI ((xSkim S k river a sp).2) ∧ MOk ((xSkim S k river a sp).1)) (fun _ => some (.int (zI ((xSkim S k river a sp).2)))) (fun _ => (mW E Ad ((xSkim S k river a sp).1))) (va_A (mW E Ad S) sz)) 0 0 (va_A (mW E Ad S) sz) := by
  refine kz_start (Qf := kQ E (fun _ : Unit => rI ((xSkim S k river a sp).2) ∧ MOk ((xSkim S k river a sp).1)) (fun _ => some (.int (zI ((xSkim S k river a sp).2)))) (fun _ => (mW E Ad ((xSkim S k river a sp).1)))) (by decide) (Nat.le_of_ble_eq_true rfl) ?_
  intro p e s m args below meth c A ls Q H locs hx hb hr hlk hml hts hown hname hG hK hA hAN hP hD hR hRA hS hQ hl
  replace hown : s.vm.findClass RX3 = some m.cls := hown
  replace hl : lv_has ls 7 [(0, .ref (Ad 0)), (1, .int (zI (k))), (2, .int (zI (river))), (3, .int (zI (a))), (4, .int (zI (sp)))] := hl
  have g0 := hI.n
  have g1 := hI.m
  have g2 := hI.ct
  replace hP : va_P (kD E) kcl (mW E Ad (S)) H := hP
  replace hD : va_D A (mW E Ad (S)) := hD
  refine lv_aload_n hx hb dX3_skim_0 rfl (lv_at hl 0 rfl) ?_
  refine lv_iload_n hx hb dX3_skim_1 rfl (lv_at hl 1 rfl) ?_
  refine lv_iload_n hx hb dX3_skim_2 rfl (lv_at hl 2 rfl) ?_
  refine lv_iload_n hx hb dX3_skim_3 rfl (lv_at hl 3 rfl) ?_
  refine lv_iload hx hb dX3_skim_4 (lv_at hl 4 rfl) ?_
  refine kz_backM (va_runV (As := [.int (zI (k)), .int (zI (river)), .int (zI (a)), .int (zI (sp))]) (rest := []) ⟨hx, hb, hml, hown, hts⟩ (mX3_isWrong l E H.size Ad S hM k (by omega) river (by omega) a (by omega) sp (by omega) (show 0 ≤ (S 0 0) ∧ (S 0 0) ≤ 10 by first | omega | exact hI.st _ (by omega) (by omega) | exact hI.rv _ (by omega) (by omega) | exact hI) (show 0 ≤ (S 0 1) ∧ (S 0 1) ≤ 4 by first | omega | exact hI.st _ (by omega) (by omega) | exact hI.rv _ (by omega) (by omega) | exact hI)) (cwV 4 hts (lw_V q2507 q2509 qs51 q83 q2510) rfl rfl rfl (by decide +kernel) ⟨(Nat.le_of_ble_eq_true rfl), (Nat.le_of_ble_eq_true rfl)⟩) (kz_preVM (wc := mW E Ad S) (va_recv hK hP (ci := 2) (q0 := 0) rfl rfl) hG hS hAN hP hD kz_nilP kz_nilA) rfl rfl hl.1 rfl (lv_room (Nat.le_of_ble_eq_true rfl)) dX3_skim_6 ⟨(Nat.le_of_ble_eq_true rfl), (Nat.le_of_ble_eq_true rfl)⟩) hP hD hS hA (fun u H9 locs9 hu hP9 hD9 hS9 hzz hkk => ?_)
  clear hzz hkk hP hD hS H locs u
  revert hS9 hD9 hP9 locs9 H9
  intro H locs hP hD hS
  replace hM : MOk (put S 7 7 (throwCode (S 0) k river a sp)) := hu
  clear hu
  replace hP : va_P (kD E) kcl (mW E Ad (put S 7 7 (throwCode (S 0) k river a sp))) H := hP
  replace hD : va_D A (mW E Ad (put S 7 7 (throwCode (S 0) k river a sp))) := hD
  show W p l e _ s m args below meth c H locs _ _ Q (F0 m 9 ls [.int (zI (b2 (0 < throwCode (S 0) k river a sp)))])
  refine kz_if0B (tgt := 14) hx hb dX3_skim_9 (by decide) (fun c9 => ?_) (fun c9 => ?_)
  · skip
    have q0 : throwCode (S 0) k river a sp = 0 := by have := throwCode_b (S 0) k river a sp; omega
    have q1 := throwCode_0 q0
    have hsb := hI.st k (by omega) (by omega)
    have hrb := hI.rv river (by omega) (by omega)
    have hsx := hI.sx k (by omega) (by omega)
    have hrx := hI.rx river (by omega) (by omega)
    have hbk := hI.bk river 0 (by omega) (by omega) (by omega) (by omega)
    have hrm := hI.room k (by omega)
    have hal := hI.al
    rw [q0] at hP hD hM
    refine lv_aload_n hx hb dX3_skim_14 rfl (lv_at hl 0 rfl) ?_
    refine lv_iload_n hx hb dX3_skim_15 rfl (lv_at hl 1 rfl) ?_
    refine kz_backM (va_runV (As := [.int (zI (k))]) (rest := []) ⟨hx, hb, hml, hown, hts⟩ (mX3_isSunk l E H.size Ad (put S 7 7 0) hM k (by omega) (show 0 ≤ k ∧ k < 10 by first | omega | exact hI.st _ (by omega) (by omega) | exact hI.rv _ (by omega) (by omega) | exact hI)) (cwV 1 hts (lw_V q2480 q2482 qs50 q83 q2483) rfl rfl rfl (by decide +kernel) ⟨(Nat.le_of_ble_eq_true rfl), (Nat.le_of_ble_eq_true rfl)⟩) (kz_preVM (wc := mW E Ad (put S 7 7 0)) (va_recv hK hP (ci := 2) (q0 := 0) rfl rfl) hG hS hAN hP hD kz_nilP kz_nilA) rfl rfl hl.1 rfl (lv_room (Nat.le_of_ble_eq_true rfl)) dX3_skim_16 ⟨(Nat.le_of_ble_eq_true rfl), (Nat.le_of_ble_eq_true rfl)⟩) hP hD hS hA (fun u H9 locs9 hu hP9 hD9 hS9 hzz hkk => ?_)
    clear hzz hkk hP hD hS H locs u
    revert hS9 hD9 hP9 locs9 H9
    intro H locs hP hD hS
    clear hu
    replace hP : va_P (kD E) kcl (mW E Ad (put S 7 7 0)) H := hP
    replace hD : va_D A (mW E Ad (put S 7 7 0)) := hD
    show W p l e _ s m args below meth c H locs _ _ Q (F0 m 19 ls [.int (zI (b2 ((S 0 ((10 + 14 * k + 5))) = -2)))])
    refine kz_if0B (tgt := 36) hx hb dX3_skim_19 (by decide) (fun c19 => ?_) (fun c19 => ?_)
    · skip
      refine lv_aload_n hx hb dX3_skim_36 rfl (lv_at hl 0 rfl) ?_
      refine lv_iload_n hx hb dX3_skim_37 rfl (lv_at hl 1 rfl) ?_
      refine kz_iconst hx hb dX3_skim_38 ?_
      refine kz_backM (va_runV (As := [.int (zI (k)), .int (zI (5))]) (rest := []) ⟨hx, hb, hml, hown, hts⟩ (mX3_of l E H.size Ad (put S 7 7 0) hM k (by omega) 5 (by omega) (show 0 ≤ k ∧ k < 10 by first | omega | exact hI.st _ (by omega) (by omega) | exact hI.rv _ (by omega) (by omega) | exact hI) (show 0 ≤ 5 ∧ 5 < 14 by first | omega | exact hI.st _ (by omega) (by omega) | exact hI.rv _ (by omega) (by omega) | exact hI)) (cwV 2 hts (lw_V q2441 q2443 qs44 q83 q2444) rfl rfl rfl (by decide +kernel) ⟨(Nat.le_of_ble_eq_true rfl), (Nat.le_of_ble_eq_true rfl)⟩) (kz_preVM (wc := mW E Ad (put S 7 7 0)) (va_recv hK hP (ci := 2) (q0 := 0) rfl rfl) hG hS hAN hP hD kz_nilP kz_nilA) rfl rfl hl.1 rfl (lv_room (Nat.le_of_ble_eq_true rfl)) dX3_skim_39 ⟨(Nat.le_of_ble_eq_true rfl), (Nat.le_of_ble_eq_true rfl)⟩) hP hD hS hA (fun u H9 locs9 hu hP9 hD9 hS9 hzz hkk => ?_)
      clear hzz hkk hP hD hS H locs u
      revert hS9 hD9 hP9 locs9 H9
      intro H locs hP hD hS
      have r1 : rI ((S 0 ((10 + 14 * k + 5)))) := hu
      clear hu
      replace hP : va_P (kD E) kcl (mW E Ad (put S 7 7 0)) H := hP
      replace hD : va_D A (mW E Ad (put S 7 7 0)) := hD
      show W p l e _ s m args below meth c H locs _ _ Q (F0 m 42 ls [.int (zI ((S 0 ((10 + 14 * k + 5)))))])
      refine kz_if_lt (tgt := 58) hx hb dX3_skim_42 (by decide) (by omega) (fun c42 => ?_) (fun c42 => ?_)
      · skip
        refine lv_aload_n hx hb dX3_skim_58 rfl (lv_at hl 0 rfl) ?_
        refine lv_iload_n hx hb dX3_skim_59 rfl (lv_at hl 2 rfl) ?_
        refine kz_iconst hx hb dX3_skim_60 ?_
        refine kz_backM (va_runV (As := [.int (zI (river)), .int (zI (0))]) (rest := []) ⟨hx, hb, hml, hown, hts⟩ (mX3_bookedFor l E H.size Ad (put S 7 7 0) hM river (by omega) 0 (by omega) (show 0 ≤ river ∧ river < 4 by first | omega | exact hI.st _ (by omega) (by omega) | exact hI.rv _ (by omega) (by omega) | exact hI) (show 0 ≤ 0 ∧ 0 < 30 by first | omega | exact hI.st _ (by omega) (by omega) | exact hI.rv _ (by omega) (by omega) | exact hI)) (cwV 2 hts (lw_V q2465 q2467 qs48 q83 q2468) rfl rfl rfl (by decide +kernel) ⟨(Nat.le_of_ble_eq_true rfl), (Nat.le_of_ble_eq_true rfl)⟩) (kz_preVM (wc := mW E Ad (put S 7 7 0)) (va_recv hK hP (ci := 2) (q0 := 0) rfl rfl) hG hS hAN hP hD kz_nilP kz_nilA) rfl rfl hl.1 rfl (lv_room (Nat.le_of_ble_eq_true rfl)) dX3_skim_61 ⟨(Nat.le_of_ble_eq_true rfl), (Nat.le_of_ble_eq_true rfl)⟩) hP hD hS hA (fun u H9 locs9 hu hP9 hD9 hS9 hzz hkk => ?_)
        clear hzz hkk hP hD hS H locs u
        revert hS9 hD9 hP9 locs9 H9
        intro H locs hP hD hS
        have r2 : rI ((S 0 ((174 + 30 * river + 0)))) := hu
        clear hu
        replace hP : va_P (kD E) kcl (mW E Ad (put S 7 7 0)) H := hP
        replace hD : va_D A (mW E Ad (put S 7 7 0)) := hD
        show W p l e _ s m args below meth c H locs _ _ Q (F0 m 64 ls [.int (zI ((S 0 ((174 + 30 * river + 0)))))])
        refine lv_iload_n hx hb dX3_skim_64 rfl (lv_at hl 1 rfl) ?_
        refine kz_icmp_eq (tgt := 81) hx hb dX3_skim_65 (by decide) (by omega) (by omega) (fun c65 => ?_) (fun c65 => ?_)
        · skip
          refine lv_aload_n hx hb dX3_skim_81 rfl (lv_at hl 0 rfl) ?_
          refine lv_aload_n hx hb dX3_skim_82 rfl (lv_at hl 0 rfl) ?_
          refine va_get (D := kD E) (ci := 2) (fs := mO Ad (put S 7 7 0)) (v := .ref (Ad 1)) (C := RX3) (T := TX3) (N := 19) hx hb hts in_X3 hown hK hP 0 rfl rfl 0 (by decide) (hts _ q2320) (fun _ h9 => h9) rfl dX3_skim_83 ?_
          refine kz_backM (va_runV (As := [.ref (Ad 1)]) (rest := []) ⟨hx, hb, hml, hown, hts⟩ (mX3_keeps l E H.size Ad (put S 7 7 0) hM (show 0 ≤ (S 7 5) ∧ (S 7 5) ≤ 8 by first | omega | exact hI.st _ (by omega) (by omega) | exact hI.rv _ (by omega) (by omega) | exact hI)) (cwV 1 hts (lw_V q2402 q2404 qs38 q83 q2405) rfl rfl rfl (by decide +kernel) ⟨(Nat.le_of_ble_eq_true rfl), (Nat.le_of_ble_eq_true rfl)⟩) (kz_preVM (wc := mW E Ad (put S 7 7 0)) (va_recv hK hP (ci := 2) (q0 := 0) rfl rfl) hG hS hAN hP hD kz_nilP kz_nilA) rfl rfl hl.1 rfl (lv_room (Nat.le_of_ble_eq_true rfl)) dX3_skim_86 ⟨(Nat.le_of_ble_eq_true rfl), (Nat.le_of_ble_eq_true rfl)⟩) hP hD hS hA (fun u H9 locs9 hu hP9 hD9 hS9 hzz hkk => ?_)
          clear hzz hkk hP hD hS H locs u
          revert hS9 hD9 hP9 locs9 H9
          intro H locs hP hD hS
          replace hM : MOk (mKeeps (put S 7 7 0) 0) := hu
          clear hu
          replace hP : va_P (kD E) kcl (mW E Ad (mKeeps (put S 7 7 0) 0)) H := hP
          replace hD : va_D A (mW E Ad (mKeeps (put S 7 7 0) 0)) := hD
          show W p l e _ s m args below meth c H locs _ _ Q (F0 m 89 ls [])
          refine lv_aload_n hx hb dX3_skim_89 rfl (lv_at hl 0 rfl) ?_
          refine lv_iload_n hx hb dX3_skim_90 rfl (lv_at hl 1 rfl) ?_
          refine lv_iload_n hx hb dX3_skim_91 rfl (lv_at hl 2 rfl) ?_
          refine lv_iload_n hx hb dX3_skim_92 rfl (lv_at hl 3 rfl) ?_
          refine lv_iload hx hb dX3_skim_93 (lv_at hl 4 rfl) ?_
          refine kz_backM (va_runV (As := [.int (zI (k)), .int (zI (river)), .int (zI (a)), .int (zI (sp))]) (rest := []) ⟨hx, hb, hml, hown, hts⟩ (mX3_skipsOf l E H.size Ad (mKeeps (put S 7 7 0) 0) hM k (by omega) river (by omega) a (by omega) sp (by omega) (show 0 ≤ k ∧ k < 10 by first | omega | exact hI.st _ (by omega) (by omega) | exact hI.rv _ (by omega) (by omega) | exact hI) (show 0 ≤ river ∧ river < 4 by first | omega | exact hI.st _ (by omega) (by omega) | exact hI.rv _ (by omega) (by omega) | exact hI) (show SB (S 0) k by first | omega | exact hI.st _ (by omega) (by omega) | exact hI.rv _ (by omega) (by omega) | exact hI) (show RB (S 0) river by first | omega | exact hI.st _ (by omega) (by omega) | exact hI.rv _ (by omega) (by omega) | exact hI) (show 0 ≤ a ∧ a ≤ 90 by first | omega | exact hI.st _ (by omega) (by omega) | exact hI.rv _ (by omega) (by omega) | exact hI) (show 1 ≤ sp ∧ sp ≤ 20 by first | omega | exact hI.st _ (by omega) (by omega) | exact hI.rv _ (by omega) (by omega) | exact hI)) (cwV 4 hts (lw_V q2514 q2516 qs52 q83 q2517) rfl rfl rfl (by decide +kernel) ⟨(Nat.le_of_ble_eq_true rfl), (Nat.le_of_ble_eq_true rfl)⟩) (kz_preVM (wc := mW E Ad (mKeeps (put S 7 7 0) 0)) (va_recv hK hP (ci := 2) (q0 := 0) rfl rfl) hG hS hAN hP hD kz_nilP kz_nilA) rfl rfl hl.1 rfl (lv_room (Nat.le_of_ble_eq_true rfl)) dX3_skim_95 ⟨(Nat.le_of_ble_eq_true rfl), (Nat.le_of_ble_eq_true rfl)⟩) hP hD hS hA (fun u H9 locs9 hu hP9 hD9 hS9 hzz hkk => ?_)
          clear hzz hkk hP hD hS H locs u
          revert hS9 hD9 hP9 locs9 H9
          intro H locs hP hD hS
          obtain ⟨r3, p4⟩ := hu
          replace r3 : rI (skipsG (S 0) k river a sp) := r3
          replace p4 : 0 ≤ skipsG (S 0) k river a sp ∧ skipsG (S 0) k river a sp ≤ 240 := p4
          replace hP : va_P (kD E) kcl (mW E Ad (mKeeps (put S 7 7 0) 0)) H := hP
          replace hD : va_D A (mW E Ad (mKeeps (put S 7 7 0) 0)) := hD
          show W p l e _ s m args below meth c H locs _ _ Q (F0 m 98 ls [.int (zI (skipsG (S 0) k river a sp))])
          refine lv_istore (lv' := [(5, .int (zI (skipsG (S 0) k river a sp))), (0, .ref (Ad 0)), (1, .int (zI (k))), (2, .int (zI (river))), (3, .int (zI (a))), (4, .int (zI (sp)))]) hx hb dX3_skim_98 hl (by decide) rfl (fun ls hl => ?_)
          refine lv_aload_n hx hb dX3_skim_100 rfl (lv_at hl 1 rfl) ?_
          refine lv_iload_n hx hb dX3_skim_101 rfl (lv_at hl 2 rfl) ?_
          refine lv_iload_n hx hb dX3_skim_102 rfl (lv_at hl 3 rfl) ?_
          refine lv_iload_n hx hb dX3_skim_103 rfl (lv_at hl 4 rfl) ?_
          refine lv_iload hx hb dX3_skim_104 (lv_at hl 5 rfl) ?_
          refine kz_backM (va_runV (As := [.int (zI (k)), .int (zI (river)), .int (zI (a)), .int (zI (sp))]) (rest := []) ⟨hx, hb, hml, hown, hts⟩ (mX3_wayOf l E H.size Ad (mKeeps (put S 7 7 0) 0) hM k (by omega) river (by omega) a (by omega) sp (by omega) (show 0 ≤ k ∧ k < 10 by first | omega | exact hI.st _ (by omega) (by omega) | exact hI.rv _ (by omega) (by omega) | exact hI) (show 0 ≤ river ∧ river < 4 by first | omega | exact hI.st _ (by omega) (by omega) | exact hI.rv _ (by omega) (by omega) | exact hI) (show SB (S 0) k by first | omega | exact hI.st _ (by omega) (by omega) | exact hI.rv _ (by omega) (by omega) | exact hI) (show RB (S 0) river by first | omega | exact hI.st _ (by omega) (by omega) | exact hI.rv _ (by omega) (by omega) | exact hI) (show 0 ≤ a ∧ a ≤ 90 by first | omega | exact hI.st _ (by omega) (by omega) | exact hI.rv _ (by omega) (by omega) | exact hI) (show 1 ≤ sp ∧ sp ≤ 20 by first | omega | exact hI.st _ (by omega) (by omega) | exact hI.rv _ (by omega) (by omega) | exact hI)) (cwV 4 hts (lw_V q2533 q2535 qs55 q83 q2536) rfl rfl rfl (by decide +kernel) ⟨(Nat.le_of_ble_eq_true rfl), (Nat.le_of_ble_eq_true rfl)⟩) (kz_preVM (wc := mW E Ad (mKeeps (put S 7 7 0) 0)) (va_recv hK hP (ci := 2) (q0 := 0) rfl rfl) hG hS hAN hP hD kz_nilP kz_nilA) rfl rfl hl.1 rfl (lv_room (Nat.le_of_ble_eq_true rfl)) dX3_skim_106 ⟨(Nat.le_of_ble_eq_true rfl), (Nat.le_of_ble_eq_true rfl)⟩) hP hD hS hA (fun u H9 locs9 hu hP9 hD9 hS9 hzz hkk => ?_)
          clear hzz hkk hP hD hS H locs u
          revert hS9 hD9 hP9 locs9 H9
          intro H locs hP hD hS
          obtain ⟨r5, p6⟩ := hu
          replace r5 : rI (wayG (S 0) k river a sp) := r5
          replace p6 : 0 ≤ wayG (S 0) k river a sp ∧ wayG (S 0) k river a sp ≤ 57840 := p6
          replace hP : va_P (kD E) kcl (mW E Ad (mKeeps (put S 7 7 0) 0)) H := hP
          replace hD : va_D A (mW E Ad (mKeeps (put S 7 7 0) 0)) := hD
          show W p l e _ s m args below meth c H locs _ _ Q (F0 m 109 ls [.int (zI (wayG (S 0) k river a sp))])
          refine lv_aload_n hx hb dX3_skim_109 rfl (lv_at hl 1 rfl) ?_
          refine lv_iload_n hx hb dX3_skim_110 rfl (lv_at hl 3 rfl) ?_
          refine kz_iconst hx hb dX3_skim_111 ?_
          refine kz_backM (va_runV (As := [.int (zI (river)), .int (zI (0))]) (rest := [.int (zI (wayG (S 0) k river a sp))]) ⟨hx, hb, hml, hown, hts⟩ (mX3_its l E H.size Ad (mKeeps (put S 7 7 0) 0) hM river (by omega) 0 (by omega) (show 0 ≤ river ∧ river < 4 by first | omega | exact hI.st _ (by omega) (by omega) | exact hI.rv _ (by omega) (by omega) | exact hI) (show 0 ≤ 0 ∧ 0 < 6 by first | omega | exact hI.st _ (by omega) (by omega) | exact hI.rv _ (by omega) (by omega) | exact hI)) (cwV 2 hts (lw_V q2425 q2427 qs41 q83 q2428) rfl rfl rfl (by decide +kernel) ⟨(Nat.le_of_ble_eq_true rfl), (Nat.le_of_ble_eq_true rfl)⟩) (kz_preVM (wc := mW E Ad (mKeeps (put S 7 7 0) 0)) (va_recv hK hP (ci := 2) (q0 := 0) rfl rfl) hG hS hAN hP hD kz_nilP kz_nilA) rfl rfl hl.1 rfl (lv_room (Nat.le_of_ble_eq_true rfl)) dX3_skim_112 ⟨(Nat.le_of_ble_eq_true rfl), (Nat.le_of_ble_eq_true rfl)⟩) hP hD hS hA (fun u H9 locs9 hu hP9 hD9 hS9 hzz hkk => ?_)
          clear hzz hkk hP hD hS H locs u
          revert hS9 hD9 hP9 locs9 H9
          intro H locs hP hD hS
          have r7 : rI ((S 0 ((150 + 6 * river + 0)))) := hu
          clear hu
          replace hP : va_P (kD E) kcl (mW E Ad (mKeeps (put S 7 7 0) 0)) H := hP
          replace hD : va_D A (mW E Ad (mKeeps (put S 7 7 0) 0)) := hD
          show W p l e _ s m args below meth c H locs _ _ Q (F0 m 115 ls [.int (zI ((S 0 ((150 + 6 * river + 0))))), .int (zI (wayG (S 0) k river a sp))])
          have J8 : ∀ (v9 : Int) (H : Heap) (locs : List Loc) (ls : Array Slot), v9 = b2 (¬ ((wayG (S 0) k river a sp) < ((S 0 ((150 + 6 * river + 0)))))) → va_P (kD E) kcl (mW E Ad (mKeeps (put S 7 7 0) 0)) H → va_D A (mW E Ad (mKeeps (put S 7 7 0) 0)) → va_S A s.heap H locs → lv_has ls 7 [(0, .ref (Ad 0)), (1, .int (zI (k))), (2, .int (zI (river))), (3, .int (zI (a))), (4, .int (zI (sp))), (5, .int (zI (skipsG (S 0) k river a sp)))] → W p l e (rmk 4 0 0 93) s m args below meth c H locs 0 0 Q (F0 m 123 ls [.int (zI (v9))]) := by
            clear hl hS hD hP ls locs H
            intro v9 H locs ls hv9 hP hD hS hl
            subst hv9
            refine lv_istore (lv' := [(6, .int (zI (b2 (¬ ((wayG (S 0) k river a sp) < ((S 0 ((150 + 6 * river + 0))))))))), (0, .ref (Ad 0)), (1, .int (zI (k))), (2, .int (zI (river))), (3, .int (zI (a))), (4, .int (zI (sp))), (5, .int (zI (skipsG (S 0) k river a sp)))]) hx hb dX3_skim_123 hl (by decide) rfl (fun ls hl => ?_)
            refine lv_aload_n hx hb dX3_skim_125 rfl (lv_at hl 1 rfl) ?_
            refine lv_iload_n hx hb dX3_skim_126 rfl (lv_at hl 2 rfl) ?_
            refine kz_bipush hx hb dX3_skim_127 (by decide) ?_
            refine lv_aload_n hx hb dX3_skim_129 rfl (lv_at hl 1 rfl) ?_
            refine lv_iload_n hx hb dX3_skim_130 rfl (lv_at hl 2 rfl) ?_
            refine kz_bipush hx hb dX3_skim_131 (by decide) ?_
            refine kz_backM (va_runV (As := [.int (zI (k)), .int (zI (6))]) (rest := [.int (zI (6)), .int (zI (k)), .ref (Ad 0)]) ⟨hx, hb, hml, hown, hts⟩ (mX3_of l E H.size Ad (mKeeps (put S 7 7 0) 0) hM k (by omega) 6 (by omega) (show 0 ≤ k ∧ k < 10 by first | omega | exact hI.st _ (by omega) (by omega) | exact hI.rv _ (by omega) (by omega) | exact hI) (show 0 ≤ 6 ∧ 6 < 14 by first | omega | exact hI.st _ (by omega) (by omega) | exact hI.rv _ (by omega) (by omega) | exact hI)) (cwV 2 hts (lw_V q2441 q2443 qs44 q83 q2444) rfl rfl rfl (by decide +kernel) ⟨(Nat.le_of_ble_eq_true rfl), (Nat.le_of_ble_eq_true rfl)⟩) (kz_preVM (wc := mW E Ad (mKeeps (put S 7 7 0) 0)) (va_recv hK hP (ci := 2) (q0 := 0) rfl rfl) hG hS hAN hP hD kz_nilP kz_nilA) rfl rfl hl.1 rfl (lv_room (Nat.le_of_ble_eq_true rfl)) dX3_skim_133 ⟨(Nat.le_of_ble_eq_true rfl), (Nat.le_of_ble_eq_true rfl)⟩) hP hD hS hA (fun u H9 locs9 hu hP9 hD9 hS9 hzz hkk => ?_)
            clear hzz hkk hP hD hS H locs u
            revert hS9 hD9 hP9 locs9 H9
            intro H locs hP hD hS
            have r10 : rI ((S 0 ((10 + 14 * k + 6)))) := hu
            clear hu
            replace hP : va_P (kD E) kcl (mW E Ad (mKeeps (put S 7 7 0) 0)) H := hP
            replace hD : va_D A (mW E Ad (mKeeps (put S 7 7 0) 0)) := hD
            show W p l e _ s m args below meth c H locs _ _ Q (F0 m 136 ls [.int (zI ((S 0 ((10 + 14 * k + 6))))), .int (zI (6)), .int (zI (k)), .ref (Ad 0)])
            refine kz_iconst hx hb dX3_skim_136 ?_
            refine kz_iadd hx hb dX3_skim_137 ?_
            refine kz_backM (va_runV (As := [.int (zI (k)), .int (zI (6)), .int (zI (((S 0 ((10 + 14 * k + 6)))) + 1))]) (rest := []) ⟨hx, hb, hml, hown, hts⟩ (mX3_lays l E H.size Ad (mKeeps (put S 7 7 0) 0) hM k (by omega) 6 (by omega) (((S 0 ((10 + 14 * k + 6)))) + 1) (by omega) (show 0 ≤ k ∧ k < 10 by first | omega | exact hI.st _ (by omega) (by omega) | exact hI.rv _ (by omega) (by omega) | exact hI) (show 0 ≤ 6 ∧ 6 < 14 by first | omega | exact hI.st _ (by omega) (by omega) | exact hI.rv _ (by omega) (by omega) | exact hI)) (cwV 3 hts (lw_V q2409 q2411 qs39 q83 q2412) rfl rfl rfl (by decide +kernel) ⟨(Nat.le_of_ble_eq_true rfl), (Nat.le_of_ble_eq_true rfl)⟩) (kz_preVM (wc := mW E Ad (mKeeps (put S 7 7 0) 0)) (va_recv hK hP (ci := 2) (q0 := 0) rfl rfl) hG hS hAN hP hD kz_nilP kz_nilA) rfl rfl hl.1 rfl (lv_room (Nat.le_of_ble_eq_true rfl)) dX3_skim_138 ⟨(Nat.le_of_ble_eq_true rfl), (Nat.le_of_ble_eq_true rfl)⟩) hP hD hS hA (fun u H9 locs9 hu hP9 hD9 hS9 hzz hkk => ?_)
            clear hzz hkk hP hD hS H locs u
            revert hS9 hD9 hP9 locs9 H9
            intro H locs hP hD hS
            replace hM : MOk (put (mKeeps (put S 7 7 0) 0) 0 (10 + 14 * k + 6) ((((S 0 ((10 + 14 * k + 6)))) + 1))) := hu
            clear hu
            replace hP : va_P (kD E) kcl (mW E Ad (put (mKeeps (put S 7 7 0) 0) 0 (10 + 14 * k + 6) ((((S 0 ((10 + 14 * k + 6)))) + 1)))) H := hP
            replace hD : va_D A (mW E Ad (put (mKeeps (put S 7 7 0) 0) 0 (10 + 14 * k + 6) ((((S 0 ((10 + 14 * k + 6)))) + 1)))) := hD
            show W p l e _ s m args below meth c H locs _ _ Q (F0 m 141 ls [])
            refine lv_aload_n hx hb dX3_skim_141 rfl (lv_at hl 1 rfl) ?_
            refine lv_iload_n hx hb dX3_skim_142 rfl (lv_at hl 2 rfl) ?_
            refine kz_bipush hx hb dX3_skim_143 (by decide) ?_
            refine lv_aload_n hx hb dX3_skim_145 rfl (lv_at hl 1 rfl) ?_
            refine lv_iload_n hx hb dX3_skim_146 rfl (lv_at hl 2 rfl) ?_
            refine kz_bipush hx hb dX3_skim_147 (by decide) ?_
            refine kz_backM (va_runV (As := [.int (zI (k)), .int (zI (7))]) (rest := [.int (zI (7)), .int (zI (k)), .ref (Ad 0)]) ⟨hx, hb, hml, hown, hts⟩ (mX3_of l E H.size Ad (put (mKeeps (put S 7 7 0) 0) 0 (10 + 14 * k + 6) ((((S 0 ((10 + 14 * k + 6)))) + 1))) hM k (by omega) 7 (by omega) (show 0 ≤ k ∧ k < 10 by first | omega | exact hI.st _ (by omega) (by omega) | exact hI.rv _ (by omega) (by omega) | exact hI) (show 0 ≤ 7 ∧ 7 < 14 by first | omega | exact hI.st _ (by omega) (by omega) | exact hI.rv _ (by omega) (by omega) | exact hI)) (cwV 2 hts (lw_V q2441 q2443 qs44 q83 q2444) rfl rfl rfl (by decide +kernel) ⟨(Nat.le_of_ble_eq_true rfl), (Nat.le_of_ble_eq_true rfl)⟩) (kz_preVM (wc := mW E Ad (put (mKeeps (put S 7 7 0) 0) 0 (10 + 14 * k + 6) ((((S 0 ((10 + 14 * k + 6)))) + 1)))) (va_recv hK hP (ci := 2) (q0 := 0) rfl rfl) hG hS hAN hP hD kz_nilP kz_nilA) rfl rfl hl.1 rfl (lv_room (Nat.le_of_ble_eq_true rfl)) dX3_skim_149 ⟨(Nat.le_of_ble_eq_true rfl), (Nat.le_of_ble_eq_true rfl)⟩) hP hD hS hA (fun u H9 locs9 hu hP9 hD9 hS9 hzz hkk => ?_)
            clear hzz hkk hP hD hS H locs u
            revert hS9 hD9 hP9 locs9 H9
            intro H locs hP hD hS
            have r11 : rI (((put (mKeeps (put S 7 7 0) 0) 0 (10 + 14 * k + 6) ((((S 0 ((10 + 14 * k + 6)))) + 1))) 0 ((10 + 14 * k + 7)))) := hu
            clear hu
            replace hP : va_P (kD E) kcl (mW E Ad (put (mKeeps (put S 7 7 0) 0) 0 (10 + 14 * k + 6) ((((S 0 ((10 + 14 * k + 6)))) + 1)))) H := hP
            replace hD : va_D A (mW E Ad (put (mKeeps (put S 7 7 0) 0) 0 (10 + 14 * k + 6) ((((S 0 ((10 + 14 * k + 6)))) + 1)))) := hD
            show W p l e _ s m args below meth c H locs _ _ Q (F0 m 152 ls [.int (zI (((put (mKeeps (put S 7 7 0) 0) 0 (10 + 14 * k + 6) ((((S 0 ((10 + 14 * k + 6)))) + 1))) 0 ((10 + 14 * k + 7))))), .int (zI (7)), .int (zI (k)), .ref (Ad 0)])
            have q12 : (put (mKeeps (put S 7 7 0) 0) 0 (10 + 14 * k + 6) ((((S 0 ((10 + 14 * k + 6)))) + 1))) 0 (10 + 14 * k + 7) = S 0 (10 + 14 * k + 7) := by
              show uz ((mKeeps (put S 7 7 0) 0) 0) (10 + 14 * k + 6) ((((S 0 ((10 + 14 * k + 6)))) + 1)) (10 + 14 * k + 7) = _
              rw [uz_n (by omega)]
              all_goals rfl
            rw [q12]
            rw [q12] at r11
            refine lv_iload hx hb dX3_skim_152 (lv_at hl 6 rfl) ?_
            refine kz_iadd hx hb dX3_skim_154 ?_
            refine kz_backM (va_runV (As := [.int (zI (k)), .int (zI (7)), .int (zI ((S 0 (10 + 14 * k + 7)) + (skipsG (S 0) k river a sp)))]) (rest := []) ⟨hx, hb, hml, hown, hts⟩ (mX3_lays l E H.size Ad (put (mKeeps (put S 7 7 0) 0) 0 (10 + 14 * k + 6) ((((S 0 ((10 + 14 * k + 6)))) + 1))) hM k (by omega) 7 (by omega) ((S 0 (10 + 14 * k + 7)) + (skipsG (S 0) k river a sp)) (by omega) (show 0 ≤ k ∧ k < 10 by first | omega | exact hI.st _ (by omega) (by omega) | exact hI.rv _ (by omega) (by omega) | exact hI) (show 0 ≤ 7 ∧ 7 < 14 by first | omega | exact hI.st _ (by omega) (by omega) | exact hI.rv _ (by omega) (by omega) | exact hI)) (cwV 3 hts (lw_V q2409 q2411 qs39 q83 q2412) rfl rfl rfl (by decide +kernel) ⟨(Nat.le_of_ble_eq_true rfl), (Nat.le_of_ble_eq_true rfl)⟩) (kz_preVM (wc := mW E Ad (put (mKeeps (put S 7 7 0) 0) 0 (10 + 14 * k + 6) ((((S 0 ((10 + 14 * k + 6)))) + 1)))) (va_recv hK hP (ci := 2) (q0 := 0) rfl rfl) hG hS hAN hP hD kz_nilP kz_nilA) rfl rfl hl.1 rfl (lv_room (Nat.le_of_ble_eq_true rfl)) dX3_skim_155 ⟨(Nat.le_of_ble_eq_true rfl), (Nat.le_of_ble_eq_true rfl)⟩) hP hD hS hA (fun u H9 locs9 hu hP9 hD9 hS9 hzz hkk => ?_)
            clear hzz hkk hP hD hS H locs u
            revert hS9 hD9 hP9 locs9 H9
            intro H locs hP hD hS
            replace hM : MOk (put (put (mKeeps (put S 7 7 0) 0) 0 (10 + 14 * k + 6) ((((S 0 ((10 + 14 * k + 6)))) + 1))) 0 (10 + 14 * k + 7) (((S 0 (10 + 14 * k + 7)) + (skipsG (S 0) k river a sp)))) := hu
            clear hu
            replace hP : va_P (kD E) kcl (mW E Ad (put (put (mKeeps (put S 7 7 0) 0) 0 (10 + 14 * k + 6) ((((S 0 ((10 + 14 * k + 6)))) + 1))) 0 (10 + 14 * k + 7) (((S 0 (10 + 14 * k + 7)) + (skipsG (S 0) k river a sp))))) H := hP
            replace hD : va_D A (mW E Ad (put (put (mKeeps (put S 7 7 0) 0) 0 (10 + 14 * k + 6) ((((S 0 ((10 + 14 * k + 6)))) + 1))) 0 (10 + 14 * k + 7) (((S 0 (10 + 14 * k + 7)) + (skipsG (S 0) k river a sp))))) := hD
            show W p l e _ s m args below meth c H locs _ _ Q (F0 m 158 ls [])
            refine lv_aload_n hx hb dX3_skim_158 rfl (lv_at hl 1 rfl) ?_
            refine va_get (D := kD E) (ci := 2) (fs := mO Ad (put (put (mKeeps (put S 7 7 0) 0) 0 (10 + 14 * k + 6) ((((S 0 ((10 + 14 * k + 6)))) + 1))) 0 (10 + 14 * k + 7) (((S 0 (10 + 14 * k + 7)) + (skipsG (S 0) k river a sp))))) (v := .ref (Ad 1)) (C := RX3) (T := TX3) (N := 19) hx hb hts in_X3 hown hK hP 0 rfl rfl 0 (by decide) (hts _ q2320) (fun _ h9 => h9) rfl dX3_skim_159 ?_
            refine kz_iconst hx hb dX3_skim_162 ?_
            refine lv_dup2_11 hx hb dX3_skim_163 rfl rfl ?_
            refine kz_iald (cA := kA E 0) (n := 304) (g := (put (put (mKeeps (put S 7 7 0) 0) 0 (10 + 14 * k + 6) ((((S 0 ((10 + 14 * k + 6)))) + 1))) 0 (10 + 14 * k + 7) (((S 0 (10 + 14 * k + 7)) + (skipsG (S 0) k river a sp)))) 0) hx hb hK hP 1 0 rfl rfl (by omega) dX3_skim_164 ?_
            have r13 : rI ((put (put (mKeeps (put S 7 7 0) 0) 0 (10 + 14 * k + 6) ((((S 0 ((10 + 14 * k + 6)))) + 1))) 0 (10 + 14 * k + 7) (((S 0 (10 + 14 * k + 7)) + (skipsG (S 0) k river a sp)))) 0 5) := hM 0 5
            have q14 : (put (put (mKeeps (put S 7 7 0) 0) 0 (10 + 14 * k + 6) ((((S 0 ((10 + 14 * k + 6)))) + 1))) 0 (10 + 14 * k + 7) (((S 0 (10 + 14 * k + 7)) + (skipsG (S 0) k river a sp)))) 0 5 = S 0 5 := by
              show uz ((put (mKeeps (put S 7 7 0) 0) 0 (10 + 14 * k + 6) ((((S 0 ((10 + 14 * k + 6)))) + 1))) 0) (10 + 14 * k + 7) (((S 0 (10 + 14 * k + 7)) + (skipsG (S 0) k river a sp))) 5 = _
              rw [uz_n (by omega)]
              show uz ((mKeeps (put S 7 7 0) 0) 0) (10 + 14 * k + 6) ((((S 0 ((10 + 14 * k + 6)))) + 1)) 5 = _
              rw [uz_n (by omega)]
              all_goals rfl
            rw [q14]
            rw [q14] at r13
            refine kz_iconst hx hb dX3_skim_165 ?_
            refine kz_iadd hx hb dX3_skim_166 ?_
            refine kz_iast (cA := kA E 0) (n := 304) (g := (put (put (mKeeps (put S 7 7 0) 0) 0 (10 + 14 * k + 6) ((((S 0 ((10 + 14 * k + 6)))) + 1))) 0 (10 + 14 * k + 7) (((S 0 (10 + 14 * k + 7)) + (skipsG (S 0) k river a sp)))) 0) hx hb hK hP hD hS 1 0 rfl rfl (by omega) dX3_skim_167 (fun H9 locs9 hP9 hD9 hS9 => ?_)
            rw [mW_a0] at hP9 hD9
            clear hP hD hS H locs
            revert hS9 hD9 hP9 locs9 H9
            intro H locs hP hD hS
            replace hP : va_P (kD E) kcl (mW E Ad (put (put (put (mKeeps (put S 7 7 0) 0) 0 (10 + 14 * k + 6) ((((S 0 ((10 + 14 * k + 6)))) + 1))) 0 (10 + 14 * k + 7) (((S 0 (10 + 14 * k + 7)) + (skipsG (S 0) k river a sp)))) 0 5 ((S 0 5) + 1))) H := hP
            replace hD : va_D A (mW E Ad (put (put (put (mKeeps (put S 7 7 0) 0) 0 (10 + 14 * k + 6) ((((S 0 ((10 + 14 * k + 6)))) + 1))) 0 (10 + 14 * k + 7) (((S 0 (10 + 14 * k + 7)) + (skipsG (S 0) k river a sp)))) 0 5 ((S 0 5) + 1))) := hD
            replace hM : MOk (put (put (put (mKeeps (put S 7 7 0) 0) 0 (10 + 14 * k + 6) ((((S 0 ((10 + 14 * k + 6)))) + 1))) 0 (10 + 14 * k + 7) (((S 0 (10 + 14 * k + 7)) + (skipsG (S 0) k river a sp)))) 0 5 ((S 0 5) + 1)) := hM.put 0 _ (by omega)
            refine lv_aload_n hx hb dX3_skim_168 rfl (lv_at hl 1 rfl) ?_
            refine va_get (D := kD E) (ci := 2) (fs := mO Ad (put (put (put (mKeeps (put S 7 7 0) 0) 0 (10 + 14 * k + 6) ((((S 0 ((10 + 14 * k + 6)))) + 1))) 0 (10 + 14 * k + 7) (((S 0 (10 + 14 * k + 7)) + (skipsG (S 0) k river a sp)))) 0 5 ((S 0 5) + 1))) (v := .ref (Ad 1)) (C := RX3) (T := TX3) (N := 19) hx hb hts in_X3 hown hK hP 0 rfl rfl 0 (by decide) (hts _ q2320) (fun _ h9 => h9) rfl dX3_skim_169 ?_
            refine kz_bipush hx hb dX3_skim_172 (by decide) ?_
            refine lv_dup2_11 hx hb dX3_skim_174 rfl rfl ?_
            refine kz_iald (cA := kA E 0) (n := 304) (g := (put (put (put (mKeeps (put S 7 7 0) 0) 0 (10 + 14 * k + 6) ((((S 0 ((10 + 14 * k + 6)))) + 1))) 0 (10 + 14 * k + 7) (((S 0 (10 + 14 * k + 7)) + (skipsG (S 0) k river a sp)))) 0 5 ((S 0 5) + 1)) 0) hx hb hK hP 1 0 rfl rfl (by omega) dX3_skim_175 ?_
            have r15 : rI ((put (put (put (mKeeps (put S 7 7 0) 0) 0 (10 + 14 * k + 6) ((((S 0 ((10 + 14 * k + 6)))) + 1))) 0 (10 + 14 * k + 7) (((S 0 (10 + 14 * k + 7)) + (skipsG (S 0) k river a sp)))) 0 5 ((S 0 5) + 1)) 0 7) := hM 0 7
            have q16 : (put (put (put (mKeeps (put S 7 7 0) 0) 0 (10 + 14 * k + 6) ((((S 0 ((10 + 14 * k + 6)))) + 1))) 0 (10 + 14 * k + 7) (((S 0 (10 + 14 * k + 7)) + (skipsG (S 0) k river a sp)))) 0 5 ((S 0 5) + 1)) 0 7 = S 0 7 := by
              show (put (put (mKeeps (put S 7 7 0) 0) 0 (10 + 14 * k + 6) ((((S 0 ((10 + 14 * k + 6)))) + 1))) 0 (10 + 14 * k + 7) (((S 0 (10 + 14 * k + 7)) + (skipsG (S 0) k river a sp)))) 0 7 = _
              show uz ((put (mKeeps (put S 7 7 0) 0) 0 (10 + 14 * k + 6) ((((S 0 ((10 + 14 * k + 6)))) + 1))) 0) (10 + 14 * k + 7) (((S 0 (10 + 14 * k + 7)) + (skipsG (S 0) k river a sp))) 7 = _
              rw [uz_n (by omega)]
              show uz ((mKeeps (put S 7 7 0) 0) 0) (10 + 14 * k + 6) ((((S 0 ((10 + 14 * k + 6)))) + 1)) 7 = _
              rw [uz_n (by omega)]
              all_goals rfl
            rw [q16]
            rw [q16] at r15
            refine lv_iload hx hb dX3_skim_176 (lv_at hl 6 rfl) ?_
            refine kz_iadd hx hb dX3_skim_178 ?_
            refine kz_iast (cA := kA E 0) (n := 304) (g := (put (put (put (mKeeps (put S 7 7 0) 0) 0 (10 + 14 * k + 6) ((((S 0 ((10 + 14 * k + 6)))) + 1))) 0 (10 + 14 * k + 7) (((S 0 (10 + 14 * k + 7)) + (skipsG (S 0) k river a sp)))) 0 5 ((S 0 5) + 1)) 0) hx hb hK hP hD hS 1 0 rfl rfl (by omega) dX3_skim_179 (fun H9 locs9 hP9 hD9 hS9 => ?_)
            rw [mW_a0] at hP9 hD9
            clear hP hD hS H locs
            revert hS9 hD9 hP9 locs9 H9
            intro H locs hP hD hS
            replace hP : va_P (kD E) kcl (mW E Ad (put (put (put (put (mKeeps (put S 7 7 0) 0) 0 (10 + 14 * k + 6) ((((S 0 ((10 + 14 * k + 6)))) + 1))) 0 (10 + 14 * k + 7) (((S 0 (10 + 14 * k + 7)) + (skipsG (S 0) k river a sp)))) 0 5 ((S 0 5) + 1)) 0 7 ((S 0 7) + (skipsG (S 0) k river a sp)))) H := hP
            replace hD : va_D A (mW E Ad (put (put (put (put (mKeeps (put S 7 7 0) 0) 0 (10 + 14 * k + 6) ((((S 0 ((10 + 14 * k + 6)))) + 1))) 0 (10 + 14 * k + 7) (((S 0 (10 + 14 * k + 7)) + (skipsG (S 0) k river a sp)))) 0 5 ((S 0 5) + 1)) 0 7 ((S 0 7) + (skipsG (S 0) k river a sp)))) := hD
            replace hM : MOk (put (put (put (put (mKeeps (put S 7 7 0) 0) 0 (10 + 14 * k + 6) ((((S 0 ((10 + 14 * k + 6)))) + 1))) 0 (10 + 14 * k + 7) (((S 0 (10 + 14 * k + 7)) + (skipsG (S 0) k river a sp)))) 0 5 ((S 0 5) + 1)) 0 7 ((S 0 7) + (skipsG (S 0) k river a sp))) := hM.put 0 _ (by omega)
            refine lv_aload_n hx hb dX3_skim_180 rfl (lv_at hl 1 rfl) ?_
            refine lv_iload_n hx hb dX3_skim_181 rfl (lv_at hl 3 rfl) ?_
            refine kz_iconst hx hb dX3_skim_182 ?_
            refine kz_backM (va_runV (As := [.int (zI (river)), .int (zI (3))]) (rest := []) ⟨hx, hb, hml, hown, hts⟩ (mX3_its l E H.size Ad (put (put (put (put (mKeeps (put S 7 7 0) 0) 0 (10 + 14 * k + 6) ((((S 0 ((10 + 14 * k + 6)))) + 1))) 0 (10 + 14 * k + 7) (((S 0 (10 + 14 * k + 7)) + (skipsG (S 0) k river a sp)))) 0 5 ((S 0 5) + 1)) 0 7 ((S 0 7) + (skipsG (S 0) k river a sp))) hM river (by omega) 3 (by omega) (show 0 ≤ river ∧ river < 4 by first | omega | exact hI.st _ (by omega) (by omega) | exact hI.rv _ (by omega) (by omega) | exact hI) (show 0 ≤ 3 ∧ 3 < 6 by first | omega | exact hI.st _ (by omega) (by omega) | exact hI.rv _ (by omega) (by omega) | exact hI)) (cwV 2 hts (lw_V q2425 q2427 qs41 q83 q2428) rfl rfl rfl (by decide +kernel) ⟨(Nat.le_of_ble_eq_true rfl), (Nat.le_of_ble_eq_true rfl)⟩) (kz_preVM (wc := mW E Ad (put (put (put (put (mKeeps (put S 7 7 0) 0) 0 (10 + 14 * k + 6) ((((S 0 ((10 + 14 * k + 6)))) + 1))) 0 (10 + 14 * k + 7) (((S 0 (10 + 14 * k + 7)) + (skipsG (S 0) k river a sp)))) 0 5 ((S 0 5) + 1)) 0 7 ((S 0 7) + (skipsG (S 0) k river a sp)))) (va_recv hK hP (ci := 2) (q0 := 0) rfl rfl) hG hS hAN hP hD kz_nilP kz_nilA) rfl rfl hl.1 rfl (lv_room (Nat.le_of_ble_eq_true rfl)) dX3_skim_183 ⟨(Nat.le_of_ble_eq_true rfl), (Nat.le_of_ble_eq_true rfl)⟩) hP hD hS hA (fun u H9 locs9 hu hP9 hD9 hS9 hzz hkk => ?_)
            clear hzz hkk hP hD hS H locs u
            revert hS9 hD9 hP9 locs9 H9
            intro H locs hP hD hS
            have r17 : rI (((put (put (put (put (mKeeps (put S 7 7 0) 0) 0 (10 + 14 * k + 6) ((((S 0 ((10 + 14 * k + 6)))) + 1))) 0 (10 + 14 * k + 7) (((S 0 (10 + 14 * k + 7)) + (skipsG (S 0) k river a sp)))) 0 5 ((S 0 5) + 1)) 0 7 ((S 0 7) + (skipsG (S 0) k river a sp))) 0 ((150 + 6 * river + 3)))) := hu
            clear hu
            replace hP : va_P (kD E) kcl (mW E Ad (put (put (put (put (mKeeps (put S 7 7 0) 0) 0 (10 + 14 * k + 6) ((((S 0 ((10 + 14 * k + 6)))) + 1))) 0 (10 + 14 * k + 7) (((S 0 (10 + 14 * k + 7)) + (skipsG (S 0) k river a sp)))) 0 5 ((S 0 5) + 1)) 0 7 ((S 0 7) + (skipsG (S 0) k river a sp)))) H := hP
            replace hD : va_D A (mW E Ad (put (put (put (put (mKeeps (put S 7 7 0) 0) 0 (10 + 14 * k + 6) ((((S 0 ((10 + 14 * k + 6)))) + 1))) 0 (10 + 14 * k + 7) (((S 0 (10 + 14 * k + 7)) + (skipsG (S 0) k river a sp)))) 0 5 ((S 0 5) + 1)) 0 7 ((S 0 7) + (skipsG (S 0) k river a sp)))) := hD
            show W p l e _ s m args below meth c H locs _ _ Q (F0 m 186 ls [.int (zI (((put (put (put (put (mKeeps (put S 7 7 0) 0) 0 (10 + 14 * k + 6) ((((S 0 ((10 + 14 * k + 6)))) + 1))) 0 (10 + 14 * k + 7) (((S 0 (10 + 14 * k + 7)) + (skipsG (S 0) k river a sp)))) 0 5 ((S 0 5) + 1)) 0 7 ((S 0 7) + (skipsG (S 0) k river a sp))) 0 ((150 + 6 * river + 3)))))])
            have q18 : (put (put (put (put (mKeeps (put S 7 7 0) 0) 0 (10 + 14 * k + 6) ((((S 0 ((10 + 14 * k + 6)))) + 1))) 0 (10 + 14 * k + 7) (((S 0 (10 + 14 * k + 7)) + (skipsG (S 0) k river a sp)))) 0 5 ((S 0 5) + 1)) 0 7 ((S 0 7) + (skipsG (S 0) k river a sp))) 0 (150 + 6 * river + 3) = S 0 (150 + 6 * river + 3) := by
              show uz ((put (put (put (mKeeps (put S 7 7 0) 0) 0 (10 + 14 * k + 6) ((((S 0 ((10 + 14 * k + 6)))) + 1))) 0 (10 + 14 * k + 7) (((S 0 (10 + 14 * k + 7)) + (skipsG (S 0) k river a sp)))) 0 5 ((S 0 5) + 1)) 0) 7 ((S 0 7) + (skipsG (S 0) k river a sp)) (150 + 6 * river + 3) = _
              rw [uz_n (by omega)]
              show uz ((put (put (mKeeps (put S 7 7 0) 0) 0 (10 + 14 * k + 6) ((((S 0 ((10 + 14 * k + 6)))) + 1))) 0 (10 + 14 * k + 7) (((S 0 (10 + 14 * k + 7)) + (skipsG (S 0) k river a sp)))) 0) 5 ((S 0 5) + 1) (150 + 6 * river + 3) = _
              rw [uz_n (by omega)]
              show uz ((put (mKeeps (put S 7 7 0) 0) 0 (10 + 14 * k + 6) ((((S 0 ((10 + 14 * k + 6)))) + 1))) 0) (10 + 14 * k + 7) (((S 0 (10 + 14 * k + 7)) + (skipsG (S 0) k river a sp))) (150 + 6 * river + 3) = _
              rw [uz_n (by omega)]
              show uz ((mKeeps (put S 7 7 0) 0) 0) (10 + 14 * k + 6) ((((S 0 ((10 + 14 * k + 6)))) + 1)) (150 + 6 * river + 3) = _
              rw [uz_n (by omega)]
              all_goals rfl
            rw [q18]
            refine kz_if_lt (tgt := 200) hx hb dX3_skim_186 (by decide) (by omega) (fun c186 => ?_) (fun c186 => ?_)
            · skip
              refine lv_aload_n hx hb dX3_skim_200 rfl (lv_at hl 1 rfl) ?_
              refine va_get (D := kD E) (ci := 2) (fs := mO Ad (put (put (put (put (mKeeps (put S 7 7 0) 0) 0 (10 + 14 * k + 6) ((((S 0 ((10 + 14 * k + 6)))) + 1))) 0 (10 + 14 * k + 7) (((S 0 (10 + 14 * k + 7)) + (skipsG (S 0) k river a sp)))) 0 5 ((S 0 5) + 1)) 0 7 ((S 0 7) + (skipsG (S 0) k river a sp)))) (v := .ref (Ad 1)) (C := RX3) (T := TX3) (N := 19) hx hb hts in_X3 hown hK hP 0 rfl rfl 0 (by decide) (hts _ q2320) (fun _ h9 => h9) rfl dX3_skim_201 ?_
              refine kz_sipush hx hb dX3_skim_204 (by decide) ?_
              refine kz_bipush hx hb dX3_skim_207 (by decide) ?_
              refine lv_iload_n hx hb dX3_skim_209 rfl (lv_at hl 3 rfl) ?_
              refine kz_imul hx hb dX3_skim_210 ?_
              refine kz_iadd hx hb dX3_skim_211 ?_
              refine kz_iconst hx hb dX3_skim_212 ?_
              refine kz_iadd hx hb dX3_skim_213 ?_
              refine lv_iload hx hb dX3_skim_214 (lv_at hl 6 rfl) ?_
              refine kz_iast (cA := kA E 0) (n := 304) (g := (put (put (put (put (mKeeps (put S 7 7 0) 0) 0 (10 + 14 * k + 6) ((((S 0 ((10 + 14 * k + 6)))) + 1))) 0 (10 + 14 * k + 7) (((S 0 (10 + 14 * k + 7)) + (skipsG (S 0) k river a sp)))) 0 5 ((S 0 5) + 1)) 0 7 ((S 0 7) + (skipsG (S 0) k river a sp))) 0) hx hb hK hP hD hS 1 0 rfl rfl (by omega) dX3_skim_216 (fun H9 locs9 hP9 hD9 hS9 => ?_)
              rw [mW_a0] at hP9 hD9
              clear hP hD hS H locs
              revert hS9 hD9 hP9 locs9 H9
              intro H locs hP hD hS
              replace hP : va_P (kD E) kcl (mW E Ad (put (put (put (put (put (mKeeps (put S 7 7 0) 0) 0 (10 + 14 * k + 6) ((((S 0 ((10 + 14 * k + 6)))) + 1))) 0 (10 + 14 * k + 7) (((S 0 (10 + 14 * k + 7)) + (skipsG (S 0) k river a sp)))) 0 5 ((S 0 5) + 1)) 0 7 ((S 0 7) + (skipsG (S 0) k river a sp))) 0 ((150 + (6 * river)) + 2) (skipsG (S 0) k river a sp))) H := hP
              replace hD : va_D A (mW E Ad (put (put (put (put (put (mKeeps (put S 7 7 0) 0) 0 (10 + 14 * k + 6) ((((S 0 ((10 + 14 * k + 6)))) + 1))) 0 (10 + 14 * k + 7) (((S 0 (10 + 14 * k + 7)) + (skipsG (S 0) k river a sp)))) 0 5 ((S 0 5) + 1)) 0 7 ((S 0 7) + (skipsG (S 0) k river a sp))) 0 ((150 + (6 * river)) + 2) (skipsG (S 0) k river a sp))) := hD
              replace hM : MOk (put (put (put (put (put (mKeeps (put S 7 7 0) 0) 0 (10 + 14 * k + 6) ((((S 0 ((10 + 14 * k + 6)))) + 1))) 0 (10 + 14 * k + 7) (((S 0 (10 + 14 * k + 7)) + (skipsG (S 0) k river a sp)))) 0 5 ((S 0 5) + 1)) 0 7 ((S 0 7) + (skipsG (S 0) k river a sp))) 0 ((150 + (6 * river)) + 2) (skipsG (S 0) k river a sp)) := hM.put 0 _ (by omega)
              refine lv_aload_n hx hb dX3_skim_217 rfl (lv_at hl 1 rfl) ?_
              refine va_get (D := kD E) (ci := 2) (fs := mO Ad (put (put (put (put (put (mKeeps (put S 7 7 0) 0) 0 (10 + 14 * k + 6) ((((S 0 ((10 + 14 * k + 6)))) + 1))) 0 (10 + 14 * k + 7) (((S 0 (10 + 14 * k + 7)) + (skipsG (S 0) k river a sp)))) 0 5 ((S 0 5) + 1)) 0 7 ((S 0 7) + (skipsG (S 0) k river a sp))) 0 ((150 + (6 * river)) + 2) (skipsG (S 0) k river a sp))) (v := .ref (Ad 1)) (C := RX3) (T := TX3) (N := 19) hx hb hts in_X3 hown hK hP 0 rfl rfl 0 (by decide) (hts _ q2320) (fun _ h9 => h9) rfl dX3_skim_218 ?_
              refine kz_sipush hx hb dX3_skim_221 (by decide) ?_
              refine kz_bipush hx hb dX3_skim_224 (by decide) ?_
              refine lv_iload_n hx hb dX3_skim_226 rfl (lv_at hl 3 rfl) ?_
              refine kz_imul hx hb dX3_skim_227 ?_
              refine kz_iadd hx hb dX3_skim_228 ?_
              refine kz_iconst hx hb dX3_skim_229 ?_
              refine kz_iadd hx hb dX3_skim_230 ?_
              refine lv_iload_n hx hb dX3_skim_231 rfl (lv_at hl 2 rfl) ?_
              refine kz_iast (cA := kA E 0) (n := 304) (g := (put (put (put (put (put (mKeeps (put S 7 7 0) 0) 0 (10 + 14 * k + 6) ((((S 0 ((10 + 14 * k + 6)))) + 1))) 0 (10 + 14 * k + 7) (((S 0 (10 + 14 * k + 7)) + (skipsG (S 0) k river a sp)))) 0 5 ((S 0 5) + 1)) 0 7 ((S 0 7) + (skipsG (S 0) k river a sp))) 0 ((150 + (6 * river)) + 2) (skipsG (S 0) k river a sp)) 0) hx hb hK hP hD hS 1 0 rfl rfl (by omega) dX3_skim_232 (fun H9 locs9 hP9 hD9 hS9 => ?_)
              rw [mW_a0] at hP9 hD9
              clear hP hD hS H locs
              revert hS9 hD9 hP9 locs9 H9
              intro H locs hP hD hS
              replace hP : va_P (kD E) kcl (mW E Ad (put (put (put (put (put (put (mKeeps (put S 7 7 0) 0) 0 (10 + 14 * k + 6) ((((S 0 ((10 + 14 * k + 6)))) + 1))) 0 (10 + 14 * k + 7) (((S 0 (10 + 14 * k + 7)) + (skipsG (S 0) k river a sp)))) 0 5 ((S 0 5) + 1)) 0 7 ((S 0 7) + (skipsG (S 0) k river a sp))) 0 ((150 + (6 * river)) + 2) (skipsG (S 0) k river a sp)) 0 ((150 + (6 * river)) + 3) k)) H := hP
              replace hD : va_D A (mW E Ad (put (put (put (put (put (put (mKeeps (put S 7 7 0) 0) 0 (10 + 14 * k + 6) ((((S 0 ((10 + 14 * k + 6)))) + 1))) 0 (10 + 14 * k + 7) (((S 0 (10 + 14 * k + 7)) + (skipsG (S 0) k river a sp)))) 0 5 ((S 0 5) + 1)) 0 7 ((S 0 7) + (skipsG (S 0) k river a sp))) 0 ((150 + (6 * river)) + 2) (skipsG (S 0) k river a sp)) 0 ((150 + (6 * river)) + 3) k)) := hD
              replace hM : MOk (put (put (put (put (put (put (mKeeps (put S 7 7 0) 0) 0 (10 + 14 * k + 6) ((((S 0 ((10 + 14 * k + 6)))) + 1))) 0 (10 + 14 * k + 7) (((S 0 (10 + 14 * k + 7)) + (skipsG (S 0) k river a sp)))) 0 5 ((S 0 5) + 1)) 0 7 ((S 0 7) + (skipsG (S 0) k river a sp))) 0 ((150 + (6 * river)) + 2) (skipsG (S 0) k river a sp)) 0 ((150 + (6 * river)) + 3) k) := hM.put 0 _ (by omega)
              refine lv_iload hx hb dX3_skim_233 (lv_at hl 0 rfl) ?_
              refine kz_if0B (tgt := 279) hx hb dX3_skim_235 (by decide) (fun c235 => ?_) (fun c235 => ?_)
              · skip
                refine lv_aload_n hx hb dX3_skim_279 rfl (lv_at hl 1 rfl) ?_
                refine lv_iload_n hx hb dX3_skim_280 rfl (lv_at hl 2 rfl) ?_
                refine kz_iconst hx hb dX3_skim_281 ?_
                refine kz_bipush hx hb dX3_skim_282 (by decide) ?_
                refine kz_backM (va_runV (As := [.int (zI (k)), .int (zI (5)), .int (zI ((-2)))]) (rest := []) ⟨hx, hb, hml, hown, hts⟩ (mX3_lays l E H.size Ad (put (put (put (put (put (put (mKeeps (put S 7 7 0) 0) 0 (10 + 14 * k + 6) ((((S 0 ((10 + 14 * k + 6)))) + 1))) 0 (10 + 14 * k + 7) (((S 0 (10 + 14 * k + 7)) + (skipsG (S 0) k river a sp)))) 0 5 ((S 0 5) + 1)) 0 7 ((S 0 7) + (skipsG (S 0) k river a sp))) 0 ((150 + (6 * river)) + 2) (skipsG (S 0) k river a sp)) 0 ((150 + (6 * river)) + 3) k) hM k (by omega) 5 (by omega) ((-2)) (by omega) (show 0 ≤ k ∧ k < 10 by first | omega | exact hI.st _ (by omega) (by omega) | exact hI.rv _ (by omega) (by omega) | exact hI) (show 0 ≤ 5 ∧ 5 < 14 by first | omega | exact hI.st _ (by omega) (by omega) | exact hI.rv _ (by omega) (by omega) | exact hI)) (cwV 3 hts (lw_V q2409 q2411 qs39 q83 q2412) rfl rfl rfl (by decide +kernel) ⟨(Nat.le_of_ble_eq_true rfl), (Nat.le_of_ble_eq_true rfl)⟩) (kz_preVM (wc := mW E Ad (put (put (put (put (put (put (mKeeps (put S 7 7 0) 0) 0 (10 + 14 * k + 6) ((((S 0 ((10 + 14 * k + 6)))) + 1))) 0 (10 + 14 * k + 7) (((S 0 (10 + 14 * k + 7)) + (skipsG (S 0) k river a sp)))) 0 5 ((S 0 5) + 1)) 0 7 ((S 0 7) + (skipsG (S 0) k river a sp))) 0 ((150 + (6 * river)) + 2) (skipsG (S 0) k river a sp)) 0 ((150 + (6 * river)) + 3) k)) (va_recv hK hP (ci := 2) (q0 := 0) rfl rfl) hG hS hAN hP hD kz_nilP kz_nilA) rfl rfl hl.1 rfl (lv_room (Nat.le_of_ble_eq_true rfl)) dX3_skim_284 ⟨(Nat.le_of_ble_eq_true rfl), (Nat.le_of_ble_eq_true rfl)⟩) hP hD hS hA (fun u H9 locs9 hu hP9 hD9 hS9 hzz hkk => ?_)
                clear hzz hkk hP hD hS H locs u
                revert hS9 hD9 hP9 locs9 H9
                intro H locs hP hD hS
                replace hM : MOk (put (put (put (put (put (put (put (mKeeps (put S 7 7 0) 0) 0 (10 + 14 * k + 6) ((((S 0 ((10 + 14 * k + 6)))) + 1))) 0 (10 + 14 * k + 7) (((S 0 (10 + 14 * k + 7)) + (skipsG (S 0) k river a sp)))) 0 5 ((S 0 5) + 1)) 0 7 ((S 0 7) + (skipsG (S 0) k river a sp))) 0 ((150 + (6 * river)) + 2) (skipsG (S 0) k river a sp)) 0 ((150 + (6 * river)) + 3) k) 0 (10 + 14 * k + 5) (((-2)))) := hu
                clear hu
                replace hP : va_P (kD E) kcl (mW E Ad (put (put (put (put (put (put (put (mKeeps (put S 7 7 0) 0) 0 (10 + 14 * k + 6) ((((S 0 ((10 + 14 * k + 6)))) + 1))) 0 (10 + 14 * k + 7) (((S 0 (10 + 14 * k + 7)) + (skipsG (S 0) k river a sp)))) 0 5 ((S 0 5) + 1)) 0 7 ((S 0 7) + (skipsG (S 0) k river a sp))) 0 ((150 + (6 * river)) + 2) (skipsG (S 0) k river a sp)) 0 ((150 + (6 * river)) + 3) k) 0 (10 + 14 * k + 5) (((-2))))) H := hP
                replace hD : va_D A (mW E Ad (put (put (put (put (put (put (put (mKeeps (put S 7 7 0) 0) 0 (10 + 14 * k + 6) ((((S 0 ((10 + 14 * k + 6)))) + 1))) 0 (10 + 14 * k + 7) (((S 0 (10 + 14 * k + 7)) + (skipsG (S 0) k river a sp)))) 0 5 ((S 0 5) + 1)) 0 7 ((S 0 7) + (skipsG (S 0) k river a sp))) 0 ((150 + (6 * river)) + 2) (skipsG (S 0) k river a sp)) 0 ((150 + (6 * river)) + 3) k) 0 (10 + 14 * k + 5) (((-2))))) := hD
                show W p l e _ s m args below meth c H locs _ _ Q (F0 m 287 ls [])
                refine lv_aload_n hx hb dX3_skim_287 rfl (lv_at hl 1 rfl) ?_
                refine lv_iload_n hx hb dX3_skim_288 rfl (lv_at hl 2 rfl) ?_
                refine kz_bipush hx hb dX3_skim_289 (by decide) ?_
                refine lv_aload_n hx hb dX3_skim_291 rfl (lv_at hl 1 rfl) ?_
                refine va_get (D := kD E) (ci := 2) (fs := mO Ad (put (put (put (put (put (put (put (mKeeps (put S 7 7 0) 0) 0 (10 + 14 * k + 6) ((((S 0 ((10 + 14 * k + 6)))) + 1))) 0 (10 + 14 * k + 7) (((S 0 (10 + 14 * k + 7)) + (skipsG (S 0) k river a sp)))) 0 5 ((S 0 5) + 1)) 0 7 ((S 0 7) + (skipsG (S 0) k river a sp))) 0 ((150 + (6 * river)) + 2) (skipsG (S 0) k river a sp)) 0 ((150 + (6 * river)) + 3) k) 0 (10 + 14 * k + 5) (((-2))))) (v := .ref (Ad 1)) (C := RX3) (T := TX3) (N := 19) hx hb hts in_X3 hown hK hP 0 rfl rfl 0 (by decide) (hts _ q2320) (fun _ h9 => h9) rfl dX3_skim_292 ?_
                refine kz_iconst hx hb dX3_skim_295 ?_
                refine kz_iald (cA := kA E 0) (n := 304) (g := (put (put (put (put (put (put (put (mKeeps (put S 7 7 0) 0) 0 (10 + 14 * k + 6) ((((S 0 ((10 + 14 * k + 6)))) + 1))) 0 (10 + 14 * k + 7) (((S 0 (10 + 14 * k + 7)) + (skipsG (S 0) k river a sp)))) 0 5 ((S 0 5) + 1)) 0 7 ((S 0 7) + (skipsG (S 0) k river a sp))) 0 ((150 + (6 * river)) + 2) (skipsG (S 0) k river a sp)) 0 ((150 + (6 * river)) + 3) k) 0 (10 + 14 * k + 5) (((-2)))) 0) hx hb hK hP 1 0 rfl rfl (by omega) dX3_skim_296 ?_
                have r19 : rI ((put (put (put (put (put (put (put (mKeeps (put S 7 7 0) 0) 0 (10 + 14 * k + 6) ((((S 0 ((10 + 14 * k + 6)))) + 1))) 0 (10 + 14 * k + 7) (((S 0 (10 + 14 * k + 7)) + (skipsG (S 0) k river a sp)))) 0 5 ((S 0 5) + 1)) 0 7 ((S 0 7) + (skipsG (S 0) k river a sp))) 0 ((150 + (6 * river)) + 2) (skipsG (S 0) k river a sp)) 0 ((150 + (6 * river)) + 3) k) 0 (10 + 14 * k + 5) (((-2)))) 0 2) := hM 0 2
                have q20 : (put (put (put (put (put (put (put (mKeeps (put S 7 7 0) 0) 0 (10 + 14 * k + 6) ((((S 0 ((10 + 14 * k + 6)))) + 1))) 0 (10 + 14 * k + 7) (((S 0 (10 + 14 * k + 7)) + (skipsG (S 0) k river a sp)))) 0 5 ((S 0 5) + 1)) 0 7 ((S 0 7) + (skipsG (S 0) k river a sp))) 0 ((150 + (6 * river)) + 2) (skipsG (S 0) k river a sp)) 0 ((150 + (6 * river)) + 3) k) 0 (10 + 14 * k + 5) (((-2)))) 0 2 = S 0 2 := by
                  show uz ((put (put (put (put (put (put (mKeeps (put S 7 7 0) 0) 0 (10 + 14 * k + 6) ((((S 0 ((10 + 14 * k + 6)))) + 1))) 0 (10 + 14 * k + 7) (((S 0 (10 + 14 * k + 7)) + (skipsG (S 0) k river a sp)))) 0 5 ((S 0 5) + 1)) 0 7 ((S 0 7) + (skipsG (S 0) k river a sp))) 0 ((150 + (6 * river)) + 2) (skipsG (S 0) k river a sp)) 0 ((150 + (6 * river)) + 3) k) 0) (10 + 14 * k + 5) (((-2))) 2 = _
                  rw [uz_n (by omega)]
                  show uz ((put (put (put (put (put (mKeeps (put S 7 7 0) 0) 0 (10 + 14 * k + 6) ((((S 0 ((10 + 14 * k + 6)))) + 1))) 0 (10 + 14 * k + 7) (((S 0 (10 + 14 * k + 7)) + (skipsG (S 0) k river a sp)))) 0 5 ((S 0 5) + 1)) 0 7 ((S 0 7) + (skipsG (S 0) k river a sp))) 0 ((150 + (6 * river)) + 2) (skipsG (S 0) k river a sp)) 0) ((150 + (6 * river)) + 3) k 2 = _
                  rw [uz_n (by omega)]
                  show uz ((put (put (put (put (mKeeps (put S 7 7 0) 0) 0 (10 + 14 * k + 6) ((((S 0 ((10 + 14 * k + 6)))) + 1))) 0 (10 + 14 * k + 7) (((S 0 (10 + 14 * k + 7)) + (skipsG (S 0) k river a sp)))) 0 5 ((S 0 5) + 1)) 0 7 ((S 0 7) + (skipsG (S 0) k river a sp))) 0) ((150 + (6 * river)) + 2) (skipsG (S 0) k river a sp) 2 = _
                  rw [uz_n (by omega)]
                  show uz ((put (mKeeps (put S 7 7 0) 0) 0 (10 + 14 * k + 6) ((((S 0 ((10 + 14 * k + 6)))) + 1))) 0) (10 + 14 * k + 7) (((S 0 (10 + 14 * k + 7)) + (skipsG (S 0) k river a sp))) 2 = _
                  rw [uz_n (by omega)]
                  show uz ((mKeeps (put S 7 7 0) 0) 0) (10 + 14 * k + 6) ((((S 0 ((10 + 14 * k + 6)))) + 1)) 2 = _
                  rw [uz_n (by omega)]
                  all_goals rfl
                rw [q20]
                refine kz_backM (va_runV (As := [.int (zI (k)), .int (zI (10)), .int (zI (S 0 2))]) (rest := []) ⟨hx, hb, hml, hown, hts⟩ (mX3_lays l E H.size Ad (put (put (put (put (put (put (put (mKeeps (put S 7 7 0) 0) 0 (10 + 14 * k + 6) ((((S 0 ((10 + 14 * k + 6)))) + 1))) 0 (10 + 14 * k + 7) (((S 0 (10 + 14 * k + 7)) + (skipsG (S 0) k river a sp)))) 0 5 ((S 0 5) + 1)) 0 7 ((S 0 7) + (skipsG (S 0) k river a sp))) 0 ((150 + (6 * river)) + 2) (skipsG (S 0) k river a sp)) 0 ((150 + (6 * river)) + 3) k) 0 (10 + 14 * k + 5) (((-2)))) hM k (by omega) 10 (by omega) (S 0 2) (by omega) (show 0 ≤ k ∧ k < 10 by first | omega | exact hI.st _ (by omega) (by omega) | exact hI.rv _ (by omega) (by omega) | exact hI) (show 0 ≤ 10 ∧ 10 < 14 by first | omega | exact hI.st _ (by omega) (by omega) | exact hI.rv _ (by omega) (by omega) | exact hI)) (cwV 3 hts (lw_V q2409 q2411 qs39 q83 q2412) rfl rfl rfl (by decide +kernel) ⟨(Nat.le_of_ble_eq_true rfl), (Nat.le_of_ble_eq_true rfl)⟩) (kz_preVM (wc := mW E Ad (put (put (put (put (put (put (put (mKeeps (put S 7 7 0) 0) 0 (10 + 14 * k + 6) ((((S 0 ((10 + 14 * k + 6)))) + 1))) 0 (10 + 14 * k + 7) (((S 0 (10 + 14 * k + 7)) + (skipsG (S 0) k river a sp)))) 0 5 ((S 0 5) + 1)) 0 7 ((S 0 7) + (skipsG (S 0) k river a sp))) 0 ((150 + (6 * river)) + 2) (skipsG (S 0) k river a sp)) 0 ((150 + (6 * river)) + 3) k) 0 (10 + 14 * k + 5) (((-2))))) (va_recv hK hP (ci := 2) (q0 := 0) rfl rfl) hG hS hAN hP hD kz_nilP kz_nilA) rfl rfl hl.1 rfl (lv_room (Nat.le_of_ble_eq_true rfl)) dX3_skim_297 ⟨(Nat.le_of_ble_eq_true rfl), (Nat.le_of_ble_eq_true rfl)⟩) hP hD hS hA (fun u H9 locs9 hu hP9 hD9 hS9 hzz hkk => ?_)
                clear hzz hkk hP hD hS H locs u
                revert hS9 hD9 hP9 locs9 H9
                intro H locs hP hD hS
                replace hM : MOk (put (put (put (put (put (put (put (put (mKeeps (put S 7 7 0) 0) 0 (10 + 14 * k + 6) ((((S 0 ((10 + 14 * k + 6)))) + 1))) 0 (10 + 14 * k + 7) (((S 0 (10 + 14 * k + 7)) + (skipsG (S 0) k river a sp)))) 0 5 ((S 0 5) + 1)) 0 7 ((S 0 7) + (skipsG (S 0) k river a sp))) 0 ((150 + (6 * river)) + 2) (skipsG (S 0) k river a sp)) 0 ((150 + (6 * river)) + 3) k) 0 (10 + 14 * k + 5) (((-2)))) 0 (10 + 14 * k + 10) ((S 0 2))) := hu
                clear hu
                replace hP : va_P (kD E) kcl (mW E Ad (put (put (put (put (put (put (put (put (mKeeps (put S 7 7 0) 0) 0 (10 + 14 * k + 6) ((((S 0 ((10 + 14 * k + 6)))) + 1))) 0 (10 + 14 * k + 7) (((S 0 (10 + 14 * k + 7)) + (skipsG (S 0) k river a sp)))) 0 5 ((S 0 5) + 1)) 0 7 ((S 0 7) + (skipsG (S 0) k river a sp))) 0 ((150 + (6 * river)) + 2) (skipsG (S 0) k river a sp)) 0 ((150 + (6 * river)) + 3) k) 0 (10 + 14 * k + 5) (((-2)))) 0 (10 + 14 * k + 10) ((S 0 2)))) H := hP
                replace hD : va_D A (mW E Ad (put (put (put (put (put (put (put (put (mKeeps (put S 7 7 0) 0) 0 (10 + 14 * k + 6) ((((S 0 ((10 + 14 * k + 6)))) + 1))) 0 (10 + 14 * k + 7) (((S 0 (10 + 14 * k + 7)) + (skipsG (S 0) k river a sp)))) 0 5 ((S 0 5) + 1)) 0 7 ((S 0 7) + (skipsG (S 0) k river a sp))) 0 ((150 + (6 * river)) + 2) (skipsG (S 0) k river a sp)) 0 ((150 + (6 * river)) + 3) k) 0 (10 + 14 * k + 5) (((-2)))) 0 (10 + 14 * k + 10) ((S 0 2)))) := hD
                show W p l e _ s m args below meth c H locs _ _ Q (F0 m 300 ls [])
                refine lv_aload_n hx hb dX3_skim_300 rfl (lv_at hl 1 rfl) ?_
                refine va_get (D := kD E) (ci := 2) (fs := mO Ad (put (put (put (put (put (put (put (put (mKeeps (put S 7 7 0) 0) 0 (10 + 14 * k + 6) ((((S 0 ((10 + 14 * k + 6)))) + 1))) 0 (10 + 14 * k + 7) (((S 0 (10 + 14 * k + 7)) + (skipsG (S 0) k river a sp)))) 0 5 ((S 0 5) + 1)) 0 7 ((S 0 7) + (skipsG (S 0) k river a sp))) 0 ((150 + (6 * river)) + 2) (skipsG (S 0) k river a sp)) 0 ((150 + (6 * river)) + 3) k) 0 (10 + 14 * k + 5) (((-2)))) 0 (10 + 14 * k + 10) ((S 0 2)))) (v := .ref (Ad 1)) (C := RX3) (T := TX3) (N := 19) hx hb hts in_X3 hown hK hP 0 rfl rfl 0 (by decide) (hts _ q2320) (fun _ h9 => h9) rfl dX3_skim_301 ?_
                refine kz_sipush hx hb dX3_skim_304 (by decide) ?_
                refine kz_bipush hx hb dX3_skim_307 (by decide) ?_
                refine lv_iload_n hx hb dX3_skim_309 rfl (lv_at hl 3 rfl) ?_
                refine kz_imul hx hb dX3_skim_310 ?_
                refine kz_iadd hx hb dX3_skim_311 ?_
                refine kz_iconst hx hb dX3_skim_312 ?_
                refine kz_iadd hx hb dX3_skim_313 ?_
                refine lv_dup2_11 hx hb dX3_skim_314 rfl rfl ?_
                refine kz_iald (cA := kA E 0) (n := 304) (g := (put (put (put (put (put (put (put (put (mKeeps (put S 7 7 0) 0) 0 (10 + 14 * k + 6) ((((S 0 ((10 + 14 * k + 6)))) + 1))) 0 (10 + 14 * k + 7) (((S 0 (10 + 14 * k + 7)) + (skipsG (S 0) k river a sp)))) 0 5 ((S 0 5) + 1)) 0 7 ((S 0 7) + (skipsG (S 0) k river a sp))) 0 ((150 + (6 * river)) + 2) (skipsG (S 0) k river a sp)) 0 ((150 + (6 * river)) + 3) k) 0 (10 + 14 * k + 5) (((-2)))) 0 (10 + 14 * k + 10) ((S 0 2))) 0) hx hb hK hP 1 0 rfl rfl (by omega) dX3_skim_315 ?_
                have r21 : rI ((put (put (put (put (put (put (put (put (mKeeps (put S 7 7 0) 0) 0 (10 + 14 * k + 6) ((((S 0 ((10 + 14 * k + 6)))) + 1))) 0 (10 + 14 * k + 7) (((S 0 (10 + 14 * k + 7)) + (skipsG (S 0) k river a sp)))) 0 5 ((S 0 5) + 1)) 0 7 ((S 0 7) + (skipsG (S 0) k river a sp))) 0 ((150 + (6 * river)) + 2) (skipsG (S 0) k river a sp)) 0 ((150 + (6 * river)) + 3) k) 0 (10 + 14 * k + 5) (((-2)))) 0 (10 + 14 * k + 10) ((S 0 2))) 0 ((150 + (6 * river)) + 4)) := hM 0 ((150 + (6 * river)) + 4)
                have q22 : (put (put (put (put (put (put (put (put (mKeeps (put S 7 7 0) 0) 0 (10 + 14 * k + 6) ((((S 0 ((10 + 14 * k + 6)))) + 1))) 0 (10 + 14 * k + 7) (((S 0 (10 + 14 * k + 7)) + (skipsG (S 0) k river a sp)))) 0 5 ((S 0 5) + 1)) 0 7 ((S 0 7) + (skipsG (S 0) k river a sp))) 0 ((150 + (6 * river)) + 2) (skipsG (S 0) k river a sp)) 0 ((150 + (6 * river)) + 3) k) 0 (10 + 14 * k + 5) (((-2)))) 0 (10 + 14 * k + 10) ((S 0 2))) 0 ((150 + (6 * river)) + 4) = S 0 ((150 + (6 * river)) + 4) := by
                  show uz ((put (put (put (put (put (put (put (mKeeps (put S 7 7 0) 0) 0 (10 + 14 * k + 6) ((((S 0 ((10 + 14 * k + 6)))) + 1))) 0 (10 + 14 * k + 7) (((S 0 (10 + 14 * k + 7)) + (skipsG (S 0) k river a sp)))) 0 5 ((S 0 5) + 1)) 0 7 ((S 0 7) + (skipsG (S 0) k river a sp))) 0 ((150 + (6 * river)) + 2) (skipsG (S 0) k river a sp)) 0 ((150 + (6 * river)) + 3) k) 0 (10 + 14 * k + 5) (((-2)))) 0) (10 + 14 * k + 10) ((S 0 2)) ((150 + (6 * river)) + 4) = _
                  rw [uz_n (by omega)]
                  show uz ((put (put (put (put (put (put (mKeeps (put S 7 7 0) 0) 0 (10 + 14 * k + 6) ((((S 0 ((10 + 14 * k + 6)))) + 1))) 0 (10 + 14 * k + 7) (((S 0 (10 + 14 * k + 7)) + (skipsG (S 0) k river a sp)))) 0 5 ((S 0 5) + 1)) 0 7 ((S 0 7) + (skipsG (S 0) k river a sp))) 0 ((150 + (6 * river)) + 2) (skipsG (S 0) k river a sp)) 0 ((150 + (6 * river)) + 3) k) 0) (10 + 14 * k + 5) (((-2))) ((150 + (6 * river)) + 4) = _
                  rw [uz_n (by omega)]
                  show uz ((put (put (put (put (put (mKeeps (put S 7 7 0) 0) 0 (10 + 14 * k + 6) ((((S 0 ((10 + 14 * k + 6)))) + 1))) 0 (10 + 14 * k + 7) (((S 0 (10 + 14 * k + 7)) + (skipsG (S 0) k river a sp)))) 0 5 ((S 0 5) + 1)) 0 7 ((S 0 7) + (skipsG (S 0) k river a sp))) 0 ((150 + (6 * river)) + 2) (skipsG (S 0) k river a sp)) 0) ((150 + (6 * river)) + 3) k ((150 + (6 * river)) + 4) = _
                  rw [uz_n (by omega)]
                  show uz ((put (put (put (put (mKeeps (put S 7 7 0) 0) 0 (10 + 14 * k + 6) ((((S 0 ((10 + 14 * k + 6)))) + 1))) 0 (10 + 14 * k + 7) (((S 0 (10 + 14 * k + 7)) + (skipsG (S 0) k river a sp)))) 0 5 ((S 0 5) + 1)) 0 7 ((S 0 7) + (skipsG (S 0) k river a sp))) 0) ((150 + (6 * river)) + 2) (skipsG (S 0) k river a sp) ((150 + (6 * river)) + 4) = _
                  rw [uz_n (by omega)]
                  show uz ((put (put (put (mKeeps (put S 7 7 0) 0) 0 (10 + 14 * k + 6) ((((S 0 ((10 + 14 * k + 6)))) + 1))) 0 (10 + 14 * k + 7) (((S 0 (10 + 14 * k + 7)) + (skipsG (S 0) k river a sp)))) 0 5 ((S 0 5) + 1)) 0) 7 ((S 0 7) + (skipsG (S 0) k river a sp)) ((150 + (6 * river)) + 4) = _
                  rw [uz_n (by omega)]
                  show uz ((put (put (mKeeps (put S 7 7 0) 0) 0 (10 + 14 * k + 6) ((((S 0 ((10 + 14 * k + 6)))) + 1))) 0 (10 + 14 * k + 7) (((S 0 (10 + 14 * k + 7)) + (skipsG (S 0) k river a sp)))) 0) 5 ((S 0 5) + 1) ((150 + (6 * river)) + 4) = _
                  rw [uz_n (by omega)]
                  show uz ((put (mKeeps (put S 7 7 0) 0) 0 (10 + 14 * k + 6) ((((S 0 ((10 + 14 * k + 6)))) + 1))) 0) (10 + 14 * k + 7) (((S 0 (10 + 14 * k + 7)) + (skipsG (S 0) k river a sp))) ((150 + (6 * river)) + 4) = _
                  rw [uz_n (by omega)]
                  show uz ((mKeeps (put S 7 7 0) 0) 0) (10 + 14 * k + 6) ((((S 0 ((10 + 14 * k + 6)))) + 1)) ((150 + (6 * river)) + 4) = _
                  rw [uz_n (by omega)]
                  all_goals rfl
                rw [q22]
                refine kz_iconst hx hb dX3_skim_316 ?_
                refine kz_iadd hx hb dX3_skim_317 ?_
                refine kz_iast (cA := kA E 0) (n := 304) (g := (put (put (put (put (put (put (put (put (mKeeps (put S 7 7 0) 0) 0 (10 + 14 * k + 6) ((((S 0 ((10 + 14 * k + 6)))) + 1))) 0 (10 + 14 * k + 7) (((S 0 (10 + 14 * k + 7)) + (skipsG (S 0) k river a sp)))) 0 5 ((S 0 5) + 1)) 0 7 ((S 0 7) + (skipsG (S 0) k river a sp))) 0 ((150 + (6 * river)) + 2) (skipsG (S 0) k river a sp)) 0 ((150 + (6 * river)) + 3) k) 0 (10 + 14 * k + 5) (((-2)))) 0 (10 + 14 * k + 10) ((S 0 2))) 0) hx hb hK hP hD hS 1 0 rfl rfl (by omega) dX3_skim_318 (fun H9 locs9 hP9 hD9 hS9 => ?_)
                rw [mW_a0] at hP9 hD9
                clear hP hD hS H locs
                revert hS9 hD9 hP9 locs9 H9
                intro H locs hP hD hS
                replace hP : va_P (kD E) kcl (mW E Ad (put (put (put (put (put (put (put (put (put (mKeeps (put S 7 7 0) 0) 0 (10 + 14 * k + 6) ((((S 0 ((10 + 14 * k + 6)))) + 1))) 0 (10 + 14 * k + 7) (((S 0 (10 + 14 * k + 7)) + (skipsG (S 0) k river a sp)))) 0 5 ((S 0 5) + 1)) 0 7 ((S 0 7) + (skipsG (S 0) k river a sp))) 0 ((150 + (6 * river)) + 2) (skipsG (S 0) k river a sp)) 0 ((150 + (6 * river)) + 3) k) 0 (10 + 14 * k + 5) (((-2)))) 0 (10 + 14 * k + 10) ((S 0 2))) 0 ((150 + (6 * river)) + 4) ((S 0 ((150 + (6 * river)) + 4)) + 1))) H := hP
                replace hD : va_D A (mW E Ad (put (put (put (put (put (put (put (put (put (mKeeps (put S 7 7 0) 0) 0 (10 + 14 * k + 6) ((((S 0 ((10 + 14 * k + 6)))) + 1))) 0 (10 + 14 * k + 7) (((S 0 (10 + 14 * k + 7)) + (skipsG (S 0) k river a sp)))) 0 5 ((S 0 5) + 1)) 0 7 ((S 0 7) + (skipsG (S 0) k river a sp))) 0 ((150 + (6 * river)) + 2) (skipsG (S 0) k river a sp)) 0 ((150 + (6 * river)) + 3) k) 0 (10 + 14 * k + 5) (((-2)))) 0 (10 + 14 * k + 10) ((S 0 2))) 0 ((150 + (6 * river)) + 4) ((S 0 ((150 + (6 * river)) + 4)) + 1))) := hD
                replace hM : MOk (put (put (put (put (put (put (put (put (put (mKeeps (put S 7 7 0) 0) 0 (10 + 14 * k + 6) ((((S 0 ((10 + 14 * k + 6)))) + 1))) 0 (10 + 14 * k + 7) (((S 0 (10 + 14 * k + 7)) + (skipsG (S 0) k river a sp)))) 0 5 ((S 0 5) + 1)) 0 7 ((S 0 7) + (skipsG (S 0) k river a sp))) 0 ((150 + (6 * river)) + 2) (skipsG (S 0) k river a sp)) 0 ((150 + (6 * river)) + 3) k) 0 (10 + 14 * k + 5) (((-2)))) 0 (10 + 14 * k + 10) ((S 0 2))) 0 ((150 + (6 * river)) + 4) ((S 0 ((150 + (6 * river)) + 4)) + 1)) := hM.put 0 _ (by omega)
                refine lv_aload_n hx hb dX3_skim_319 rfl (lv_at hl 1 rfl) ?_
                refine va_get (D := kD E) (ci := 2) (fs := mO Ad (put (put (put (put (put (put (put (put (put (mKeeps (put S 7 7 0) 0) 0 (10 + 14 * k + 6) ((((S 0 ((10 + 14 * k + 6)))) + 1))) 0 (10 + 14 * k + 7) (((S 0 (10 + 14 * k + 7)) + (skipsG (S 0) k river a sp)))) 0 5 ((S 0 5) + 1)) 0 7 ((S 0 7) + (skipsG (S 0) k river a sp))) 0 ((150 + (6 * river)) + 2) (skipsG (S 0) k river a sp)) 0 ((150 + (6 * river)) + 3) k) 0 (10 + 14 * k + 5) (((-2)))) 0 (10 + 14 * k + 10) ((S 0 2))) 0 ((150 + (6 * river)) + 4) ((S 0 ((150 + (6 * river)) + 4)) + 1))) (v := .ref (Ad 1)) (C := RX3) (T := TX3) (N := 19) hx hb hts in_X3 hown hK hP 0 rfl rfl 0 (by decide) (hts _ q2320) (fun _ h9 => h9) rfl dX3_skim_320 ?_
                refine kz_sipush hx hb dX3_skim_323 (by decide) ?_
                refine lv_aload_n hx hb dX3_skim_326 rfl (lv_at hl 1 rfl) ?_
                refine va_get (D := kD E) (ci := 2) (fs := mO Ad (put (put (put (put (put (put (put (put (put (mKeeps (put S 7 7 0) 0) 0 (10 + 14 * k + 6) ((((S 0 ((10 + 14 * k + 6)))) + 1))) 0 (10 + 14 * k + 7) (((S 0 (10 + 14 * k + 7)) + (skipsG (S 0) k river a sp)))) 0 5 ((S 0 5) + 1)) 0 7 ((S 0 7) + (skipsG (S 0) k river a sp))) 0 ((150 + (6 * river)) + 2) (skipsG (S 0) k river a sp)) 0 ((150 + (6 * river)) + 3) k) 0 (10 + 14 * k + 5) (((-2)))) 0 (10 + 14 * k + 10) ((S 0 2))) 0 ((150 + (6 * river)) + 4) ((S 0 ((150 + (6 * river)) + 4)) + 1))) (v := .ref (Ad 1)) (C := RX3) (T := TX3) (N := 19) hx hb hts in_X3 hown hK hP 0 rfl rfl 0 (by decide) (hts _ q2320) (fun _ h9 => h9) rfl dX3_skim_327 ?_
                refine kz_bipush hx hb dX3_skim_330 (by decide) ?_
                refine kz_iald (cA := kA E 0) (n := 304) (g := (put (put (put (put (put (put (put (put (put (mKeeps (put S 7 7 0) 0) 0 (10 + 14 * k + 6) ((((S 0 ((10 + 14 * k + 6)))) + 1))) 0 (10 + 14 * k + 7) (((S 0 (10 + 14 * k + 7)) + (skipsG (S 0) k river a sp)))) 0 5 ((S 0 5) + 1)) 0 7 ((S 0 7) + (skipsG (S 0) k river a sp))) 0 ((150 + (6 * river)) + 2) (skipsG (S 0) k river a sp)) 0 ((150 + (6 * river)) + 3) k) 0 (10 + 14 * k + 5) (((-2)))) 0 (10 + 14 * k + 10) ((S 0 2))) 0 ((150 + (6 * river)) + 4) ((S 0 ((150 + (6 * river)) + 4)) + 1)) 0) hx hb hK hP 1 0 rfl rfl (by omega) dX3_skim_332 ?_
                have r23 : rI ((put (put (put (put (put (put (put (put (put (mKeeps (put S 7 7 0) 0) 0 (10 + 14 * k + 6) ((((S 0 ((10 + 14 * k + 6)))) + 1))) 0 (10 + 14 * k + 7) (((S 0 (10 + 14 * k + 7)) + (skipsG (S 0) k river a sp)))) 0 5 ((S 0 5) + 1)) 0 7 ((S 0 7) + (skipsG (S 0) k river a sp))) 0 ((150 + (6 * river)) + 2) (skipsG (S 0) k river a sp)) 0 ((150 + (6 * river)) + 3) k) 0 (10 + 14 * k + 5) (((-2)))) 0 (10 + 14 * k + 10) ((S 0 2))) 0 ((150 + (6 * river)) + 4) ((S 0 ((150 + (6 * river)) + 4)) + 1)) 0 8) := hM 0 8
                have q24 : (put (put (put (put (put (put (put (put (put (mKeeps (put S 7 7 0) 0) 0 (10 + 14 * k + 6) ((((S 0 ((10 + 14 * k + 6)))) + 1))) 0 (10 + 14 * k + 7) (((S 0 (10 + 14 * k + 7)) + (skipsG (S 0) k river a sp)))) 0 5 ((S 0 5) + 1)) 0 7 ((S 0 7) + (skipsG (S 0) k river a sp))) 0 ((150 + (6 * river)) + 2) (skipsG (S 0) k river a sp)) 0 ((150 + (6 * river)) + 3) k) 0 (10 + 14 * k + 5) (((-2)))) 0 (10 + 14 * k + 10) ((S 0 2))) 0 ((150 + (6 * river)) + 4) ((S 0 ((150 + (6 * river)) + 4)) + 1)) 0 8 = S 0 8 := by
                  show uz ((put (put (put (put (put (put (put (put (mKeeps (put S 7 7 0) 0) 0 (10 + 14 * k + 6) ((((S 0 ((10 + 14 * k + 6)))) + 1))) 0 (10 + 14 * k + 7) (((S 0 (10 + 14 * k + 7)) + (skipsG (S 0) k river a sp)))) 0 5 ((S 0 5) + 1)) 0 7 ((S 0 7) + (skipsG (S 0) k river a sp))) 0 ((150 + (6 * river)) + 2) (skipsG (S 0) k river a sp)) 0 ((150 + (6 * river)) + 3) k) 0 (10 + 14 * k + 5) (((-2)))) 0 (10 + 14 * k + 10) ((S 0 2))) 0) ((150 + (6 * river)) + 4) ((S 0 ((150 + (6 * river)) + 4)) + 1) 8 = _
                  rw [uz_n (by omega)]
                  show uz ((put (put (put (put (put (put (put (mKeeps (put S 7 7 0) 0) 0 (10 + 14 * k + 6) ((((S 0 ((10 + 14 * k + 6)))) + 1))) 0 (10 + 14 * k + 7) (((S 0 (10 + 14 * k + 7)) + (skipsG (S 0) k river a sp)))) 0 5 ((S 0 5) + 1)) 0 7 ((S 0 7) + (skipsG (S 0) k river a sp))) 0 ((150 + (6 * river)) + 2) (skipsG (S 0) k river a sp)) 0 ((150 + (6 * river)) + 3) k) 0 (10 + 14 * k + 5) (((-2)))) 0) (10 + 14 * k + 10) ((S 0 2)) 8 = _
                  rw [uz_n (by omega)]
                  show uz ((put (put (put (put (put (put (mKeeps (put S 7 7 0) 0) 0 (10 + 14 * k + 6) ((((S 0 ((10 + 14 * k + 6)))) + 1))) 0 (10 + 14 * k + 7) (((S 0 (10 + 14 * k + 7)) + (skipsG (S 0) k river a sp)))) 0 5 ((S 0 5) + 1)) 0 7 ((S 0 7) + (skipsG (S 0) k river a sp))) 0 ((150 + (6 * river)) + 2) (skipsG (S 0) k river a sp)) 0 ((150 + (6 * river)) + 3) k) 0) (10 + 14 * k + 5) (((-2))) 8 = _
                  rw [uz_n (by omega)]
                  show uz ((put (put (put (put (put (mKeeps (put S 7 7 0) 0) 0 (10 + 14 * k + 6) ((((S 0 ((10 + 14 * k + 6)))) + 1))) 0 (10 + 14 * k + 7) (((S 0 (10 + 14 * k + 7)) + (skipsG (S 0) k river a sp)))) 0 5 ((S 0 5) + 1)) 0 7 ((S 0 7) + (skipsG (S 0) k river a sp))) 0 ((150 + (6 * river)) + 2) (skipsG (S 0) k river a sp)) 0) ((150 + (6 * river)) + 3) k 8 = _
                  rw [uz_n (by omega)]
                  show uz ((put (put (put (put (mKeeps (put S 7 7 0) 0) 0 (10 + 14 * k + 6) ((((S 0 ((10 + 14 * k + 6)))) + 1))) 0 (10 + 14 * k + 7) (((S 0 (10 + 14 * k + 7)) + (skipsG (S 0) k river a sp)))) 0 5 ((S 0 5) + 1)) 0 7 ((S 0 7) + (skipsG (S 0) k river a sp))) 0) ((150 + (6 * river)) + 2) (skipsG (S 0) k river a sp) 8 = _
                  rw [uz_n (by omega)]
                  show uz ((put (mKeeps (put S 7 7 0) 0) 0 (10 + 14 * k + 6) ((((S 0 ((10 + 14 * k + 6)))) + 1))) 0) (10 + 14 * k + 7) (((S 0 (10 + 14 * k + 7)) + (skipsG (S 0) k river a sp))) 8 = _
                  rw [uz_n (by omega)]
                  show uz ((mKeeps (put S 7 7 0) 0) 0) (10 + 14 * k + 6) ((((S 0 ((10 + 14 * k + 6)))) + 1)) 8 = _
                  rw [uz_n (by omega)]
                  all_goals rfl
                rw [q24]
                refine kz_iadd hx hb dX3_skim_333 ?_
                refine lv_iload_n hx hb dX3_skim_334 rfl (lv_at hl 2 rfl) ?_
                refine kz_iast (cA := kA E 0) (n := 304) (g := (put (put (put (put (put (put (put (put (put (mKeeps (put S 7 7 0) 0) 0 (10 + 14 * k + 6) ((((S 0 ((10 + 14 * k + 6)))) + 1))) 0 (10 + 14 * k + 7) (((S 0 (10 + 14 * k + 7)) + (skipsG (S 0) k river a sp)))) 0 5 ((S 0 5) + 1)) 0 7 ((S 0 7) + (skipsG (S 0) k river a sp))) 0 ((150 + (6 * river)) + 2) (skipsG (S 0) k river a sp)) 0 ((150 + (6 * river)) + 3) k) 0 (10 + 14 * k + 5) (((-2)))) 0 (10 + 14 * k + 10) ((S 0 2))) 0 ((150 + (6 * river)) + 4) ((S 0 ((150 + (6 * river)) + 4)) + 1)) 0) hx hb hK hP hD hS 1 0 rfl rfl (by omega) dX3_skim_335 (fun H9 locs9 hP9 hD9 hS9 => ?_)
                rw [mW_a0] at hP9 hD9
                clear hP hD hS H locs
                revert hS9 hD9 hP9 locs9 H9
                intro H locs hP hD hS
                replace hP : va_P (kD E) kcl (mW E Ad (put (put (put (put (put (put (put (put (put (put (mKeeps (put S 7 7 0) 0) 0 (10 + 14 * k + 6) ((((S 0 ((10 + 14 * k + 6)))) + 1))) 0 (10 + 14 * k + 7) (((S 0 (10 + 14 * k + 7)) + (skipsG (S 0) k river a sp)))) 0 5 ((S 0 5) + 1)) 0 7 ((S 0 7) + (skipsG (S 0) k river a sp))) 0 ((150 + (6 * river)) + 2) (skipsG (S 0) k river a sp)) 0 ((150 + (6 * river)) + 3) k) 0 (10 + 14 * k + 5) (((-2)))) 0 (10 + 14 * k + 10) ((S 0 2))) 0 ((150 + (6 * river)) + 4) ((S 0 ((150 + (6 * river)) + 4)) + 1)) 0 (294 + (S 0 8)) k)) H := hP
                replace hD : va_D A (mW E Ad (put (put (put (put (put (put (put (put (put (put (mKeeps (put S 7 7 0) 0) 0 (10 + 14 * k + 6) ((((S 0 ((10 + 14 * k + 6)))) + 1))) 0 (10 + 14 * k + 7) (((S 0 (10 + 14 * k + 7)) + (skipsG (S 0) k river a sp)))) 0 5 ((S 0 5) + 1)) 0 7 ((S 0 7) + (skipsG (S 0) k river a sp))) 0 ((150 + (6 * river)) + 2) (skipsG (S 0) k river a sp)) 0 ((150 + (6 * river)) + 3) k) 0 (10 + 14 * k + 5) (((-2)))) 0 (10 + 14 * k + 10) ((S 0 2))) 0 ((150 + (6 * river)) + 4) ((S 0 ((150 + (6 * river)) + 4)) + 1)) 0 (294 + (S 0 8)) k)) := hD
                replace hM : MOk (put (put (put (put (put (put (put (put (put (put (mKeeps (put S 7 7 0) 0) 0 (10 + 14 * k + 6) ((((S 0 ((10 + 14 * k + 6)))) + 1))) 0 (10 + 14 * k + 7) (((S 0 (10 + 14 * k + 7)) + (skipsG (S 0) k river a sp)))) 0 5 ((S 0 5) + 1)) 0 7 ((S 0 7) + (skipsG (S 0) k river a sp))) 0 ((150 + (6 * river)) + 2) (skipsG (S 0) k river a sp)) 0 ((150 + (6 * river)) + 3) k) 0 (10 + 14 * k + 5) (((-2)))) 0 (10 + 14 * k + 10) ((S 0 2))) 0 ((150 + (6 * river)) + 4) ((S 0 ((150 + (6 * river)) + 4)) + 1)) 0 (294 + (S 0 8)) k) := hM.put 0 _ (by omega)
                refine lv_aload_n hx hb dX3_skim_336 rfl (lv_at hl 1 rfl) ?_
                refine va_get (D := kD E) (ci := 2) (fs := mO Ad (put (put (put (put (put (put (put (put (put (put (mKeeps (put S 7 7 0) 0) 0 (10 + 14 * k + 6) ((((S 0 ((10 + 14 * k + 6)))) + 1))) 0 (10 + 14 * k + 7) (((S 0 (10 + 14 * k + 7)) + (skipsG (S 0) k river a sp)))) 0 5 ((S 0 5) + 1)) 0 7 ((S 0 7) + (skipsG (S 0) k river a sp))) 0 ((150 + (6 * river)) + 2) (skipsG (S 0) k river a sp)) 0 ((150 + (6 * river)) + 3) k) 0 (10 + 14 * k + 5) (((-2)))) 0 (10 + 14 * k + 10) ((S 0 2))) 0 ((150 + (6 * river)) + 4) ((S 0 ((150 + (6 * river)) + 4)) + 1)) 0 (294 + (S 0 8)) k)) (v := .ref (Ad 1)) (C := RX3) (T := TX3) (N := 19) hx hb hts in_X3 hown hK hP 0 rfl rfl 0 (by decide) (hts _ q2320) (fun _ h9 => h9) rfl dX3_skim_337 ?_
                refine kz_bipush hx hb dX3_skim_340 (by decide) ?_
                refine lv_dup2_11 hx hb dX3_skim_342 rfl rfl ?_
                refine kz_iald (cA := kA E 0) (n := 304) (g := (put (put (put (put (put (put (put (put (put (put (mKeeps (put S 7 7 0) 0) 0 (10 + 14 * k + 6) ((((S 0 ((10 + 14 * k + 6)))) + 1))) 0 (10 + 14 * k + 7) (((S 0 (10 + 14 * k + 7)) + (skipsG (S 0) k river a sp)))) 0 5 ((S 0 5) + 1)) 0 7 ((S 0 7) + (skipsG (S 0) k river a sp))) 0 ((150 + (6 * river)) + 2) (skipsG (S 0) k river a sp)) 0 ((150 + (6 * river)) + 3) k) 0 (10 + 14 * k + 5) (((-2)))) 0 (10 + 14 * k + 10) ((S 0 2))) 0 ((150 + (6 * river)) + 4) ((S 0 ((150 + (6 * river)) + 4)) + 1)) 0 (294 + (S 0 8)) k) 0) hx hb hK hP 1 0 rfl rfl (by omega) dX3_skim_343 ?_
                have r25 : rI ((put (put (put (put (put (put (put (put (put (put (mKeeps (put S 7 7 0) 0) 0 (10 + 14 * k + 6) ((((S 0 ((10 + 14 * k + 6)))) + 1))) 0 (10 + 14 * k + 7) (((S 0 (10 + 14 * k + 7)) + (skipsG (S 0) k river a sp)))) 0 5 ((S 0 5) + 1)) 0 7 ((S 0 7) + (skipsG (S 0) k river a sp))) 0 ((150 + (6 * river)) + 2) (skipsG (S 0) k river a sp)) 0 ((150 + (6 * river)) + 3) k) 0 (10 + 14 * k + 5) (((-2)))) 0 (10 + 14 * k + 10) ((S 0 2))) 0 ((150 + (6 * river)) + 4) ((S 0 ((150 + (6 * river)) + 4)) + 1)) 0 (294 + (S 0 8)) k) 0 8) := hM 0 8
                have q26 : (put (put (put (put (put (put (put (put (put (put (mKeeps (put S 7 7 0) 0) 0 (10 + 14 * k + 6) ((((S 0 ((10 + 14 * k + 6)))) + 1))) 0 (10 + 14 * k + 7) (((S 0 (10 + 14 * k + 7)) + (skipsG (S 0) k river a sp)))) 0 5 ((S 0 5) + 1)) 0 7 ((S 0 7) + (skipsG (S 0) k river a sp))) 0 ((150 + (6 * river)) + 2) (skipsG (S 0) k river a sp)) 0 ((150 + (6 * river)) + 3) k) 0 (10 + 14 * k + 5) (((-2)))) 0 (10 + 14 * k + 10) ((S 0 2))) 0 ((150 + (6 * river)) + 4) ((S 0 ((150 + (6 * river)) + 4)) + 1)) 0 (294 + (S 0 8)) k) 0 8 = S 0 8 := by
                  show uz ((put (put (put (put (put (put (put (put (put (mKeeps (put S 7 7 0) 0) 0 (10 + 14 * k + 6) ((((S 0 ((10 + 14 * k + 6)))) + 1))) 0 (10 + 14 * k + 7) (((S 0 (10 + 14 * k + 7)) + (skipsG (S 0) k river a sp)))) 0 5 ((S 0 5) + 1)) 0 7 ((S 0 7) + (skipsG (S 0) k river a sp))) 0 ((150 + (6 * river)) + 2) (skipsG (S 0) k river a sp)) 0 ((150 + (6 * river)) + 3) k) 0 (10 + 14 * k + 5) (((-2)))) 0 (10 + 14 * k + 10) ((S 0 2))) 0 ((150 + (6 * river)) + 4) ((S 0 ((150 + (6 * river)) + 4)) + 1)) 0) (294 + (S 0 8)) k 8 = _
                  rw [uz_n (by omega)]
                  show uz ((put (put (put (put (put (put (put (put (mKeeps (put S 7 7 0) 0) 0 (10 + 14 * k + 6) ((((S 0 ((10 + 14 * k + 6)))) + 1))) 0 (10 + 14 * k + 7) (((S 0 (10 + 14 * k + 7)) + (skipsG (S 0) k river a sp)))) 0 5 ((S 0 5) + 1)) 0 7 ((S 0 7) + (skipsG (S 0) k river a sp))) 0 ((150 + (6 * river)) + 2) (skipsG (S 0) k river a sp)) 0 ((150 + (6 * river)) + 3) k) 0 (10 + 14 * k + 5) (((-2)))) 0 (10 + 14 * k + 10) ((S 0 2))) 0) ((150 + (6 * river)) + 4) ((S 0 ((150 + (6 * river)) + 4)) + 1) 8 = _
                  rw [uz_n (by omega)]
                  show uz ((put (put (put (put (put (put (put (mKeeps (put S 7 7 0) 0) 0 (10 + 14 * k + 6) ((((S 0 ((10 + 14 * k + 6)))) + 1))) 0 (10 + 14 * k + 7) (((S 0 (10 + 14 * k + 7)) + (skipsG (S 0) k river a sp)))) 0 5 ((S 0 5) + 1)) 0 7 ((S 0 7) + (skipsG (S 0) k river a sp))) 0 ((150 + (6 * river)) + 2) (skipsG (S 0) k river a sp)) 0 ((150 + (6 * river)) + 3) k) 0 (10 + 14 * k + 5) (((-2)))) 0) (10 + 14 * k + 10) ((S 0 2)) 8 = _
                  rw [uz_n (by omega)]
                  show uz ((put (put (put (put (put (put (mKeeps (put S 7 7 0) 0) 0 (10 + 14 * k + 6) ((((S 0 ((10 + 14 * k + 6)))) + 1))) 0 (10 + 14 * k + 7) (((S 0 (10 + 14 * k + 7)) + (skipsG (S 0) k river a sp)))) 0 5 ((S 0 5) + 1)) 0 7 ((S 0 7) + (skipsG (S 0) k river a sp))) 0 ((150 + (6 * river)) + 2) (skipsG (S 0) k river a sp)) 0 ((150 + (6 * river)) + 3) k) 0) (10 + 14 * k + 5) (((-2))) 8 = _
                  rw [uz_n (by omega)]
                  show uz ((put (put (put (put (put (mKeeps (put S 7 7 0) 0) 0 (10 + 14 * k + 6) ((((S 0 ((10 + 14 * k + 6)))) + 1))) 0 (10 + 14 * k + 7) (((S 0 (10 + 14 * k + 7)) + (skipsG (S 0) k river a sp)))) 0 5 ((S 0 5) + 1)) 0 7 ((S 0 7) + (skipsG (S 0) k river a sp))) 0 ((150 + (6 * river)) + 2) (skipsG (S 0) k river a sp)) 0) ((150 + (6 * river)) + 3) k 8 = _
                  rw [uz_n (by omega)]
                  show uz ((put (put (put (put (mKeeps (put S 7 7 0) 0) 0 (10 + 14 * k + 6) ((((S 0 ((10 + 14 * k + 6)))) + 1))) 0 (10 + 14 * k + 7) (((S 0 (10 + 14 * k + 7)) + (skipsG (S 0) k river a sp)))) 0 5 ((S 0 5) + 1)) 0 7 ((S 0 7) + (skipsG (S 0) k river a sp))) 0) ((150 + (6 * river)) + 2) (skipsG (S 0) k river a sp) 8 = _
                  rw [uz_n (by omega)]
                  show uz ((put (mKeeps (put S 7 7 0) 0) 0 (10 + 14 * k + 6) ((((S 0 ((10 + 14 * k + 6)))) + 1))) 0) (10 + 14 * k + 7) (((S 0 (10 + 14 * k + 7)) + (skipsG (S 0) k river a sp))) 8 = _
                  rw [uz_n (by omega)]
                  show uz ((mKeeps (put S 7 7 0) 0) 0) (10 + 14 * k + 6) ((((S 0 ((10 + 14 * k + 6)))) + 1)) 8 = _
                  rw [uz_n (by omega)]
                  all_goals rfl
                rw [q26]
                refine kz_iconst hx hb dX3_skim_344 ?_
                refine kz_iadd hx hb dX3_skim_345 ?_
                refine kz_iast (cA := kA E 0) (n := 304) (g := (put (put (put (put (put (put (put (put (put (put (mKeeps (put S 7 7 0) 0) 0 (10 + 14 * k + 6) ((((S 0 ((10 + 14 * k + 6)))) + 1))) 0 (10 + 14 * k + 7) (((S 0 (10 + 14 * k + 7)) + (skipsG (S 0) k river a sp)))) 0 5 ((S 0 5) + 1)) 0 7 ((S 0 7) + (skipsG (S 0) k river a sp))) 0 ((150 + (6 * river)) + 2) (skipsG (S 0) k river a sp)) 0 ((150 + (6 * river)) + 3) k) 0 (10 + 14 * k + 5) (((-2)))) 0 (10 + 14 * k + 10) ((S 0 2))) 0 ((150 + (6 * river)) + 4) ((S 0 ((150 + (6 * river)) + 4)) + 1)) 0 (294 + (S 0 8)) k) 0) hx hb hK hP hD hS 1 0 rfl rfl (by omega) dX3_skim_346 (fun H9 locs9 hP9 hD9 hS9 => ?_)
                rw [mW_a0] at hP9 hD9
                clear hP hD hS H locs
                revert hS9 hD9 hP9 locs9 H9
                intro H locs hP hD hS
                replace hP : va_P (kD E) kcl (mW E Ad (put (put (put (put (put (put (put (put (put (put (put (mKeeps (put S 7 7 0) 0) 0 (10 + 14 * k + 6) ((((S 0 ((10 + 14 * k + 6)))) + 1))) 0 (10 + 14 * k + 7) (((S 0 (10 + 14 * k + 7)) + (skipsG (S 0) k river a sp)))) 0 5 ((S 0 5) + 1)) 0 7 ((S 0 7) + (skipsG (S 0) k river a sp))) 0 ((150 + (6 * river)) + 2) (skipsG (S 0) k river a sp)) 0 ((150 + (6 * river)) + 3) k) 0 (10 + 14 * k + 5) (((-2)))) 0 (10 + 14 * k + 10) ((S 0 2))) 0 ((150 + (6 * river)) + 4) ((S 0 ((150 + (6 * river)) + 4)) + 1)) 0 (294 + (S 0 8)) k) 0 8 ((S 0 8) + 1))) H := hP
                replace hD : va_D A (mW E Ad (put (put (put (put (put (put (put (put (put (put (put (mKeeps (put S 7 7 0) 0) 0 (10 + 14 * k + 6) ((((S 0 ((10 + 14 * k + 6)))) + 1))) 0 (10 + 14 * k + 7) (((S 0 (10 + 14 * k + 7)) + (skipsG (S 0) k river a sp)))) 0 5 ((S 0 5) + 1)) 0 7 ((S 0 7) + (skipsG (S 0) k river a sp))) 0 ((150 + (6 * river)) + 2) (skipsG (S 0) k river a sp)) 0 ((150 + (6 * river)) + 3) k) 0 (10 + 14 * k + 5) (((-2)))) 0 (10 + 14 * k + 10) ((S 0 2))) 0 ((150 + (6 * river)) + 4) ((S 0 ((150 + (6 * river)) + 4)) + 1)) 0 (294 + (S 0 8)) k) 0 8 ((S 0 8) + 1))) := hD
                replace hM : MOk (put (put (put (put (put (put (put (put (put (put (put (mKeeps (put S 7 7 0) 0) 0 (10 + 14 * k + 6) ((((S 0 ((10 + 14 * k + 6)))) + 1))) 0 (10 + 14 * k + 7) (((S 0 (10 + 14 * k + 7)) + (skipsG (S 0) k river a sp)))) 0 5 ((S 0 5) + 1)) 0 7 ((S 0 7) + (skipsG (S 0) k river a sp))) 0 ((150 + (6 * river)) + 2) (skipsG (S 0) k river a sp)) 0 ((150 + (6 * river)) + 3) k) 0 (10 + 14 * k + 5) (((-2)))) 0 (10 + 14 * k + 10) ((S 0 2))) 0 ((150 + (6 * river)) + 4) ((S 0 ((150 + (6 * river)) + 4)) + 1)) 0 (294 + (S 0 8)) k) 0 8 ((S 0 8) + 1)) := hM.put 0 _ (by omega)
                refine lv_iload hx hb dX3_skim_347 (lv_at hl 6 rfl) ?_
                refine kz_ineg hx hb dX3_skim_349 ?_
                have e0 : xSkim S k river a sp = (put (put (put (put (put (put (put (put (put (put (put (mKeeps (put S 7 7 0) 0) 0 (10 + 14 * k + 6) ((((S 0 ((10 + 14 * k + 6)))) + 1))) 0 (10 + 14 * k + 7) (((S 0 (10 + 14 * k + 7)) + (skipsG (S 0) k river a sp)))) 0 5 ((S 0 5) + 1)) 0 7 ((S 0 7) + (skipsG (S 0) k river a sp))) 0 ((150 + (6 * river)) + 2) (skipsG (S 0) k river a sp)) 0 ((150 + (6 * river)) + 3) k) 0 (10 + 14 * k + 5) (((-2)))) 0 (10 + 14 * k + 10) ((S 0 2))) 0 ((150 + (6 * river)) + 4) ((S 0 ((150 + (6 * river)) + 4)) + 1)) 0 (294 + (S 0 8)) k) 0 8 ((S 0 8) + 1), - (skipsG (S 0) k river a sp)) := by unfold xSkim gSkim; (repeat (first | refine Eq.trans (if_pos (by omega)) ?_ | refine Eq.trans (if_neg (by omega)) ?_)); first | rfl | ((first | rw [gSaw0_t (by omega) (by omega) (by omega)] | rw [gSaw0_f (by omega) (by omega) (by omega)]); simp (disch := omega) only [if_pos, if_neg, gOver, gSink, gSkim0, uz_n, uz_s, putR_put _ 0, putR_putR, putR_at]; all_goals rfl)
                have e1 : (xSkim S k river a sp).2 = - (skipsG (S 0) k river a sp) := by rw [e0]
                have e3 : (xSkim S k river a sp).1 = put (put (put (put (put (put (put (put (put (put (put (mKeeps (put S 7 7 0) 0) 0 (10 + 14 * k + 6) ((((S 0 ((10 + 14 * k + 6)))) + 1))) 0 (10 + 14 * k + 7) (((S 0 (10 + 14 * k + 7)) + (skipsG (S 0) k river a sp)))) 0 5 ((S 0 5) + 1)) 0 7 ((S 0 7) + (skipsG (S 0) k river a sp))) 0 ((150 + (6 * river)) + 2) (skipsG (S 0) k river a sp)) 0 ((150 + (6 * river)) + 3) k) 0 (10 + 14 * k + 5) (((-2)))) 0 (10 + 14 * k + 10) ((S 0 2))) 0 ((150 + (6 * river)) + 4) ((S 0 ((150 + (6 * river)) + 4)) + 1)) 0 (294 + (S 0 8)) k) 0 8 ((S 0 8) + 1) := by rw [e0]
                exact kz_iret () hx hb hr hlk hP hD hS dX3_skim_350 (congrArg (fun z : Int => some (Value.int (zI z))) e1) ⟨(kz_r e1 (by omega)), (kz_M e3 hM)⟩ (congrArg (mW E Ad) e3) hQ (Nat.le_of_ble_eq_true rfl) (Nat.le_of_ble_eq_true rfl)
              · skip
                refine lv_aload_n hx hb dX3_skim_238 rfl (lv_at hl 1 rfl) ?_
                refine lv_iload_n hx hb dX3_skim_239 rfl (lv_at hl 2 rfl) ?_
                refine kz_iconst hx hb dX3_skim_240 ?_
                refine lv_iload_n hx hb dX3_skim_241 rfl (lv_at hl 3 rfl) ?_
                refine kz_backM (va_runV (As := [.int (zI (k)), .int (zI (5)), .int (zI (river))]) (rest := []) ⟨hx, hb, hml, hown, hts⟩ (mX3_lays l E H.size Ad (put (put (put (put (put (put (mKeeps (put S 7 7 0) 0) 0 (10 + 14 * k + 6) ((((S 0 ((10 + 14 * k + 6)))) + 1))) 0 (10 + 14 * k + 7) (((S 0 (10 + 14 * k + 7)) + (skipsG (S 0) k river a sp)))) 0 5 ((S 0 5) + 1)) 0 7 ((S 0 7) + (skipsG (S 0) k river a sp))) 0 ((150 + (6 * river)) + 2) (skipsG (S 0) k river a sp)) 0 ((150 + (6 * river)) + 3) k) hM k (by omega) 5 (by omega) river (by omega) (show 0 ≤ k ∧ k < 10 by first | omega | exact hI.st _ (by omega) (by omega) | exact hI.rv _ (by omega) (by omega) | exact hI) (show 0 ≤ 5 ∧ 5 < 14 by first | omega | exact hI.st _ (by omega) (by omega) | exact hI.rv _ (by omega) (by omega) | exact hI)) (cwV 3 hts (lw_V q2409 q2411 qs39 q83 q2412) rfl rfl rfl (by decide +kernel) ⟨(Nat.le_of_ble_eq_true rfl), (Nat.le_of_ble_eq_true rfl)⟩) (kz_preVM (wc := mW E Ad (put (put (put (put (put (put (mKeeps (put S 7 7 0) 0) 0 (10 + 14 * k + 6) ((((S 0 ((10 + 14 * k + 6)))) + 1))) 0 (10 + 14 * k + 7) (((S 0 (10 + 14 * k + 7)) + (skipsG (S 0) k river a sp)))) 0 5 ((S 0 5) + 1)) 0 7 ((S 0 7) + (skipsG (S 0) k river a sp))) 0 ((150 + (6 * river)) + 2) (skipsG (S 0) k river a sp)) 0 ((150 + (6 * river)) + 3) k)) (va_recv hK hP (ci := 2) (q0 := 0) rfl rfl) hG hS hAN hP hD kz_nilP kz_nilA) rfl rfl hl.1 rfl (lv_room (Nat.le_of_ble_eq_true rfl)) dX3_skim_242 ⟨(Nat.le_of_ble_eq_true rfl), (Nat.le_of_ble_eq_true rfl)⟩) hP hD hS hA (fun u H9 locs9 hu hP9 hD9 hS9 hzz hkk => ?_)
                clear hzz hkk hP hD hS H locs u
                revert hS9 hD9 hP9 locs9 H9
                intro H locs hP hD hS
                replace hM : MOk (put (put (put (put (put (put (put (mKeeps (put S 7 7 0) 0) 0 (10 + 14 * k + 6) ((((S 0 ((10 + 14 * k + 6)))) + 1))) 0 (10 + 14 * k + 7) (((S 0 (10 + 14 * k + 7)) + (skipsG (S 0) k river a sp)))) 0 5 ((S 0 5) + 1)) 0 7 ((S 0 7) + (skipsG (S 0) k river a sp))) 0 ((150 + (6 * river)) + 2) (skipsG (S 0) k river a sp)) 0 ((150 + (6 * river)) + 3) k) 0 (10 + 14 * k + 5) river) := hu
                clear hu
                replace hP : va_P (kD E) kcl (mW E Ad (put (put (put (put (put (put (put (mKeeps (put S 7 7 0) 0) 0 (10 + 14 * k + 6) ((((S 0 ((10 + 14 * k + 6)))) + 1))) 0 (10 + 14 * k + 7) (((S 0 (10 + 14 * k + 7)) + (skipsG (S 0) k river a sp)))) 0 5 ((S 0 5) + 1)) 0 7 ((S 0 7) + (skipsG (S 0) k river a sp))) 0 ((150 + (6 * river)) + 2) (skipsG (S 0) k river a sp)) 0 ((150 + (6 * river)) + 3) k) 0 (10 + 14 * k + 5) river)) H := hP
                replace hD : va_D A (mW E Ad (put (put (put (put (put (put (put (mKeeps (put S 7 7 0) 0) 0 (10 + 14 * k + 6) ((((S 0 ((10 + 14 * k + 6)))) + 1))) 0 (10 + 14 * k + 7) (((S 0 (10 + 14 * k + 7)) + (skipsG (S 0) k river a sp)))) 0 5 ((S 0 5) + 1)) 0 7 ((S 0 7) + (skipsG (S 0) k river a sp))) 0 ((150 + (6 * river)) + 2) (skipsG (S 0) k river a sp)) 0 ((150 + (6 * river)) + 3) k) 0 (10 + 14 * k + 5) river)) := hD
                show W p l e _ s m args below meth c H locs _ _ Q (F0 m 245 ls [])
                refine lv_aload_n hx hb dX3_skim_245 rfl (lv_at hl 1 rfl) ?_
                refine lv_iload_n hx hb dX3_skim_246 rfl (lv_at hl 2 rfl) ?_
                refine kz_iconst hx hb dX3_skim_247 ?_
                refine lv_aload_n hx hb dX3_skim_248 rfl (lv_at hl 1 rfl) ?_
                refine lv_iload_n hx hb dX3_skim_249 rfl (lv_at hl 2 rfl) ?_
                refine kz_iconst hx hb dX3_skim_250 ?_
                refine kz_backM (va_runV (As := [.int (zI (k)), .int (zI (2))]) (rest := [.int (zI (2)), .int (zI (k)), .ref (Ad 0)]) ⟨hx, hb, hml, hown, hts⟩ (mX3_of l E H.size Ad (put (put (put (put (put (put (put (mKeeps (put S 7 7 0) 0) 0 (10 + 14 * k + 6) ((((S 0 ((10 + 14 * k + 6)))) + 1))) 0 (10 + 14 * k + 7) (((S 0 (10 + 14 * k + 7)) + (skipsG (S 0) k river a sp)))) 0 5 ((S 0 5) + 1)) 0 7 ((S 0 7) + (skipsG (S 0) k river a sp))) 0 ((150 + (6 * river)) + 2) (skipsG (S 0) k river a sp)) 0 ((150 + (6 * river)) + 3) k) 0 (10 + 14 * k + 5) river) hM k (by omega) 2 (by omega) (show 0 ≤ k ∧ k < 10 by first | omega | exact hI.st _ (by omega) (by omega) | exact hI.rv _ (by omega) (by omega) | exact hI) (show 0 ≤ 2 ∧ 2 < 14 by first | omega | exact hI.st _ (by omega) (by omega) | exact hI.rv _ (by omega) (by omega) | exact hI)) (cwV 2 hts (lw_V q2441 q2443 qs44 q83 q2444) rfl rfl rfl (by decide +kernel) ⟨(Nat.le_of_ble_eq_true rfl), (Nat.le_of_ble_eq_true rfl)⟩) (kz_preVM (wc := mW E Ad (put (put (put (put (put (put (put (mKeeps (put S 7 7 0) 0) 0 (10 + 14 * k + 6) ((((S 0 ((10 + 14 * k + 6)))) + 1))) 0 (10 + 14 * k + 7) (((S 0 (10 + 14 * k + 7)) + (skipsG (S 0) k river a sp)))) 0 5 ((S 0 5) + 1)) 0 7 ((S 0 7) + (skipsG (S 0) k river a sp))) 0 ((150 + (6 * river)) + 2) (skipsG (S 0) k river a sp)) 0 ((150 + (6 * river)) + 3) k) 0 (10 + 14 * k + 5) river)) (va_recv hK hP (ci := 2) (q0 := 0) rfl rfl) hG hS hAN hP hD kz_nilP kz_nilA) rfl rfl hl.1 rfl (lv_room (Nat.le_of_ble_eq_true rfl)) dX3_skim_251 ⟨(Nat.le_of_ble_eq_true rfl), (Nat.le_of_ble_eq_true rfl)⟩) hP hD hS hA (fun u H9 locs9 hu hP9 hD9 hS9 hzz hkk => ?_)
                clear hzz hkk hP hD hS H locs u
                revert hS9 hD9 hP9 locs9 H9
                intro H locs hP hD hS
                have r27 : rI (((put (put (put (put (put (put (put (mKeeps (put S 7 7 0) 0) 0 (10 + 14 * k + 6) ((((S 0 ((10 + 14 * k + 6)))) + 1))) 0 (10 + 14 * k + 7) (((S 0 (10 + 14 * k + 7)) + (skipsG (S 0) k river a sp)))) 0 5 ((S 0 5) + 1)) 0 7 ((S 0 7) + (skipsG (S 0) k river a sp))) 0 ((150 + (6 * river)) + 2) (skipsG (S 0) k river a sp)) 0 ((150 + (6 * river)) + 3) k) 0 (10 + 14 * k + 5) river) 0 ((10 + 14 * k + 2)))) := hu
                clear hu
                replace hP : va_P (kD E) kcl (mW E Ad (put (put (put (put (put (put (put (mKeeps (put S 7 7 0) 0) 0 (10 + 14 * k + 6) ((((S 0 ((10 + 14 * k + 6)))) + 1))) 0 (10 + 14 * k + 7) (((S 0 (10 + 14 * k + 7)) + (skipsG (S 0) k river a sp)))) 0 5 ((S 0 5) + 1)) 0 7 ((S 0 7) + (skipsG (S 0) k river a sp))) 0 ((150 + (6 * river)) + 2) (skipsG (S 0) k river a sp)) 0 ((150 + (6 * river)) + 3) k) 0 (10 + 14 * k + 5) river)) H := hP
                replace hD : va_D A (mW E Ad (put (put (put (put (put (put (put (mKeeps (put S 7 7 0) 0) 0 (10 + 14 * k + 6) ((((S 0 ((10 + 14 * k + 6)))) + 1))) 0 (10 + 14 * k + 7) (((S 0 (10 + 14 * k + 7)) + (skipsG (S 0) k river a sp)))) 0 5 ((S 0 5) + 1)) 0 7 ((S 0 7) + (skipsG (S 0) k river a sp))) 0 ((150 + (6 * river)) + 2) (skipsG (S 0) k river a sp)) 0 ((150 + (6 * river)) + 3) k) 0 (10 + 14 * k + 5) river)) := hD
                show W p l e _ s m args below meth c H locs _ _ Q (F0 m 254 ls [.int (zI (((put (put (put (put (put (put (put (mKeeps (put S 7 7 0) 0) 0 (10 + 14 * k + 6) ((((S 0 ((10 + 14 * k + 6)))) + 1))) 0 (10 + 14 * k + 7) (((S 0 (10 + 14 * k + 7)) + (skipsG (S 0) k river a sp)))) 0 5 ((S 0 5) + 1)) 0 7 ((S 0 7) + (skipsG (S 0) k river a sp))) 0 ((150 + (6 * river)) + 2) (skipsG (S 0) k river a sp)) 0 ((150 + (6 * river)) + 3) k) 0 (10 + 14 * k + 5) river) 0 ((10 + 14 * k + 2))))), .int (zI (2)), .int (zI (k)), .ref (Ad 0)])
                have q28 : (put (put (put (put (put (put (put (mKeeps (put S 7 7 0) 0) 0 (10 + 14 * k + 6) ((((S 0 ((10 + 14 * k + 6)))) + 1))) 0 (10 + 14 * k + 7) (((S 0 (10 + 14 * k + 7)) + (skipsG (S 0) k river a sp)))) 0 5 ((S 0 5) + 1)) 0 7 ((S 0 7) + (skipsG (S 0) k river a sp))) 0 ((150 + (6 * river)) + 2) (skipsG (S 0) k river a sp)) 0 ((150 + (6 * river)) + 3) k) 0 (10 + 14 * k + 5) river) 0 (10 + 14 * k + 2) = S 0 (10 + 14 * k + 2) := by
                  show uz ((put (put (put (put (put (put (mKeeps (put S 7 7 0) 0) 0 (10 + 14 * k + 6) ((((S 0 ((10 + 14 * k + 6)))) + 1))) 0 (10 + 14 * k + 7) (((S 0 (10 + 14 * k + 7)) + (skipsG (S 0) k river a sp)))) 0 5 ((S 0 5) + 1)) 0 7 ((S 0 7) + (skipsG (S 0) k river a sp))) 0 ((150 + (6 * river)) + 2) (skipsG (S 0) k river a sp)) 0 ((150 + (6 * river)) + 3) k) 0) (10 + 14 * k + 5) river (10 + 14 * k + 2) = _
                  rw [uz_n (by omega)]
                  show uz ((put (put (put (put (put (mKeeps (put S 7 7 0) 0) 0 (10 + 14 * k + 6) ((((S 0 ((10 + 14 * k + 6)))) + 1))) 0 (10 + 14 * k + 7) (((S 0 (10 + 14 * k + 7)) + (skipsG (S 0) k river a sp)))) 0 5 ((S 0 5) + 1)) 0 7 ((S 0 7) + (skipsG (S 0) k river a sp))) 0 ((150 + (6 * river)) + 2) (skipsG (S 0) k river a sp)) 0) ((150 + (6 * river)) + 3) k (10 + 14 * k + 2) = _
                  rw [uz_n (by omega)]
                  show uz ((put (put (put (put (mKeeps (put S 7 7 0) 0) 0 (10 + 14 * k + 6) ((((S 0 ((10 + 14 * k + 6)))) + 1))) 0 (10 + 14 * k + 7) (((S 0 (10 + 14 * k + 7)) + (skipsG (S 0) k river a sp)))) 0 5 ((S 0 5) + 1)) 0 7 ((S 0 7) + (skipsG (S 0) k river a sp))) 0) ((150 + (6 * river)) + 2) (skipsG (S 0) k river a sp) (10 + 14 * k + 2) = _
                  rw [uz_n (by omega)]
                  show uz ((put (put (put (mKeeps (put S 7 7 0) 0) 0 (10 + 14 * k + 6) ((((S 0 ((10 + 14 * k + 6)))) + 1))) 0 (10 + 14 * k + 7) (((S 0 (10 + 14 * k + 7)) + (skipsG (S 0) k river a sp)))) 0 5 ((S 0 5) + 1)) 0) 7 ((S 0 7) + (skipsG (S 0) k river a sp)) (10 + 14 * k + 2) = _
                  rw [uz_n (by omega)]
                  show uz ((put (put (mKeeps (put S 7 7 0) 0) 0 (10 + 14 * k + 6) ((((S 0 ((10 + 14 * k + 6)))) + 1))) 0 (10 + 14 * k + 7) (((S 0 (10 + 14 * k + 7)) + (skipsG (S 0) k river a sp)))) 0) 5 ((S 0 5) + 1) (10 + 14 * k + 2) = _
                  rw [uz_n (by omega)]
                  show uz ((put (mKeeps (put S 7 7 0) 0) 0 (10 + 14 * k + 6) ((((S 0 ((10 + 14 * k + 6)))) + 1))) 0) (10 + 14 * k + 7) (((S 0 (10 + 14 * k + 7)) + (skipsG (S 0) k river a sp))) (10 + 14 * k + 2) = _
                  rw [uz_n (by omega)]
                  show uz ((mKeeps (put S 7 7 0) 0) 0) (10 + 14 * k + 6) ((((S 0 ((10 + 14 * k + 6)))) + 1)) (10 + 14 * k + 2) = _
                  rw [uz_n (by omega)]
                  all_goals rfl
                rw [q28]
                refine lv_iload hx hb dX3_skim_254 (lv_at hl 6 rfl) ?_
                refine kz_iadd hx hb dX3_skim_256 ?_
                refine kz_bipush hx hb dX3_skim_257 (by decide) ?_
                refine kz_back (wc := []) (wx := (mW E Ad (put (put (put (put (put (put (put (mKeeps (put S 7 7 0) 0) 0 (10 + 14 * k + 6) ((((S 0 ((10 + 14 * k + 6)))) + 1))) 0 (10 + 14 * k + 7) (((S 0 (10 + 14 * k + 7)) + (skipsG (S 0) k river a sp)))) 0 5 ((S 0 5) + 1)) 0 7 ((S 0 7) + (skipsG (S 0) k river a sp))) 0 ((150 + (6 * river)) + 2) (skipsG (S 0) k river a sp)) 0 ((150 + (6 * river)) + 3) k) 0 (10 + 14 * k + 5) river))) (va_runS (As := [.int (zI ((S 0 (10 + 14 * k + 2)) + (skipsG (S 0) k river a sp))), .int (zI (99))]) (rest := [.int (zI (2)), .int (zI (k)), .ref (Ad 0)]) ⟨hx, hb, hml, hown, hts⟩ (mX3_atMost l E H.size ((S 0 (10 + 14 * k + 2)) + (skipsG (S 0) k river a sp)) (by omega) 99 (by omega)) (va_cwS 2 hts (lw_S q2500 q2501 q83 q2502) rfl rfl rfl (by decide +kernel) ⟨(Nat.le_of_ble_eq_true rfl), (Nat.le_of_ble_eq_true rfl)⟩) (kz_pre (wc := []) (wx := (mW E Ad (put (put (put (put (put (put (put (mKeeps (put S 7 7 0) 0) 0 (10 + 14 * k + 6) ((((S 0 ((10 + 14 * k + 6)))) + 1))) 0 (10 + 14 * k + 7) (((S 0 (10 + 14 * k + 7)) + (skipsG (S 0) k river a sp)))) 0 5 ((S 0 5) + 1)) 0 7 ((S 0 7) + (skipsG (S 0) k river a sp))) 0 ((150 + (6 * river)) + 2) (skipsG (S 0) k river a sp)) 0 ((150 + (6 * river)) + 3) k) 0 (10 + 14 * k + 5) river))) hG hS hAN hP hD kz_nilP kz_nilA) rfl rfl hl.1 rfl (lv_room (Nat.le_of_ble_eq_true rfl)) dX3_skim_259 ⟨(Nat.le_of_ble_eq_true rfl), (Nat.le_of_ble_eq_true rfl)⟩) hP hD hS hA (fun u H9 locs9 hu hP9 hD9 hS9 hzz hkk => ?_)
                clear hzz hkk hP hD hS H locs u
                revert hS9 hD9 hP9 locs9 H9
                intro H locs hP hD hS
                have r29 : rI (min ((S 0 (10 + 14 * k + 2)) + (skipsG (S 0) k river a sp)) 99) := hu
                clear hu
                replace hP : va_P (kD E) kcl (mW E Ad (put (put (put (put (put (put (put (mKeeps (put S 7 7 0) 0) 0 (10 + 14 * k + 6) ((((S 0 ((10 + 14 * k + 6)))) + 1))) 0 (10 + 14 * k + 7) (((S 0 (10 + 14 * k + 7)) + (skipsG (S 0) k river a sp)))) 0 5 ((S 0 5) + 1)) 0 7 ((S 0 7) + (skipsG (S 0) k river a sp))) 0 ((150 + (6 * river)) + 2) (skipsG (S 0) k river a sp)) 0 ((150 + (6 * river)) + 3) k) 0 (10 + 14 * k + 5) river)) H := hP
                replace hD : va_D A (mW E Ad (put (put (put (put (put (put (put (mKeeps (put S 7 7 0) 0) 0 (10 + 14 * k + 6) ((((S 0 ((10 + 14 * k + 6)))) + 1))) 0 (10 + 14 * k + 7) (((S 0 (10 + 14 * k + 7)) + (skipsG (S 0) k river a sp)))) 0 5 ((S 0 5) + 1)) 0 7 ((S 0 7) + (skipsG (S 0) k river a sp))) 0 ((150 + (6 * river)) + 2) (skipsG (S 0) k river a sp)) 0 ((150 + (6 * river)) + 3) k) 0 (10 + 14 * k + 5) river)) := hD
                show W p l e _ s m args below meth c H locs _ _ Q (F0 m 262 ls [.int (zI (min ((S 0 (10 + 14 * k + 2)) + (skipsG (S 0) k river a sp)) 99)), .int (zI (2)), .int (zI (k)), .ref (Ad 0)])
                refine kz_backM (va_runV (As := [.int (zI (k)), .int (zI (2)), .int (zI (min ((S 0 (10 + 14 * k + 2)) + (skipsG (S 0) k river a sp)) 99))]) (rest := []) ⟨hx, hb, hml, hown, hts⟩ (mX3_lays l E H.size Ad (put (put (put (put (put (put (put (mKeeps (put S 7 7 0) 0) 0 (10 + 14 * k + 6) ((((S 0 ((10 + 14 * k + 6)))) + 1))) 0 (10 + 14 * k + 7) (((S 0 (10 + 14 * k + 7)) + (skipsG (S 0) k river a sp)))) 0 5 ((S 0 5) + 1)) 0 7 ((S 0 7) + (skipsG (S 0) k river a sp))) 0 ((150 + (6 * river)) + 2) (skipsG (S 0) k river a sp)) 0 ((150 + (6 * river)) + 3) k) 0 (10 + 14 * k + 5) river) hM k (by omega) 2 (by omega) (min ((S 0 (10 + 14 * k + 2)) + (skipsG (S 0) k river a sp)) 99) (by omega) (show 0 ≤ k ∧ k < 10 by first | omega | exact hI.st _ (by omega) (by omega) | exact hI.rv _ (by omega) (by omega) | exact hI) (show 0 ≤ 2 ∧ 2 < 14 by first | omega | exact hI.st _ (by omega) (by omega) | exact hI.rv _ (by omega) (by omega) | exact hI)) (cwV 3 hts (lw_V q2409 q2411 qs39 q83 q2412) rfl rfl rfl (by decide +kernel) ⟨(Nat.le_of_ble_eq_true rfl), (Nat.le_of_ble_eq_true rfl)⟩) (kz_preVM (wc := mW E Ad (put (put (put (put (put (put (put (mKeeps (put S 7 7 0) 0) 0 (10 + 14 * k + 6) ((((S 0 ((10 + 14 * k + 6)))) + 1))) 0 (10 + 14 * k + 7) (((S 0 (10 + 14 * k + 7)) + (skipsG (S 0) k river a sp)))) 0 5 ((S 0 5) + 1)) 0 7 ((S 0 7) + (skipsG (S 0) k river a sp))) 0 ((150 + (6 * river)) + 2) (skipsG (S 0) k river a sp)) 0 ((150 + (6 * river)) + 3) k) 0 (10 + 14 * k + 5) river)) (va_recv hK hP (ci := 2) (q0 := 0) rfl rfl) hG hS hAN hP hD kz_nilP kz_nilA) rfl rfl hl.1 rfl (lv_room (Nat.le_of_ble_eq_true rfl)) dX3_skim_262 ⟨(Nat.le_of_ble_eq_true rfl), (Nat.le_of_ble_eq_true rfl)⟩) hP hD hS hA (fun u H9 locs9 hu hP9 hD9 hS9 hzz hkk => ?_)
                clear hzz hkk hP hD hS H locs u
                revert hS9 hD9 hP9 locs9 H9
                intro H locs hP hD hS
                replace hM : MOk (put (put (put (put (put (put (put (put (mKeeps (put S 7 7 0) 0) 0 (10 + 14 * k + 6) ((((S 0 ((10 + 14 * k + 6)))) + 1))) 0 (10 + 14 * k + 7) (((S 0 (10 + 14 * k + 7)) + (skipsG (S 0) k river a sp)))) 0 5 ((S 0 5) + 1)) 0 7 ((S 0 7) + (skipsG (S 0) k river a sp))) 0 ((150 + (6 * river)) + 2) (skipsG (S 0) k river a sp)) 0 ((150 + (6 * river)) + 3) k) 0 (10 + 14 * k + 5) river) 0 (10 + 14 * k + 2) ((min ((S 0 (10 + 14 * k + 2)) + (skipsG (S 0) k river a sp)) 99))) := hu
                clear hu
                replace hP : va_P (kD E) kcl (mW E Ad (put (put (put (put (put (put (put (put (mKeeps (put S 7 7 0) 0) 0 (10 + 14 * k + 6) ((((S 0 ((10 + 14 * k + 6)))) + 1))) 0 (10 + 14 * k + 7) (((S 0 (10 + 14 * k + 7)) + (skipsG (S 0) k river a sp)))) 0 5 ((S 0 5) + 1)) 0 7 ((S 0 7) + (skipsG (S 0) k river a sp))) 0 ((150 + (6 * river)) + 2) (skipsG (S 0) k river a sp)) 0 ((150 + (6 * river)) + 3) k) 0 (10 + 14 * k + 5) river) 0 (10 + 14 * k + 2) ((min ((S 0 (10 + 14 * k + 2)) + (skipsG (S 0) k river a sp)) 99)))) H := hP
                replace hD : va_D A (mW E Ad (put (put (put (put (put (put (put (put (mKeeps (put S 7 7 0) 0) 0 (10 + 14 * k + 6) ((((S 0 ((10 + 14 * k + 6)))) + 1))) 0 (10 + 14 * k + 7) (((S 0 (10 + 14 * k + 7)) + (skipsG (S 0) k river a sp)))) 0 5 ((S 0 5) + 1)) 0 7 ((S 0 7) + (skipsG (S 0) k river a sp))) 0 ((150 + (6 * river)) + 2) (skipsG (S 0) k river a sp)) 0 ((150 + (6 * river)) + 3) k) 0 (10 + 14 * k + 5) river) 0 (10 + 14 * k + 2) ((min ((S 0 (10 + 14 * k + 2)) + (skipsG (S 0) k river a sp)) 99)))) := hD
                show W p l e _ s m args below meth c H locs _ _ Q (F0 m 265 ls [])
                refine lv_aload_n hx hb dX3_skim_265 rfl (lv_at hl 1 rfl) ?_
                refine va_get (D := kD E) (ci := 2) (fs := mO Ad (put (put (put (put (put (put (put (put (mKeeps (put S 7 7 0) 0) 0 (10 + 14 * k + 6) ((((S 0 ((10 + 14 * k + 6)))) + 1))) 0 (10 + 14 * k + 7) (((S 0 (10 + 14 * k + 7)) + (skipsG (S 0) k river a sp)))) 0 5 ((S 0 5) + 1)) 0 7 ((S 0 7) + (skipsG (S 0) k river a sp))) 0 ((150 + (6 * river)) + 2) (skipsG (S 0) k river a sp)) 0 ((150 + (6 * river)) + 3) k) 0 (10 + 14 * k + 5) river) 0 (10 + 14 * k + 2) ((min ((S 0 (10 + 14 * k + 2)) + (skipsG (S 0) k river a sp)) 99)))) (v := .ref (Ad 1)) (C := RX3) (T := TX3) (N := 19) hx hb hts in_X3 hown hK hP 0 rfl rfl 0 (by decide) (hts _ q2320) (fun _ h9 => h9) rfl dX3_skim_266 ?_
                refine kz_bipush hx hb dX3_skim_269 (by decide) ?_
                refine lv_dup2_11 hx hb dX3_skim_271 rfl rfl ?_
                refine kz_iald (cA := kA E 0) (n := 304) (g := (put (put (put (put (put (put (put (put (mKeeps (put S 7 7 0) 0) 0 (10 + 14 * k + 6) ((((S 0 ((10 + 14 * k + 6)))) + 1))) 0 (10 + 14 * k + 7) (((S 0 (10 + 14 * k + 7)) + (skipsG (S 0) k river a sp)))) 0 5 ((S 0 5) + 1)) 0 7 ((S 0 7) + (skipsG (S 0) k river a sp))) 0 ((150 + (6 * river)) + 2) (skipsG (S 0) k river a sp)) 0 ((150 + (6 * river)) + 3) k) 0 (10 + 14 * k + 5) river) 0 (10 + 14 * k + 2) ((min ((S 0 (10 + 14 * k + 2)) + (skipsG (S 0) k river a sp)) 99))) 0) hx hb hK hP 1 0 rfl rfl (by omega) dX3_skim_272 ?_
                have r30 : rI ((put (put (put (put (put (put (put (put (mKeeps (put S 7 7 0) 0) 0 (10 + 14 * k + 6) ((((S 0 ((10 + 14 * k + 6)))) + 1))) 0 (10 + 14 * k + 7) (((S 0 (10 + 14 * k + 7)) + (skipsG (S 0) k river a sp)))) 0 5 ((S 0 5) + 1)) 0 7 ((S 0 7) + (skipsG (S 0) k river a sp))) 0 ((150 + (6 * river)) + 2) (skipsG (S 0) k river a sp)) 0 ((150 + (6 * river)) + 3) k) 0 (10 + 14 * k + 5) river) 0 (10 + 14 * k + 2) ((min ((S 0 (10 + 14 * k + 2)) + (skipsG (S 0) k river a sp)) 99))) 0 6) := hM 0 6
                have q31 : (put (put (put (put (put (put (put (put (mKeeps (put S 7 7 0) 0) 0 (10 + 14 * k + 6) ((((S 0 ((10 + 14 * k + 6)))) + 1))) 0 (10 + 14 * k + 7) (((S 0 (10 + 14 * k + 7)) + (skipsG (S 0) k river a sp)))) 0 5 ((S 0 5) + 1)) 0 7 ((S 0 7) + (skipsG (S 0) k river a sp))) 0 ((150 + (6 * river)) + 2) (skipsG (S 0) k river a sp)) 0 ((150 + (6 * river)) + 3) k) 0 (10 + 14 * k + 5) river) 0 (10 + 14 * k + 2) ((min ((S 0 (10 + 14 * k + 2)) + (skipsG (S 0) k river a sp)) 99))) 0 6 = S 0 6 := by
                  show uz ((put (put (put (put (put (put (put (mKeeps (put S 7 7 0) 0) 0 (10 + 14 * k + 6) ((((S 0 ((10 + 14 * k + 6)))) + 1))) 0 (10 + 14 * k + 7) (((S 0 (10 + 14 * k + 7)) + (skipsG (S 0) k river a sp)))) 0 5 ((S 0 5) + 1)) 0 7 ((S 0 7) + (skipsG (S 0) k river a sp))) 0 ((150 + (6 * river)) + 2) (skipsG (S 0) k river a sp)) 0 ((150 + (6 * river)) + 3) k) 0 (10 + 14 * k + 5) river) 0) (10 + 14 * k + 2) ((min ((S 0 (10 + 14 * k + 2)) + (skipsG (S 0) k river a sp)) 99)) 6 = _
                  rw [uz_n (by omega)]
                  show uz ((put (put (put (put (put (put (mKeeps (put S 7 7 0) 0) 0 (10 + 14 * k + 6) ((((S 0 ((10 + 14 * k + 6)))) + 1))) 0 (10 + 14 * k + 7) (((S 0 (10 + 14 * k + 7)) + (skipsG (S 0) k river a sp)))) 0 5 ((S 0 5) + 1)) 0 7 ((S 0 7) + (skipsG (S 0) k river a sp))) 0 ((150 + (6 * river)) + 2) (skipsG (S 0) k river a sp)) 0 ((150 + (6 * river)) + 3) k) 0) (10 + 14 * k + 5) river 6 = _
                  rw [uz_n (by omega)]
                  show uz ((put (put (put (put (put (mKeeps (put S 7 7 0) 0) 0 (10 + 14 * k + 6) ((((S 0 ((10 + 14 * k + 6)))) + 1))) 0 (10 + 14 * k + 7) (((S 0 (10 + 14 * k + 7)) + (skipsG (S 0) k river a sp)))) 0 5 ((S 0 5) + 1)) 0 7 ((S 0 7) + (skipsG (S 0) k river a sp))) 0 ((150 + (6 * river)) + 2) (skipsG (S 0) k river a sp)) 0) ((150 + (6 * river)) + 3) k 6 = _
                  rw [uz_n (by omega)]
                  show uz ((put (put (put (put (mKeeps (put S 7 7 0) 0) 0 (10 + 14 * k + 6) ((((S 0 ((10 + 14 * k + 6)))) + 1))) 0 (10 + 14 * k + 7) (((S 0 (10 + 14 * k + 7)) + (skipsG (S 0) k river a sp)))) 0 5 ((S 0 5) + 1)) 0 7 ((S 0 7) + (skipsG (S 0) k river a sp))) 0) ((150 + (6 * river)) + 2) (skipsG (S 0) k river a sp) 6 = _
                  rw [uz_n (by omega)]
                  show uz ((put (mKeeps (put S 7 7 0) 0) 0 (10 + 14 * k + 6) ((((S 0 ((10 + 14 * k + 6)))) + 1))) 0) (10 + 14 * k + 7) (((S 0 (10 + 14 * k + 7)) + (skipsG (S 0) k river a sp))) 6 = _
                  rw [uz_n (by omega)]
                  show uz ((mKeeps (put S 7 7 0) 0) 0) (10 + 14 * k + 6) ((((S 0 ((10 + 14 * k + 6)))) + 1)) 6 = _
                  rw [uz_n (by omega)]
                  all_goals rfl
                rw [q31]
                refine kz_iconst hx hb dX3_skim_273 ?_
                refine kz_iadd hx hb dX3_skim_274 ?_
                refine kz_iast (cA := kA E 0) (n := 304) (g := (put (put (put (put (put (put (put (put (mKeeps (put S 7 7 0) 0) 0 (10 + 14 * k + 6) ((((S 0 ((10 + 14 * k + 6)))) + 1))) 0 (10 + 14 * k + 7) (((S 0 (10 + 14 * k + 7)) + (skipsG (S 0) k river a sp)))) 0 5 ((S 0 5) + 1)) 0 7 ((S 0 7) + (skipsG (S 0) k river a sp))) 0 ((150 + (6 * river)) + 2) (skipsG (S 0) k river a sp)) 0 ((150 + (6 * river)) + 3) k) 0 (10 + 14 * k + 5) river) 0 (10 + 14 * k + 2) ((min ((S 0 (10 + 14 * k + 2)) + (skipsG (S 0) k river a sp)) 99))) 0) hx hb hK hP hD hS 1 0 rfl rfl (by omega) dX3_skim_275 (fun H9 locs9 hP9 hD9 hS9 => ?_)
                rw [mW_a0] at hP9 hD9
                clear hP hD hS H locs
                revert hS9 hD9 hP9 locs9 H9
                intro H locs hP hD hS
                replace hP : va_P (kD E) kcl (mW E Ad (put (put (put (put (put (put (put (put (put (mKeeps (put S 7 7 0) 0) 0 (10 + 14 * k + 6) ((((S 0 ((10 + 14 * k + 6)))) + 1))) 0 (10 + 14 * k + 7) (((S 0 (10 + 14 * k + 7)) + (skipsG (S 0) k river a sp)))) 0 5 ((S 0 5) + 1)) 0 7 ((S 0 7) + (skipsG (S 0) k river a sp))) 0 ((150 + (6 * river)) + 2) (skipsG (S 0) k river a sp)) 0 ((150 + (6 * river)) + 3) k) 0 (10 + 14 * k + 5) river) 0 (10 + 14 * k + 2) ((min ((S 0 (10 + 14 * k + 2)) + (skipsG (S 0) k river a sp)) 99))) 0 6 ((S 0 6) + 1))) H := hP
                replace hD : va_D A (mW E Ad (put (put (put (put (put (put (put (put (put (mKeeps (put S 7 7 0) 0) 0 (10 + 14 * k + 6) ((((S 0 ((10 + 14 * k + 6)))) + 1))) 0 (10 + 14 * k + 7) (((S 0 (10 + 14 * k + 7)) + (skipsG (S 0) k river a sp)))) 0 5 ((S 0 5) + 1)) 0 7 ((S 0 7) + (skipsG (S 0) k river a sp))) 0 ((150 + (6 * river)) + 2) (skipsG (S 0) k river a sp)) 0 ((150 + (6 * river)) + 3) k) 0 (10 + 14 * k + 5) river) 0 (10 + 14 * k + 2) ((min ((S 0 (10 + 14 * k + 2)) + (skipsG (S 0) k river a sp)) 99))) 0 6 ((S 0 6) + 1))) := hD
                replace hM : MOk (put (put (put (put (put (put (put (put (put (mKeeps (put S 7 7 0) 0) 0 (10 + 14 * k + 6) ((((S 0 ((10 + 14 * k + 6)))) + 1))) 0 (10 + 14 * k + 7) (((S 0 (10 + 14 * k + 7)) + (skipsG (S 0) k river a sp)))) 0 5 ((S 0 5) + 1)) 0 7 ((S 0 7) + (skipsG (S 0) k river a sp))) 0 ((150 + (6 * river)) + 2) (skipsG (S 0) k river a sp)) 0 ((150 + (6 * river)) + 3) k) 0 (10 + 14 * k + 5) river) 0 (10 + 14 * k + 2) ((min ((S 0 (10 + 14 * k + 2)) + (skipsG (S 0) k river a sp)) 99))) 0 6 ((S 0 6) + 1)) := hM.put 0 _ (by omega)
                refine lv_iload hx hb dX3_skim_276 (lv_at hl 6 rfl) ?_
                have e0 : xSkim S k river a sp = (put (put (put (put (put (put (put (put (put (mKeeps (put S 7 7 0) 0) 0 (10 + 14 * k + 6) ((((S 0 ((10 + 14 * k + 6)))) + 1))) 0 (10 + 14 * k + 7) (((S 0 (10 + 14 * k + 7)) + (skipsG (S 0) k river a sp)))) 0 5 ((S 0 5) + 1)) 0 7 ((S 0 7) + (skipsG (S 0) k river a sp))) 0 ((150 + (6 * river)) + 2) (skipsG (S 0) k river a sp)) 0 ((150 + (6 * river)) + 3) k) 0 (10 + 14 * k + 5) river) 0 (10 + 14 * k + 2) ((min ((S 0 (10 + 14 * k + 2)) + (skipsG (S 0) k river a sp)) 99))) 0 6 ((S 0 6) + 1), skipsG (S 0) k river a sp) := by unfold xSkim gSkim; (repeat (first | refine Eq.trans (if_pos (by omega)) ?_ | refine Eq.trans (if_neg (by omega)) ?_)); first | rfl | ((first | rw [gSaw0_t (by omega) (by omega) (by omega)] | rw [gSaw0_f (by omega) (by omega) (by omega)]); simp (disch := omega) only [if_pos, if_neg, gOver, gSink, gSkim0, uz_n, uz_s, putR_put _ 0, putR_putR, putR_at]; all_goals rfl)
                have e1 : (xSkim S k river a sp).2 = skipsG (S 0) k river a sp := by rw [e0]
                have e3 : (xSkim S k river a sp).1 = put (put (put (put (put (put (put (put (put (mKeeps (put S 7 7 0) 0) 0 (10 + 14 * k + 6) ((((S 0 ((10 + 14 * k + 6)))) + 1))) 0 (10 + 14 * k + 7) (((S 0 (10 + 14 * k + 7)) + (skipsG (S 0) k river a sp)))) 0 5 ((S 0 5) + 1)) 0 7 ((S 0 7) + (skipsG (S 0) k river a sp))) 0 ((150 + (6 * river)) + 2) (skipsG (S 0) k river a sp)) 0 ((150 + (6 * river)) + 3) k) 0 (10 + 14 * k + 5) river) 0 (10 + 14 * k + 2) ((min ((S 0 (10 + 14 * k + 2)) + (skipsG (S 0) k river a sp)) 99))) 0 6 ((S 0 6) + 1) := by rw [e0]
                exact kz_iret () hx hb hr hlk hP hD hS dX3_skim_278 (congrArg (fun z : Int => some (Value.int (zI z))) e1) ⟨(kz_r e1 (by omega)), (kz_M e3 hM)⟩ (congrArg (mW E Ad) e3) hQ (Nat.le_of_ble_eq_true rfl) (Nat.le_of_ble_eq_true rfl)
            · skip
              refine lv_iload hx hb dX3_skim_189 (lv_at hl 6 rfl) ?_
              refine lv_aload_n hx hb dX3_skim_191 rfl (lv_at hl 1 rfl) ?_
              refine lv_iload_n hx hb dX3_skim_192 rfl (lv_at hl 3 rfl) ?_
              refine kz_iconst hx hb dX3_skim_193 ?_
              refine kz_backM (va_runV (As := [.int (zI (river)), .int (zI (2))]) (rest := [.int (zI (skipsG (S 0) k river a sp))]) ⟨hx, hb, hml, hown, hts⟩ (mX3_its l E H.size Ad (put (put (put (put (mKeeps (put S 7 7 0) 0) 0 (10 + 14 * k + 6) ((((S 0 ((10 + 14 * k + 6)))) + 1))) 0 (10 + 14 * k + 7) (((S 0 (10 + 14 * k + 7)) + (skipsG (S 0) k river a sp)))) 0 5 ((S 0 5) + 1)) 0 7 ((S 0 7) + (skipsG (S 0) k river a sp))) hM river (by omega) 2 (by omega) (show 0 ≤ river ∧ river < 4 by first | omega | exact hI.st _ (by omega) (by omega) | exact hI.rv _ (by omega) (by omega) | exact hI) (show 0 ≤ 2 ∧ 2 < 6 by first | omega | exact hI.st _ (by omega) (by omega) | exact hI.rv _ (by omega) (by omega) | exact hI)) (cwV 2 hts (lw_V q2425 q2427 qs41 q83 q2428) rfl rfl rfl (by decide +kernel) ⟨(Nat.le_of_ble_eq_true rfl), (Nat.le_of_ble_eq_true rfl)⟩) (kz_preVM (wc := mW E Ad (put (put (put (put (mKeeps (put S 7 7 0) 0) 0 (10 + 14 * k + 6) ((((S 0 ((10 + 14 * k + 6)))) + 1))) 0 (10 + 14 * k + 7) (((S 0 (10 + 14 * k + 7)) + (skipsG (S 0) k river a sp)))) 0 5 ((S 0 5) + 1)) 0 7 ((S 0 7) + (skipsG (S 0) k river a sp)))) (va_recv hK hP (ci := 2) (q0 := 0) rfl rfl) hG hS hAN hP hD kz_nilP kz_nilA) rfl rfl hl.1 rfl (lv_room (Nat.le_of_ble_eq_true rfl)) dX3_skim_194 ⟨(Nat.le_of_ble_eq_true rfl), (Nat.le_of_ble_eq_true rfl)⟩) hP hD hS hA (fun u H9 locs9 hu hP9 hD9 hS9 hzz hkk => ?_)
              clear hzz hkk hP hD hS H locs u
              revert hS9 hD9 hP9 locs9 H9
              intro H locs hP hD hS
              have r32 : rI (((put (put (put (put (mKeeps (put S 7 7 0) 0) 0 (10 + 14 * k + 6) ((((S 0 ((10 + 14 * k + 6)))) + 1))) 0 (10 + 14 * k + 7) (((S 0 (10 + 14 * k + 7)) + (skipsG (S 0) k river a sp)))) 0 5 ((S 0 5) + 1)) 0 7 ((S 0 7) + (skipsG (S 0) k river a sp))) 0 ((150 + 6 * river + 2)))) := hu
              clear hu
              replace hP : va_P (kD E) kcl (mW E Ad (put (put (put (put (mKeeps (put S 7 7 0) 0) 0 (10 + 14 * k + 6) ((((S 0 ((10 + 14 * k + 6)))) + 1))) 0 (10 + 14 * k + 7) (((S 0 (10 + 14 * k + 7)) + (skipsG (S 0) k river a sp)))) 0 5 ((S 0 5) + 1)) 0 7 ((S 0 7) + (skipsG (S 0) k river a sp)))) H := hP
              replace hD : va_D A (mW E Ad (put (put (put (put (mKeeps (put S 7 7 0) 0) 0 (10 + 14 * k + 6) ((((S 0 ((10 + 14 * k + 6)))) + 1))) 0 (10 + 14 * k + 7) (((S 0 (10 + 14 * k + 7)) + (skipsG (S 0) k river a sp)))) 0 5 ((S 0 5) + 1)) 0 7 ((S 0 7) + (skipsG (S 0) k river a sp)))) := hD
              show W p l e _ s m args below meth c H locs _ _ Q (F0 m 197 ls [.int (zI (((put (put (put (put (mKeeps (put S 7 7 0) 0) 0 (10 + 14 * k + 6) ((((S 0 ((10 + 14 * k + 6)))) + 1))) 0 (10 + 14 * k + 7) (((S 0 (10 + 14 * k + 7)) + (skipsG (S 0) k river a sp)))) 0 5 ((S 0 5) + 1)) 0 7 ((S 0 7) + (skipsG (S 0) k river a sp))) 0 ((150 + 6 * river + 2))))), .int (zI (skipsG (S 0) k river a sp))])
              have q33 : (put (put (put (put (mKeeps (put S 7 7 0) 0) 0 (10 + 14 * k + 6) ((((S 0 ((10 + 14 * k + 6)))) + 1))) 0 (10 + 14 * k + 7) (((S 0 (10 + 14 * k + 7)) + (skipsG (S 0) k river a sp)))) 0 5 ((S 0 5) + 1)) 0 7 ((S 0 7) + (skipsG (S 0) k river a sp))) 0 (150 + 6 * river + 2) = S 0 (150 + 6 * river + 2) := by
                show uz ((put (put (put (mKeeps (put S 7 7 0) 0) 0 (10 + 14 * k + 6) ((((S 0 ((10 + 14 * k + 6)))) + 1))) 0 (10 + 14 * k + 7) (((S 0 (10 + 14 * k + 7)) + (skipsG (S 0) k river a sp)))) 0 5 ((S 0 5) + 1)) 0) 7 ((S 0 7) + (skipsG (S 0) k river a sp)) (150 + 6 * river + 2) = _
                rw [uz_n (by omega)]
                show uz ((put (put (mKeeps (put S 7 7 0) 0) 0 (10 + 14 * k + 6) ((((S 0 ((10 + 14 * k + 6)))) + 1))) 0 (10 + 14 * k + 7) (((S 0 (10 + 14 * k + 7)) + (skipsG (S 0) k river a sp)))) 0) 5 ((S 0 5) + 1) (150 + 6 * river + 2) = _
                rw [uz_n (by omega)]
                show uz ((put (mKeeps (put S 7 7 0) 0) 0 (10 + 14 * k + 6) ((((S 0 ((10 + 14 * k + 6)))) + 1))) 0) (10 + 14 * k + 7) (((S 0 (10 + 14 * k + 7)) + (skipsG (S 0) k river a sp))) (150 + 6 * river + 2) = _
                rw [uz_n (by omega)]
                show uz ((mKeeps (put S 7 7 0) 0) 0) (10 + 14 * k + 6) ((((S 0 ((10 + 14 * k + 6)))) + 1)) (150 + 6 * river + 2) = _
                rw [uz_n (by omega)]
                all_goals rfl
              rw [q33]
              refine kz_icmp_le (tgt := 233) hx hb dX3_skim_197 (by decide) (by omega) (by omega) (fun c197 => ?_) (fun c197 => ?_)
              · skip
                refine lv_iload hx hb dX3_skim_233 (lv_at hl 0 rfl) ?_
                refine kz_if0B (tgt := 279) hx hb dX3_skim_235 (by decide) (fun c235 => ?_) (fun c235 => ?_)
                · skip
                  refine lv_aload_n hx hb dX3_skim_279 rfl (lv_at hl 1 rfl) ?_
                  refine lv_iload_n hx hb dX3_skim_280 rfl (lv_at hl 2 rfl) ?_
                  refine kz_iconst hx hb dX3_skim_281 ?_
                  refine kz_bipush hx hb dX3_skim_282 (by decide) ?_
                  refine kz_backM (va_runV (As := [.int (zI (k)), .int (zI (5)), .int (zI ((-2)))]) (rest := []) ⟨hx, hb, hml, hown, hts⟩ (mX3_lays l E H.size Ad (put (put (put (put (mKeeps (put S 7 7 0) 0) 0 (10 + 14 * k + 6) ((((S 0 ((10 + 14 * k + 6)))) + 1))) 0 (10 + 14 * k + 7) (((S 0 (10 + 14 * k + 7)) + (skipsG (S 0) k river a sp)))) 0 5 ((S 0 5) + 1)) 0 7 ((S 0 7) + (skipsG (S 0) k river a sp))) hM k (by omega) 5 (by omega) ((-2)) (by omega) (show 0 ≤ k ∧ k < 10 by first | omega | exact hI.st _ (by omega) (by omega) | exact hI.rv _ (by omega) (by omega) | exact hI) (show 0 ≤ 5 ∧ 5 < 14 by first | omega | exact hI.st _ (by omega) (by omega) | exact hI.rv _ (by omega) (by omega) | exact hI)) (cwV 3 hts (lw_V q2409 q2411 qs39 q83 q2412) rfl rfl rfl (by decide +kernel) ⟨(Nat.le_of_ble_eq_true rfl), (Nat.le_of_ble_eq_true rfl)⟩) (kz_preVM (wc := mW E Ad (put (put (put (put (mKeeps (put S 7 7 0) 0) 0 (10 + 14 * k + 6) ((((S 0 ((10 + 14 * k + 6)))) + 1))) 0 (10 + 14 * k + 7) (((S 0 (10 + 14 * k + 7)) + (skipsG (S 0) k river a sp)))) 0 5 ((S 0 5) + 1)) 0 7 ((S 0 7) + (skipsG (S 0) k river a sp)))) (va_recv hK hP (ci := 2) (q0 := 0) rfl rfl) hG hS hAN hP hD kz_nilP kz_nilA) rfl rfl hl.1 rfl (lv_room (Nat.le_of_ble_eq_true rfl)) dX3_skim_284 ⟨(Nat.le_of_ble_eq_true rfl), (Nat.le_of_ble_eq_true rfl)⟩) hP hD hS hA (fun u H9 locs9 hu hP9 hD9 hS9 hzz hkk => ?_)
                  clear hzz hkk hP hD hS H locs u
                  revert hS9 hD9 hP9 locs9 H9
                  intro H locs hP hD hS
                  replace hM : MOk (put (put (put (put (put (mKeeps (put S 7 7 0) 0) 0 (10 + 14 * k + 6) ((((S 0 ((10 + 14 * k + 6)))) + 1))) 0 (10 + 14 * k + 7) (((S 0 (10 + 14 * k + 7)) + (skipsG (S 0) k river a sp)))) 0 5 ((S 0 5) + 1)) 0 7 ((S 0 7) + (skipsG (S 0) k river a sp))) 0 (10 + 14 * k + 5) (((-2)))) := hu
                  clear hu
                  replace hP : va_P (kD E) kcl (mW E Ad (put (put (put (put (put (mKeeps (put S 7 7 0) 0) 0 (10 + 14 * k + 6) ((((S 0 ((10 + 14 * k + 6)))) + 1))) 0 (10 + 14 * k + 7) (((S 0 (10 + 14 * k + 7)) + (skipsG (S 0) k river a sp)))) 0 5 ((S 0 5) + 1)) 0 7 ((S 0 7) + (skipsG (S 0) k river a sp))) 0 (10 + 14 * k + 5) (((-2))))) H := hP
                  replace hD : va_D A (mW E Ad (put (put (put (put (put (mKeeps (put S 7 7 0) 0) 0 (10 + 14 * k + 6) ((((S 0 ((10 + 14 * k + 6)))) + 1))) 0 (10 + 14 * k + 7) (((S 0 (10 + 14 * k + 7)) + (skipsG (S 0) k river a sp)))) 0 5 ((S 0 5) + 1)) 0 7 ((S 0 7) + (skipsG (S 0) k river a sp))) 0 (10 + 14 * k + 5) (((-2))))) := hD
                  show W p l e _ s m args below meth c H locs _ _ Q (F0 m 287 ls [])
                  refine lv_aload_n hx hb dX3_skim_287 rfl (lv_at hl 1 rfl) ?_
                  refine lv_iload_n hx hb dX3_skim_288 rfl (lv_at hl 2 rfl) ?_
                  refine kz_bipush hx hb dX3_skim_289 (by decide) ?_
                  refine lv_aload_n hx hb dX3_skim_291 rfl (lv_at hl 1 rfl) ?_
                  refine va_get (D := kD E) (ci := 2) (fs := mO Ad (put (put (put (put (put (mKeeps (put S 7 7 0) 0) 0 (10 + 14 * k + 6) ((((S 0 ((10 + 14 * k + 6)))) + 1))) 0 (10 + 14 * k + 7) (((S 0 (10 + 14 * k + 7)) + (skipsG (S 0) k river a sp)))) 0 5 ((S 0 5) + 1)) 0 7 ((S 0 7) + (skipsG (S 0) k river a sp))) 0 (10 + 14 * k + 5) (((-2))))) (v := .ref (Ad 1)) (C := RX3) (T := TX3) (N := 19) hx hb hts in_X3 hown hK hP 0 rfl rfl 0 (by decide) (hts _ q2320) (fun _ h9 => h9) rfl dX3_skim_292 ?_
                  refine kz_iconst hx hb dX3_skim_295 ?_
                  refine kz_iald (cA := kA E 0) (n := 304) (g := (put (put (put (put (put (mKeeps (put S 7 7 0) 0) 0 (10 + 14 * k + 6) ((((S 0 ((10 + 14 * k + 6)))) + 1))) 0 (10 + 14 * k + 7) (((S 0 (10 + 14 * k + 7)) + (skipsG (S 0) k river a sp)))) 0 5 ((S 0 5) + 1)) 0 7 ((S 0 7) + (skipsG (S 0) k river a sp))) 0 (10 + 14 * k + 5) (((-2)))) 0) hx hb hK hP 1 0 rfl rfl (by omega) dX3_skim_296 ?_
                  have r34 : rI ((put (put (put (put (put (mKeeps (put S 7 7 0) 0) 0 (10 + 14 * k + 6) ((((S 0 ((10 + 14 * k + 6)))) + 1))) 0 (10 + 14 * k + 7) (((S 0 (10 + 14 * k + 7)) + (skipsG (S 0) k river a sp)))) 0 5 ((S 0 5) + 1)) 0 7 ((S 0 7) + (skipsG (S 0) k river a sp))) 0 (10 + 14 * k + 5) (((-2)))) 0 2) := hM 0 2
                  have q35 : (put (put (put (put (put (mKeeps (put S 7 7 0) 0) 0 (10 + 14 * k + 6) ((((S 0 ((10 + 14 * k + 6)))) + 1))) 0 (10 + 14 * k + 7) (((S 0 (10 + 14 * k + 7)) + (skipsG (S 0) k river a sp)))) 0 5 ((S 0 5) + 1)) 0 7 ((S 0 7) + (skipsG (S 0) k river a sp))) 0 (10 + 14 * k + 5) (((-2)))) 0 2 = S 0 2 := by
                    show uz ((put (put (put (put (mKeeps (put S 7 7 0) 0) 0 (10 + 14 * k + 6) ((((S 0 ((10 + 14 * k + 6)))) + 1))) 0 (10 + 14 * k + 7) (((S 0 (10 + 14 * k + 7)) + (skipsG (S 0) k river a sp)))) 0 5 ((S 0 5) + 1)) 0 7 ((S 0 7) + (skipsG (S 0) k river a sp))) 0) (10 + 14 * k + 5) (((-2))) 2 = _
                    rw [uz_n (by omega)]
                    show uz ((put (mKeeps (put S 7 7 0) 0) 0 (10 + 14 * k + 6) ((((S 0 ((10 + 14 * k + 6)))) + 1))) 0) (10 + 14 * k + 7) (((S 0 (10 + 14 * k + 7)) + (skipsG (S 0) k river a sp))) 2 = _
                    rw [uz_n (by omega)]
                    show uz ((mKeeps (put S 7 7 0) 0) 0) (10 + 14 * k + 6) ((((S 0 ((10 + 14 * k + 6)))) + 1)) 2 = _
                    rw [uz_n (by omega)]
                    all_goals rfl
                  rw [q35]
                  rw [q35] at r34
                  refine kz_backM (va_runV (As := [.int (zI (k)), .int (zI (10)), .int (zI (S 0 2))]) (rest := []) ⟨hx, hb, hml, hown, hts⟩ (mX3_lays l E H.size Ad (put (put (put (put (put (mKeeps (put S 7 7 0) 0) 0 (10 + 14 * k + 6) ((((S 0 ((10 + 14 * k + 6)))) + 1))) 0 (10 + 14 * k + 7) (((S 0 (10 + 14 * k + 7)) + (skipsG (S 0) k river a sp)))) 0 5 ((S 0 5) + 1)) 0 7 ((S 0 7) + (skipsG (S 0) k river a sp))) 0 (10 + 14 * k + 5) (((-2)))) hM k (by omega) 10 (by omega) (S 0 2) (by omega) (show 0 ≤ k ∧ k < 10 by first | omega | exact hI.st _ (by omega) (by omega) | exact hI.rv _ (by omega) (by omega) | exact hI) (show 0 ≤ 10 ∧ 10 < 14 by first | omega | exact hI.st _ (by omega) (by omega) | exact hI.rv _ (by omega) (by omega) | exact hI)) (cwV 3 hts (lw_V q2409 q2411 qs39 q83 q2412) rfl rfl rfl (by decide +kernel) ⟨(Nat.le_of_ble_eq_true rfl), (Nat.le_of_ble_eq_true rfl)⟩) (kz_preVM (wc := mW E Ad (put (put (put (put (put (mKeeps (put S 7 7 0) 0) 0 (10 + 14 * k + 6) ((((S 0 ((10 + 14 * k + 6)))) + 1))) 0 (10 + 14 * k + 7) (((S 0 (10 + 14 * k + 7)) + (skipsG (S 0) k river a sp)))) 0 5 ((S 0 5) + 1)) 0 7 ((S 0 7) + (skipsG (S 0) k river a sp))) 0 (10 + 14 * k + 5) (((-2))))) (va_recv hK hP (ci := 2) (q0 := 0) rfl rfl) hG hS hAN hP hD kz_nilP kz_nilA) rfl rfl hl.1 rfl (lv_room (Nat.le_of_ble_eq_true rfl)) dX3_skim_297 ⟨(Nat.le_of_ble_eq_true rfl), (Nat.le_of_ble_eq_true rfl)⟩) hP hD hS hA (fun u H9 locs9 hu hP9 hD9 hS9 hzz hkk => ?_)
                  clear hzz hkk hP hD hS H locs u
                  revert hS9 hD9 hP9 locs9 H9
                  intro H locs hP hD hS
                  replace hM : MOk (put (put (put (put (put (put (mKeeps (put S 7 7 0) 0) 0 (10 + 14 * k + 6) ((((S 0 ((10 + 14 * k + 6)))) + 1))) 0 (10 + 14 * k + 7) (((S 0 (10 + 14 * k + 7)) + (skipsG (S 0) k river a sp)))) 0 5 ((S 0 5) + 1)) 0 7 ((S 0 7) + (skipsG (S 0) k river a sp))) 0 (10 + 14 * k + 5) (((-2)))) 0 (10 + 14 * k + 10) ((S 0 2))) := hu
                  clear hu
                  replace hP : va_P (kD E) kcl (mW E Ad (put (put (put (put (put (put (mKeeps (put S 7 7 0) 0) 0 (10 + 14 * k + 6) ((((S 0 ((10 + 14 * k + 6)))) + 1))) 0 (10 + 14 * k + 7) (((S 0 (10 + 14 * k + 7)) + (skipsG (S 0) k river a sp)))) 0 5 ((S 0 5) + 1)) 0 7 ((S 0 7) + (skipsG (S 0) k river a sp))) 0 (10 + 14 * k + 5) (((-2)))) 0 (10 + 14 * k + 10) ((S 0 2)))) H := hP
                  replace hD : va_D A (mW E Ad (put (put (put (put (put (put (mKeeps (put S 7 7 0) 0) 0 (10 + 14 * k + 6) ((((S 0 ((10 + 14 * k + 6)))) + 1))) 0 (10 + 14 * k + 7) (((S 0 (10 + 14 * k + 7)) + (skipsG (S 0) k river a sp)))) 0 5 ((S 0 5) + 1)) 0 7 ((S 0 7) + (skipsG (S 0) k river a sp))) 0 (10 + 14 * k + 5) (((-2)))) 0 (10 + 14 * k + 10) ((S 0 2)))) := hD
                  show W p l e _ s m args below meth c H locs _ _ Q (F0 m 300 ls [])
                  refine lv_aload_n hx hb dX3_skim_300 rfl (lv_at hl 1 rfl) ?_
                  refine va_get (D := kD E) (ci := 2) (fs := mO Ad (put (put (put (put (put (put (mKeeps (put S 7 7 0) 0) 0 (10 + 14 * k + 6) ((((S 0 ((10 + 14 * k + 6)))) + 1))) 0 (10 + 14 * k + 7) (((S 0 (10 + 14 * k + 7)) + (skipsG (S 0) k river a sp)))) 0 5 ((S 0 5) + 1)) 0 7 ((S 0 7) + (skipsG (S 0) k river a sp))) 0 (10 + 14 * k + 5) (((-2)))) 0 (10 + 14 * k + 10) ((S 0 2)))) (v := .ref (Ad 1)) (C := RX3) (T := TX3) (N := 19) hx hb hts in_X3 hown hK hP 0 rfl rfl 0 (by decide) (hts _ q2320) (fun _ h9 => h9) rfl dX3_skim_301 ?_
                  refine kz_sipush hx hb dX3_skim_304 (by decide) ?_
                  refine kz_bipush hx hb dX3_skim_307 (by decide) ?_
                  refine lv_iload_n hx hb dX3_skim_309 rfl (lv_at hl 3 rfl) ?_
                  refine kz_imul hx hb dX3_skim_310 ?_
                  refine kz_iadd hx hb dX3_skim_311 ?_
                  refine kz_iconst hx hb dX3_skim_312 ?_
                  refine kz_iadd hx hb dX3_skim_313 ?_
                  refine lv_dup2_11 hx hb dX3_skim_314 rfl rfl ?_
                  refine kz_iald (cA := kA E 0) (n := 304) (g := (put (put (put (put (put (put (mKeeps (put S 7 7 0) 0) 0 (10 + 14 * k + 6) ((((S 0 ((10 + 14 * k + 6)))) + 1))) 0 (10 + 14 * k + 7) (((S 0 (10 + 14 * k + 7)) + (skipsG (S 0) k river a sp)))) 0 5 ((S 0 5) + 1)) 0 7 ((S 0 7) + (skipsG (S 0) k river a sp))) 0 (10 + 14 * k + 5) (((-2)))) 0 (10 + 14 * k + 10) ((S 0 2))) 0) hx hb hK hP 1 0 rfl rfl (by omega) dX3_skim_315 ?_
                  have r36 : rI ((put (put (put (put (put (put (mKeeps (put S 7 7 0) 0) 0 (10 + 14 * k + 6) ((((S 0 ((10 + 14 * k + 6)))) + 1))) 0 (10 + 14 * k + 7) (((S 0 (10 + 14 * k + 7)) + (skipsG (S 0) k river a sp)))) 0 5 ((S 0 5) + 1)) 0 7 ((S 0 7) + (skipsG (S 0) k river a sp))) 0 (10 + 14 * k + 5) (((-2)))) 0 (10 + 14 * k + 10) ((S 0 2))) 0 ((150 + (6 * river)) + 4)) := hM 0 ((150 + (6 * river)) + 4)
                  have q37 : (put (put (put (put (put (put (mKeeps (put S 7 7 0) 0) 0 (10 + 14 * k + 6) ((((S 0 ((10 + 14 * k + 6)))) + 1))) 0 (10 + 14 * k + 7) (((S 0 (10 + 14 * k + 7)) + (skipsG (S 0) k river a sp)))) 0 5 ((S 0 5) + 1)) 0 7 ((S 0 7) + (skipsG (S 0) k river a sp))) 0 (10 + 14 * k + 5) (((-2)))) 0 (10 + 14 * k + 10) ((S 0 2))) 0 ((150 + (6 * river)) + 4) = S 0 ((150 + (6 * river)) + 4) := by
                    show uz ((put (put (put (put (put (mKeeps (put S 7 7 0) 0) 0 (10 + 14 * k + 6) ((((S 0 ((10 + 14 * k + 6)))) + 1))) 0 (10 + 14 * k + 7) (((S 0 (10 + 14 * k + 7)) + (skipsG (S 0) k river a sp)))) 0 5 ((S 0 5) + 1)) 0 7 ((S 0 7) + (skipsG (S 0) k river a sp))) 0 (10 + 14 * k + 5) (((-2)))) 0) (10 + 14 * k + 10) ((S 0 2)) ((150 + (6 * river)) + 4) = _
                    rw [uz_n (by omega)]
                    show uz ((put (put (put (put (mKeeps (put S 7 7 0) 0) 0 (10 + 14 * k + 6) ((((S 0 ((10 + 14 * k + 6)))) + 1))) 0 (10 + 14 * k + 7) (((S 0 (10 + 14 * k + 7)) + (skipsG (S 0) k river a sp)))) 0 5 ((S 0 5) + 1)) 0 7 ((S 0 7) + (skipsG (S 0) k river a sp))) 0) (10 + 14 * k + 5) (((-2))) ((150 + (6 * river)) + 4) = _
                    rw [uz_n (by omega)]
                    show uz ((put (put (put (mKeeps (put S 7 7 0) 0) 0 (10 + 14 * k + 6) ((((S 0 ((10 + 14 * k + 6)))) + 1))) 0 (10 + 14 * k + 7) (((S 0 (10 + 14 * k + 7)) + (skipsG (S 0) k river a sp)))) 0 5 ((S 0 5) + 1)) 0) 7 ((S 0 7) + (skipsG (S 0) k river a sp)) ((150 + (6 * river)) + 4) = _
                    rw [uz_n (by omega)]
                    show uz ((put (put (mKeeps (put S 7 7 0) 0) 0 (10 + 14 * k + 6) ((((S 0 ((10 + 14 * k + 6)))) + 1))) 0 (10 + 14 * k + 7) (((S 0 (10 + 14 * k + 7)) + (skipsG (S 0) k river a sp)))) 0) 5 ((S 0 5) + 1) ((150 + (6 * river)) + 4) = _
                    rw [uz_n (by omega)]
                    show uz ((put (mKeeps (put S 7 7 0) 0) 0 (10 + 14 * k + 6) ((((S 0 ((10 + 14 * k + 6)))) + 1))) 0) (10 + 14 * k + 7) (((S 0 (10 + 14 * k + 7)) + (skipsG (S 0) k river a sp))) ((150 + (6 * river)) + 4) = _
                    rw [uz_n (by omega)]
                    show uz ((mKeeps (put S 7 7 0) 0) 0) (10 + 14 * k + 6) ((((S 0 ((10 + 14 * k + 6)))) + 1)) ((150 + (6 * river)) + 4) = _
                    rw [uz_n (by omega)]
                    all_goals rfl
                  rw [q37]
                  refine kz_iconst hx hb dX3_skim_316 ?_
                  refine kz_iadd hx hb dX3_skim_317 ?_
                  refine kz_iast (cA := kA E 0) (n := 304) (g := (put (put (put (put (put (put (mKeeps (put S 7 7 0) 0) 0 (10 + 14 * k + 6) ((((S 0 ((10 + 14 * k + 6)))) + 1))) 0 (10 + 14 * k + 7) (((S 0 (10 + 14 * k + 7)) + (skipsG (S 0) k river a sp)))) 0 5 ((S 0 5) + 1)) 0 7 ((S 0 7) + (skipsG (S 0) k river a sp))) 0 (10 + 14 * k + 5) (((-2)))) 0 (10 + 14 * k + 10) ((S 0 2))) 0) hx hb hK hP hD hS 1 0 rfl rfl (by omega) dX3_skim_318 (fun H9 locs9 hP9 hD9 hS9 => ?_)
                  rw [mW_a0] at hP9 hD9
                  clear hP hD hS H locs
                  revert hS9 hD9 hP9 locs9 H9
                  intro H locs hP hD hS
                  replace hP : va_P (kD E) kcl (mW E Ad (put (put (put (put (put (put (put (mKeeps (put S 7 7 0) 0) 0 (10 + 14 * k + 6) ((((S 0 ((10 + 14 * k + 6)))) + 1))) 0 (10 + 14 * k + 7) (((S 0 (10 + 14 * k + 7)) + (skipsG (S 0) k river a sp)))) 0 5 ((S 0 5) + 1)) 0 7 ((S 0 7) + (skipsG (S 0) k river a sp))) 0 (10 + 14 * k + 5) (((-2)))) 0 (10 + 14 * k + 10) ((S 0 2))) 0 ((150 + (6 * river)) + 4) ((S 0 ((150 + (6 * river)) + 4)) + 1))) H := hP
                  replace hD : va_D A (mW E Ad (put (put (put (put (put (put (put (mKeeps (put S 7 7 0) 0) 0 (10 + 14 * k + 6) ((((S 0 ((10 + 14 * k + 6)))) + 1))) 0 (10 + 14 * k + 7) (((S 0 (10 + 14 * k + 7)) + (skipsG (S 0) k river a sp)))) 0 5 ((S 0 5) + 1)) 0 7 ((S 0 7) + (skipsG (S 0) k river a sp))) 0 (10 + 14 * k + 5) (((-2)))) 0 (10 + 14 * k + 10) ((S 0 2))) 0 ((150 + (6 * river)) + 4) ((S 0 ((150 + (6 * river)) + 4)) + 1))) := hD
                  replace hM : MOk (put (put (put (put (put (put (put (mKeeps (put S 7 7 0) 0) 0 (10 + 14 * k + 6) ((((S 0 ((10 + 14 * k + 6)))) + 1))) 0 (10 + 14 * k + 7) (((S 0 (10 + 14 * k + 7)) + (skipsG (S 0) k river a sp)))) 0 5 ((S 0 5) + 1)) 0 7 ((S 0 7) + (skipsG (S 0) k river a sp))) 0 (10 + 14 * k + 5) (((-2)))) 0 (10 + 14 * k + 10) ((S 0 2))) 0 ((150 + (6 * river)) + 4) ((S 0 ((150 + (6 * river)) + 4)) + 1)) := hM.put 0 _ (by omega)
                  refine lv_aload_n hx hb dX3_skim_319 rfl (lv_at hl 1 rfl) ?_
                  refine va_get (D := kD E) (ci := 2) (fs := mO Ad (put (put (put (put (put (put (put (mKeeps (put S 7 7 0) 0) 0 (10 + 14 * k + 6) ((((S 0 ((10 + 14 * k + 6)))) + 1))) 0 (10 + 14 * k + 7) (((S 0 (10 + 14 * k + 7)) + (skipsG (S 0) k river a sp)))) 0 5 ((S 0 5) + 1)) 0 7 ((S 0 7) + (skipsG (S 0) k river a sp))) 0 (10 + 14 * k + 5) (((-2)))) 0 (10 + 14 * k + 10) ((S 0 2))) 0 ((150 + (6 * river)) + 4) ((S 0 ((150 + (6 * river)) + 4)) + 1))) (v := .ref (Ad 1)) (C := RX3) (T := TX3) (N := 19) hx hb hts in_X3 hown hK hP 0 rfl rfl 0 (by decide) (hts _ q2320) (fun _ h9 => h9) rfl dX3_skim_320 ?_
                  refine kz_sipush hx hb dX3_skim_323 (by decide) ?_
                  refine lv_aload_n hx hb dX3_skim_326 rfl (lv_at hl 1 rfl) ?_
                  refine va_get (D := kD E) (ci := 2) (fs := mO Ad (put (put (put (put (put (put (put (mKeeps (put S 7 7 0) 0) 0 (10 + 14 * k + 6) ((((S 0 ((10 + 14 * k + 6)))) + 1))) 0 (10 + 14 * k + 7) (((S 0 (10 + 14 * k + 7)) + (skipsG (S 0) k river a sp)))) 0 5 ((S 0 5) + 1)) 0 7 ((S 0 7) + (skipsG (S 0) k river a sp))) 0 (10 + 14 * k + 5) (((-2)))) 0 (10 + 14 * k + 10) ((S 0 2))) 0 ((150 + (6 * river)) + 4) ((S 0 ((150 + (6 * river)) + 4)) + 1))) (v := .ref (Ad 1)) (C := RX3) (T := TX3) (N := 19) hx hb hts in_X3 hown hK hP 0 rfl rfl 0 (by decide) (hts _ q2320) (fun _ h9 => h9) rfl dX3_skim_327 ?_
                  refine kz_bipush hx hb dX3_skim_330 (by decide) ?_
                  refine kz_iald (cA := kA E 0) (n := 304) (g := (put (put (put (put (put (put (put (mKeeps (put S 7 7 0) 0) 0 (10 + 14 * k + 6) ((((S 0 ((10 + 14 * k + 6)))) + 1))) 0 (10 + 14 * k + 7) (((S 0 (10 + 14 * k + 7)) + (skipsG (S 0) k river a sp)))) 0 5 ((S 0 5) + 1)) 0 7 ((S 0 7) + (skipsG (S 0) k river a sp))) 0 (10 + 14 * k + 5) (((-2)))) 0 (10 + 14 * k + 10) ((S 0 2))) 0 ((150 + (6 * river)) + 4) ((S 0 ((150 + (6 * river)) + 4)) + 1)) 0) hx hb hK hP 1 0 rfl rfl (by omega) dX3_skim_332 ?_
                  have r38 : rI ((put (put (put (put (put (put (put (mKeeps (put S 7 7 0) 0) 0 (10 + 14 * k + 6) ((((S 0 ((10 + 14 * k + 6)))) + 1))) 0 (10 + 14 * k + 7) (((S 0 (10 + 14 * k + 7)) + (skipsG (S 0) k river a sp)))) 0 5 ((S 0 5) + 1)) 0 7 ((S 0 7) + (skipsG (S 0) k river a sp))) 0 (10 + 14 * k + 5) (((-2)))) 0 (10 + 14 * k + 10) ((S 0 2))) 0 ((150 + (6 * river)) + 4) ((S 0 ((150 + (6 * river)) + 4)) + 1)) 0 8) := hM 0 8
                  have q39 : (put (put (put (put (put (put (put (mKeeps (put S 7 7 0) 0) 0 (10 + 14 * k + 6) ((((S 0 ((10 + 14 * k + 6)))) + 1))) 0 (10 + 14 * k + 7) (((S 0 (10 + 14 * k + 7)) + (skipsG (S 0) k river a sp)))) 0 5 ((S 0 5) + 1)) 0 7 ((S 0 7) + (skipsG (S 0) k river a sp))) 0 (10 + 14 * k + 5) (((-2)))) 0 (10 + 14 * k + 10) ((S 0 2))) 0 ((150 + (6 * river)) + 4) ((S 0 ((150 + (6 * river)) + 4)) + 1)) 0 8 = S 0 8 := by
                    show uz ((put (put (put (put (put (put (mKeeps (put S 7 7 0) 0) 0 (10 + 14 * k + 6) ((((S 0 ((10 + 14 * k + 6)))) + 1))) 0 (10 + 14 * k + 7) (((S 0 (10 + 14 * k + 7)) + (skipsG (S 0) k river a sp)))) 0 5 ((S 0 5) + 1)) 0 7 ((S 0 7) + (skipsG (S 0) k river a sp))) 0 (10 + 14 * k + 5) (((-2)))) 0 (10 + 14 * k + 10) ((S 0 2))) 0) ((150 + (6 * river)) + 4) ((S 0 ((150 + (6 * river)) + 4)) + 1) 8 = _
                    rw [uz_n (by omega)]
                    show uz ((put (put (put (put (put (mKeeps (put S 7 7 0) 0) 0 (10 + 14 * k + 6) ((((S 0 ((10 + 14 * k + 6)))) + 1))) 0 (10 + 14 * k + 7) (((S 0 (10 + 14 * k + 7)) + (skipsG (S 0) k river a sp)))) 0 5 ((S 0 5) + 1)) 0 7 ((S 0 7) + (skipsG (S 0) k river a sp))) 0 (10 + 14 * k + 5) (((-2)))) 0) (10 + 14 * k + 10) ((S 0 2)) 8 = _
                    rw [uz_n (by omega)]
                    show uz ((put (put (put (put (mKeeps (put S 7 7 0) 0) 0 (10 + 14 * k + 6) ((((S 0 ((10 + 14 * k + 6)))) + 1))) 0 (10 + 14 * k + 7) (((S 0 (10 + 14 * k + 7)) + (skipsG (S 0) k river a sp)))) 0 5 ((S 0 5) + 1)) 0 7 ((S 0 7) + (skipsG (S 0) k river a sp))) 0) (10 + 14 * k + 5) (((-2))) 8 = _
                    rw [uz_n (by omega)]
                    show uz ((put (mKeeps (put S 7 7 0) 0) 0 (10 + 14 * k + 6) ((((S 0 ((10 + 14 * k + 6)))) + 1))) 0) (10 + 14 * k + 7) (((S 0 (10 + 14 * k + 7)) + (skipsG (S 0) k river a sp))) 8 = _
                    rw [uz_n (by omega)]
                    show uz ((mKeeps (put S 7 7 0) 0) 0) (10 + 14 * k + 6) ((((S 0 ((10 + 14 * k + 6)))) + 1)) 8 = _
                    rw [uz_n (by omega)]
                    all_goals rfl
                  rw [q39]
                  refine kz_iadd hx hb dX3_skim_333 ?_
                  refine lv_iload_n hx hb dX3_skim_334 rfl (lv_at hl 2 rfl) ?_
                  refine kz_iast (cA := kA E 0) (n := 304) (g := (put (put (put (put (put (put (put (mKeeps (put S 7 7 0) 0) 0 (10 + 14 * k + 6) ((((S 0 ((10 + 14 * k + 6)))) + 1))) 0 (10 + 14 * k + 7) (((S 0 (10 + 14 * k + 7)) + (skipsG (S 0) k river a sp)))) 0 5 ((S 0 5) + 1)) 0 7 ((S 0 7) + (skipsG (S 0) k river a sp))) 0 (10 + 14 * k + 5) (((-2)))) 0 (10 + 14 * k + 10) ((S 0 2))) 0 ((150 + (6 * river)) + 4) ((S 0 ((150 + (6 * river)) + 4)) + 1)) 0) hx hb hK hP hD hS 1 0 rfl rfl (by omega) dX3_skim_335 (fun H9 locs9 hP9 hD9 hS9 => ?_)
                  rw [mW_a0] at hP9 hD9
                  clear hP hD hS H locs
                  revert hS9 hD9 hP9 locs9 H9
                  intro H locs hP hD hS
                  replace hP : va_P (kD E) kcl (mW E Ad (put (put (put (put (put (put (put (put (mKeeps (put S 7 7 0) 0) 0 (10 + 14 * k + 6) ((((S 0 ((10 + 14 * k + 6)))) + 1))) 0 (10 + 14 * k + 7) (((S 0 (10 + 14 * k + 7)) + (skipsG (S 0) k river a sp)))) 0 5 ((S 0 5) + 1)) 0 7 ((S 0 7) + (skipsG (S 0) k river a sp))) 0 (10 + 14 * k + 5) (((-2)))) 0 (10 + 14 * k + 10) ((S 0 2))) 0 ((150 + (6 * river)) + 4) ((S 0 ((150 + (6 * river)) + 4)) + 1)) 0 (294 + (S 0 8)) k)) H := hP
                  replace hD : va_D A (mW E Ad (put (put (put (put (put (put (put (put (mKeeps (put S 7 7 0) 0) 0 (10 + 14 * k + 6) ((((S 0 ((10 + 14 * k + 6)))) + 1))) 0 (10 + 14 * k + 7) (((S 0 (10 + 14 * k + 7)) + (skipsG (S 0) k river a sp)))) 0 5 ((S 0 5) + 1)) 0 7 ((S 0 7) + (skipsG (S 0) k river a sp))) 0 (10 + 14 * k + 5) (((-2)))) 0 (10 + 14 * k + 10) ((S 0 2))) 0 ((150 + (6 * river)) + 4) ((S 0 ((150 + (6 * river)) + 4)) + 1)) 0 (294 + (S 0 8)) k)) := hD
                  replace hM : MOk (put (put (put (put (put (put (put (put (mKeeps (put S 7 7 0) 0) 0 (10 + 14 * k + 6) ((((S 0 ((10 + 14 * k + 6)))) + 1))) 0 (10 + 14 * k + 7) (((S 0 (10 + 14 * k + 7)) + (skipsG (S 0) k river a sp)))) 0 5 ((S 0 5) + 1)) 0 7 ((S 0 7) + (skipsG (S 0) k river a sp))) 0 (10 + 14 * k + 5) (((-2)))) 0 (10 + 14 * k + 10) ((S 0 2))) 0 ((150 + (6 * river)) + 4) ((S 0 ((150 + (6 * river)) + 4)) + 1)) 0 (294 + (S 0 8)) k) := hM.put 0 _ (by omega)
                  refine lv_aload_n hx hb dX3_skim_336 rfl (lv_at hl 1 rfl) ?_
                  refine va_get (D := kD E) (ci := 2) (fs := mO Ad (put (put (put (put (put (put (put (put (mKeeps (put S 7 7 0) 0) 0 (10 + 14 * k + 6) ((((S 0 ((10 + 14 * k + 6)))) + 1))) 0 (10 + 14 * k + 7) (((S 0 (10 + 14 * k + 7)) + (skipsG (S 0) k river a sp)))) 0 5 ((S 0 5) + 1)) 0 7 ((S 0 7) + (skipsG (S 0) k river a sp))) 0 (10 + 14 * k + 5) (((-2)))) 0 (10 + 14 * k + 10) ((S 0 2))) 0 ((150 + (6 * river)) + 4) ((S 0 ((150 + (6 * river)) + 4)) + 1)) 0 (294 + (S 0 8)) k)) (v := .ref (Ad 1)) (C := RX3) (T := TX3) (N := 19) hx hb hts in_X3 hown hK hP 0 rfl rfl 0 (by decide) (hts _ q2320) (fun _ h9 => h9) rfl dX3_skim_337 ?_
                  refine kz_bipush hx hb dX3_skim_340 (by decide) ?_
                  refine lv_dup2_11 hx hb dX3_skim_342 rfl rfl ?_
                  refine kz_iald (cA := kA E 0) (n := 304) (g := (put (put (put (put (put (put (put (put (mKeeps (put S 7 7 0) 0) 0 (10 + 14 * k + 6) ((((S 0 ((10 + 14 * k + 6)))) + 1))) 0 (10 + 14 * k + 7) (((S 0 (10 + 14 * k + 7)) + (skipsG (S 0) k river a sp)))) 0 5 ((S 0 5) + 1)) 0 7 ((S 0 7) + (skipsG (S 0) k river a sp))) 0 (10 + 14 * k + 5) (((-2)))) 0 (10 + 14 * k + 10) ((S 0 2))) 0 ((150 + (6 * river)) + 4) ((S 0 ((150 + (6 * river)) + 4)) + 1)) 0 (294 + (S 0 8)) k) 0) hx hb hK hP 1 0 rfl rfl (by omega) dX3_skim_343 ?_
                  have r40 : rI ((put (put (put (put (put (put (put (put (mKeeps (put S 7 7 0) 0) 0 (10 + 14 * k + 6) ((((S 0 ((10 + 14 * k + 6)))) + 1))) 0 (10 + 14 * k + 7) (((S 0 (10 + 14 * k + 7)) + (skipsG (S 0) k river a sp)))) 0 5 ((S 0 5) + 1)) 0 7 ((S 0 7) + (skipsG (S 0) k river a sp))) 0 (10 + 14 * k + 5) (((-2)))) 0 (10 + 14 * k + 10) ((S 0 2))) 0 ((150 + (6 * river)) + 4) ((S 0 ((150 + (6 * river)) + 4)) + 1)) 0 (294 + (S 0 8)) k) 0 8) := hM 0 8
                  have q41 : (put (put (put (put (put (put (put (put (mKeeps (put S 7 7 0) 0) 0 (10 + 14 * k + 6) ((((S 0 ((10 + 14 * k + 6)))) + 1))) 0 (10 + 14 * k + 7) (((S 0 (10 + 14 * k + 7)) + (skipsG (S 0) k river a sp)))) 0 5 ((S 0 5) + 1)) 0 7 ((S 0 7) + (skipsG (S 0) k river a sp))) 0 (10 + 14 * k + 5) (((-2)))) 0 (10 + 14 * k + 10) ((S 0 2))) 0 ((150 + (6 * river)) + 4) ((S 0 ((150 + (6 * river)) + 4)) + 1)) 0 (294 + (S 0 8)) k) 0 8 = S 0 8 := by
                    show uz ((put (put (put (put (put (put (put (mKeeps (put S 7 7 0) 0) 0 (10 + 14 * k + 6) ((((S 0 ((10 + 14 * k + 6)))) + 1))) 0 (10 + 14 * k + 7) (((S 0 (10 + 14 * k + 7)) + (skipsG (S 0) k river a sp)))) 0 5 ((S 0 5) + 1)) 0 7 ((S 0 7) + (skipsG (S 0) k river a sp))) 0 (10 + 14 * k + 5) (((-2)))) 0 (10 + 14 * k + 10) ((S 0 2))) 0 ((150 + (6 * river)) + 4) ((S 0 ((150 + (6 * river)) + 4)) + 1)) 0) (294 + (S 0 8)) k 8 = _
                    rw [uz_n (by omega)]
                    show uz ((put (put (put (put (put (put (mKeeps (put S 7 7 0) 0) 0 (10 + 14 * k + 6) ((((S 0 ((10 + 14 * k + 6)))) + 1))) 0 (10 + 14 * k + 7) (((S 0 (10 + 14 * k + 7)) + (skipsG (S 0) k river a sp)))) 0 5 ((S 0 5) + 1)) 0 7 ((S 0 7) + (skipsG (S 0) k river a sp))) 0 (10 + 14 * k + 5) (((-2)))) 0 (10 + 14 * k + 10) ((S 0 2))) 0) ((150 + (6 * river)) + 4) ((S 0 ((150 + (6 * river)) + 4)) + 1) 8 = _
                    rw [uz_n (by omega)]
                    show uz ((put (put (put (put (put (mKeeps (put S 7 7 0) 0) 0 (10 + 14 * k + 6) ((((S 0 ((10 + 14 * k + 6)))) + 1))) 0 (10 + 14 * k + 7) (((S 0 (10 + 14 * k + 7)) + (skipsG (S 0) k river a sp)))) 0 5 ((S 0 5) + 1)) 0 7 ((S 0 7) + (skipsG (S 0) k river a sp))) 0 (10 + 14 * k + 5) (((-2)))) 0) (10 + 14 * k + 10) ((S 0 2)) 8 = _
                    rw [uz_n (by omega)]
                    show uz ((put (put (put (put (mKeeps (put S 7 7 0) 0) 0 (10 + 14 * k + 6) ((((S 0 ((10 + 14 * k + 6)))) + 1))) 0 (10 + 14 * k + 7) (((S 0 (10 + 14 * k + 7)) + (skipsG (S 0) k river a sp)))) 0 5 ((S 0 5) + 1)) 0 7 ((S 0 7) + (skipsG (S 0) k river a sp))) 0) (10 + 14 * k + 5) (((-2))) 8 = _
                    rw [uz_n (by omega)]
                    show uz ((put (mKeeps (put S 7 7 0) 0) 0 (10 + 14 * k + 6) ((((S 0 ((10 + 14 * k + 6)))) + 1))) 0) (10 + 14 * k + 7) (((S 0 (10 + 14 * k + 7)) + (skipsG (S 0) k river a sp))) 8 = _
                    rw [uz_n (by omega)]
                    show uz ((mKeeps (put S 7 7 0) 0) 0) (10 + 14 * k + 6) ((((S 0 ((10 + 14 * k + 6)))) + 1)) 8 = _
                    rw [uz_n (by omega)]
                    all_goals rfl
                  rw [q41]
                  refine kz_iconst hx hb dX3_skim_344 ?_
                  refine kz_iadd hx hb dX3_skim_345 ?_
                  refine kz_iast (cA := kA E 0) (n := 304) (g := (put (put (put (put (put (put (put (put (mKeeps (put S 7 7 0) 0) 0 (10 + 14 * k + 6) ((((S 0 ((10 + 14 * k + 6)))) + 1))) 0 (10 + 14 * k + 7) (((S 0 (10 + 14 * k + 7)) + (skipsG (S 0) k river a sp)))) 0 5 ((S 0 5) + 1)) 0 7 ((S 0 7) + (skipsG (S 0) k river a sp))) 0 (10 + 14 * k + 5) (((-2)))) 0 (10 + 14 * k + 10) ((S 0 2))) 0 ((150 + (6 * river)) + 4) ((S 0 ((150 + (6 * river)) + 4)) + 1)) 0 (294 + (S 0 8)) k) 0) hx hb hK hP hD hS 1 0 rfl rfl (by omega) dX3_skim_346 (fun H9 locs9 hP9 hD9 hS9 => ?_)
                  rw [mW_a0] at hP9 hD9
                  clear hP hD hS H locs
                  revert hS9 hD9 hP9 locs9 H9
                  intro H locs hP hD hS
                  replace hP : va_P (kD E) kcl (mW E Ad (put (put (put (put (put (put (put (put (put (mKeeps (put S 7 7 0) 0) 0 (10 + 14 * k + 6) ((((S 0 ((10 + 14 * k + 6)))) + 1))) 0 (10 + 14 * k + 7) (((S 0 (10 + 14 * k + 7)) + (skipsG (S 0) k river a sp)))) 0 5 ((S 0 5) + 1)) 0 7 ((S 0 7) + (skipsG (S 0) k river a sp))) 0 (10 + 14 * k + 5) (((-2)))) 0 (10 + 14 * k + 10) ((S 0 2))) 0 ((150 + (6 * river)) + 4) ((S 0 ((150 + (6 * river)) + 4)) + 1)) 0 (294 + (S 0 8)) k) 0 8 ((S 0 8) + 1))) H := hP
                  replace hD : va_D A (mW E Ad (put (put (put (put (put (put (put (put (put (mKeeps (put S 7 7 0) 0) 0 (10 + 14 * k + 6) ((((S 0 ((10 + 14 * k + 6)))) + 1))) 0 (10 + 14 * k + 7) (((S 0 (10 + 14 * k + 7)) + (skipsG (S 0) k river a sp)))) 0 5 ((S 0 5) + 1)) 0 7 ((S 0 7) + (skipsG (S 0) k river a sp))) 0 (10 + 14 * k + 5) (((-2)))) 0 (10 + 14 * k + 10) ((S 0 2))) 0 ((150 + (6 * river)) + 4) ((S 0 ((150 + (6 * river)) + 4)) + 1)) 0 (294 + (S 0 8)) k) 0 8 ((S 0 8) + 1))) := hD
                  replace hM : MOk (put (put (put (put (put (put (put (put (put (mKeeps (put S 7 7 0) 0) 0 (10 + 14 * k + 6) ((((S 0 ((10 + 14 * k + 6)))) + 1))) 0 (10 + 14 * k + 7) (((S 0 (10 + 14 * k + 7)) + (skipsG (S 0) k river a sp)))) 0 5 ((S 0 5) + 1)) 0 7 ((S 0 7) + (skipsG (S 0) k river a sp))) 0 (10 + 14 * k + 5) (((-2)))) 0 (10 + 14 * k + 10) ((S 0 2))) 0 ((150 + (6 * river)) + 4) ((S 0 ((150 + (6 * river)) + 4)) + 1)) 0 (294 + (S 0 8)) k) 0 8 ((S 0 8) + 1)) := hM.put 0 _ (by omega)
                  refine lv_iload hx hb dX3_skim_347 (lv_at hl 6 rfl) ?_
                  refine kz_ineg hx hb dX3_skim_349 ?_
                  have e0 : xSkim S k river a sp = (put (put (put (put (put (put (put (put (put (mKeeps (put S 7 7 0) 0) 0 (10 + 14 * k + 6) ((((S 0 ((10 + 14 * k + 6)))) + 1))) 0 (10 + 14 * k + 7) (((S 0 (10 + 14 * k + 7)) + (skipsG (S 0) k river a sp)))) 0 5 ((S 0 5) + 1)) 0 7 ((S 0 7) + (skipsG (S 0) k river a sp))) 0 (10 + 14 * k + 5) (((-2)))) 0 (10 + 14 * k + 10) ((S 0 2))) 0 ((150 + (6 * river)) + 4) ((S 0 ((150 + (6 * river)) + 4)) + 1)) 0 (294 + (S 0 8)) k) 0 8 ((S 0 8) + 1), - (skipsG (S 0) k river a sp)) := by unfold xSkim gSkim; (repeat (first | refine Eq.trans (if_pos (by omega)) ?_ | refine Eq.trans (if_neg (by omega)) ?_)); first | rfl | ((first | rw [gSaw0_t (by omega) (by omega) (by omega)] | rw [gSaw0_f (by omega) (by omega) (by omega)]); simp (disch := omega) only [if_pos, if_neg, gOver, gSink, gSkim0, uz_n, uz_s, putR_put _ 0, putR_putR, putR_at]; all_goals rfl)
                  have e1 : (xSkim S k river a sp).2 = - (skipsG (S 0) k river a sp) := by rw [e0]
                  have e3 : (xSkim S k river a sp).1 = put (put (put (put (put (put (put (put (put (mKeeps (put S 7 7 0) 0) 0 (10 + 14 * k + 6) ((((S 0 ((10 + 14 * k + 6)))) + 1))) 0 (10 + 14 * k + 7) (((S 0 (10 + 14 * k + 7)) + (skipsG (S 0) k river a sp)))) 0 5 ((S 0 5) + 1)) 0 7 ((S 0 7) + (skipsG (S 0) k river a sp))) 0 (10 + 14 * k + 5) (((-2)))) 0 (10 + 14 * k + 10) ((S 0 2))) 0 ((150 + (6 * river)) + 4) ((S 0 ((150 + (6 * river)) + 4)) + 1)) 0 (294 + (S 0 8)) k) 0 8 ((S 0 8) + 1) := by rw [e0]
                  exact kz_iret () hx hb hr hlk hP hD hS dX3_skim_350 (congrArg (fun z : Int => some (Value.int (zI z))) e1) ⟨(kz_r e1 (by omega)), (kz_M e3 hM)⟩ (congrArg (mW E Ad) e3) hQ (Nat.le_of_ble_eq_true rfl) (Nat.le_of_ble_eq_true rfl)
                · skip
                  refine lv_aload_n hx hb dX3_skim_238 rfl (lv_at hl 1 rfl) ?_
                  refine lv_iload_n hx hb dX3_skim_239 rfl (lv_at hl 2 rfl) ?_
                  refine kz_iconst hx hb dX3_skim_240 ?_
                  refine lv_iload_n hx hb dX3_skim_241 rfl (lv_at hl 3 rfl) ?_
                  refine kz_backM (va_runV (As := [.int (zI (k)), .int (zI (5)), .int (zI (river))]) (rest := []) ⟨hx, hb, hml, hown, hts⟩ (mX3_lays l E H.size Ad (put (put (put (put (mKeeps (put S 7 7 0) 0) 0 (10 + 14 * k + 6) ((((S 0 ((10 + 14 * k + 6)))) + 1))) 0 (10 + 14 * k + 7) (((S 0 (10 + 14 * k + 7)) + (skipsG (S 0) k river a sp)))) 0 5 ((S 0 5) + 1)) 0 7 ((S 0 7) + (skipsG (S 0) k river a sp))) hM k (by omega) 5 (by omega) river (by omega) (show 0 ≤ k ∧ k < 10 by first | omega | exact hI.st _ (by omega) (by omega) | exact hI.rv _ (by omega) (by omega) | exact hI) (show 0 ≤ 5 ∧ 5 < 14 by first | omega | exact hI.st _ (by omega) (by omega) | exact hI.rv _ (by omega) (by omega) | exact hI)) (cwV 3 hts (lw_V q2409 q2411 qs39 q83 q2412) rfl rfl rfl (by decide +kernel) ⟨(Nat.le_of_ble_eq_true rfl), (Nat.le_of_ble_eq_true rfl)⟩) (kz_preVM (wc := mW E Ad (put (put (put (put (mKeeps (put S 7 7 0) 0) 0 (10 + 14 * k + 6) ((((S 0 ((10 + 14 * k + 6)))) + 1))) 0 (10 + 14 * k + 7) (((S 0 (10 + 14 * k + 7)) + (skipsG (S 0) k river a sp)))) 0 5 ((S 0 5) + 1)) 0 7 ((S 0 7) + (skipsG (S 0) k river a sp)))) (va_recv hK hP (ci := 2) (q0 := 0) rfl rfl) hG hS hAN hP hD kz_nilP kz_nilA) rfl rfl hl.1 rfl (lv_room (Nat.le_of_ble_eq_true rfl)) dX3_skim_242 ⟨(Nat.le_of_ble_eq_true rfl), (Nat.le_of_ble_eq_true rfl)⟩) hP hD hS hA (fun u H9 locs9 hu hP9 hD9 hS9 hzz hkk => ?_)
                  clear hzz hkk hP hD hS H locs u
                  revert hS9 hD9 hP9 locs9 H9
                  intro H locs hP hD hS
                  replace hM : MOk (put (put (put (put (put (mKeeps (put S 7 7 0) 0) 0 (10 + 14 * k + 6) ((((S 0 ((10 + 14 * k + 6)))) + 1))) 0 (10 + 14 * k + 7) (((S 0 (10 + 14 * k + 7)) + (skipsG (S 0) k river a sp)))) 0 5 ((S 0 5) + 1)) 0 7 ((S 0 7) + (skipsG (S 0) k river a sp))) 0 (10 + 14 * k + 5) river) := hu
                  clear hu
                  replace hP : va_P (kD E) kcl (mW E Ad (put (put (put (put (put (mKeeps (put S 7 7 0) 0) 0 (10 + 14 * k + 6) ((((S 0 ((10 + 14 * k + 6)))) + 1))) 0 (10 + 14 * k + 7) (((S 0 (10 + 14 * k + 7)) + (skipsG (S 0) k river a sp)))) 0 5 ((S 0 5) + 1)) 0 7 ((S 0 7) + (skipsG (S 0) k river a sp))) 0 (10 + 14 * k + 5) river)) H := hP
                  replace hD : va_D A (mW E Ad (put (put (put (put (put (mKeeps (put S 7 7 0) 0) 0 (10 + 14 * k + 6) ((((S 0 ((10 + 14 * k + 6)))) + 1))) 0 (10 + 14 * k + 7) (((S 0 (10 + 14 * k + 7)) + (skipsG (S 0) k river a sp)))) 0 5 ((S 0 5) + 1)) 0 7 ((S 0 7) + (skipsG (S 0) k river a sp))) 0 (10 + 14 * k + 5) river)) := hD
                  show W p l e _ s m args below meth c H locs _ _ Q (F0 m 245 ls [])
                  refine lv_aload_n hx hb dX3_skim_245 rfl (lv_at hl 1 rfl) ?_
                  refine lv_iload_n hx hb dX3_skim_246 rfl (lv_at hl 2 rfl) ?_
                  refine kz_iconst hx hb dX3_skim_247 ?_
                  refine lv_aload_n hx hb dX3_skim_248 rfl (lv_at hl 1 rfl) ?_
                  refine lv_iload_n hx hb dX3_skim_249 rfl (lv_at hl 2 rfl) ?_
                  refine kz_iconst hx hb dX3_skim_250 ?_
                  refine kz_backM (va_runV (As := [.int (zI (k)), .int (zI (2))]) (rest := [.int (zI (2)), .int (zI (k)), .ref (Ad 0)]) ⟨hx, hb, hml, hown, hts⟩ (mX3_of l E H.size Ad (put (put (put (put (put (mKeeps (put S 7 7 0) 0) 0 (10 + 14 * k + 6) ((((S 0 ((10 + 14 * k + 6)))) + 1))) 0 (10 + 14 * k + 7) (((S 0 (10 + 14 * k + 7)) + (skipsG (S 0) k river a sp)))) 0 5 ((S 0 5) + 1)) 0 7 ((S 0 7) + (skipsG (S 0) k river a sp))) 0 (10 + 14 * k + 5) river) hM k (by omega) 2 (by omega) (show 0 ≤ k ∧ k < 10 by first | omega | exact hI.st _ (by omega) (by omega) | exact hI.rv _ (by omega) (by omega) | exact hI) (show 0 ≤ 2 ∧ 2 < 14 by first | omega | exact hI.st _ (by omega) (by omega) | exact hI.rv _ (by omega) (by omega) | exact hI)) (cwV 2 hts (lw_V q2441 q2443 qs44 q83 q2444) rfl rfl rfl (by decide +kernel) ⟨(Nat.le_of_ble_eq_true rfl), (Nat.le_of_ble_eq_true rfl)⟩) (kz_preVM (wc := mW E Ad (put (put (put (put (put (mKeeps (put S 7 7 0) 0) 0 (10 + 14 * k + 6) ((((S 0 ((10 + 14 * k + 6)))) + 1))) 0 (10 + 14 * k + 7) (((S 0 (10 + 14 * k + 7)) + (skipsG (S 0) k river a sp)))) 0 5 ((S 0 5) + 1)) 0 7 ((S 0 7) + (skipsG (S 0) k river a sp))) 0 (10 + 14 * k + 5) river)) (va_recv hK hP (ci := 2) (q0 := 0) rfl rfl) hG hS hAN hP hD kz_nilP kz_nilA) rfl rfl hl.1 rfl (lv_room (Nat.le_of_ble_eq_true rfl)) dX3_skim_251 ⟨(Nat.le_of_ble_eq_true rfl), (Nat.le_of_ble_eq_true rfl)⟩) hP hD hS hA (fun u H9 locs9 hu hP9 hD9 hS9 hzz hkk => ?_)
                  clear hzz hkk hP hD hS H locs u
                  revert hS9 hD9 hP9 locs9 H9
                  intro H locs hP hD hS
                  have r42 : rI (((put (put (put (put (put (mKeeps (put S 7 7 0) 0) 0 (10 + 14 * k + 6) ((((S 0 ((10 + 14 * k + 6)))) + 1))) 0 (10 + 14 * k + 7) (((S 0 (10 + 14 * k + 7)) + (skipsG (S 0) k river a sp)))) 0 5 ((S 0 5) + 1)) 0 7 ((S 0 7) + (skipsG (S 0) k river a sp))) 0 (10 + 14 * k + 5) river) 0 ((10 + 14 * k + 2)))) := hu
                  clear hu
                  replace hP : va_P (kD E) kcl (mW E Ad (put (put (put (put (put (mKeeps (put S 7 7 0) 0) 0 (10 + 14 * k + 6) ((((S 0 ((10 + 14 * k + 6)))) + 1))) 0 (10 + 14 * k + 7) (((S 0 (10 + 14 * k + 7)) + (skipsG (S 0) k river a sp)))) 0 5 ((S 0 5) + 1)) 0 7 ((S 0 7) + (skipsG (S 0) k river a sp))) 0 (10 + 14 * k + 5) river)) H := hP
                  replace hD : va_D A (mW E Ad (put (put (put (put (put (mKeeps (put S 7 7 0) 0) 0 (10 + 14 * k + 6) ((((S 0 ((10 + 14 * k + 6)))) + 1))) 0 (10 + 14 * k + 7) (((S 0 (10 + 14 * k + 7)) + (skipsG (S 0) k river a sp)))) 0 5 ((S 0 5) + 1)) 0 7 ((S 0 7) + (skipsG (S 0) k river a sp))) 0 (10 + 14 * k + 5) river)) := hD
                  show W p l e _ s m args below meth c H locs _ _ Q (F0 m 254 ls [.int (zI (((put (put (put (put (put (mKeeps (put S 7 7 0) 0) 0 (10 + 14 * k + 6) ((((S 0 ((10 + 14 * k + 6)))) + 1))) 0 (10 + 14 * k + 7) (((S 0 (10 + 14 * k + 7)) + (skipsG (S 0) k river a sp)))) 0 5 ((S 0 5) + 1)) 0 7 ((S 0 7) + (skipsG (S 0) k river a sp))) 0 (10 + 14 * k + 5) river) 0 ((10 + 14 * k + 2))))), .int (zI (2)), .int (zI (k)), .ref (Ad 0)])
                  have q43 : (put (put (put (put (put (mKeeps (put S 7 7 0) 0) 0 (10 + 14 * k + 6) ((((S 0 ((10 + 14 * k + 6)))) + 1))) 0 (10 + 14 * k + 7) (((S 0 (10 + 14 * k + 7)) + (skipsG (S 0) k river a sp)))) 0 5 ((S 0 5) + 1)) 0 7 ((S 0 7) + (skipsG (S 0) k river a sp))) 0 (10 + 14 * k + 5) river) 0 (10 + 14 * k + 2) = S 0 (10 + 14 * k + 2) := by
                    show uz ((put (put (put (put (mKeeps (put S 7 7 0) 0) 0 (10 + 14 * k + 6) ((((S 0 ((10 + 14 * k + 6)))) + 1))) 0 (10 + 14 * k + 7) (((S 0 (10 + 14 * k + 7)) + (skipsG (S 0) k river a sp)))) 0 5 ((S 0 5) + 1)) 0 7 ((S 0 7) + (skipsG (S 0) k river a sp))) 0) (10 + 14 * k + 5) river (10 + 14 * k + 2) = _
                    rw [uz_n (by omega)]
                    show uz ((put (put (put (mKeeps (put S 7 7 0) 0) 0 (10 + 14 * k + 6) ((((S 0 ((10 + 14 * k + 6)))) + 1))) 0 (10 + 14 * k + 7) (((S 0 (10 + 14 * k + 7)) + (skipsG (S 0) k river a sp)))) 0 5 ((S 0 5) + 1)) 0) 7 ((S 0 7) + (skipsG (S 0) k river a sp)) (10 + 14 * k + 2) = _
                    rw [uz_n (by omega)]
                    show uz ((put (put (mKeeps (put S 7 7 0) 0) 0 (10 + 14 * k + 6) ((((S 0 ((10 + 14 * k + 6)))) + 1))) 0 (10 + 14 * k + 7) (((S 0 (10 + 14 * k + 7)) + (skipsG (S 0) k river a sp)))) 0) 5 ((S 0 5) + 1) (10 + 14 * k + 2) = _
                    rw [uz_n (by omega)]
                    show uz ((put (mKeeps (put S 7 7 0) 0) 0 (10 + 14 * k + 6) ((((S 0 ((10 + 14 * k + 6)))) + 1))) 0) (10 + 14 * k + 7) (((S 0 (10 + 14 * k + 7)) + (skipsG (S 0) k river a sp))) (10 + 14 * k + 2) = _
                    rw [uz_n (by omega)]
                    show uz ((mKeeps (put S 7 7 0) 0) 0) (10 + 14 * k + 6) ((((S 0 ((10 + 14 * k + 6)))) + 1)) (10 + 14 * k + 2) = _
                    rw [uz_n (by omega)]
                    all_goals rfl
                  rw [q43]
                  refine lv_iload hx hb dX3_skim_254 (lv_at hl 6 rfl) ?_
                  refine kz_iadd hx hb dX3_skim_256 ?_
                  refine kz_bipush hx hb dX3_skim_257 (by decide) ?_
                  refine kz_back (wc := []) (wx := (mW E Ad (put (put (put (put (put (mKeeps (put S 7 7 0) 0) 0 (10 + 14 * k + 6) ((((S 0 ((10 + 14 * k + 6)))) + 1))) 0 (10 + 14 * k + 7) (((S 0 (10 + 14 * k + 7)) + (skipsG (S 0) k river a sp)))) 0 5 ((S 0 5) + 1)) 0 7 ((S 0 7) + (skipsG (S 0) k river a sp))) 0 (10 + 14 * k + 5) river))) (va_runS (As := [.int (zI ((S 0 (10 + 14 * k + 2)) + (skipsG (S 0) k river a sp))), .int (zI (99))]) (rest := [.int (zI (2)), .int (zI (k)), .ref (Ad 0)]) ⟨hx, hb, hml, hown, hts⟩ (mX3_atMost l E H.size ((S 0 (10 + 14 * k + 2)) + (skipsG (S 0) k river a sp)) (by omega) 99 (by omega)) (va_cwS 2 hts (lw_S q2500 q2501 q83 q2502) rfl rfl rfl (by decide +kernel) ⟨(Nat.le_of_ble_eq_true rfl), (Nat.le_of_ble_eq_true rfl)⟩) (kz_pre (wc := []) (wx := (mW E Ad (put (put (put (put (put (mKeeps (put S 7 7 0) 0) 0 (10 + 14 * k + 6) ((((S 0 ((10 + 14 * k + 6)))) + 1))) 0 (10 + 14 * k + 7) (((S 0 (10 + 14 * k + 7)) + (skipsG (S 0) k river a sp)))) 0 5 ((S 0 5) + 1)) 0 7 ((S 0 7) + (skipsG (S 0) k river a sp))) 0 (10 + 14 * k + 5) river))) hG hS hAN hP hD kz_nilP kz_nilA) rfl rfl hl.1 rfl (lv_room (Nat.le_of_ble_eq_true rfl)) dX3_skim_259 ⟨(Nat.le_of_ble_eq_true rfl), (Nat.le_of_ble_eq_true rfl)⟩) hP hD hS hA (fun u H9 locs9 hu hP9 hD9 hS9 hzz hkk => ?_)
                  clear hzz hkk hP hD hS H locs u
                  revert hS9 hD9 hP9 locs9 H9
                  intro H locs hP hD hS
                  have r44 : rI (min ((S 0 (10 + 14 * k + 2)) + (skipsG (S 0) k river a sp)) 99) := hu
                  clear hu
                  replace hP : va_P (kD E) kcl (mW E Ad (put (put (put (put (put (mKeeps (put S 7 7 0) 0) 0 (10 + 14 * k + 6) ((((S 0 ((10 + 14 * k + 6)))) + 1))) 0 (10 + 14 * k + 7) (((S 0 (10 + 14 * k + 7)) + (skipsG (S 0) k river a sp)))) 0 5 ((S 0 5) + 1)) 0 7 ((S 0 7) + (skipsG (S 0) k river a sp))) 0 (10 + 14 * k + 5) river)) H := hP
                  replace hD : va_D A (mW E Ad (put (put (put (put (put (mKeeps (put S 7 7 0) 0) 0 (10 + 14 * k + 6) ((((S 0 ((10 + 14 * k + 6)))) + 1))) 0 (10 + 14 * k + 7) (((S 0 (10 + 14 * k + 7)) + (skipsG (S 0) k river a sp)))) 0 5 ((S 0 5) + 1)) 0 7 ((S 0 7) + (skipsG (S 0) k river a sp))) 0 (10 + 14 * k + 5) river)) := hD
                  show W p l e _ s m args below meth c H locs _ _ Q (F0 m 262 ls [.int (zI (min ((S 0 (10 + 14 * k + 2)) + (skipsG (S 0) k river a sp)) 99)), .int (zI (2)), .int (zI (k)), .ref (Ad 0)])
                  refine kz_backM (va_runV (As := [.int (zI (k)), .int (zI (2)), .int (zI (min ((S 0 (10 + 14 * k + 2)) + (skipsG (S 0) k river a sp)) 99))]) (rest := []) ⟨hx, hb, hml, hown, hts⟩ (mX3_lays l E H.size Ad (put (put (put (put (put (mKeeps (put S 7 7 0) 0) 0 (10 + 14 * k + 6) ((((S 0 ((10 + 14 * k + 6)))) + 1))) 0 (10 + 14 * k + 7) (((S 0 (10 + 14 * k + 7)) + (skipsG (S 0) k river a sp)))) 0 5 ((S 0 5) + 1)) 0 7 ((S 0 7) + (skipsG (S 0) k river a sp))) 0 (10 + 14 * k + 5) river) hM k (by omega) 2 (by omega) (min ((S 0 (10 + 14 * k + 2)) + (skipsG (S 0) k river a sp)) 99) (by omega) (show 0 ≤ k ∧ k < 10 by first | omega | exact hI.st _ (by omega) (by omega) | exact hI.rv _ (by omega) (by omega) | exact hI) (show 0 ≤ 2 ∧ 2 < 14 by first | omega | exact hI.st _ (by omega) (by omega) | exact hI.rv _ (by omega) (by omega) | exact hI)) (cwV 3 hts (lw_V q2409 q2411 qs39 q83 q2412) rfl rfl rfl (by decide +kernel) ⟨(Nat.le_of_ble_eq_true rfl), (Nat.le_of_ble_eq_true rfl)⟩) (kz_preVM (wc := mW E Ad (put (put (put (put (put (mKeeps (put S 7 7 0) 0) 0 (10 + 14 * k + 6) ((((S 0 ((10 + 14 * k + 6)))) + 1))) 0 (10 + 14 * k + 7) (((S 0 (10 + 14 * k + 7)) + (skipsG (S 0) k river a sp)))) 0 5 ((S 0 5) + 1)) 0 7 ((S 0 7) + (skipsG (S 0) k river a sp))) 0 (10 + 14 * k + 5) river)) (va_recv hK hP (ci := 2) (q0 := 0) rfl rfl) hG hS hAN hP hD kz_nilP kz_nilA) rfl rfl hl.1 rfl (lv_room (Nat.le_of_ble_eq_true rfl)) dX3_skim_262 ⟨(Nat.le_of_ble_eq_true rfl), (Nat.le_of_ble_eq_true rfl)⟩) hP hD hS hA (fun u H9 locs9 hu hP9 hD9 hS9 hzz hkk => ?_)
                  clear hzz hkk hP hD hS H locs u
                  revert hS9 hD9 hP9 locs9 H9
                  intro H locs hP hD hS
                  replace hM : MOk (put (put (put (put (put (put (mKeeps (put S 7 7 0) 0) 0 (10 + 14 * k + 6) ((((S 0 ((10 + 14 * k + 6)))) + 1))) 0 (10 + 14 * k + 7) (((S 0 (10 + 14 * k + 7)) + (skipsG (S 0) k river a sp)))) 0 5 ((S 0 5) + 1)) 0 7 ((S 0 7) + (skipsG (S 0) k river a sp))) 0 (10 + 14 * k + 5) river) 0 (10 + 14 * k + 2) ((min ((S 0 (10 + 14 * k + 2)) + (skipsG (S 0) k river a sp)) 99))) := hu
                  clear hu
                  replace hP : va_P (kD E) kcl (mW E Ad (put (put (put (put (put (put (mKeeps (put S 7 7 0) 0) 0 (10 + 14 * k + 6) ((((S 0 ((10 + 14 * k + 6)))) + 1))) 0 (10 + 14 * k + 7) (((S 0 (10 + 14 * k + 7)) + (skipsG (S 0) k river a sp)))) 0 5 ((S 0 5) + 1)) 0 7 ((S 0 7) + (skipsG (S 0) k river a sp))) 0 (10 + 14 * k + 5) river) 0 (10 + 14 * k + 2) ((min ((S 0 (10 + 14 * k + 2)) + (skipsG (S 0) k river a sp)) 99)))) H := hP
                  replace hD : va_D A (mW E Ad (put (put (put (put (put (put (mKeeps (put S 7 7 0) 0) 0 (10 + 14 * k + 6) ((((S 0 ((10 + 14 * k + 6)))) + 1))) 0 (10 + 14 * k + 7) (((S 0 (10 + 14 * k + 7)) + (skipsG (S 0) k river a sp)))) 0 5 ((S 0 5) + 1)) 0 7 ((S 0 7) + (skipsG (S 0) k river a sp))) 0 (10 + 14 * k + 5) river) 0 (10 + 14 * k + 2) ((min ((S 0 (10 + 14 * k + 2)) + (skipsG (S 0) k river a sp)) 99)))) := hD
                  show W p l e _ s m args below meth c H locs _ _ Q (F0 m 265 ls [])
                  refine lv_aload_n hx hb dX3_skim_265 rfl (lv_at hl 1 rfl) ?_
                  refine va_get (D := kD E) (ci := 2) (fs := mO Ad (put (put (put (put (put (put (mKeeps (put S 7 7 0) 0) 0 (10 + 14 * k + 6) ((((S 0 ((10 + 14 * k + 6)))) + 1))) 0 (10 + 14 * k + 7) (((S 0 (10 + 14 * k + 7)) + (skipsG (S 0) k river a sp)))) 0 5 ((S 0 5) + 1)) 0 7 ((S 0 7) + (skipsG (S 0) k river a sp))) 0 (10 + 14 * k + 5) river) 0 (10 + 14 * k + 2) ((min ((S 0 (10 + 14 * k + 2)) + (skipsG (S 0) k river a sp)) 99)))) (v := .ref (Ad 1)) (C := RX3) (T := TX3) (N := 19) hx hb hts in_X3 hown hK hP 0 rfl rfl 0 (by decide) (hts _ q2320) (fun _ h9 => h9) rfl dX3_skim_266 ?_
                  refine kz_bipush hx hb dX3_skim_269 (by decide) ?_
                  refine lv_dup2_11 hx hb dX3_skim_271 rfl rfl ?_
                  refine kz_iald (cA := kA E 0) (n := 304) (g := (put (put (put (put (put (put (mKeeps (put S 7 7 0) 0) 0 (10 + 14 * k + 6) ((((S 0 ((10 + 14 * k + 6)))) + 1))) 0 (10 + 14 * k + 7) (((S 0 (10 + 14 * k + 7)) + (skipsG (S 0) k river a sp)))) 0 5 ((S 0 5) + 1)) 0 7 ((S 0 7) + (skipsG (S 0) k river a sp))) 0 (10 + 14 * k + 5) river) 0 (10 + 14 * k + 2) ((min ((S 0 (10 + 14 * k + 2)) + (skipsG (S 0) k river a sp)) 99))) 0) hx hb hK hP 1 0 rfl rfl (by omega) dX3_skim_272 ?_
                  have r45 : rI ((put (put (put (put (put (put (mKeeps (put S 7 7 0) 0) 0 (10 + 14 * k + 6) ((((S 0 ((10 + 14 * k + 6)))) + 1))) 0 (10 + 14 * k + 7) (((S 0 (10 + 14 * k + 7)) + (skipsG (S 0) k river a sp)))) 0 5 ((S 0 5) + 1)) 0 7 ((S 0 7) + (skipsG (S 0) k river a sp))) 0 (10 + 14 * k + 5) river) 0 (10 + 14 * k + 2) ((min ((S 0 (10 + 14 * k + 2)) + (skipsG (S 0) k river a sp)) 99))) 0 6) := hM 0 6
                  have q46 : (put (put (put (put (put (put (mKeeps (put S 7 7 0) 0) 0 (10 + 14 * k + 6) ((((S 0 ((10 + 14 * k + 6)))) + 1))) 0 (10 + 14 * k + 7) (((S 0 (10 + 14 * k + 7)) + (skipsG (S 0) k river a sp)))) 0 5 ((S 0 5) + 1)) 0 7 ((S 0 7) + (skipsG (S 0) k river a sp))) 0 (10 + 14 * k + 5) river) 0 (10 + 14 * k + 2) ((min ((S 0 (10 + 14 * k + 2)) + (skipsG (S 0) k river a sp)) 99))) 0 6 = S 0 6 := by
                    show uz ((put (put (put (put (put (mKeeps (put S 7 7 0) 0) 0 (10 + 14 * k + 6) ((((S 0 ((10 + 14 * k + 6)))) + 1))) 0 (10 + 14 * k + 7) (((S 0 (10 + 14 * k + 7)) + (skipsG (S 0) k river a sp)))) 0 5 ((S 0 5) + 1)) 0 7 ((S 0 7) + (skipsG (S 0) k river a sp))) 0 (10 + 14 * k + 5) river) 0) (10 + 14 * k + 2) ((min ((S 0 (10 + 14 * k + 2)) + (skipsG (S 0) k river a sp)) 99)) 6 = _
                    rw [uz_n (by omega)]
                    show uz ((put (put (put (put (mKeeps (put S 7 7 0) 0) 0 (10 + 14 * k + 6) ((((S 0 ((10 + 14 * k + 6)))) + 1))) 0 (10 + 14 * k + 7) (((S 0 (10 + 14 * k + 7)) + (skipsG (S 0) k river a sp)))) 0 5 ((S 0 5) + 1)) 0 7 ((S 0 7) + (skipsG (S 0) k river a sp))) 0) (10 + 14 * k + 5) river 6 = _
                    rw [uz_n (by omega)]
                    show uz ((put (mKeeps (put S 7 7 0) 0) 0 (10 + 14 * k + 6) ((((S 0 ((10 + 14 * k + 6)))) + 1))) 0) (10 + 14 * k + 7) (((S 0 (10 + 14 * k + 7)) + (skipsG (S 0) k river a sp))) 6 = _
                    rw [uz_n (by omega)]
                    show uz ((mKeeps (put S 7 7 0) 0) 0) (10 + 14 * k + 6) ((((S 0 ((10 + 14 * k + 6)))) + 1)) 6 = _
                    rw [uz_n (by omega)]
                    all_goals rfl
                  rw [q46]
                  rw [q46] at r45
                  refine kz_iconst hx hb dX3_skim_273 ?_
                  refine kz_iadd hx hb dX3_skim_274 ?_
                  refine kz_iast (cA := kA E 0) (n := 304) (g := (put (put (put (put (put (put (mKeeps (put S 7 7 0) 0) 0 (10 + 14 * k + 6) ((((S 0 ((10 + 14 * k + 6)))) + 1))) 0 (10 + 14 * k + 7) (((S 0 (10 + 14 * k + 7)) + (skipsG (S 0) k river a sp)))) 0 5 ((S 0 5) + 1)) 0 7 ((S 0 7) + (skipsG (S 0) k river a sp))) 0 (10 + 14 * k + 5) river) 0 (10 + 14 * k + 2) ((min ((S 0 (10 + 14 * k + 2)) + (skipsG (S 0) k river a sp)) 99))) 0) hx hb hK hP hD hS 1 0 rfl rfl (by omega) dX3_skim_275 (fun H9 locs9 hP9 hD9 hS9 => ?_)
                  rw [mW_a0] at hP9 hD9
                  clear hP hD hS H locs
                  revert hS9 hD9 hP9 locs9 H9
                  intro H locs hP hD hS
                  replace hP : va_P (kD E) kcl (mW E Ad (put (put (put (put (put (put (put (mKeeps (put S 7 7 0) 0) 0 (10 + 14 * k + 6) ((((S 0 ((10 + 14 * k + 6)))) + 1))) 0 (10 + 14 * k + 7) (((S 0 (10 + 14 * k + 7)) + (skipsG (S 0) k river a sp)))) 0 5 ((S 0 5) + 1)) 0 7 ((S 0 7) + (skipsG (S 0) k river a sp))) 0 (10 + 14 * k + 5) river) 0 (10 + 14 * k + 2) ((min ((S 0 (10 + 14 * k + 2)) + (skipsG (S 0) k river a sp)) 99))) 0 6 ((S 0 6) + 1))) H := hP
                  replace hD : va_D A (mW E Ad (put (put (put (put (put (put (put (mKeeps (put S 7 7 0) 0) 0 (10 + 14 * k + 6) ((((S 0 ((10 + 14 * k + 6)))) + 1))) 0 (10 + 14 * k + 7) (((S 0 (10 + 14 * k + 7)) + (skipsG (S 0) k river a sp)))) 0 5 ((S 0 5) + 1)) 0 7 ((S 0 7) + (skipsG (S 0) k river a sp))) 0 (10 + 14 * k + 5) river) 0 (10 + 14 * k + 2) ((min ((S 0 (10 + 14 * k + 2)) + (skipsG (S 0) k river a sp)) 99))) 0 6 ((S 0 6) + 1))) := hD
                  replace hM : MOk (put (put (put (put (put (put (put (mKeeps (put S 7 7 0) 0) 0 (10 + 14 * k + 6) ((((S 0 ((10 + 14 * k + 6)))) + 1))) 0 (10 + 14 * k + 7) (((S 0 (10 + 14 * k + 7)) + (skipsG (S 0) k river a sp)))) 0 5 ((S 0 5) + 1)) 0 7 ((S 0 7) + (skipsG (S 0) k river a sp))) 0 (10 + 14 * k + 5) river) 0 (10 + 14 * k + 2) ((min ((S 0 (10 + 14 * k + 2)) + (skipsG (S 0) k river a sp)) 99))) 0 6 ((S 0 6) + 1)) := hM.put 0 _ (by omega)
                  refine lv_iload hx hb dX3_skim_276 (lv_at hl 6 rfl) ?_
                  have e0 : xSkim S k river a sp = (put (put (put (put (put (put (put (mKeeps (put S 7 7 0) 0) 0 (10 + 14 * k + 6) ((((S 0 ((10 + 14 * k + 6)))) + 1))) 0 (10 + 14 * k + 7) (((S 0 (10 + 14 * k + 7)) + (skipsG (S 0) k river a sp)))) 0 5 ((S 0 5) + 1)) 0 7 ((S 0 7) + (skipsG (S 0) k river a sp))) 0 (10 + 14 * k + 5) river) 0 (10 + 14 * k + 2) ((min ((S 0 (10 + 14 * k + 2)) + (skipsG (S 0) k river a sp)) 99))) 0 6 ((S 0 6) + 1), skipsG (S 0) k river a sp) := by unfold xSkim gSkim; (repeat (first | refine Eq.trans (if_pos (by omega)) ?_ | refine Eq.trans (if_neg (by omega)) ?_)); first | rfl | ((first | rw [gSaw0_t (by omega) (by omega) (by omega)] | rw [gSaw0_f (by omega) (by omega) (by omega)]); simp (disch := omega) only [if_pos, if_neg, gOver, gSink, gSkim0, uz_n, uz_s, putR_put _ 0, putR_putR, putR_at]; all_goals rfl)
                  have e1 : (xSkim S k river a sp).2 = skipsG (S 0) k river a sp := by rw [e0]
                  have e3 : (xSkim S k river a sp).1 = put (put (put (put (put (put (put (mKeeps (put S 7 7 0) 0) 0 (10 + 14 * k + 6) ((((S 0 ((10 + 14 * k + 6)))) + 1))) 0 (10 + 14 * k + 7) (((S 0 (10 + 14 * k + 7)) + (skipsG (S 0) k river a sp)))) 0 5 ((S 0 5) + 1)) 0 7 ((S 0 7) + (skipsG (S 0) k river a sp))) 0 (10 + 14 * k + 5) river) 0 (10 + 14 * k + 2) ((min ((S 0 (10 + 14 * k + 2)) + (skipsG (S 0) k river a sp)) 99))) 0 6 ((S 0 6) + 1) := by rw [e0]
                  exact kz_iret () hx hb hr hlk hP hD hS dX3_skim_278 (congrArg (fun z : Int => some (Value.int (zI z))) e1) ⟨(kz_r e1 (by omega)), (kz_M e3 hM)⟩ (congrArg (mW E Ad) e3) hQ (Nat.le_of_ble_eq_true rfl) (Nat.le_of_ble_eq_true rfl)
              · skip
                refine lv_aload_n hx hb dX3_skim_200 rfl (lv_at hl 1 rfl) ?_
                refine va_get (D := kD E) (ci := 2) (fs := mO Ad (put (put (put (put (mKeeps (put S 7 7 0) 0) 0 (10 + 14 * k + 6) ((((S 0 ((10 + 14 * k + 6)))) + 1))) 0 (10 + 14 * k + 7) (((S 0 (10 + 14 * k + 7)) + (skipsG (S 0) k river a sp)))) 0 5 ((S 0 5) + 1)) 0 7 ((S 0 7) + (skipsG (S 0) k river a sp)))) (v := .ref (Ad 1)) (C := RX3) (T := TX3) (N := 19) hx hb hts in_X3 hown hK hP 0 rfl rfl 0 (by decide) (hts _ q2320) (fun _ h9 => h9) rfl dX3_skim_201 ?_
                refine kz_sipush hx hb dX3_skim_204 (by decide) ?_
                refine kz_bipush hx hb dX3_skim_207 (by decide) ?_
                refine lv_iload_n hx hb dX3_skim_209 rfl (lv_at hl 3 rfl) ?_
                refine kz_imul hx hb dX3_skim_210 ?_
                refine kz_iadd hx hb dX3_skim_211 ?_
                refine kz_iconst hx hb dX3_skim_212 ?_
                refine kz_iadd hx hb dX3_skim_213 ?_
                refine lv_iload hx hb dX3_skim_214 (lv_at hl 6 rfl) ?_
                refine kz_iast (cA := kA E 0) (n := 304) (g := (put (put (put (put (mKeeps (put S 7 7 0) 0) 0 (10 + 14 * k + 6) ((((S 0 ((10 + 14 * k + 6)))) + 1))) 0 (10 + 14 * k + 7) (((S 0 (10 + 14 * k + 7)) + (skipsG (S 0) k river a sp)))) 0 5 ((S 0 5) + 1)) 0 7 ((S 0 7) + (skipsG (S 0) k river a sp))) 0) hx hb hK hP hD hS 1 0 rfl rfl (by omega) dX3_skim_216 (fun H9 locs9 hP9 hD9 hS9 => ?_)
                rw [mW_a0] at hP9 hD9
                clear hP hD hS H locs
                revert hS9 hD9 hP9 locs9 H9
                intro H locs hP hD hS
                replace hP : va_P (kD E) kcl (mW E Ad (put (put (put (put (put (mKeeps (put S 7 7 0) 0) 0 (10 + 14 * k + 6) ((((S 0 ((10 + 14 * k + 6)))) + 1))) 0 (10 + 14 * k + 7) (((S 0 (10 + 14 * k + 7)) + (skipsG (S 0) k river a sp)))) 0 5 ((S 0 5) + 1)) 0 7 ((S 0 7) + (skipsG (S 0) k river a sp))) 0 ((150 + (6 * river)) + 2) (skipsG (S 0) k river a sp))) H := hP
                replace hD : va_D A (mW E Ad (put (put (put (put (put (mKeeps (put S 7 7 0) 0) 0 (10 + 14 * k + 6) ((((S 0 ((10 + 14 * k + 6)))) + 1))) 0 (10 + 14 * k + 7) (((S 0 (10 + 14 * k + 7)) + (skipsG (S 0) k river a sp)))) 0 5 ((S 0 5) + 1)) 0 7 ((S 0 7) + (skipsG (S 0) k river a sp))) 0 ((150 + (6 * river)) + 2) (skipsG (S 0) k river a sp))) := hD
                replace hM : MOk (put (put (put (put (put (mKeeps (put S 7 7 0) 0) 0 (10 + 14 * k + 6) ((((S 0 ((10 + 14 * k + 6)))) + 1))) 0 (10 + 14 * k + 7) (((S 0 (10 + 14 * k + 7)) + (skipsG (S 0) k river a sp)))) 0 5 ((S 0 5) + 1)) 0 7 ((S 0 7) + (skipsG (S 0) k river a sp))) 0 ((150 + (6 * river)) + 2) (skipsG (S 0) k river a sp)) := hM.put 0 _ (by omega)
                refine lv_aload_n hx hb dX3_skim_217 rfl (lv_at hl 1 rfl) ?_
                refine va_get (D := kD E) (ci := 2) (fs := mO Ad (put (put (put (put (put (mKeeps (put S 7 7 0) 0) 0 (10 + 14 * k + 6) ((((S 0 ((10 + 14 * k + 6)))) + 1))) 0 (10 + 14 * k + 7) (((S 0 (10 + 14 * k + 7)) + (skipsG (S 0) k river a sp)))) 0 5 ((S 0 5) + 1)) 0 7 ((S 0 7) + (skipsG (S 0) k river a sp))) 0 ((150 + (6 * river)) + 2) (skipsG (S 0) k river a sp))) (v := .ref (Ad 1)) (C := RX3) (T := TX3) (N := 19) hx hb hts in_X3 hown hK hP 0 rfl rfl 0 (by decide) (hts _ q2320) (fun _ h9 => h9) rfl dX3_skim_218 ?_
                refine kz_sipush hx hb dX3_skim_221 (by decide) ?_
                refine kz_bipush hx hb dX3_skim_224 (by decide) ?_
                refine lv_iload_n hx hb dX3_skim_226 rfl (lv_at hl 3 rfl) ?_
                refine kz_imul hx hb dX3_skim_227 ?_
                refine kz_iadd hx hb dX3_skim_228 ?_
                refine kz_iconst hx hb dX3_skim_229 ?_
                refine kz_iadd hx hb dX3_skim_230 ?_
                refine lv_iload_n hx hb dX3_skim_231 rfl (lv_at hl 2 rfl) ?_
                refine kz_iast (cA := kA E 0) (n := 304) (g := (put (put (put (put (put (mKeeps (put S 7 7 0) 0) 0 (10 + 14 * k + 6) ((((S 0 ((10 + 14 * k + 6)))) + 1))) 0 (10 + 14 * k + 7) (((S 0 (10 + 14 * k + 7)) + (skipsG (S 0) k river a sp)))) 0 5 ((S 0 5) + 1)) 0 7 ((S 0 7) + (skipsG (S 0) k river a sp))) 0 ((150 + (6 * river)) + 2) (skipsG (S 0) k river a sp)) 0) hx hb hK hP hD hS 1 0 rfl rfl (by omega) dX3_skim_232 (fun H9 locs9 hP9 hD9 hS9 => ?_)
                rw [mW_a0] at hP9 hD9
                clear hP hD hS H locs
                revert hS9 hD9 hP9 locs9 H9
                intro H locs hP hD hS
                replace hP : va_P (kD E) kcl (mW E Ad (put (put (put (put (put (put (mKeeps (put S 7 7 0) 0) 0 (10 + 14 * k + 6) ((((S 0 ((10 + 14 * k + 6)))) + 1))) 0 (10 + 14 * k + 7) (((S 0 (10 + 14 * k + 7)) + (skipsG (S 0) k river a sp)))) 0 5 ((S 0 5) + 1)) 0 7 ((S 0 7) + (skipsG (S 0) k river a sp))) 0 ((150 + (6 * river)) + 2) (skipsG (S 0) k river a sp)) 0 ((150 + (6 * river)) + 3) k)) H := hP
                replace hD : va_D A (mW E Ad (put (put (put (put (put (put (mKeeps (put S 7 7 0) 0) 0 (10 + 14 * k + 6) ((((S 0 ((10 + 14 * k + 6)))) + 1))) 0 (10 + 14 * k + 7) (((S 0 (10 + 14 * k + 7)) + (skipsG (S 0) k river a sp)))) 0 5 ((S 0 5) + 1)) 0 7 ((S 0 7) + (skipsG (S 0) k river a sp))) 0 ((150 + (6 * river)) + 2) (skipsG (S 0) k river a sp)) 0 ((150 + (6 * river)) + 3) k)) := hD
                replace hM : MOk (put (put (put (put (put (put (mKeeps (put S 7 7 0) 0) 0 (10 + 14 * k + 6) ((((S 0 ((10 + 14 * k + 6)))) + 1))) 0 (10 + 14 * k + 7) (((S 0 (10 + 14 * k + 7)) + (skipsG (S 0) k river a sp)))) 0 5 ((S 0 5) + 1)) 0 7 ((S 0 7) + (skipsG (S 0) k river a sp))) 0 ((150 + (6 * river)) + 2) (skipsG (S 0) k river a sp)) 0 ((150 + (6 * river)) + 3) k) := hM.put 0 _ (by omega)
                refine lv_iload hx hb dX3_skim_233 (lv_at hl 0 rfl) ?_
                refine kz_if0B (tgt := 279) hx hb dX3_skim_235 (by decide) (fun c235 => ?_) (fun c235 => ?_)
                · skip
                  refine lv_aload_n hx hb dX3_skim_279 rfl (lv_at hl 1 rfl) ?_
                  refine lv_iload_n hx hb dX3_skim_280 rfl (lv_at hl 2 rfl) ?_
                  refine kz_iconst hx hb dX3_skim_281 ?_
                  refine kz_bipush hx hb dX3_skim_282 (by decide) ?_
                  refine kz_backM (va_runV (As := [.int (zI (k)), .int (zI (5)), .int (zI ((-2)))]) (rest := []) ⟨hx, hb, hml, hown, hts⟩ (mX3_lays l E H.size Ad (put (put (put (put (put (put (mKeeps (put S 7 7 0) 0) 0 (10 + 14 * k + 6) ((((S 0 ((10 + 14 * k + 6)))) + 1))) 0 (10 + 14 * k + 7) (((S 0 (10 + 14 * k + 7)) + (skipsG (S 0) k river a sp)))) 0 5 ((S 0 5) + 1)) 0 7 ((S 0 7) + (skipsG (S 0) k river a sp))) 0 ((150 + (6 * river)) + 2) (skipsG (S 0) k river a sp)) 0 ((150 + (6 * river)) + 3) k) hM k (by omega) 5 (by omega) ((-2)) (by omega) (show 0 ≤ k ∧ k < 10 by first | omega | exact hI.st _ (by omega) (by omega) | exact hI.rv _ (by omega) (by omega) | exact hI) (show 0 ≤ 5 ∧ 5 < 14 by first | omega | exact hI.st _ (by omega) (by omega) | exact hI.rv _ (by omega) (by omega) | exact hI)) (cwV 3 hts (lw_V q2409 q2411 qs39 q83 q2412) rfl rfl rfl (by decide +kernel) ⟨(Nat.le_of_ble_eq_true rfl), (Nat.le_of_ble_eq_true rfl)⟩) (kz_preVM (wc := mW E Ad (put (put (put (put (put (put (mKeeps (put S 7 7 0) 0) 0 (10 + 14 * k + 6) ((((S 0 ((10 + 14 * k + 6)))) + 1))) 0 (10 + 14 * k + 7) (((S 0 (10 + 14 * k + 7)) + (skipsG (S 0) k river a sp)))) 0 5 ((S 0 5) + 1)) 0 7 ((S 0 7) + (skipsG (S 0) k river a sp))) 0 ((150 + (6 * river)) + 2) (skipsG (S 0) k river a sp)) 0 ((150 + (6 * river)) + 3) k)) (va_recv hK hP (ci := 2) (q0 := 0) rfl rfl) hG hS hAN hP hD kz_nilP kz_nilA) rfl rfl hl.1 rfl (lv_room (Nat.le_of_ble_eq_true rfl)) dX3_skim_284 ⟨(Nat.le_of_ble_eq_true rfl), (Nat.le_of_ble_eq_true rfl)⟩) hP hD hS hA (fun u H9 locs9 hu hP9 hD9 hS9 hzz hkk => ?_)
                  clear hzz hkk hP hD hS H locs u
                  revert hS9 hD9 hP9 locs9 H9
                  intro H locs hP hD hS
                  replace hM : MOk (put (put (put (put (put (put (put (mKeeps (put S 7 7 0) 0) 0 (10 + 14 * k + 6) ((((S 0 ((10 + 14 * k + 6)))) + 1))) 0 (10 + 14 * k + 7) (((S 0 (10 + 14 * k + 7)) + (skipsG (S 0) k river a sp)))) 0 5 ((S 0 5) + 1)) 0 7 ((S 0 7) + (skipsG (S 0) k river a sp))) 0 ((150 + (6 * river)) + 2) (skipsG (S 0) k river a sp)) 0 ((150 + (6 * river)) + 3) k) 0 (10 + 14 * k + 5) (((-2)))) := hu
                  clear hu
                  replace hP : va_P (kD E) kcl (mW E Ad (put (put (put (put (put (put (put (mKeeps (put S 7 7 0) 0) 0 (10 + 14 * k + 6) ((((S 0 ((10 + 14 * k + 6)))) + 1))) 0 (10 + 14 * k + 7) (((S 0 (10 + 14 * k + 7)) + (skipsG (S 0) k river a sp)))) 0 5 ((S 0 5) + 1)) 0 7 ((S 0 7) + (skipsG (S 0) k river a sp))) 0 ((150 + (6 * river)) + 2) (skipsG (S 0) k river a sp)) 0 ((150 + (6 * river)) + 3) k) 0 (10 + 14 * k + 5) (((-2))))) H := hP
                  replace hD : va_D A (mW E Ad (put (put (put (put (put (put (put (mKeeps (put S 7 7 0) 0) 0 (10 + 14 * k + 6) ((((S 0 ((10 + 14 * k + 6)))) + 1))) 0 (10 + 14 * k + 7) (((S 0 (10 + 14 * k + 7)) + (skipsG (S 0) k river a sp)))) 0 5 ((S 0 5) + 1)) 0 7 ((S 0 7) + (skipsG (S 0) k river a sp))) 0 ((150 + (6 * river)) + 2) (skipsG (S 0) k river a sp)) 0 ((150 + (6 * river)) + 3) k) 0 (10 + 14 * k + 5) (((-2))))) := hD
                  show W p l e _ s m args below meth c H locs _ _ Q (F0 m 287 ls [])
                  refine lv_aload_n hx hb dX3_skim_287 rfl (lv_at hl 1 rfl) ?_
                  refine lv_iload_n hx hb dX3_skim_288 rfl (lv_at hl 2 rfl) ?_
                  refine kz_bipush hx hb dX3_skim_289 (by decide) ?_
                  refine lv_aload_n hx hb dX3_skim_291 rfl (lv_at hl 1 rfl) ?_
                  refine va_get (D := kD E) (ci := 2) (fs := mO Ad (put (put (put (put (put (put (put (mKeeps (put S 7 7 0) 0) 0 (10 + 14 * k + 6) ((((S 0 ((10 + 14 * k + 6)))) + 1))) 0 (10 + 14 * k + 7) (((S 0 (10 + 14 * k + 7)) + (skipsG (S 0) k river a sp)))) 0 5 ((S 0 5) + 1)) 0 7 ((S 0 7) + (skipsG (S 0) k river a sp))) 0 ((150 + (6 * river)) + 2) (skipsG (S 0) k river a sp)) 0 ((150 + (6 * river)) + 3) k) 0 (10 + 14 * k + 5) (((-2))))) (v := .ref (Ad 1)) (C := RX3) (T := TX3) (N := 19) hx hb hts in_X3 hown hK hP 0 rfl rfl 0 (by decide) (hts _ q2320) (fun _ h9 => h9) rfl dX3_skim_292 ?_
                  refine kz_iconst hx hb dX3_skim_295 ?_
                  refine kz_iald (cA := kA E 0) (n := 304) (g := (put (put (put (put (put (put (put (mKeeps (put S 7 7 0) 0) 0 (10 + 14 * k + 6) ((((S 0 ((10 + 14 * k + 6)))) + 1))) 0 (10 + 14 * k + 7) (((S 0 (10 + 14 * k + 7)) + (skipsG (S 0) k river a sp)))) 0 5 ((S 0 5) + 1)) 0 7 ((S 0 7) + (skipsG (S 0) k river a sp))) 0 ((150 + (6 * river)) + 2) (skipsG (S 0) k river a sp)) 0 ((150 + (6 * river)) + 3) k) 0 (10 + 14 * k + 5) (((-2)))) 0) hx hb hK hP 1 0 rfl rfl (by omega) dX3_skim_296 ?_
                  have r47 : rI ((put (put (put (put (put (put (put (mKeeps (put S 7 7 0) 0) 0 (10 + 14 * k + 6) ((((S 0 ((10 + 14 * k + 6)))) + 1))) 0 (10 + 14 * k + 7) (((S 0 (10 + 14 * k + 7)) + (skipsG (S 0) k river a sp)))) 0 5 ((S 0 5) + 1)) 0 7 ((S 0 7) + (skipsG (S 0) k river a sp))) 0 ((150 + (6 * river)) + 2) (skipsG (S 0) k river a sp)) 0 ((150 + (6 * river)) + 3) k) 0 (10 + 14 * k + 5) (((-2)))) 0 2) := hM 0 2
                  have q48 : (put (put (put (put (put (put (put (mKeeps (put S 7 7 0) 0) 0 (10 + 14 * k + 6) ((((S 0 ((10 + 14 * k + 6)))) + 1))) 0 (10 + 14 * k + 7) (((S 0 (10 + 14 * k + 7)) + (skipsG (S 0) k river a sp)))) 0 5 ((S 0 5) + 1)) 0 7 ((S 0 7) + (skipsG (S 0) k river a sp))) 0 ((150 + (6 * river)) + 2) (skipsG (S 0) k river a sp)) 0 ((150 + (6 * river)) + 3) k) 0 (10 + 14 * k + 5) (((-2)))) 0 2 = S 0 2 := by
                    show uz ((put (put (put (put (put (put (mKeeps (put S 7 7 0) 0) 0 (10 + 14 * k + 6) ((((S 0 ((10 + 14 * k + 6)))) + 1))) 0 (10 + 14 * k + 7) (((S 0 (10 + 14 * k + 7)) + (skipsG (S 0) k river a sp)))) 0 5 ((S 0 5) + 1)) 0 7 ((S 0 7) + (skipsG (S 0) k river a sp))) 0 ((150 + (6 * river)) + 2) (skipsG (S 0) k river a sp)) 0 ((150 + (6 * river)) + 3) k) 0) (10 + 14 * k + 5) (((-2))) 2 = _
                    rw [uz_n (by omega)]
                    show uz ((put (put (put (put (put (mKeeps (put S 7 7 0) 0) 0 (10 + 14 * k + 6) ((((S 0 ((10 + 14 * k + 6)))) + 1))) 0 (10 + 14 * k + 7) (((S 0 (10 + 14 * k + 7)) + (skipsG (S 0) k river a sp)))) 0 5 ((S 0 5) + 1)) 0 7 ((S 0 7) + (skipsG (S 0) k river a sp))) 0 ((150 + (6 * river)) + 2) (skipsG (S 0) k river a sp)) 0) ((150 + (6 * river)) + 3) k 2 = _
                    rw [uz_n (by omega)]
                    show uz ((put (put (put (put (mKeeps (put S 7 7 0) 0) 0 (10 + 14 * k + 6) ((((S 0 ((10 + 14 * k + 6)))) + 1))) 0 (10 + 14 * k + 7) (((S 0 (10 + 14 * k + 7)) + (skipsG (S 0) k river a sp)))) 0 5 ((S 0 5) + 1)) 0 7 ((S 0 7) + (skipsG (S 0) k river a sp))) 0) ((150 + (6 * river)) + 2) (skipsG (S 0) k river a sp) 2 = _
                    rw [uz_n (by omega)]
                    show uz ((put (mKeeps (put S 7 7 0) 0) 0 (10 + 14 * k + 6) ((((S 0 ((10 + 14 * k + 6)))) + 1))) 0) (10 + 14 * k + 7) (((S 0 (10 + 14 * k + 7)) + (skipsG (S 0) k river a sp))) 2 = _
                    rw [uz_n (by omega)]
                    show uz ((mKeeps (put S 7 7 0) 0) 0) (10 + 14 * k + 6) ((((S 0 ((10 + 14 * k + 6)))) + 1)) 2 = _
                    rw [uz_n (by omega)]
                    all_goals rfl
                  rw [q48]
                  refine kz_backM (va_runV (As := [.int (zI (k)), .int (zI (10)), .int (zI (S 0 2))]) (rest := []) ⟨hx, hb, hml, hown, hts⟩ (mX3_lays l E H.size Ad (put (put (put (put (put (put (put (mKeeps (put S 7 7 0) 0) 0 (10 + 14 * k + 6) ((((S 0 ((10 + 14 * k + 6)))) + 1))) 0 (10 + 14 * k + 7) (((S 0 (10 + 14 * k + 7)) + (skipsG (S 0) k river a sp)))) 0 5 ((S 0 5) + 1)) 0 7 ((S 0 7) + (skipsG (S 0) k river a sp))) 0 ((150 + (6 * river)) + 2) (skipsG (S 0) k river a sp)) 0 ((150 + (6 * river)) + 3) k) 0 (10 + 14 * k + 5) (((-2)))) hM k (by omega) 10 (by omega) (S 0 2) (by omega) (show 0 ≤ k ∧ k < 10 by first | omega | exact hI.st _ (by omega) (by omega) | exact hI.rv _ (by omega) (by omega) | exact hI) (show 0 ≤ 10 ∧ 10 < 14 by first | omega | exact hI.st _ (by omega) (by omega) | exact hI.rv _ (by omega) (by omega) | exact hI)) (cwV 3 hts (lw_V q2409 q2411 qs39 q83 q2412) rfl rfl rfl (by decide +kernel) ⟨(Nat.le_of_ble_eq_true rfl), (Nat.le_of_ble_eq_true rfl)⟩) (kz_preVM (wc := mW E Ad (put (put (put (put (put (put (put (mKeeps (put S 7 7 0) 0) 0 (10 + 14 * k + 6) ((((S 0 ((10 + 14 * k + 6)))) + 1))) 0 (10 + 14 * k + 7) (((S 0 (10 + 14 * k + 7)) + (skipsG (S 0) k river a sp)))) 0 5 ((S 0 5) + 1)) 0 7 ((S 0 7) + (skipsG (S 0) k river a sp))) 0 ((150 + (6 * river)) + 2) (skipsG (S 0) k river a sp)) 0 ((150 + (6 * river)) + 3) k) 0 (10 + 14 * k + 5) (((-2))))) (va_recv hK hP (ci := 2) (q0 := 0) rfl rfl) hG hS hAN hP hD kz_nilP kz_nilA) rfl rfl hl.1 rfl (lv_room (Nat.le_of_ble_eq_true rfl)) dX3_skim_297 ⟨(Nat.le_of_ble_eq_true rfl), (Nat.le_of_ble_eq_true rfl)⟩) hP hD hS hA (fun u H9 locs9 hu hP9 hD9 hS9 hzz hkk => ?_)
                  clear hzz hkk hP hD hS H locs u
                  revert hS9 hD9 hP9 locs9 H9
                  intro H locs hP hD hS
                  replace hM : MOk (put (put (put (put (put (put (put (put (mKeeps (put S 7 7 0) 0) 0 (10 + 14 * k + 6) ((((S 0 ((10 + 14 * k + 6)))) + 1))) 0 (10 + 14 * k + 7) (((S 0 (10 + 14 * k + 7)) + (skipsG (S 0) k river a sp)))) 0 5 ((S 0 5) + 1)) 0 7 ((S 0 7) + (skipsG (S 0) k river a sp))) 0 ((150 + (6 * river)) + 2) (skipsG (S 0) k river a sp)) 0 ((150 + (6 * river)) + 3) k) 0 (10 + 14 * k + 5) (((-2)))) 0 (10 + 14 * k + 10) ((S 0 2))) := hu
                  clear hu
                  replace hP : va_P (kD E) kcl (mW E Ad (put (put (put (put (put (put (put (put (mKeeps (put S 7 7 0) 0) 0 (10 + 14 * k + 6) ((((S 0 ((10 + 14 * k + 6)))) + 1))) 0 (10 + 14 * k + 7) (((S 0 (10 + 14 * k + 7)) + (skipsG (S 0) k river a sp)))) 0 5 ((S 0 5) + 1)) 0 7 ((S 0 7) + (skipsG (S 0) k river a sp))) 0 ((150 + (6 * river)) + 2) (skipsG (S 0) k river a sp)) 0 ((150 + (6 * river)) + 3) k) 0 (10 + 14 * k + 5) (((-2)))) 0 (10 + 14 * k + 10) ((S 0 2)))) H := hP
                  replace hD : va_D A (mW E Ad (put (put (put (put (put (put (put (put (mKeeps (put S 7 7 0) 0) 0 (10 + 14 * k + 6) ((((S 0 ((10 + 14 * k + 6)))) + 1))) 0 (10 + 14 * k + 7) (((S 0 (10 + 14 * k + 7)) + (skipsG (S 0) k river a sp)))) 0 5 ((S 0 5) + 1)) 0 7 ((S 0 7) + (skipsG (S 0) k river a sp))) 0 ((150 + (6 * river)) + 2) (skipsG (S 0) k river a sp)) 0 ((150 + (6 * river)) + 3) k) 0 (10 + 14 * k + 5) (((-2)))) 0 (10 + 14 * k + 10) ((S 0 2)))) := hD
                  show W p l e _ s m args below meth c H locs _ _ Q (F0 m 300 ls [])
                  refine lv_aload_n hx hb dX3_skim_300 rfl (lv_at hl 1 rfl) ?_
                  refine va_get (D := kD E) (ci := 2) (fs := mO Ad (put (put (put (put (put (put (put (put (mKeeps (put S 7 7 0) 0) 0 (10 + 14 * k + 6) ((((S 0 ((10 + 14 * k + 6)))) + 1))) 0 (10 + 14 * k + 7) (((S 0 (10 + 14 * k + 7)) + (skipsG (S 0) k river a sp)))) 0 5 ((S 0 5) + 1)) 0 7 ((S 0 7) + (skipsG (S 0) k river a sp))) 0 ((150 + (6 * river)) + 2) (skipsG (S 0) k river a sp)) 0 ((150 + (6 * river)) + 3) k) 0 (10 + 14 * k + 5) (((-2)))) 0 (10 + 14 * k + 10) ((S 0 2)))) (v := .ref (Ad 1)) (C := RX3) (T := TX3) (N := 19) hx hb hts in_X3 hown hK hP 0 rfl rfl 0 (by decide) (hts _ q2320) (fun _ h9 => h9) rfl dX3_skim_301 ?_
                  refine kz_sipush hx hb dX3_skim_304 (by decide) ?_
                  refine kz_bipush hx hb dX3_skim_307 (by decide) ?_
                  refine lv_iload_n hx hb dX3_skim_309 rfl (lv_at hl 3 rfl) ?_
                  refine kz_imul hx hb dX3_skim_310 ?_
                  refine kz_iadd hx hb dX3_skim_311 ?_
                  refine kz_iconst hx hb dX3_skim_312 ?_
                  refine kz_iadd hx hb dX3_skim_313 ?_
                  refine lv_dup2_11 hx hb dX3_skim_314 rfl rfl ?_
                  refine kz_iald (cA := kA E 0) (n := 304) (g := (put (put (put (put (put (put (put (put (mKeeps (put S 7 7 0) 0) 0 (10 + 14 * k + 6) ((((S 0 ((10 + 14 * k + 6)))) + 1))) 0 (10 + 14 * k + 7) (((S 0 (10 + 14 * k + 7)) + (skipsG (S 0) k river a sp)))) 0 5 ((S 0 5) + 1)) 0 7 ((S 0 7) + (skipsG (S 0) k river a sp))) 0 ((150 + (6 * river)) + 2) (skipsG (S 0) k river a sp)) 0 ((150 + (6 * river)) + 3) k) 0 (10 + 14 * k + 5) (((-2)))) 0 (10 + 14 * k + 10) ((S 0 2))) 0) hx hb hK hP 1 0 rfl rfl (by omega) dX3_skim_315 ?_
                  have r49 : rI ((put (put (put (put (put (put (put (put (mKeeps (put S 7 7 0) 0) 0 (10 + 14 * k + 6) ((((S 0 ((10 + 14 * k + 6)))) + 1))) 0 (10 + 14 * k + 7) (((S 0 (10 + 14 * k + 7)) + (skipsG (S 0) k river a sp)))) 0 5 ((S 0 5) + 1)) 0 7 ((S 0 7) + (skipsG (S 0) k river a sp))) 0 ((150 + (6 * river)) + 2) (skipsG (S 0) k river a sp)) 0 ((150 + (6 * river)) + 3) k) 0 (10 + 14 * k + 5) (((-2)))) 0 (10 + 14 * k + 10) ((S 0 2))) 0 ((150 + (6 * river)) + 4)) := hM 0 ((150 + (6 * river)) + 4)
                  have q50 : (put (put (put (put (put (put (put (put (mKeeps (put S 7 7 0) 0) 0 (10 + 14 * k + 6) ((((S 0 ((10 + 14 * k + 6)))) + 1))) 0 (10 + 14 * k + 7) (((S 0 (10 + 14 * k + 7)) + (skipsG (S 0) k river a sp)))) 0 5 ((S 0 5) + 1)) 0 7 ((S 0 7) + (skipsG (S 0) k river a sp))) 0 ((150 + (6 * river)) + 2) (skipsG (S 0) k river a sp)) 0 ((150 + (6 * river)) + 3) k) 0 (10 + 14 * k + 5) (((-2)))) 0 (10 + 14 * k + 10) ((S 0 2))) 0 ((150 + (6 * river)) + 4) = S 0 ((150 + (6 * river)) + 4) := by
                    show uz ((put (put (put (put (put (put (put (mKeeps (put S 7 7 0) 0) 0 (10 + 14 * k + 6) ((((S 0 ((10 + 14 * k + 6)))) + 1))) 0 (10 + 14 * k + 7) (((S 0 (10 + 14 * k + 7)) + (skipsG (S 0) k river a sp)))) 0 5 ((S 0 5) + 1)) 0 7 ((S 0 7) + (skipsG (S 0) k river a sp))) 0 ((150 + (6 * river)) + 2) (skipsG (S 0) k river a sp)) 0 ((150 + (6 * river)) + 3) k) 0 (10 + 14 * k + 5) (((-2)))) 0) (10 + 14 * k + 10) ((S 0 2)) ((150 + (6 * river)) + 4) = _
                    rw [uz_n (by omega)]
                    show uz ((put (put (put (put (put (put (mKeeps (put S 7 7 0) 0) 0 (10 + 14 * k + 6) ((((S 0 ((10 + 14 * k + 6)))) + 1))) 0 (10 + 14 * k + 7) (((S 0 (10 + 14 * k + 7)) + (skipsG (S 0) k river a sp)))) 0 5 ((S 0 5) + 1)) 0 7 ((S 0 7) + (skipsG (S 0) k river a sp))) 0 ((150 + (6 * river)) + 2) (skipsG (S 0) k river a sp)) 0 ((150 + (6 * river)) + 3) k) 0) (10 + 14 * k + 5) (((-2))) ((150 + (6 * river)) + 4) = _
                    rw [uz_n (by omega)]
                    show uz ((put (put (put (put (put (mKeeps (put S 7 7 0) 0) 0 (10 + 14 * k + 6) ((((S 0 ((10 + 14 * k + 6)))) + 1))) 0 (10 + 14 * k + 7) (((S 0 (10 + 14 * k + 7)) + (skipsG (S 0) k river a sp)))) 0 5 ((S 0 5) + 1)) 0 7 ((S 0 7) + (skipsG (S 0) k river a sp))) 0 ((150 + (6 * river)) + 2) (skipsG (S 0) k river a sp)) 0) ((150 + (6 * river)) + 3) k ((150 + (6 * river)) + 4) = _
                    rw [uz_n (by omega)]
                    show uz ((put (put (put (put (mKeeps (put S 7 7 0) 0) 0 (10 + 14 * k + 6) ((((S 0 ((10 + 14 * k + 6)))) + 1))) 0 (10 + 14 * k + 7) (((S 0 (10 + 14 * k + 7)) + (skipsG (S 0) k river a sp)))) 0 5 ((S 0 5) + 1)) 0 7 ((S 0 7) + (skipsG (S 0) k river a sp))) 0) ((150 + (6 * river)) + 2) (skipsG (S 0) k river a sp) ((150 + (6 * river)) + 4) = _
                    rw [uz_n (by omega)]
                    show uz ((put (put (put (mKeeps (put S 7 7 0) 0) 0 (10 + 14 * k + 6) ((((S 0 ((10 + 14 * k + 6)))) + 1))) 0 (10 + 14 * k + 7) (((S 0 (10 + 14 * k + 7)) + (skipsG (S 0) k river a sp)))) 0 5 ((S 0 5) + 1)) 0) 7 ((S 0 7) + (skipsG (S 0) k river a sp)) ((150 + (6 * river)) + 4) = _
                    rw [uz_n (by omega)]
                    show uz ((put (put (mKeeps (put S 7 7 0) 0) 0 (10 + 14 * k + 6) ((((S 0 ((10 + 14 * k + 6)))) + 1))) 0 (10 + 14 * k + 7) (((S 0 (10 + 14 * k + 7)) + (skipsG (S 0) k river a sp)))) 0) 5 ((S 0 5) + 1) ((150 + (6 * river)) + 4) = _
                    rw [uz_n (by omega)]
                    show uz ((put (mKeeps (put S 7 7 0) 0) 0 (10 + 14 * k + 6) ((((S 0 ((10 + 14 * k + 6)))) + 1))) 0) (10 + 14 * k + 7) (((S 0 (10 + 14 * k + 7)) + (skipsG (S 0) k river a sp))) ((150 + (6 * river)) + 4) = _
                    rw [uz_n (by omega)]
                    show uz ((mKeeps (put S 7 7 0) 0) 0) (10 + 14 * k + 6) ((((S 0 ((10 + 14 * k + 6)))) + 1)) ((150 + (6 * river)) + 4) = _
                    rw [uz_n (by omega)]
                    all_goals rfl
                  rw [q50]
                  refine kz_iconst hx hb dX3_skim_316 ?_
                  refine kz_iadd hx hb dX3_skim_317 ?_
                  refine kz_iast (cA := kA E 0) (n := 304) (g := (put (put (put (put (put (put (put (put (mKeeps (put S 7 7 0) 0) 0 (10 + 14 * k + 6) ((((S 0 ((10 + 14 * k + 6)))) + 1))) 0 (10 + 14 * k + 7) (((S 0 (10 + 14 * k + 7)) + (skipsG (S 0) k river a sp)))) 0 5 ((S 0 5) + 1)) 0 7 ((S 0 7) + (skipsG (S 0) k river a sp))) 0 ((150 + (6 * river)) + 2) (skipsG (S 0) k river a sp)) 0 ((150 + (6 * river)) + 3) k) 0 (10 + 14 * k + 5) (((-2)))) 0 (10 + 14 * k + 10) ((S 0 2))) 0) hx hb hK hP hD hS 1 0 rfl rfl (by omega) dX3_skim_318 (fun H9 locs9 hP9 hD9 hS9 => ?_)
                  rw [mW_a0] at hP9 hD9
                  clear hP hD hS H locs
                  revert hS9 hD9 hP9 locs9 H9
                  intro H locs hP hD hS
                  replace hP : va_P (kD E) kcl (mW E Ad (put (put (put (put (put (put (put (put (put (mKeeps (put S 7 7 0) 0) 0 (10 + 14 * k + 6) ((((S 0 ((10 + 14 * k + 6)))) + 1))) 0 (10 + 14 * k + 7) (((S 0 (10 + 14 * k + 7)) + (skipsG (S 0) k river a sp)))) 0 5 ((S 0 5) + 1)) 0 7 ((S 0 7) + (skipsG (S 0) k river a sp))) 0 ((150 + (6 * river)) + 2) (skipsG (S 0) k river a sp)) 0 ((150 + (6 * river)) + 3) k) 0 (10 + 14 * k + 5) (((-2)))) 0 (10 + 14 * k + 10) ((S 0 2))) 0 ((150 + (6 * river)) + 4) ((S 0 ((150 + (6 * river)) + 4)) + 1))) H := hP
                  replace hD : va_D A (mW E Ad (put (put (put (put (put (put (put (put (put (mKeeps (put S 7 7 0) 0) 0 (10 + 14 * k + 6) ((((S 0 ((10 + 14 * k + 6)))) + 1))) 0 (10 + 14 * k + 7) (((S 0 (10 + 14 * k + 7)) + (skipsG (S 0) k river a sp)))) 0 5 ((S 0 5) + 1)) 0 7 ((S 0 7) + (skipsG (S 0) k river a sp))) 0 ((150 + (6 * river)) + 2) (skipsG (S 0) k river a sp)) 0 ((150 + (6 * river)) + 3) k) 0 (10 + 14 * k + 5) (((-2)))) 0 (10 + 14 * k + 10) ((S 0 2))) 0 ((150 + (6 * river)) + 4) ((S 0 ((150 + (6 * river)) + 4)) + 1))) := hD
                  replace hM : MOk (put (put (put (put (put (put (put (put (put (mKeeps (put S 7 7 0) 0) 0 (10 + 14 * k + 6) ((((S 0 ((10 + 14 * k + 6)))) + 1))) 0 (10 + 14 * k + 7) (((S 0 (10 + 14 * k + 7)) + (skipsG (S 0) k river a sp)))) 0 5 ((S 0 5) + 1)) 0 7 ((S 0 7) + (skipsG (S 0) k river a sp))) 0 ((150 + (6 * river)) + 2) (skipsG (S 0) k river a sp)) 0 ((150 + (6 * river)) + 3) k) 0 (10 + 14 * k + 5) (((-2)))) 0 (10 + 14 * k + 10) ((S 0 2))) 0 ((150 + (6 * river)) + 4) ((S 0 ((150 + (6 * river)) + 4)) + 1)) := hM.put 0 _ (by omega)
                  refine lv_aload_n hx hb dX3_skim_319 rfl (lv_at hl 1 rfl) ?_
                  refine va_get (D := kD E) (ci := 2) (fs := mO Ad (put (put (put (put (put (put (put (put (put (mKeeps (put S 7 7 0) 0) 0 (10 + 14 * k + 6) ((((S 0 ((10 + 14 * k + 6)))) + 1))) 0 (10 + 14 * k + 7) (((S 0 (10 + 14 * k + 7)) + (skipsG (S 0) k river a sp)))) 0 5 ((S 0 5) + 1)) 0 7 ((S 0 7) + (skipsG (S 0) k river a sp))) 0 ((150 + (6 * river)) + 2) (skipsG (S 0) k river a sp)) 0 ((150 + (6 * river)) + 3) k) 0 (10 + 14 * k + 5) (((-2)))) 0 (10 + 14 * k + 10) ((S 0 2))) 0 ((150 + (6 * river)) + 4) ((S 0 ((150 + (6 * river)) + 4)) + 1))) (v := .ref (Ad 1)) (C := RX3) (T := TX3) (N := 19) hx hb hts in_X3 hown hK hP 0 rfl rfl 0 (by decide) (hts _ q2320) (fun _ h9 => h9) rfl dX3_skim_320 ?_
                  refine kz_sipush hx hb dX3_skim_323 (by decide) ?_
                  refine lv_aload_n hx hb dX3_skim_326 rfl (lv_at hl 1 rfl) ?_
                  refine va_get (D := kD E) (ci := 2) (fs := mO Ad (put (put (put (put (put (put (put (put (put (mKeeps (put S 7 7 0) 0) 0 (10 + 14 * k + 6) ((((S 0 ((10 + 14 * k + 6)))) + 1))) 0 (10 + 14 * k + 7) (((S 0 (10 + 14 * k + 7)) + (skipsG (S 0) k river a sp)))) 0 5 ((S 0 5) + 1)) 0 7 ((S 0 7) + (skipsG (S 0) k river a sp))) 0 ((150 + (6 * river)) + 2) (skipsG (S 0) k river a sp)) 0 ((150 + (6 * river)) + 3) k) 0 (10 + 14 * k + 5) (((-2)))) 0 (10 + 14 * k + 10) ((S 0 2))) 0 ((150 + (6 * river)) + 4) ((S 0 ((150 + (6 * river)) + 4)) + 1))) (v := .ref (Ad 1)) (C := RX3) (T := TX3) (N := 19) hx hb hts in_X3 hown hK hP 0 rfl rfl 0 (by decide) (hts _ q2320) (fun _ h9 => h9) rfl dX3_skim_327 ?_
                  refine kz_bipush hx hb dX3_skim_330 (by decide) ?_
                  refine kz_iald (cA := kA E 0) (n := 304) (g := (put (put (put (put (put (put (put (put (put (mKeeps (put S 7 7 0) 0) 0 (10 + 14 * k + 6) ((((S 0 ((10 + 14 * k + 6)))) + 1))) 0 (10 + 14 * k + 7) (((S 0 (10 + 14 * k + 7)) + (skipsG (S 0) k river a sp)))) 0 5 ((S 0 5) + 1)) 0 7 ((S 0 7) + (skipsG (S 0) k river a sp))) 0 ((150 + (6 * river)) + 2) (skipsG (S 0) k river a sp)) 0 ((150 + (6 * river)) + 3) k) 0 (10 + 14 * k + 5) (((-2)))) 0 (10 + 14 * k + 10) ((S 0 2))) 0 ((150 + (6 * river)) + 4) ((S 0 ((150 + (6 * river)) + 4)) + 1)) 0) hx hb hK hP 1 0 rfl rfl (by omega) dX3_skim_332 ?_
                  have r51 : rI ((put (put (put (put (put (put (put (put (put (mKeeps (put S 7 7 0) 0) 0 (10 + 14 * k + 6) ((((S 0 ((10 + 14 * k + 6)))) + 1))) 0 (10 + 14 * k + 7) (((S 0 (10 + 14 * k + 7)) + (skipsG (S 0) k river a sp)))) 0 5 ((S 0 5) + 1)) 0 7 ((S 0 7) + (skipsG (S 0) k river a sp))) 0 ((150 + (6 * river)) + 2) (skipsG (S 0) k river a sp)) 0 ((150 + (6 * river)) + 3) k) 0 (10 + 14 * k + 5) (((-2)))) 0 (10 + 14 * k + 10) ((S 0 2))) 0 ((150 + (6 * river)) + 4) ((S 0 ((150 + (6 * river)) + 4)) + 1)) 0 8) := hM 0 8
                  have q52 : (put (put (put (put (put (put (put (put (put (mKeeps (put S 7 7 0) 0) 0 (10 + 14 * k + 6) ((((S 0 ((10 + 14 * k + 6)))) + 1))) 0 (10 + 14 * k + 7) (((S 0 (10 + 14 * k + 7)) + (skipsG (S 0) k river a sp)))) 0 5 ((S 0 5) + 1)) 0 7 ((S 0 7) + (skipsG (S 0) k river a sp))) 0 ((150 + (6 * river)) + 2) (skipsG (S 0) k river a sp)) 0 ((150 + (6 * river)) + 3) k) 0 (10 + 14 * k + 5) (((-2)))) 0 (10 + 14 * k + 10) ((S 0 2))) 0 ((150 + (6 * river)) + 4) ((S 0 ((150 + (6 * river)) + 4)) + 1)) 0 8 = S 0 8 := by
                    show uz ((put (put (put (put (put (put (put (put (mKeeps (put S 7 7 0) 0) 0 (10 + 14 * k + 6) ((((S 0 ((10 + 14 * k + 6)))) + 1))) 0 (10 + 14 * k + 7) (((S 0 (10 + 14 * k + 7)) + (skipsG (S 0) k river a sp)))) 0 5 ((S 0 5) + 1)) 0 7 ((S 0 7) + (skipsG (S 0) k river a sp))) 0 ((150 + (6 * river)) + 2) (skipsG (S 0) k river a sp)) 0 ((150 + (6 * river)) + 3) k) 0 (10 + 14 * k + 5) (((-2)))) 0 (10 + 14 * k + 10) ((S 0 2))) 0) ((150 + (6 * river)) + 4) ((S 0 ((150 + (6 * river)) + 4)) + 1) 8 = _
                    rw [uz_n (by omega)]
                    show uz ((put (put (put (put (put (put (put (mKeeps (put S 7 7 0) 0) 0 (10 + 14 * k + 6) ((((S 0 ((10 + 14 * k + 6)))) + 1))) 0 (10 + 14 * k + 7) (((S 0 (10 + 14 * k + 7)) + (skipsG (S 0) k river a sp)))) 0 5 ((S 0 5) + 1)) 0 7 ((S 0 7) + (skipsG (S 0) k river a sp))) 0 ((150 + (6 * river)) + 2) (skipsG (S 0) k river a sp)) 0 ((150 + (6 * river)) + 3) k) 0 (10 + 14 * k + 5) (((-2)))) 0) (10 + 14 * k + 10) ((S 0 2)) 8 = _
                    rw [uz_n (by omega)]
                    show uz ((put (put (put (put (put (put (mKeeps (put S 7 7 0) 0) 0 (10 + 14 * k + 6) ((((S 0 ((10 + 14 * k + 6)))) + 1))) 0 (10 + 14 * k + 7) (((S 0 (10 + 14 * k + 7)) + (skipsG (S 0) k river a sp)))) 0 5 ((S 0 5) + 1)) 0 7 ((S 0 7) + (skipsG (S 0) k river a sp))) 0 ((150 + (6 * river)) + 2) (skipsG (S 0) k river a sp)) 0 ((150 + (6 * river)) + 3) k) 0) (10 + 14 * k + 5) (((-2))) 8 = _
                    rw [uz_n (by omega)]
                    show uz ((put (put (put (put (put (mKeeps (put S 7 7 0) 0) 0 (10 + 14 * k + 6) ((((S 0 ((10 + 14 * k + 6)))) + 1))) 0 (10 + 14 * k + 7) (((S 0 (10 + 14 * k + 7)) + (skipsG (S 0) k river a sp)))) 0 5 ((S 0 5) + 1)) 0 7 ((S 0 7) + (skipsG (S 0) k river a sp))) 0 ((150 + (6 * river)) + 2) (skipsG (S 0) k river a sp)) 0) ((150 + (6 * river)) + 3) k 8 = _
                    rw [uz_n (by omega)]
                    show uz ((put (put (put (put (mKeeps (put S 7 7 0) 0) 0 (10 + 14 * k + 6) ((((S 0 ((10 + 14 * k + 6)))) + 1))) 0 (10 + 14 * k + 7) (((S 0 (10 + 14 * k + 7)) + (skipsG (S 0) k river a sp)))) 0 5 ((S 0 5) + 1)) 0 7 ((S 0 7) + (skipsG (S 0) k river a sp))) 0) ((150 + (6 * river)) + 2) (skipsG (S 0) k river a sp) 8 = _
                    rw [uz_n (by omega)]
                    show uz ((put (mKeeps (put S 7 7 0) 0) 0 (10 + 14 * k + 6) ((((S 0 ((10 + 14 * k + 6)))) + 1))) 0) (10 + 14 * k + 7) (((S 0 (10 + 14 * k + 7)) + (skipsG (S 0) k river a sp))) 8 = _
                    rw [uz_n (by omega)]
                    show uz ((mKeeps (put S 7 7 0) 0) 0) (10 + 14 * k + 6) ((((S 0 ((10 + 14 * k + 6)))) + 1)) 8 = _
                    rw [uz_n (by omega)]
                    all_goals rfl
                  rw [q52]
                  refine kz_iadd hx hb dX3_skim_333 ?_
                  refine lv_iload_n hx hb dX3_skim_334 rfl (lv_at hl 2 rfl) ?_
                  refine kz_iast (cA := kA E 0) (n := 304) (g := (put (put (put (put (put (put (put (put (put (mKeeps (put S 7 7 0) 0) 0 (10 + 14 * k + 6) ((((S 0 ((10 + 14 * k + 6)))) + 1))) 0 (10 + 14 * k + 7) (((S 0 (10 + 14 * k + 7)) + (skipsG (S 0) k river a sp)))) 0 5 ((S 0 5) + 1)) 0 7 ((S 0 7) + (skipsG (S 0) k river a sp))) 0 ((150 + (6 * river)) + 2) (skipsG (S 0) k river a sp)) 0 ((150 + (6 * river)) + 3) k) 0 (10 + 14 * k + 5) (((-2)))) 0 (10 + 14 * k + 10) ((S 0 2))) 0 ((150 + (6 * river)) + 4) ((S 0 ((150 + (6 * river)) + 4)) + 1)) 0) hx hb hK hP hD hS 1 0 rfl rfl (by omega) dX3_skim_335 (fun H9 locs9 hP9 hD9 hS9 => ?_)
                  rw [mW_a0] at hP9 hD9
                  clear hP hD hS H locs
                  revert hS9 hD9 hP9 locs9 H9
                  intro H locs hP hD hS
                  replace hP : va_P (kD E) kcl (mW E Ad (put (put (put (put (put (put (put (put (put (put (mKeeps (put S 7 7 0) 0) 0 (10 + 14 * k + 6) ((((S 0 ((10 + 14 * k + 6)))) + 1))) 0 (10 + 14 * k + 7) (((S 0 (10 + 14 * k + 7)) + (skipsG (S 0) k river a sp)))) 0 5 ((S 0 5) + 1)) 0 7 ((S 0 7) + (skipsG (S 0) k river a sp))) 0 ((150 + (6 * river)) + 2) (skipsG (S 0) k river a sp)) 0 ((150 + (6 * river)) + 3) k) 0 (10 + 14 * k + 5) (((-2)))) 0 (10 + 14 * k + 10) ((S 0 2))) 0 ((150 + (6 * river)) + 4) ((S 0 ((150 + (6 * river)) + 4)) + 1)) 0 (294 + (S 0 8)) k)) H := hP
                  replace hD : va_D A (mW E Ad (put (put (put (put (put (put (put (put (put (put (mKeeps (put S 7 7 0) 0) 0 (10 + 14 * k + 6) ((((S 0 ((10 + 14 * k + 6)))) + 1))) 0 (10 + 14 * k + 7) (((S 0 (10 + 14 * k + 7)) + (skipsG (S 0) k river a sp)))) 0 5 ((S 0 5) + 1)) 0 7 ((S 0 7) + (skipsG (S 0) k river a sp))) 0 ((150 + (6 * river)) + 2) (skipsG (S 0) k river a sp)) 0 ((150 + (6 * river)) + 3) k) 0 (10 + 14 * k + 5) (((-2)))) 0 (10 + 14 * k + 10) ((S 0 2))) 0 ((150 + (6 * river)) + 4) ((S 0 ((150 + (6 * river)) + 4)) + 1)) 0 (294 + (S 0 8)) k)) := hD
                  replace hM : MOk (put (put (put (put (put (put (put (put (put (put (mKeeps (put S 7 7 0) 0) 0 (10 + 14 * k + 6) ((((S 0 ((10 + 14 * k + 6)))) + 1))) 0 (10 + 14 * k + 7) (((S 0 (10 + 14 * k + 7)) + (skipsG (S 0) k river a sp)))) 0 5 ((S 0 5) + 1)) 0 7 ((S 0 7) + (skipsG (S 0) k river a sp))) 0 ((150 + (6 * river)) + 2) (skipsG (S 0) k river a sp)) 0 ((150 + (6 * river)) + 3) k) 0 (10 + 14 * k + 5) (((-2)))) 0 (10 + 14 * k + 10) ((S 0 2))) 0 ((150 + (6 * river)) + 4) ((S 0 ((150 + (6 * river)) + 4)) + 1)) 0 (294 + (S 0 8)) k) := hM.put 0 _ (by omega)
                  refine lv_aload_n hx hb dX3_skim_336 rfl (lv_at hl 1 rfl) ?_
                  refine va_get (D := kD E) (ci := 2) (fs := mO Ad (put (put (put (put (put (put (put (put (put (put (mKeeps (put S 7 7 0) 0) 0 (10 + 14 * k + 6) ((((S 0 ((10 + 14 * k + 6)))) + 1))) 0 (10 + 14 * k + 7) (((S 0 (10 + 14 * k + 7)) + (skipsG (S 0) k river a sp)))) 0 5 ((S 0 5) + 1)) 0 7 ((S 0 7) + (skipsG (S 0) k river a sp))) 0 ((150 + (6 * river)) + 2) (skipsG (S 0) k river a sp)) 0 ((150 + (6 * river)) + 3) k) 0 (10 + 14 * k + 5) (((-2)))) 0 (10 + 14 * k + 10) ((S 0 2))) 0 ((150 + (6 * river)) + 4) ((S 0 ((150 + (6 * river)) + 4)) + 1)) 0 (294 + (S 0 8)) k)) (v := .ref (Ad 1)) (C := RX3) (T := TX3) (N := 19) hx hb hts in_X3 hown hK hP 0 rfl rfl 0 (by decide) (hts _ q2320) (fun _ h9 => h9) rfl dX3_skim_337 ?_
                  refine kz_bipush hx hb dX3_skim_340 (by decide) ?_
                  refine lv_dup2_11 hx hb dX3_skim_342 rfl rfl ?_
                  refine kz_iald (cA := kA E 0) (n := 304) (g := (put (put (put (put (put (put (put (put (put (put (mKeeps (put S 7 7 0) 0) 0 (10 + 14 * k + 6) ((((S 0 ((10 + 14 * k + 6)))) + 1))) 0 (10 + 14 * k + 7) (((S 0 (10 + 14 * k + 7)) + (skipsG (S 0) k river a sp)))) 0 5 ((S 0 5) + 1)) 0 7 ((S 0 7) + (skipsG (S 0) k river a sp))) 0 ((150 + (6 * river)) + 2) (skipsG (S 0) k river a sp)) 0 ((150 + (6 * river)) + 3) k) 0 (10 + 14 * k + 5) (((-2)))) 0 (10 + 14 * k + 10) ((S 0 2))) 0 ((150 + (6 * river)) + 4) ((S 0 ((150 + (6 * river)) + 4)) + 1)) 0 (294 + (S 0 8)) k) 0) hx hb hK hP 1 0 rfl rfl (by omega) dX3_skim_343 ?_
                  have r53 : rI ((put (put (put (put (put (put (put (put (put (put (mKeeps (put S 7 7 0) 0) 0 (10 + 14 * k + 6) ((((S 0 ((10 + 14 * k + 6)))) + 1))) 0 (10 + 14 * k + 7) (((S 0 (10 + 14 * k + 7)) + (skipsG (S 0) k river a sp)))) 0 5 ((S 0 5) + 1)) 0 7 ((S 0 7) + (skipsG (S 0) k river a sp))) 0 ((150 + (6 * river)) + 2) (skipsG (S 0) k river a sp)) 0 ((150 + (6 * river)) + 3) k) 0 (10 + 14 * k + 5) (((-2)))) 0 (10 + 14 * k + 10) ((S 0 2))) 0 ((150 + (6 * river)) + 4) ((S 0 ((150 + (6 * river)) + 4)) + 1)) 0 (294 + (S 0 8)) k) 0 8) := hM 0 8
                  have q54 : (put (put (put (put (put (put (put (put (put (put (mKeeps (put S 7 7 0) 0) 0 (10 + 14 * k + 6) ((((S 0 ((10 + 14 * k + 6)))) + 1))) 0 (10 + 14 * k + 7) (((S 0 (10 + 14 * k + 7)) + (skipsG (S 0) k river a sp)))) 0 5 ((S 0 5) + 1)) 0 7 ((S 0 7) + (skipsG (S 0) k river a sp))) 0 ((150 + (6 * river)) + 2) (skipsG (S 0) k river a sp)) 0 ((150 + (6 * river)) + 3) k) 0 (10 + 14 * k + 5) (((-2)))) 0 (10 + 14 * k + 10) ((S 0 2))) 0 ((150 + (6 * river)) + 4) ((S 0 ((150 + (6 * river)) + 4)) + 1)) 0 (294 + (S 0 8)) k) 0 8 = S 0 8 := by
                    show uz ((put (put (put (put (put (put (put (put (put (mKeeps (put S 7 7 0) 0) 0 (10 + 14 * k + 6) ((((S 0 ((10 + 14 * k + 6)))) + 1))) 0 (10 + 14 * k + 7) (((S 0 (10 + 14 * k + 7)) + (skipsG (S 0) k river a sp)))) 0 5 ((S 0 5) + 1)) 0 7 ((S 0 7) + (skipsG (S 0) k river a sp))) 0 ((150 + (6 * river)) + 2) (skipsG (S 0) k river a sp)) 0 ((150 + (6 * river)) + 3) k) 0 (10 + 14 * k + 5) (((-2)))) 0 (10 + 14 * k + 10) ((S 0 2))) 0 ((150 + (6 * river)) + 4) ((S 0 ((150 + (6 * river)) + 4)) + 1)) 0) (294 + (S 0 8)) k 8 = _
                    rw [uz_n (by omega)]
                    show uz ((put (put (put (put (put (put (put (put (mKeeps (put S 7 7 0) 0) 0 (10 + 14 * k + 6) ((((S 0 ((10 + 14 * k + 6)))) + 1))) 0 (10 + 14 * k + 7) (((S 0 (10 + 14 * k + 7)) + (skipsG (S 0) k river a sp)))) 0 5 ((S 0 5) + 1)) 0 7 ((S 0 7) + (skipsG (S 0) k river a sp))) 0 ((150 + (6 * river)) + 2) (skipsG (S 0) k river a sp)) 0 ((150 + (6 * river)) + 3) k) 0 (10 + 14 * k + 5) (((-2)))) 0 (10 + 14 * k + 10) ((S 0 2))) 0) ((150 + (6 * river)) + 4) ((S 0 ((150 + (6 * river)) + 4)) + 1) 8 = _
                    rw [uz_n (by omega)]
                    show uz ((put (put (put (put (put (put (put (mKeeps (put S 7 7 0) 0) 0 (10 + 14 * k + 6) ((((S 0 ((10 + 14 * k + 6)))) + 1))) 0 (10 + 14 * k + 7) (((S 0 (10 + 14 * k + 7)) + (skipsG (S 0) k river a sp)))) 0 5 ((S 0 5) + 1)) 0 7 ((S 0 7) + (skipsG (S 0) k river a sp))) 0 ((150 + (6 * river)) + 2) (skipsG (S 0) k river a sp)) 0 ((150 + (6 * river)) + 3) k) 0 (10 + 14 * k + 5) (((-2)))) 0) (10 + 14 * k + 10) ((S 0 2)) 8 = _
                    rw [uz_n (by omega)]
                    show uz ((put (put (put (put (put (put (mKeeps (put S 7 7 0) 0) 0 (10 + 14 * k + 6) ((((S 0 ((10 + 14 * k + 6)))) + 1))) 0 (10 + 14 * k + 7) (((S 0 (10 + 14 * k + 7)) + (skipsG (S 0) k river a sp)))) 0 5 ((S 0 5) + 1)) 0 7 ((S 0 7) + (skipsG (S 0) k river a sp))) 0 ((150 + (6 * river)) + 2) (skipsG (S 0) k river a sp)) 0 ((150 + (6 * river)) + 3) k) 0) (10 + 14 * k + 5) (((-2))) 8 = _
                    rw [uz_n (by omega)]
                    show uz ((put (put (put (put (put (mKeeps (put S 7 7 0) 0) 0 (10 + 14 * k + 6) ((((S 0 ((10 + 14 * k + 6)))) + 1))) 0 (10 + 14 * k + 7) (((S 0 (10 + 14 * k + 7)) + (skipsG (S 0) k river a sp)))) 0 5 ((S 0 5) + 1)) 0 7 ((S 0 7) + (skipsG (S 0) k river a sp))) 0 ((150 + (6 * river)) + 2) (skipsG (S 0) k river a sp)) 0) ((150 + (6 * river)) + 3) k 8 = _
                    rw [uz_n (by omega)]
                    show uz ((put (put (put (put (mKeeps (put S 7 7 0) 0) 0 (10 + 14 * k + 6) ((((S 0 ((10 + 14 * k + 6)))) + 1))) 0 (10 + 14 * k + 7) (((S 0 (10 + 14 * k + 7)) + (skipsG (S 0) k river a sp)))) 0 5 ((S 0 5) + 1)) 0 7 ((S 0 7) + (skipsG (S 0) k river a sp))) 0) ((150 + (6 * river)) + 2) (skipsG (S 0) k river a sp) 8 = _
                    rw [uz_n (by omega)]
                    show uz ((put (mKeeps (put S 7 7 0) 0) 0 (10 + 14 * k + 6) ((((S 0 ((10 + 14 * k + 6)))) + 1))) 0) (10 + 14 * k + 7) (((S 0 (10 + 14 * k + 7)) + (skipsG (S 0) k river a sp))) 8 = _
                    rw [uz_n (by omega)]
                    show uz ((mKeeps (put S 7 7 0) 0) 0) (10 + 14 * k + 6) ((((S 0 ((10 + 14 * k + 6)))) + 1)) 8 = _
                    rw [uz_n (by omega)]
                    all_goals rfl
                  rw [q54]
                  refine kz_iconst hx hb dX3_skim_344 ?_
                  refine kz_iadd hx hb dX3_skim_345 ?_
                  refine kz_iast (cA := kA E 0) (n := 304) (g := (put (put (put (put (put (put (put (put (put (put (mKeeps (put S 7 7 0) 0) 0 (10 + 14 * k + 6) ((((S 0 ((10 + 14 * k + 6)))) + 1))) 0 (10 + 14 * k + 7) (((S 0 (10 + 14 * k + 7)) + (skipsG (S 0) k river a sp)))) 0 5 ((S 0 5) + 1)) 0 7 ((S 0 7) + (skipsG (S 0) k river a sp))) 0 ((150 + (6 * river)) + 2) (skipsG (S 0) k river a sp)) 0 ((150 + (6 * river)) + 3) k) 0 (10 + 14 * k + 5) (((-2)))) 0 (10 + 14 * k + 10) ((S 0 2))) 0 ((150 + (6 * river)) + 4) ((S 0 ((150 + (6 * river)) + 4)) + 1)) 0 (294 + (S 0 8)) k) 0) hx hb hK hP hD hS 1 0 rfl rfl (by omega) dX3_skim_346 (fun H9 locs9 hP9 hD9 hS9 => ?_)
                  rw [mW_a0] at hP9 hD9
                  clear hP hD hS H locs
                  revert hS9 hD9 hP9 locs9 H9
                  intro H locs hP hD hS
                  replace hP : va_P (kD E) kcl (mW E Ad (put (put (put (put (put (put (put (put (put (put (put (mKeeps (put S 7 7 0) 0) 0 (10 + 14 * k + 6) ((((S 0 ((10 + 14 * k + 6)))) + 1))) 0 (10 + 14 * k + 7) (((S 0 (10 + 14 * k + 7)) + (skipsG (S 0) k river a sp)))) 0 5 ((S 0 5) + 1)) 0 7 ((S 0 7) + (skipsG (S 0) k river a sp))) 0 ((150 + (6 * river)) + 2) (skipsG (S 0) k river a sp)) 0 ((150 + (6 * river)) + 3) k) 0 (10 + 14 * k + 5) (((-2)))) 0 (10 + 14 * k + 10) ((S 0 2))) 0 ((150 + (6 * river)) + 4) ((S 0 ((150 + (6 * river)) + 4)) + 1)) 0 (294 + (S 0 8)) k) 0 8 ((S 0 8) + 1))) H := hP
                  replace hD : va_D A (mW E Ad (put (put (put (put (put (put (put (put (put (put (put (mKeeps (put S 7 7 0) 0) 0 (10 + 14 * k + 6) ((((S 0 ((10 + 14 * k + 6)))) + 1))) 0 (10 + 14 * k + 7) (((S 0 (10 + 14 * k + 7)) + (skipsG (S 0) k river a sp)))) 0 5 ((S 0 5) + 1)) 0 7 ((S 0 7) + (skipsG (S 0) k river a sp))) 0 ((150 + (6 * river)) + 2) (skipsG (S 0) k river a sp)) 0 ((150 + (6 * river)) + 3) k) 0 (10 + 14 * k + 5) (((-2)))) 0 (10 + 14 * k + 10) ((S 0 2))) 0 ((150 + (6 * river)) + 4) ((S 0 ((150 + (6 * river)) + 4)) + 1)) 0 (294 + (S 0 8)) k) 0 8 ((S 0 8) + 1))) := hD
                  replace hM : MOk (put (put (put (put (put (put (put (put (put (put (put (mKeeps (put S 7 7 0) 0) 0 (10 + 14 * k + 6) ((((S 0 ((10 + 14 * k + 6)))) + 1))) 0 (10 + 14 * k + 7) (((S 0 (10 + 14 * k + 7)) + (skipsG (S 0) k river a sp)))) 0 5 ((S 0 5) + 1)) 0 7 ((S 0 7) + (skipsG (S 0) k river a sp))) 0 ((150 + (6 * river)) + 2) (skipsG (S 0) k river a sp)) 0 ((150 + (6 * river)) + 3) k) 0 (10 + 14 * k + 5) (((-2)))) 0 (10 + 14 * k + 10) ((S 0 2))) 0 ((150 + (6 * river)) + 4) ((S 0 ((150 + (6 * river)) + 4)) + 1)) 0 (294 + (S 0 8)) k) 0 8 ((S 0 8) + 1)) := hM.put 0 _ (by omega)
                  refine lv_iload hx hb dX3_skim_347 (lv_at hl 6 rfl) ?_
                  refine kz_ineg hx hb dX3_skim_349 ?_
                  have e0 : xSkim S k river a sp = (put (put (put (put (put (put (put (put (put (put (put (mKeeps (put S 7 7 0) 0) 0 (10 + 14 * k + 6) ((((S 0 ((10 + 14 * k + 6)))) + 1))) 0 (10 + 14 * k + 7) (((S 0 (10 + 14 * k + 7)) + (skipsG (S 0) k river a sp)))) 0 5 ((S 0 5) + 1)) 0 7 ((S 0 7) + (skipsG (S 0) k river a sp))) 0 ((150 + (6 * river)) + 2) (skipsG (S 0) k river a sp)) 0 ((150 + (6 * river)) + 3) k) 0 (10 + 14 * k + 5) (((-2)))) 0 (10 + 14 * k + 10) ((S 0 2))) 0 ((150 + (6 * river)) + 4) ((S 0 ((150 + (6 * river)) + 4)) + 1)) 0 (294 + (S 0 8)) k) 0 8 ((S 0 8) + 1), - (skipsG (S 0) k river a sp)) := by unfold xSkim gSkim; (repeat (first | refine Eq.trans (if_pos (by omega)) ?_ | refine Eq.trans (if_neg (by omega)) ?_)); first | rfl | ((first | rw [gSaw0_t (by omega) (by omega) (by omega)] | rw [gSaw0_f (by omega) (by omega) (by omega)]); simp (disch := omega) only [if_pos, if_neg, gOver, gSink, gSkim0, uz_n, uz_s, putR_put _ 0, putR_putR, putR_at]; all_goals rfl)
                  have e1 : (xSkim S k river a sp).2 = - (skipsG (S 0) k river a sp) := by rw [e0]
                  have e3 : (xSkim S k river a sp).1 = put (put (put (put (put (put (put (put (put (put (put (mKeeps (put S 7 7 0) 0) 0 (10 + 14 * k + 6) ((((S 0 ((10 + 14 * k + 6)))) + 1))) 0 (10 + 14 * k + 7) (((S 0 (10 + 14 * k + 7)) + (skipsG (S 0) k river a sp)))) 0 5 ((S 0 5) + 1)) 0 7 ((S 0 7) + (skipsG (S 0) k river a sp))) 0 ((150 + (6 * river)) + 2) (skipsG (S 0) k river a sp)) 0 ((150 + (6 * river)) + 3) k) 0 (10 + 14 * k + 5) (((-2)))) 0 (10 + 14 * k + 10) ((S 0 2))) 0 ((150 + (6 * river)) + 4) ((S 0 ((150 + (6 * river)) + 4)) + 1)) 0 (294 + (S 0 8)) k) 0 8 ((S 0 8) + 1) := by rw [e0]
                  exact kz_iret () hx hb hr hlk hP hD hS dX3_skim_350 (congrArg (fun z : Int => some (Value.int (zI z))) e1) ⟨(kz_r e1 (by omega)), (kz_M e3 hM)⟩ (congrArg (mW E Ad) e3) hQ (Nat.le_of_ble_eq_true rfl) (Nat.le_of_ble_eq_true rfl)
                · skip
                  refine lv_aload_n hx hb dX3_skim_238 rfl (lv_at hl 1 rfl) ?_
                  refine lv_iload_n hx hb dX3_skim_239 rfl (lv_at hl 2 rfl) ?_
                  refine kz_iconst hx hb dX3_skim_240 ?_
                  refine lv_iload_n hx hb dX3_skim_241 rfl (lv_at hl 3 rfl) ?_
                  refine kz_backM (va_runV (As := [.int (zI (k)), .int (zI (5)), .int (zI (river))]) (rest := []) ⟨hx, hb, hml, hown, hts⟩ (mX3_lays l E H.size Ad (put (put (put (put (put (put (mKeeps (put S 7 7 0) 0) 0 (10 + 14 * k + 6) ((((S 0 ((10 + 14 * k + 6)))) + 1))) 0 (10 + 14 * k + 7) (((S 0 (10 + 14 * k + 7)) + (skipsG (S 0) k river a sp)))) 0 5 ((S 0 5) + 1)) 0 7 ((S 0 7) + (skipsG (S 0) k river a sp))) 0 ((150 + (6 * river)) + 2) (skipsG (S 0) k river a sp)) 0 ((150 + (6 * river)) + 3) k) hM k (by omega) 5 (by omega) river (by omega) (show 0 ≤ k ∧ k < 10 by first | omega | exact hI.st _ (by omega) (by omega) | exact hI.rv _ (by omega) (by omega) | exact hI) (show 0 ≤ 5 ∧ 5 < 14 by first | omega | exact hI.st _ (by omega) (by omega) | exact hI.rv _ (by omega) (by omega) | exact hI)) (cwV 3 hts (lw_V q2409 q2411 qs39 q83 q2412) rfl rfl rfl (by decide +kernel) ⟨(Nat.le_of_ble_eq_true rfl), (Nat.le_of_ble_eq_true rfl)⟩) (kz_preVM (wc := mW E Ad (put (put (put (put (put (put (mKeeps (put S 7 7 0) 0) 0 (10 + 14 * k + 6) ((((S 0 ((10 + 14 * k + 6)))) + 1))) 0 (10 + 14 * k + 7) (((S 0 (10 + 14 * k + 7)) + (skipsG (S 0) k river a sp)))) 0 5 ((S 0 5) + 1)) 0 7 ((S 0 7) + (skipsG (S 0) k river a sp))) 0 ((150 + (6 * river)) + 2) (skipsG (S 0) k river a sp)) 0 ((150 + (6 * river)) + 3) k)) (va_recv hK hP (ci := 2) (q0 := 0) rfl rfl) hG hS hAN hP hD kz_nilP kz_nilA) rfl rfl hl.1 rfl (lv_room (Nat.le_of_ble_eq_true rfl)) dX3_skim_242 ⟨(Nat.le_of_ble_eq_true rfl), (Nat.le_of_ble_eq_true rfl)⟩) hP hD hS hA (fun u H9 locs9 hu hP9 hD9 hS9 hzz hkk => ?_)
                  clear hzz hkk hP hD hS H locs u
                  revert hS9 hD9 hP9 locs9 H9
                  intro H locs hP hD hS
                  replace hM : MOk (put (put (put (put (put (put (put (mKeeps (put S 7 7 0) 0) 0 (10 + 14 * k + 6) ((((S 0 ((10 + 14 * k + 6)))) + 1))) 0 (10 + 14 * k + 7) (((S 0 (10 + 14 * k + 7)) + (skipsG (S 0) k river a sp)))) 0 5 ((S 0 5) + 1)) 0 7 ((S 0 7) + (skipsG (S 0) k river a sp))) 0 ((150 + (6 * river)) + 2) (skipsG (S 0) k river a sp)) 0 ((150 + (6 * river)) + 3) k) 0 (10 + 14 * k + 5) river) := hu
                  clear hu
                  replace hP : va_P (kD E) kcl (mW E Ad (put (put (put (put (put (put (put (mKeeps (put S 7 7 0) 0) 0 (10 + 14 * k + 6) ((((S 0 ((10 + 14 * k + 6)))) + 1))) 0 (10 + 14 * k + 7) (((S 0 (10 + 14 * k + 7)) + (skipsG (S 0) k river a sp)))) 0 5 ((S 0 5) + 1)) 0 7 ((S 0 7) + (skipsG (S 0) k river a sp))) 0 ((150 + (6 * river)) + 2) (skipsG (S 0) k river a sp)) 0 ((150 + (6 * river)) + 3) k) 0 (10 + 14 * k + 5) river)) H := hP
                  replace hD : va_D A (mW E Ad (put (put (put (put (put (put (put (mKeeps (put S 7 7 0) 0) 0 (10 + 14 * k + 6) ((((S 0 ((10 + 14 * k + 6)))) + 1))) 0 (10 + 14 * k + 7) (((S 0 (10 + 14 * k + 7)) + (skipsG (S 0) k river a sp)))) 0 5 ((S 0 5) + 1)) 0 7 ((S 0 7) + (skipsG (S 0) k river a sp))) 0 ((150 + (6 * river)) + 2) (skipsG (S 0) k river a sp)) 0 ((150 + (6 * river)) + 3) k) 0 (10 + 14 * k + 5) river)) := hD
                  show W p l e _ s m args below meth c H locs _ _ Q (F0 m 245 ls [])
                  refine lv_aload_n hx hb dX3_skim_245 rfl (lv_at hl 1 rfl) ?_
                  refine lv_iload_n hx hb dX3_skim_246 rfl (lv_at hl 2 rfl) ?_
                  refine kz_iconst hx hb dX3_skim_247 ?_
                  refine lv_aload_n hx hb dX3_skim_248 rfl (lv_at hl 1 rfl) ?_
                  refine lv_iload_n hx hb dX3_skim_249 rfl (lv_at hl 2 rfl) ?_
                  refine kz_iconst hx hb dX3_skim_250 ?_
                  refine kz_backM (va_runV (As := [.int (zI (k)), .int (zI (2))]) (rest := [.int (zI (2)), .int (zI (k)), .ref (Ad 0)]) ⟨hx, hb, hml, hown, hts⟩ (mX3_of l E H.size Ad (put (put (put (put (put (put (put (mKeeps (put S 7 7 0) 0) 0 (10 + 14 * k + 6) ((((S 0 ((10 + 14 * k + 6)))) + 1))) 0 (10 + 14 * k + 7) (((S 0 (10 + 14 * k + 7)) + (skipsG (S 0) k river a sp)))) 0 5 ((S 0 5) + 1)) 0 7 ((S 0 7) + (skipsG (S 0) k river a sp))) 0 ((150 + (6 * river)) + 2) (skipsG (S 0) k river a sp)) 0 ((150 + (6 * river)) + 3) k) 0 (10 + 14 * k + 5) river) hM k (by omega) 2 (by omega) (show 0 ≤ k ∧ k < 10 by first | omega | exact hI.st _ (by omega) (by omega) | exact hI.rv _ (by omega) (by omega) | exact hI) (show 0 ≤ 2 ∧ 2 < 14 by first | omega | exact hI.st _ (by omega) (by omega) | exact hI.rv _ (by omega) (by omega) | exact hI)) (cwV 2 hts (lw_V q2441 q2443 qs44 q83 q2444) rfl rfl rfl (by decide +kernel) ⟨(Nat.le_of_ble_eq_true rfl), (Nat.le_of_ble_eq_true rfl)⟩) (kz_preVM (wc := mW E Ad (put (put (put (put (put (put (put (mKeeps (put S 7 7 0) 0) 0 (10 + 14 * k + 6) ((((S 0 ((10 + 14 * k + 6)))) + 1))) 0 (10 + 14 * k + 7) (((S 0 (10 + 14 * k + 7)) + (skipsG (S 0) k river a sp)))) 0 5 ((S 0 5) + 1)) 0 7 ((S 0 7) + (skipsG (S 0) k river a sp))) 0 ((150 + (6 * river)) + 2) (skipsG (S 0) k river a sp)) 0 ((150 + (6 * river)) + 3) k) 0 (10 + 14 * k + 5) river)) (va_recv hK hP (ci := 2) (q0 := 0) rfl rfl) hG hS hAN hP hD kz_nilP kz_nilA) rfl rfl hl.1 rfl (lv_room (Nat.le_of_ble_eq_true rfl)) dX3_skim_251 ⟨(Nat.le_of_ble_eq_true rfl), (Nat.le_of_ble_eq_true rfl)⟩) hP hD hS hA (fun u H9 locs9 hu hP9 hD9 hS9 hzz hkk => ?_)
                  clear hzz hkk hP hD hS H locs u
                  revert hS9 hD9 hP9 locs9 H9
                  intro H locs hP hD hS
                  have r55 : rI (((put (put (put (put (put (put (put (mKeeps (put S 7 7 0) 0) 0 (10 + 14 * k + 6) ((((S 0 ((10 + 14 * k + 6)))) + 1))) 0 (10 + 14 * k + 7) (((S 0 (10 + 14 * k + 7)) + (skipsG (S 0) k river a sp)))) 0 5 ((S 0 5) + 1)) 0 7 ((S 0 7) + (skipsG (S 0) k river a sp))) 0 ((150 + (6 * river)) + 2) (skipsG (S 0) k river a sp)) 0 ((150 + (6 * river)) + 3) k) 0 (10 + 14 * k + 5) river) 0 ((10 + 14 * k + 2)))) := hu
                  clear hu
                  replace hP : va_P (kD E) kcl (mW E Ad (put (put (put (put (put (put (put (mKeeps (put S 7 7 0) 0) 0 (10 + 14 * k + 6) ((((S 0 ((10 + 14 * k + 6)))) + 1))) 0 (10 + 14 * k + 7) (((S 0 (10 + 14 * k + 7)) + (skipsG (S 0) k river a sp)))) 0 5 ((S 0 5) + 1)) 0 7 ((S 0 7) + (skipsG (S 0) k river a sp))) 0 ((150 + (6 * river)) + 2) (skipsG (S 0) k river a sp)) 0 ((150 + (6 * river)) + 3) k) 0 (10 + 14 * k + 5) river)) H := hP
                  replace hD : va_D A (mW E Ad (put (put (put (put (put (put (put (mKeeps (put S 7 7 0) 0) 0 (10 + 14 * k + 6) ((((S 0 ((10 + 14 * k + 6)))) + 1))) 0 (10 + 14 * k + 7) (((S 0 (10 + 14 * k + 7)) + (skipsG (S 0) k river a sp)))) 0 5 ((S 0 5) + 1)) 0 7 ((S 0 7) + (skipsG (S 0) k river a sp))) 0 ((150 + (6 * river)) + 2) (skipsG (S 0) k river a sp)) 0 ((150 + (6 * river)) + 3) k) 0 (10 + 14 * k + 5) river)) := hD
                  show W p l e _ s m args below meth c H locs _ _ Q (F0 m 254 ls [.int (zI (((put (put (put (put (put (put (put (mKeeps (put S 7 7 0) 0) 0 (10 + 14 * k + 6) ((((S 0 ((10 + 14 * k + 6)))) + 1))) 0 (10 + 14 * k + 7) (((S 0 (10 + 14 * k + 7)) + (skipsG (S 0) k river a sp)))) 0 5 ((S 0 5) + 1)) 0 7 ((S 0 7) + (skipsG (S 0) k river a sp))) 0 ((150 + (6 * river)) + 2) (skipsG (S 0) k river a sp)) 0 ((150 + (6 * river)) + 3) k) 0 (10 + 14 * k + 5) river) 0 ((10 + 14 * k + 2))))), .int (zI (2)), .int (zI (k)), .ref (Ad 0)])
                  have q56 : (put (put (put (put (put (put (put (mKeeps (put S 7 7 0) 0) 0 (10 + 14 * k + 6) ((((S 0 ((10 + 14 * k + 6)))) + 1))) 0 (10 + 14 * k + 7) (((S 0 (10 + 14 * k + 7)) + (skipsG (S 0) k river a sp)))) 0 5 ((S 0 5) + 1)) 0 7 ((S 0 7) + (skipsG (S 0) k river a sp))) 0 ((150 + (6 * river)) + 2) (skipsG (S 0) k river a sp)) 0 ((150 + (6 * river)) + 3) k) 0 (10 + 14 * k + 5) river) 0 (10 + 14 * k + 2) = S 0 (10 + 14 * k + 2) := by
                    show uz ((put (put (put (put (put (put (mKeeps (put S 7 7 0) 0) 0 (10 + 14 * k + 6) ((((S 0 ((10 + 14 * k + 6)))) + 1))) 0 (10 + 14 * k + 7) (((S 0 (10 + 14 * k + 7)) + (skipsG (S 0) k river a sp)))) 0 5 ((S 0 5) + 1)) 0 7 ((S 0 7) + (skipsG (S 0) k river a sp))) 0 ((150 + (6 * river)) + 2) (skipsG (S 0) k river a sp)) 0 ((150 + (6 * river)) + 3) k) 0) (10 + 14 * k + 5) river (10 + 14 * k + 2) = _
                    rw [uz_n (by omega)]
                    show uz ((put (put (put (put (put (mKeeps (put S 7 7 0) 0) 0 (10 + 14 * k + 6) ((((S 0 ((10 + 14 * k + 6)))) + 1))) 0 (10 + 14 * k + 7) (((S 0 (10 + 14 * k + 7)) + (skipsG (S 0) k river a sp)))) 0 5 ((S 0 5) + 1)) 0 7 ((S 0 7) + (skipsG (S 0) k river a sp))) 0 ((150 + (6 * river)) + 2) (skipsG (S 0) k river a sp)) 0) ((150 + (6 * river)) + 3) k (10 + 14 * k + 2) = _
                    rw [uz_n (by omega)]
                    show uz ((put (put (put (put (mKeeps (put S 7 7 0) 0) 0 (10 + 14 * k + 6) ((((S 0 ((10 + 14 * k + 6)))) + 1))) 0 (10 + 14 * k + 7) (((S 0 (10 + 14 * k + 7)) + (skipsG (S 0) k river a sp)))) 0 5 ((S 0 5) + 1)) 0 7 ((S 0 7) + (skipsG (S 0) k river a sp))) 0) ((150 + (6 * river)) + 2) (skipsG (S 0) k river a sp) (10 + 14 * k + 2) = _
                    rw [uz_n (by omega)]
                    show uz ((put (put (put (mKeeps (put S 7 7 0) 0) 0 (10 + 14 * k + 6) ((((S 0 ((10 + 14 * k + 6)))) + 1))) 0 (10 + 14 * k + 7) (((S 0 (10 + 14 * k + 7)) + (skipsG (S 0) k river a sp)))) 0 5 ((S 0 5) + 1)) 0) 7 ((S 0 7) + (skipsG (S 0) k river a sp)) (10 + 14 * k + 2) = _
                    rw [uz_n (by omega)]
                    show uz ((put (put (mKeeps (put S 7 7 0) 0) 0 (10 + 14 * k + 6) ((((S 0 ((10 + 14 * k + 6)))) + 1))) 0 (10 + 14 * k + 7) (((S 0 (10 + 14 * k + 7)) + (skipsG (S 0) k river a sp)))) 0) 5 ((S 0 5) + 1) (10 + 14 * k + 2) = _
                    rw [uz_n (by omega)]
                    show uz ((put (mKeeps (put S 7 7 0) 0) 0 (10 + 14 * k + 6) ((((S 0 ((10 + 14 * k + 6)))) + 1))) 0) (10 + 14 * k + 7) (((S 0 (10 + 14 * k + 7)) + (skipsG (S 0) k river a sp))) (10 + 14 * k + 2) = _
                    rw [uz_n (by omega)]
                    show uz ((mKeeps (put S 7 7 0) 0) 0) (10 + 14 * k + 6) ((((S 0 ((10 + 14 * k + 6)))) + 1)) (10 + 14 * k + 2) = _
                    rw [uz_n (by omega)]
                    all_goals rfl
                  rw [q56]
                  refine lv_iload hx hb dX3_skim_254 (lv_at hl 6 rfl) ?_
                  refine kz_iadd hx hb dX3_skim_256 ?_
                  refine kz_bipush hx hb dX3_skim_257 (by decide) ?_
                  refine kz_back (wc := []) (wx := (mW E Ad (put (put (put (put (put (put (put (mKeeps (put S 7 7 0) 0) 0 (10 + 14 * k + 6) ((((S 0 ((10 + 14 * k + 6)))) + 1))) 0 (10 + 14 * k + 7) (((S 0 (10 + 14 * k + 7)) + (skipsG (S 0) k river a sp)))) 0 5 ((S 0 5) + 1)) 0 7 ((S 0 7) + (skipsG (S 0) k river a sp))) 0 ((150 + (6 * river)) + 2) (skipsG (S 0) k river a sp)) 0 ((150 + (6 * river)) + 3) k) 0 (10 + 14 * k + 5) river))) (va_runS (As := [.int (zI ((S 0 (10 + 14 * k + 2)) + (skipsG (S 0) k river a sp))), .int (zI (99))]) (rest := [.int (zI (2)), .int (zI (k)), .ref (Ad 0)]) ⟨hx, hb, hml, hown, hts⟩ (mX3_atMost l E H.size ((S 0 (10 + 14 * k + 2)) + (skipsG (S 0) k river a sp)) (by omega) 99 (by omega)) (va_cwS 2 hts (lw_S q2500 q2501 q83 q2502) rfl rfl rfl (by decide +kernel) ⟨(Nat.le_of_ble_eq_true rfl), (Nat.le_of_ble_eq_true rfl)⟩) (kz_pre (wc := []) (wx := (mW E Ad (put (put (put (put (put (put (put (mKeeps (put S 7 7 0) 0) 0 (10 + 14 * k + 6) ((((S 0 ((10 + 14 * k + 6)))) + 1))) 0 (10 + 14 * k + 7) (((S 0 (10 + 14 * k + 7)) + (skipsG (S 0) k river a sp)))) 0 5 ((S 0 5) + 1)) 0 7 ((S 0 7) + (skipsG (S 0) k river a sp))) 0 ((150 + (6 * river)) + 2) (skipsG (S 0) k river a sp)) 0 ((150 + (6 * river)) + 3) k) 0 (10 + 14 * k + 5) river))) hG hS hAN hP hD kz_nilP kz_nilA) rfl rfl hl.1 rfl (lv_room (Nat.le_of_ble_eq_true rfl)) dX3_skim_259 ⟨(Nat.le_of_ble_eq_true rfl), (Nat.le_of_ble_eq_true rfl)⟩) hP hD hS hA (fun u H9 locs9 hu hP9 hD9 hS9 hzz hkk => ?_)
                  clear hzz hkk hP hD hS H locs u
                  revert hS9 hD9 hP9 locs9 H9
                  intro H locs hP hD hS
                  have r57 : rI (min ((S 0 (10 + 14 * k + 2)) + (skipsG (S 0) k river a sp)) 99) := hu
                  clear hu
                  replace hP : va_P (kD E) kcl (mW E Ad (put (put (put (put (put (put (put (mKeeps (put S 7 7 0) 0) 0 (10 + 14 * k + 6) ((((S 0 ((10 + 14 * k + 6)))) + 1))) 0 (10 + 14 * k + 7) (((S 0 (10 + 14 * k + 7)) + (skipsG (S 0) k river a sp)))) 0 5 ((S 0 5) + 1)) 0 7 ((S 0 7) + (skipsG (S 0) k river a sp))) 0 ((150 + (6 * river)) + 2) (skipsG (S 0) k river a sp)) 0 ((150 + (6 * river)) + 3) k) 0 (10 + 14 * k + 5) river)) H := hP
                  replace hD : va_D A (mW E Ad (put (put (put (put (put (put (put (mKeeps (put S 7 7 0) 0) 0 (10 + 14 * k + 6) ((((S 0 ((10 + 14 * k + 6)))) + 1))) 0 (10 + 14 * k + 7) (((S 0 (10 + 14 * k + 7)) + (skipsG (S 0) k river a sp)))) 0 5 ((S 0 5) + 1)) 0 7 ((S 0 7) + (skipsG (S 0) k river a sp))) 0 ((150 + (6 * river)) + 2) (skipsG (S 0) k river a sp)) 0 ((150 + (6 * river)) + 3) k) 0 (10 + 14 * k + 5) river)) := hD
                  show W p l e _ s m args below meth c H locs _ _ Q (F0 m 262 ls [.int (zI (min ((S 0 (10 + 14 * k + 2)) + (skipsG (S 0) k river a sp)) 99)), .int (zI (2)), .int (zI (k)), .ref (Ad 0)])
                  refine kz_backM (va_runV (As := [.int (zI (k)), .int (zI (2)), .int (zI (min ((S 0 (10 + 14 * k + 2)) + (skipsG (S 0) k river a sp)) 99))]) (rest := []) ⟨hx, hb, hml, hown, hts⟩ (mX3_lays l E H.size Ad (put (put (put (put (put (put (put (mKeeps (put S 7 7 0) 0) 0 (10 + 14 * k + 6) ((((S 0 ((10 + 14 * k + 6)))) + 1))) 0 (10 + 14 * k + 7) (((S 0 (10 + 14 * k + 7)) + (skipsG (S 0) k river a sp)))) 0 5 ((S 0 5) + 1)) 0 7 ((S 0 7) + (skipsG (S 0) k river a sp))) 0 ((150 + (6 * river)) + 2) (skipsG (S 0) k river a sp)) 0 ((150 + (6 * river)) + 3) k) 0 (10 + 14 * k + 5) river) hM k (by omega) 2 (by omega) (min ((S 0 (10 + 14 * k + 2)) + (skipsG (S 0) k river a sp)) 99) (by omega) (show 0 ≤ k ∧ k < 10 by first | omega | exact hI.st _ (by omega) (by omega) | exact hI.rv _ (by omega) (by omega) | exact hI) (show 0 ≤ 2 ∧ 2 < 14 by first | omega | exact hI.st _ (by omega) (by omega) | exact hI.rv _ (by omega) (by omega) | exact hI)) (cwV 3 hts (lw_V q2409 q2411 qs39 q83 q2412) rfl rfl rfl (by decide +kernel) ⟨(Nat.le_of_ble_eq_true rfl), (Nat.le_of_ble_eq_true rfl)⟩) (kz_preVM (wc := mW E Ad (put (put (put (put (put (put (put (mKeeps (put S 7 7 0) 0) 0 (10 + 14 * k + 6) ((((S 0 ((10 + 14 * k + 6)))) + 1))) 0 (10 + 14 * k + 7) (((S 0 (10 + 14 * k + 7)) + (skipsG (S 0) k river a sp)))) 0 5 ((S 0 5) + 1)) 0 7 ((S 0 7) + (skipsG (S 0) k river a sp))) 0 ((150 + (6 * river)) + 2) (skipsG (S 0) k river a sp)) 0 ((150 + (6 * river)) + 3) k) 0 (10 + 14 * k + 5) river)) (va_recv hK hP (ci := 2) (q0 := 0) rfl rfl) hG hS hAN hP hD kz_nilP kz_nilA) rfl rfl hl.1 rfl (lv_room (Nat.le_of_ble_eq_true rfl)) dX3_skim_262 ⟨(Nat.le_of_ble_eq_true rfl), (Nat.le_of_ble_eq_true rfl)⟩) hP hD hS hA (fun u H9 locs9 hu hP9 hD9 hS9 hzz hkk => ?_)
                  clear hzz hkk hP hD hS H locs u
                  revert hS9 hD9 hP9 locs9 H9
                  intro H locs hP hD hS
                  replace hM : MOk (put (put (put (put (put (put (put (put (mKeeps (put S 7 7 0) 0) 0 (10 + 14 * k + 6) ((((S 0 ((10 + 14 * k + 6)))) + 1))) 0 (10 + 14 * k + 7) (((S 0 (10 + 14 * k + 7)) + (skipsG (S 0) k river a sp)))) 0 5 ((S 0 5) + 1)) 0 7 ((S 0 7) + (skipsG (S 0) k river a sp))) 0 ((150 + (6 * river)) + 2) (skipsG (S 0) k river a sp)) 0 ((150 + (6 * river)) + 3) k) 0 (10 + 14 * k + 5) river) 0 (10 + 14 * k + 2) ((min ((S 0 (10 + 14 * k + 2)) + (skipsG (S 0) k river a sp)) 99))) := hu
                  clear hu
                  replace hP : va_P (kD E) kcl (mW E Ad (put (put (put (put (put (put (put (put (mKeeps (put S 7 7 0) 0) 0 (10 + 14 * k + 6) ((((S 0 ((10 + 14 * k + 6)))) + 1))) 0 (10 + 14 * k + 7) (((S 0 (10 + 14 * k + 7)) + (skipsG (S 0) k river a sp)))) 0 5 ((S 0 5) + 1)) 0 7 ((S 0 7) + (skipsG (S 0) k river a sp))) 0 ((150 + (6 * river)) + 2) (skipsG (S 0) k river a sp)) 0 ((150 + (6 * river)) + 3) k) 0 (10 + 14 * k + 5) river) 0 (10 + 14 * k + 2) ((min ((S 0 (10 + 14 * k + 2)) + (skipsG (S 0) k river a sp)) 99)))) H := hP
                  replace hD : va_D A (mW E Ad (put (put (put (put (put (put (put (put (mKeeps (put S 7 7 0) 0) 0 (10 + 14 * k + 6) ((((S 0 ((10 + 14 * k + 6)))) + 1))) 0 (10 + 14 * k + 7) (((S 0 (10 + 14 * k + 7)) + (skipsG (S 0) k river a sp)))) 0 5 ((S 0 5) + 1)) 0 7 ((S 0 7) + (skipsG (S 0) k river a sp))) 0 ((150 + (6 * river)) + 2) (skipsG (S 0) k river a sp)) 0 ((150 + (6 * river)) + 3) k) 0 (10 + 14 * k + 5) river) 0 (10 + 14 * k + 2) ((min ((S 0 (10 + 14 * k + 2)) + (skipsG (S 0) k river a sp)) 99)))) := hD
                  show W p l e _ s m args below meth c H locs _ _ Q (F0 m 265 ls [])
                  refine lv_aload_n hx hb dX3_skim_265 rfl (lv_at hl 1 rfl) ?_
                  refine va_get (D := kD E) (ci := 2) (fs := mO Ad (put (put (put (put (put (put (put (put (mKeeps (put S 7 7 0) 0) 0 (10 + 14 * k + 6) ((((S 0 ((10 + 14 * k + 6)))) + 1))) 0 (10 + 14 * k + 7) (((S 0 (10 + 14 * k + 7)) + (skipsG (S 0) k river a sp)))) 0 5 ((S 0 5) + 1)) 0 7 ((S 0 7) + (skipsG (S 0) k river a sp))) 0 ((150 + (6 * river)) + 2) (skipsG (S 0) k river a sp)) 0 ((150 + (6 * river)) + 3) k) 0 (10 + 14 * k + 5) river) 0 (10 + 14 * k + 2) ((min ((S 0 (10 + 14 * k + 2)) + (skipsG (S 0) k river a sp)) 99)))) (v := .ref (Ad 1)) (C := RX3) (T := TX3) (N := 19) hx hb hts in_X3 hown hK hP 0 rfl rfl 0 (by decide) (hts _ q2320) (fun _ h9 => h9) rfl dX3_skim_266 ?_
                  refine kz_bipush hx hb dX3_skim_269 (by decide) ?_
                  refine lv_dup2_11 hx hb dX3_skim_271 rfl rfl ?_
                  refine kz_iald (cA := kA E 0) (n := 304) (g := (put (put (put (put (put (put (put (put (mKeeps (put S 7 7 0) 0) 0 (10 + 14 * k + 6) ((((S 0 ((10 + 14 * k + 6)))) + 1))) 0 (10 + 14 * k + 7) (((S 0 (10 + 14 * k + 7)) + (skipsG (S 0) k river a sp)))) 0 5 ((S 0 5) + 1)) 0 7 ((S 0 7) + (skipsG (S 0) k river a sp))) 0 ((150 + (6 * river)) + 2) (skipsG (S 0) k river a sp)) 0 ((150 + (6 * river)) + 3) k) 0 (10 + 14 * k + 5) river) 0 (10 + 14 * k + 2) ((min ((S 0 (10 + 14 * k + 2)) + (skipsG (S 0) k river a sp)) 99))) 0) hx hb hK hP 1 0 rfl rfl (by omega) dX3_skim_272 ?_
                  have r58 : rI ((put (put (put (put (put (put (put (put (mKeeps (put S 7 7 0) 0) 0 (10 + 14 * k + 6) ((((S 0 ((10 + 14 * k + 6)))) + 1))) 0 (10 + 14 * k + 7) (((S 0 (10 + 14 * k + 7)) + (skipsG (S 0) k river a sp)))) 0 5 ((S 0 5) + 1)) 0 7 ((S 0 7) + (skipsG (S 0) k river a sp))) 0 ((150 + (6 * river)) + 2) (skipsG (S 0) k river a sp)) 0 ((150 + (6 * river)) + 3) k) 0 (10 + 14 * k + 5) river) 0 (10 + 14 * k + 2) ((min ((S 0 (10 + 14 * k + 2)) + (skipsG (S 0) k river a sp)) 99))) 0 6) := hM 0 6
                  have q59 : (put (put (put (put (put (put (put (put (mKeeps (put S 7 7 0) 0) 0 (10 + 14 * k + 6) ((((S 0 ((10 + 14 * k + 6)))) + 1))) 0 (10 + 14 * k + 7) (((S 0 (10 + 14 * k + 7)) + (skipsG (S 0) k river a sp)))) 0 5 ((S 0 5) + 1)) 0 7 ((S 0 7) + (skipsG (S 0) k river a sp))) 0 ((150 + (6 * river)) + 2) (skipsG (S 0) k river a sp)) 0 ((150 + (6 * river)) + 3) k) 0 (10 + 14 * k + 5) river) 0 (10 + 14 * k + 2) ((min ((S 0 (10 + 14 * k + 2)) + (skipsG (S 0) k river a sp)) 99))) 0 6 = S 0 6 := by
                    show uz ((put (put (put (put (put (put (put (mKeeps (put S 7 7 0) 0) 0 (10 + 14 * k + 6) ((((S 0 ((10 + 14 * k + 6)))) + 1))) 0 (10 + 14 * k + 7) (((S 0 (10 + 14 * k + 7)) + (skipsG (S 0) k river a sp)))) 0 5 ((S 0 5) + 1)) 0 7 ((S 0 7) + (skipsG (S 0) k river a sp))) 0 ((150 + (6 * river)) + 2) (skipsG (S 0) k river a sp)) 0 ((150 + (6 * river)) + 3) k) 0 (10 + 14 * k + 5) river) 0) (10 + 14 * k + 2) ((min ((S 0 (10 + 14 * k + 2)) + (skipsG (S 0) k river a sp)) 99)) 6 = _
                    rw [uz_n (by omega)]
                    show uz ((put (put (put (put (put (put (mKeeps (put S 7 7 0) 0) 0 (10 + 14 * k + 6) ((((S 0 ((10 + 14 * k + 6)))) + 1))) 0 (10 + 14 * k + 7) (((S 0 (10 + 14 * k + 7)) + (skipsG (S 0) k river a sp)))) 0 5 ((S 0 5) + 1)) 0 7 ((S 0 7) + (skipsG (S 0) k river a sp))) 0 ((150 + (6 * river)) + 2) (skipsG (S 0) k river a sp)) 0 ((150 + (6 * river)) + 3) k) 0) (10 + 14 * k + 5) river 6 = _
                    rw [uz_n (by omega)]
                    show uz ((put (put (put (put (put (mKeeps (put S 7 7 0) 0) 0 (10 + 14 * k + 6) ((((S 0 ((10 + 14 * k + 6)))) + 1))) 0 (10 + 14 * k + 7) (((S 0 (10 + 14 * k + 7)) + (skipsG (S 0) k river a sp)))) 0 5 ((S 0 5) + 1)) 0 7 ((S 0 7) + (skipsG (S 0) k river a sp))) 0 ((150 + (6 * river)) + 2) (skipsG (S 0) k river a sp)) 0) ((150 + (6 * river)) + 3) k 6 = _
                    rw [uz_n (by omega)]
                    show uz ((put (put (put (put (mKeeps (put S 7 7 0) 0) 0 (10 + 14 * k + 6) ((((S 0 ((10 + 14 * k + 6)))) + 1))) 0 (10 + 14 * k + 7) (((S 0 (10 + 14 * k + 7)) + (skipsG (S 0) k river a sp)))) 0 5 ((S 0 5) + 1)) 0 7 ((S 0 7) + (skipsG (S 0) k river a sp))) 0) ((150 + (6 * river)) + 2) (skipsG (S 0) k river a sp) 6 = _
                    rw [uz_n (by omega)]
                    show uz ((put (mKeeps (put S 7 7 0) 0) 0 (10 + 14 * k + 6) ((((S 0 ((10 + 14 * k + 6)))) + 1))) 0) (10 + 14 * k + 7) (((S 0 (10 + 14 * k + 7)) + (skipsG (S 0) k river a sp))) 6 = _
                    rw [uz_n (by omega)]
                    show uz ((mKeeps (put S 7 7 0) 0) 0) (10 + 14 * k + 6) ((((S 0 ((10 + 14 * k + 6)))) + 1)) 6 = _
                    rw [uz_n (by omega)]
                    all_goals rfl
                  rw [q59]
                  refine kz_iconst hx hb dX3_skim_273 ?_
                  refine kz_iadd hx hb dX3_skim_274 ?_
                  refine kz_iast (cA := kA E 0) (n := 304) (g := (put (put (put (put (put (put (put (put (mKeeps (put S 7 7 0) 0) 0 (10 + 14 * k + 6) ((((S 0 ((10 + 14 * k + 6)))) + 1))) 0 (10 + 14 * k + 7) (((S 0 (10 + 14 * k + 7)) + (skipsG (S 0) k river a sp)))) 0 5 ((S 0 5) + 1)) 0 7 ((S 0 7) + (skipsG (S 0) k river a sp))) 0 ((150 + (6 * river)) + 2) (skipsG (S 0) k river a sp)) 0 ((150 + (6 * river)) + 3) k) 0 (10 + 14 * k + 5) river) 0 (10 + 14 * k + 2) ((min ((S 0 (10 + 14 * k + 2)) + (skipsG (S 0) k river a sp)) 99))) 0) hx hb hK hP hD hS 1 0 rfl rfl (by omega) dX3_skim_275 (fun H9 locs9 hP9 hD9 hS9 => ?_)
                  rw [mW_a0] at hP9 hD9
                  clear hP hD hS H locs
                  revert hS9 hD9 hP9 locs9 H9
                  intro H locs hP hD hS
                  replace hP : va_P (kD E) kcl (mW E Ad (put (put (put (put (put (put (put (put (put (mKeeps (put S 7 7 0) 0) 0 (10 + 14 * k + 6) ((((S 0 ((10 + 14 * k + 6)))) + 1))) 0 (10 + 14 * k + 7) (((S 0 (10 + 14 * k + 7)) + (skipsG (S 0) k river a sp)))) 0 5 ((S 0 5) + 1)) 0 7 ((S 0 7) + (skipsG (S 0) k river a sp))) 0 ((150 + (6 * river)) + 2) (skipsG (S 0) k river a sp)) 0 ((150 + (6 * river)) + 3) k) 0 (10 + 14 * k + 5) river) 0 (10 + 14 * k + 2) ((min ((S 0 (10 + 14 * k + 2)) + (skipsG (S 0) k river a sp)) 99))) 0 6 ((S 0 6) + 1))) H := hP
                  replace hD : va_D A (mW E Ad (put (put (put (put (put (put (put (put (put (mKeeps (put S 7 7 0) 0) 0 (10 + 14 * k + 6) ((((S 0 ((10 + 14 * k + 6)))) + 1))) 0 (10 + 14 * k + 7) (((S 0 (10 + 14 * k + 7)) + (skipsG (S 0) k river a sp)))) 0 5 ((S 0 5) + 1)) 0 7 ((S 0 7) + (skipsG (S 0) k river a sp))) 0 ((150 + (6 * river)) + 2) (skipsG (S 0) k river a sp)) 0 ((150 + (6 * river)) + 3) k) 0 (10 + 14 * k + 5) river) 0 (10 + 14 * k + 2) ((min ((S 0 (10 + 14 * k + 2)) + (skipsG (S 0) k river a sp)) 99))) 0 6 ((S 0 6) + 1))) := hD
                  replace hM : MOk (put (put (put (put (put (put (put (put (put (mKeeps (put S 7 7 0) 0) 0 (10 + 14 * k + 6) ((((S 0 ((10 + 14 * k + 6)))) + 1))) 0 (10 + 14 * k + 7) (((S 0 (10 + 14 * k + 7)) + (skipsG (S 0) k river a sp)))) 0 5 ((S 0 5) + 1)) 0 7 ((S 0 7) + (skipsG (S 0) k river a sp))) 0 ((150 + (6 * river)) + 2) (skipsG (S 0) k river a sp)) 0 ((150 + (6 * river)) + 3) k) 0 (10 + 14 * k + 5) river) 0 (10 + 14 * k + 2) ((min ((S 0 (10 + 14 * k + 2)) + (skipsG (S 0) k river a sp)) 99))) 0 6 ((S 0 6) + 1)) := hM.put 0 _ (by omega)
                  refine lv_iload hx hb dX3_skim_276 (lv_at hl 6 rfl) ?_
                  have e0 : xSkim S k river a sp = (put (put (put (put (put (put (put (put (put (mKeeps (put S 7 7 0) 0) 0 (10 + 14 * k + 6) ((((S 0 ((10 + 14 * k + 6)))) + 1))) 0 (10 + 14 * k + 7) (((S 0 (10 + 14 * k + 7)) + (skipsG (S 0) k river a sp)))) 0 5 ((S 0 5) + 1)) 0 7 ((S 0 7) + (skipsG (S 0) k river a sp))) 0 ((150 + (6 * river)) + 2) (skipsG (S 0) k river a sp)) 0 ((150 + (6 * river)) + 3) k) 0 (10 + 14 * k + 5) river) 0 (10 + 14 * k + 2) ((min ((S 0 (10 + 14 * k + 2)) + (skipsG (S 0) k river a sp)) 99))) 0 6 ((S 0 6) + 1), skipsG (S 0) k river a sp) := by unfold xSkim gSkim; (repeat (first | refine Eq.trans (if_pos (by omega)) ?_ | refine Eq.trans (if_neg (by omega)) ?_)); first | rfl | ((first | rw [gSaw0_t (by omega) (by omega) (by omega)] | rw [gSaw0_f (by omega) (by omega) (by omega)]); simp (disch := omega) only [if_pos, if_neg, gOver, gSink, gSkim0, uz_n, uz_s, putR_put _ 0, putR_putR, putR_at]; all_goals rfl)
                  have e1 : (xSkim S k river a sp).2 = skipsG (S 0) k river a sp := by rw [e0]
                  have e3 : (xSkim S k river a sp).1 = put (put (put (put (put (put (put (put (put (mKeeps (put S 7 7 0) 0) 0 (10 + 14 * k + 6) ((((S 0 ((10 + 14 * k + 6)))) + 1))) 0 (10 + 14 * k + 7) (((S 0 (10 + 14 * k + 7)) + (skipsG (S 0) k river a sp)))) 0 5 ((S 0 5) + 1)) 0 7 ((S 0 7) + (skipsG (S 0) k river a sp))) 0 ((150 + (6 * river)) + 2) (skipsG (S 0) k river a sp)) 0 ((150 + (6 * river)) + 3) k) 0 (10 + 14 * k + 5) river) 0 (10 + 14 * k + 2) ((min ((S 0 (10 + 14 * k + 2)) + (skipsG (S 0) k river a sp)) 99))) 0 6 ((S 0 6) + 1) := by rw [e0]
                  exact kz_iret () hx hb hr hlk hP hD hS dX3_skim_278 (congrArg (fun z : Int => some (Value.int (zI z))) e1) ⟨(kz_r e1 (by omega)), (kz_M e3 hM)⟩ (congrArg (mW E Ad) e3) hQ (Nat.le_of_ble_eq_true rfl) (Nat.le_of_ble_eq_true rfl)
          refine kz_icmp_lt (tgt := 122) hx hb dX3_skim_115 (by decide) (by omega) (by omega) (fun c115 => ?_) (fun c115 => ?_)
          · skip
            refine kz_iconst hx hb dX3_skim_122 ?_
            exact J8 0 _ _ _ (b2_f (by first | omega | simp only [c115, if_true, if_false, and_true, true_and, and_false, false_and, or_true, true_or, or_false, false_or, not_true_eq_false, not_false_eq_true])).symm hP hD hS (lv_sub hl [1, 2, 3, 4, 5, 0] rfl)
          · skip
            refine kz_iconst hx hb dX3_skim_118 ?_
            refine lv_goto (tgt := 123) hx hb dX3_skim_119 (by decide) ?_
            exact J8 1 _ _ _ (b2_t (by first | omega | simp only [c115, if_true, if_false, and_true, true_and, and_false, false_and, or_true, true_or, or_false, false_or, not_true_eq_false, not_false_eq_true])).symm hP hD hS (lv_sub hl [1, 2, 3, 4, 5, 0] rfl)
        · skip
          refine lv_aload_n hx hb dX3_skim_68 rfl (lv_at hl 0 rfl) ?_
          refine kz_iconst hx hb dX3_skim_69 ?_
          refine kz_iconst hx hb dX3_skim_70 ?_
          refine lv_aload_n hx hb dX3_skim_71 rfl (lv_at hl 0 rfl) ?_
          refine lv_iload_n hx hb dX3_skim_72 rfl (lv_at hl 2 rfl) ?_
          refine kz_iconst hx hb dX3_skim_73 ?_
          refine kz_backM (va_runV (As := [.int (zI (river)), .int (zI (0))]) (rest := [.int (zI (3)), .int (zI (3)), .ref (Ad 0)]) ⟨hx, hb, hml, hown, hts⟩ (mX3_bookedFor l E H.size Ad (put S 7 7 0) hM river (by omega) 0 (by omega) (show 0 ≤ river ∧ river < 4 by first | omega | exact hI.st _ (by omega) (by omega) | exact hI.rv _ (by omega) (by omega) | exact hI) (show 0 ≤ 0 ∧ 0 < 30 by first | omega | exact hI.st _ (by omega) (by omega) | exact hI.rv _ (by omega) (by omega) | exact hI)) (cwV 2 hts (lw_V q2465 q2467 qs48 q83 q2468) rfl rfl rfl (by decide +kernel) ⟨(Nat.le_of_ble_eq_true rfl), (Nat.le_of_ble_eq_true rfl)⟩) (kz_preVM (wc := mW E Ad (put S 7 7 0)) (va_recv hK hP (ci := 2) (q0 := 0) rfl rfl) hG hS hAN hP hD kz_nilP kz_nilA) rfl rfl hl.1 rfl (lv_room (Nat.le_of_ble_eq_true rfl)) dX3_skim_74 ⟨(Nat.le_of_ble_eq_true rfl), (Nat.le_of_ble_eq_true rfl)⟩) hP hD hS hA (fun u H9 locs9 hu hP9 hD9 hS9 hzz hkk => ?_)
          clear hzz hkk hP hD hS H locs u
          revert hS9 hD9 hP9 locs9 H9
          intro H locs hP hD hS
          have r60 : rI ((S 0 ((174 + 30 * river + 0)))) := hu
          clear hu
          replace hP : va_P (kD E) kcl (mW E Ad (put S 7 7 0)) H := hP
          replace hD : va_D A (mW E Ad (put S 7 7 0)) := hD
          show W p l e _ s m args below meth c H locs _ _ Q (F0 m 77 ls [.int (zI ((S 0 ((174 + 30 * river + 0))))), .int (zI (3)), .int (zI (3)), .ref (Ad 0)])
          refine kz_backM (va_runV (As := [.int (zI (3)), .int (zI (3)), .int (zI ((S 0 ((174 + 30 * river + 0)))))]) (rest := []) ⟨hx, hb, hml, hown, hts⟩ (mX3_refuses l E H.size Ad (put S 7 7 0) hM 3 (by omega) 3 (by omega) ((S 0 ((174 + 30 * river + 0)))) (by omega)) (cwV 3 hts (lw_V q2398 q2400 qs37 q83 q2401) rfl rfl rfl (by decide +kernel) ⟨(Nat.le_of_ble_eq_true rfl), (Nat.le_of_ble_eq_true rfl)⟩) (kz_preVM (wc := mW E Ad (put S 7 7 0)) (va_recv hK hP (ci := 2) (q0 := 0) rfl rfl) hG hS hAN hP hD kz_nilP kz_nilA) rfl rfl hl.1 rfl (lv_room (Nat.le_of_ble_eq_true rfl)) dX3_skim_77 ⟨(Nat.le_of_ble_eq_true rfl), (Nat.le_of_ble_eq_true rfl)⟩) hP hD hS hA (fun u H9 locs9 hu hP9 hD9 hS9 hzz hkk => ?_)
          clear hzz hkk hP hD hS H locs u
          revert hS9 hD9 hP9 locs9 H9
          intro H locs hP hD hS
          clear hM
          obtain ⟨r61, hM⟩ := hu
          replace r61 : rI (0) := r61
          replace hM : MOk (put (put (put (put S 7 7 0) 7 7 3) 7 8 3) 7 9 (((S 0 ((174 + 30 * river + 0)))))) := hM
          replace hP : va_P (kD E) kcl (mW E Ad (put (put (put (put S 7 7 0) 7 7 3) 7 8 3) 7 9 (((S 0 ((174 + 30 * river + 0))))))) H := hP
          replace hD : va_D A (mW E Ad (put (put (put (put S 7 7 0) 7 7 3) 7 8 3) 7 9 (((S 0 ((174 + 30 * river + 0))))))) := hD
          show W p l e _ s m args below meth c H locs _ _ Q (F0 m 80 ls [.int (zI (0))])
          have e0 : xSkim S k river a sp = (put (put (put (put S 7 7 0) 7 7 3) 7 8 3) 7 9 (((S 0 ((174 + 30 * river + 0))))), 0) := by unfold xSkim gSkim; (repeat (first | refine Eq.trans (if_pos (by omega)) ?_ | refine Eq.trans (if_neg (by omega)) ?_)); first | rfl | ((first | rw [gSaw0_t (by omega) (by omega) (by omega)] | rw [gSaw0_f (by omega) (by omega) (by omega)]); simp (disch := omega) only [if_pos, if_neg, gOver, gSink, gSkim0, uz_n, uz_s, putR_put _ 0, putR_putR, putR_at]; all_goals rfl)
          have e1 : (xSkim S k river a sp).2 = 0 := by rw [e0]
          have e3 : (xSkim S k river a sp).1 = put (put (put (put S 7 7 0) 7 7 3) 7 8 3) 7 9 (((S 0 ((174 + 30 * river + 0))))) := by rw [e0]
          exact kz_iret () hx hb hr hlk hP hD hS dX3_skim_80 (congrArg (fun z : Int => some (Value.int (zI z))) e1) ⟨(kz_r e1 (by omega)), (kz_M e3 hM)⟩ (congrArg (mW E Ad) e3) hQ (Nat.le_of_ble_eq_true rfl) (Nat.le_of_ble_eq_true rfl)
      · skip
        refine lv_aload_n hx hb dX3_skim_45 rfl (lv_at hl 0 rfl) ?_
        refine kz_iconst hx hb dX3_skim_46 ?_
        refine kz_iconst hx hb dX3_skim_47 ?_
        refine lv_aload_n hx hb dX3_skim_48 rfl (lv_at hl 0 rfl) ?_
        refine lv_iload_n hx hb dX3_skim_49 rfl (lv_at hl 1 rfl) ?_
        refine kz_iconst hx hb dX3_skim_50 ?_
        refine kz_backM (va_runV (As := [.int (zI (k)), .int (zI (5))]) (rest := [.int (zI (5)), .int (zI (3)), .ref (Ad 0)]) ⟨hx, hb, hml, hown, hts⟩ (mX3_of l E H.size Ad (put S 7 7 0) hM k (by omega) 5 (by omega) (show 0 ≤ k ∧ k < 10 by first | omega | exact hI.st _ (by omega) (by omega) | exact hI.rv _ (by omega) (by omega) | exact hI) (show 0 ≤ 5 ∧ 5 < 14 by first | omega | exact hI.st _ (by omega) (by omega) | exact hI.rv _ (by omega) (by omega) | exact hI)) (cwV 2 hts (lw_V q2441 q2443 qs44 q83 q2444) rfl rfl rfl (by decide +kernel) ⟨(Nat.le_of_ble_eq_true rfl), (Nat.le_of_ble_eq_true rfl)⟩) (kz_preVM (wc := mW E Ad (put S 7 7 0)) (va_recv hK hP (ci := 2) (q0 := 0) rfl rfl) hG hS hAN hP hD kz_nilP kz_nilA) rfl rfl hl.1 rfl (lv_room (Nat.le_of_ble_eq_true rfl)) dX3_skim_51 ⟨(Nat.le_of_ble_eq_true rfl), (Nat.le_of_ble_eq_true rfl)⟩) hP hD hS hA (fun u H9 locs9 hu hP9 hD9 hS9 hzz hkk => ?_)
        clear hzz hkk hP hD hS H locs u
        revert hS9 hD9 hP9 locs9 H9
        intro H locs hP hD hS
        have r62 : rI ((S 0 ((10 + 14 * k + 5)))) := hu
        clear hu
        replace hP : va_P (kD E) kcl (mW E Ad (put S 7 7 0)) H := hP
        replace hD : va_D A (mW E Ad (put S 7 7 0)) := hD
        show W p l e _ s m args below meth c H locs _ _ Q (F0 m 54 ls [.int (zI ((S 0 ((10 + 14 * k + 5))))), .int (zI (5)), .int (zI (3)), .ref (Ad 0)])
        refine kz_backM (va_runV (As := [.int (zI (3)), .int (zI (5)), .int (zI ((S 0 ((10 + 14 * k + 5)))))]) (rest := []) ⟨hx, hb, hml, hown, hts⟩ (mX3_refuses l E H.size Ad (put S 7 7 0) hM 3 (by omega) 5 (by omega) ((S 0 ((10 + 14 * k + 5)))) (by omega)) (cwV 3 hts (lw_V q2398 q2400 qs37 q83 q2401) rfl rfl rfl (by decide +kernel) ⟨(Nat.le_of_ble_eq_true rfl), (Nat.le_of_ble_eq_true rfl)⟩) (kz_preVM (wc := mW E Ad (put S 7 7 0)) (va_recv hK hP (ci := 2) (q0 := 0) rfl rfl) hG hS hAN hP hD kz_nilP kz_nilA) rfl rfl hl.1 rfl (lv_room (Nat.le_of_ble_eq_true rfl)) dX3_skim_54 ⟨(Nat.le_of_ble_eq_true rfl), (Nat.le_of_ble_eq_true rfl)⟩) hP hD hS hA (fun u H9 locs9 hu hP9 hD9 hS9 hzz hkk => ?_)
        clear hzz hkk hP hD hS H locs u
        revert hS9 hD9 hP9 locs9 H9
        intro H locs hP hD hS
        clear hM
        obtain ⟨r63, hM⟩ := hu
        replace r63 : rI (0) := r63
        replace hM : MOk (put (put (put (put S 7 7 0) 7 7 3) 7 8 5) 7 9 (((S 0 ((10 + 14 * k + 5)))))) := hM
        replace hP : va_P (kD E) kcl (mW E Ad (put (put (put (put S 7 7 0) 7 7 3) 7 8 5) 7 9 (((S 0 ((10 + 14 * k + 5))))))) H := hP
        replace hD : va_D A (mW E Ad (put (put (put (put S 7 7 0) 7 7 3) 7 8 5) 7 9 (((S 0 ((10 + 14 * k + 5))))))) := hD
        show W p l e _ s m args below meth c H locs _ _ Q (F0 m 57 ls [.int (zI (0))])
        have e0 : xSkim S k river a sp = (put (put (put (put S 7 7 0) 7 7 3) 7 8 5) 7 9 (((S 0 ((10 + 14 * k + 5))))), 0) := by unfold xSkim gSkim; (repeat (first | refine Eq.trans (if_pos (by omega)) ?_ | refine Eq.trans (if_neg (by omega)) ?_)); first | rfl | ((first | rw [gSaw0_t (by omega) (by omega) (by omega)] | rw [gSaw0_f (by omega) (by omega) (by omega)]); simp (disch := omega) only [if_pos, if_neg, gOver, gSink, gSkim0, uz_n, uz_s, putR_put _ 0, putR_putR, putR_at]; all_goals rfl)
        have e1 : (xSkim S k river a sp).2 = 0 := by rw [e0]
        have e3 : (xSkim S k river a sp).1 = put (put (put (put S 7 7 0) 7 7 3) 7 8 5) 7 9 (((S 0 ((10 + 14 * k + 5))))) := by rw [e0]
        exact kz_iret () hx hb hr hlk hP hD hS dX3_skim_57 (congrArg (fun z : Int => some (Value.int (zI z))) e1) ⟨(kz_r e1 (by omega)), (kz_M e3 hM)⟩ (congrArg (mW E Ad) e3) hQ (Nat.le_of_ble_eq_true rfl) (Nat.le_of_ble_eq_true rfl)
    · skip
      refine lv_aload_n hx hb dX3_skim_22 rfl (lv_at hl 0 rfl) ?_
      refine kz_iconst hx hb dX3_skim_23 ?_
      refine kz_iconst hx hb dX3_skim_24 ?_
      refine lv_aload_n hx hb dX3_skim_25 rfl (lv_at hl 0 rfl) ?_
      refine lv_iload_n hx hb dX3_skim_26 rfl (lv_at hl 1 rfl) ?_
      refine kz_bipush hx hb dX3_skim_27 (by decide) ?_
      refine kz_backM (va_runV (As := [.int (zI (k)), .int (zI (10))]) (rest := [.int (zI (4)), .int (zI (3)), .ref (Ad 0)]) ⟨hx, hb, hml, hown, hts⟩ (mX3_of l E H.size Ad (put S 7 7 0) hM k (by omega) 10 (by omega) (show 0 ≤ k ∧ k < 10 by first | omega | exact hI.st _ (by omega) (by omega) | exact hI.rv _ (by omega) (by omega) | exact hI) (show 0 ≤ 10 ∧ 10 < 14 by first | omega | exact hI.st _ (by omega) (by omega) | exact hI.rv _ (by omega) (by omega) | exact hI)) (cwV 2 hts (lw_V q2441 q2443 qs44 q83 q2444) rfl rfl rfl (by decide +kernel) ⟨(Nat.le_of_ble_eq_true rfl), (Nat.le_of_ble_eq_true rfl)⟩) (kz_preVM (wc := mW E Ad (put S 7 7 0)) (va_recv hK hP (ci := 2) (q0 := 0) rfl rfl) hG hS hAN hP hD kz_nilP kz_nilA) rfl rfl hl.1 rfl (lv_room (Nat.le_of_ble_eq_true rfl)) dX3_skim_29 ⟨(Nat.le_of_ble_eq_true rfl), (Nat.le_of_ble_eq_true rfl)⟩) hP hD hS hA (fun u H9 locs9 hu hP9 hD9 hS9 hzz hkk => ?_)
      clear hzz hkk hP hD hS H locs u
      revert hS9 hD9 hP9 locs9 H9
      intro H locs hP hD hS
      have r64 : rI ((S 0 ((10 + 14 * k + 10)))) := hu
      clear hu
      replace hP : va_P (kD E) kcl (mW E Ad (put S 7 7 0)) H := hP
      replace hD : va_D A (mW E Ad (put S 7 7 0)) := hD
      show W p l e _ s m args below meth c H locs _ _ Q (F0 m 32 ls [.int (zI ((S 0 ((10 + 14 * k + 10))))), .int (zI (4)), .int (zI (3)), .ref (Ad 0)])
      refine kz_backM (va_runV (As := [.int (zI (3)), .int (zI (4)), .int (zI ((S 0 ((10 + 14 * k + 10)))))]) (rest := []) ⟨hx, hb, hml, hown, hts⟩ (mX3_refuses l E H.size Ad (put S 7 7 0) hM 3 (by omega) 4 (by omega) ((S 0 ((10 + 14 * k + 10)))) (by omega)) (cwV 3 hts (lw_V q2398 q2400 qs37 q83 q2401) rfl rfl rfl (by decide +kernel) ⟨(Nat.le_of_ble_eq_true rfl), (Nat.le_of_ble_eq_true rfl)⟩) (kz_preVM (wc := mW E Ad (put S 7 7 0)) (va_recv hK hP (ci := 2) (q0 := 0) rfl rfl) hG hS hAN hP hD kz_nilP kz_nilA) rfl rfl hl.1 rfl (lv_room (Nat.le_of_ble_eq_true rfl)) dX3_skim_32 ⟨(Nat.le_of_ble_eq_true rfl), (Nat.le_of_ble_eq_true rfl)⟩) hP hD hS hA (fun u H9 locs9 hu hP9 hD9 hS9 hzz hkk => ?_)
      clear hzz hkk hP hD hS H locs u
      revert hS9 hD9 hP9 locs9 H9
      intro H locs hP hD hS
      clear hM
      obtain ⟨r65, hM⟩ := hu
      replace r65 : rI (0) := r65
      replace hM : MOk (put (put (put (put S 7 7 0) 7 7 3) 7 8 4) 7 9 (((S 0 ((10 + 14 * k + 10)))))) := hM
      replace hP : va_P (kD E) kcl (mW E Ad (put (put (put (put S 7 7 0) 7 7 3) 7 8 4) 7 9 (((S 0 ((10 + 14 * k + 10))))))) H := hP
      replace hD : va_D A (mW E Ad (put (put (put (put S 7 7 0) 7 7 3) 7 8 4) 7 9 (((S 0 ((10 + 14 * k + 10))))))) := hD
      show W p l e _ s m args below meth c H locs _ _ Q (F0 m 35 ls [.int (zI (0))])
      have e0 : xSkim S k river a sp = (put (put (put (put S 7 7 0) 7 7 3) 7 8 4) 7 9 (((S 0 ((10 + 14 * k + 10))))), 0) := by unfold xSkim gSkim; (repeat (first | refine Eq.trans (if_pos (by omega)) ?_ | refine Eq.trans (if_neg (by omega)) ?_)); first | rfl | ((first | rw [gSaw0_t (by omega) (by omega) (by omega)] | rw [gSaw0_f (by omega) (by omega) (by omega)]); simp (disch := omega) only [if_pos, if_neg, gOver, gSink, gSkim0, uz_n, uz_s, putR_put _ 0, putR_putR, putR_at]; all_goals rfl)
      have e1 : (xSkim S k river a sp).2 = 0 := by rw [e0]
      have e3 : (xSkim S k river a sp).1 = put (put (put (put S 7 7 0) 7 7 3) 7 8 4) 7 9 (((S 0 ((10 + 14 * k + 10))))) := by rw [e0]
      exact kz_iret () hx hb hr hlk hP hD hS dX3_skim_35 (congrArg (fun z : Int => some (Value.int (zI z))) e1) ⟨(kz_r e1 (by omega)), (kz_M e3 hM)⟩ (congrArg (mW E Ad) e3) hQ (Nat.le_of_ble_eq_true rfl) (Nat.le_of_ble_eq_true rfl)
  · skip
    refine kz_iconst hx hb dX3_skim_12 ?_
    have e0 : xSkim S k river a sp = (put S 7 7 (throwCode (S 0) k river a sp), 0) := by unfold xSkim gSkim; (repeat (first | refine Eq.trans (if_pos (by omega)) ?_ | refine Eq.trans (if_neg (by omega)) ?_)); first | rfl | ((first | rw [gSaw0_t (by omega) (by omega) (by omega)] | rw [gSaw0_f (by omega) (by omega) (by omega)]); simp (disch := omega) only [if_pos, if_neg, gOver, gSink, gSkim0, uz_n, uz_s, putR_put _ 0, putR_putR, putR_at]; all_goals rfl)
    have e1 : (xSkim S k river a sp).2 = 0 := by rw [e0]
    have e3 : (xSkim S k river a sp).1 = put S 7 7 (throwCode (S 0) k river a sp) := by rw [e0]
    exact kz_iret () hx hb hr hlk hP hD hS dX3_skim_13 (congrArg (fun z : Int => some (Value.int (zI z))) e1) ⟨(kz_r e1 (by omega)), (kz_M e3 hM)⟩ (congrArg (mW E Ad) e3) hQ (Nat.le_of_ble_eq_true rfl) (Nat.le_of_ble_eq_true rfl)

