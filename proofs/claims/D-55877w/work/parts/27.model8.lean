/-! THE MODEL, on -/
set_option maxHeartbeats 4000000 in
set_option maxRecDepth 100000 in
theorem mX3_day (l : Launch) (E : KE) (sz : Nat) (Ad : Nat → Nat) (S : St) (hM : MOk S) (B : Int) (hI : GI B (S 0)) (c0 : 0 ≤ S 7 5 ∧ S 7 5 ≤ 8) : Met l yX3_day (ws_ yX3_day cX3_day 4 (some .int)) (rmk 2 0 0 46) (va_Pc [.ref (Ad 0)] (kP l E sz (mW E Ad S) [])) (kQ E (fun _ : Unit => rI ((xDay S).2) ∧ MOk ((xDay S).1)) (fun _ => some (.int (zI ((xDay S).2)))) (fun _ => (mW E Ad ((xDay S).1))) (va_A (mW E Ad S) sz)) 0 0 (va_A (mW E Ad S) sz) := by
  refine kz_start (Qf := kQ E (fun _ : Unit => rI ((xDay S).2) ∧ MOk ((xDay S).1)) (fun _ => some (.int (zI ((xDay S).2)))) (fun _ => (mW E Ad ((xDay S).1)))) (by decide) (Nat.le_of_ble_eq_true rfl) ?_
  intro p e s m args below meth c A ls Q H locs hx hb hr hlk hml hts hown hname hG hK hA hAN hP hD hR hRA hS hQ hl
  replace hown : s.vm.findClass RX3 = some m.cls := hown
  replace hl : lv_has ls 4 [(0, .ref (Ad 0))] := hl
  have g0 := hI.n
  have g1 := hI.m
  have g2 := hI.ct
  replace hP : va_P (kD E) kcl (mW E Ad (S)) H := hP
  replace hD : va_D A (mW E Ad (S)) := hD
  refine lv_aload_n hx hb dX3_day_0 rfl (lv_at hl 0 rfl) ?_
  refine lv_aload_n hx hb dX3_day_1 rfl (lv_at hl 0 rfl) ?_
  refine va_get (D := kD E) (ci := 2) (fs := mO Ad (S)) (v := .ref (Ad 1)) (C := RX3) (T := TX3) (N := 19) hx hb hts in_X3 hown hK hP 0 rfl rfl 0 (by decide) (hts _ q2320) (fun _ h9 => h9) rfl dX3_day_2 ?_
  refine kz_backM (va_runV (As := [.ref (Ad 1)]) (rest := []) ⟨hx, hb, hml, hown, hts⟩ (mX3_keeps l E H.size Ad S hM (show 0 ≤ (S 7 5) ∧ (S 7 5) ≤ 8 by first | omega | exact hI.st _ (by omega) (by omega) | exact hI.rv _ (by omega) (by omega) | exact hI)) (cwV 1 hts (lw_V q2402 q2404 qs38 q83 q2405) rfl rfl rfl (by decide +kernel) ⟨(Nat.le_of_ble_eq_true rfl), (Nat.le_of_ble_eq_true rfl)⟩) (kz_preVM (wc := mW E Ad S) (va_recv hK hP (ci := 2) (q0 := 0) rfl rfl) hG hS hAN hP hD kz_nilP kz_nilA) rfl rfl hl.1 rfl (lv_room (Nat.le_of_ble_eq_true rfl)) dX3_day_5 ⟨(Nat.le_of_ble_eq_true rfl), (Nat.le_of_ble_eq_true rfl)⟩) hP hD hS hA (fun u H9 locs9 hu hP9 hD9 hS9 hzz hkk => ?_)
  clear hzz hkk hP hD hS H locs u
  revert hS9 hD9 hP9 locs9 H9
  intro H locs hP hD hS
  replace hM : MOk (mKeeps S 0) := hu
  clear hu
  replace hP : va_P (kD E) kcl (mW E Ad (mKeeps S 0)) H := hP
  replace hD : va_D A (mW E Ad (mKeeps S 0)) := hD
  show W p l e _ s m args below meth c H locs _ _ Q (F0 m 8 ls [])
  refine kz_iconst hx hb dX3_day_8 ?_
  refine lv_istore_n (lv' := [(1, .int (zI (0))), (0, .ref (Ad 0))]) hx hb dX3_day_9 rfl hl (by decide) rfl (fun ls hl => ?_)
  refine kz_iconst hx hb dX3_day_10 ?_
  refine lv_istore_n (lv' := [(2, .int (zI (0))), (1, .int (zI (0))), (0, .ref (Ad 0))]) hx hb dX3_day_11 rfl hl (by decide) rfl (fun ls hl => ?_)
  have L12_1 : ∀ (fu : Nat) (n r : Int) (S1 : St) (H : Heap) (locs : List Loc) (ls : Array Slot), (0 ≤ r ∧ r ≤ S 0 1 ∧ 0 ≤ n ∧ n ≤ r) → (S1 = putR (mKeeps S 0) 0 (gDayN (S 0) r.toNat)) → (S1 0 1 = S 0 1) → (n = sumTo (fun r => b2 (0 ≤ S 0 (174 + 30 * r + 1))) r.toNat) → rI n → rI r → MOk S1 → (S 0 1 - r : Int).toNat < fu → va_P (kD E) kcl (mW E Ad (S1)) H → va_D A (mW E Ad (S1)) → va_S A s.heap H locs → lv_has ls 4 [(0, .ref (Ad 0)), (1, .int (zI (n))), (2, .int (zI (r)))] → W p l e (rmk 2 0 0 46) s m args below meth c H locs 0 0 Q (F0 m 12 ls []) := by
    clear hl hS hD hP ls locs H hM
    intro fu
    induction fu with
    | zero => intro n r S1 H locs ls hr2 hS1 h11 hn rn rr hM hf; exact absurd hf (Nat.not_lt_zero _)
    | succ fu ih12 =>
      intro n r S1 H locs ls hr2 hS1 h11 hn rn rr hM hf hP hD hS hl
      refine lv_iload_n hx hb dX3_day_12 rfl (lv_at hl 2 rfl) ?_
      refine lv_aload_n hx hb dX3_day_13 rfl (lv_at hl 0 rfl) ?_
      refine va_get (D := kD E) (ci := 2) (fs := mO Ad (S1)) (v := .ref (Ad 1)) (C := RX3) (T := TX3) (N := 19) hx hb hts in_X3 hown hK hP 0 rfl rfl 0 (by decide) (hts _ q2320) (fun _ h9 => h9) rfl dX3_day_14 ?_
      refine kz_iconst hx hb dX3_day_17 ?_
      refine kz_iald (cA := kA E 0) (n := 304) (g := S1 0) hx hb hK hP 1 0 rfl rfl (by omega) dX3_day_18 ?_
      have r2 : rI (S1 0 1) := hM 0 1
      refine kz_icmp_ge (tgt := 103) hx hb dX3_day_19 (by decide) (by omega) (by omega) (fun c19 => ?_) (fun c19 => ?_)
      · skip
        have h12 : S1 0 2 = S 0 2 := by rw [hS1, putR_at]; exact gDayN_n _ _ _ (by omega)
        refine lv_aload_n hx hb dX3_day_103 rfl (lv_at hl 0 rfl) ?_
        refine va_get (D := kD E) (ci := 2) (fs := mO Ad (S1)) (v := .ref (Ad 1)) (C := RX3) (T := TX3) (N := 19) hx hb hts in_X3 hown hK hP 0 rfl rfl 0 (by decide) (hts _ q2320) (fun _ h9 => h9) rfl dX3_day_104 ?_
        refine kz_iconst hx hb dX3_day_107 ?_
        refine lv_dup2_11 hx hb dX3_day_108 rfl rfl ?_
        refine kz_iald (cA := kA E 0) (n := 304) (g := S1 0) hx hb hK hP 1 0 rfl rfl (by omega) dX3_day_109 ?_
        have r3 : rI (S1 0 2) := hM 0 2
        refine kz_iconst hx hb dX3_day_110 ?_
        refine kz_iadd hx hb dX3_day_111 ?_
        refine kz_iast (cA := kA E 0) (n := 304) (g := S1 0) hx hb hK hP hD hS 1 0 rfl rfl (by omega) dX3_day_112 (fun H9 locs9 hP9 hD9 hS9 => ?_)
        rw [mW_a0] at hP9 hD9
        clear hP hD hS H locs
        revert hS9 hD9 hP9 locs9 H9
        intro H locs hP hD hS
        replace hP : va_P (kD E) kcl (mW E Ad (put S1 0 2 ((S1 0 2) + 1))) H := hP
        replace hD : va_D A (mW E Ad (put S1 0 2 ((S1 0 2) + 1))) := hD
        replace hM : MOk (put S1 0 2 ((S1 0 2) + 1)) := hM.put 0 _ (by omega)
        refine lv_iload_n hx hb dX3_day_113 rfl (lv_at hl 1 rfl) ?_
        have e0 : xDay S = (put S1 0 2 ((S1 0 2) + 1), n) := by unfold xDay gDay dayN; rw [h12, hn]; rw [show r = S 0 1 by omega] at hS1 ⊢; rw [hS1, put_putR]
        have e1 : (xDay S).2 = n := by rw [e0]
        have e3 : (xDay S).1 = put S1 0 2 ((S1 0 2) + 1) := by rw [e0]
        exact kz_iret () hx hb hr hlk hP hD hS dX3_day_114 (congrArg (fun z : Int => some (Value.int (zI z))) e1) ⟨(kz_r e1 (by omega)), (kz_M e3 hM)⟩ (congrArg (mW E Ad) e3) hQ (Nat.le_of_ble_eq_true rfl) (Nat.le_of_ble_eq_true rfl)
      · skip
        refine kz_iconst hx hb dX3_day_22 ?_
        refine lv_istore_n (lv' := [(3, .int (zI (0))), (0, .ref (Ad 0)), (1, .int (zI (n))), (2, .int (zI (r)))]) hx hb dX3_day_23 rfl hl (by decide) rfl (fun ls hl => ?_)
        have L24_4 : ∀ (fu : Nat) (k : Int) (S2 : St) (H : Heap) (locs : List Loc) (ls : Array Slot), (0 ≤ k ∧ k ≤ 29) → (S2 = putR S1 0 (gDayK (S1 0) r k)) → rI k → MOk S2 → (29 - k : Int).toNat < fu → va_P (kD E) kcl (mW E Ad (S2)) H → va_D A (mW E Ad (S2)) → va_S A s.heap H locs → lv_has ls 4 [(0, .ref (Ad 0)), (1, .int (zI (n))), (2, .int (zI (r))), (3, .int (zI (k)))] → W p l e (rmk 2 0 0 46) s m args below meth c H locs 0 0 Q (F0 m 24 ls []) := by
          clear hl hS hD hP ls locs H hM
          intro fu
          induction fu with
          | zero => intro k S2 H locs ls hk2 hS2 rk hM hf; exact absurd hf (Nat.not_lt_zero _)
          | succ fu ih24 =>
            intro k S2 H locs ls hk2 hS2 rk hM hf hP hD hS hl
            refine lv_iload_n hx hb dX3_day_24 rfl (lv_at hl 3 rfl) ?_
            refine kz_iconst hx hb dX3_day_25 ?_
            refine kz_iadd hx hb dX3_day_26 ?_
            refine kz_bipush hx hb dX3_day_27 (by decide) ?_
            refine kz_icmp_ge (tgt := 61) hx hb dX3_day_29 (by decide) (by omega) (by omega) (fun c29 => ?_) (fun c29 => ?_)
            · skip
              refine lv_aload_n hx hb dX3_day_61 rfl (lv_at hl 0 rfl) ?_
              refine va_get (D := kD E) (ci := 2) (fs := mO Ad (S2)) (v := .ref (Ad 1)) (C := RX3) (T := TX3) (N := 19) hx hb hts in_X3 hown hK hP 0 rfl rfl 0 (by decide) (hts _ q2320) (fun _ h9 => h9) rfl dX3_day_62 ?_
              refine kz_sipush hx hb dX3_day_65 (by decide) ?_
              refine kz_bipush hx hb dX3_day_68 (by decide) ?_
              refine lv_iload_n hx hb dX3_day_70 rfl (lv_at hl 2 rfl) ?_
              refine kz_imul hx hb dX3_day_71 ?_
              refine kz_iadd hx hb dX3_day_72 ?_
              refine kz_bipush hx hb dX3_day_73 (by decide) ?_
              refine kz_iadd hx hb dX3_day_75 ?_
              refine kz_iconst hx hb dX3_day_76 ?_
              refine kz_isub hx hb dX3_day_77 ?_
              refine kz_iconst hx hb dX3_day_78 ?_
              refine kz_iast (cA := kA E 0) (n := 304) (g := S2 0) hx hb hK hP hD hS 1 0 rfl rfl (by omega) dX3_day_79 (fun H9 locs9 hP9 hD9 hS9 => ?_)
              rw [mW_a0] at hP9 hD9
              clear hP hD hS H locs
              revert hS9 hD9 hP9 locs9 H9
              intro H locs hP hD hS
              replace hP : va_P (kD E) kcl (mW E Ad (put S2 0 (((174 + (30 * r)) + 30) - 1) ((-1)))) H := hP
              replace hD : va_D A (mW E Ad (put S2 0 (((174 + (30 * r)) + 30) - 1) ((-1)))) := hD
              replace hM : MOk (put S2 0 (((174 + (30 * r)) + 30) - 1) ((-1))) := hM.put 0 _ (by omega)
              have hT : (put S2 0 (((174 + (30 * r)) + 30) - 1) ((-1))) 0 (174 + 30 * r + 0) = S 0 (174 + 30 * r + 1) := by rw [hS2, show k = 29 by omega, put_putR, gDayR_k, putR_at, gDayR_0, hS1, putR_at]; exact gDayN_0 _ (by omega)
              refine lv_iload_n hx hb dX3_day_80 rfl (lv_at hl 1 rfl) ?_
              refine lv_aload_n hx hb dX3_day_81 rfl (lv_at hl 0 rfl) ?_
              refine lv_iload_n hx hb dX3_day_82 rfl (lv_at hl 2 rfl) ?_
              refine kz_iconst hx hb dX3_day_83 ?_
              refine kz_backM (va_runV (As := [.int (zI (r)), .int (zI (0))]) (rest := [.int (zI (n))]) ⟨hx, hb, hml, hown, hts⟩ (mX3_bookedFor l E H.size Ad (put S2 0 (((174 + (30 * r)) + 30) - 1) ((-1))) hM r (by omega) 0 (by omega) (show 0 ≤ r ∧ r < 4 by first | omega | exact hI.st _ (by omega) (by omega) | exact hI.rv _ (by omega) (by omega) | exact hI) (show 0 ≤ 0 ∧ 0 < 30 by first | omega | exact hI.st _ (by omega) (by omega) | exact hI.rv _ (by omega) (by omega) | exact hI)) (cwV 2 hts (lw_V q2465 q2467 qs48 q83 q2468) rfl rfl rfl (by decide +kernel) ⟨(Nat.le_of_ble_eq_true rfl), (Nat.le_of_ble_eq_true rfl)⟩) (kz_preVM (wc := mW E Ad (put S2 0 (((174 + (30 * r)) + 30) - 1) ((-1)))) (va_recv hK hP (ci := 2) (q0 := 0) rfl rfl) hG hS hAN hP hD kz_nilP kz_nilA) rfl rfl hl.1 rfl (lv_room (Nat.le_of_ble_eq_true rfl)) dX3_day_84 ⟨(Nat.le_of_ble_eq_true rfl), (Nat.le_of_ble_eq_true rfl)⟩) hP hD hS hA (fun u H9 locs9 hu hP9 hD9 hS9 hzz hkk => ?_)
              clear hzz hkk hP hD hS H locs u
              revert hS9 hD9 hP9 locs9 H9
              intro H locs hP hD hS
              have r5 : rI (((put S2 0 (((174 + (30 * r)) + 30) - 1) ((-1))) 0 ((174 + 30 * r + 0)))) := hu
              clear hu
              replace hP : va_P (kD E) kcl (mW E Ad (put S2 0 (((174 + (30 * r)) + 30) - 1) ((-1)))) H := hP
              replace hD : va_D A (mW E Ad (put S2 0 (((174 + (30 * r)) + 30) - 1) ((-1)))) := hD
              show W p l e _ s m args below meth c H locs _ _ Q (F0 m 87 ls [.int (zI (((put S2 0 (((174 + (30 * r)) + 30) - 1) ((-1))) 0 ((174 + 30 * r + 0))))), .int (zI (n))])
              have J6 : ∀ (v7 : Int) (H : Heap) (locs : List Loc) (ls : Array Slot), v7 = b2 (¬ ((((put S2 0 (((174 + (30 * r)) + 30) - 1) ((-1))) 0 ((174 + 30 * r + 0)))) < 0)) → va_P (kD E) kcl (mW E Ad (put S2 0 (((174 + (30 * r)) + 30) - 1) ((-1)))) H → va_D A (mW E Ad (put S2 0 (((174 + (30 * r)) + 30) - 1) ((-1)))) → va_S A s.heap H locs → lv_has ls 4 [(0, .ref (Ad 0)), (1, .int (zI (n))), (2, .int (zI (r))), (3, .int (zI (k)))] → W p l e (rmk 2 0 0 46) s m args below meth c H locs 0 0 Q (F0 m 95 ls [.int (zI (v7)), .int (zI (n))]) := by
                clear hl hS hD hP ls locs H
                intro v7 H locs ls hv7 hP hD hS hl
                subst hv7
                have z8 := b2_01 (¬ ((((put S2 0 (((174 + (30 * r)) + 30) - 1) ((-1))) 0 ((174 + 30 * r + 0)))) < 0))
                refine kz_iadd hx hb dX3_day_95 ?_
                refine lv_istore_n (lv' := [(1, .int (zI (n + (b2 (¬ ((((put S2 0 (((174 + (30 * r)) + 30) - 1) ((-1))) 0 ((174 + 30 * r + 0)))) < 0)))))), (0, .ref (Ad 0)), (2, .int (zI (r))), (3, .int (zI (k)))]) hx hb dX3_day_96 rfl hl (by decide) rfl (fun ls hl => ?_)
                refine kz_iinc (lv' := [(2, .int (zI (r + 1))), (1, .int (zI (n + (b2 (¬ ((((put S2 0 (((174 + (30 * r)) + 30) - 1) ((-1))) 0 ((174 + 30 * r + 0)))) < 0)))))), (0, .ref (Ad 0)), (3, .int (zI (k)))]) hx hb dX3_day_97 hl (k := 2) rfl (by decide) rfl (fun ls hl => ?_)
                refine lv_goto (tgt := 12) hx hb dX3_day_100 (by decide) ?_
                exact ih12 (n + (b2 (¬ ((((put S2 0 (((174 + (30 * r)) + 30) - 1) ((-1))) 0 ((174 + 30 * r + 0)))) < 0)))) (r + 1) (put S2 0 (((174 + (30 * r)) + 30) - 1) ((-1))) _ _ _ (by omega) (by rw [hS2, show k = 29 by omega, put_putR, gDayR_k, hS1, putR_at, putR_putR, gDayN_s _ hr2.1]) (by rw [hS2, show k = 29 by omega, put_putR, gDayR_k, hS1, putR_at, putR_at, ← gDayN_s _ hr2.1]; exact gDayN_n _ _ _ (by omega)) (by rw [sumTo_s _ hr2.1, hn]; exact congrArg (_ + ·) (b2_c (by omega))) (by omega) (by omega) hM (by omega) hP hD hS (lv_sub hl [2, 1, 0] rfl)
              refine kz_if_lt (tgt := 94) hx hb dX3_day_87 (by decide) (by omega) (fun c87 => ?_) (fun c87 => ?_)
              · skip
                refine kz_iconst hx hb dX3_day_94 ?_
                exact J6 0 _ _ _ (b2_f (by first | omega | simp only [c87, if_true, if_false, and_true, true_and, and_false, false_and, or_true, true_or, or_false, false_or, not_true_eq_false, not_false_eq_true])).symm hP hD hS hl
              · skip
                refine kz_iconst hx hb dX3_day_90 ?_
                refine lv_goto (tgt := 95) hx hb dX3_day_91 (by decide) ?_
                exact J6 1 _ _ _ (b2_t (by first | omega | simp only [c87, if_true, if_false, and_true, true_and, and_false, false_and, or_true, true_or, or_false, false_or, not_true_eq_false, not_false_eq_true])).symm hP hD hS hl
            · skip
              refine lv_aload_n hx hb dX3_day_32 rfl (lv_at hl 0 rfl) ?_
              refine va_get (D := kD E) (ci := 2) (fs := mO Ad (S2)) (v := .ref (Ad 1)) (C := RX3) (T := TX3) (N := 19) hx hb hts in_X3 hown hK hP 0 rfl rfl 0 (by decide) (hts _ q2320) (fun _ h9 => h9) rfl dX3_day_33 ?_
              refine kz_sipush hx hb dX3_day_36 (by decide) ?_
              refine kz_bipush hx hb dX3_day_39 (by decide) ?_
              refine lv_iload_n hx hb dX3_day_41 rfl (lv_at hl 2 rfl) ?_
              refine kz_imul hx hb dX3_day_42 ?_
              refine kz_iadd hx hb dX3_day_43 ?_
              refine lv_iload_n hx hb dX3_day_44 rfl (lv_at hl 3 rfl) ?_
              refine kz_iadd hx hb dX3_day_45 ?_
              refine lv_aload_n hx hb dX3_day_46 rfl (lv_at hl 0 rfl) ?_
              refine lv_iload_n hx hb dX3_day_47 rfl (lv_at hl 2 rfl) ?_
              refine lv_iload_n hx hb dX3_day_48 rfl (lv_at hl 3 rfl) ?_
              refine kz_iconst hx hb dX3_day_49 ?_
              refine kz_iadd hx hb dX3_day_50 ?_
              refine kz_backM (va_runV (As := [.int (zI (r)), .int (zI (k + 1))]) (rest := [.int (zI ((174 + (30 * r)) + k)), .ref (Ad 1)]) ⟨hx, hb, hml, hown, hts⟩ (mX3_bookedFor l E H.size Ad S2 hM r (by omega) (k + 1) (by omega) (show 0 ≤ r ∧ r < 4 by first | omega | exact hI.st _ (by omega) (by omega) | exact hI.rv _ (by omega) (by omega) | exact hI) (show 0 ≤ (k + 1) ∧ (k + 1) < 30 by first | omega | exact hI.st _ (by omega) (by omega) | exact hI.rv _ (by omega) (by omega) | exact hI)) (cwV 2 hts (lw_V q2465 q2467 qs48 q83 q2468) rfl rfl rfl (by decide +kernel) ⟨(Nat.le_of_ble_eq_true rfl), (Nat.le_of_ble_eq_true rfl)⟩) (kz_preVM (wc := mW E Ad S2) (va_recv hK hP (ci := 2) (q0 := 0) rfl rfl) hG hS hAN hP hD kz_nilP kz_nilA) rfl rfl hl.1 rfl (lv_room (Nat.le_of_ble_eq_true rfl)) dX3_day_51 ⟨(Nat.le_of_ble_eq_true rfl), (Nat.le_of_ble_eq_true rfl)⟩) hP hD hS hA (fun u H9 locs9 hu hP9 hD9 hS9 hzz hkk => ?_)
              clear hzz hkk hP hD hS H locs u
              revert hS9 hD9 hP9 locs9 H9
              intro H locs hP hD hS
              have r9 : rI ((S2 0 ((174 + 30 * r + (k + 1))))) := hu
              clear hu
              replace hP : va_P (kD E) kcl (mW E Ad (S2)) H := hP
              replace hD : va_D A (mW E Ad (S2)) := hD
              show W p l e _ s m args below meth c H locs _ _ Q (F0 m 54 ls [.int (zI ((S2 0 ((174 + 30 * r + (k + 1)))))), .int (zI ((174 + (30 * r)) + k)), .ref (Ad 1)])
              refine kz_iast (cA := kA E 0) (n := 304) (g := S2 0) hx hb hK hP hD hS 1 0 rfl rfl (by omega) dX3_day_54 (fun H9 locs9 hP9 hD9 hS9 => ?_)
              rw [mW_a0] at hP9 hD9
              clear hP hD hS H locs
              revert hS9 hD9 hP9 locs9 H9
              intro H locs hP hD hS
              replace hP : va_P (kD E) kcl (mW E Ad (put S2 0 ((174 + (30 * r)) + k) ((S2 0 ((174 + 30 * r + (k + 1))))))) H := hP
              replace hD : va_D A (mW E Ad (put S2 0 ((174 + (30 * r)) + k) ((S2 0 ((174 + 30 * r + (k + 1))))))) := hD
              replace hM : MOk (put S2 0 ((174 + (30 * r)) + k) ((S2 0 ((174 + 30 * r + (k + 1)))))) := hM.put 0 _ (by omega)
              refine kz_iinc (lv' := [(3, .int (zI (k + 1))), (0, .ref (Ad 0)), (1, .int (zI (n))), (2, .int (zI (r)))]) hx hb dX3_day_55 hl (k := 3) rfl (by decide) rfl (fun ls hl => ?_)
              refine lv_goto (tgt := 24) hx hb dX3_day_58 (by decide) ?_
              exact ih24 (k + 1) (put S2 0 ((174 + (30 * r)) + k) ((S2 0 ((174 + 30 * r + (k + 1)))))) _ _ _ (by omega) (by rw [hS2, put_putR, putR_at, gDayK_s _ _ hk2.1]) (by omega) hM (by omega) hP hD hS (lv_sub hl [1, 2, 3, 0] rfl)
        exact L24_4 ((29 - 0 : Int).toNat + 1) 0 S1 _ _ _ (by omega) (by rw [gDayK_0]; exact (putR_self _ 0).symm) (by omega) hM (Nat.lt_succ_self _) hP hD hS (lv_sub hl [1, 2, 3, 0] rfl)
  exact L12_1 ((S 0 1 - 0 : Int).toNat + 1) 0 0 (mKeeps S 0) _ _ _ (by omega) (by exact (putR_self _ 0).symm) (by rfl) (by rfl) (by omega) (by omega) hM (Nat.lt_succ_self _) hP hD hS (lv_sub hl [2, 1, 0] rfl)

set_option maxHeartbeats 4000000 in
set_option maxRecDepth 100000 in
theorem mX3_writes (l : Launch) (E : KE) (sz : Nat) (Ad : Nat → Nat) (S : St) (hM : MOk S) (ch : Int) (rch : rI ch) (hw15 : 0 ≤ S 7 15 ∧ S 7 15 < 40) (hch : 0 ≤ ch ∧ ch < 65536) : Met l yX3_writes (ws_ yX3_writes cX3_writes 2 none) (rmk 0 0 0 0) (va_Pc [.ref (Ad 0), .int (zI ch)] (kP l E sz (mW E Ad S) [])) (kQ E (fun _ : Unit => MOk (mWs S [ch]) ∧ (mWs S [ch]) 7 15 = S 7 15 + 1) (fun _ => none) (fun _ => (mW E Ad (mWs S [ch]))) (va_A (mW E Ad S) sz)) 0 0 (va_A (mW E Ad S) sz) := by
  refine kz_start (Qf := kQ E (fun _ : Unit => MOk (mWs S [ch]) ∧ (mWs S [ch]) 7 15 = S 7 15 + 1) (fun _ => none) (fun _ => (mW E Ad (mWs S [ch])))) (by decide) (Nat.le_of_ble_eq_true rfl) ?_
  intro p e s m args below meth c A ls Q H locs hx hb hr hlk hml hts hown hname hG hK hA hAN hP hD hR hRA hS hQ hl
  replace hown : s.vm.findClass RX3 = some m.cls := hown
  replace hl : lv_has ls 2 [(0, .ref (Ad 0)), (1, .int (zI (ch)))] := hl
  replace hP : va_P (kD E) kcl (mW E Ad (S)) H := hP
  replace hD : va_D A (mW E Ad (S)) := hD
  refine lv_aload_n hx hb dX3_writes_0 rfl (lv_at hl 0 rfl) ?_
  refine va_get (D := kD E) (ci := 2) (fs := mO Ad (S)) (v := .ref (Ad 6)) (C := RX3) (T := TX3) (N := 19) hx hb hts in_X3 hown hK hP 0 rfl rfl 14 (by decide) (hts _ q2334) (fun _ h9 => h9) rfl dX3_writes_1 ?_
  refine lv_aload_n hx hb dX3_writes_4 rfl (lv_at hl 0 rfl) ?_
  have r1 : rI (S 7 15) := hM 7 15
  refine va_get (D := kD E) (ci := 2) (fs := mO Ad (S)) (v := .int (zI (S 7 15))) (C := RX3) (T := TX3) (N := 19) hx hb hts in_X3 hown hK hP 0 rfl rfl 15 (by decide) (hts _ q2335) (fun _ h9 => h9) rfl dX3_writes_5 ?_
  refine lv_iload_n hx hb dX3_writes_8 rfl (lv_at hl 1 rfl) ?_
  refine kz_i2c hx hb dX3_writes_9 (by omega) ?_
  refine kz_cast (cA := kA E 3) (n := 40) (g := S 5) hx hb hK hP hD hS 6 3 rfl rfl (by omega) (by omega) dX3_writes_10 (fun H9 locs9 hP9 hD9 hS9 => ?_)
  rw [mW_a5] at hP9 hD9
  clear hP hD hS H locs
  revert hS9 hD9 hP9 locs9 H9
  intro H locs hP hD hS
  replace hP : va_P (kD E) kcl (mW E Ad (put S 5 (S 7 15) ch)) H := hP
  replace hD : va_D A (mW E Ad (put S 5 (S 7 15) ch)) := hD
  replace hM : MOk (put S 5 (S 7 15) ch) := hM.put 5 _ (by omega)
  refine lv_aload_n hx hb dX3_writes_11 rfl (lv_at hl 0 rfl) ?_
  refine lv_dup hx hb dX3_writes_12 rfl ?_
  have r2 : rI (S 7 15) := hM 7 15
  refine va_get (D := kD E) (ci := 2) (fs := mO Ad (put S 5 (S 7 15) ch)) (v := .int (zI (S 7 15))) (C := RX3) (T := TX3) (N := 19) hx hb hts in_X3 hown hK hP 0 rfl rfl 15 (by decide) (hts _ q2335) (fun _ h9 => h9) rfl dX3_writes_13 ?_
  refine kz_iconst hx hb dX3_writes_16 ?_
  refine kz_iadd hx hb dX3_writes_17 ?_
  refine va_put (D := kD E) (ci := 2) (fs := mO Ad (put S 5 (S 7 15) ch)) (v := .int (zI ((S 7 15) + 1))) (ty := .int) (C := RX3) (T := TX3) (N := 19) hx hb hts in_X3 tyX3 tyX3_ok nmX3 hown hK hP hD hS 0 rfl rfl 15 (by decide) (hts _ q2335) (fun _ h9 => h9) rfl (by decide +kernel) rfl rfl (Nat.le_of_ble_eq_true rfl) dX3_writes_18 (fun H9 locs9 hP9 hD9 hS9 => ?_)
  rw [mW_f15] at hP9 hD9
  clear hP hD hS H locs
  revert hS9 hD9 hP9 locs9 H9
  intro H locs hP hD hS
  replace hP : va_P (kD E) kcl (mW E Ad (put (put S 5 (S 7 15) ch) 7 15 ((S 7 15) + 1))) H := hP
  replace hD : va_D A (mW E Ad (put (put S 5 (S 7 15) ch) 7 15 ((S 7 15) + 1))) := hD
  replace hM : MOk (put (put S 5 (S 7 15) ch) 7 15 ((S 7 15) + 1)) := hM.put 7 15 (by omega)
  have e3 : mWs S [ch] = put (put S 5 (S 7 15) ch) 7 15 ((S 7 15) + 1) := by exact (mWs_1 S ch).symm
  exact kz_vret () hx hb hr hlk hP hD hS dX3_writes_21 rfl ⟨(kz_M e3 hM), (by rfl)⟩ (congrArg (mW E Ad) e3) hQ (Nat.le_of_ble_eq_true rfl) (Nat.le_of_ble_eq_true rfl)

set_option maxHeartbeats 4000000 in
set_option maxRecDepth 100000 in
theorem mX3_writesNumber (l : Launch) (E : KE) (sz : Nat) (Ad : Nat → Nat) (S : St) (hM : MOk S) (nn : Int) (rnn : rI nn) (hw15 : 0 ≤ S 7 15 ∧ S 7 15 < 39) (hnn : 0 ≤ nn ∧ nn ≤ 99) : Met l yX3_writesNumber (ws_ yX3_writesNumber cX3_writesNumber 2 none) (rmk 1 0 0 21) (va_Pc [.ref (Ad 0), .int (zI nn)] (kP l E sz (mW E Ad S) [])) (kQ E (fun _ : Unit => MOk (mWs S (numT nn)) ∧ (mWs S (numT nn)) 7 15 = S 7 15 + (numT nn).length ∧ 1 ≤ ((numT nn).length : Int) ∧ ((numT nn).length : Int) ≤ 2) (fun _ => none) (fun _ => (mW E Ad (mWs S (numT nn)))) (va_A (mW E Ad S) sz)) 0 0 (va_A (mW E Ad S) sz) := by
  refine kz_start (Qf := kQ E (fun _ : Unit => MOk (mWs S (numT nn)) ∧ (mWs S (numT nn)) 7 15 = S 7 15 + (numT nn).length ∧ 1 ≤ ((numT nn).length : Int) ∧ ((numT nn).length : Int) ≤ 2) (fun _ => none) (fun _ => (mW E Ad (mWs S (numT nn))))) (by decide) (Nat.le_of_ble_eq_true rfl) ?_
  intro p e s m args below meth c A ls Q H locs hx hb hr hlk hml hts hown hname hG hK hA hAN hP hD hR hRA hS hQ hl
  replace hown : s.vm.findClass RX3 = some m.cls := hown
  replace hl : lv_has ls 2 [(0, .ref (Ad 0)), (1, .int (zI (nn)))] := hl
  replace hP : va_P (kD E) kcl (mW E Ad (S)) H := hP
  replace hD : va_D A (mW E Ad (S)) := hD
  refine lv_iload_n hx hb dX3_writesNumber_0 rfl (lv_at hl 1 rfl) ?_
  refine kz_bipush hx hb dX3_writesNumber_1 (by decide) ?_
  refine kz_icmp_le (tgt := 17) hx hb dX3_writesNumber_3 (by decide) (by omega) (by omega) (fun c3 => ?_) (fun c3 => ?_)
  · skip
    refine lv_aload_n hx hb dX3_writesNumber_17 rfl (lv_at hl 0 rfl) ?_
    refine kz_bipush hx hb dX3_writesNumber_18 (by decide) ?_
    refine lv_iload_n hx hb dX3_writesNumber_20 rfl (lv_at hl 1 rfl) ?_
    refine kz_bipush hx hb dX3_writesNumber_21 (by decide) ?_
    refine kz_irem hx hb dX3_writesNumber_23 (by omega) ?_
    refine kz_iadd hx hb dX3_writesNumber_24 ?_
    refine kz_backM (va_runV (As := [.int (zI (48 + (nn % 10)))]) (rest := []) ⟨hx, hb, hml, hown, hts⟩ (mX3_writes l E H.size Ad S hM (48 + (nn % 10)) (by omega) (show 0 ≤ (S 7 15) ∧ (S 7 15) < 40 by first | omega | exact hI.st _ (by omega) (by omega) | exact hI.rv _ (by omega) (by omega) | exact hI) (show 0 ≤ (48 + (nn % 10)) ∧ (48 + (nn % 10)) < 65536 by first | omega | exact hI.st _ (by omega) (by omega) | exact hI.rv _ (by omega) (by omega) | exact hI)) (cwV 1 hts (lw_V q2589 q2591 qs57 q83 q2592) rfl rfl rfl (by decide +kernel) ⟨(Nat.le_of_ble_eq_true rfl), (Nat.le_of_ble_eq_true rfl)⟩) (kz_preVM (wc := mW E Ad S) (va_recv hK hP (ci := 2) (q0 := 0) rfl rfl) hG hS hAN hP hD kz_nilP kz_nilA) rfl rfl hl.1 rfl (lv_room (Nat.le_of_ble_eq_true rfl)) dX3_writesNumber_25 ⟨(Nat.le_of_ble_eq_true rfl), (Nat.le_of_ble_eq_true rfl)⟩) hP hD hS hA (fun u H9 locs9 hu hP9 hD9 hS9 hzz hkk => ?_)
    clear hzz hkk hP hD hS H locs u
    revert hS9 hD9 hP9 locs9 H9
    intro H locs hP hD hS
    clear hM
    obtain ⟨hM, p1⟩ := hu
    replace hM : MOk (mWs S [(48 + (nn % 10))]) := hM
    replace p1 : (mWs S [(48 + (nn % 10))]) 7 15 = (S 7 15) + 1 := p1
    replace hP : va_P (kD E) kcl (mW E Ad (mWs S [(48 + (nn % 10))])) H := hP
    replace hD : va_D A (mW E Ad (mWs S [(48 + (nn % 10))])) := hD
    show W p l e _ s m args below meth c H locs _ _ Q (F0 m 28 ls [])
    have e3 : mWs S (numT nn) = mWs S [(48 + (nn % 10))] := by unfold numT; first | (rw [if_pos (by omega), mWs_app]; rfl) | rw [if_neg (by omega)]
    exact kz_vret () hx hb hr hlk hP hD hS dX3_writesNumber_28 rfl ⟨(kz_M e3 hM), (by rfl), (by exact numT_l _)⟩ (congrArg (mW E Ad) e3) hQ (Nat.le_of_ble_eq_true rfl) (Nat.le_of_ble_eq_true rfl)
  · skip
    refine lv_aload_n hx hb dX3_writesNumber_6 rfl (lv_at hl 0 rfl) ?_
    refine kz_bipush hx hb dX3_writesNumber_7 (by decide) ?_
    refine lv_iload_n hx hb dX3_writesNumber_9 rfl (lv_at hl 1 rfl) ?_
    refine kz_bipush hx hb dX3_writesNumber_10 (by decide) ?_
    refine kz_idiv hx hb dX3_writesNumber_12 (by omega) ?_
    refine kz_iadd hx hb dX3_writesNumber_13 ?_
    refine kz_backM (va_runV (As := [.int (zI (48 + (nn / 10)))]) (rest := []) ⟨hx, hb, hml, hown, hts⟩ (mX3_writes l E H.size Ad S hM (48 + (nn / 10)) (by omega) (show 0 ≤ (S 7 15) ∧ (S 7 15) < 40 by first | omega | exact hI.st _ (by omega) (by omega) | exact hI.rv _ (by omega) (by omega) | exact hI) (show 0 ≤ (48 + (nn / 10)) ∧ (48 + (nn / 10)) < 65536 by first | omega | exact hI.st _ (by omega) (by omega) | exact hI.rv _ (by omega) (by omega) | exact hI)) (cwV 1 hts (lw_V q2589 q2591 qs57 q83 q2592) rfl rfl rfl (by decide +kernel) ⟨(Nat.le_of_ble_eq_true rfl), (Nat.le_of_ble_eq_true rfl)⟩) (kz_preVM (wc := mW E Ad S) (va_recv hK hP (ci := 2) (q0 := 0) rfl rfl) hG hS hAN hP hD kz_nilP kz_nilA) rfl rfl hl.1 rfl (lv_room (Nat.le_of_ble_eq_true rfl)) dX3_writesNumber_14 ⟨(Nat.le_of_ble_eq_true rfl), (Nat.le_of_ble_eq_true rfl)⟩) hP hD hS hA (fun u H9 locs9 hu hP9 hD9 hS9 hzz hkk => ?_)
    clear hzz hkk hP hD hS H locs u
    revert hS9 hD9 hP9 locs9 H9
    intro H locs hP hD hS
    clear hM
    obtain ⟨hM, p2⟩ := hu
    replace hM : MOk (mWs S [(48 + (nn / 10))]) := hM
    replace p2 : (mWs S [(48 + (nn / 10))]) 7 15 = (S 7 15) + 1 := p2
    replace hP : va_P (kD E) kcl (mW E Ad (mWs S [(48 + (nn / 10))])) H := hP
    replace hD : va_D A (mW E Ad (mWs S [(48 + (nn / 10))])) := hD
    show W p l e _ s m args below meth c H locs _ _ Q (F0 m 17 ls [])
    refine lv_aload_n hx hb dX3_writesNumber_17 rfl (lv_at hl 0 rfl) ?_
    refine kz_bipush hx hb dX3_writesNumber_18 (by decide) ?_
    refine lv_iload_n hx hb dX3_writesNumber_20 rfl (lv_at hl 1 rfl) ?_
    refine kz_bipush hx hb dX3_writesNumber_21 (by decide) ?_
    refine kz_irem hx hb dX3_writesNumber_23 (by omega) ?_
    refine kz_iadd hx hb dX3_writesNumber_24 ?_
    refine kz_backM (va_runV (As := [.int (zI (48 + (nn % 10)))]) (rest := []) ⟨hx, hb, hml, hown, hts⟩ (mX3_writes l E H.size Ad (mWs S [(48 + (nn / 10))]) hM (48 + (nn % 10)) (by omega) (show 0 ≤ ((mWs S [(48 + (nn / 10))]) 7 15) ∧ ((mWs S [(48 + (nn / 10))]) 7 15) < 40 by first | omega | exact hI.st _ (by omega) (by omega) | exact hI.rv _ (by omega) (by omega) | exact hI) (show 0 ≤ (48 + (nn % 10)) ∧ (48 + (nn % 10)) < 65536 by first | omega | exact hI.st _ (by omega) (by omega) | exact hI.rv _ (by omega) (by omega) | exact hI)) (cwV 1 hts (lw_V q2589 q2591 qs57 q83 q2592) rfl rfl rfl (by decide +kernel) ⟨(Nat.le_of_ble_eq_true rfl), (Nat.le_of_ble_eq_true rfl)⟩) (kz_preVM (wc := mW E Ad (mWs S [(48 + (nn / 10))])) (va_recv hK hP (ci := 2) (q0 := 0) rfl rfl) hG hS hAN hP hD kz_nilP kz_nilA) rfl rfl hl.1 rfl (lv_room (Nat.le_of_ble_eq_true rfl)) dX3_writesNumber_25 ⟨(Nat.le_of_ble_eq_true rfl), (Nat.le_of_ble_eq_true rfl)⟩) hP hD hS hA (fun u H9 locs9 hu hP9 hD9 hS9 hzz hkk => ?_)
    clear hzz hkk hP hD hS H locs u
    revert hS9 hD9 hP9 locs9 H9
    intro H locs hP hD hS
    clear hM
    obtain ⟨hM, p3⟩ := hu
    replace hM : MOk (mWs (mWs S [(48 + (nn / 10))]) [(48 + (nn % 10))]) := hM
    replace p3 : (mWs (mWs S [(48 + (nn / 10))]) [(48 + (nn % 10))]) 7 15 = ((mWs S [(48 + (nn / 10))]) 7 15) + 1 := p3
    replace hP : va_P (kD E) kcl (mW E Ad (mWs (mWs S [(48 + (nn / 10))]) [(48 + (nn % 10))])) H := hP
    replace hD : va_D A (mW E Ad (mWs (mWs S [(48 + (nn / 10))]) [(48 + (nn % 10))])) := hD
    show W p l e _ s m args below meth c H locs _ _ Q (F0 m 28 ls [])
    have e3 : mWs S (numT nn) = mWs (mWs S [(48 + (nn / 10))]) [(48 + (nn % 10))] := by unfold numT; first | (rw [if_pos (by omega), mWs_app]; rfl) | rw [if_neg (by omega)]
    exact kz_vret () hx hb hr hlk hP hD hS dX3_writesNumber_28 rfl ⟨(kz_M e3 hM), (by rfl), (by exact numT_l _)⟩ (congrArg (mW E Ad) e3) hQ (Nat.le_of_ble_eq_true rfl) (Nat.le_of_ble_eq_true rfl)

set_option maxHeartbeats 4000000 in
set_option maxRecDepth 100000 in
theorem mX3_line (l : Launch) (E : KE) (sz : Nat) (Ad : Nat → Nat) (S : St) (hM : MOk S) (B : Int) (k : Int) (rk : rI k) (hI : GI B (S 0)) : Met l yX3_line (ws_ yX3_line cX3_line 2 (some .int)) (rmk 2 0 0 43) (va_Pc [.ref (Ad 0), .int (zI k)] (kP l E sz (mW E Ad S) [])) (kQ E (fun _ : Unit => rI ((xLine S k).2) ∧ MOk ((xLine S k).1)) (fun _ => some (.int (zI ((xLine S k).2)))) (fun _ => (mW E Ad ((xLine S k).1))) (va_A (mW E Ad S) sz)) 0 0 (va_A (mW E Ad S) sz) := by
  refine kz_start (Qf := kQ E (fun _ : Unit => rI ((xLine S k).2) ∧ MOk ((xLine S k).1)) (fun _ => some (.int (zI ((xLine S k).2)))) (fun _ => (mW E Ad ((xLine S k).1)))) (by decide) (Nat.le_of_ble_eq_true rfl) ?_
  intro p e s m args below meth c A ls Q H locs hx hb hr hlk hml hts hown hname hG hK hA hAN hP hD hR hRA hS hQ hl
  replace hown : s.vm.findClass RX3 = some m.cls := hown
  replace hl : lv_has ls 2 [(0, .ref (Ad 0)), (1, .int (zI (k)))] := hl
  have g0 := hI.n
  have g1 := hI.m
  have g2 := hI.ct
  replace hP : va_P (kD E) kcl (mW E Ad (S)) H := hP
  replace hD : va_D A (mW E Ad (S)) := hD
  refine lv_aload_n hx hb dX3_line_0 rfl (lv_at hl 0 rfl) ?_
  refine lv_aload_n hx hb dX3_line_1 rfl (lv_at hl 0 rfl) ?_
  refine lv_iload_n hx hb dX3_line_2 rfl (lv_at hl 1 rfl) ?_
  refine kz_backM (va_runV (As := [.int (zI (k))]) (rest := [.ref (Ad 0)]) ⟨hx, hb, hml, hown, hts⟩ (mX3_isStone l E H.size Ad S hM k (by omega) (show 0 ≤ (S 0 0) ∧ (S 0 0) ≤ 10 by first | omega | exact hI.st _ (by omega) (by omega) | exact hI.rv _ (by omega) (by omega) | exact hI)) (cwV 1 hts (lw_V q2433 q2435 qs42 q83 q2436) rfl rfl rfl (by decide +kernel) ⟨(Nat.le_of_ble_eq_true rfl), (Nat.le_of_ble_eq_true rfl)⟩) (kz_preVM (wc := mW E Ad S) (va_recv hK hP (ci := 2) (q0 := 0) rfl rfl) hG hS hAN hP hD kz_nilP kz_nilA) rfl rfl hl.1 rfl (lv_room (Nat.le_of_ble_eq_true rfl)) dX3_line_3 ⟨(Nat.le_of_ble_eq_true rfl), (Nat.le_of_ble_eq_true rfl)⟩) hP hD hS hA (fun u H9 locs9 hu hP9 hD9 hS9 hzz hkk => ?_)
  clear hzz hkk hP hD hS H locs u
  revert hS9 hD9 hP9 locs9 H9
  intro H locs hP hD hS
  clear hu
  replace hP : va_P (kD E) kcl (mW E Ad (S)) H := hP
  replace hD : va_D A (mW E Ad (S)) := hD
  show W p l e _ s m args below meth c H locs _ _ Q (F0 m 6 ls [.int (zI (b2 (0 ≤ k ∧ k ≤ (S 0 0) - 1))), .ref (Ad 0)])
  have J1 : ∀ (v2 : Int) (H : Heap) (locs : List Loc) (ls : Array Slot), v2 = (if 0 ≤ k ∧ k ≤ (S 0 0) - 1 then 0 else 1) → rI v2 → va_P (kD E) kcl (mW E Ad (S)) H → va_D A (mW E Ad (S)) → va_S A s.heap H locs → lv_has ls 2 [(0, .ref (Ad 0)), (1, .int (zI (k)))] → W p l e (rmk 2 0 0 43) s m args below meth c H locs 0 0 Q (F0 m 14 ls [.int (zI (v2)), .ref (Ad 0)]) := by
    clear hl hS hD hP ls locs H
    intro v2 H locs ls hv2 rv2 hP hD hS hl
    have dv2 : (¬ (0 ≤ k ∧ k ≤ (S 0 0) - 1) ∧ v2 = 1) ∨ (0 ≤ k ∧ k ≤ (S 0 0) - 1 ∧ v2 = 0) := by rw [hv2]; (repeat' split) <;> first | omega | simp_all
    refine kz_backM (va_runV (As := [.int (zI (v2))]) (rest := []) ⟨hx, hb, hml, hown, hts⟩ (mX3_fails l E H.size Ad S hM v2 (by omega)) (cwV 1 hts (lw_V q2394 q2396 qs36 q83 q2397) rfl rfl rfl (by decide +kernel) ⟨(Nat.le_of_ble_eq_true rfl), (Nat.le_of_ble_eq_true rfl)⟩) (kz_preVM (wc := mW E Ad S) (va_recv hK hP (ci := 2) (q0 := 0) rfl rfl) hG hS hAN hP hD kz_nilP kz_nilA) rfl rfl hl.1 rfl (lv_room (Nat.le_of_ble_eq_true rfl)) dX3_line_14 ⟨(Nat.le_of_ble_eq_true rfl), (Nat.le_of_ble_eq_true rfl)⟩) hP hD hS hA (fun u H9 locs9 hu hP9 hD9 hS9 hzz hkk => ?_)
    clear hzz hkk hP hD hS H locs u
    revert hS9 hD9 hP9 locs9 H9
    intro H locs hP hD hS
    replace hM : MOk (put S 7 7 v2) := hu
    clear hu
    replace hP : va_P (kD E) kcl (mW E Ad (put S 7 7 v2)) H := hP
    replace hD : va_D A (mW E Ad (put S 7 7 v2)) := hD
    show W p l e _ s m args below meth c H locs _ _ Q (F0 m 17 ls [.int (zI (b2 (0 < v2)))])
    refine kz_if0B (tgt := 22) hx hb dX3_line_17 (by decide) (fun c17 => ?_) (fun c17 => ?_)
    · skip
      obtain rfl : v2 = 0 := by omega
      have hsb := hI.st k (by omega) (by omega)
      have hsx := hI.sx k (by omega) (by omega)
      refine lv_aload_n hx hb dX3_line_22 rfl (lv_at hl 0 rfl) ?_
      refine kz_iconst hx hb dX3_line_23 ?_
      refine va_put (D := kD E) (ci := 2) (fs := mO Ad (put S 7 7 0)) (v := .int (zI (0))) (ty := .int) (C := RX3) (T := TX3) (N := 19) hx hb hts in_X3 tyX3 tyX3_ok nmX3 hown hK hP hD hS 0 rfl rfl 15 (by decide) (hts _ q2335) (fun _ h9 => h9) rfl (by decide +kernel) rfl rfl (Nat.le_of_ble_eq_true rfl) dX3_line_24 (fun H9 locs9 hP9 hD9 hS9 => ?_)
      rw [mW_f15] at hP9 hD9
      clear hP hD hS H locs
      revert hS9 hD9 hP9 locs9 H9
      intro H locs hP hD hS
      replace hP : va_P (kD E) kcl (mW E Ad (put (put S 7 7 0) 7 15 0)) H := hP
      replace hD : va_D A (mW E Ad (put (put S 7 7 0) 7 15 0)) := hD
      replace hM : MOk (put (put S 7 7 0) 7 15 0) := hM.put 7 15 (by omega)
      refine lv_aload_n hx hb dX3_line_27 rfl (lv_at hl 0 rfl) ?_
      refine lv_aload_n hx hb dX3_line_28 rfl (lv_at hl 0 rfl) ?_
      refine lv_iload_n hx hb dX3_line_29 rfl (lv_at hl 1 rfl) ?_
      refine kz_iconst hx hb dX3_line_30 ?_
      refine kz_backM (va_runV (As := [.int (zI (k)), .int (zI (0))]) (rest := [.ref (Ad 0)]) ⟨hx, hb, hml, hown, hts⟩ (mX3_of l E H.size Ad (put (put S 7 7 0) 7 15 0) hM k (by omega) 0 (by omega) (show 0 ≤ k ∧ k < 10 by first | omega | exact hI.st _ (by omega) (by omega) | exact hI.rv _ (by omega) (by omega) | exact hI) (show 0 ≤ 0 ∧ 0 < 14 by first | omega | exact hI.st _ (by omega) (by omega) | exact hI.rv _ (by omega) (by omega) | exact hI)) (cwV 2 hts (lw_V q2441 q2443 qs44 q83 q2444) rfl rfl rfl (by decide +kernel) ⟨(Nat.le_of_ble_eq_true rfl), (Nat.le_of_ble_eq_true rfl)⟩) (kz_preVM (wc := mW E Ad (put (put S 7 7 0) 7 15 0)) (va_recv hK hP (ci := 2) (q0 := 0) rfl rfl) hG hS hAN hP hD kz_nilP kz_nilA) rfl rfl hl.1 rfl (lv_room (Nat.le_of_ble_eq_true rfl)) dX3_line_31 ⟨(Nat.le_of_ble_eq_true rfl), (Nat.le_of_ble_eq_true rfl)⟩) hP hD hS hA (fun u H9 locs9 hu hP9 hD9 hS9 hzz hkk => ?_)
      clear hzz hkk hP hD hS H locs u
      revert hS9 hD9 hP9 locs9 H9
      intro H locs hP hD hS
      have r3 : rI ((S 0 ((10 + 14 * k + 0)))) := hu
      clear hu
      replace hP : va_P (kD E) kcl (mW E Ad (put (put S 7 7 0) 7 15 0)) H := hP
      replace hD : va_D A (mW E Ad (put (put S 7 7 0) 7 15 0)) := hD
      show W p l e _ s m args below meth c H locs _ _ Q (F0 m 34 ls [.int (zI ((S 0 ((10 + 14 * k + 0))))), .ref (Ad 0)])
      refine kz_backM (va_runV (As := [.int (zI ((S 0 ((10 + 14 * k + 0)))))]) (rest := []) ⟨hx, hb, hml, hown, hts⟩ (mX3_writesNumber l E H.size Ad (put (put S 7 7 0) 7 15 0) hM ((S 0 ((10 + 14 * k + 0)))) (by omega) (show 0 ≤ 0 ∧ 0 < 39 by first | omega | exact hI.st _ (by omega) (by omega) | exact hI.rv _ (by omega) (by omega) | exact hI) (show 0 ≤ ((S 0 ((10 + 14 * k + 0)))) ∧ ((S 0 ((10 + 14 * k + 0)))) ≤ 99 by first | omega | exact hI.st _ (by omega) (by omega) | exact hI.rv _ (by omega) (by omega) | exact hI)) (cwV 1 hts (lw_V q2585 q2587 qs56 q83 q2588) rfl rfl rfl (by decide +kernel) ⟨(Nat.le_of_ble_eq_true rfl), (Nat.le_of_ble_eq_true rfl)⟩) (kz_preVM (wc := mW E Ad (put (put S 7 7 0) 7 15 0)) (va_recv hK hP (ci := 2) (q0 := 0) rfl rfl) hG hS hAN hP hD kz_nilP kz_nilA) rfl rfl hl.1 rfl (lv_room (Nat.le_of_ble_eq_true rfl)) dX3_line_34 ⟨(Nat.le_of_ble_eq_true rfl), (Nat.le_of_ble_eq_true rfl)⟩) hP hD hS hA (fun u H9 locs9 hu hP9 hD9 hS9 hzz hkk => ?_)
      clear hzz hkk hP hD hS H locs u
      revert hS9 hD9 hP9 locs9 H9
      intro H locs hP hD hS
      clear hM
      obtain ⟨hM, p4, p5⟩ := hu
      replace hM : MOk (mWs (put (put S 7 7 0) 7 15 0) (numT ((S 0 ((10 + 14 * k + 0)))))) := hM
      replace p4 : (mWs (put (put S 7 7 0) 7 15 0) (numT ((S 0 ((10 + 14 * k + 0)))))) 7 15 = 0 + (numT ((S 0 ((10 + 14 * k + 0))))).length := p4
      replace p5 : 1 ≤ ((numT ((S 0 ((10 + 14 * k + 0))))).length : Int) ∧ ((numT ((S 0 ((10 + 14 * k + 0))))).length : Int) ≤ 2 := p5
      replace hP : va_P (kD E) kcl (mW E Ad (mWs (put (put S 7 7 0) 7 15 0) (numT ((S 0 ((10 + 14 * k + 0))))))) H := hP
      replace hD : va_D A (mW E Ad (mWs (put (put S 7 7 0) 7 15 0) (numT ((S 0 ((10 + 14 * k + 0))))))) := hD
      show W p l e _ s m args below meth c H locs _ _ Q (F0 m 37 ls [])
      refine lv_aload_n hx hb dX3_line_37 rfl (lv_at hl 0 rfl) ?_
      refine kz_bipush hx hb dX3_line_38 (by decide) ?_
      refine kz_backM (va_runV (As := [.int (zI (47))]) (rest := []) ⟨hx, hb, hml, hown, hts⟩ (mX3_writes l E H.size Ad (mWs (put (put S 7 7 0) 7 15 0) (numT ((S 0 ((10 + 14 * k + 0)))))) hM 47 (by omega) (show 0 ≤ ((mWs (put (put S 7 7 0) 7 15 0) (numT ((S 0 ((10 + 14 * k + 0)))))) 7 15) ∧ ((mWs (put (put S 7 7 0) 7 15 0) (numT ((S 0 ((10 + 14 * k + 0)))))) 7 15) < 40 by first | omega | exact hI.st _ (by omega) (by omega) | exact hI.rv _ (by omega) (by omega) | exact hI) (show 0 ≤ 47 ∧ 47 < 65536 by first | omega | exact hI.st _ (by omega) (by omega) | exact hI.rv _ (by omega) (by omega) | exact hI)) (cwV 1 hts (lw_V q2589 q2591 qs57 q83 q2592) rfl rfl rfl (by decide +kernel) ⟨(Nat.le_of_ble_eq_true rfl), (Nat.le_of_ble_eq_true rfl)⟩) (kz_preVM (wc := mW E Ad (mWs (put (put S 7 7 0) 7 15 0) (numT ((S 0 ((10 + 14 * k + 0))))))) (va_recv hK hP (ci := 2) (q0 := 0) rfl rfl) hG hS hAN hP hD kz_nilP kz_nilA) rfl rfl hl.1 rfl (lv_room (Nat.le_of_ble_eq_true rfl)) dX3_line_40 ⟨(Nat.le_of_ble_eq_true rfl), (Nat.le_of_ble_eq_true rfl)⟩) hP hD hS hA (fun u H9 locs9 hu hP9 hD9 hS9 hzz hkk => ?_)
      clear hzz hkk hP hD hS H locs u
      revert hS9 hD9 hP9 locs9 H9
      intro H locs hP hD hS
      clear hM
      obtain ⟨hM, p6⟩ := hu
      replace hM : MOk (mWs (mWs (put (put S 7 7 0) 7 15 0) (numT ((S 0 ((10 + 14 * k + 0)))))) [47]) := hM
      replace p6 : (mWs (mWs (put (put S 7 7 0) 7 15 0) (numT ((S 0 ((10 + 14 * k + 0)))))) [47]) 7 15 = ((mWs (put (put S 7 7 0) 7 15 0) (numT ((S 0 ((10 + 14 * k + 0)))))) 7 15) + 1 := p6
      replace hP : va_P (kD E) kcl (mW E Ad (mWs (mWs (put (put S 7 7 0) 7 15 0) (numT ((S 0 ((10 + 14 * k + 0)))))) [47])) H := hP
      replace hD : va_D A (mW E Ad (mWs (mWs (put (put S 7 7 0) 7 15 0) (numT ((S 0 ((10 + 14 * k + 0)))))) [47])) := hD
      show W p l e _ s m args below meth c H locs _ _ Q (F0 m 43 ls [])
      refine lv_aload_n hx hb dX3_line_43 rfl (lv_at hl 0 rfl) ?_
      refine lv_aload_n hx hb dX3_line_44 rfl (lv_at hl 0 rfl) ?_
      refine lv_iload_n hx hb dX3_line_45 rfl (lv_at hl 1 rfl) ?_
      refine kz_iconst hx hb dX3_line_46 ?_
      refine kz_backM (va_runV (As := [.int (zI (k)), .int (zI (1))]) (rest := [.ref (Ad 0)]) ⟨hx, hb, hml, hown, hts⟩ (mX3_of l E H.size Ad (mWs (mWs (put (put S 7 7 0) 7 15 0) (numT ((S 0 ((10 + 14 * k + 0)))))) [47]) hM k (by omega) 1 (by omega) (show 0 ≤ k ∧ k < 10 by first | omega | exact hI.st _ (by omega) (by omega) | exact hI.rv _ (by omega) (by omega) | exact hI) (show 0 ≤ 1 ∧ 1 < 14 by first | omega | exact hI.st _ (by omega) (by omega) | exact hI.rv _ (by omega) (by omega) | exact hI)) (cwV 2 hts (lw_V q2441 q2443 qs44 q83 q2444) rfl rfl rfl (by decide +kernel) ⟨(Nat.le_of_ble_eq_true rfl), (Nat.le_of_ble_eq_true rfl)⟩) (kz_preVM (wc := mW E Ad (mWs (mWs (put (put S 7 7 0) 7 15 0) (numT ((S 0 ((10 + 14 * k + 0)))))) [47])) (va_recv hK hP (ci := 2) (q0 := 0) rfl rfl) hG hS hAN hP hD kz_nilP kz_nilA) rfl rfl hl.1 rfl (lv_room (Nat.le_of_ble_eq_true rfl)) dX3_line_47 ⟨(Nat.le_of_ble_eq_true rfl), (Nat.le_of_ble_eq_true rfl)⟩) hP hD hS hA (fun u H9 locs9 hu hP9 hD9 hS9 hzz hkk => ?_)
      clear hzz hkk hP hD hS H locs u
      revert hS9 hD9 hP9 locs9 H9
      intro H locs hP hD hS
      have r7 : rI ((S 0 ((10 + 14 * k + 1)))) := hu
      clear hu
      replace hP : va_P (kD E) kcl (mW E Ad (mWs (mWs (put (put S 7 7 0) 7 15 0) (numT ((S 0 ((10 + 14 * k + 0)))))) [47])) H := hP
      replace hD : va_D A (mW E Ad (mWs (mWs (put (put S 7 7 0) 7 15 0) (numT ((S 0 ((10 + 14 * k + 0)))))) [47])) := hD
      show W p l e _ s m args below meth c H locs _ _ Q (F0 m 50 ls [.int (zI ((S 0 ((10 + 14 * k + 1))))), .ref (Ad 0)])
      refine kz_backM (va_runV (As := [.int (zI ((S 0 ((10 + 14 * k + 1)))))]) (rest := []) ⟨hx, hb, hml, hown, hts⟩ (mX3_writesNumber l E H.size Ad (mWs (mWs (put (put S 7 7 0) 7 15 0) (numT ((S 0 ((10 + 14 * k + 0)))))) [47]) hM ((S 0 ((10 + 14 * k + 1)))) (by omega) (show 0 ≤ ((mWs (mWs (put (put S 7 7 0) 7 15 0) (numT ((S 0 ((10 + 14 * k + 0)))))) [47]) 7 15) ∧ ((mWs (mWs (put (put S 7 7 0) 7 15 0) (numT ((S 0 ((10 + 14 * k + 0)))))) [47]) 7 15) < 39 by first | omega | exact hI.st _ (by omega) (by omega) | exact hI.rv _ (by omega) (by omega) | exact hI) (show 0 ≤ ((S 0 ((10 + 14 * k + 1)))) ∧ ((S 0 ((10 + 14 * k + 1)))) ≤ 99 by first | omega | exact hI.st _ (by omega) (by omega) | exact hI.rv _ (by omega) (by omega) | exact hI)) (cwV 1 hts (lw_V q2585 q2587 qs56 q83 q2588) rfl rfl rfl (by decide +kernel) ⟨(Nat.le_of_ble_eq_true rfl), (Nat.le_of_ble_eq_true rfl)⟩) (kz_preVM (wc := mW E Ad (mWs (mWs (put (put S 7 7 0) 7 15 0) (numT ((S 0 ((10 + 14 * k + 0)))))) [47])) (va_recv hK hP (ci := 2) (q0 := 0) rfl rfl) hG hS hAN hP hD kz_nilP kz_nilA) rfl rfl hl.1 rfl (lv_room (Nat.le_of_ble_eq_true rfl)) dX3_line_50 ⟨(Nat.le_of_ble_eq_true rfl), (Nat.le_of_ble_eq_true rfl)⟩) hP hD hS hA (fun u H9 locs9 hu hP9 hD9 hS9 hzz hkk => ?_)
      clear hzz hkk hP hD hS H locs u
      revert hS9 hD9 hP9 locs9 H9
      intro H locs hP hD hS
      clear hM
      obtain ⟨hM, p8, p9⟩ := hu
      replace hM : MOk (mWs (mWs (mWs (put (put S 7 7 0) 7 15 0) (numT ((S 0 ((10 + 14 * k + 0)))))) [47]) (numT ((S 0 ((10 + 14 * k + 1)))))) := hM
      replace p8 : (mWs (mWs (mWs (put (put S 7 7 0) 7 15 0) (numT ((S 0 ((10 + 14 * k + 0)))))) [47]) (numT ((S 0 ((10 + 14 * k + 1)))))) 7 15 = ((mWs (mWs (put (put S 7 7 0) 7 15 0) (numT ((S 0 ((10 + 14 * k + 0)))))) [47]) 7 15) + (numT ((S 0 ((10 + 14 * k + 1))))).length := p8
      replace p9 : 1 ≤ ((numT ((S 0 ((10 + 14 * k + 1))))).length : Int) ∧ ((numT ((S 0 ((10 + 14 * k + 1))))).length : Int) ≤ 2 := p9
      replace hP : va_P (kD E) kcl (mW E Ad (mWs (mWs (mWs (put (put S 7 7 0) 7 15 0) (numT ((S 0 ((10 + 14 * k + 0)))))) [47]) (numT ((S 0 ((10 + 14 * k + 1))))))) H := hP
      replace hD : va_D A (mW E Ad (mWs (mWs (mWs (put (put S 7 7 0) 7 15 0) (numT ((S 0 ((10 + 14 * k + 0)))))) [47]) (numT ((S 0 ((10 + 14 * k + 1))))))) := hD
      show W p l e _ s m args below meth c H locs _ _ Q (F0 m 53 ls [])
      refine lv_aload_n hx hb dX3_line_53 rfl (lv_at hl 0 rfl) ?_
      refine kz_bipush hx hb dX3_line_54 (by decide) ?_
      refine kz_backM (va_runV (As := [.int (zI (42))]) (rest := []) ⟨hx, hb, hml, hown, hts⟩ (mX3_writes l E H.size Ad (mWs (mWs (mWs (put (put S 7 7 0) 7 15 0) (numT ((S 0 ((10 + 14 * k + 0)))))) [47]) (numT ((S 0 ((10 + 14 * k + 1)))))) hM 42 (by omega) (show 0 ≤ ((mWs (mWs (mWs (put (put S 7 7 0) 7 15 0) (numT ((S 0 ((10 + 14 * k + 0)))))) [47]) (numT ((S 0 ((10 + 14 * k + 1)))))) 7 15) ∧ ((mWs (mWs (mWs (put (put S 7 7 0) 7 15 0) (numT ((S 0 ((10 + 14 * k + 0)))))) [47]) (numT ((S 0 ((10 + 14 * k + 1)))))) 7 15) < 40 by first | omega | exact hI.st _ (by omega) (by omega) | exact hI.rv _ (by omega) (by omega) | exact hI) (show 0 ≤ 42 ∧ 42 < 65536 by first | omega | exact hI.st _ (by omega) (by omega) | exact hI.rv _ (by omega) (by omega) | exact hI)) (cwV 1 hts (lw_V q2589 q2591 qs57 q83 q2592) rfl rfl rfl (by decide +kernel) ⟨(Nat.le_of_ble_eq_true rfl), (Nat.le_of_ble_eq_true rfl)⟩) (kz_preVM (wc := mW E Ad (mWs (mWs (mWs (put (put S 7 7 0) 7 15 0) (numT ((S 0 ((10 + 14 * k + 0)))))) [47]) (numT ((S 0 ((10 + 14 * k + 1))))))) (va_recv hK hP (ci := 2) (q0 := 0) rfl rfl) hG hS hAN hP hD kz_nilP kz_nilA) rfl rfl hl.1 rfl (lv_room (Nat.le_of_ble_eq_true rfl)) dX3_line_56 ⟨(Nat.le_of_ble_eq_true rfl), (Nat.le_of_ble_eq_true rfl)⟩) hP hD hS hA (fun u H9 locs9 hu hP9 hD9 hS9 hzz hkk => ?_)
      clear hzz hkk hP hD hS H locs u
      revert hS9 hD9 hP9 locs9 H9
      intro H locs hP hD hS
      clear hM
      obtain ⟨hM, p10⟩ := hu
      replace hM : MOk (mWs (mWs (mWs (mWs (put (put S 7 7 0) 7 15 0) (numT ((S 0 ((10 + 14 * k + 0)))))) [47]) (numT ((S 0 ((10 + 14 * k + 1)))))) [42]) := hM
      replace p10 : (mWs (mWs (mWs (mWs (put (put S 7 7 0) 7 15 0) (numT ((S 0 ((10 + 14 * k + 0)))))) [47]) (numT ((S 0 ((10 + 14 * k + 1)))))) [42]) 7 15 = ((mWs (mWs (mWs (put (put S 7 7 0) 7 15 0) (numT ((S 0 ((10 + 14 * k + 0)))))) [47]) (numT ((S 0 ((10 + 14 * k + 1)))))) 7 15) + 1 := p10
      replace hP : va_P (kD E) kcl (mW E Ad (mWs (mWs (mWs (mWs (put (put S 7 7 0) 7 15 0) (numT ((S 0 ((10 + 14 * k + 0)))))) [47]) (numT ((S 0 ((10 + 14 * k + 1)))))) [42])) H := hP
      replace hD : va_D A (mW E Ad (mWs (mWs (mWs (mWs (put (put S 7 7 0) 7 15 0) (numT ((S 0 ((10 + 14 * k + 0)))))) [47]) (numT ((S 0 ((10 + 14 * k + 1)))))) [42])) := hD
      show W p l e _ s m args below meth c H locs _ _ Q (F0 m 59 ls [])
      refine lv_aload_n hx hb dX3_line_59 rfl (lv_at hl 0 rfl) ?_
      refine lv_aload_n hx hb dX3_line_60 rfl (lv_at hl 0 rfl) ?_
      refine lv_iload_n hx hb dX3_line_61 rfl (lv_at hl 1 rfl) ?_
      refine kz_iconst hx hb dX3_line_62 ?_
      refine kz_backM (va_runV (As := [.int (zI (k)), .int (zI (2))]) (rest := [.ref (Ad 0)]) ⟨hx, hb, hml, hown, hts⟩ (mX3_of l E H.size Ad (mWs (mWs (mWs (mWs (put (put S 7 7 0) 7 15 0) (numT ((S 0 ((10 + 14 * k + 0)))))) [47]) (numT ((S 0 ((10 + 14 * k + 1)))))) [42]) hM k (by omega) 2 (by omega) (show 0 ≤ k ∧ k < 10 by first | omega | exact hI.st _ (by omega) (by omega) | exact hI.rv _ (by omega) (by omega) | exact hI) (show 0 ≤ 2 ∧ 2 < 14 by first | omega | exact hI.st _ (by omega) (by omega) | exact hI.rv _ (by omega) (by omega) | exact hI)) (cwV 2 hts (lw_V q2441 q2443 qs44 q83 q2444) rfl rfl rfl (by decide +kernel) ⟨(Nat.le_of_ble_eq_true rfl), (Nat.le_of_ble_eq_true rfl)⟩) (kz_preVM (wc := mW E Ad (mWs (mWs (mWs (mWs (put (put S 7 7 0) 7 15 0) (numT ((S 0 ((10 + 14 * k + 0)))))) [47]) (numT ((S 0 ((10 + 14 * k + 1)))))) [42])) (va_recv hK hP (ci := 2) (q0 := 0) rfl rfl) hG hS hAN hP hD kz_nilP kz_nilA) rfl rfl hl.1 rfl (lv_room (Nat.le_of_ble_eq_true rfl)) dX3_line_63 ⟨(Nat.le_of_ble_eq_true rfl), (Nat.le_of_ble_eq_true rfl)⟩) hP hD hS hA (fun u H9 locs9 hu hP9 hD9 hS9 hzz hkk => ?_)
      clear hzz hkk hP hD hS H locs u
      revert hS9 hD9 hP9 locs9 H9
      intro H locs hP hD hS
      have r11 : rI ((S 0 ((10 + 14 * k + 2)))) := hu
      clear hu
      replace hP : va_P (kD E) kcl (mW E Ad (mWs (mWs (mWs (mWs (put (put S 7 7 0) 7 15 0) (numT ((S 0 ((10 + 14 * k + 0)))))) [47]) (numT ((S 0 ((10 + 14 * k + 1)))))) [42])) H := hP
      replace hD : va_D A (mW E Ad (mWs (mWs (mWs (mWs (put (put S 7 7 0) 7 15 0) (numT ((S 0 ((10 + 14 * k + 0)))))) [47]) (numT ((S 0 ((10 + 14 * k + 1)))))) [42])) := hD
      show W p l e _ s m args below meth c H locs _ _ Q (F0 m 66 ls [.int (zI ((S 0 ((10 + 14 * k + 2))))), .ref (Ad 0)])
      refine kz_backM (va_runV (As := [.int (zI ((S 0 ((10 + 14 * k + 2)))))]) (rest := []) ⟨hx, hb, hml, hown, hts⟩ (mX3_writesNumber l E H.size Ad (mWs (mWs (mWs (mWs (put (put S 7 7 0) 7 15 0) (numT ((S 0 ((10 + 14 * k + 0)))))) [47]) (numT ((S 0 ((10 + 14 * k + 1)))))) [42]) hM ((S 0 ((10 + 14 * k + 2)))) (by omega) (show 0 ≤ ((mWs (mWs (mWs (mWs (put (put S 7 7 0) 7 15 0) (numT ((S 0 ((10 + 14 * k + 0)))))) [47]) (numT ((S 0 ((10 + 14 * k + 1)))))) [42]) 7 15) ∧ ((mWs (mWs (mWs (mWs (put (put S 7 7 0) 7 15 0) (numT ((S 0 ((10 + 14 * k + 0)))))) [47]) (numT ((S 0 ((10 + 14 * k + 1)))))) [42]) 7 15) < 39 by first | omega | exact hI.st _ (by omega) (by omega) | exact hI.rv _ (by omega) (by omega) | exact hI) (show 0 ≤ ((S 0 ((10 + 14 * k + 2)))) ∧ ((S 0 ((10 + 14 * k + 2)))) ≤ 99 by first | omega | exact hI.st _ (by omega) (by omega) | exact hI.rv _ (by omega) (by omega) | exact hI)) (cwV 1 hts (lw_V q2585 q2587 qs56 q83 q2588) rfl rfl rfl (by decide +kernel) ⟨(Nat.le_of_ble_eq_true rfl), (Nat.le_of_ble_eq_true rfl)⟩) (kz_preVM (wc := mW E Ad (mWs (mWs (mWs (mWs (put (put S 7 7 0) 7 15 0) (numT ((S 0 ((10 + 14 * k + 0)))))) [47]) (numT ((S 0 ((10 + 14 * k + 1)))))) [42])) (va_recv hK hP (ci := 2) (q0 := 0) rfl rfl) hG hS hAN hP hD kz_nilP kz_nilA) rfl rfl hl.1 rfl (lv_room (Nat.le_of_ble_eq_true rfl)) dX3_line_66 ⟨(Nat.le_of_ble_eq_true rfl), (Nat.le_of_ble_eq_true rfl)⟩) hP hD hS hA (fun u H9 locs9 hu hP9 hD9 hS9 hzz hkk => ?_)
      clear hzz hkk hP hD hS H locs u
      revert hS9 hD9 hP9 locs9 H9
      intro H locs hP hD hS
      clear hM
      obtain ⟨hM, p12, p13⟩ := hu
      replace hM : MOk (mWs (mWs (mWs (mWs (mWs (put (put S 7 7 0) 7 15 0) (numT ((S 0 ((10 + 14 * k + 0)))))) [47]) (numT ((S 0 ((10 + 14 * k + 1)))))) [42]) (numT ((S 0 ((10 + 14 * k + 2)))))) := hM
      replace p12 : (mWs (mWs (mWs (mWs (mWs (put (put S 7 7 0) 7 15 0) (numT ((S 0 ((10 + 14 * k + 0)))))) [47]) (numT ((S 0 ((10 + 14 * k + 1)))))) [42]) (numT ((S 0 ((10 + 14 * k + 2)))))) 7 15 = ((mWs (mWs (mWs (mWs (put (put S 7 7 0) 7 15 0) (numT ((S 0 ((10 + 14 * k + 0)))))) [47]) (numT ((S 0 ((10 + 14 * k + 1)))))) [42]) 7 15) + (numT ((S 0 ((10 + 14 * k + 2))))).length := p12
      replace p13 : 1 ≤ ((numT ((S 0 ((10 + 14 * k + 2))))).length : Int) ∧ ((numT ((S 0 ((10 + 14 * k + 2))))).length : Int) ≤ 2 := p13
      replace hP : va_P (kD E) kcl (mW E Ad (mWs (mWs (mWs (mWs (mWs (put (put S 7 7 0) 7 15 0) (numT ((S 0 ((10 + 14 * k + 0)))))) [47]) (numT ((S 0 ((10 + 14 * k + 1)))))) [42]) (numT ((S 0 ((10 + 14 * k + 2))))))) H := hP
      replace hD : va_D A (mW E Ad (mWs (mWs (mWs (mWs (mWs (put (put S 7 7 0) 7 15 0) (numT ((S 0 ((10 + 14 * k + 0)))))) [47]) (numT ((S 0 ((10 + 14 * k + 1)))))) [42]) (numT ((S 0 ((10 + 14 * k + 2))))))) := hD
      show W p l e _ s m args below meth c H locs _ _ Q (F0 m 69 ls [])
      refine lv_aload_n hx hb dX3_line_69 rfl (lv_at hl 0 rfl) ?_
      refine lv_iload_n hx hb dX3_line_70 rfl (lv_at hl 1 rfl) ?_
      refine kz_iconst hx hb dX3_line_71 ?_
      refine kz_backM (va_runV (As := [.int (zI (k)), .int (zI (3))]) (rest := []) ⟨hx, hb, hml, hown, hts⟩ (mX3_of l E H.size Ad (mWs (mWs (mWs (mWs (mWs (put (put S 7 7 0) 7 15 0) (numT ((S 0 ((10 + 14 * k + 0)))))) [47]) (numT ((S 0 ((10 + 14 * k + 1)))))) [42]) (numT ((S 0 ((10 + 14 * k + 2)))))) hM k (by omega) 3 (by omega) (show 0 ≤ k ∧ k < 10 by first | omega | exact hI.st _ (by omega) (by omega) | exact hI.rv _ (by omega) (by omega) | exact hI) (show 0 ≤ 3 ∧ 3 < 14 by first | omega | exact hI.st _ (by omega) (by omega) | exact hI.rv _ (by omega) (by omega) | exact hI)) (cwV 2 hts (lw_V q2441 q2443 qs44 q83 q2444) rfl rfl rfl (by decide +kernel) ⟨(Nat.le_of_ble_eq_true rfl), (Nat.le_of_ble_eq_true rfl)⟩) (kz_preVM (wc := mW E Ad (mWs (mWs (mWs (mWs (mWs (put (put S 7 7 0) 7 15 0) (numT ((S 0 ((10 + 14 * k + 0)))))) [47]) (numT ((S 0 ((10 + 14 * k + 1)))))) [42]) (numT ((S 0 ((10 + 14 * k + 2))))))) (va_recv hK hP (ci := 2) (q0 := 0) rfl rfl) hG hS hAN hP hD kz_nilP kz_nilA) rfl rfl hl.1 rfl (lv_room (Nat.le_of_ble_eq_true rfl)) dX3_line_72 ⟨(Nat.le_of_ble_eq_true rfl), (Nat.le_of_ble_eq_true rfl)⟩) hP hD hS hA (fun u H9 locs9 hu hP9 hD9 hS9 hzz hkk => ?_)
      clear hzz hkk hP hD hS H locs u
      revert hS9 hD9 hP9 locs9 H9
      intro H locs hP hD hS
      have r14 : rI ((S 0 ((10 + 14 * k + 3)))) := hu
      clear hu
      replace hP : va_P (kD E) kcl (mW E Ad (mWs (mWs (mWs (mWs (mWs (put (put S 7 7 0) 7 15 0) (numT ((S 0 ((10 + 14 * k + 0)))))) [47]) (numT ((S 0 ((10 + 14 * k + 1)))))) [42]) (numT ((S 0 ((10 + 14 * k + 2))))))) H := hP
      replace hD : va_D A (mW E Ad (mWs (mWs (mWs (mWs (mWs (put (put S 7 7 0) 7 15 0) (numT ((S 0 ((10 + 14 * k + 0)))))) [47]) (numT ((S 0 ((10 + 14 * k + 1)))))) [42]) (numT ((S 0 ((10 + 14 * k + 2))))))) := hD
      show W p l e _ s m args below meth c H locs _ _ Q (F0 m 75 ls [.int (zI ((S 0 ((10 + 14 * k + 3)))))])
      refine kz_if_lt (tgt := 94) hx hb dX3_line_75 (by decide) (by omega) (fun c75 => ?_) (fun c75 => ?_)
      · skip
        refine lv_aload_n hx hb dX3_line_94 rfl (lv_at hl 0 rfl) ?_
        refine lv_iload_n hx hb dX3_line_95 rfl (lv_at hl 1 rfl) ?_
        refine kz_backM (va_runV (As := [.int (zI (k))]) (rest := []) ⟨hx, hb, hml, hown, hts⟩ (mX3_isSunk l E H.size Ad (mWs (mWs (mWs (mWs (mWs (put (put S 7 7 0) 7 15 0) (numT ((S 0 ((10 + 14 * k + 0)))))) [47]) (numT ((S 0 ((10 + 14 * k + 1)))))) [42]) (numT ((S 0 ((10 + 14 * k + 2)))))) hM k (by omega) (show 0 ≤ k ∧ k < 10 by first | omega | exact hI.st _ (by omega) (by omega) | exact hI.rv _ (by omega) (by omega) | exact hI)) (cwV 1 hts (lw_V q2480 q2482 qs50 q83 q2483) rfl rfl rfl (by decide +kernel) ⟨(Nat.le_of_ble_eq_true rfl), (Nat.le_of_ble_eq_true rfl)⟩) (kz_preVM (wc := mW E Ad (mWs (mWs (mWs (mWs (mWs (put (put S 7 7 0) 7 15 0) (numT ((S 0 ((10 + 14 * k + 0)))))) [47]) (numT ((S 0 ((10 + 14 * k + 1)))))) [42]) (numT ((S 0 ((10 + 14 * k + 2))))))) (va_recv hK hP (ci := 2) (q0 := 0) rfl rfl) hG hS hAN hP hD kz_nilP kz_nilA) rfl rfl hl.1 rfl (lv_room (Nat.le_of_ble_eq_true rfl)) dX3_line_96 ⟨(Nat.le_of_ble_eq_true rfl), (Nat.le_of_ble_eq_true rfl)⟩) hP hD hS hA (fun u H9 locs9 hu hP9 hD9 hS9 hzz hkk => ?_)
        clear hzz hkk hP hD hS H locs u
        revert hS9 hD9 hP9 locs9 H9
        intro H locs hP hD hS
        clear hu
        replace hP : va_P (kD E) kcl (mW E Ad (mWs (mWs (mWs (mWs (mWs (put (put S 7 7 0) 7 15 0) (numT ((S 0 ((10 + 14 * k + 0)))))) [47]) (numT ((S 0 ((10 + 14 * k + 1)))))) [42]) (numT ((S 0 ((10 + 14 * k + 2))))))) H := hP
        replace hD : va_D A (mW E Ad (mWs (mWs (mWs (mWs (mWs (put (put S 7 7 0) 7 15 0) (numT ((S 0 ((10 + 14 * k + 0)))))) [47]) (numT ((S 0 ((10 + 14 * k + 1)))))) [42]) (numT ((S 0 ((10 + 14 * k + 2))))))) := hD
        show W p l e _ s m args below meth c H locs _ _ Q (F0 m 99 ls [.int (zI (b2 ((S 0 ((10 + 14 * k + 5))) = -2)))])
        refine kz_if0B (tgt := 111) hx hb dX3_line_99 (by decide) (fun c99 => ?_) (fun c99 => ?_)
        · skip
          refine lv_aload_n hx hb dX3_line_111 rfl (lv_at hl 0 rfl) ?_
          refine lv_iload_n hx hb dX3_line_112 rfl (lv_at hl 1 rfl) ?_
          refine kz_iconst hx hb dX3_line_113 ?_
          refine kz_backM (va_runV (As := [.int (zI (k)), .int (zI (5))]) (rest := []) ⟨hx, hb, hml, hown, hts⟩ (mX3_of l E H.size Ad (mWs (mWs (mWs (mWs (mWs (put (put S 7 7 0) 7 15 0) (numT ((S 0 ((10 + 14 * k + 0)))))) [47]) (numT ((S 0 ((10 + 14 * k + 1)))))) [42]) (numT ((S 0 ((10 + 14 * k + 2)))))) hM k (by omega) 5 (by omega) (show 0 ≤ k ∧ k < 10 by first | omega | exact hI.st _ (by omega) (by omega) | exact hI.rv _ (by omega) (by omega) | exact hI) (show 0 ≤ 5 ∧ 5 < 14 by first | omega | exact hI.st _ (by omega) (by omega) | exact hI.rv _ (by omega) (by omega) | exact hI)) (cwV 2 hts (lw_V q2441 q2443 qs44 q83 q2444) rfl rfl rfl (by decide +kernel) ⟨(Nat.le_of_ble_eq_true rfl), (Nat.le_of_ble_eq_true rfl)⟩) (kz_preVM (wc := mW E Ad (mWs (mWs (mWs (mWs (mWs (put (put S 7 7 0) 7 15 0) (numT ((S 0 ((10 + 14 * k + 0)))))) [47]) (numT ((S 0 ((10 + 14 * k + 1)))))) [42]) (numT ((S 0 ((10 + 14 * k + 2))))))) (va_recv hK hP (ci := 2) (q0 := 0) rfl rfl) hG hS hAN hP hD kz_nilP kz_nilA) rfl rfl hl.1 rfl (lv_room (Nat.le_of_ble_eq_true rfl)) dX3_line_114 ⟨(Nat.le_of_ble_eq_true rfl), (Nat.le_of_ble_eq_true rfl)⟩) hP hD hS hA (fun u H9 locs9 hu hP9 hD9 hS9 hzz hkk => ?_)
          clear hzz hkk hP hD hS H locs u
          revert hS9 hD9 hP9 locs9 H9
          intro H locs hP hD hS
          have r15 : rI ((S 0 ((10 + 14 * k + 5)))) := hu
          clear hu
          replace hP : va_P (kD E) kcl (mW E Ad (mWs (mWs (mWs (mWs (mWs (put (put S 7 7 0) 7 15 0) (numT ((S 0 ((10 + 14 * k + 0)))))) [47]) (numT ((S 0 ((10 + 14 * k + 1)))))) [42]) (numT ((S 0 ((10 + 14 * k + 2))))))) H := hP
          replace hD : va_D A (mW E Ad (mWs (mWs (mWs (mWs (mWs (put (put S 7 7 0) 7 15 0) (numT ((S 0 ((10 + 14 * k + 0)))))) [47]) (numT ((S 0 ((10 + 14 * k + 1)))))) [42]) (numT ((S 0 ((10 + 14 * k + 2))))))) := hD
          show W p l e _ s m args below meth c H locs _ _ Q (F0 m 117 ls [.int (zI ((S 0 ((10 + 14 * k + 5)))))])
          refine kz_if_lt (tgt := 136) hx hb dX3_line_117 (by decide) (by omega) (fun c117 => ?_) (fun c117 => ?_)
          · skip
            refine lv_aload_n hx hb dX3_line_136 rfl (lv_at hl 0 rfl) ?_
            have r16 : rI ((mWs (mWs (mWs (mWs (mWs (put (put S 7 7 0) 7 15 0) (numT ((S 0 ((10 + 14 * k + 0)))))) [47]) (numT ((S 0 ((10 + 14 * k + 1)))))) [42]) (numT ((S 0 ((10 + 14 * k + 2)))))) 7 15) := hM 7 15
            refine va_get (D := kD E) (ci := 2) (fs := mO Ad (mWs (mWs (mWs (mWs (mWs (put (put S 7 7 0) 7 15 0) (numT ((S 0 ((10 + 14 * k + 0)))))) [47]) (numT ((S 0 ((10 + 14 * k + 1)))))) [42]) (numT ((S 0 ((10 + 14 * k + 2))))))) (v := .int (zI ((mWs (mWs (mWs (mWs (mWs (put (put S 7 7 0) 7 15 0) (numT ((S 0 ((10 + 14 * k + 0)))))) [47]) (numT ((S 0 ((10 + 14 * k + 1)))))) [42]) (numT ((S 0 ((10 + 14 * k + 2)))))) 7 15))) (C := RX3) (T := TX3) (N := 19) hx hb hts in_X3 hown hK hP 0 rfl rfl 15 (by decide) (hts _ q2335) (fun _ h9 => h9) rfl dX3_line_137 ?_
            have e0 : xLine S k = (mWs (mWs (mWs (mWs (mWs (put (put S 7 7 0) 7 15 0) (numT ((S 0 ((10 + 14 * k + 0)))))) [47]) (numT ((S 0 ((10 + 14 * k + 1)))))) [42]) (numT ((S 0 ((10 + 14 * k + 2))))), (mWs (mWs (mWs (mWs (mWs (put (put S 7 7 0) 7 15 0) (numT ((S 0 ((10 + 14 * k + 0)))))) [47]) (numT ((S 0 ((10 + 14 * k + 1)))))) [42]) (numT ((S 0 ((10 + 14 * k + 2)))))) 7 15) := by 
                                                                    unfold xLine
                                                                    refine Eq.trans (if_neg (by omega)) ?_
                                                                    have eS : mWs (mWs (mWs (mWs (mWs (put (put S 7 7 0) 7 15 0) (numT ((S 0 ((10 + 14 * k + 0)))))) [47]) (numT ((S 0 ((10 + 14 * k + 1)))))) [42]) (numT ((S 0 ((10 + 14 * k + 2))))) = mWs (put (put S 7 7 0) 7 15 0) (lineT (S 0) k) := (by
                                          unfold lineT
                                          (first | rw [if_pos (show 0 ≤ S 0 (10 + 14 * k + 3) by omega)] | rw [if_neg (show ¬ (0 ≤ S 0 (10 + 14 * k + 3)) by omega)] | skip)
                                          (first | rw [if_pos (show S 0 (10 + 14 * k + 5) = -2 by omega)] | rw [if_neg (show ¬ (S 0 (10 + 14 * k + 5) = -2) by omega)] | skip)
                                          (first | rw [if_pos (show 0 ≤ S 0 (10 + 14 * k + 5) by omega)] | rw [if_neg (show ¬ (0 ≤ S 0 (10 + 14 * k + 5)) by omega)] | skip)
                                          simp only [mWs_app, List.append_assoc, List.append_nil])
                                                                    rw [eS]
                                                                    refine Prod.ext rfl ?_
                                                                    show ((lineT (S 0) k).length : Int) = 0 + (lineT (S 0) k).length; omega
            have e1 : (xLine S k).2 = (mWs (mWs (mWs (mWs (mWs (put (put S 7 7 0) 7 15 0) (numT ((S 0 ((10 + 14 * k + 0)))))) [47]) (numT ((S 0 ((10 + 14 * k + 1)))))) [42]) (numT ((S 0 ((10 + 14 * k + 2)))))) 7 15 := by rw [e0]
            have e3 : (xLine S k).1 = mWs (mWs (mWs (mWs (mWs (put (put S 7 7 0) 7 15 0) (numT ((S 0 ((10 + 14 * k + 0)))))) [47]) (numT ((S 0 ((10 + 14 * k + 1)))))) [42]) (numT ((S 0 ((10 + 14 * k + 2))))) := by rw [e0]
            exact kz_iret () hx hb hr hlk hP hD hS dX3_line_140 (congrArg (fun z : Int => some (Value.int (zI z))) e1) ⟨(kz_r e1 (by omega)), (kz_M e3 hM)⟩ (congrArg (mW E Ad) e3) hQ (Nat.le_of_ble_eq_true rfl) (Nat.le_of_ble_eq_true rfl)
          · skip
            refine lv_aload_n hx hb dX3_line_120 rfl (lv_at hl 0 rfl) ?_
            refine kz_bipush hx hb dX3_line_121 (by decide) ?_
            refine kz_backM (va_runV (As := [.int (zI (62))]) (rest := []) ⟨hx, hb, hml, hown, hts⟩ (mX3_writes l E H.size Ad (mWs (mWs (mWs (mWs (mWs (put (put S 7 7 0) 7 15 0) (numT ((S 0 ((10 + 14 * k + 0)))))) [47]) (numT ((S 0 ((10 + 14 * k + 1)))))) [42]) (numT ((S 0 ((10 + 14 * k + 2)))))) hM 62 (by omega) (show 0 ≤ ((mWs (mWs (mWs (mWs (mWs (put (put S 7 7 0) 7 15 0) (numT ((S 0 ((10 + 14 * k + 0)))))) [47]) (numT ((S 0 ((10 + 14 * k + 1)))))) [42]) (numT ((S 0 ((10 + 14 * k + 2)))))) 7 15) ∧ ((mWs (mWs (mWs (mWs (mWs (put (put S 7 7 0) 7 15 0) (numT ((S 0 ((10 + 14 * k + 0)))))) [47]) (numT ((S 0 ((10 + 14 * k + 1)))))) [42]) (numT ((S 0 ((10 + 14 * k + 2)))))) 7 15) < 40 by first | omega | exact hI.st _ (by omega) (by omega) | exact hI.rv _ (by omega) (by omega) | exact hI) (show 0 ≤ 62 ∧ 62 < 65536 by first | omega | exact hI.st _ (by omega) (by omega) | exact hI.rv _ (by omega) (by omega) | exact hI)) (cwV 1 hts (lw_V q2589 q2591 qs57 q83 q2592) rfl rfl rfl (by decide +kernel) ⟨(Nat.le_of_ble_eq_true rfl), (Nat.le_of_ble_eq_true rfl)⟩) (kz_preVM (wc := mW E Ad (mWs (mWs (mWs (mWs (mWs (put (put S 7 7 0) 7 15 0) (numT ((S 0 ((10 + 14 * k + 0)))))) [47]) (numT ((S 0 ((10 + 14 * k + 1)))))) [42]) (numT ((S 0 ((10 + 14 * k + 2))))))) (va_recv hK hP (ci := 2) (q0 := 0) rfl rfl) hG hS hAN hP hD kz_nilP kz_nilA) rfl rfl hl.1 rfl (lv_room (Nat.le_of_ble_eq_true rfl)) dX3_line_123 ⟨(Nat.le_of_ble_eq_true rfl), (Nat.le_of_ble_eq_true rfl)⟩) hP hD hS hA (fun u H9 locs9 hu hP9 hD9 hS9 hzz hkk => ?_)
            clear hzz hkk hP hD hS H locs u
            revert hS9 hD9 hP9 locs9 H9
            intro H locs hP hD hS
            clear hM
            obtain ⟨hM, p17⟩ := hu
            replace hM : MOk (mWs (mWs (mWs (mWs (mWs (mWs (put (put S 7 7 0) 7 15 0) (numT ((S 0 ((10 + 14 * k + 0)))))) [47]) (numT ((S 0 ((10 + 14 * k + 1)))))) [42]) (numT ((S 0 ((10 + 14 * k + 2)))))) [62]) := hM
            replace p17 : (mWs (mWs (mWs (mWs (mWs (mWs (put (put S 7 7 0) 7 15 0) (numT ((S 0 ((10 + 14 * k + 0)))))) [47]) (numT ((S 0 ((10 + 14 * k + 1)))))) [42]) (numT ((S 0 ((10 + 14 * k + 2)))))) [62]) 7 15 = ((mWs (mWs (mWs (mWs (mWs (put (put S 7 7 0) 7 15 0) (numT ((S 0 ((10 + 14 * k + 0)))))) [47]) (numT ((S 0 ((10 + 14 * k + 1)))))) [42]) (numT ((S 0 ((10 + 14 * k + 2)))))) 7 15) + 1 := p17
            replace hP : va_P (kD E) kcl (mW E Ad (mWs (mWs (mWs (mWs (mWs (mWs (put (put S 7 7 0) 7 15 0) (numT ((S 0 ((10 + 14 * k + 0)))))) [47]) (numT ((S 0 ((10 + 14 * k + 1)))))) [42]) (numT ((S 0 ((10 + 14 * k + 2)))))) [62])) H := hP
            replace hD : va_D A (mW E Ad (mWs (mWs (mWs (mWs (mWs (mWs (put (put S 7 7 0) 7 15 0) (numT ((S 0 ((10 + 14 * k + 0)))))) [47]) (numT ((S 0 ((10 + 14 * k + 1)))))) [42]) (numT ((S 0 ((10 + 14 * k + 2)))))) [62])) := hD
            show W p l e _ s m args below meth c H locs _ _ Q (F0 m 126 ls [])
            refine lv_aload_n hx hb dX3_line_126 rfl (lv_at hl 0 rfl) ?_
            refine lv_aload_n hx hb dX3_line_127 rfl (lv_at hl 0 rfl) ?_
            refine lv_iload_n hx hb dX3_line_128 rfl (lv_at hl 1 rfl) ?_
            refine kz_iconst hx hb dX3_line_129 ?_
            refine kz_backM (va_runV (As := [.int (zI (k)), .int (zI (5))]) (rest := [.ref (Ad 0)]) ⟨hx, hb, hml, hown, hts⟩ (mX3_of l E H.size Ad (mWs (mWs (mWs (mWs (mWs (mWs (put (put S 7 7 0) 7 15 0) (numT ((S 0 ((10 + 14 * k + 0)))))) [47]) (numT ((S 0 ((10 + 14 * k + 1)))))) [42]) (numT ((S 0 ((10 + 14 * k + 2)))))) [62]) hM k (by omega) 5 (by omega) (show 0 ≤ k ∧ k < 10 by first | omega | exact hI.st _ (by omega) (by omega) | exact hI.rv _ (by omega) (by omega) | exact hI) (show 0 ≤ 5 ∧ 5 < 14 by first | omega | exact hI.st _ (by omega) (by omega) | exact hI.rv _ (by omega) (by omega) | exact hI)) (cwV 2 hts (lw_V q2441 q2443 qs44 q83 q2444) rfl rfl rfl (by decide +kernel) ⟨(Nat.le_of_ble_eq_true rfl), (Nat.le_of_ble_eq_true rfl)⟩) (kz_preVM (wc := mW E Ad (mWs (mWs (mWs (mWs (mWs (mWs (put (put S 7 7 0) 7 15 0) (numT ((S 0 ((10 + 14 * k + 0)))))) [47]) (numT ((S 0 ((10 + 14 * k + 1)))))) [42]) (numT ((S 0 ((10 + 14 * k + 2)))))) [62])) (va_recv hK hP (ci := 2) (q0 := 0) rfl rfl) hG hS hAN hP hD kz_nilP kz_nilA) rfl rfl hl.1 rfl (lv_room (Nat.le_of_ble_eq_true rfl)) dX3_line_130 ⟨(Nat.le_of_ble_eq_true rfl), (Nat.le_of_ble_eq_true rfl)⟩) hP hD hS hA (fun u H9 locs9 hu hP9 hD9 hS9 hzz hkk => ?_)
            clear hzz hkk hP hD hS H locs u
            revert hS9 hD9 hP9 locs9 H9
            intro H locs hP hD hS
            have r18 : rI ((S 0 ((10 + 14 * k + 5)))) := hu
            clear hu
            replace hP : va_P (kD E) kcl (mW E Ad (mWs (mWs (mWs (mWs (mWs (mWs (put (put S 7 7 0) 7 15 0) (numT ((S 0 ((10 + 14 * k + 0)))))) [47]) (numT ((S 0 ((10 + 14 * k + 1)))))) [42]) (numT ((S 0 ((10 + 14 * k + 2)))))) [62])) H := hP
            replace hD : va_D A (mW E Ad (mWs (mWs (mWs (mWs (mWs (mWs (put (put S 7 7 0) 7 15 0) (numT ((S 0 ((10 + 14 * k + 0)))))) [47]) (numT ((S 0 ((10 + 14 * k + 1)))))) [42]) (numT ((S 0 ((10 + 14 * k + 2)))))) [62])) := hD
            show W p l e _ s m args below meth c H locs _ _ Q (F0 m 133 ls [.int (zI ((S 0 ((10 + 14 * k + 5))))), .ref (Ad 0)])
            refine kz_backM (va_runV (As := [.int (zI ((S 0 ((10 + 14 * k + 5)))))]) (rest := []) ⟨hx, hb, hml, hown, hts⟩ (mX3_writesNumber l E H.size Ad (mWs (mWs (mWs (mWs (mWs (mWs (put (put S 7 7 0) 7 15 0) (numT ((S 0 ((10 + 14 * k + 0)))))) [47]) (numT ((S 0 ((10 + 14 * k + 1)))))) [42]) (numT ((S 0 ((10 + 14 * k + 2)))))) [62]) hM ((S 0 ((10 + 14 * k + 5)))) (by omega) (show 0 ≤ ((mWs (mWs (mWs (mWs (mWs (mWs (put (put S 7 7 0) 7 15 0) (numT ((S 0 ((10 + 14 * k + 0)))))) [47]) (numT ((S 0 ((10 + 14 * k + 1)))))) [42]) (numT ((S 0 ((10 + 14 * k + 2)))))) [62]) 7 15) ∧ ((mWs (mWs (mWs (mWs (mWs (mWs (put (put S 7 7 0) 7 15 0) (numT ((S 0 ((10 + 14 * k + 0)))))) [47]) (numT ((S 0 ((10 + 14 * k + 1)))))) [42]) (numT ((S 0 ((10 + 14 * k + 2)))))) [62]) 7 15) < 39 by first | omega | exact hI.st _ (by omega) (by omega) | exact hI.rv _ (by omega) (by omega) | exact hI) (show 0 ≤ ((S 0 ((10 + 14 * k + 5)))) ∧ ((S 0 ((10 + 14 * k + 5)))) ≤ 99 by first | omega | exact hI.st _ (by omega) (by omega) | exact hI.rv _ (by omega) (by omega) | exact hI)) (cwV 1 hts (lw_V q2585 q2587 qs56 q83 q2588) rfl rfl rfl (by decide +kernel) ⟨(Nat.le_of_ble_eq_true rfl), (Nat.le_of_ble_eq_true rfl)⟩) (kz_preVM (wc := mW E Ad (mWs (mWs (mWs (mWs (mWs (mWs (put (put S 7 7 0) 7 15 0) (numT ((S 0 ((10 + 14 * k + 0)))))) [47]) (numT ((S 0 ((10 + 14 * k + 1)))))) [42]) (numT ((S 0 ((10 + 14 * k + 2)))))) [62])) (va_recv hK hP (ci := 2) (q0 := 0) rfl rfl) hG hS hAN hP hD kz_nilP kz_nilA) rfl rfl hl.1 rfl (lv_room (Nat.le_of_ble_eq_true rfl)) dX3_line_133 ⟨(Nat.le_of_ble_eq_true rfl), (Nat.le_of_ble_eq_true rfl)⟩) hP hD hS hA (fun u H9 locs9 hu hP9 hD9 hS9 hzz hkk => ?_)
            clear hzz hkk hP hD hS H locs u
            revert hS9 hD9 hP9 locs9 H9
            intro H locs hP hD hS
            clear hM
            obtain ⟨hM, p19, p20⟩ := hu
            replace hM : MOk (mWs (mWs (mWs (mWs (mWs (mWs (mWs (put (put S 7 7 0) 7 15 0) (numT ((S 0 ((10 + 14 * k + 0)))))) [47]) (numT ((S 0 ((10 + 14 * k + 1)))))) [42]) (numT ((S 0 ((10 + 14 * k + 2)))))) [62]) (numT ((S 0 ((10 + 14 * k + 5)))))) := hM
            replace p19 : (mWs (mWs (mWs (mWs (mWs (mWs (mWs (put (put S 7 7 0) 7 15 0) (numT ((S 0 ((10 + 14 * k + 0)))))) [47]) (numT ((S 0 ((10 + 14 * k + 1)))))) [42]) (numT ((S 0 ((10 + 14 * k + 2)))))) [62]) (numT ((S 0 ((10 + 14 * k + 5)))))) 7 15 = ((mWs (mWs (mWs (mWs (mWs (mWs (put (put S 7 7 0) 7 15 0) (numT ((S 0 ((10 + 14 * k + 0)))))) [47]) (numT ((S 0 ((10 + 14 * k + 1)))))) [42]) (numT ((S 0 ((10 + 14 * k + 2)))))) [62]) 7 15) + (numT ((S 0 ((10 + 14 * k + 5))))).length := p19
            replace p20 : 1 ≤ ((numT ((S 0 ((10 + 14 * k + 5))))).length : Int) ∧ ((numT ((S 0 ((10 + 14 * k + 5))))).length : Int) ≤ 2 := p20
            replace hP : va_P (kD E) kcl (mW E Ad (mWs (mWs (mWs (mWs (mWs (mWs (mWs (put (put S 7 7 0) 7 15 0) (numT ((S 0 ((10 + 14 * k + 0)))))) [47]) (numT ((S 0 ((10 + 14 * k + 1)))))) [42]) (numT ((S 0 ((10 + 14 * k + 2)))))) [62]) (numT ((S 0 ((10 + 14 * k + 5))))))) H := hP
            replace hD : va_D A (mW E Ad (mWs (mWs (mWs (mWs (mWs (mWs (mWs (put (put S 7 7 0) 7 15 0) (numT ((S 0 ((10 + 14 * k + 0)))))) [47]) (numT ((S 0 ((10 + 14 * k + 1)))))) [42]) (numT ((S 0 ((10 + 14 * k + 2)))))) [62]) (numT ((S 0 ((10 + 14 * k + 5))))))) := hD
            show W p l e _ s m args below meth c H locs _ _ Q (F0 m 136 ls [])
            refine lv_aload_n hx hb dX3_line_136 rfl (lv_at hl 0 rfl) ?_
            have r21 : rI ((mWs (mWs (mWs (mWs (mWs (mWs (mWs (put (put S 7 7 0) 7 15 0) (numT ((S 0 ((10 + 14 * k + 0)))))) [47]) (numT ((S 0 ((10 + 14 * k + 1)))))) [42]) (numT ((S 0 ((10 + 14 * k + 2)))))) [62]) (numT ((S 0 ((10 + 14 * k + 5)))))) 7 15) := hM 7 15
            refine va_get (D := kD E) (ci := 2) (fs := mO Ad (mWs (mWs (mWs (mWs (mWs (mWs (mWs (put (put S 7 7 0) 7 15 0) (numT ((S 0 ((10 + 14 * k + 0)))))) [47]) (numT ((S 0 ((10 + 14 * k + 1)))))) [42]) (numT ((S 0 ((10 + 14 * k + 2)))))) [62]) (numT ((S 0 ((10 + 14 * k + 5))))))) (v := .int (zI ((mWs (mWs (mWs (mWs (mWs (mWs (mWs (put (put S 7 7 0) 7 15 0) (numT ((S 0 ((10 + 14 * k + 0)))))) [47]) (numT ((S 0 ((10 + 14 * k + 1)))))) [42]) (numT ((S 0 ((10 + 14 * k + 2)))))) [62]) (numT ((S 0 ((10 + 14 * k + 5)))))) 7 15))) (C := RX3) (T := TX3) (N := 19) hx hb hts in_X3 hown hK hP 0 rfl rfl 15 (by decide) (hts _ q2335) (fun _ h9 => h9) rfl dX3_line_137 ?_
            have e0 : xLine S k = (mWs (mWs (mWs (mWs (mWs (mWs (mWs (put (put S 7 7 0) 7 15 0) (numT ((S 0 ((10 + 14 * k + 0)))))) [47]) (numT ((S 0 ((10 + 14 * k + 1)))))) [42]) (numT ((S 0 ((10 + 14 * k + 2)))))) [62]) (numT ((S 0 ((10 + 14 * k + 5))))), (mWs (mWs (mWs (mWs (mWs (mWs (mWs (put (put S 7 7 0) 7 15 0) (numT ((S 0 ((10 + 14 * k + 0)))))) [47]) (numT ((S 0 ((10 + 14 * k + 1)))))) [42]) (numT ((S 0 ((10 + 14 * k + 2)))))) [62]) (numT ((S 0 ((10 + 14 * k + 5)))))) 7 15) := by 
                                                                    unfold xLine
                                                                    refine Eq.trans (if_neg (by omega)) ?_
                                                                    have eS : mWs (mWs (mWs (mWs (mWs (mWs (mWs (put (put S 7 7 0) 7 15 0) (numT ((S 0 ((10 + 14 * k + 0)))))) [47]) (numT ((S 0 ((10 + 14 * k + 1)))))) [42]) (numT ((S 0 ((10 + 14 * k + 2)))))) [62]) (numT ((S 0 ((10 + 14 * k + 5))))) = mWs (put (put S 7 7 0) 7 15 0) (lineT (S 0) k) := (by
                                          unfold lineT
                                          (first | rw [if_pos (show 0 ≤ S 0 (10 + 14 * k + 3) by omega)] | rw [if_neg (show ¬ (0 ≤ S 0 (10 + 14 * k + 3)) by omega)] | skip)
                                          (first | rw [if_pos (show S 0 (10 + 14 * k + 5) = -2 by omega)] | rw [if_neg (show ¬ (S 0 (10 + 14 * k + 5) = -2) by omega)] | skip)
                                          (first | rw [if_pos (show 0 ≤ S 0 (10 + 14 * k + 5) by omega)] | rw [if_neg (show ¬ (0 ≤ S 0 (10 + 14 * k + 5)) by omega)] | skip)
                                          simp only [mWs_app, List.append_assoc, List.append_nil])
                                                                    rw [eS]
                                                                    refine Prod.ext rfl ?_
                                                                    show ((lineT (S 0) k).length : Int) = 0 + (lineT (S 0) k).length; omega
            have e1 : (xLine S k).2 = (mWs (mWs (mWs (mWs (mWs (mWs (mWs (put (put S 7 7 0) 7 15 0) (numT ((S 0 ((10 + 14 * k + 0)))))) [47]) (numT ((S 0 ((10 + 14 * k + 1)))))) [42]) (numT ((S 0 ((10 + 14 * k + 2)))))) [62]) (numT ((S 0 ((10 + 14 * k + 5)))))) 7 15 := by rw [e0]
            have e3 : (xLine S k).1 = mWs (mWs (mWs (mWs (mWs (mWs (mWs (put (put S 7 7 0) 7 15 0) (numT ((S 0 ((10 + 14 * k + 0)))))) [47]) (numT ((S 0 ((10 + 14 * k + 1)))))) [42]) (numT ((S 0 ((10 + 14 * k + 2)))))) [62]) (numT ((S 0 ((10 + 14 * k + 5))))) := by rw [e0]
            exact kz_iret () hx hb hr hlk hP hD hS dX3_line_140 (congrArg (fun z : Int => some (Value.int (zI z))) e1) ⟨(kz_r e1 (by omega)), (kz_M e3 hM)⟩ (congrArg (mW E Ad) e3) hQ (Nat.le_of_ble_eq_true rfl) (Nat.le_of_ble_eq_true rfl)
        · skip
          refine lv_aload_n hx hb dX3_line_102 rfl (lv_at hl 0 rfl) ?_
          refine kz_bipush hx hb dX3_line_103 (by decide) ?_
          refine kz_backM (va_runV (As := [.int (zI (33))]) (rest := []) ⟨hx, hb, hml, hown, hts⟩ (mX3_writes l E H.size Ad (mWs (mWs (mWs (mWs (mWs (put (put S 7 7 0) 7 15 0) (numT ((S 0 ((10 + 14 * k + 0)))))) [47]) (numT ((S 0 ((10 + 14 * k + 1)))))) [42]) (numT ((S 0 ((10 + 14 * k + 2)))))) hM 33 (by omega) (show 0 ≤ ((mWs (mWs (mWs (mWs (mWs (put (put S 7 7 0) 7 15 0) (numT ((S 0 ((10 + 14 * k + 0)))))) [47]) (numT ((S 0 ((10 + 14 * k + 1)))))) [42]) (numT ((S 0 ((10 + 14 * k + 2)))))) 7 15) ∧ ((mWs (mWs (mWs (mWs (mWs (put (put S 7 7 0) 7 15 0) (numT ((S 0 ((10 + 14 * k + 0)))))) [47]) (numT ((S 0 ((10 + 14 * k + 1)))))) [42]) (numT ((S 0 ((10 + 14 * k + 2)))))) 7 15) < 40 by first | omega | exact hI.st _ (by omega) (by omega) | exact hI.rv _ (by omega) (by omega) | exact hI) (show 0 ≤ 33 ∧ 33 < 65536 by first | omega | exact hI.st _ (by omega) (by omega) | exact hI.rv _ (by omega) (by omega) | exact hI)) (cwV 1 hts (lw_V q2589 q2591 qs57 q83 q2592) rfl rfl rfl (by decide +kernel) ⟨(Nat.le_of_ble_eq_true rfl), (Nat.le_of_ble_eq_true rfl)⟩) (kz_preVM (wc := mW E Ad (mWs (mWs (mWs (mWs (mWs (put (put S 7 7 0) 7 15 0) (numT ((S 0 ((10 + 14 * k + 0)))))) [47]) (numT ((S 0 ((10 + 14 * k + 1)))))) [42]) (numT ((S 0 ((10 + 14 * k + 2))))))) (va_recv hK hP (ci := 2) (q0 := 0) rfl rfl) hG hS hAN hP hD kz_nilP kz_nilA) rfl rfl hl.1 rfl (lv_room (Nat.le_of_ble_eq_true rfl)) dX3_line_105 ⟨(Nat.le_of_ble_eq_true rfl), (Nat.le_of_ble_eq_true rfl)⟩) hP hD hS hA (fun u H9 locs9 hu hP9 hD9 hS9 hzz hkk => ?_)
          clear hzz hkk hP hD hS H locs u
          revert hS9 hD9 hP9 locs9 H9
          intro H locs hP hD hS
          clear hM
          obtain ⟨hM, p22⟩ := hu
          replace hM : MOk (mWs (mWs (mWs (mWs (mWs (mWs (put (put S 7 7 0) 7 15 0) (numT ((S 0 ((10 + 14 * k + 0)))))) [47]) (numT ((S 0 ((10 + 14 * k + 1)))))) [42]) (numT ((S 0 ((10 + 14 * k + 2)))))) [33]) := hM
          replace p22 : (mWs (mWs (mWs (mWs (mWs (mWs (put (put S 7 7 0) 7 15 0) (numT ((S 0 ((10 + 14 * k + 0)))))) [47]) (numT ((S 0 ((10 + 14 * k + 1)))))) [42]) (numT ((S 0 ((10 + 14 * k + 2)))))) [33]) 7 15 = ((mWs (mWs (mWs (mWs (mWs (put (put S 7 7 0) 7 15 0) (numT ((S 0 ((10 + 14 * k + 0)))))) [47]) (numT ((S 0 ((10 + 14 * k + 1)))))) [42]) (numT ((S 0 ((10 + 14 * k + 2)))))) 7 15) + 1 := p22
          replace hP : va_P (kD E) kcl (mW E Ad (mWs (mWs (mWs (mWs (mWs (mWs (put (put S 7 7 0) 7 15 0) (numT ((S 0 ((10 + 14 * k + 0)))))) [47]) (numT ((S 0 ((10 + 14 * k + 1)))))) [42]) (numT ((S 0 ((10 + 14 * k + 2)))))) [33])) H := hP
          replace hD : va_D A (mW E Ad (mWs (mWs (mWs (mWs (mWs (mWs (put (put S 7 7 0) 7 15 0) (numT ((S 0 ((10 + 14 * k + 0)))))) [47]) (numT ((S 0 ((10 + 14 * k + 1)))))) [42]) (numT ((S 0 ((10 + 14 * k + 2)))))) [33])) := hD
          show W p l e _ s m args below meth c H locs _ _ Q (F0 m 108 ls [])
          refine lv_goto (tgt := 136) hx hb dX3_line_108 (by decide) ?_
          refine lv_aload_n hx hb dX3_line_136 rfl (lv_at hl 0 rfl) ?_
          have r23 : rI ((mWs (mWs (mWs (mWs (mWs (mWs (put (put S 7 7 0) 7 15 0) (numT ((S 0 ((10 + 14 * k + 0)))))) [47]) (numT ((S 0 ((10 + 14 * k + 1)))))) [42]) (numT ((S 0 ((10 + 14 * k + 2)))))) [33]) 7 15) := hM 7 15
          refine va_get (D := kD E) (ci := 2) (fs := mO Ad (mWs (mWs (mWs (mWs (mWs (mWs (put (put S 7 7 0) 7 15 0) (numT ((S 0 ((10 + 14 * k + 0)))))) [47]) (numT ((S 0 ((10 + 14 * k + 1)))))) [42]) (numT ((S 0 ((10 + 14 * k + 2)))))) [33])) (v := .int (zI ((mWs (mWs (mWs (mWs (mWs (mWs (put (put S 7 7 0) 7 15 0) (numT ((S 0 ((10 + 14 * k + 0)))))) [47]) (numT ((S 0 ((10 + 14 * k + 1)))))) [42]) (numT ((S 0 ((10 + 14 * k + 2)))))) [33]) 7 15))) (C := RX3) (T := TX3) (N := 19) hx hb hts in_X3 hown hK hP 0 rfl rfl 15 (by decide) (hts _ q2335) (fun _ h9 => h9) rfl dX3_line_137 ?_
          have e0 : xLine S k = (mWs (mWs (mWs (mWs (mWs (mWs (put (put S 7 7 0) 7 15 0) (numT ((S 0 ((10 + 14 * k + 0)))))) [47]) (numT ((S 0 ((10 + 14 * k + 1)))))) [42]) (numT ((S 0 ((10 + 14 * k + 2)))))) [33], (mWs (mWs (mWs (mWs (mWs (mWs (put (put S 7 7 0) 7 15 0) (numT ((S 0 ((10 + 14 * k + 0)))))) [47]) (numT ((S 0 ((10 + 14 * k + 1)))))) [42]) (numT ((S 0 ((10 + 14 * k + 2)))))) [33]) 7 15) := by 
                                                                    unfold xLine
                                                                    refine Eq.trans (if_neg (by omega)) ?_
                                                                    have eS : mWs (mWs (mWs (mWs (mWs (mWs (put (put S 7 7 0) 7 15 0) (numT ((S 0 ((10 + 14 * k + 0)))))) [47]) (numT ((S 0 ((10 + 14 * k + 1)))))) [42]) (numT ((S 0 ((10 + 14 * k + 2)))))) [33] = mWs (put (put S 7 7 0) 7 15 0) (lineT (S 0) k) := (by
                                          unfold lineT
                                          (first | rw [if_pos (show 0 ≤ S 0 (10 + 14 * k + 3) by omega)] | rw [if_neg (show ¬ (0 ≤ S 0 (10 + 14 * k + 3)) by omega)] | skip)
                                          (first | rw [if_pos (show S 0 (10 + 14 * k + 5) = -2 by omega)] | rw [if_neg (show ¬ (S 0 (10 + 14 * k + 5) = -2) by omega)] | skip)
                                          (first | rw [if_pos (show 0 ≤ S 0 (10 + 14 * k + 5) by omega)] | rw [if_neg (show ¬ (0 ≤ S 0 (10 + 14 * k + 5)) by omega)] | skip)
                                          simp only [mWs_app, List.append_assoc, List.append_nil])
                                                                    rw [eS]
                                                                    refine Prod.ext rfl ?_
                                                                    show ((lineT (S 0) k).length : Int) = 0 + (lineT (S 0) k).length; omega
          have e1 : (xLine S k).2 = (mWs (mWs (mWs (mWs (mWs (mWs (put (put S 7 7 0) 7 15 0) (numT ((S 0 ((10 + 14 * k + 0)))))) [47]) (numT ((S 0 ((10 + 14 * k + 1)))))) [42]) (numT ((S 0 ((10 + 14 * k + 2)))))) [33]) 7 15 := by rw [e0]
          have e3 : (xLine S k).1 = mWs (mWs (mWs (mWs (mWs (mWs (put (put S 7 7 0) 7 15 0) (numT ((S 0 ((10 + 14 * k + 0)))))) [47]) (numT ((S 0 ((10 + 14 * k + 1)))))) [42]) (numT ((S 0 ((10 + 14 * k + 2)))))) [33] := by rw [e0]
          exact kz_iret () hx hb hr hlk hP hD hS dX3_line_140 (congrArg (fun z : Int => some (Value.int (zI z))) e1) ⟨(kz_r e1 (by omega)), (kz_M e3 hM)⟩ (congrArg (mW E Ad) e3) hQ (Nat.le_of_ble_eq_true rfl) (Nat.le_of_ble_eq_true rfl)
      · skip
        refine lv_aload_n hx hb dX3_line_78 rfl (lv_at hl 0 rfl) ?_
        refine kz_bipush hx hb dX3_line_79 (by decide) ?_
        refine kz_backM (va_runV (As := [.int (zI (64))]) (rest := []) ⟨hx, hb, hml, hown, hts⟩ (mX3_writes l E H.size Ad (mWs (mWs (mWs (mWs (mWs (put (put S 7 7 0) 7 15 0) (numT ((S 0 ((10 + 14 * k + 0)))))) [47]) (numT ((S 0 ((10 + 14 * k + 1)))))) [42]) (numT ((S 0 ((10 + 14 * k + 2)))))) hM 64 (by omega) (show 0 ≤ ((mWs (mWs (mWs (mWs (mWs (put (put S 7 7 0) 7 15 0) (numT ((S 0 ((10 + 14 * k + 0)))))) [47]) (numT ((S 0 ((10 + 14 * k + 1)))))) [42]) (numT ((S 0 ((10 + 14 * k + 2)))))) 7 15) ∧ ((mWs (mWs (mWs (mWs (mWs (put (put S 7 7 0) 7 15 0) (numT ((S 0 ((10 + 14 * k + 0)))))) [47]) (numT ((S 0 ((10 + 14 * k + 1)))))) [42]) (numT ((S 0 ((10 + 14 * k + 2)))))) 7 15) < 40 by first | omega | exact hI.st _ (by omega) (by omega) | exact hI.rv _ (by omega) (by omega) | exact hI) (show 0 ≤ 64 ∧ 64 < 65536 by first | omega | exact hI.st _ (by omega) (by omega) | exact hI.rv _ (by omega) (by omega) | exact hI)) (cwV 1 hts (lw_V q2589 q2591 qs57 q83 q2592) rfl rfl rfl (by decide +kernel) ⟨(Nat.le_of_ble_eq_true rfl), (Nat.le_of_ble_eq_true rfl)⟩) (kz_preVM (wc := mW E Ad (mWs (mWs (mWs (mWs (mWs (put (put S 7 7 0) 7 15 0) (numT ((S 0 ((10 + 14 * k + 0)))))) [47]) (numT ((S 0 ((10 + 14 * k + 1)))))) [42]) (numT ((S 0 ((10 + 14 * k + 2))))))) (va_recv hK hP (ci := 2) (q0 := 0) rfl rfl) hG hS hAN hP hD kz_nilP kz_nilA) rfl rfl hl.1 rfl (lv_room (Nat.le_of_ble_eq_true rfl)) dX3_line_81 ⟨(Nat.le_of_ble_eq_true rfl), (Nat.le_of_ble_eq_true rfl)⟩) hP hD hS hA (fun u H9 locs9 hu hP9 hD9 hS9 hzz hkk => ?_)
        clear hzz hkk hP hD hS H locs u
        revert hS9 hD9 hP9 locs9 H9
        intro H locs hP hD hS
        clear hM
        obtain ⟨hM, p24⟩ := hu
        replace hM : MOk (mWs (mWs (mWs (mWs (mWs (mWs (put (put S 7 7 0) 7 15 0) (numT ((S 0 ((10 + 14 * k + 0)))))) [47]) (numT ((S 0 ((10 + 14 * k + 1)))))) [42]) (numT ((S 0 ((10 + 14 * k + 2)))))) [64]) := hM
        replace p24 : (mWs (mWs (mWs (mWs (mWs (mWs (put (put S 7 7 0) 7 15 0) (numT ((S 0 ((10 + 14 * k + 0)))))) [47]) (numT ((S 0 ((10 + 14 * k + 1)))))) [42]) (numT ((S 0 ((10 + 14 * k + 2)))))) [64]) 7 15 = ((mWs (mWs (mWs (mWs (mWs (put (put S 7 7 0) 7 15 0) (numT ((S 0 ((10 + 14 * k + 0)))))) [47]) (numT ((S 0 ((10 + 14 * k + 1)))))) [42]) (numT ((S 0 ((10 + 14 * k + 2)))))) 7 15) + 1 := p24
        replace hP : va_P (kD E) kcl (mW E Ad (mWs (mWs (mWs (mWs (mWs (mWs (put (put S 7 7 0) 7 15 0) (numT ((S 0 ((10 + 14 * k + 0)))))) [47]) (numT ((S 0 ((10 + 14 * k + 1)))))) [42]) (numT ((S 0 ((10 + 14 * k + 2)))))) [64])) H := hP
        replace hD : va_D A (mW E Ad (mWs (mWs (mWs (mWs (mWs (mWs (put (put S 7 7 0) 7 15 0) (numT ((S 0 ((10 + 14 * k + 0)))))) [47]) (numT ((S 0 ((10 + 14 * k + 1)))))) [42]) (numT ((S 0 ((10 + 14 * k + 2)))))) [64])) := hD
        show W p l e _ s m args below meth c H locs _ _ Q (F0 m 84 ls [])
        refine lv_aload_n hx hb dX3_line_84 rfl (lv_at hl 0 rfl) ?_
        refine lv_aload_n hx hb dX3_line_85 rfl (lv_at hl 0 rfl) ?_
        refine lv_iload_n hx hb dX3_line_86 rfl (lv_at hl 1 rfl) ?_
        refine kz_iconst hx hb dX3_line_87 ?_
        refine kz_backM (va_runV (As := [.int (zI (k)), .int (zI (3))]) (rest := [.ref (Ad 0)]) ⟨hx, hb, hml, hown, hts⟩ (mX3_of l E H.size Ad (mWs (mWs (mWs (mWs (mWs (mWs (put (put S 7 7 0) 7 15 0) (numT ((S 0 ((10 + 14 * k + 0)))))) [47]) (numT ((S 0 ((10 + 14 * k + 1)))))) [42]) (numT ((S 0 ((10 + 14 * k + 2)))))) [64]) hM k (by omega) 3 (by omega) (show 0 ≤ k ∧ k < 10 by first | omega | exact hI.st _ (by omega) (by omega) | exact hI.rv _ (by omega) (by omega) | exact hI) (show 0 ≤ 3 ∧ 3 < 14 by first | omega | exact hI.st _ (by omega) (by omega) | exact hI.rv _ (by omega) (by omega) | exact hI)) (cwV 2 hts (lw_V q2441 q2443 qs44 q83 q2444) rfl rfl rfl (by decide +kernel) ⟨(Nat.le_of_ble_eq_true rfl), (Nat.le_of_ble_eq_true rfl)⟩) (kz_preVM (wc := mW E Ad (mWs (mWs (mWs (mWs (mWs (mWs (put (put S 7 7 0) 7 15 0) (numT ((S 0 ((10 + 14 * k + 0)))))) [47]) (numT ((S 0 ((10 + 14 * k + 1)))))) [42]) (numT ((S 0 ((10 + 14 * k + 2)))))) [64])) (va_recv hK hP (ci := 2) (q0 := 0) rfl rfl) hG hS hAN hP hD kz_nilP kz_nilA) rfl rfl hl.1 rfl (lv_room (Nat.le_of_ble_eq_true rfl)) dX3_line_88 ⟨(Nat.le_of_ble_eq_true rfl), (Nat.le_of_ble_eq_true rfl)⟩) hP hD hS hA (fun u H9 locs9 hu hP9 hD9 hS9 hzz hkk => ?_)
        clear hzz hkk hP hD hS H locs u
        revert hS9 hD9 hP9 locs9 H9
        intro H locs hP hD hS
        have r25 : rI ((S 0 ((10 + 14 * k + 3)))) := hu
        clear hu
        replace hP : va_P (kD E) kcl (mW E Ad (mWs (mWs (mWs (mWs (mWs (mWs (put (put S 7 7 0) 7 15 0) (numT ((S 0 ((10 + 14 * k + 0)))))) [47]) (numT ((S 0 ((10 + 14 * k + 1)))))) [42]) (numT ((S 0 ((10 + 14 * k + 2)))))) [64])) H := hP
        replace hD : va_D A (mW E Ad (mWs (mWs (mWs (mWs (mWs (mWs (put (put S 7 7 0) 7 15 0) (numT ((S 0 ((10 + 14 * k + 0)))))) [47]) (numT ((S 0 ((10 + 14 * k + 1)))))) [42]) (numT ((S 0 ((10 + 14 * k + 2)))))) [64])) := hD
        show W p l e _ s m args below meth c H locs _ _ Q (F0 m 91 ls [.int (zI ((S 0 ((10 + 14 * k + 3))))), .ref (Ad 0)])
        refine kz_backM (va_runV (As := [.int (zI ((S 0 ((10 + 14 * k + 3)))))]) (rest := []) ⟨hx, hb, hml, hown, hts⟩ (mX3_writesNumber l E H.size Ad (mWs (mWs (mWs (mWs (mWs (mWs (put (put S 7 7 0) 7 15 0) (numT ((S 0 ((10 + 14 * k + 0)))))) [47]) (numT ((S 0 ((10 + 14 * k + 1)))))) [42]) (numT ((S 0 ((10 + 14 * k + 2)))))) [64]) hM ((S 0 ((10 + 14 * k + 3)))) (by omega) (show 0 ≤ ((mWs (mWs (mWs (mWs (mWs (mWs (put (put S 7 7 0) 7 15 0) (numT ((S 0 ((10 + 14 * k + 0)))))) [47]) (numT ((S 0 ((10 + 14 * k + 1)))))) [42]) (numT ((S 0 ((10 + 14 * k + 2)))))) [64]) 7 15) ∧ ((mWs (mWs (mWs (mWs (mWs (mWs (put (put S 7 7 0) 7 15 0) (numT ((S 0 ((10 + 14 * k + 0)))))) [47]) (numT ((S 0 ((10 + 14 * k + 1)))))) [42]) (numT ((S 0 ((10 + 14 * k + 2)))))) [64]) 7 15) < 39 by first | omega | exact hI.st _ (by omega) (by omega) | exact hI.rv _ (by omega) (by omega) | exact hI) (show 0 ≤ ((S 0 ((10 + 14 * k + 3)))) ∧ ((S 0 ((10 + 14 * k + 3)))) ≤ 99 by first | omega | exact hI.st _ (by omega) (by omega) | exact hI.rv _ (by omega) (by omega) | exact hI)) (cwV 1 hts (lw_V q2585 q2587 qs56 q83 q2588) rfl rfl rfl (by decide +kernel) ⟨(Nat.le_of_ble_eq_true rfl), (Nat.le_of_ble_eq_true rfl)⟩) (kz_preVM (wc := mW E Ad (mWs (mWs (mWs (mWs (mWs (mWs (put (put S 7 7 0) 7 15 0) (numT ((S 0 ((10 + 14 * k + 0)))))) [47]) (numT ((S 0 ((10 + 14 * k + 1)))))) [42]) (numT ((S 0 ((10 + 14 * k + 2)))))) [64])) (va_recv hK hP (ci := 2) (q0 := 0) rfl rfl) hG hS hAN hP hD kz_nilP kz_nilA) rfl rfl hl.1 rfl (lv_room (Nat.le_of_ble_eq_true rfl)) dX3_line_91 ⟨(Nat.le_of_ble_eq_true rfl), (Nat.le_of_ble_eq_true rfl)⟩) hP hD hS hA (fun u H9 locs9 hu hP9 hD9 hS9 hzz hkk => ?_)
        clear hzz hkk hP hD hS H locs u
        revert hS9 hD9 hP9 locs9 H9
        intro H locs hP hD hS
        clear hM
        obtain ⟨hM, p26, p27⟩ := hu
        replace hM : MOk (mWs (mWs (mWs (mWs (mWs (mWs (mWs (put (put S 7 7 0) 7 15 0) (numT ((S 0 ((10 + 14 * k + 0)))))) [47]) (numT ((S 0 ((10 + 14 * k + 1)))))) [42]) (numT ((S 0 ((10 + 14 * k + 2)))))) [64]) (numT ((S 0 ((10 + 14 * k + 3)))))) := hM
        replace p26 : (mWs (mWs (mWs (mWs (mWs (mWs (mWs (put (put S 7 7 0) 7 15 0) (numT ((S 0 ((10 + 14 * k + 0)))))) [47]) (numT ((S 0 ((10 + 14 * k + 1)))))) [42]) (numT ((S 0 ((10 + 14 * k + 2)))))) [64]) (numT ((S 0 ((10 + 14 * k + 3)))))) 7 15 = ((mWs (mWs (mWs (mWs (mWs (mWs (put (put S 7 7 0) 7 15 0) (numT ((S 0 ((10 + 14 * k + 0)))))) [47]) (numT ((S 0 ((10 + 14 * k + 1)))))) [42]) (numT ((S 0 ((10 + 14 * k + 2)))))) [64]) 7 15) + (numT ((S 0 ((10 + 14 * k + 3))))).length := p26
        replace p27 : 1 ≤ ((numT ((S 0 ((10 + 14 * k + 3))))).length : Int) ∧ ((numT ((S 0 ((10 + 14 * k + 3))))).length : Int) ≤ 2 := p27
        replace hP : va_P (kD E) kcl (mW E Ad (mWs (mWs (mWs (mWs (mWs (mWs (mWs (put (put S 7 7 0) 7 15 0) (numT ((S 0 ((10 + 14 * k + 0)))))) [47]) (numT ((S 0 ((10 + 14 * k + 1)))))) [42]) (numT ((S 0 ((10 + 14 * k + 2)))))) [64]) (numT ((S 0 ((10 + 14 * k + 3))))))) H := hP
        replace hD : va_D A (mW E Ad (mWs (mWs (mWs (mWs (mWs (mWs (mWs (put (put S 7 7 0) 7 15 0) (numT ((S 0 ((10 + 14 * k + 0)))))) [47]) (numT ((S 0 ((10 + 14 * k + 1)))))) [42]) (numT ((S 0 ((10 + 14 * k + 2)))))) [64]) (numT ((S 0 ((10 + 14 * k + 3))))))) := hD
        show W p l e _ s m args below meth c H locs _ _ Q (F0 m 94 ls [])
        refine lv_aload_n hx hb dX3_line_94 rfl (lv_at hl 0 rfl) ?_
        refine lv_iload_n hx hb dX3_line_95 rfl (lv_at hl 1 rfl) ?_
        refine kz_backM (va_runV (As := [.int (zI (k))]) (rest := []) ⟨hx, hb, hml, hown, hts⟩ (mX3_isSunk l E H.size Ad (mWs (mWs (mWs (mWs (mWs (mWs (mWs (put (put S 7 7 0) 7 15 0) (numT ((S 0 ((10 + 14 * k + 0)))))) [47]) (numT ((S 0 ((10 + 14 * k + 1)))))) [42]) (numT ((S 0 ((10 + 14 * k + 2)))))) [64]) (numT ((S 0 ((10 + 14 * k + 3)))))) hM k (by omega) (show 0 ≤ k ∧ k < 10 by first | omega | exact hI.st _ (by omega) (by omega) | exact hI.rv _ (by omega) (by omega) | exact hI)) (cwV 1 hts (lw_V q2480 q2482 qs50 q83 q2483) rfl rfl rfl (by decide +kernel) ⟨(Nat.le_of_ble_eq_true rfl), (Nat.le_of_ble_eq_true rfl)⟩) (kz_preVM (wc := mW E Ad (mWs (mWs (mWs (mWs (mWs (mWs (mWs (put (put S 7 7 0) 7 15 0) (numT ((S 0 ((10 + 14 * k + 0)))))) [47]) (numT ((S 0 ((10 + 14 * k + 1)))))) [42]) (numT ((S 0 ((10 + 14 * k + 2)))))) [64]) (numT ((S 0 ((10 + 14 * k + 3))))))) (va_recv hK hP (ci := 2) (q0 := 0) rfl rfl) hG hS hAN hP hD kz_nilP kz_nilA) rfl rfl hl.1 rfl (lv_room (Nat.le_of_ble_eq_true rfl)) dX3_line_96 ⟨(Nat.le_of_ble_eq_true rfl), (Nat.le_of_ble_eq_true rfl)⟩) hP hD hS hA (fun u H9 locs9 hu hP9 hD9 hS9 hzz hkk => ?_)
        clear hzz hkk hP hD hS H locs u
        revert hS9 hD9 hP9 locs9 H9
        intro H locs hP hD hS
        clear hu
        replace hP : va_P (kD E) kcl (mW E Ad (mWs (mWs (mWs (mWs (mWs (mWs (mWs (put (put S 7 7 0) 7 15 0) (numT ((S 0 ((10 + 14 * k + 0)))))) [47]) (numT ((S 0 ((10 + 14 * k + 1)))))) [42]) (numT ((S 0 ((10 + 14 * k + 2)))))) [64]) (numT ((S 0 ((10 + 14 * k + 3))))))) H := hP
        replace hD : va_D A (mW E Ad (mWs (mWs (mWs (mWs (mWs (mWs (mWs (put (put S 7 7 0) 7 15 0) (numT ((S 0 ((10 + 14 * k + 0)))))) [47]) (numT ((S 0 ((10 + 14 * k + 1)))))) [42]) (numT ((S 0 ((10 + 14 * k + 2)))))) [64]) (numT ((S 0 ((10 + 14 * k + 3))))))) := hD
        show W p l e _ s m args below meth c H locs _ _ Q (F0 m 99 ls [.int (zI (b2 ((S 0 ((10 + 14 * k + 5))) = -2)))])
        refine kz_if0B (tgt := 111) hx hb dX3_line_99 (by decide) (fun c99 => ?_) (fun c99 => ?_)
        · skip
          refine lv_aload_n hx hb dX3_line_111 rfl (lv_at hl 0 rfl) ?_
          refine lv_iload_n hx hb dX3_line_112 rfl (lv_at hl 1 rfl) ?_
          refine kz_iconst hx hb dX3_line_113 ?_
          refine kz_backM (va_runV (As := [.int (zI (k)), .int (zI (5))]) (rest := []) ⟨hx, hb, hml, hown, hts⟩ (mX3_of l E H.size Ad (mWs (mWs (mWs (mWs (mWs (mWs (mWs (put (put S 7 7 0) 7 15 0) (numT ((S 0 ((10 + 14 * k + 0)))))) [47]) (numT ((S 0 ((10 + 14 * k + 1)))))) [42]) (numT ((S 0 ((10 + 14 * k + 2)))))) [64]) (numT ((S 0 ((10 + 14 * k + 3)))))) hM k (by omega) 5 (by omega) (show 0 ≤ k ∧ k < 10 by first | omega | exact hI.st _ (by omega) (by omega) | exact hI.rv _ (by omega) (by omega) | exact hI) (show 0 ≤ 5 ∧ 5 < 14 by first | omega | exact hI.st _ (by omega) (by omega) | exact hI.rv _ (by omega) (by omega) | exact hI)) (cwV 2 hts (lw_V q2441 q2443 qs44 q83 q2444) rfl rfl rfl (by decide +kernel) ⟨(Nat.le_of_ble_eq_true rfl), (Nat.le_of_ble_eq_true rfl)⟩) (kz_preVM (wc := mW E Ad (mWs (mWs (mWs (mWs (mWs (mWs (mWs (put (put S 7 7 0) 7 15 0) (numT ((S 0 ((10 + 14 * k + 0)))))) [47]) (numT ((S 0 ((10 + 14 * k + 1)))))) [42]) (numT ((S 0 ((10 + 14 * k + 2)))))) [64]) (numT ((S 0 ((10 + 14 * k + 3))))))) (va_recv hK hP (ci := 2) (q0 := 0) rfl rfl) hG hS hAN hP hD kz_nilP kz_nilA) rfl rfl hl.1 rfl (lv_room (Nat.le_of_ble_eq_true rfl)) dX3_line_114 ⟨(Nat.le_of_ble_eq_true rfl), (Nat.le_of_ble_eq_true rfl)⟩) hP hD hS hA (fun u H9 locs9 hu hP9 hD9 hS9 hzz hkk => ?_)
          clear hzz hkk hP hD hS H locs u
          revert hS9 hD9 hP9 locs9 H9
          intro H locs hP hD hS
          have r28 : rI ((S 0 ((10 + 14 * k + 5)))) := hu
          clear hu
          replace hP : va_P (kD E) kcl (mW E Ad (mWs (mWs (mWs (mWs (mWs (mWs (mWs (put (put S 7 7 0) 7 15 0) (numT ((S 0 ((10 + 14 * k + 0)))))) [47]) (numT ((S 0 ((10 + 14 * k + 1)))))) [42]) (numT ((S 0 ((10 + 14 * k + 2)))))) [64]) (numT ((S 0 ((10 + 14 * k + 3))))))) H := hP
          replace hD : va_D A (mW E Ad (mWs (mWs (mWs (mWs (mWs (mWs (mWs (put (put S 7 7 0) 7 15 0) (numT ((S 0 ((10 + 14 * k + 0)))))) [47]) (numT ((S 0 ((10 + 14 * k + 1)))))) [42]) (numT ((S 0 ((10 + 14 * k + 2)))))) [64]) (numT ((S 0 ((10 + 14 * k + 3))))))) := hD
          show W p l e _ s m args below meth c H locs _ _ Q (F0 m 117 ls [.int (zI ((S 0 ((10 + 14 * k + 5)))))])
          refine kz_if_lt (tgt := 136) hx hb dX3_line_117 (by decide) (by omega) (fun c117 => ?_) (fun c117 => ?_)
          · skip
            refine lv_aload_n hx hb dX3_line_136 rfl (lv_at hl 0 rfl) ?_
            have r29 : rI ((mWs (mWs (mWs (mWs (mWs (mWs (mWs (put (put S 7 7 0) 7 15 0) (numT ((S 0 ((10 + 14 * k + 0)))))) [47]) (numT ((S 0 ((10 + 14 * k + 1)))))) [42]) (numT ((S 0 ((10 + 14 * k + 2)))))) [64]) (numT ((S 0 ((10 + 14 * k + 3)))))) 7 15) := hM 7 15
            refine va_get (D := kD E) (ci := 2) (fs := mO Ad (mWs (mWs (mWs (mWs (mWs (mWs (mWs (put (put S 7 7 0) 7 15 0) (numT ((S 0 ((10 + 14 * k + 0)))))) [47]) (numT ((S 0 ((10 + 14 * k + 1)))))) [42]) (numT ((S 0 ((10 + 14 * k + 2)))))) [64]) (numT ((S 0 ((10 + 14 * k + 3))))))) (v := .int (zI ((mWs (mWs (mWs (mWs (mWs (mWs (mWs (put (put S 7 7 0) 7 15 0) (numT ((S 0 ((10 + 14 * k + 0)))))) [47]) (numT ((S 0 ((10 + 14 * k + 1)))))) [42]) (numT ((S 0 ((10 + 14 * k + 2)))))) [64]) (numT ((S 0 ((10 + 14 * k + 3)))))) 7 15))) (C := RX3) (T := TX3) (N := 19) hx hb hts in_X3 hown hK hP 0 rfl rfl 15 (by decide) (hts _ q2335) (fun _ h9 => h9) rfl dX3_line_137 ?_
            have e0 : xLine S k = (mWs (mWs (mWs (mWs (mWs (mWs (mWs (put (put S 7 7 0) 7 15 0) (numT ((S 0 ((10 + 14 * k + 0)))))) [47]) (numT ((S 0 ((10 + 14 * k + 1)))))) [42]) (numT ((S 0 ((10 + 14 * k + 2)))))) [64]) (numT ((S 0 ((10 + 14 * k + 3))))), (mWs (mWs (mWs (mWs (mWs (mWs (mWs (put (put S 7 7 0) 7 15 0) (numT ((S 0 ((10 + 14 * k + 0)))))) [47]) (numT ((S 0 ((10 + 14 * k + 1)))))) [42]) (numT ((S 0 ((10 + 14 * k + 2)))))) [64]) (numT ((S 0 ((10 + 14 * k + 3)))))) 7 15) := by 
                                                                    unfold xLine
                                                                    refine Eq.trans (if_neg (by omega)) ?_
                                                                    have eS : mWs (mWs (mWs (mWs (mWs (mWs (mWs (put (put S 7 7 0) 7 15 0) (numT ((S 0 ((10 + 14 * k + 0)))))) [47]) (numT ((S 0 ((10 + 14 * k + 1)))))) [42]) (numT ((S 0 ((10 + 14 * k + 2)))))) [64]) (numT ((S 0 ((10 + 14 * k + 3))))) = mWs (put (put S 7 7 0) 7 15 0) (lineT (S 0) k) := (by
                                          unfold lineT
                                          (first | rw [if_pos (show 0 ≤ S 0 (10 + 14 * k + 3) by omega)] | rw [if_neg (show ¬ (0 ≤ S 0 (10 + 14 * k + 3)) by omega)] | skip)
                                          (first | rw [if_pos (show S 0 (10 + 14 * k + 5) = -2 by omega)] | rw [if_neg (show ¬ (S 0 (10 + 14 * k + 5) = -2) by omega)] | skip)
                                          (first | rw [if_pos (show 0 ≤ S 0 (10 + 14 * k + 5) by omega)] | rw [if_neg (show ¬ (0 ≤ S 0 (10 + 14 * k + 5)) by omega)] | skip)
                                          simp only [mWs_app, List.append_assoc, List.append_nil])
                                                                    rw [eS]
                                                                    refine Prod.ext rfl ?_
                                                                    show ((lineT (S 0) k).length : Int) = 0 + (lineT (S 0) k).length; omega
            have e1 : (xLine S k).2 = (mWs (mWs (mWs (mWs (mWs (mWs (mWs (put (put S 7 7 0) 7 15 0) (numT ((S 0 ((10 + 14 * k + 0)))))) [47]) (numT ((S 0 ((10 + 14 * k + 1)))))) [42]) (numT ((S 0 ((10 + 14 * k + 2)))))) [64]) (numT ((S 0 ((10 + 14 * k + 3)))))) 7 15 := by rw [e0]
            have e3 : (xLine S k).1 = mWs (mWs (mWs (mWs (mWs (mWs (mWs (put (put S 7 7 0) 7 15 0) (numT ((S 0 ((10 + 14 * k + 0)))))) [47]) (numT ((S 0 ((10 + 14 * k + 1)))))) [42]) (numT ((S 0 ((10 + 14 * k + 2)))))) [64]) (numT ((S 0 ((10 + 14 * k + 3))))) := by rw [e0]
            exact kz_iret () hx hb hr hlk hP hD hS dX3_line_140 (congrArg (fun z : Int => some (Value.int (zI z))) e1) ⟨(kz_r e1 (by omega)), (kz_M e3 hM)⟩ (congrArg (mW E Ad) e3) hQ (Nat.le_of_ble_eq_true rfl) (Nat.le_of_ble_eq_true rfl)
          · skip
            refine lv_aload_n hx hb dX3_line_120 rfl (lv_at hl 0 rfl) ?_
            refine kz_bipush hx hb dX3_line_121 (by decide) ?_
            refine kz_backM (va_runV (As := [.int (zI (62))]) (rest := []) ⟨hx, hb, hml, hown, hts⟩ (mX3_writes l E H.size Ad (mWs (mWs (mWs (mWs (mWs (mWs (mWs (put (put S 7 7 0) 7 15 0) (numT ((S 0 ((10 + 14 * k + 0)))))) [47]) (numT ((S 0 ((10 + 14 * k + 1)))))) [42]) (numT ((S 0 ((10 + 14 * k + 2)))))) [64]) (numT ((S 0 ((10 + 14 * k + 3)))))) hM 62 (by omega) (show 0 ≤ ((mWs (mWs (mWs (mWs (mWs (mWs (mWs (put (put S 7 7 0) 7 15 0) (numT ((S 0 ((10 + 14 * k + 0)))))) [47]) (numT ((S 0 ((10 + 14 * k + 1)))))) [42]) (numT ((S 0 ((10 + 14 * k + 2)))))) [64]) (numT ((S 0 ((10 + 14 * k + 3)))))) 7 15) ∧ ((mWs (mWs (mWs (mWs (mWs (mWs (mWs (put (put S 7 7 0) 7 15 0) (numT ((S 0 ((10 + 14 * k + 0)))))) [47]) (numT ((S 0 ((10 + 14 * k + 1)))))) [42]) (numT ((S 0 ((10 + 14 * k + 2)))))) [64]) (numT ((S 0 ((10 + 14 * k + 3)))))) 7 15) < 40 by first | omega | exact hI.st _ (by omega) (by omega) | exact hI.rv _ (by omega) (by omega) | exact hI) (show 0 ≤ 62 ∧ 62 < 65536 by first | omega | exact hI.st _ (by omega) (by omega) | exact hI.rv _ (by omega) (by omega) | exact hI)) (cwV 1 hts (lw_V q2589 q2591 qs57 q83 q2592) rfl rfl rfl (by decide +kernel) ⟨(Nat.le_of_ble_eq_true rfl), (Nat.le_of_ble_eq_true rfl)⟩) (kz_preVM (wc := mW E Ad (mWs (mWs (mWs (mWs (mWs (mWs (mWs (put (put S 7 7 0) 7 15 0) (numT ((S 0 ((10 + 14 * k + 0)))))) [47]) (numT ((S 0 ((10 + 14 * k + 1)))))) [42]) (numT ((S 0 ((10 + 14 * k + 2)))))) [64]) (numT ((S 0 ((10 + 14 * k + 3))))))) (va_recv hK hP (ci := 2) (q0 := 0) rfl rfl) hG hS hAN hP hD kz_nilP kz_nilA) rfl rfl hl.1 rfl (lv_room (Nat.le_of_ble_eq_true rfl)) dX3_line_123 ⟨(Nat.le_of_ble_eq_true rfl), (Nat.le_of_ble_eq_true rfl)⟩) hP hD hS hA (fun u H9 locs9 hu hP9 hD9 hS9 hzz hkk => ?_)
            clear hzz hkk hP hD hS H locs u
            revert hS9 hD9 hP9 locs9 H9
            intro H locs hP hD hS
            clear hM
            obtain ⟨hM, p30⟩ := hu
            replace hM : MOk (mWs (mWs (mWs (mWs (mWs (mWs (mWs (mWs (put (put S 7 7 0) 7 15 0) (numT ((S 0 ((10 + 14 * k + 0)))))) [47]) (numT ((S 0 ((10 + 14 * k + 1)))))) [42]) (numT ((S 0 ((10 + 14 * k + 2)))))) [64]) (numT ((S 0 ((10 + 14 * k + 3)))))) [62]) := hM
            replace p30 : (mWs (mWs (mWs (mWs (mWs (mWs (mWs (mWs (put (put S 7 7 0) 7 15 0) (numT ((S 0 ((10 + 14 * k + 0)))))) [47]) (numT ((S 0 ((10 + 14 * k + 1)))))) [42]) (numT ((S 0 ((10 + 14 * k + 2)))))) [64]) (numT ((S 0 ((10 + 14 * k + 3)))))) [62]) 7 15 = ((mWs (mWs (mWs (mWs (mWs (mWs (mWs (put (put S 7 7 0) 7 15 0) (numT ((S 0 ((10 + 14 * k + 0)))))) [47]) (numT ((S 0 ((10 + 14 * k + 1)))))) [42]) (numT ((S 0 ((10 + 14 * k + 2)))))) [64]) (numT ((S 0 ((10 + 14 * k + 3)))))) 7 15) + 1 := p30
            replace hP : va_P (kD E) kcl (mW E Ad (mWs (mWs (mWs (mWs (mWs (mWs (mWs (mWs (put (put S 7 7 0) 7 15 0) (numT ((S 0 ((10 + 14 * k + 0)))))) [47]) (numT ((S 0 ((10 + 14 * k + 1)))))) [42]) (numT ((S 0 ((10 + 14 * k + 2)))))) [64]) (numT ((S 0 ((10 + 14 * k + 3)))))) [62])) H := hP
            replace hD : va_D A (mW E Ad (mWs (mWs (mWs (mWs (mWs (mWs (mWs (mWs (put (put S 7 7 0) 7 15 0) (numT ((S 0 ((10 + 14 * k + 0)))))) [47]) (numT ((S 0 ((10 + 14 * k + 1)))))) [42]) (numT ((S 0 ((10 + 14 * k + 2)))))) [64]) (numT ((S 0 ((10 + 14 * k + 3)))))) [62])) := hD
            show W p l e _ s m args below meth c H locs _ _ Q (F0 m 126 ls [])
            refine lv_aload_n hx hb dX3_line_126 rfl (lv_at hl 0 rfl) ?_
            refine lv_aload_n hx hb dX3_line_127 rfl (lv_at hl 0 rfl) ?_
            refine lv_iload_n hx hb dX3_line_128 rfl (lv_at hl 1 rfl) ?_
            refine kz_iconst hx hb dX3_line_129 ?_
            refine kz_backM (va_runV (As := [.int (zI (k)), .int (zI (5))]) (rest := [.ref (Ad 0)]) ⟨hx, hb, hml, hown, hts⟩ (mX3_of l E H.size Ad (mWs (mWs (mWs (mWs (mWs (mWs (mWs (mWs (put (put S 7 7 0) 7 15 0) (numT ((S 0 ((10 + 14 * k + 0)))))) [47]) (numT ((S 0 ((10 + 14 * k + 1)))))) [42]) (numT ((S 0 ((10 + 14 * k + 2)))))) [64]) (numT ((S 0 ((10 + 14 * k + 3)))))) [62]) hM k (by omega) 5 (by omega) (show 0 ≤ k ∧ k < 10 by first | omega | exact hI.st _ (by omega) (by omega) | exact hI.rv _ (by omega) (by omega) | exact hI) (show 0 ≤ 5 ∧ 5 < 14 by first | omega | exact hI.st _ (by omega) (by omega) | exact hI.rv _ (by omega) (by omega) | exact hI)) (cwV 2 hts (lw_V q2441 q2443 qs44 q83 q2444) rfl rfl rfl (by decide +kernel) ⟨(Nat.le_of_ble_eq_true rfl), (Nat.le_of_ble_eq_true rfl)⟩) (kz_preVM (wc := mW E Ad (mWs (mWs (mWs (mWs (mWs (mWs (mWs (mWs (put (put S 7 7 0) 7 15 0) (numT ((S 0 ((10 + 14 * k + 0)))))) [47]) (numT ((S 0 ((10 + 14 * k + 1)))))) [42]) (numT ((S 0 ((10 + 14 * k + 2)))))) [64]) (numT ((S 0 ((10 + 14 * k + 3)))))) [62])) (va_recv hK hP (ci := 2) (q0 := 0) rfl rfl) hG hS hAN hP hD kz_nilP kz_nilA) rfl rfl hl.1 rfl (lv_room (Nat.le_of_ble_eq_true rfl)) dX3_line_130 ⟨(Nat.le_of_ble_eq_true rfl), (Nat.le_of_ble_eq_true rfl)⟩) hP hD hS hA (fun u H9 locs9 hu hP9 hD9 hS9 hzz hkk => ?_)
            clear hzz hkk hP hD hS H locs u
            revert hS9 hD9 hP9 locs9 H9
            intro H locs hP hD hS
            have r31 : rI ((S 0 ((10 + 14 * k + 5)))) := hu
            clear hu
            replace hP : va_P (kD E) kcl (mW E Ad (mWs (mWs (mWs (mWs (mWs (mWs (mWs (mWs (put (put S 7 7 0) 7 15 0) (numT ((S 0 ((10 + 14 * k + 0)))))) [47]) (numT ((S 0 ((10 + 14 * k + 1)))))) [42]) (numT ((S 0 ((10 + 14 * k + 2)))))) [64]) (numT ((S 0 ((10 + 14 * k + 3)))))) [62])) H := hP
            replace hD : va_D A (mW E Ad (mWs (mWs (mWs (mWs (mWs (mWs (mWs (mWs (put (put S 7 7 0) 7 15 0) (numT ((S 0 ((10 + 14 * k + 0)))))) [47]) (numT ((S 0 ((10 + 14 * k + 1)))))) [42]) (numT ((S 0 ((10 + 14 * k + 2)))))) [64]) (numT ((S 0 ((10 + 14 * k + 3)))))) [62])) := hD
            show W p l e _ s m args below meth c H locs _ _ Q (F0 m 133 ls [.int (zI ((S 0 ((10 + 14 * k + 5))))), .ref (Ad 0)])
            refine kz_backM (va_runV (As := [.int (zI ((S 0 ((10 + 14 * k + 5)))))]) (rest := []) ⟨hx, hb, hml, hown, hts⟩ (mX3_writesNumber l E H.size Ad (mWs (mWs (mWs (mWs (mWs (mWs (mWs (mWs (put (put S 7 7 0) 7 15 0) (numT ((S 0 ((10 + 14 * k + 0)))))) [47]) (numT ((S 0 ((10 + 14 * k + 1)))))) [42]) (numT ((S 0 ((10 + 14 * k + 2)))))) [64]) (numT ((S 0 ((10 + 14 * k + 3)))))) [62]) hM ((S 0 ((10 + 14 * k + 5)))) (by omega) (show 0 ≤ ((mWs (mWs (mWs (mWs (mWs (mWs (mWs (mWs (put (put S 7 7 0) 7 15 0) (numT ((S 0 ((10 + 14 * k + 0)))))) [47]) (numT ((S 0 ((10 + 14 * k + 1)))))) [42]) (numT ((S 0 ((10 + 14 * k + 2)))))) [64]) (numT ((S 0 ((10 + 14 * k + 3)))))) [62]) 7 15) ∧ ((mWs (mWs (mWs (mWs (mWs (mWs (mWs (mWs (put (put S 7 7 0) 7 15 0) (numT ((S 0 ((10 + 14 * k + 0)))))) [47]) (numT ((S 0 ((10 + 14 * k + 1)))))) [42]) (numT ((S 0 ((10 + 14 * k + 2)))))) [64]) (numT ((S 0 ((10 + 14 * k + 3)))))) [62]) 7 15) < 39 by first | omega | exact hI.st _ (by omega) (by omega) | exact hI.rv _ (by omega) (by omega) | exact hI) (show 0 ≤ ((S 0 ((10 + 14 * k + 5)))) ∧ ((S 0 ((10 + 14 * k + 5)))) ≤ 99 by first | omega | exact hI.st _ (by omega) (by omega) | exact hI.rv _ (by omega) (by omega) | exact hI)) (cwV 1 hts (lw_V q2585 q2587 qs56 q83 q2588) rfl rfl rfl (by decide +kernel) ⟨(Nat.le_of_ble_eq_true rfl), (Nat.le_of_ble_eq_true rfl)⟩) (kz_preVM (wc := mW E Ad (mWs (mWs (mWs (mWs (mWs (mWs (mWs (mWs (put (put S 7 7 0) 7 15 0) (numT ((S 0 ((10 + 14 * k + 0)))))) [47]) (numT ((S 0 ((10 + 14 * k + 1)))))) [42]) (numT ((S 0 ((10 + 14 * k + 2)))))) [64]) (numT ((S 0 ((10 + 14 * k + 3)))))) [62])) (va_recv hK hP (ci := 2) (q0 := 0) rfl rfl) hG hS hAN hP hD kz_nilP kz_nilA) rfl rfl hl.1 rfl (lv_room (Nat.le_of_ble_eq_true rfl)) dX3_line_133 ⟨(Nat.le_of_ble_eq_true rfl), (Nat.le_of_ble_eq_true rfl)⟩) hP hD hS hA (fun u H9 locs9 hu hP9 hD9 hS9 hzz hkk => ?_)
            clear hzz hkk hP hD hS H locs u
            revert hS9 hD9 hP9 locs9 H9
            intro H locs hP hD hS
            clear hM
            obtain ⟨hM, p32, p33⟩ := hu
            replace hM : MOk (mWs (mWs (mWs (mWs (mWs (mWs (mWs (mWs (mWs (put (put S 7 7 0) 7 15 0) (numT ((S 0 ((10 + 14 * k + 0)))))) [47]) (numT ((S 0 ((10 + 14 * k + 1)))))) [42]) (numT ((S 0 ((10 + 14 * k + 2)))))) [64]) (numT ((S 0 ((10 + 14 * k + 3)))))) [62]) (numT ((S 0 ((10 + 14 * k + 5)))))) := hM
            replace p32 : (mWs (mWs (mWs (mWs (mWs (mWs (mWs (mWs (mWs (put (put S 7 7 0) 7 15 0) (numT ((S 0 ((10 + 14 * k + 0)))))) [47]) (numT ((S 0 ((10 + 14 * k + 1)))))) [42]) (numT ((S 0 ((10 + 14 * k + 2)))))) [64]) (numT ((S 0 ((10 + 14 * k + 3)))))) [62]) (numT ((S 0 ((10 + 14 * k + 5)))))) 7 15 = ((mWs (mWs (mWs (mWs (mWs (mWs (mWs (mWs (put (put S 7 7 0) 7 15 0) (numT ((S 0 ((10 + 14 * k + 0)))))) [47]) (numT ((S 0 ((10 + 14 * k + 1)))))) [42]) (numT ((S 0 ((10 + 14 * k + 2)))))) [64]) (numT ((S 0 ((10 + 14 * k + 3)))))) [62]) 7 15) + (numT ((S 0 ((10 + 14 * k + 5))))).length := p32
            replace p33 : 1 ≤ ((numT ((S 0 ((10 + 14 * k + 5))))).length : Int) ∧ ((numT ((S 0 ((10 + 14 * k + 5))))).length : Int) ≤ 2 := p33
            replace hP : va_P (kD E) kcl (mW E Ad (mWs (mWs (mWs (mWs (mWs (mWs (mWs (mWs (mWs (put (put S 7 7 0) 7 15 0) (numT ((S 0 ((10 + 14 * k + 0)))))) [47]) (numT ((S 0 ((10 + 14 * k + 1)))))) [42]) (numT ((S 0 ((10 + 14 * k + 2)))))) [64]) (numT ((S 0 ((10 + 14 * k + 3)))))) [62]) (numT ((S 0 ((10 + 14 * k + 5))))))) H := hP
            replace hD : va_D A (mW E Ad (mWs (mWs (mWs (mWs (mWs (mWs (mWs (mWs (mWs (put (put S 7 7 0) 7 15 0) (numT ((S 0 ((10 + 14 * k + 0)))))) [47]) (numT ((S 0 ((10 + 14 * k + 1)))))) [42]) (numT ((S 0 ((10 + 14 * k + 2)))))) [64]) (numT ((S 0 ((10 + 14 * k + 3)))))) [62]) (numT ((S 0 ((10 + 14 * k + 5))))))) := hD
            show W p l e _ s m args below meth c H locs _ _ Q (F0 m 136 ls [])
            refine lv_aload_n hx hb dX3_line_136 rfl (lv_at hl 0 rfl) ?_
            have r34 : rI ((mWs (mWs (mWs (mWs (mWs (mWs (mWs (mWs (mWs (put (put S 7 7 0) 7 15 0) (numT ((S 0 ((10 + 14 * k + 0)))))) [47]) (numT ((S 0 ((10 + 14 * k + 1)))))) [42]) (numT ((S 0 ((10 + 14 * k + 2)))))) [64]) (numT ((S 0 ((10 + 14 * k + 3)))))) [62]) (numT ((S 0 ((10 + 14 * k + 5)))))) 7 15) := hM 7 15
            refine va_get (D := kD E) (ci := 2) (fs := mO Ad (mWs (mWs (mWs (mWs (mWs (mWs (mWs (mWs (mWs (put (put S 7 7 0) 7 15 0) (numT ((S 0 ((10 + 14 * k + 0)))))) [47]) (numT ((S 0 ((10 + 14 * k + 1)))))) [42]) (numT ((S 0 ((10 + 14 * k + 2)))))) [64]) (numT ((S 0 ((10 + 14 * k + 3)))))) [62]) (numT ((S 0 ((10 + 14 * k + 5))))))) (v := .int (zI ((mWs (mWs (mWs (mWs (mWs (mWs (mWs (mWs (mWs (put (put S 7 7 0) 7 15 0) (numT ((S 0 ((10 + 14 * k + 0)))))) [47]) (numT ((S 0 ((10 + 14 * k + 1)))))) [42]) (numT ((S 0 ((10 + 14 * k + 2)))))) [64]) (numT ((S 0 ((10 + 14 * k + 3)))))) [62]) (numT ((S 0 ((10 + 14 * k + 5)))))) 7 15))) (C := RX3) (T := TX3) (N := 19) hx hb hts in_X3 hown hK hP 0 rfl rfl 15 (by decide) (hts _ q2335) (fun _ h9 => h9) rfl dX3_line_137 ?_
            have e0 : xLine S k = (mWs (mWs (mWs (mWs (mWs (mWs (mWs (mWs (mWs (put (put S 7 7 0) 7 15 0) (numT ((S 0 ((10 + 14 * k + 0)))))) [47]) (numT ((S 0 ((10 + 14 * k + 1)))))) [42]) (numT ((S 0 ((10 + 14 * k + 2)))))) [64]) (numT ((S 0 ((10 + 14 * k + 3)))))) [62]) (numT ((S 0 ((10 + 14 * k + 5))))), (mWs (mWs (mWs (mWs (mWs (mWs (mWs (mWs (mWs (put (put S 7 7 0) 7 15 0) (numT ((S 0 ((10 + 14 * k + 0)))))) [47]) (numT ((S 0 ((10 + 14 * k + 1)))))) [42]) (numT ((S 0 ((10 + 14 * k + 2)))))) [64]) (numT ((S 0 ((10 + 14 * k + 3)))))) [62]) (numT ((S 0 ((10 + 14 * k + 5)))))) 7 15) := by 
                                                                    unfold xLine
                                                                    refine Eq.trans (if_neg (by omega)) ?_
                                                                    have eS : mWs (mWs (mWs (mWs (mWs (mWs (mWs (mWs (mWs (put (put S 7 7 0) 7 15 0) (numT ((S 0 ((10 + 14 * k + 0)))))) [47]) (numT ((S 0 ((10 + 14 * k + 1)))))) [42]) (numT ((S 0 ((10 + 14 * k + 2)))))) [64]) (numT ((S 0 ((10 + 14 * k + 3)))))) [62]) (numT ((S 0 ((10 + 14 * k + 5))))) = mWs (put (put S 7 7 0) 7 15 0) (lineT (S 0) k) := (by
                                          unfold lineT
                                          (first | rw [if_pos (show 0 ≤ S 0 (10 + 14 * k + 3) by omega)] | rw [if_neg (show ¬ (0 ≤ S 0 (10 + 14 * k + 3)) by omega)] | skip)
                                          (first | rw [if_pos (show S 0 (10 + 14 * k + 5) = -2 by omega)] | rw [if_neg (show ¬ (S 0 (10 + 14 * k + 5) = -2) by omega)] | skip)
                                          (first | rw [if_pos (show 0 ≤ S 0 (10 + 14 * k + 5) by omega)] | rw [if_neg (show ¬ (0 ≤ S 0 (10 + 14 * k + 5)) by omega)] | skip)
                                          simp only [mWs_app, List.append_assoc, List.append_nil])
                                                                    rw [eS]
                                                                    refine Prod.ext rfl ?_
                                                                    show ((lineT (S 0) k).length : Int) = 0 + (lineT (S 0) k).length; omega
            have e1 : (xLine S k).2 = (mWs (mWs (mWs (mWs (mWs (mWs (mWs (mWs (mWs (put (put S 7 7 0) 7 15 0) (numT ((S 0 ((10 + 14 * k + 0)))))) [47]) (numT ((S 0 ((10 + 14 * k + 1)))))) [42]) (numT ((S 0 ((10 + 14 * k + 2)))))) [64]) (numT ((S 0 ((10 + 14 * k + 3)))))) [62]) (numT ((S 0 ((10 + 14 * k + 5)))))) 7 15 := by rw [e0]
            have e3 : (xLine S k).1 = mWs (mWs (mWs (mWs (mWs (mWs (mWs (mWs (mWs (put (put S 7 7 0) 7 15 0) (numT ((S 0 ((10 + 14 * k + 0)))))) [47]) (numT ((S 0 ((10 + 14 * k + 1)))))) [42]) (numT ((S 0 ((10 + 14 * k + 2)))))) [64]) (numT ((S 0 ((10 + 14 * k + 3)))))) [62]) (numT ((S 0 ((10 + 14 * k + 5))))) := by rw [e0]
            exact kz_iret () hx hb hr hlk hP hD hS dX3_line_140 (congrArg (fun z : Int => some (Value.int (zI z))) e1) ⟨(kz_r e1 (by omega)), (kz_M e3 hM)⟩ (congrArg (mW E Ad) e3) hQ (Nat.le_of_ble_eq_true rfl) (Nat.le_of_ble_eq_true rfl)
        · skip
          refine lv_aload_n hx hb dX3_line_102 rfl (lv_at hl 0 rfl) ?_
          refine kz_bipush hx hb dX3_line_103 (by decide) ?_
          refine kz_backM (va_runV (As := [.int (zI (33))]) (rest := []) ⟨hx, hb, hml, hown, hts⟩ (mX3_writes l E H.size Ad (mWs (mWs (mWs (mWs (mWs (mWs (mWs (put (put S 7 7 0) 7 15 0) (numT ((S 0 ((10 + 14 * k + 0)))))) [47]) (numT ((S 0 ((10 + 14 * k + 1)))))) [42]) (numT ((S 0 ((10 + 14 * k + 2)))))) [64]) (numT ((S 0 ((10 + 14 * k + 3)))))) hM 33 (by omega) (show 0 ≤ ((mWs (mWs (mWs (mWs (mWs (mWs (mWs (put (put S 7 7 0) 7 15 0) (numT ((S 0 ((10 + 14 * k + 0)))))) [47]) (numT ((S 0 ((10 + 14 * k + 1)))))) [42]) (numT ((S 0 ((10 + 14 * k + 2)))))) [64]) (numT ((S 0 ((10 + 14 * k + 3)))))) 7 15) ∧ ((mWs (mWs (mWs (mWs (mWs (mWs (mWs (put (put S 7 7 0) 7 15 0) (numT ((S 0 ((10 + 14 * k + 0)))))) [47]) (numT ((S 0 ((10 + 14 * k + 1)))))) [42]) (numT ((S 0 ((10 + 14 * k + 2)))))) [64]) (numT ((S 0 ((10 + 14 * k + 3)))))) 7 15) < 40 by first | omega | exact hI.st _ (by omega) (by omega) | exact hI.rv _ (by omega) (by omega) | exact hI) (show 0 ≤ 33 ∧ 33 < 65536 by first | omega | exact hI.st _ (by omega) (by omega) | exact hI.rv _ (by omega) (by omega) | exact hI)) (cwV 1 hts (lw_V q2589 q2591 qs57 q83 q2592) rfl rfl rfl (by decide +kernel) ⟨(Nat.le_of_ble_eq_true rfl), (Nat.le_of_ble_eq_true rfl)⟩) (kz_preVM (wc := mW E Ad (mWs (mWs (mWs (mWs (mWs (mWs (mWs (put (put S 7 7 0) 7 15 0) (numT ((S 0 ((10 + 14 * k + 0)))))) [47]) (numT ((S 0 ((10 + 14 * k + 1)))))) [42]) (numT ((S 0 ((10 + 14 * k + 2)))))) [64]) (numT ((S 0 ((10 + 14 * k + 3))))))) (va_recv hK hP (ci := 2) (q0 := 0) rfl rfl) hG hS hAN hP hD kz_nilP kz_nilA) rfl rfl hl.1 rfl (lv_room (Nat.le_of_ble_eq_true rfl)) dX3_line_105 ⟨(Nat.le_of_ble_eq_true rfl), (Nat.le_of_ble_eq_true rfl)⟩) hP hD hS hA (fun u H9 locs9 hu hP9 hD9 hS9 hzz hkk => ?_)
          clear hzz hkk hP hD hS H locs u
          revert hS9 hD9 hP9 locs9 H9
          intro H locs hP hD hS
          clear hM
          obtain ⟨hM, p35⟩ := hu
          replace hM : MOk (mWs (mWs (mWs (mWs (mWs (mWs (mWs (mWs (put (put S 7 7 0) 7 15 0) (numT ((S 0 ((10 + 14 * k + 0)))))) [47]) (numT ((S 0 ((10 + 14 * k + 1)))))) [42]) (numT ((S 0 ((10 + 14 * k + 2)))))) [64]) (numT ((S 0 ((10 + 14 * k + 3)))))) [33]) := hM
          replace p35 : (mWs (mWs (mWs (mWs (mWs (mWs (mWs (mWs (put (put S 7 7 0) 7 15 0) (numT ((S 0 ((10 + 14 * k + 0)))))) [47]) (numT ((S 0 ((10 + 14 * k + 1)))))) [42]) (numT ((S 0 ((10 + 14 * k + 2)))))) [64]) (numT ((S 0 ((10 + 14 * k + 3)))))) [33]) 7 15 = ((mWs (mWs (mWs (mWs (mWs (mWs (mWs (put (put S 7 7 0) 7 15 0) (numT ((S 0 ((10 + 14 * k + 0)))))) [47]) (numT ((S 0 ((10 + 14 * k + 1)))))) [42]) (numT ((S 0 ((10 + 14 * k + 2)))))) [64]) (numT ((S 0 ((10 + 14 * k + 3)))))) 7 15) + 1 := p35
          replace hP : va_P (kD E) kcl (mW E Ad (mWs (mWs (mWs (mWs (mWs (mWs (mWs (mWs (put (put S 7 7 0) 7 15 0) (numT ((S 0 ((10 + 14 * k + 0)))))) [47]) (numT ((S 0 ((10 + 14 * k + 1)))))) [42]) (numT ((S 0 ((10 + 14 * k + 2)))))) [64]) (numT ((S 0 ((10 + 14 * k + 3)))))) [33])) H := hP
          replace hD : va_D A (mW E Ad (mWs (mWs (mWs (mWs (mWs (mWs (mWs (mWs (put (put S 7 7 0) 7 15 0) (numT ((S 0 ((10 + 14 * k + 0)))))) [47]) (numT ((S 0 ((10 + 14 * k + 1)))))) [42]) (numT ((S 0 ((10 + 14 * k + 2)))))) [64]) (numT ((S 0 ((10 + 14 * k + 3)))))) [33])) := hD
          show W p l e _ s m args below meth c H locs _ _ Q (F0 m 108 ls [])
          refine lv_goto (tgt := 136) hx hb dX3_line_108 (by decide) ?_
          refine lv_aload_n hx hb dX3_line_136 rfl (lv_at hl 0 rfl) ?_
          have r36 : rI ((mWs (mWs (mWs (mWs (mWs (mWs (mWs (mWs (put (put S 7 7 0) 7 15 0) (numT ((S 0 ((10 + 14 * k + 0)))))) [47]) (numT ((S 0 ((10 + 14 * k + 1)))))) [42]) (numT ((S 0 ((10 + 14 * k + 2)))))) [64]) (numT ((S 0 ((10 + 14 * k + 3)))))) [33]) 7 15) := hM 7 15
          refine va_get (D := kD E) (ci := 2) (fs := mO Ad (mWs (mWs (mWs (mWs (mWs (mWs (mWs (mWs (put (put S 7 7 0) 7 15 0) (numT ((S 0 ((10 + 14 * k + 0)))))) [47]) (numT ((S 0 ((10 + 14 * k + 1)))))) [42]) (numT ((S 0 ((10 + 14 * k + 2)))))) [64]) (numT ((S 0 ((10 + 14 * k + 3)))))) [33])) (v := .int (zI ((mWs (mWs (mWs (mWs (mWs (mWs (mWs (mWs (put (put S 7 7 0) 7 15 0) (numT ((S 0 ((10 + 14 * k + 0)))))) [47]) (numT ((S 0 ((10 + 14 * k + 1)))))) [42]) (numT ((S 0 ((10 + 14 * k + 2)))))) [64]) (numT ((S 0 ((10 + 14 * k + 3)))))) [33]) 7 15))) (C := RX3) (T := TX3) (N := 19) hx hb hts in_X3 hown hK hP 0 rfl rfl 15 (by decide) (hts _ q2335) (fun _ h9 => h9) rfl dX3_line_137 ?_
          have e0 : xLine S k = (mWs (mWs (mWs (mWs (mWs (mWs (mWs (mWs (put (put S 7 7 0) 7 15 0) (numT ((S 0 ((10 + 14 * k + 0)))))) [47]) (numT ((S 0 ((10 + 14 * k + 1)))))) [42]) (numT ((S 0 ((10 + 14 * k + 2)))))) [64]) (numT ((S 0 ((10 + 14 * k + 3)))))) [33], (mWs (mWs (mWs (mWs (mWs (mWs (mWs (mWs (put (put S 7 7 0) 7 15 0) (numT ((S 0 ((10 + 14 * k + 0)))))) [47]) (numT ((S 0 ((10 + 14 * k + 1)))))) [42]) (numT ((S 0 ((10 + 14 * k + 2)))))) [64]) (numT ((S 0 ((10 + 14 * k + 3)))))) [33]) 7 15) := by 
                                                                    unfold xLine
                                                                    refine Eq.trans (if_neg (by omega)) ?_
                                                                    have eS : mWs (mWs (mWs (mWs (mWs (mWs (mWs (mWs (put (put S 7 7 0) 7 15 0) (numT ((S 0 ((10 + 14 * k + 0)))))) [47]) (numT ((S 0 ((10 + 14 * k + 1)))))) [42]) (numT ((S 0 ((10 + 14 * k + 2)))))) [64]) (numT ((S 0 ((10 + 14 * k + 3)))))) [33] = mWs (put (put S 7 7 0) 7 15 0) (lineT (S 0) k) := (by
                                          unfold lineT
                                          (first | rw [if_pos (show 0 ≤ S 0 (10 + 14 * k + 3) by omega)] | rw [if_neg (show ¬ (0 ≤ S 0 (10 + 14 * k + 3)) by omega)] | skip)
                                          (first | rw [if_pos (show S 0 (10 + 14 * k + 5) = -2 by omega)] | rw [if_neg (show ¬ (S 0 (10 + 14 * k + 5) = -2) by omega)] | skip)
                                          (first | rw [if_pos (show 0 ≤ S 0 (10 + 14 * k + 5) by omega)] | rw [if_neg (show ¬ (0 ≤ S 0 (10 + 14 * k + 5)) by omega)] | skip)
                                          simp only [mWs_app, List.append_assoc, List.append_nil])
                                                                    rw [eS]
                                                                    refine Prod.ext rfl ?_
                                                                    show ((lineT (S 0) k).length : Int) = 0 + (lineT (S 0) k).length; omega
          have e1 : (xLine S k).2 = (mWs (mWs (mWs (mWs (mWs (mWs (mWs (mWs (put (put S 7 7 0) 7 15 0) (numT ((S 0 ((10 + 14 * k + 0)))))) [47]) (numT ((S 0 ((10 + 14 * k + 1)))))) [42]) (numT ((S 0 ((10 + 14 * k + 2)))))) [64]) (numT ((S 0 ((10 + 14 * k + 3)))))) [33]) 7 15 := by rw [e0]
          have e3 : (xLine S k).1 = mWs (mWs (mWs (mWs (mWs (mWs (mWs (mWs (put (put S 7 7 0) 7 15 0) (numT ((S 0 ((10 + 14 * k + 0)))))) [47]) (numT ((S 0 ((10 + 14 * k + 1)))))) [42]) (numT ((S 0 ((10 + 14 * k + 2)))))) [64]) (numT ((S 0 ((10 + 14 * k + 3)))))) [33] := by rw [e0]
          exact kz_iret () hx hb hr hlk hP hD hS dX3_line_140 (congrArg (fun z : Int => some (Value.int (zI z))) e1) ⟨(kz_r e1 (by omega)), (kz_M e3 hM)⟩ (congrArg (mW E Ad) e3) hQ (Nat.le_of_ble_eq_true rfl) (Nat.le_of_ble_eq_true rfl)
    · skip
      obtain rfl : v2 = 1 := by omega
      refine kz_iconst hx hb dX3_line_20 ?_
      have e0 : xLine S k = (put S 7 7 1, 0) := by unfold xLine; (repeat (first | refine Eq.trans (if_pos (by omega)) ?_ | refine Eq.trans (if_neg (by omega)) ?_)); rfl
      have e1 : (xLine S k).2 = 0 := by rw [e0]
      have e3 : (xLine S k).1 = put S 7 7 1 := by rw [e0]
      exact kz_iret () hx hb hr hlk hP hD hS dX3_line_21 (congrArg (fun z : Int => some (Value.int (zI z))) e1) ⟨(kz_r e1 (by omega)), (kz_M e3 hM)⟩ (congrArg (mW E Ad) e3) hQ (Nat.le_of_ble_eq_true rfl) (Nat.le_of_ble_eq_true rfl)
  refine kz_if0B (tgt := 13) hx hb dX3_line_6 (by decide) (fun c6 => ?_) (fun c6 => ?_)
  · skip
    refine kz_iconst hx hb dX3_line_13 ?_
    exact J1 1 _ _ _ (Eq.symm (if_neg c6)) (by omega) hP hD hS hl
  · skip
    refine kz_iconst hx hb dX3_line_9 ?_
    refine lv_goto (tgt := 14) hx hb dX3_line_10 (by decide) ?_
    exact J1 0 _ _ _ (Eq.symm (if_pos c6)) (by omega) hP hD hS hl

set_option maxHeartbeats 4000000 in
set_option maxRecDepth 100000 in
theorem mX3_riverLine (l : Launch) (E : KE) (sz : Nat) (Ad : Nat → Nat) (S : St) (hM : MOk S) (B : Int) (river : Int) (rriver : rI river) (hI : GI B (S 0)) : Met l yX3_riverLine (ws_ yX3_riverLine cX3_riverLine 3 (some .int)) (rmk 2 0 0 43) (va_Pc [.ref (Ad 0), .int (zI river)] (kP l E sz (mW E Ad S) [])) (kQ E (fun _ : Unit => rI ((xRLine S river).2) ∧ MOk ((xRLine S river).1)) (fun _ => some (.int (zI ((xRLine S river).2)))) (fun _ => (mW E Ad ((xRLine S river).1))) (va_A (mW E Ad S) sz)) 0 0 (va_A (mW E Ad S) sz) := by
  refine kz_start (Qf := kQ E (fun _ : Unit => rI ((xRLine S river).2) ∧ MOk ((xRLine S river).1)) (fun _ => some (.int (zI ((xRLine S river).2)))) (fun _ => (mW E Ad ((xRLine S river).1)))) (by decide) (Nat.le_of_ble_eq_true rfl) ?_
  intro p e s m args below meth c A ls Q H locs hx hb hr hlk hml hts hown hname hG hK hA hAN hP hD hR hRA hS hQ hl
  replace hown : s.vm.findClass RX3 = some m.cls := hown
  replace hl : lv_has ls 3 [(0, .ref (Ad 0)), (1, .int (zI (river)))] := hl
  have g0 := hI.n
  have g1 := hI.m
  have g2 := hI.ct
  replace hP : va_P (kD E) kcl (mW E Ad (S)) H := hP
  replace hD : va_D A (mW E Ad (S)) := hD
  refine lv_aload_n hx hb dX3_riverLine_0 rfl (lv_at hl 0 rfl) ?_
  refine lv_aload_n hx hb dX3_riverLine_1 rfl (lv_at hl 0 rfl) ?_
  refine lv_iload_n hx hb dX3_riverLine_2 rfl (lv_at hl 1 rfl) ?_
  refine kz_backM (va_runV (As := [.int (zI (river))]) (rest := [.ref (Ad 0)]) ⟨hx, hb, hml, hown, hts⟩ (mX3_isRiver l E H.size Ad S hM river (by omega) (show 0 ≤ (S 0 1) ∧ (S 0 1) ≤ 4 by first | omega | exact hI.st _ (by omega) (by omega) | exact hI.rv _ (by omega) (by omega) | exact hI)) (cwV 1 hts (lw_V q2421 q2423 qs40 q83 q2424) rfl rfl rfl (by decide +kernel) ⟨(Nat.le_of_ble_eq_true rfl), (Nat.le_of_ble_eq_true rfl)⟩) (kz_preVM (wc := mW E Ad S) (va_recv hK hP (ci := 2) (q0 := 0) rfl rfl) hG hS hAN hP hD kz_nilP kz_nilA) rfl rfl hl.1 rfl (lv_room (Nat.le_of_ble_eq_true rfl)) dX3_riverLine_3 ⟨(Nat.le_of_ble_eq_true rfl), (Nat.le_of_ble_eq_true rfl)⟩) hP hD hS hA (fun u H9 locs9 hu hP9 hD9 hS9 hzz hkk => ?_)
  clear hzz hkk hP hD hS H locs u
  revert hS9 hD9 hP9 locs9 H9
  intro H locs hP hD hS
  clear hu
  replace hP : va_P (kD E) kcl (mW E Ad (S)) H := hP
  replace hD : va_D A (mW E Ad (S)) := hD
  show W p l e _ s m args below meth c H locs _ _ Q (F0 m 6 ls [.int (zI (b2 (0 ≤ river ∧ river ≤ (S 0 1) - 1))), .ref (Ad 0)])
  have J1 : ∀ (v2 : Int) (H : Heap) (locs : List Loc) (ls : Array Slot), v2 = (if 0 ≤ river ∧ river ≤ (S 0 1) - 1 then 0 else 1) → rI v2 → va_P (kD E) kcl (mW E Ad (S)) H → va_D A (mW E Ad (S)) → va_S A s.heap H locs → lv_has ls 3 [(0, .ref (Ad 0)), (1, .int (zI (river)))] → W p l e (rmk 2 0 0 43) s m args below meth c H locs 0 0 Q (F0 m 14 ls [.int (zI (v2)), .ref (Ad 0)]) := by
    clear hl hS hD hP ls locs H
    intro v2 H locs ls hv2 rv2 hP hD hS hl
    have dv2 : (¬ (0 ≤ river ∧ river ≤ (S 0 1) - 1) ∧ v2 = 1) ∨ (0 ≤ river ∧ river ≤ (S 0 1) - 1 ∧ v2 = 0) := by rw [hv2]; (repeat' split) <;> first | omega | simp_all
    refine kz_backM (va_runV (As := [.int (zI (v2))]) (rest := []) ⟨hx, hb, hml, hown, hts⟩ (mX3_fails l E H.size Ad S hM v2 (by omega)) (cwV 1 hts (lw_V q2394 q2396 qs36 q83 q2397) rfl rfl rfl (by decide +kernel) ⟨(Nat.le_of_ble_eq_true rfl), (Nat.le_of_ble_eq_true rfl)⟩) (kz_preVM (wc := mW E Ad S) (va_recv hK hP (ci := 2) (q0 := 0) rfl rfl) hG hS hAN hP hD kz_nilP kz_nilA) rfl rfl hl.1 rfl (lv_room (Nat.le_of_ble_eq_true rfl)) dX3_riverLine_14 ⟨(Nat.le_of_ble_eq_true rfl), (Nat.le_of_ble_eq_true rfl)⟩) hP hD hS hA (fun u H9 locs9 hu hP9 hD9 hS9 hzz hkk => ?_)
    clear hzz hkk hP hD hS H locs u
    revert hS9 hD9 hP9 locs9 H9
    intro H locs hP hD hS
    replace hM : MOk (put S 7 7 v2) := hu
    clear hu
    replace hP : va_P (kD E) kcl (mW E Ad (put S 7 7 v2)) H := hP
    replace hD : va_D A (mW E Ad (put S 7 7 v2)) := hD
    show W p l e _ s m args below meth c H locs _ _ Q (F0 m 17 ls [.int (zI (b2 (0 < v2)))])
    refine kz_if0B (tgt := 22) hx hb dX3_riverLine_17 (by decide) (fun c17 => ?_) (fun c17 => ?_)
    · skip
      obtain rfl : v2 = 0 := by omega
      have hbk := fun a h1 h2 => hI.bk river a (by omega) (by omega) h1 h2
      refine lv_aload_n hx hb dX3_riverLine_22 rfl (lv_at hl 0 rfl) ?_
      refine kz_iconst hx hb dX3_riverLine_23 ?_
      refine va_put (D := kD E) (ci := 2) (fs := mO Ad (put S 7 7 0)) (v := .int (zI (0))) (ty := .int) (C := RX3) (T := TX3) (N := 19) hx hb hts in_X3 tyX3 tyX3_ok nmX3 hown hK hP hD hS 0 rfl rfl 15 (by decide) (hts _ q2335) (fun _ h9 => h9) rfl (by decide +kernel) rfl rfl (Nat.le_of_ble_eq_true rfl) dX3_riverLine_24 (fun H9 locs9 hP9 hD9 hS9 => ?_)
      rw [mW_f15] at hP9 hD9
      clear hP hD hS H locs
      revert hS9 hD9 hP9 locs9 H9
      intro H locs hP hD hS
      replace hP : va_P (kD E) kcl (mW E Ad (put (put S 7 7 0) 7 15 0)) H := hP
      replace hD : va_D A (mW E Ad (put (put S 7 7 0) 7 15 0)) := hD
      replace hM : MOk (put (put S 7 7 0) 7 15 0) := hM.put 7 15 (by omega)
      refine kz_iconst hx hb dX3_riverLine_27 ?_
      refine lv_istore_n (lv' := [(2, .int (zI (0))), (0, .ref (Ad 0)), (1, .int (zI (river)))]) hx hb dX3_riverLine_28 rfl hl (by decide) rfl (fun ls hl => ?_)
      have L29_3 : ∀ (fu : Nat) (k : Int) (S1 : St) (H : Heap) (locs : List Loc) (ls : Array Slot), (0 ≤ k ∧ k ≤ 30) → (S1 = mWs (put (put S 7 7 0) 7 15 0) (rlN (S 0) river k.toNat)) → (S1 7 15 = k) → (S1 0 = S 0) → rI k → MOk S1 → (30 - k : Int).toNat < fu → va_P (kD E) kcl (mW E Ad (S1)) H → va_D A (mW E Ad (S1)) → va_S A s.heap H locs → lv_has ls 3 [(0, .ref (Ad 0)), (1, .int (zI (river))), (2, .int (zI (k)))] → W p l e (rmk 2 0 0 43) s m args below meth c H locs 0 0 Q (F0 m 29 ls []) := by
        clear hl hS hD hP ls locs H hM
        intro fu
        induction fu with
        | zero => intro k S1 H locs ls hk hS1 h15 h00 rk hM hf; exact absurd hf (Nat.not_lt_zero _)
        | succ fu ih29 =>
          intro k S1 H locs ls hk hS1 h15 h00 rk hM hf hP hD hS hl
          refine lv_iload_n hx hb dX3_riverLine_29 rfl (lv_at hl 2 rfl) ?_
          refine kz_bipush hx hb dX3_riverLine_30 (by decide) ?_
          refine kz_icmp_ge (tgt := 68) hx hb dX3_riverLine_32 (by decide) (by omega) (by omega) (fun c32 => ?_) (fun c32 => ?_)
          · skip
            refine lv_aload_n hx hb dX3_riverLine_68 rfl (lv_at hl 0 rfl) ?_
            have r4 : rI (S1 7 15) := hM 7 15
            refine va_get (D := kD E) (ci := 2) (fs := mO Ad (S1)) (v := .int (zI (S1 7 15))) (C := RX3) (T := TX3) (N := 19) hx hb hts in_X3 hown hK hP 0 rfl rfl 15 (by decide) (hts _ q2335) (fun _ h9 => h9) rfl dX3_riverLine_69 ?_
            have e0 : xRLine S river = (S1, S1 7 15) := by unfold xRLine; (repeat (first | refine Eq.trans (if_pos (by omega)) ?_ | refine Eq.trans (if_neg (by omega)) ?_)); first | rfl | (rw [h15, hS1, show k = 30 by omega]; rfl)
            have e1 : (xRLine S river).2 = S1 7 15 := by rw [e0]
            have e3 : (xRLine S river).1 = S1 := by rw [e0]
            exact kz_iret () hx hb hr hlk hP hD hS dX3_riverLine_72 (congrArg (fun z : Int => some (Value.int (zI z))) e1) ⟨(kz_r e1 (by omega)), (kz_M e3 hM)⟩ (congrArg (mW E Ad) e3) hQ (Nat.le_of_ble_eq_true rfl) (Nat.le_of_ble_eq_true rfl)
          · skip
            have hbk2 := hbk k (by omega) (by omega)
            have e9 := congrFun h00 (174 + 30 * river + k)
            refine lv_aload_n hx hb dX3_riverLine_35 rfl (lv_at hl 0 rfl) ?_
            refine lv_aload_n hx hb dX3_riverLine_36 rfl (lv_at hl 0 rfl) ?_
            refine lv_iload_n hx hb dX3_riverLine_37 rfl (lv_at hl 1 rfl) ?_
            refine lv_iload_n hx hb dX3_riverLine_38 rfl (lv_at hl 2 rfl) ?_
            refine kz_backM (va_runV (As := [.int (zI (river)), .int (zI (k))]) (rest := [.ref (Ad 0)]) ⟨hx, hb, hml, hown, hts⟩ (mX3_bookedFor l E H.size Ad S1 hM river (by omega) k (by omega) (show 0 ≤ river ∧ river < 4 by first | omega | exact hI.st _ (by omega) (by omega) | exact hI.rv _ (by omega) (by omega) | exact hI) (show 0 ≤ k ∧ k < 30 by first | omega | exact hI.st _ (by omega) (by omega) | exact hI.rv _ (by omega) (by omega) | exact hI)) (cwV 2 hts (lw_V q2465 q2467 qs48 q83 q2468) rfl rfl rfl (by decide +kernel) ⟨(Nat.le_of_ble_eq_true rfl), (Nat.le_of_ble_eq_true rfl)⟩) (kz_preVM (wc := mW E Ad S1) (va_recv hK hP (ci := 2) (q0 := 0) rfl rfl) hG hS hAN hP hD kz_nilP kz_nilA) rfl rfl hl.1 rfl (lv_room (Nat.le_of_ble_eq_true rfl)) dX3_riverLine_39 ⟨(Nat.le_of_ble_eq_true rfl), (Nat.le_of_ble_eq_true rfl)⟩) hP hD hS hA (fun u H9 locs9 hu hP9 hD9 hS9 hzz hkk => ?_)
            clear hzz hkk hP hD hS H locs u
            revert hS9 hD9 hP9 locs9 H9
            intro H locs hP hD hS
            have r5 : rI ((S1 0 ((174 + 30 * river + k)))) := hu
            clear hu
            replace hP : va_P (kD E) kcl (mW E Ad (S1)) H := hP
            replace hD : va_D A (mW E Ad (S1)) := hD
            show W p l e _ s m args below meth c H locs _ _ Q (F0 m 42 ls [.int (zI ((S1 0 ((174 + 30 * river + k))))), .ref (Ad 0)])
            have J6 : ∀ (v7 : Int) (H : Heap) (locs : List Loc) (ls : Array Slot), v7 = (if 0 ≤ ((S1 0 ((174 + 30 * river + k)))) then (48 + ((S1 0 ((174 + 30 * river + k))))) else 46) → rI v7 → va_P (kD E) kcl (mW E Ad (S1)) H → va_D A (mW E Ad (S1)) → va_S A s.heap H locs → lv_has ls 3 [(0, .ref (Ad 0)), (1, .int (zI (river))), (2, .int (zI (k)))] → W p l e (rmk 2 0 0 43) s m args below meth c H locs 0 0 Q (F0 m 59 ls [.int (zI (v7)), .ref (Ad 0)]) := by
              clear hl hS hD hP ls locs H
              intro v7 H locs ls hv7 rv7 hP hD hS hl
              refine kz_backM (va_runV (As := [.int (zI (v7))]) (rest := []) ⟨hx, hb, hml, hown, hts⟩ (mX3_writes l E H.size Ad S1 hM v7 (by omega) (show 0 ≤ (S1 7 15) ∧ (S1 7 15) < 40 by first | omega | exact hI.st _ (by omega) (by omega) | exact hI.rv _ (by omega) (by omega) | exact hI) (show 0 ≤ v7 ∧ v7 < 65536 by first | omega | exact hI.st _ (by omega) (by omega) | exact hI.rv _ (by omega) (by omega) | exact hI)) (cwV 1 hts (lw_V q2589 q2591 qs57 q83 q2592) rfl rfl rfl (by decide +kernel) ⟨(Nat.le_of_ble_eq_true rfl), (Nat.le_of_ble_eq_true rfl)⟩) (kz_preVM (wc := mW E Ad S1) (va_recv hK hP (ci := 2) (q0 := 0) rfl rfl) hG hS hAN hP hD kz_nilP kz_nilA) rfl rfl hl.1 rfl (lv_room (Nat.le_of_ble_eq_true rfl)) dX3_riverLine_59 ⟨(Nat.le_of_ble_eq_true rfl), (Nat.le_of_ble_eq_true rfl)⟩) hP hD hS hA (fun u H9 locs9 hu hP9 hD9 hS9 hzz hkk => ?_)
              clear hzz hkk hP hD hS H locs u
              revert hS9 hD9 hP9 locs9 H9
              intro H locs hP hD hS
              clear hM
              obtain ⟨hM, p8⟩ := hu
              replace hM : MOk (mWs S1 [v7]) := hM
              replace p8 : (mWs S1 [v7]) 7 15 = (S1 7 15) + 1 := p8
              replace hP : va_P (kD E) kcl (mW E Ad (mWs S1 [v7])) H := hP
              replace hD : va_D A (mW E Ad (mWs S1 [v7])) := hD
              show W p l e _ s m args below meth c H locs _ _ Q (F0 m 62 ls [])
              refine kz_iinc (lv' := [(2, .int (zI (k + 1))), (0, .ref (Ad 0)), (1, .int (zI (river)))]) hx hb dX3_riverLine_62 hl (k := 2) rfl (by decide) rfl (fun ls hl => ?_)
              refine lv_goto (tgt := 29) hx hb dX3_riverLine_65 (by decide) ?_
              exact ih29 (k + 1) (mWs S1 [v7]) _ _ _ (by omega) (by rw [rlN_s _ _ hk.1, ← mWs_app, ← hS1]; refine congrArg (fun z => mWs S1 [z]) ?_; (repeat' split) <;> omega) (by omega) (by exact h00) (by omega) hM (by omega) hP hD hS (lv_sub hl [1, 2, 0] rfl)
            refine kz_if_ge (tgt := 50) hx hb dX3_riverLine_42 (by decide) (by omega) (fun c42 => ?_) (fun c42 => ?_)
            · skip
              refine kz_bipush hx hb dX3_riverLine_50 (by decide) ?_
              refine lv_aload_n hx hb dX3_riverLine_52 rfl (lv_at hl 0 rfl) ?_
              refine lv_iload_n hx hb dX3_riverLine_53 rfl (lv_at hl 1 rfl) ?_
              refine lv_iload_n hx hb dX3_riverLine_54 rfl (lv_at hl 2 rfl) ?_
              refine kz_backM (va_runV (As := [.int (zI (river)), .int (zI (k))]) (rest := [.int (zI (48)), .ref (Ad 0)]) ⟨hx, hb, hml, hown, hts⟩ (mX3_bookedFor l E H.size Ad S1 hM river (by omega) k (by omega) (show 0 ≤ river ∧ river < 4 by first | omega | exact hI.st _ (by omega) (by omega) | exact hI.rv _ (by omega) (by omega) | exact hI) (show 0 ≤ k ∧ k < 30 by first | omega | exact hI.st _ (by omega) (by omega) | exact hI.rv _ (by omega) (by omega) | exact hI)) (cwV 2 hts (lw_V q2465 q2467 qs48 q83 q2468) rfl rfl rfl (by decide +kernel) ⟨(Nat.le_of_ble_eq_true rfl), (Nat.le_of_ble_eq_true rfl)⟩) (kz_preVM (wc := mW E Ad S1) (va_recv hK hP (ci := 2) (q0 := 0) rfl rfl) hG hS hAN hP hD kz_nilP kz_nilA) rfl rfl hl.1 rfl (lv_room (Nat.le_of_ble_eq_true rfl)) dX3_riverLine_55 ⟨(Nat.le_of_ble_eq_true rfl), (Nat.le_of_ble_eq_true rfl)⟩) hP hD hS hA (fun u H9 locs9 hu hP9 hD9 hS9 hzz hkk => ?_)
              clear hzz hkk hP hD hS H locs u
              revert hS9 hD9 hP9 locs9 H9
              intro H locs hP hD hS
              have r9 : rI ((S1 0 ((174 + 30 * river + k)))) := hu
              clear hu
              replace hP : va_P (kD E) kcl (mW E Ad (S1)) H := hP
              replace hD : va_D A (mW E Ad (S1)) := hD
              show W p l e _ s m args below meth c H locs _ _ Q (F0 m 58 ls [.int (zI ((S1 0 ((174 + 30 * river + k))))), .int (zI (48)), .ref (Ad 0)])
              refine kz_iadd hx hb dX3_riverLine_58 ?_
              exact J6 ((48 + ((S1 0 ((174 + 30 * river + k)))))) _ _ _ (Eq.symm (if_pos c42)) (by omega) hP hD hS hl
            · skip
              refine kz_bipush hx hb dX3_riverLine_45 (by decide) ?_
              refine lv_goto (tgt := 59) hx hb dX3_riverLine_47 (by decide) ?_
              exact J6 46 _ _ _ (Eq.symm (if_neg c42)) (by omega) hP hD hS hl
      exact L29_3 ((30 - 0 : Int).toNat + 1) 0 (put (put S 7 7 0) 7 15 0) _ _ _ (by omega) (by exact (mWs_nil _).symm) (by rfl) (by rfl) (by omega) hM (Nat.lt_succ_self _) hP hD hS (lv_sub hl [1, 2, 0] rfl)
    · skip
      obtain rfl : v2 = 1 := by omega
      refine kz_iconst hx hb dX3_riverLine_20 ?_
      have e0 : xRLine S river = (put S 7 7 1, 0) := by unfold xRLine; (repeat (first | refine Eq.trans (if_pos (by omega)) ?_ | refine Eq.trans (if_neg (by omega)) ?_)); first | rfl | (rw [h15, hS1, show k = 30 by omega]; rfl)
      have e1 : (xRLine S river).2 = 0 := by rw [e0]
      have e3 : (xRLine S river).1 = put S 7 7 1 := by rw [e0]
      exact kz_iret () hx hb hr hlk hP hD hS dX3_riverLine_21 (congrArg (fun z : Int => some (Value.int (zI z))) e1) ⟨(kz_r e1 (by omega)), (kz_M e3 hM)⟩ (congrArg (mW E Ad) e3) hQ (Nat.le_of_ble_eq_true rfl) (Nat.le_of_ble_eq_true rfl)
  refine kz_if0B (tgt := 13) hx hb dX3_riverLine_6 (by decide) (fun c6 => ?_) (fun c6 => ?_)
  · skip
    refine kz_iconst hx hb dX3_riverLine_13 ?_
    exact J1 1 _ _ _ (Eq.symm (if_neg c6)) (by omega) hP hD hS hl
  · skip
    refine kz_iconst hx hb dX3_riverLine_9 ?_
    refine lv_goto (tgt := 14) hx hb dX3_riverLine_10 (by decide) ?_
    exact J1 0 _ _ _ (Eq.symm (if_pos c6)) (by omega) hP hD hS hl

set_option maxHeartbeats 4000000 in
set_option maxRecDepth 100000 in
theorem mX3_character (l : Launch) (E : KE) (sz : Nat) (Ad : Nat → Nat) (S : St) (hM : MOk S) (B : Int) (ix : Int) (rix : rI ix) (hI : GI B (S 0)) (hsg : 0 ≤ S 7 15 ∧ S 7 15 ≤ 40) (hsr : ∀ i, 0 ≤ S 5 i ∧ S 5 i < 65536) : Met l yX3_character (ws_ yX3_character cX3_character 2 (some .char)) (rmk 1 0 0 22) (va_Pc [.ref (Ad 0), .int (zI ix)] (kP l E sz (mW E Ad S) [])) (kQ E (fun _ : Unit => rI ((xChar S ix).2) ∧ MOk ((xChar S ix).1)) (fun _ => some (.int (zI ((xChar S ix).2)))) (fun _ => (mW E Ad ((xChar S ix).1))) (va_A (mW E Ad S) sz)) 0 0 (va_A (mW E Ad S) sz) := by
  refine kz_start (Qf := kQ E (fun _ : Unit => rI ((xChar S ix).2) ∧ MOk ((xChar S ix).1)) (fun _ => some (.int (zI ((xChar S ix).2)))) (fun _ => (mW E Ad ((xChar S ix).1)))) (by decide) (Nat.le_of_ble_eq_true rfl) ?_
  intro p e s m args below meth c A ls Q H locs hx hb hr hlk hml hts hown hname hG hK hA hAN hP hD hR hRA hS hQ hl
  replace hown : s.vm.findClass RX3 = some m.cls := hown
  replace hl : lv_has ls 2 [(0, .ref (Ad 0)), (1, .int (zI (ix)))] := hl
  have g0 := hI.n
  have g1 := hI.m
  have g2 := hI.ct
  replace hP : va_P (kD E) kcl (mW E Ad (S)) H := hP
  replace hD : va_D A (mW E Ad (S)) := hD
  refine lv_aload_n hx hb dX3_character_0 rfl (lv_at hl 0 rfl) ?_
  refine lv_iload_n hx hb dX3_character_1 rfl (lv_at hl 1 rfl) ?_
  refine kz_iconst hx hb dX3_character_2 ?_
  refine lv_aload_n hx hb dX3_character_3 rfl (lv_at hl 0 rfl) ?_
  have r1 : rI (S 7 15) := hM 7 15
  refine va_get (D := kD E) (ci := 2) (fs := mO Ad (S)) (v := .int (zI (S 7 15))) (C := RX3) (T := TX3) (N := 19) hx hb hts in_X3 hown hK hP 0 rfl rfl 15 (by decide) (hts _ q2335) (fun _ h9 => h9) rfl dX3_character_4 ?_
  refine kz_iconst hx hb dX3_character_7 ?_
  refine kz_isub hx hb dX3_character_8 ?_
  refine kz_back (wc := []) (wx := (mW E Ad (S))) (va_runS (As := [.int (zI (ix)), .int (zI (0)), .int (zI ((S 7 15) - 1))]) (rest := [.ref (Ad 0)]) ⟨hx, hb, hml, hown, hts⟩ (mX3_in l E H.size ix (by omega) 0 (by omega) ((S 7 15) - 1) (by omega)) (va_cwS 3 hts (lw_S q2391 q2392 q83 q2393) rfl rfl rfl (by decide +kernel) ⟨(Nat.le_of_ble_eq_true rfl), (Nat.le_of_ble_eq_true rfl)⟩) (kz_pre (wc := []) (wx := (mW E Ad (S))) hG hS hAN hP hD kz_nilP kz_nilA) rfl rfl hl.1 rfl (lv_room (Nat.le_of_ble_eq_true rfl)) dX3_character_9 ⟨(Nat.le_of_ble_eq_true rfl), (Nat.le_of_ble_eq_true rfl)⟩) hP hD hS hA (fun u H9 locs9 hu hP9 hD9 hS9 hzz hkk => ?_)
  clear hzz hkk hP hD hS H locs u
  revert hS9 hD9 hP9 locs9 H9
  intro H locs hP hD hS
  clear hu
  replace hP : va_P (kD E) kcl (mW E Ad (S)) H := hP
  replace hD : va_D A (mW E Ad (S)) := hD
  show W p l e _ s m args below meth c H locs _ _ Q (F0 m 12 ls [.int (zI (b2 (0 ≤ ix ∧ ix ≤ ((S 7 15) - 1)))), .ref (Ad 0)])
  have J2 : ∀ (v3 : Int) (H : Heap) (locs : List Loc) (ls : Array Slot), v3 = (if 0 ≤ ix ∧ ix ≤ ((S 7 15) - 1) then 0 else 1) → rI v3 → va_P (kD E) kcl (mW E Ad (S)) H → va_D A (mW E Ad (S)) → va_S A s.heap H locs → lv_has ls 2 [(0, .ref (Ad 0)), (1, .int (zI (ix)))] → W p l e (rmk 1 0 0 22) s m args below meth c H locs 0 0 Q (F0 m 20 ls [.int (zI (v3)), .ref (Ad 0)]) := by
    clear hl hS hD hP ls locs H
    intro v3 H locs ls hv3 rv3 hP hD hS hl
    have dv3 : (¬ (0 ≤ ix ∧ ix ≤ ((S 7 15) - 1)) ∧ v3 = 1) ∨ (0 ≤ ix ∧ ix ≤ ((S 7 15) - 1) ∧ v3 = 0) := by rw [hv3]; (repeat' split) <;> first | omega | simp_all
    refine kz_backM (va_runV (As := [.int (zI (v3))]) (rest := []) ⟨hx, hb, hml, hown, hts⟩ (mX3_fails l E H.size Ad S hM v3 (by omega)) (cwV 1 hts (lw_V q2394 q2396 qs36 q83 q2397) rfl rfl rfl (by decide +kernel) ⟨(Nat.le_of_ble_eq_true rfl), (Nat.le_of_ble_eq_true rfl)⟩) (kz_preVM (wc := mW E Ad S) (va_recv hK hP (ci := 2) (q0 := 0) rfl rfl) hG hS hAN hP hD kz_nilP kz_nilA) rfl rfl hl.1 rfl (lv_room (Nat.le_of_ble_eq_true rfl)) dX3_character_20 ⟨(Nat.le_of_ble_eq_true rfl), (Nat.le_of_ble_eq_true rfl)⟩) hP hD hS hA (fun u H9 locs9 hu hP9 hD9 hS9 hzz hkk => ?_)
    clear hzz hkk hP hD hS H locs u
    revert hS9 hD9 hP9 locs9 H9
    intro H locs hP hD hS
    replace hM : MOk (put S 7 7 v3) := hu
    clear hu
    replace hP : va_P (kD E) kcl (mW E Ad (put S 7 7 v3)) H := hP
    replace hD : va_D A (mW E Ad (put S 7 7 v3)) := hD
    show W p l e _ s m args below meth c H locs _ _ Q (F0 m 23 ls [.int (zI (b2 (0 < v3)))])
    refine kz_if0B (tgt := 31) hx hb dX3_character_23 (by decide) (fun c23 => ?_) (fun c23 => ?_)
    · skip
      obtain rfl : v3 = 0 := by omega
      have hs9 := hsr ix
      refine lv_aload_n hx hb dX3_character_31 rfl (lv_at hl 0 rfl) ?_
      refine va_get (D := kD E) (ci := 2) (fs := mO Ad (put S 7 7 0)) (v := .ref (Ad 6)) (C := RX3) (T := TX3) (N := 19) hx hb hts in_X3 hown hK hP 0 rfl rfl 14 (by decide) (hts _ q2334) (fun _ h9 => h9) rfl dX3_character_32 ?_
      refine lv_iload_n hx hb dX3_character_35 rfl (lv_at hl 1 rfl) ?_
      refine kz_cald (cA := kA E 3) (n := 40) (g := S 5) hx hb hK hP 6 3 rfl rfl (by omega) dX3_character_36 ?_
      have r4 : rI (S 5 ix) := hM 5 ix
      have e0 : xChar S ix = (put S 7 7 0, S 5 ix) := by unfold xChar; (repeat (first | refine Eq.trans (if_pos (by omega)) ?_ | refine Eq.trans (if_neg (by omega)) ?_)); rfl
      have e1 : (xChar S ix).2 = S 5 ix := by rw [e0]
      have e3 : (xChar S ix).1 = put S 7 7 0 := by rw [e0]
      exact kz_cret () hx hb hr hlk hP hD hS dX3_character_37 (by omega) (congrArg (fun z : Int => some (Value.int (zI z))) e1) ⟨(kz_r e1 (by omega)), (kz_M e3 hM)⟩ (congrArg (mW E Ad) e3) hQ (Nat.le_of_ble_eq_true rfl) (Nat.le_of_ble_eq_true rfl)
    · skip
      obtain rfl : v3 = 1 := by omega
      refine kz_bipush hx hb dX3_character_26 (by decide) ?_
      refine lv_goto (tgt := 37) hx hb dX3_character_28 (by decide) ?_
      have e0 : xChar S ix = (put S 7 7 1, 32) := by unfold xChar; (repeat (first | refine Eq.trans (if_pos (by omega)) ?_ | refine Eq.trans (if_neg (by omega)) ?_)); rfl
      have e1 : (xChar S ix).2 = 32 := by rw [e0]
      have e3 : (xChar S ix).1 = put S 7 7 1 := by rw [e0]
      exact kz_cret () hx hb hr hlk hP hD hS dX3_character_37 (by omega) (congrArg (fun z : Int => some (Value.int (zI z))) e1) ⟨(kz_r e1 (by omega)), (kz_M e3 hM)⟩ (congrArg (mW E Ad) e3) hQ (Nat.le_of_ble_eq_true rfl) (Nat.le_of_ble_eq_true rfl)
  refine kz_if0B (tgt := 19) hx hb dX3_character_12 (by decide) (fun c12 => ?_) (fun c12 => ?_)
  · skip
    refine kz_iconst hx hb dX3_character_19 ?_
    exact J2 1 _ _ _ (Eq.symm (if_neg c12)) (by omega) hP hD hS hl
  · skip
    refine kz_iconst hx hb dX3_character_15 ?_
    refine lv_goto (tgt := 20) hx hb dX3_character_16 (by decide) ?_
    exact J2 0 _ _ _ (Eq.symm (if_pos c12)) (by omega) hP hD hS hl

