/-! THE MODEL: questions -/
set_option maxHeartbeats 4000000 in
set_option maxRecDepth 100000 in
theorem mX3_ownAngle (l : Launch) (E : KE) (sz : Nat) (Ad : Nat → Nat) (S : St) (hM : MOk S) (stone : Int) (rstone : rI stone) (hst : 0 ≤ stone ∧ stone < 10) (hsb : SB (S 0) stone) : Met l yX3_ownAngle (ws_ yX3_ownAngle cX3_ownAngle 2 (some .int)) (rmk 1 0 0 22) (va_Pc [.ref (Ad 0), .int (zI stone)] (kP l E sz (mW E Ad S) [])) (kQ E (fun _ : Unit => rI (ownAng (S 0) stone)) (fun _ => some (.int (zI (ownAng (S 0) stone)))) (fun _ => (mW E Ad S)) (va_A (mW E Ad S) sz)) 0 0 (va_A (mW E Ad S) sz) := by
  refine kz_start (Qf := kQ E (fun _ : Unit => rI (ownAng (S 0) stone)) (fun _ => some (.int (zI (ownAng (S 0) stone)))) (fun _ => (mW E Ad S))) (by decide) (Nat.le_of_ble_eq_true rfl) ?_
  intro p e s m args below meth c A ls Q H locs hx hb hr hlk hml hts hown hname hG hK hA hAN hP hD hR hRA hS hQ hl
  replace hown : s.vm.findClass RX3 = some m.cls := hown
  replace hl : lv_has ls 2 [(0, .ref (Ad 0)), (1, .int (zI (stone)))] := hl
  replace hP : va_P (kD E) kcl (mW E Ad (S)) H := hP
  replace hD : va_D A (mW E Ad (S)) := hD
  refine kz_bipush hx hb dX3_ownAngle_0 (by decide) ?_
  refine kz_iconst hx hb dX3_ownAngle_2 ?_
  refine lv_aload_n hx hb dX3_ownAngle_3 rfl (lv_at hl 0 rfl) ?_
  refine lv_iload_n hx hb dX3_ownAngle_4 rfl (lv_at hl 1 rfl) ?_
  refine kz_iconst hx hb dX3_ownAngle_5 ?_
  refine kz_backM (va_runV (As := [.int (zI (stone)), .int (zI (0))]) (rest := [.int (zI (2)), .int (zI (10))]) ⟨hx, hb, hml, hown, hts⟩ (mX3_of l E H.size Ad S hM stone (by omega) 0 (by omega) (show 0 ≤ stone ∧ stone < 10 by first | omega | exact hI.st _ (by omega) (by omega) | exact hI.rv _ (by omega) (by omega) | exact hI) (show 0 ≤ 0 ∧ 0 < 14 by first | omega | exact hI.st _ (by omega) (by omega) | exact hI.rv _ (by omega) (by omega) | exact hI)) (cwV 2 hts (lw_V q2441 q2443 qs44 q83 q2444) rfl rfl rfl (by decide +kernel) ⟨(Nat.le_of_ble_eq_true rfl), (Nat.le_of_ble_eq_true rfl)⟩) (kz_preVM (wc := mW E Ad S) (va_recv hK hP (ci := 2) (q0 := 0) rfl rfl) hG hS hAN hP hD kz_nilP kz_nilA) rfl rfl hl.1 rfl (lv_room (Nat.le_of_ble_eq_true rfl)) dX3_ownAngle_6 ⟨(Nat.le_of_ble_eq_true rfl), (Nat.le_of_ble_eq_true rfl)⟩) hP hD hS hA (fun u H9 locs9 hu hP9 hD9 hS9 hzz hkk => ?_)
  clear hzz hkk hP hD hS H locs u
  revert hS9 hD9 hP9 locs9 H9
  intro H locs hP hD hS
  have r1 : rI ((S 0 ((10 + 14 * stone + 0)))) := hu
  clear hu
  replace hP : va_P (kD E) kcl (mW E Ad (S)) H := hP
  replace hD : va_D A (mW E Ad (S)) := hD
  show W p l e _ s m args below meth c H locs _ _ Q (F0 m 9 ls [.int (zI ((S 0 ((10 + 14 * stone + 0))))), .int (zI (2)), .int (zI (10))])
  refine kz_imul hx hb dX3_ownAngle_9 ?_
  refine kz_iadd hx hb dX3_ownAngle_10 ?_
  refine lv_aload_n hx hb dX3_ownAngle_11 rfl (lv_at hl 0 rfl) ?_
  refine lv_iload_n hx hb dX3_ownAngle_12 rfl (lv_at hl 1 rfl) ?_
  refine kz_iconst hx hb dX3_ownAngle_13 ?_
  refine kz_backM (va_runV (As := [.int (zI (stone)), .int (zI (1))]) (rest := [.int (zI (10 + (2 * ((S 0 ((10 + 14 * stone + 0)))))))]) ⟨hx, hb, hml, hown, hts⟩ (mX3_of l E H.size Ad S hM stone (by omega) 1 (by omega) (show 0 ≤ stone ∧ stone < 10 by first | omega | exact hI.st _ (by omega) (by omega) | exact hI.rv _ (by omega) (by omega) | exact hI) (show 0 ≤ 1 ∧ 1 < 14 by first | omega | exact hI.st _ (by omega) (by omega) | exact hI.rv _ (by omega) (by omega) | exact hI)) (cwV 2 hts (lw_V q2441 q2443 qs44 q83 q2444) rfl rfl rfl (by decide +kernel) ⟨(Nat.le_of_ble_eq_true rfl), (Nat.le_of_ble_eq_true rfl)⟩) (kz_preVM (wc := mW E Ad S) (va_recv hK hP (ci := 2) (q0 := 0) rfl rfl) hG hS hAN hP hD kz_nilP kz_nilA) rfl rfl hl.1 rfl (lv_room (Nat.le_of_ble_eq_true rfl)) dX3_ownAngle_14 ⟨(Nat.le_of_ble_eq_true rfl), (Nat.le_of_ble_eq_true rfl)⟩) hP hD hS hA (fun u H9 locs9 hu hP9 hD9 hS9 hzz hkk => ?_)
  clear hzz hkk hP hD hS H locs u
  revert hS9 hD9 hP9 locs9 H9
  intro H locs hP hD hS
  have r2 : rI ((S 0 ((10 + 14 * stone + 1)))) := hu
  clear hu
  replace hP : va_P (kD E) kcl (mW E Ad (S)) H := hP
  replace hD : va_D A (mW E Ad (S)) := hD
  show W p l e _ s m args below meth c H locs _ _ Q (F0 m 17 ls [.int (zI ((S 0 ((10 + 14 * stone + 1))))), .int (zI (10 + (2 * ((S 0 ((10 + 14 * stone + 0)))))))])
  refine kz_isub hx hb dX3_ownAngle_17 ?_
  have e1 : (ownAng (S 0) stone : Int) = (10 + (2 * ((S 0 ((10 + 14 * stone + 0)))))) - ((S 0 ((10 + 14 * stone + 1)))) := by unfold ownAng; omega
  exact kz_iret () hx hb hr hlk hP hD hS dX3_ownAngle_18 (congrArg (fun z : Int => some (Value.int (zI z))) e1) (kz_r e1 (by omega)) rfl hQ (Nat.le_of_ble_eq_true rfl) (Nat.le_of_ble_eq_true rfl)

set_option maxHeartbeats 4000000 in
set_option maxRecDepth 100000 in
theorem mX3_stay (l : Launch) (E : KE) (sz : Nat) (Ad : Nat → Nat) (S : St) (hM : MOk S) (w : Int) (rw : rI w) (g0 : 0 ≤ S 0 0 ∧ S 0 0 ≤ 10) : Met l yX3_stay (ws_ yX3_stay cX3_stay 4 (some .int)) (rmk 1 0 0 22) (va_Pc [.ref (Ad 0), .int (zI w)] (kP l E sz (mW E Ad S) [])) (kQ E (fun _ : Unit => rI (stay (S 0) w)) (fun _ => some (.int (zI (stay (S 0) w)))) (fun _ => (mW E Ad S)) (va_A (mW E Ad S) sz)) 0 0 (va_A (mW E Ad S) sz) := by
  refine kz_start (Qf := kQ E (fun _ : Unit => rI (stay (S 0) w)) (fun _ => some (.int (zI (stay (S 0) w)))) (fun _ => (mW E Ad S))) (by decide) (Nat.le_of_ble_eq_true rfl) ?_
  intro p e s m args below meth c A ls Q H locs hx hb hr hlk hml hts hown hname hG hK hA hAN hP hD hR hRA hS hQ hl
  replace hown : s.vm.findClass RX3 = some m.cls := hown
  replace hl : lv_has ls 4 [(0, .ref (Ad 0)), (1, .int (zI (w)))] := hl
  replace hP : va_P (kD E) kcl (mW E Ad (S)) H := hP
  replace hD : va_D A (mW E Ad (S)) := hD
  refine kz_iconst hx hb dX3_stay_0 ?_
  refine lv_istore_n (lv' := [(2, .int (zI (0))), (0, .ref (Ad 0)), (1, .int (zI (w)))]) hx hb dX3_stay_1 rfl hl (by decide) rfl (fun ls hl => ?_)
  refine kz_iconst hx hb dX3_stay_2 ?_
  refine lv_istore_n (lv' := [(3, .int (zI (0))), (2, .int (zI (0))), (0, .ref (Ad 0)), (1, .int (zI (w)))]) hx hb dX3_stay_3 rfl hl (by decide) rfl (fun ls hl => ?_)
  have L4_1 : ∀ (fu : Nat) (n k : Int) (H : Heap) (locs : List Loc) (ls : Array Slot), (0 ≤ k ∧ k ≤ S 0 0 ∧ 0 ≤ n ∧ n ≤ k) → (n = sumTo (fun k => b2 (S 0 (10 + 14 * k + 5) = w ∨ (w = 9 ∧ 0 ≤ S 0 (10 + 14 * k + 5)))) k.toNat) → rI n → rI k → (S 0 0 - k : Int).toNat < fu → va_P (kD E) kcl (mW E Ad (S)) H → va_D A (mW E Ad (S)) → va_S A s.heap H locs → lv_has ls 4 [(0, .ref (Ad 0)), (1, .int (zI (w))), (2, .int (zI (n))), (3, .int (zI (k)))] → W p l e (rmk 1 0 0 22) s m args below meth c H locs 0 0 Q (F0 m 4 ls []) := by
    clear hl hS hD hP ls locs H
    intro fu
    induction fu with
    | zero => intro n k H locs ls hk hn rn rk hf; exact absurd hf (Nat.not_lt_zero _)
    | succ fu ih4 =>
      intro n k H locs ls hk hn rn rk hf hP hD hS hl
      refine lv_iload_n hx hb dX3_stay_4 rfl (lv_at hl 3 rfl) ?_
      refine lv_aload_n hx hb dX3_stay_5 rfl (lv_at hl 0 rfl) ?_
      refine va_get (D := kD E) (ci := 2) (fs := mO Ad (S)) (v := .ref (Ad 1)) (C := RX3) (T := TX3) (N := 19) hx hb hts in_X3 hown hK hP 0 rfl rfl 0 (by decide) (hts _ q2320) (fun _ h9 => h9) rfl dX3_stay_6 ?_
      refine kz_iconst hx hb dX3_stay_9 ?_
      refine kz_iald (cA := kA E 0) (n := 304) (g := S 0) hx hb hK hP 1 0 rfl rfl (by omega) dX3_stay_10 ?_
      have r2 : rI (S 0 0) := hM 0 0
      refine kz_icmp_ge (tgt := 53) hx hb dX3_stay_11 (by decide) (by omega) (by omega) (fun c11 => ?_) (fun c11 => ?_)
      · skip
        refine lv_iload_n hx hb dX3_stay_53 rfl (lv_at hl 2 rfl) ?_
        have e1 : (stay (S 0) w : Int) = n := by rw [hn, show k = S 0 0 by omega]; rfl
        exact kz_iret () hx hb hr hlk hP hD hS dX3_stay_54 (congrArg (fun z : Int => some (Value.int (zI z))) e1) (kz_r e1 (by omega)) rfl hQ (Nat.le_of_ble_eq_true rfl) (Nat.le_of_ble_eq_true rfl)
      · skip
        refine lv_iload_n hx hb dX3_stay_14 rfl (lv_at hl 2 rfl) ?_
        refine lv_aload_n hx hb dX3_stay_15 rfl (lv_at hl 0 rfl) ?_
        refine lv_iload_n hx hb dX3_stay_16 rfl (lv_at hl 3 rfl) ?_
        refine kz_iconst hx hb dX3_stay_17 ?_
        refine kz_backM (va_runV (As := [.int (zI (k)), .int (zI (5))]) (rest := [.int (zI (n))]) ⟨hx, hb, hml, hown, hts⟩ (mX3_of l E H.size Ad S hM k (by omega) 5 (by omega) (show 0 ≤ k ∧ k < 10 by first | omega | exact hI.st _ (by omega) (by omega) | exact hI.rv _ (by omega) (by omega) | exact hI) (show 0 ≤ 5 ∧ 5 < 14 by first | omega | exact hI.st _ (by omega) (by omega) | exact hI.rv _ (by omega) (by omega) | exact hI)) (cwV 2 hts (lw_V q2441 q2443 qs44 q83 q2444) rfl rfl rfl (by decide +kernel) ⟨(Nat.le_of_ble_eq_true rfl), (Nat.le_of_ble_eq_true rfl)⟩) (kz_preVM (wc := mW E Ad S) (va_recv hK hP (ci := 2) (q0 := 0) rfl rfl) hG hS hAN hP hD kz_nilP kz_nilA) rfl rfl hl.1 rfl (lv_room (Nat.le_of_ble_eq_true rfl)) dX3_stay_18 ⟨(Nat.le_of_ble_eq_true rfl), (Nat.le_of_ble_eq_true rfl)⟩) hP hD hS hA (fun u H9 locs9 hu hP9 hD9 hS9 hzz hkk => ?_)
        clear hzz hkk hP hD hS H locs u
        revert hS9 hD9 hP9 locs9 H9
        intro H locs hP hD hS
        have r3 : rI ((S 0 ((10 + 14 * k + 5)))) := hu
        clear hu
        replace hP : va_P (kD E) kcl (mW E Ad (S)) H := hP
        replace hD : va_D A (mW E Ad (S)) := hD
        show W p l e _ s m args below meth c H locs _ _ Q (F0 m 21 ls [.int (zI ((S 0 ((10 + 14 * k + 5))))), .int (zI (n))])
        refine lv_iload_n hx hb dX3_stay_21 rfl (lv_at hl 1 rfl) ?_
        have J4 : ∀ (v5 : Int) (H : Heap) (locs : List Loc) (ls : Array Slot), v5 = b2 ((((S 0 ((10 + 14 * k + 5)))) = w) ∨ ((w = 9) ∧ (¬ (((S 0 ((10 + 14 * k + 5)))) < 0)))) → va_P (kD E) kcl (mW E Ad (S)) H → va_D A (mW E Ad (S)) → va_S A s.heap H locs → lv_has ls 4 [(0, .ref (Ad 0)), (1, .int (zI (w))), (2, .int (zI (n))), (3, .int (zI (k)))] → W p l e (rmk 1 0 0 22) s m args below meth c H locs 0 0 Q (F0 m 45 ls [.int (zI (v5)), .int (zI (n))]) := by
          clear hl hS hD hP ls locs H
          intro v5 H locs ls hv5 hP hD hS hl
          subst hv5
          have z6 := b2_01 ((((S 0 ((10 + 14 * k + 5)))) = w) ∨ ((w = 9) ∧ (¬ (((S 0 ((10 + 14 * k + 5)))) < 0))))
          refine kz_iadd hx hb dX3_stay_45 ?_
          refine lv_istore_n (lv' := [(2, .int (zI (n + (b2 ((((S 0 ((10 + 14 * k + 5)))) = w) ∨ ((w = 9) ∧ (¬ (((S 0 ((10 + 14 * k + 5)))) < 0)))))))), (0, .ref (Ad 0)), (1, .int (zI (w))), (3, .int (zI (k)))]) hx hb dX3_stay_46 rfl hl (by decide) rfl (fun ls hl => ?_)
          refine kz_iinc (lv' := [(3, .int (zI (k + 1))), (2, .int (zI (n + (b2 ((((S 0 ((10 + 14 * k + 5)))) = w) ∨ ((w = 9) ∧ (¬ (((S 0 ((10 + 14 * k + 5)))) < 0)))))))), (0, .ref (Ad 0)), (1, .int (zI (w)))]) hx hb dX3_stay_47 hl (k := 3) rfl (by decide) rfl (fun ls hl => ?_)
          refine lv_goto (tgt := 4) hx hb dX3_stay_50 (by decide) ?_
          exact ih4 (n + (b2 ((((S 0 ((10 + 14 * k + 5)))) = w) ∨ ((w = 9) ∧ (¬ (((S 0 ((10 + 14 * k + 5)))) < 0)))))) (k + 1) _ _ _ (by omega) (by rw [sumTo_s _ hk.1, hn]; exact congrArg (_ + ·) (b2_c (by omega))) (by omega) (by omega) (by omega) hP hD hS (lv_sub hl [2, 3, 1, 0] rfl)
        refine kz_icmp_eq (tgt := 40) hx hb dX3_stay_22 (by decide) (by omega) (by omega) (fun c22 => ?_) (fun c22 => ?_)
        · skip
          refine kz_iconst hx hb dX3_stay_40 ?_
          refine lv_goto (tgt := 45) hx hb dX3_stay_41 (by decide) ?_
          exact J4 1 _ _ _ (b2_t (by first | omega | simp only [c22, if_true, if_false, and_true, true_and, and_false, false_and, or_true, true_or, or_false, false_or, not_true_eq_false, not_false_eq_true])).symm hP hD hS hl
        · skip
          refine lv_iload_n hx hb dX3_stay_25 rfl (lv_at hl 1 rfl) ?_
          refine kz_bipush hx hb dX3_stay_26 (by decide) ?_
          refine kz_icmp_ne (tgt := 44) hx hb dX3_stay_28 (by decide) (by omega) (by omega) (fun c28 => ?_) (fun c28 => ?_)
          · skip
            refine kz_iconst hx hb dX3_stay_44 ?_
            exact J4 0 _ _ _ (b2_f (by first | omega | simp only [c22, c28, if_true, if_false, and_true, true_and, and_false, false_and, or_true, true_or, or_false, false_or, not_true_eq_false, not_false_eq_true])).symm hP hD hS hl
          · skip
            refine lv_aload_n hx hb dX3_stay_31 rfl (lv_at hl 0 rfl) ?_
            refine lv_iload_n hx hb dX3_stay_32 rfl (lv_at hl 3 rfl) ?_
            refine kz_iconst hx hb dX3_stay_33 ?_
            refine kz_backM (va_runV (As := [.int (zI (k)), .int (zI (5))]) (rest := [.int (zI (n))]) ⟨hx, hb, hml, hown, hts⟩ (mX3_of l E H.size Ad S hM k (by omega) 5 (by omega) (show 0 ≤ k ∧ k < 10 by first | omega | exact hI.st _ (by omega) (by omega) | exact hI.rv _ (by omega) (by omega) | exact hI) (show 0 ≤ 5 ∧ 5 < 14 by first | omega | exact hI.st _ (by omega) (by omega) | exact hI.rv _ (by omega) (by omega) | exact hI)) (cwV 2 hts (lw_V q2441 q2443 qs44 q83 q2444) rfl rfl rfl (by decide +kernel) ⟨(Nat.le_of_ble_eq_true rfl), (Nat.le_of_ble_eq_true rfl)⟩) (kz_preVM (wc := mW E Ad S) (va_recv hK hP (ci := 2) (q0 := 0) rfl rfl) hG hS hAN hP hD kz_nilP kz_nilA) rfl rfl hl.1 rfl (lv_room (Nat.le_of_ble_eq_true rfl)) dX3_stay_34 ⟨(Nat.le_of_ble_eq_true rfl), (Nat.le_of_ble_eq_true rfl)⟩) hP hD hS hA (fun u H9 locs9 hu hP9 hD9 hS9 hzz hkk => ?_)
            clear hzz hkk hP hD hS H locs u
            revert hS9 hD9 hP9 locs9 H9
            intro H locs hP hD hS
            have r7 : rI ((S 0 ((10 + 14 * k + 5)))) := hu
            clear hu
            replace hP : va_P (kD E) kcl (mW E Ad (S)) H := hP
            replace hD : va_D A (mW E Ad (S)) := hD
            show W p l e _ s m args below meth c H locs _ _ Q (F0 m 37 ls [.int (zI ((S 0 ((10 + 14 * k + 5))))), .int (zI (n))])
            refine kz_if_lt (tgt := 44) hx hb dX3_stay_37 (by decide) (by omega) (fun c37 => ?_) (fun c37 => ?_)
            · skip
              refine kz_iconst hx hb dX3_stay_44 ?_
              exact J4 0 _ _ _ (b2_f (by first | omega | simp only [c22, c28, c37, if_true, if_false, and_true, true_and, and_false, false_and, or_true, true_or, or_false, false_or, not_true_eq_false, not_false_eq_true])).symm hP hD hS hl
            · skip
              refine kz_iconst hx hb dX3_stay_40 ?_
              refine lv_goto (tgt := 45) hx hb dX3_stay_41 (by decide) ?_
              exact J4 1 _ _ _ (b2_t (by first | omega | simp only [c22, c28, c37, if_true, if_false, and_true, true_and, and_false, false_and, or_true, true_or, or_false, false_or, not_true_eq_false, not_false_eq_true])).symm hP hD hS hl
  exact L4_1 ((S 0 0 - 0 : Int).toNat + 1) 0 0 _ _ _ (by omega) (by rfl) (by omega) (by omega) (Nat.lt_succ_self _) hP hD hS (lv_sub hl [2, 3, 1, 0] rfl)

set_option maxHeartbeats 4000000 in
set_option maxRecDepth 100000 in
theorem mX3_daysFor (l : Launch) (E : KE) (sz : Nat) (Ad : Nat → Nat) (S : St) (hM : MOk S) (st : Int) (rst : rI st) (g1 : 0 ≤ S 0 1 ∧ S 0 1 ≤ 4) : Met l yX3_daysFor (ws_ yX3_daysFor cX3_daysFor 4 (some .int)) (rmk 0 0 0 0) (va_Pc [.ref (Ad 0), .int (zI st)] (kP l E sz (mW E Ad S) [])) (kQ E (fun _ : Unit => rI (daysFor (S 0) st)) (fun _ => some (.int (zI (daysFor (S 0) st)))) (fun _ => (mW E Ad S)) (va_A (mW E Ad S) sz)) 0 0 (va_A (mW E Ad S) sz) := by
  refine kz_start (Qf := kQ E (fun _ : Unit => rI (daysFor (S 0) st)) (fun _ => some (.int (zI (daysFor (S 0) st)))) (fun _ => (mW E Ad S))) (by decide) (Nat.le_of_ble_eq_true rfl) ?_
  intro p e s m args below meth c A ls Q H locs hx hb hr hlk hml hts hown hname hG hK hA hAN hP hD hR hRA hS hQ hl
  replace hown : s.vm.findClass RX3 = some m.cls := hown
  replace hl : lv_has ls 4 [(0, .ref (Ad 0)), (1, .int (zI (st)))] := hl
  replace hP : va_P (kD E) kcl (mW E Ad (S)) H := hP
  replace hD : va_D A (mW E Ad (S)) := hD
  refine kz_iconst hx hb dX3_daysFor_0 ?_
  refine lv_istore_n (lv' := [(2, .int (zI (0))), (0, .ref (Ad 0)), (1, .int (zI (st)))]) hx hb dX3_daysFor_1 rfl hl (by decide) rfl (fun ls hl => ?_)
  refine kz_sipush hx hb dX3_daysFor_2 (by decide) ?_
  refine lv_istore_n (lv' := [(3, .int (zI (174))), (2, .int (zI (0))), (0, .ref (Ad 0)), (1, .int (zI (st)))]) hx hb dX3_daysFor_5 rfl hl (by decide) rfl (fun ls hl => ?_)
  have L6_1 : ∀ (fu : Nat) (n k : Int) (H : Heap) (locs : List Loc) (ls : Array Slot), (174 ≤ k ∧ k ≤ 174 + 30 * S 0 1 ∧ 0 ≤ n ∧ n ≤ k) → (n = sumTo (fun j => b2 (S 0 (174 + j) = st)) (k - 174).toNat) → rI n → rI k → (174 + 30 * S 0 1 - k : Int).toNat < fu → va_P (kD E) kcl (mW E Ad (S)) H → va_D A (mW E Ad (S)) → va_S A s.heap H locs → lv_has ls 4 [(0, .ref (Ad 0)), (1, .int (zI (st))), (2, .int (zI (n))), (3, .int (zI (k)))] → W p l e (rmk 0 0 0 0) s m args below meth c H locs 0 0 Q (F0 m 6 ls []) := by
    clear hl hS hD hP ls locs H
    intro fu
    induction fu with
    | zero => intro n k H locs ls hk hn rn rk hf; exact absurd hf (Nat.not_lt_zero _)
    | succ fu ih6 =>
      intro n k H locs ls hk hn rn rk hf hP hD hS hl
      refine lv_iload_n hx hb dX3_daysFor_6 rfl (lv_at hl 3 rfl) ?_
      refine kz_sipush hx hb dX3_daysFor_7 (by decide) ?_
      refine kz_bipush hx hb dX3_daysFor_10 (by decide) ?_
      refine lv_aload_n hx hb dX3_daysFor_12 rfl (lv_at hl 0 rfl) ?_
      refine va_get (D := kD E) (ci := 2) (fs := mO Ad (S)) (v := .ref (Ad 1)) (C := RX3) (T := TX3) (N := 19) hx hb hts in_X3 hown hK hP 0 rfl rfl 0 (by decide) (hts _ q2320) (fun _ h9 => h9) rfl dX3_daysFor_13 ?_
      refine kz_iconst hx hb dX3_daysFor_16 ?_
      refine kz_iald (cA := kA E 0) (n := 304) (g := S 0) hx hb hK hP 1 0 rfl rfl (by omega) dX3_daysFor_17 ?_
      have r2 : rI (S 0 1) := hM 0 1
      refine kz_imul hx hb dX3_daysFor_18 ?_
      refine kz_iadd hx hb dX3_daysFor_19 ?_
      refine kz_icmp_ge (tgt := 47) hx hb dX3_daysFor_20 (by decide) (by omega) (by omega) (fun c20 => ?_) (fun c20 => ?_)
      · skip
        refine lv_iload_n hx hb dX3_daysFor_47 rfl (lv_at hl 2 rfl) ?_
        have e1 : (daysFor (S 0) st : Int) = n := by rw [hn, show k - 174 = 30 * S 0 1 by omega]; rfl
        exact kz_iret () hx hb hr hlk hP hD hS dX3_daysFor_48 (congrArg (fun z : Int => some (Value.int (zI z))) e1) (kz_r e1 (by omega)) rfl hQ (Nat.le_of_ble_eq_true rfl) (Nat.le_of_ble_eq_true rfl)
      · skip
        refine lv_iload_n hx hb dX3_daysFor_23 rfl (lv_at hl 2 rfl) ?_
        refine lv_aload_n hx hb dX3_daysFor_24 rfl (lv_at hl 0 rfl) ?_
        refine va_get (D := kD E) (ci := 2) (fs := mO Ad (S)) (v := .ref (Ad 1)) (C := RX3) (T := TX3) (N := 19) hx hb hts in_X3 hown hK hP 0 rfl rfl 0 (by decide) (hts _ q2320) (fun _ h9 => h9) rfl dX3_daysFor_25 ?_
        refine lv_iload_n hx hb dX3_daysFor_28 rfl (lv_at hl 3 rfl) ?_
        refine kz_iald (cA := kA E 0) (n := 304) (g := S 0) hx hb hK hP 1 0 rfl rfl (by omega) dX3_daysFor_29 ?_
        have r3 : rI (S 0 k) := hM 0 k
        refine lv_iload_n hx hb dX3_daysFor_30 rfl (lv_at hl 1 rfl) ?_
        have J4 : ∀ (v5 : Int) (H : Heap) (locs : List Loc) (ls : Array Slot), v5 = b2 ((S 0 k) = st) → va_P (kD E) kcl (mW E Ad (S)) H → va_D A (mW E Ad (S)) → va_S A s.heap H locs → lv_has ls 4 [(0, .ref (Ad 0)), (1, .int (zI (st))), (2, .int (zI (n))), (3, .int (zI (k)))] → W p l e (rmk 0 0 0 0) s m args below meth c H locs 0 0 Q (F0 m 39 ls [.int (zI (v5)), .int (zI (n))]) := by
          clear hl hS hD hP ls locs H
          intro v5 H locs ls hv5 hP hD hS hl
          subst hv5
          have z6 := b2_01 ((S 0 k) = st)
          refine kz_iadd hx hb dX3_daysFor_39 ?_
          refine lv_istore_n (lv' := [(2, .int (zI (n + (b2 ((S 0 k) = st))))), (0, .ref (Ad 0)), (1, .int (zI (st))), (3, .int (zI (k)))]) hx hb dX3_daysFor_40 rfl hl (by decide) rfl (fun ls hl => ?_)
          refine kz_iinc (lv' := [(3, .int (zI (k + 1))), (2, .int (zI (n + (b2 ((S 0 k) = st))))), (0, .ref (Ad 0)), (1, .int (zI (st)))]) hx hb dX3_daysFor_41 hl (k := 3) rfl (by decide) rfl (fun ls hl => ?_)
          refine lv_goto (tgt := 6) hx hb dX3_daysFor_44 (by decide) ?_
          exact ih6 (n + (b2 ((S 0 k) = st))) (k + 1) _ _ _ (by omega) (by rw [show k + 1 - 174 = (k - 174) + 1 by omega, sumTo_s _ (by omega), hn]; refine congrArg (_ + ·) (b2_c ?_); rw [show 174 + (k - 174) = k by omega]) (by omega) (by omega) (by omega) hP hD hS (lv_sub hl [2, 3, 1, 0] rfl)
        refine kz_icmp_ne (tgt := 38) hx hb dX3_daysFor_31 (by decide) (by omega) (by omega) (fun c31 => ?_) (fun c31 => ?_)
        · skip
          refine kz_iconst hx hb dX3_daysFor_38 ?_
          exact J4 0 _ _ _ (b2_f (by first | omega | simp only [c31, if_true, if_false, and_true, true_and, and_false, false_and, or_true, true_or, or_false, false_or, not_true_eq_false, not_false_eq_true])).symm hP hD hS hl
        · skip
          refine kz_iconst hx hb dX3_daysFor_34 ?_
          refine lv_goto (tgt := 39) hx hb dX3_daysFor_35 (by decide) ?_
          exact J4 1 _ _ _ (b2_t (by first | omega | simp only [c31, if_true, if_false, and_true, true_and, and_false, false_and, or_true, true_or, or_false, false_or, not_true_eq_false, not_false_eq_true])).symm hP hD hS hl
  exact L6_1 ((174 + 30 * S 0 1 - 174 : Int).toNat + 1) 0 174 _ _ _ (by omega) (by rfl) (by omega) (by omega) (Nat.lt_succ_self _) hP hD hS (lv_sub hl [2, 3, 1, 0] rfl)

set_option maxHeartbeats 4000000 in
set_option maxRecDepth 100000 in
theorem mX3_daysOf (l : Launch) (E : KE) (sz : Nat) (Ad : Nat → Nat) (S : St) (hM : MOk S) (river : Int) (rriver : rI river) (hrv : 0 ≤ river ∧ river < 4) : Met l yX3_daysOf (ws_ yX3_daysOf cX3_daysOf 4 (some .int)) (rmk 1 0 0 22) (va_Pc [.ref (Ad 0), .int (zI river)] (kP l E sz (mW E Ad S) [])) (kQ E (fun _ : Unit => rI (daysOf (S 0) river) ∧ 0 ≤ daysOf (S 0) river ∧ daysOf (S 0) river ≤ 30) (fun _ => some (.int (zI (daysOf (S 0) river)))) (fun _ => (mW E Ad S)) (va_A (mW E Ad S) sz)) 0 0 (va_A (mW E Ad S) sz) := by
  refine kz_start (Qf := kQ E (fun _ : Unit => rI (daysOf (S 0) river) ∧ 0 ≤ daysOf (S 0) river ∧ daysOf (S 0) river ≤ 30) (fun _ => some (.int (zI (daysOf (S 0) river)))) (fun _ => (mW E Ad S))) (by decide) (Nat.le_of_ble_eq_true rfl) ?_
  intro p e s m args below meth c A ls Q H locs hx hb hr hlk hml hts hown hname hG hK hA hAN hP hD hR hRA hS hQ hl
  replace hown : s.vm.findClass RX3 = some m.cls := hown
  replace hl : lv_has ls 4 [(0, .ref (Ad 0)), (1, .int (zI (river)))] := hl
  replace hP : va_P (kD E) kcl (mW E Ad (S)) H := hP
  replace hD : va_D A (mW E Ad (S)) := hD
  refine kz_iconst hx hb dX3_daysOf_0 ?_
  refine lv_istore_n (lv' := [(2, .int (zI (0))), (0, .ref (Ad 0)), (1, .int (zI (river)))]) hx hb dX3_daysOf_1 rfl hl (by decide) rfl (fun ls hl => ?_)
  refine kz_iconst hx hb dX3_daysOf_2 ?_
  refine lv_istore_n (lv' := [(3, .int (zI (0))), (2, .int (zI (0))), (0, .ref (Ad 0)), (1, .int (zI (river)))]) hx hb dX3_daysOf_3 rfl hl (by decide) rfl (fun ls hl => ?_)
  have L4_1 : ∀ (fu : Nat) (n k : Int) (H : Heap) (locs : List Loc) (ls : Array Slot), (0 ≤ k ∧ k ≤ 30 ∧ 0 ≤ n ∧ n ≤ k) → (n = sumTo (fun k => b2 (0 ≤ S 0 (174 + 30 * river + k))) k.toNat) → rI n → rI k → (30 - k : Int).toNat < fu → va_P (kD E) kcl (mW E Ad (S)) H → va_D A (mW E Ad (S)) → va_S A s.heap H locs → lv_has ls 4 [(0, .ref (Ad 0)), (1, .int (zI (river))), (2, .int (zI (n))), (3, .int (zI (k)))] → W p l e (rmk 1 0 0 22) s m args below meth c H locs 0 0 Q (F0 m 4 ls []) := by
    clear hl hS hD hP ls locs H
    intro fu
    induction fu with
    | zero => intro n k H locs ls hk hn rn rk hf; exact absurd hf (Nat.not_lt_zero _)
    | succ fu ih4 =>
      intro n k H locs ls hk hn rn rk hf hP hD hS hl
      refine lv_iload_n hx hb dX3_daysOf_4 rfl (lv_at hl 3 rfl) ?_
      refine kz_bipush hx hb dX3_daysOf_5 (by decide) ?_
      refine kz_icmp_ge (tgt := 33) hx hb dX3_daysOf_7 (by decide) (by omega) (by omega) (fun c7 => ?_) (fun c7 => ?_)
      · skip
        refine lv_iload_n hx hb dX3_daysOf_33 rfl (lv_at hl 2 rfl) ?_
        have e1 : (daysOf (S 0) river : Int) = n := by rw [hn, show k = 30 by omega]; rfl
        exact kz_iret () hx hb hr hlk hP hD hS dX3_daysOf_34 (congrArg (fun z : Int => some (Value.int (zI z))) e1) ⟨(kz_r e1 (by omega)), (by exact daysOf_b _ _)⟩ rfl hQ (Nat.le_of_ble_eq_true rfl) (Nat.le_of_ble_eq_true rfl)
      · skip
        refine lv_iload_n hx hb dX3_daysOf_10 rfl (lv_at hl 2 rfl) ?_
        refine lv_aload_n hx hb dX3_daysOf_11 rfl (lv_at hl 0 rfl) ?_
        refine lv_iload_n hx hb dX3_daysOf_12 rfl (lv_at hl 1 rfl) ?_
        refine lv_iload_n hx hb dX3_daysOf_13 rfl (lv_at hl 3 rfl) ?_
        refine kz_backM (va_runV (As := [.int (zI (river)), .int (zI (k))]) (rest := [.int (zI (n))]) ⟨hx, hb, hml, hown, hts⟩ (mX3_bookedFor l E H.size Ad S hM river (by omega) k (by omega) (show 0 ≤ river ∧ river < 4 by first | omega | exact hI.st _ (by omega) (by omega) | exact hI.rv _ (by omega) (by omega) | exact hI) (show 0 ≤ k ∧ k < 30 by first | omega | exact hI.st _ (by omega) (by omega) | exact hI.rv _ (by omega) (by omega) | exact hI)) (cwV 2 hts (lw_V q2465 q2467 qs48 q83 q2468) rfl rfl rfl (by decide +kernel) ⟨(Nat.le_of_ble_eq_true rfl), (Nat.le_of_ble_eq_true rfl)⟩) (kz_preVM (wc := mW E Ad S) (va_recv hK hP (ci := 2) (q0 := 0) rfl rfl) hG hS hAN hP hD kz_nilP kz_nilA) rfl rfl hl.1 rfl (lv_room (Nat.le_of_ble_eq_true rfl)) dX3_daysOf_14 ⟨(Nat.le_of_ble_eq_true rfl), (Nat.le_of_ble_eq_true rfl)⟩) hP hD hS hA (fun u H9 locs9 hu hP9 hD9 hS9 hzz hkk => ?_)
        clear hzz hkk hP hD hS H locs u
        revert hS9 hD9 hP9 locs9 H9
        intro H locs hP hD hS
        have r2 : rI ((S 0 ((174 + 30 * river + k)))) := hu
        clear hu
        replace hP : va_P (kD E) kcl (mW E Ad (S)) H := hP
        replace hD : va_D A (mW E Ad (S)) := hD
        show W p l e _ s m args below meth c H locs _ _ Q (F0 m 17 ls [.int (zI ((S 0 ((174 + 30 * river + k))))), .int (zI (n))])
        have J3 : ∀ (v4 : Int) (H : Heap) (locs : List Loc) (ls : Array Slot), v4 = b2 (¬ (((S 0 ((174 + 30 * river + k)))) < 0)) → va_P (kD E) kcl (mW E Ad (S)) H → va_D A (mW E Ad (S)) → va_S A s.heap H locs → lv_has ls 4 [(0, .ref (Ad 0)), (1, .int (zI (river))), (2, .int (zI (n))), (3, .int (zI (k)))] → W p l e (rmk 1 0 0 22) s m args below meth c H locs 0 0 Q (F0 m 25 ls [.int (zI (v4)), .int (zI (n))]) := by
          clear hl hS hD hP ls locs H
          intro v4 H locs ls hv4 hP hD hS hl
          subst hv4
          have z5 := b2_01 (¬ (((S 0 ((174 + 30 * river + k)))) < 0))
          refine kz_iadd hx hb dX3_daysOf_25 ?_
          refine lv_istore_n (lv' := [(2, .int (zI (n + (b2 (¬ (((S 0 ((174 + 30 * river + k)))) < 0)))))), (0, .ref (Ad 0)), (1, .int (zI (river))), (3, .int (zI (k)))]) hx hb dX3_daysOf_26 rfl hl (by decide) rfl (fun ls hl => ?_)
          refine kz_iinc (lv' := [(3, .int (zI (k + 1))), (2, .int (zI (n + (b2 (¬ (((S 0 ((174 + 30 * river + k)))) < 0)))))), (0, .ref (Ad 0)), (1, .int (zI (river)))]) hx hb dX3_daysOf_27 hl (k := 3) rfl (by decide) rfl (fun ls hl => ?_)
          refine lv_goto (tgt := 4) hx hb dX3_daysOf_30 (by decide) ?_
          exact ih4 (n + (b2 (¬ (((S 0 ((174 + 30 * river + k)))) < 0)))) (k + 1) _ _ _ (by omega) (by rw [sumTo_s _ hk.1, hn]; exact congrArg (_ + ·) (b2_c (by omega))) (by omega) (by omega) (by omega) hP hD hS (lv_sub hl [2, 3, 1, 0] rfl)
        refine kz_if_lt (tgt := 24) hx hb dX3_daysOf_17 (by decide) (by omega) (fun c17 => ?_) (fun c17 => ?_)
        · skip
          refine kz_iconst hx hb dX3_daysOf_24 ?_
          exact J3 0 _ _ _ (b2_f (by first | omega | simp only [c17, if_true, if_false, and_true, true_and, and_false, false_and, or_true, true_or, or_false, false_or, not_true_eq_false, not_false_eq_true])).symm hP hD hS hl
        · skip
          refine kz_iconst hx hb dX3_daysOf_20 ?_
          refine lv_goto (tgt := 25) hx hb dX3_daysOf_21 (by decide) ?_
          exact J3 1 _ _ _ (b2_t (by first | omega | simp only [c17, if_true, if_false, and_true, true_and, and_false, false_and, or_true, true_or, or_false, false_or, not_true_eq_false, not_false_eq_true])).symm hP hD hS hl
  exact L4_1 ((30 - 0 : Int).toNat + 1) 0 0 _ _ _ (by omega) (by rfl) (by omega) (by omega) (Nat.lt_succ_self _) hP hD hS (lv_sub hl [2, 3, 1, 0] rfl)

set_option maxHeartbeats 4000000 in
set_option maxRecDepth 100000 in
theorem mX3_bookings (l : Launch) (E : KE) (sz : Nat) (Ad : Nat → Nat) (S : St) (hM : MOk S) (g1 : 0 ≤ S 0 1 ∧ S 0 1 ≤ 4) : Met l yX3_bookings (ws_ yX3_bookings cX3_bookings 3 (some .int)) (rmk 2 0 0 45) (va_Pc [.ref (Ad 0)] (kP l E sz (mW E Ad S) [])) (kQ E (fun _ : Unit => rI (bookingsG (S 0))) (fun _ => some (.int (zI (bookingsG (S 0))))) (fun _ => (mW E Ad S)) (va_A (mW E Ad S) sz)) 0 0 (va_A (mW E Ad S) sz) := by
  refine kz_start (Qf := kQ E (fun _ : Unit => rI (bookingsG (S 0))) (fun _ => some (.int (zI (bookingsG (S 0))))) (fun _ => (mW E Ad S))) (by decide) (Nat.le_of_ble_eq_true rfl) ?_
  intro p e s m args below meth c A ls Q H locs hx hb hr hlk hml hts hown hname hG hK hA hAN hP hD hR hRA hS hQ hl
  replace hown : s.vm.findClass RX3 = some m.cls := hown
  replace hl : lv_has ls 3 [(0, .ref (Ad 0))] := hl
  replace hP : va_P (kD E) kcl (mW E Ad (S)) H := hP
  replace hD : va_D A (mW E Ad (S)) := hD
  refine kz_iconst hx hb dX3_bookings_0 ?_
  refine lv_istore_n (lv' := [(1, .int (zI (0))), (0, .ref (Ad 0))]) hx hb dX3_bookings_1 rfl hl (by decide) rfl (fun ls hl => ?_)
  refine kz_iconst hx hb dX3_bookings_2 ?_
  refine lv_istore_n (lv' := [(2, .int (zI (0))), (1, .int (zI (0))), (0, .ref (Ad 0))]) hx hb dX3_bookings_3 rfl hl (by decide) rfl (fun ls hl => ?_)
  have L4_1 : ∀ (fu : Nat) (n k : Int) (H : Heap) (locs : List Loc) (ls : Array Slot), (0 ≤ k ∧ k ≤ S 0 1 ∧ 0 ≤ n ∧ n ≤ 30 * k) → (n = sumTo (fun r => daysOf (S 0) r) k.toNat) → rI n → rI k → (S 0 1 - k : Int).toNat < fu → va_P (kD E) kcl (mW E Ad (S)) H → va_D A (mW E Ad (S)) → va_S A s.heap H locs → lv_has ls 3 [(0, .ref (Ad 0)), (1, .int (zI (n))), (2, .int (zI (k)))] → W p l e (rmk 2 0 0 45) s m args below meth c H locs 0 0 Q (F0 m 4 ls []) := by
    clear hl hS hD hP ls locs H
    intro fu
    induction fu with
    | zero => intro n k H locs ls hk hn rn rk hf; exact absurd hf (Nat.not_lt_zero _)
    | succ fu ih4 =>
      intro n k H locs ls hk hn rn rk hf hP hD hS hl
      refine lv_iload_n hx hb dX3_bookings_4 rfl (lv_at hl 2 rfl) ?_
      refine lv_aload_n hx hb dX3_bookings_5 rfl (lv_at hl 0 rfl) ?_
      refine va_get (D := kD E) (ci := 2) (fs := mO Ad (S)) (v := .ref (Ad 1)) (C := RX3) (T := TX3) (N := 19) hx hb hts in_X3 hown hK hP 0 rfl rfl 0 (by decide) (hts _ q2320) (fun _ h9 => h9) rfl dX3_bookings_6 ?_
      refine kz_iconst hx hb dX3_bookings_9 ?_
      refine kz_iald (cA := kA E 0) (n := 304) (g := S 0) hx hb hK hP 1 0 rfl rfl (by omega) dX3_bookings_10 ?_
      have r2 : rI (S 0 1) := hM 0 1
      refine kz_icmp_ge (tgt := 28) hx hb dX3_bookings_11 (by decide) (by omega) (by omega) (fun c11 => ?_) (fun c11 => ?_)
      · skip
        refine lv_iload_n hx hb dX3_bookings_28 rfl (lv_at hl 1 rfl) ?_
        have e1 : (bookingsG (S 0) : Int) = n := by rw [hn, show k = S 0 1 by omega]; rfl
        exact kz_iret () hx hb hr hlk hP hD hS dX3_bookings_29 (congrArg (fun z : Int => some (Value.int (zI z))) e1) (kz_r e1 (by omega)) rfl hQ (Nat.le_of_ble_eq_true rfl) (Nat.le_of_ble_eq_true rfl)
      · skip
        refine lv_iload_n hx hb dX3_bookings_14 rfl (lv_at hl 1 rfl) ?_
        refine lv_aload_n hx hb dX3_bookings_15 rfl (lv_at hl 0 rfl) ?_
        refine lv_iload_n hx hb dX3_bookings_16 rfl (lv_at hl 2 rfl) ?_
        refine kz_backM (va_runV (As := [.int (zI (k))]) (rest := [.int (zI (n))]) ⟨hx, hb, hml, hown, hts⟩ (mX3_daysOf l E H.size Ad S hM k (by omega) (show 0 ≤ k ∧ k < 4 by first | omega | exact hI.st _ (by omega) (by omega) | exact hI.rv _ (by omega) (by omega) | exact hI)) (cwV 1 hts (lw_V q2461 q2463 qs47 q83 q2464) rfl rfl rfl (by decide +kernel) ⟨(Nat.le_of_ble_eq_true rfl), (Nat.le_of_ble_eq_true rfl)⟩) (kz_preVM (wc := mW E Ad S) (va_recv hK hP (ci := 2) (q0 := 0) rfl rfl) hG hS hAN hP hD kz_nilP kz_nilA) rfl rfl hl.1 rfl (lv_room (Nat.le_of_ble_eq_true rfl)) dX3_bookings_17 ⟨(Nat.le_of_ble_eq_true rfl), (Nat.le_of_ble_eq_true rfl)⟩) hP hD hS hA (fun u H9 locs9 hu hP9 hD9 hS9 hzz hkk => ?_)
        clear hzz hkk hP hD hS H locs u
        revert hS9 hD9 hP9 locs9 H9
        intro H locs hP hD hS
        obtain ⟨r3, p4⟩ := hu
        replace r3 : rI (daysOf (S 0) k) := r3
        replace p4 : 0 ≤ daysOf (S 0) k ∧ daysOf (S 0) k ≤ 30 := p4
        replace hP : va_P (kD E) kcl (mW E Ad (S)) H := hP
        replace hD : va_D A (mW E Ad (S)) := hD
        show W p l e _ s m args below meth c H locs _ _ Q (F0 m 20 ls [.int (zI (daysOf (S 0) k)), .int (zI (n))])
        refine kz_iadd hx hb dX3_bookings_20 ?_
        refine lv_istore_n (lv' := [(1, .int (zI (n + (daysOf (S 0) k)))), (0, .ref (Ad 0)), (2, .int (zI (k)))]) hx hb dX3_bookings_21 rfl hl (by decide) rfl (fun ls hl => ?_)
        refine kz_iinc (lv' := [(2, .int (zI (k + 1))), (1, .int (zI (n + (daysOf (S 0) k)))), (0, .ref (Ad 0))]) hx hb dX3_bookings_22 hl (k := 2) rfl (by decide) rfl (fun ls hl => ?_)
        refine lv_goto (tgt := 4) hx hb dX3_bookings_25 (by decide) ?_
        exact ih4 (n + (daysOf (S 0) k)) (k + 1) _ _ _ (by omega) (by rw [sumTo_s _ hk.1, hn]) (by omega) (by omega) (by omega) hP hD hS (lv_sub hl [2, 1, 0] rfl)
  exact L4_1 ((S 0 1 - 0 : Int).toNat + 1) 0 0 _ _ _ (by omega) (by rfl) (by omega) (by omega) (Nat.lt_succ_self _) hP hD hS (lv_sub hl [2, 1, 0] rfl)

set_option maxHeartbeats 4000000 in
set_option maxRecDepth 100000 in
theorem mX3_gradeOf (l : Launch) (E : KE) (sz : Nat) (Ad : Nat → Nat) (S : St) (hM : MOk S) (stone : Int) (rstone : rI stone) (hst : 0 ≤ stone ∧ stone < 10) (hsb : SB (S 0) stone) : Met l yX3_gradeOf (ws_ yX3_gradeOf cX3_gradeOf 3 (some .char)) (rmk 1 0 0 22) (va_Pc [.ref (Ad 0), .int (zI stone)] (kP l E sz (mW E Ad S) [])) (kQ E (fun _ : Unit => rI (gradeG (S 0) stone) ∧ 97 ≤ gradeG (S 0) stone ∧ gradeG (S 0) stone ≤ 101) (fun _ => some (.int (zI (gradeG (S 0) stone)))) (fun _ => (mW E Ad S)) (va_A (mW E Ad S) sz)) 0 0 (va_A (mW E Ad S) sz) := by
  refine kz_start (Qf := kQ E (fun _ : Unit => rI (gradeG (S 0) stone) ∧ 97 ≤ gradeG (S 0) stone ∧ gradeG (S 0) stone ≤ 101) (fun _ => some (.int (zI (gradeG (S 0) stone)))) (fun _ => (mW E Ad S))) (by decide) (Nat.le_of_ble_eq_true rfl) ?_
  intro p e s m args below meth c A ls Q H locs hx hb hr hlk hml hts hown hname hG hK hA hAN hP hD hR hRA hS hQ hl
  replace hown : s.vm.findClass RX3 = some m.cls := hown
  replace hl : lv_has ls 3 [(0, .ref (Ad 0)), (1, .int (zI (stone)))] := hl
  replace hP : va_P (kD E) kcl (mW E Ad (S)) H := hP
  replace hD : va_D A (mW E Ad (S)) := hD
  refine lv_aload_n hx hb dX3_gradeOf_0 rfl (lv_at hl 0 rfl) ?_
  refine lv_iload_n hx hb dX3_gradeOf_1 rfl (lv_at hl 1 rfl) ?_
  refine kz_iconst hx hb dX3_gradeOf_2 ?_
  refine kz_backM (va_runV (As := [.int (zI (stone)), .int (zI (2))]) (rest := []) ⟨hx, hb, hml, hown, hts⟩ (mX3_of l E H.size Ad S hM stone (by omega) 2 (by omega) (show 0 ≤ stone ∧ stone < 10 by first | omega | exact hI.st _ (by omega) (by omega) | exact hI.rv _ (by omega) (by omega) | exact hI) (show 0 ≤ 2 ∧ 2 < 14 by first | omega | exact hI.st _ (by omega) (by omega) | exact hI.rv _ (by omega) (by omega) | exact hI)) (cwV 2 hts (lw_V q2441 q2443 qs44 q83 q2444) rfl rfl rfl (by decide +kernel) ⟨(Nat.le_of_ble_eq_true rfl), (Nat.le_of_ble_eq_true rfl)⟩) (kz_preVM (wc := mW E Ad S) (va_recv hK hP (ci := 2) (q0 := 0) rfl rfl) hG hS hAN hP hD kz_nilP kz_nilA) rfl rfl hl.1 rfl (lv_room (Nat.le_of_ble_eq_true rfl)) dX3_gradeOf_3 ⟨(Nat.le_of_ble_eq_true rfl), (Nat.le_of_ble_eq_true rfl)⟩) hP hD hS hA (fun u H9 locs9 hu hP9 hD9 hS9 hzz hkk => ?_)
  clear hzz hkk hP hD hS H locs u
  revert hS9 hD9 hP9 locs9 H9
  intro H locs hP hD hS
  have r1 : rI ((S 0 ((10 + 14 * stone + 2)))) := hu
  clear hu
  replace hP : va_P (kD E) kcl (mW E Ad (S)) H := hP
  replace hD : va_D A (mW E Ad (S)) := hD
  show W p l e _ s m args below meth c H locs _ _ Q (F0 m 6 ls [.int (zI ((S 0 ((10 + 14 * stone + 2)))))])
  refine kz_iconst hx hb dX3_gradeOf_6 ?_
  refine kz_idiv hx hb dX3_gradeOf_7 (by omega) ?_
  refine kz_iconst hx hb dX3_gradeOf_8 ?_
  refine lv_aload_n hx hb dX3_gradeOf_9 rfl (lv_at hl 0 rfl) ?_
  refine lv_iload_n hx hb dX3_gradeOf_10 rfl (lv_at hl 1 rfl) ?_
  refine kz_iconst hx hb dX3_gradeOf_11 ?_
  refine kz_backM (va_runV (As := [.int (zI (stone)), .int (zI (0))]) (rest := [.int (zI (5)), .int (zI (((S 0 ((10 + 14 * stone + 2)))) / 2))]) ⟨hx, hb, hml, hown, hts⟩ (mX3_of l E H.size Ad S hM stone (by omega) 0 (by omega) (show 0 ≤ stone ∧ stone < 10 by first | omega | exact hI.st _ (by omega) (by omega) | exact hI.rv _ (by omega) (by omega) | exact hI) (show 0 ≤ 0 ∧ 0 < 14 by first | omega | exact hI.st _ (by omega) (by omega) | exact hI.rv _ (by omega) (by omega) | exact hI)) (cwV 2 hts (lw_V q2441 q2443 qs44 q83 q2444) rfl rfl rfl (by decide +kernel) ⟨(Nat.le_of_ble_eq_true rfl), (Nat.le_of_ble_eq_true rfl)⟩) (kz_preVM (wc := mW E Ad S) (va_recv hK hP (ci := 2) (q0 := 0) rfl rfl) hG hS hAN hP hD kz_nilP kz_nilA) rfl rfl hl.1 rfl (lv_room (Nat.le_of_ble_eq_true rfl)) dX3_gradeOf_12 ⟨(Nat.le_of_ble_eq_true rfl), (Nat.le_of_ble_eq_true rfl)⟩) hP hD hS hA (fun u H9 locs9 hu hP9 hD9 hS9 hzz hkk => ?_)
  clear hzz hkk hP hD hS H locs u
  revert hS9 hD9 hP9 locs9 H9
  intro H locs hP hD hS
  have r2 : rI ((S 0 ((10 + 14 * stone + 0)))) := hu
  clear hu
  replace hP : va_P (kD E) kcl (mW E Ad (S)) H := hP
  replace hD : va_D A (mW E Ad (S)) := hD
  show W p l e _ s m args below meth c H locs _ _ Q (F0 m 15 ls [.int (zI ((S 0 ((10 + 14 * stone + 0))))), .int (zI (5)), .int (zI (((S 0 ((10 + 14 * stone + 2)))) / 2))])
  refine kz_imul hx hb dX3_gradeOf_15 ?_
  refine kz_iadd hx hb dX3_gradeOf_16 ?_
  refine lv_istore_n (lv' := [(2, .int (zI ((((S 0 ((10 + 14 * stone + 2)))) / 2) + (5 * ((S 0 ((10 + 14 * stone + 0)))))))), (0, .ref (Ad 0)), (1, .int (zI (stone)))]) hx hb dX3_gradeOf_17 rfl hl (by decide) rfl (fun ls hl => ?_)
  refine lv_iload_n hx hb dX3_gradeOf_18 rfl (lv_at hl 0 rfl) ?_
  refine kz_bipush hx hb dX3_gradeOf_19 (by decide) ?_
  refine kz_icmp_lt (tgt := 29) hx hb dX3_gradeOf_21 (by decide) (by omega) (by omega) (fun c21 => ?_) (fun c21 => ?_)
  · skip
    refine lv_iload_n hx hb dX3_gradeOf_29 rfl (lv_at hl 0 rfl) ?_
    refine kz_bipush hx hb dX3_gradeOf_30 (by decide) ?_
    refine kz_icmp_lt (tgt := 40) hx hb dX3_gradeOf_32 (by decide) (by omega) (by omega) (fun c32 => ?_) (fun c32 => ?_)
    · skip
      refine lv_iload_n hx hb dX3_gradeOf_40 rfl (lv_at hl 0 rfl) ?_
      refine kz_bipush hx hb dX3_gradeOf_41 (by decide) ?_
      refine kz_icmp_lt (tgt := 51) hx hb dX3_gradeOf_43 (by decide) (by omega) (by omega) (fun c43 => ?_) (fun c43 => ?_)
      · skip
        refine lv_iload_n hx hb dX3_gradeOf_51 rfl (lv_at hl 0 rfl) ?_
        refine kz_bipush hx hb dX3_gradeOf_52 (by decide) ?_
        refine kz_icmp_lt (tgt := 62) hx hb dX3_gradeOf_54 (by decide) (by omega) (by omega) (fun c54 => ?_) (fun c54 => ?_)
        · skip
          refine kz_bipush hx hb dX3_gradeOf_62 (by decide) ?_
          have e1 : (gradeG (S 0) stone : Int) = 101 := by unfold gradeG markG; (repeat (first | refine Eq.trans (if_pos (by omega)) ?_ | refine Eq.trans (if_neg (by omega)) ?_)); rfl
          exact kz_cret () hx hb hr hlk hP hD hS dX3_gradeOf_64 (by omega) (congrArg (fun z : Int => some (Value.int (zI z))) e1) ⟨(kz_r e1 (by omega)), (by exact gradeG_r _ _)⟩ rfl hQ (Nat.le_of_ble_eq_true rfl) (Nat.le_of_ble_eq_true rfl)
        · skip
          refine kz_bipush hx hb dX3_gradeOf_57 (by decide) ?_
          refine lv_goto (tgt := 64) hx hb dX3_gradeOf_59 (by decide) ?_
          have e1 : (gradeG (S 0) stone : Int) = 100 := by unfold gradeG markG; (repeat (first | refine Eq.trans (if_pos (by omega)) ?_ | refine Eq.trans (if_neg (by omega)) ?_)); rfl
          exact kz_cret () hx hb hr hlk hP hD hS dX3_gradeOf_64 (by omega) (congrArg (fun z : Int => some (Value.int (zI z))) e1) ⟨(kz_r e1 (by omega)), (by exact gradeG_r _ _)⟩ rfl hQ (Nat.le_of_ble_eq_true rfl) (Nat.le_of_ble_eq_true rfl)
      · skip
        refine kz_bipush hx hb dX3_gradeOf_46 (by decide) ?_
        refine lv_goto (tgt := 64) hx hb dX3_gradeOf_48 (by decide) ?_
        have e1 : (gradeG (S 0) stone : Int) = 99 := by unfold gradeG markG; (repeat (first | refine Eq.trans (if_pos (by omega)) ?_ | refine Eq.trans (if_neg (by omega)) ?_)); rfl
        exact kz_cret () hx hb hr hlk hP hD hS dX3_gradeOf_64 (by omega) (congrArg (fun z : Int => some (Value.int (zI z))) e1) ⟨(kz_r e1 (by omega)), (by exact gradeG_r _ _)⟩ rfl hQ (Nat.le_of_ble_eq_true rfl) (Nat.le_of_ble_eq_true rfl)
    · skip
      refine kz_bipush hx hb dX3_gradeOf_35 (by decide) ?_
      refine lv_goto (tgt := 64) hx hb dX3_gradeOf_37 (by decide) ?_
      have e1 : (gradeG (S 0) stone : Int) = 98 := by unfold gradeG markG; (repeat (first | refine Eq.trans (if_pos (by omega)) ?_ | refine Eq.trans (if_neg (by omega)) ?_)); rfl
      exact kz_cret () hx hb hr hlk hP hD hS dX3_gradeOf_64 (by omega) (congrArg (fun z : Int => some (Value.int (zI z))) e1) ⟨(kz_r e1 (by omega)), (by exact gradeG_r _ _)⟩ rfl hQ (Nat.le_of_ble_eq_true rfl) (Nat.le_of_ble_eq_true rfl)
  · skip
    refine kz_bipush hx hb dX3_gradeOf_24 (by decide) ?_
    refine lv_goto (tgt := 64) hx hb dX3_gradeOf_26 (by decide) ?_
    have e1 : (gradeG (S 0) stone : Int) = 97 := by unfold gradeG markG; (repeat (first | refine Eq.trans (if_pos (by omega)) ?_ | refine Eq.trans (if_neg (by omega)) ?_)); rfl
    exact kz_cret () hx hb hr hlk hP hD hS dX3_gradeOf_64 (by omega) (congrArg (fun z : Int => some (Value.int (zI z))) e1) ⟨(kz_r e1 (by omega)), (by exact gradeG_r _ _)⟩ rfl hQ (Nat.le_of_ble_eq_true rfl) (Nat.le_of_ble_eq_true rfl)

set_option maxHeartbeats 4000000 in
set_option maxRecDepth 100000 in
theorem mX3_strength (l : Launch) (E : KE) (sz : Nat) (Ad : Nat → Nat) (S : St) (hM : MOk S) (stone : Int) (rstone : rI stone) (sp : Int) (rsp : rI sp) (hst : 0 ≤ stone ∧ stone < 10) (hsb : SB (S 0) stone) (hsp : 1 ≤ sp ∧ sp ≤ 20) : Met l yX3_strength (ws_ yX3_strength cX3_strength 3 (some .int)) (rmk 1 0 0 22) (va_Pc [.ref (Ad 0), .int (zI stone), .int (zI sp)] (kP l E sz (mW E Ad S) [])) (kQ E (fun _ : Unit => rI (strengthG (S 0) stone sp) ∧ -10 ≤ strengthG (S 0) stone sp ∧ strengthG (S 0) stone sp ≤ 240) (fun _ => some (.int (zI (strengthG (S 0) stone sp)))) (fun _ => (mW E Ad S)) (va_A (mW E Ad S) sz)) 0 0 (va_A (mW E Ad S) sz) := by
  refine kz_start (Qf := kQ E (fun _ : Unit => rI (strengthG (S 0) stone sp) ∧ -10 ≤ strengthG (S 0) stone sp ∧ strengthG (S 0) stone sp ≤ 240) (fun _ => some (.int (zI (strengthG (S 0) stone sp)))) (fun _ => (mW E Ad S))) (by decide) (Nat.le_of_ble_eq_true rfl) ?_
  intro p e s m args below meth c A ls Q H locs hx hb hr hlk hml hts hown hname hG hK hA hAN hP hD hR hRA hS hQ hl
  replace hown : s.vm.findClass RX3 = some m.cls := hown
  replace hl : lv_has ls 3 [(0, .ref (Ad 0)), (1, .int (zI (stone))), (2, .int (zI (sp)))] := hl
  replace hP : va_P (kD E) kcl (mW E Ad (S)) H := hP
  replace hD : va_D A (mW E Ad (S)) := hD
  refine lv_iload_n hx hb dX3_strength_0 rfl (lv_at hl 2 rfl) ?_
  refine lv_aload_n hx hb dX3_strength_1 rfl (lv_at hl 0 rfl) ?_
  refine lv_iload_n hx hb dX3_strength_2 rfl (lv_at hl 1 rfl) ?_
  refine kz_iconst hx hb dX3_strength_3 ?_
  refine kz_backM (va_runV (As := [.int (zI (stone)), .int (zI (0))]) (rest := [.int (zI (sp))]) ⟨hx, hb, hml, hown, hts⟩ (mX3_of l E H.size Ad S hM stone (by omega) 0 (by omega) (show 0 ≤ stone ∧ stone < 10 by first | omega | exact hI.st _ (by omega) (by omega) | exact hI.rv _ (by omega) (by omega) | exact hI) (show 0 ≤ 0 ∧ 0 < 14 by first | omega | exact hI.st _ (by omega) (by omega) | exact hI.rv _ (by omega) (by omega) | exact hI)) (cwV 2 hts (lw_V q2441 q2443 qs44 q83 q2444) rfl rfl rfl (by decide +kernel) ⟨(Nat.le_of_ble_eq_true rfl), (Nat.le_of_ble_eq_true rfl)⟩) (kz_preVM (wc := mW E Ad S) (va_recv hK hP (ci := 2) (q0 := 0) rfl rfl) hG hS hAN hP hD kz_nilP kz_nilA) rfl rfl hl.1 rfl (lv_room (Nat.le_of_ble_eq_true rfl)) dX3_strength_4 ⟨(Nat.le_of_ble_eq_true rfl), (Nat.le_of_ble_eq_true rfl)⟩) hP hD hS hA (fun u H9 locs9 hu hP9 hD9 hS9 hzz hkk => ?_)
  clear hzz hkk hP hD hS H locs u
  revert hS9 hD9 hP9 locs9 H9
  intro H locs hP hD hS
  have r1 : rI ((S 0 ((10 + 14 * stone + 0)))) := hu
  clear hu
  replace hP : va_P (kD E) kcl (mW E Ad (S)) H := hP
  replace hD : va_D A (mW E Ad (S)) := hD
  show W p l e _ s m args below meth c H locs _ _ Q (F0 m 7 ls [.int (zI ((S 0 ((10 + 14 * stone + 0))))), .int (zI (sp))])
  refine kz_iconst hx hb dX3_strength_7 ?_
  refine kz_iadd hx hb dX3_strength_8 ?_
  refine kz_imul hx hb dX3_strength_9 ?_
  refine lv_aload_n hx hb dX3_strength_10 rfl (lv_at hl 0 rfl) ?_
  refine lv_iload_n hx hb dX3_strength_11 rfl (lv_at hl 1 rfl) ?_
  refine kz_iconst hx hb dX3_strength_12 ?_
  refine kz_backM (va_runV (As := [.int (zI (stone)), .int (zI (2))]) (rest := [.int (zI (sp * (((S 0 ((10 + 14 * stone + 0)))) + 2)))]) ⟨hx, hb, hml, hown, hts⟩ (mX3_of l E H.size Ad S hM stone (by omega) 2 (by omega) (show 0 ≤ stone ∧ stone < 10 by first | omega | exact hI.st _ (by omega) (by omega) | exact hI.rv _ (by omega) (by omega) | exact hI) (show 0 ≤ 2 ∧ 2 < 14 by first | omega | exact hI.st _ (by omega) (by omega) | exact hI.rv _ (by omega) (by omega) | exact hI)) (cwV 2 hts (lw_V q2441 q2443 qs44 q83 q2444) rfl rfl rfl (by decide +kernel) ⟨(Nat.le_of_ble_eq_true rfl), (Nat.le_of_ble_eq_true rfl)⟩) (kz_preVM (wc := mW E Ad S) (va_recv hK hP (ci := 2) (q0 := 0) rfl rfl) hG hS hAN hP hD kz_nilP kz_nilA) rfl rfl hl.1 rfl (lv_room (Nat.le_of_ble_eq_true rfl)) dX3_strength_13 ⟨(Nat.le_of_ble_eq_true rfl), (Nat.le_of_ble_eq_true rfl)⟩) hP hD hS hA (fun u H9 locs9 hu hP9 hD9 hS9 hzz hkk => ?_)
  clear hzz hkk hP hD hS H locs u
  revert hS9 hD9 hP9 locs9 H9
  intro H locs hP hD hS
  have r2 : rI ((S 0 ((10 + 14 * stone + 2)))) := hu
  clear hu
  replace hP : va_P (kD E) kcl (mW E Ad (S)) H := hP
  replace hD : va_D A (mW E Ad (S)) := hD
  show W p l e _ s m args below meth c H locs _ _ Q (F0 m 16 ls [.int (zI ((S 0 ((10 + 14 * stone + 2))))), .int (zI (sp * (((S 0 ((10 + 14 * stone + 0)))) + 2)))])
  refine kz_iconst hx hb dX3_strength_16 ?_
  refine kz_idiv hx hb dX3_strength_17 (by omega) ?_
  refine kz_iadd hx hb dX3_strength_18 ?_
  refine lv_aload_n hx hb dX3_strength_19 rfl (lv_at hl 0 rfl) ?_
  have q1 := strengthG_b hsb hsp
  unfold strengthG at q1
  refine lv_iload_n hx hb dX3_strength_20 rfl (lv_at hl 1 rfl) ?_
  refine kz_iconst hx hb dX3_strength_21 ?_
  refine kz_backM (va_runV (As := [.int (zI (stone)), .int (zI (1))]) (rest := [.int (zI ((sp * (((S 0 ((10 + 14 * stone + 0)))) + 2)) + (((S 0 ((10 + 14 * stone + 2)))) / 5)))]) ⟨hx, hb, hml, hown, hts⟩ (mX3_of l E H.size Ad S hM stone (by omega) 1 (by omega) (show 0 ≤ stone ∧ stone < 10 by first | omega | exact hI.st _ (by omega) (by omega) | exact hI.rv _ (by omega) (by omega) | exact hI) (show 0 ≤ 1 ∧ 1 < 14 by first | omega | exact hI.st _ (by omega) (by omega) | exact hI.rv _ (by omega) (by omega) | exact hI)) (cwV 2 hts (lw_V q2441 q2443 qs44 q83 q2444) rfl rfl rfl (by decide +kernel) ⟨(Nat.le_of_ble_eq_true rfl), (Nat.le_of_ble_eq_true rfl)⟩) (kz_preVM (wc := mW E Ad S) (va_recv hK hP (ci := 2) (q0 := 0) rfl rfl) hG hS hAN hP hD kz_nilP kz_nilA) rfl rfl hl.1 rfl (lv_room (Nat.le_of_ble_eq_true rfl)) dX3_strength_22 ⟨(Nat.le_of_ble_eq_true rfl), (Nat.le_of_ble_eq_true rfl)⟩) hP hD hS hA (fun u H9 locs9 hu hP9 hD9 hS9 hzz hkk => ?_)
  clear hzz hkk hP hD hS H locs u
  revert hS9 hD9 hP9 locs9 H9
  intro H locs hP hD hS
  have r3 : rI ((S 0 ((10 + 14 * stone + 1)))) := hu
  clear hu
  replace hP : va_P (kD E) kcl (mW E Ad (S)) H := hP
  replace hD : va_D A (mW E Ad (S)) := hD
  show W p l e _ s m args below meth c H locs _ _ Q (F0 m 25 ls [.int (zI ((S 0 ((10 + 14 * stone + 1))))), .int (zI ((sp * (((S 0 ((10 + 14 * stone + 0)))) + 2)) + (((S 0 ((10 + 14 * stone + 2)))) / 5)))])
  refine kz_isub hx hb dX3_strength_25 ?_
  have e1 : (strengthG (S 0) stone sp : Int) = ((sp * (((S 0 ((10 + 14 * stone + 0)))) + 2)) + (((S 0 ((10 + 14 * stone + 2)))) / 5)) - ((S 0 ((10 + 14 * stone + 1)))) := by rfl
  exact kz_iret () hx hb hr hlk hP hD hS dX3_strength_26 (congrArg (fun z : Int => some (Value.int (zI z))) e1) ⟨(kz_r e1 (by omega)), (by exact strengthG_b hsb hsp)⟩ rfl hQ (Nat.le_of_ble_eq_true rfl) (Nat.le_of_ble_eq_true rfl)

set_option maxHeartbeats 4000000 in
set_option maxRecDepth 100000 in
theorem mX3_drag (l : Launch) (E : KE) (sz : Nat) (Ad : Nat → Nat) (S : St) (hM : MOk S) (stone : Int) (rstone : rI stone) (river : Int) (rriver : rI river) (a : Int) (ra : rI a) (hst : 0 ≤ stone ∧ stone < 10) (hrv : 0 ≤ river ∧ river < 4) (hsb : SB (S 0) stone) (hrb : RB (S 0) river) (ha : 0 ≤ a ∧ a ≤ 90) : Met l yX3_drag (ws_ yX3_drag cX3_drag 4 (some .int)) (rmk 2 0 0 43) (va_Pc [.ref (Ad 0), .int (zI stone), .int (zI river), .int (zI a)] (kP l E sz (mW E Ad S) [])) (kQ E (fun _ : Unit => rI (dragG (S 0) stone river a) ∧ 1 ≤ dragG (S 0) stone river a ∧ dragG (S 0) stone river a ≤ 40) (fun _ => some (.int (zI (dragG (S 0) stone river a)))) (fun _ => (mW E Ad S)) (va_A (mW E Ad S) sz)) 0 0 (va_A (mW E Ad S) sz) := by
  refine kz_start (Qf := kQ E (fun _ : Unit => rI (dragG (S 0) stone river a) ∧ 1 ≤ dragG (S 0) stone river a ∧ dragG (S 0) stone river a ≤ 40) (fun _ => some (.int (zI (dragG (S 0) stone river a)))) (fun _ => (mW E Ad S))) (by decide) (Nat.le_of_ble_eq_true rfl) ?_
  intro p e s m args below meth c A ls Q H locs hx hb hr hlk hml hts hown hname hG hK hA hAN hP hD hR hRA hS hQ hl
  replace hown : s.vm.findClass RX3 = some m.cls := hown
  replace hl : lv_has ls 4 [(0, .ref (Ad 0)), (1, .int (zI (stone))), (2, .int (zI (river))), (3, .int (zI (a)))] := hl
  have q1 := ownAng_b hsb
  have q2 := apartG_b (a := a) (b := ownAng (S 0) stone) ha (by omega)
  replace hP : va_P (kD E) kcl (mW E Ad (S)) H := hP
  replace hD : va_D A (mW E Ad (S)) := hD
  refine kz_iconst hx hb dX3_drag_0 ?_
  refine lv_iload_n hx hb dX3_drag_1 rfl (lv_at hl 3 rfl) ?_
  refine lv_aload_n hx hb dX3_drag_2 rfl (lv_at hl 0 rfl) ?_
  refine lv_iload_n hx hb dX3_drag_3 rfl (lv_at hl 1 rfl) ?_
  refine kz_backM (va_runV (As := [.int (zI (stone))]) (rest := [.int (zI (a)), .int (zI (1))]) ⟨hx, hb, hml, hown, hts⟩ (mX3_ownAngle l E H.size Ad S hM stone (by omega) (show 0 ≤ stone ∧ stone < 10 by first | omega | exact hI.st _ (by omega) (by omega) | exact hI.rv _ (by omega) (by omega) | exact hI) (show SB (S 0) stone by first | omega | exact hI.st _ (by omega) (by omega) | exact hI.rv _ (by omega) (by omega) | exact hI)) (cwV 1 hts (lw_V q2437 q2439 qs43 q83 q2440) rfl rfl rfl (by decide +kernel) ⟨(Nat.le_of_ble_eq_true rfl), (Nat.le_of_ble_eq_true rfl)⟩) (kz_preVM (wc := mW E Ad S) (va_recv hK hP (ci := 2) (q0 := 0) rfl rfl) hG hS hAN hP hD kz_nilP kz_nilA) rfl rfl hl.1 rfl (lv_room (Nat.le_of_ble_eq_true rfl)) dX3_drag_4 ⟨(Nat.le_of_ble_eq_true rfl), (Nat.le_of_ble_eq_true rfl)⟩) hP hD hS hA (fun u H9 locs9 hu hP9 hD9 hS9 hzz hkk => ?_)
  clear hzz hkk hP hD hS H locs u
  revert hS9 hD9 hP9 locs9 H9
  intro H locs hP hD hS
  have r1 : rI (ownAng (S 0) stone) := hu
  clear hu
  replace hP : va_P (kD E) kcl (mW E Ad (S)) H := hP
  replace hD : va_D A (mW E Ad (S)) := hD
  show W p l e _ s m args below meth c H locs _ _ Q (F0 m 7 ls [.int (zI (ownAng (S 0) stone)), .int (zI (a)), .int (zI (1))])
  refine kz_back (wc := []) (wx := (mW E Ad (S))) (va_runS (As := [.int (zI (a)), .int (zI (ownAng (S 0) stone))]) (rest := [.int (zI (1))]) ⟨hx, hb, hml, hown, hts⟩ (mX3_apart l E H.size a (by omega) (ownAng (S 0) stone) (by omega) (show -1000000 ≤ a ∧ a ≤ 1000000 ∧ -1000000 ≤ (ownAng (S 0) stone) ∧ (ownAng (S 0) stone) ≤ 1000000 by first | omega | exact hI.st _ (by omega) (by omega) | exact hI.rv _ (by omega) (by omega) | exact hI)) (va_cwS 2 hts (lw_S q2522 q2523 q83 q2524) rfl rfl rfl (by decide +kernel) ⟨(Nat.le_of_ble_eq_true rfl), (Nat.le_of_ble_eq_true rfl)⟩) (kz_pre (wc := []) (wx := (mW E Ad (S))) hG hS hAN hP hD kz_nilP kz_nilA) rfl rfl hl.1 rfl (lv_room (Nat.le_of_ble_eq_true rfl)) dX3_drag_7 ⟨(Nat.le_of_ble_eq_true rfl), (Nat.le_of_ble_eq_true rfl)⟩) hP hD hS hA (fun u H9 locs9 hu hP9 hD9 hS9 hzz hkk => ?_)
  clear hzz hkk hP hD hS H locs u
  revert hS9 hD9 hP9 locs9 H9
  intro H locs hP hD hS
  have r2 : rI (apartG a (ownAng (S 0) stone)) := hu
  clear hu
  replace hP : va_P (kD E) kcl (mW E Ad (S)) H := hP
  replace hD : va_D A (mW E Ad (S)) := hD
  show W p l e _ s m args below meth c H locs _ _ Q (F0 m 10 ls [.int (zI (apartG a (ownAng (S 0) stone))), .int (zI (1))])
  refine kz_iconst hx hb dX3_drag_10 ?_
  refine kz_idiv hx hb dX3_drag_11 (by omega) ?_
  refine kz_iadd hx hb dX3_drag_12 ?_
  refine kz_bipush hx hb dX3_drag_13 (by decide) ?_
  refine lv_aload_n hx hb dX3_drag_15 rfl (lv_at hl 0 rfl) ?_
  refine lv_iload_n hx hb dX3_drag_16 rfl (lv_at hl 2 rfl) ?_
  refine kz_iconst hx hb dX3_drag_17 ?_
  refine kz_backM (va_runV (As := [.int (zI (river)), .int (zI (1))]) (rest := [.int (zI (9)), .int (zI (1 + ((apartG a (ownAng (S 0) stone)) / 3)))]) ⟨hx, hb, hml, hown, hts⟩ (mX3_its l E H.size Ad S hM river (by omega) 1 (by omega) (show 0 ≤ river ∧ river < 4 by first | omega | exact hI.st _ (by omega) (by omega) | exact hI.rv _ (by omega) (by omega) | exact hI) (show 0 ≤ 1 ∧ 1 < 6 by first | omega | exact hI.st _ (by omega) (by omega) | exact hI.rv _ (by omega) (by omega) | exact hI)) (cwV 2 hts (lw_V q2425 q2427 qs41 q83 q2428) rfl rfl rfl (by decide +kernel) ⟨(Nat.le_of_ble_eq_true rfl), (Nat.le_of_ble_eq_true rfl)⟩) (kz_preVM (wc := mW E Ad S) (va_recv hK hP (ci := 2) (q0 := 0) rfl rfl) hG hS hAN hP hD kz_nilP kz_nilA) rfl rfl hl.1 rfl (lv_room (Nat.le_of_ble_eq_true rfl)) dX3_drag_18 ⟨(Nat.le_of_ble_eq_true rfl), (Nat.le_of_ble_eq_true rfl)⟩) hP hD hS hA (fun u H9 locs9 hu hP9 hD9 hS9 hzz hkk => ?_)
  clear hzz hkk hP hD hS H locs u
  revert hS9 hD9 hP9 locs9 H9
  intro H locs hP hD hS
  have r3 : rI ((S 0 ((150 + 6 * river + 1)))) := hu
  clear hu
  replace hP : va_P (kD E) kcl (mW E Ad (S)) H := hP
  replace hD : va_D A (mW E Ad (S)) := hD
  show W p l e _ s m args below meth c H locs _ _ Q (F0 m 21 ls [.int (zI ((S 0 ((150 + 6 * river + 1))))), .int (zI (9)), .int (zI (1 + ((apartG a (ownAng (S 0) stone)) / 3)))])
  refine kz_isub hx hb dX3_drag_21 ?_
  refine kz_iconst hx hb dX3_drag_22 ?_
  refine kz_idiv hx hb dX3_drag_23 (by omega) ?_
  refine kz_iadd hx hb dX3_drag_24 ?_
  have e1 : (dragG (S 0) stone river a : Int) = (1 + ((apartG a (ownAng (S 0) stone)) / 3)) + ((9 - ((S 0 ((150 + 6 * river + 1))))) / 2) := by rfl
  exact kz_iret () hx hb hr hlk hP hD hS dX3_drag_25 (congrArg (fun z : Int => some (Value.int (zI z))) e1) ⟨(kz_r e1 (by omega)), (by exact dragG_b hsb hrb ha)⟩ rfl hQ (Nat.le_of_ble_eq_true rfl) (Nat.le_of_ble_eq_true rfl)

set_option maxHeartbeats 4000000 in
set_option maxRecDepth 100000 in
theorem mX3_skipsOf (l : Launch) (E : KE) (sz : Nat) (Ad : Nat → Nat) (S : St) (hM : MOk S) (stone : Int) (rstone : rI stone) (river : Int) (rriver : rI river) (a : Int) (ra : rI a) (sp : Int) (rsp : rI sp) (hst : 0 ≤ stone ∧ stone < 10) (hrv : 0 ≤ river ∧ river < 4) (hsb : SB (S 0) stone) (hrb : RB (S 0) river) (ha : 0 ≤ a ∧ a ≤ 90) (hsp : 1 ≤ sp ∧ sp ≤ 20) : Met l yX3_skipsOf (ws_ yX3_skipsOf cX3_skipsOf 8 (some .int)) (rmk 3 0 0 66) (va_Pc [.ref (Ad 0), .int (zI stone), .int (zI river), .int (zI a), .int (zI sp)] (kP l E sz (mW E Ad S) [])) (kQ E (fun _ : Unit => rI (skipsG (S 0) stone river a sp) ∧ 0 ≤ skipsG (S 0) stone river a sp ∧ skipsG (S 0) stone river a sp ≤ 240) (fun _ => some (.int (zI (skipsG (S 0) stone river a sp)))) (fun _ => (mW E Ad S)) (va_A (mW E Ad S) sz)) 0 0 (va_A (mW E Ad S) sz) := by
  refine kz_start (Qf := kQ E (fun _ : Unit => rI (skipsG (S 0) stone river a sp) ∧ 0 ≤ skipsG (S 0) stone river a sp ∧ skipsG (S 0) stone river a sp ≤ 240) (fun _ => some (.int (zI (skipsG (S 0) stone river a sp)))) (fun _ => (mW E Ad S))) (by decide) (Nat.le_of_ble_eq_true rfl) ?_
  intro p e s m args below meth c A ls Q H locs hx hb hr hlk hml hts hown hname hG hK hA hAN hP hD hR hRA hS hQ hl
  replace hown : s.vm.findClass RX3 = some m.cls := hown
  replace hl : lv_has ls 8 [(0, .ref (Ad 0)), (1, .int (zI (stone))), (2, .int (zI (river))), (3, .int (zI (a))), (4, .int (zI (sp)))] := hl
  have q1 := dragG_b hsb hrb ha
  have q2 := strengthG_b hsb hsp
  have q3 := skipsG_b hsb hrb ha hsp
  replace hP : va_P (kD E) kcl (mW E Ad (S)) H := hP
  replace hD : va_D A (mW E Ad (S)) := hD
  refine kz_iconst hx hb dX3_skipsOf_0 ?_
  refine lv_istore (lv' := [(5, .int (zI (0))), (0, .ref (Ad 0)), (1, .int (zI (stone))), (2, .int (zI (river))), (3, .int (zI (a))), (4, .int (zI (sp)))]) hx hb dX3_skipsOf_1 hl (by decide) rfl (fun ls hl => ?_)
  refine lv_aload_n hx hb dX3_skipsOf_3 rfl (lv_at hl 1 rfl) ?_
  refine lv_iload_n hx hb dX3_skipsOf_4 rfl (lv_at hl 2 rfl) ?_
  refine lv_iload_n hx hb dX3_skipsOf_5 rfl (lv_at hl 3 rfl) ?_
  refine lv_iload_n hx hb dX3_skipsOf_6 rfl (lv_at hl 4 rfl) ?_
  refine kz_backM (va_runV (As := [.int (zI (stone)), .int (zI (river)), .int (zI (a))]) (rest := []) ⟨hx, hb, hml, hown, hts⟩ (mX3_drag l E H.size Ad S hM stone (by omega) river (by omega) a (by omega) (show 0 ≤ stone ∧ stone < 10 by first | omega | exact hI.st _ (by omega) (by omega) | exact hI.rv _ (by omega) (by omega) | exact hI) (show 0 ≤ river ∧ river < 4 by first | omega | exact hI.st _ (by omega) (by omega) | exact hI.rv _ (by omega) (by omega) | exact hI) (show SB (S 0) stone by first | omega | exact hI.st _ (by omega) (by omega) | exact hI.rv _ (by omega) (by omega) | exact hI) (show RB (S 0) river by first | omega | exact hI.st _ (by omega) (by omega) | exact hI.rv _ (by omega) (by omega) | exact hI) (show 0 ≤ a ∧ a ≤ 90 by first | omega | exact hI.st _ (by omega) (by omega) | exact hI.rv _ (by omega) (by omega) | exact hI)) (cwV 3 hts (lw_V q2518 q2520 qs53 q83 q2521) rfl rfl rfl (by decide +kernel) ⟨(Nat.le_of_ble_eq_true rfl), (Nat.le_of_ble_eq_true rfl)⟩) (kz_preVM (wc := mW E Ad S) (va_recv hK hP (ci := 2) (q0 := 0) rfl rfl) hG hS hAN hP hD kz_nilP kz_nilA) rfl rfl hl.1 rfl (lv_room (Nat.le_of_ble_eq_true rfl)) dX3_skipsOf_7 ⟨(Nat.le_of_ble_eq_true rfl), (Nat.le_of_ble_eq_true rfl)⟩) hP hD hS hA (fun u H9 locs9 hu hP9 hD9 hS9 hzz hkk => ?_)
  clear hzz hkk hP hD hS H locs u
  revert hS9 hD9 hP9 locs9 H9
  intro H locs hP hD hS
  obtain ⟨r1, p2⟩ := hu
  replace r1 : rI (dragG (S 0) stone river a) := r1
  replace p2 : 1 ≤ dragG (S 0) stone river a ∧ dragG (S 0) stone river a ≤ 40 := p2
  replace hP : va_P (kD E) kcl (mW E Ad (S)) H := hP
  replace hD : va_D A (mW E Ad (S)) := hD
  show W p l e _ s m args below meth c H locs _ _ Q (F0 m 10 ls [.int (zI (dragG (S 0) stone river a))])
  refine lv_istore (lv' := [(6, .int (zI (dragG (S 0) stone river a))), (5, .int (zI (0))), (0, .ref (Ad 0)), (1, .int (zI (stone))), (2, .int (zI (river))), (3, .int (zI (a))), (4, .int (zI (sp)))]) hx hb dX3_skipsOf_10 hl (by decide) rfl (fun ls hl => ?_)
  refine lv_aload_n hx hb dX3_skipsOf_12 rfl (lv_at hl 2 rfl) ?_
  refine lv_iload_n hx hb dX3_skipsOf_13 rfl (lv_at hl 3 rfl) ?_
  refine lv_iload hx hb dX3_skipsOf_14 (lv_at hl 6 rfl) ?_
  refine kz_backM (va_runV (As := [.int (zI (stone)), .int (zI (sp))]) (rest := []) ⟨hx, hb, hml, hown, hts⟩ (mX3_strength l E H.size Ad S hM stone (by omega) sp (by omega) (show 0 ≤ stone ∧ stone < 10 by first | omega | exact hI.st _ (by omega) (by omega) | exact hI.rv _ (by omega) (by omega) | exact hI) (show SB (S 0) stone by first | omega | exact hI.st _ (by omega) (by omega) | exact hI.rv _ (by omega) (by omega) | exact hI) (show 1 ≤ sp ∧ sp ≤ 20 by first | omega | exact hI.st _ (by omega) (by omega) | exact hI.rv _ (by omega) (by omega) | exact hI)) (cwV 2 hts (lw_V q2525 q2527 qs54 q83 q2528) rfl rfl rfl (by decide +kernel) ⟨(Nat.le_of_ble_eq_true rfl), (Nat.le_of_ble_eq_true rfl)⟩) (kz_preVM (wc := mW E Ad S) (va_recv hK hP (ci := 2) (q0 := 0) rfl rfl) hG hS hAN hP hD kz_nilP kz_nilA) rfl rfl hl.1 rfl (lv_room (Nat.le_of_ble_eq_true rfl)) dX3_skipsOf_16 ⟨(Nat.le_of_ble_eq_true rfl), (Nat.le_of_ble_eq_true rfl)⟩) hP hD hS hA (fun u H9 locs9 hu hP9 hD9 hS9 hzz hkk => ?_)
  clear hzz hkk hP hD hS H locs u
  revert hS9 hD9 hP9 locs9 H9
  intro H locs hP hD hS
  obtain ⟨r3, p4⟩ := hu
  replace r3 : rI (strengthG (S 0) stone sp) := r3
  replace p4 : -10 ≤ strengthG (S 0) stone sp ∧ strengthG (S 0) stone sp ≤ 240 := p4
  replace hP : va_P (kD E) kcl (mW E Ad (S)) H := hP
  replace hD : va_D A (mW E Ad (S)) := hD
  show W p l e _ s m args below meth c H locs _ _ Q (F0 m 19 ls [.int (zI (strengthG (S 0) stone sp))])
  refine lv_istore (lv' := [(7, .int (zI (strengthG (S 0) stone sp))), (6, .int (zI (dragG (S 0) stone river a))), (5, .int (zI (0))), (0, .ref (Ad 0)), (1, .int (zI (stone))), (2, .int (zI (river))), (3, .int (zI (a))), (4, .int (zI (sp)))]) hx hb dX3_skipsOf_19 hl (by decide) rfl (fun ls hl => ?_)
  have L21_5 : ∀ (fu : Nat) (n left : Int) (H : Heap) (locs : List Loc) (ls : Array Slot), (left ≤ 240 ∧ -60 ≤ left ∧ 0 ≤ n ∧ n ≤ 240 - left) → (n + skN left (dragG (S 0) stone river a) = skN (strengthG (S 0) stone sp) (dragG (S 0) stone river a)) → rI n → rI left → (left : Int).toNat < fu → va_P (kD E) kcl (mW E Ad (S)) H → va_D A (mW E Ad (S)) → va_S A s.heap H locs → lv_has ls 8 [(0, .ref (Ad 0)), (1, .int (zI (stone))), (2, .int (zI (river))), (3, .int (zI (a))), (4, .int (zI (sp))), (5, .int (zI (n))), (6, .int (zI (dragG (S 0) stone river a))), (7, .int (zI (left)))] → W p l e (rmk 3 0 0 66) s m args below meth c H locs 0 0 Q (F0 m 21 ls []) := by
    clear hl hS hD hP ls locs H
    intro fu
    induction fu with
    | zero => intro n left H locs ls hk hn rn rleft hf; exact absurd hf (Nat.not_lt_zero _)
    | succ fu ih21 =>
      intro n left H locs ls hk hn rn rleft hf hP hD hS hl
      refine lv_iload hx hb dX3_skipsOf_21 (lv_at hl 7 rfl) ?_
      refine kz_if_le (tgt := 39) hx hb dX3_skipsOf_23 (by decide) (by omega) (fun c23 => ?_) (fun c23 => ?_)
      · skip
        refine lv_iload hx hb dX3_skipsOf_39 (lv_at hl 5 rfl) ?_
        have e1 : (skipsG (S 0) stone river a sp : Int) = n := by rw [skN_0 (by omega)] at hn; unfold skipsG; omega
        exact kz_iret () hx hb hr hlk hP hD hS dX3_skipsOf_41 (congrArg (fun z : Int => some (Value.int (zI z))) e1) ⟨(kz_r e1 (by omega)), (by exact skipsG_b hsb hrb ha hsp)⟩ rfl hQ (Nat.le_of_ble_eq_true rfl) (Nat.le_of_ble_eq_true rfl)
      · skip
        refine kz_iinc (lv' := [(5, .int (zI (n + 1))), (0, .ref (Ad 0)), (1, .int (zI (stone))), (2, .int (zI (river))), (3, .int (zI (a))), (4, .int (zI (sp))), (6, .int (zI (dragG (S 0) stone river a))), (7, .int (zI (left)))]) hx hb dX3_skipsOf_26 hl (k := 5) rfl (by decide) rfl (fun ls hl => ?_)
        refine lv_iload hx hb dX3_skipsOf_29 (lv_at hl 7 rfl) ?_
        refine lv_iload hx hb dX3_skipsOf_31 (lv_at hl 6 rfl) ?_
        refine kz_isub hx hb dX3_skipsOf_33 ?_
        refine lv_istore (lv' := [(7, .int (zI (left - (dragG (S 0) stone river a)))), (5, .int (zI (n + 1))), (0, .ref (Ad 0)), (1, .int (zI (stone))), (2, .int (zI (river))), (3, .int (zI (a))), (4, .int (zI (sp))), (6, .int (zI (dragG (S 0) stone river a)))]) hx hb dX3_skipsOf_34 hl (by decide) rfl (fun ls hl => ?_)
        refine lv_goto (tgt := 21) hx hb dX3_skipsOf_36 (by decide) ?_
        exact ih21 (n + 1) (left - (dragG (S 0) stone river a)) _ _ _ (by omega) (by rw [skN_s (by omega) (by omega)] at hn; omega) (by omega) (by omega) (by omega) hP hD hS (lv_sub hl [2, 3, 4, 5, 6, 1, 7, 0] rfl)
  exact L21_5 (((strengthG (S 0) stone sp) : Int).toNat + 1) 0 (strengthG (S 0) stone sp) _ _ _ (by omega) (by omega) (by omega) (by omega) (Nat.lt_succ_self _) hP hD hS (lv_sub hl [3, 4, 5, 6, 7, 2, 1, 0] rfl)

set_option maxHeartbeats 4000000 in
set_option maxRecDepth 100000 in
theorem mX3_wayOf (l : Launch) (E : KE) (sz : Nat) (Ad : Nat → Nat) (S : St) (hM : MOk S) (stone : Int) (rstone : rI stone) (river : Int) (rriver : rI river) (a : Int) (ra : rI a) (sp : Int) (rsp : rI sp) (hst : 0 ≤ stone ∧ stone < 10) (hrv : 0 ≤ river ∧ river < 4) (hsb : SB (S 0) stone) (hrb : RB (S 0) river) (ha : 0 ≤ a ∧ a ≤ 90) (hsp : 1 ≤ sp ∧ sp ≤ 20) : Met l yX3_wayOf (ws_ yX3_wayOf cX3_wayOf 8 (some .int)) (rmk 3 0 0 66) (va_Pc [.ref (Ad 0), .int (zI stone), .int (zI river), .int (zI a), .int (zI sp)] (kP l E sz (mW E Ad S) [])) (kQ E (fun _ : Unit => rI (wayG (S 0) stone river a sp) ∧ 0 ≤ wayG (S 0) stone river a sp ∧ wayG (S 0) stone river a sp ≤ 57840) (fun _ => some (.int (zI (wayG (S 0) stone river a sp)))) (fun _ => (mW E Ad S)) (va_A (mW E Ad S) sz)) 0 0 (va_A (mW E Ad S) sz) := by
  refine kz_start (Qf := kQ E (fun _ : Unit => rI (wayG (S 0) stone river a sp) ∧ 0 ≤ wayG (S 0) stone river a sp ∧ wayG (S 0) stone river a sp ≤ 57840) (fun _ => some (.int (zI (wayG (S 0) stone river a sp)))) (fun _ => (mW E Ad S))) (by decide) (Nat.le_of_ble_eq_true rfl) ?_
  intro p e s m args below meth c A ls Q H locs hx hb hr hlk hml hts hown hname hG hK hA hAN hP hD hR hRA hS hQ hl
  replace hown : s.vm.findClass RX3 = some m.cls := hown
  replace hl : lv_has ls 8 [(0, .ref (Ad 0)), (1, .int (zI (stone))), (2, .int (zI (river))), (3, .int (zI (a))), (4, .int (zI (sp)))] := hl
  have q1 := dragG_b hsb hrb ha
  have q2 := strengthG_b hsb hsp
  have q3 := wayG_b hsb hrb ha hsp
  replace hP : va_P (kD E) kcl (mW E Ad (S)) H := hP
  replace hD : va_D A (mW E Ad (S)) := hD
  refine kz_iconst hx hb dX3_wayOf_0 ?_
  refine lv_istore (lv' := [(5, .int (zI (0))), (0, .ref (Ad 0)), (1, .int (zI (stone))), (2, .int (zI (river))), (3, .int (zI (a))), (4, .int (zI (sp)))]) hx hb dX3_wayOf_1 hl (by decide) rfl (fun ls hl => ?_)
  refine lv_aload_n hx hb dX3_wayOf_3 rfl (lv_at hl 1 rfl) ?_
  refine lv_iload_n hx hb dX3_wayOf_4 rfl (lv_at hl 2 rfl) ?_
  refine lv_iload_n hx hb dX3_wayOf_5 rfl (lv_at hl 3 rfl) ?_
  refine lv_iload_n hx hb dX3_wayOf_6 rfl (lv_at hl 4 rfl) ?_
  refine kz_backM (va_runV (As := [.int (zI (stone)), .int (zI (river)), .int (zI (a))]) (rest := []) ⟨hx, hb, hml, hown, hts⟩ (mX3_drag l E H.size Ad S hM stone (by omega) river (by omega) a (by omega) (show 0 ≤ stone ∧ stone < 10 by first | omega | exact hI.st _ (by omega) (by omega) | exact hI.rv _ (by omega) (by omega) | exact hI) (show 0 ≤ river ∧ river < 4 by first | omega | exact hI.st _ (by omega) (by omega) | exact hI.rv _ (by omega) (by omega) | exact hI) (show SB (S 0) stone by first | omega | exact hI.st _ (by omega) (by omega) | exact hI.rv _ (by omega) (by omega) | exact hI) (show RB (S 0) river by first | omega | exact hI.st _ (by omega) (by omega) | exact hI.rv _ (by omega) (by omega) | exact hI) (show 0 ≤ a ∧ a ≤ 90 by first | omega | exact hI.st _ (by omega) (by omega) | exact hI.rv _ (by omega) (by omega) | exact hI)) (cwV 3 hts (lw_V q2518 q2520 qs53 q83 q2521) rfl rfl rfl (by decide +kernel) ⟨(Nat.le_of_ble_eq_true rfl), (Nat.le_of_ble_eq_true rfl)⟩) (kz_preVM (wc := mW E Ad S) (va_recv hK hP (ci := 2) (q0 := 0) rfl rfl) hG hS hAN hP hD kz_nilP kz_nilA) rfl rfl hl.1 rfl (lv_room (Nat.le_of_ble_eq_true rfl)) dX3_wayOf_7 ⟨(Nat.le_of_ble_eq_true rfl), (Nat.le_of_ble_eq_true rfl)⟩) hP hD hS hA (fun u H9 locs9 hu hP9 hD9 hS9 hzz hkk => ?_)
  clear hzz hkk hP hD hS H locs u
  revert hS9 hD9 hP9 locs9 H9
  intro H locs hP hD hS
  obtain ⟨r1, p2⟩ := hu
  replace r1 : rI (dragG (S 0) stone river a) := r1
  replace p2 : 1 ≤ dragG (S 0) stone river a ∧ dragG (S 0) stone river a ≤ 40 := p2
  replace hP : va_P (kD E) kcl (mW E Ad (S)) H := hP
  replace hD : va_D A (mW E Ad (S)) := hD
  show W p l e _ s m args below meth c H locs _ _ Q (F0 m 10 ls [.int (zI (dragG (S 0) stone river a))])
  refine lv_istore (lv' := [(6, .int (zI (dragG (S 0) stone river a))), (5, .int (zI (0))), (0, .ref (Ad 0)), (1, .int (zI (stone))), (2, .int (zI (river))), (3, .int (zI (a))), (4, .int (zI (sp)))]) hx hb dX3_wayOf_10 hl (by decide) rfl (fun ls hl => ?_)
  refine lv_aload_n hx hb dX3_wayOf_12 rfl (lv_at hl 2 rfl) ?_
  refine lv_iload_n hx hb dX3_wayOf_13 rfl (lv_at hl 3 rfl) ?_
  refine lv_iload hx hb dX3_wayOf_14 (lv_at hl 6 rfl) ?_
  refine kz_backM (va_runV (As := [.int (zI (stone)), .int (zI (sp))]) (rest := []) ⟨hx, hb, hml, hown, hts⟩ (mX3_strength l E H.size Ad S hM stone (by omega) sp (by omega) (show 0 ≤ stone ∧ stone < 10 by first | omega | exact hI.st _ (by omega) (by omega) | exact hI.rv _ (by omega) (by omega) | exact hI) (show SB (S 0) stone by first | omega | exact hI.st _ (by omega) (by omega) | exact hI.rv _ (by omega) (by omega) | exact hI) (show 1 ≤ sp ∧ sp ≤ 20 by first | omega | exact hI.st _ (by omega) (by omega) | exact hI.rv _ (by omega) (by omega) | exact hI)) (cwV 2 hts (lw_V q2525 q2527 qs54 q83 q2528) rfl rfl rfl (by decide +kernel) ⟨(Nat.le_of_ble_eq_true rfl), (Nat.le_of_ble_eq_true rfl)⟩) (kz_preVM (wc := mW E Ad S) (va_recv hK hP (ci := 2) (q0 := 0) rfl rfl) hG hS hAN hP hD kz_nilP kz_nilA) rfl rfl hl.1 rfl (lv_room (Nat.le_of_ble_eq_true rfl)) dX3_wayOf_16 ⟨(Nat.le_of_ble_eq_true rfl), (Nat.le_of_ble_eq_true rfl)⟩) hP hD hS hA (fun u H9 locs9 hu hP9 hD9 hS9 hzz hkk => ?_)
  clear hzz hkk hP hD hS H locs u
  revert hS9 hD9 hP9 locs9 H9
  intro H locs hP hD hS
  obtain ⟨r3, p4⟩ := hu
  replace r3 : rI (strengthG (S 0) stone sp) := r3
  replace p4 : -10 ≤ strengthG (S 0) stone sp ∧ strengthG (S 0) stone sp ≤ 240 := p4
  replace hP : va_P (kD E) kcl (mW E Ad (S)) H := hP
  replace hD : va_D A (mW E Ad (S)) := hD
  show W p l e _ s m args below meth c H locs _ _ Q (F0 m 19 ls [.int (zI (strengthG (S 0) stone sp))])
  refine lv_istore (lv' := [(7, .int (zI (strengthG (S 0) stone sp))), (6, .int (zI (dragG (S 0) stone river a))), (5, .int (zI (0))), (0, .ref (Ad 0)), (1, .int (zI (stone))), (2, .int (zI (river))), (3, .int (zI (a))), (4, .int (zI (sp)))]) hx hb dX3_wayOf_19 hl (by decide) rfl (fun ls hl => ?_)
  have L21_5 : ∀ (fu : Nat) (n left : Int) (H : Heap) (locs : List Loc) (ls : Array Slot), (left ≤ 240 ∧ -60 ≤ left ∧ 0 ≤ n ∧ n ≤ 300 * (240 - left)) → (n + wyN left (dragG (S 0) stone river a) = wyN (strengthG (S 0) stone sp) (dragG (S 0) stone river a)) → rI n → rI left → (left : Int).toNat < fu → va_P (kD E) kcl (mW E Ad (S)) H → va_D A (mW E Ad (S)) → va_S A s.heap H locs → lv_has ls 8 [(0, .ref (Ad 0)), (1, .int (zI (stone))), (2, .int (zI (river))), (3, .int (zI (a))), (4, .int (zI (sp))), (5, .int (zI (n))), (6, .int (zI (dragG (S 0) stone river a))), (7, .int (zI (left)))] → W p l e (rmk 3 0 0 66) s m args below meth c H locs 0 0 Q (F0 m 21 ls []) := by
    clear hl hS hD hP ls locs H
    intro fu
    induction fu with
    | zero => intro n left H locs ls hk hn rn rleft hf; exact absurd hf (Nat.not_lt_zero _)
    | succ fu ih21 =>
      intro n left H locs ls hk hn rn rleft hf hP hD hS hl
      refine lv_iload hx hb dX3_wayOf_21 (lv_at hl 7 rfl) ?_
      refine kz_if_le (tgt := 47) hx hb dX3_wayOf_23 (by decide) (by omega) (fun c23 => ?_) (fun c23 => ?_)
      · skip
        refine lv_iload hx hb dX3_wayOf_47 (lv_at hl 5 rfl) ?_
        have e1 : (wayG (S 0) stone river a sp : Int) = n := by rw [wyN_0 (by omega)] at hn; unfold wayG; omega
        exact kz_iret () hx hb hr hlk hP hD hS dX3_wayOf_49 (congrArg (fun z : Int => some (Value.int (zI z))) e1) ⟨(kz_r e1 (by omega)), (by exact wayG_b hsb hrb ha hsp)⟩ rfl hQ (Nat.le_of_ble_eq_true rfl) (Nat.le_of_ble_eq_true rfl)
      · skip
        refine lv_iload hx hb dX3_wayOf_26 (lv_at hl 5 rfl) ?_
        refine kz_iconst hx hb dX3_wayOf_28 ?_
        refine lv_iload hx hb dX3_wayOf_29 (lv_at hl 7 rfl) ?_
        refine kz_iconst hx hb dX3_wayOf_31 ?_
        refine kz_idiv hx hb dX3_wayOf_32 (by omega) ?_
        refine kz_iadd hx hb dX3_wayOf_33 ?_
        refine kz_iadd hx hb dX3_wayOf_34 ?_
        refine lv_istore (lv' := [(5, .int (zI (n + (1 + (left / 5))))), (0, .ref (Ad 0)), (1, .int (zI (stone))), (2, .int (zI (river))), (3, .int (zI (a))), (4, .int (zI (sp))), (6, .int (zI (dragG (S 0) stone river a))), (7, .int (zI (left)))]) hx hb dX3_wayOf_35 hl (by decide) rfl (fun ls hl => ?_)
        refine lv_iload hx hb dX3_wayOf_37 (lv_at hl 7 rfl) ?_
        refine lv_iload hx hb dX3_wayOf_39 (lv_at hl 6 rfl) ?_
        refine kz_isub hx hb dX3_wayOf_41 ?_
        refine lv_istore (lv' := [(7, .int (zI (left - (dragG (S 0) stone river a)))), (5, .int (zI (n + (1 + (left / 5))))), (0, .ref (Ad 0)), (1, .int (zI (stone))), (2, .int (zI (river))), (3, .int (zI (a))), (4, .int (zI (sp))), (6, .int (zI (dragG (S 0) stone river a)))]) hx hb dX3_wayOf_42 hl (by decide) rfl (fun ls hl => ?_)
        refine lv_goto (tgt := 21) hx hb dX3_wayOf_44 (by decide) ?_
        exact ih21 (n + (1 + (left / 5))) (left - (dragG (S 0) stone river a)) _ _ _ (by omega) (by rw [wyN_s (by omega) (by omega)] at hn; omega) (by omega) (by omega) (by omega) hP hD hS (lv_sub hl [2, 3, 4, 5, 6, 1, 7, 0] rfl)
  exact L21_5 (((strengthG (S 0) stone sp) : Int).toNat + 1) 0 (strengthG (S 0) stone sp) _ _ _ (by omega) (by omega) (by omega) (by omega) (Nat.lt_succ_self _) hP hD hS (lv_sub hl [3, 4, 5, 6, 7, 2, 1, 0] rfl)

set_option maxHeartbeats 4000000 in
set_option maxRecDepth 100000 in
theorem mX3_isWrong (l : Launch) (E : KE) (sz : Nat) (Ad : Nat → Nat) (S : St) (hM : MOk S) (stone : Int) (rstone : rI stone) (river : Int) (rriver : rI river) (a : Int) (ra : rI a) (sp : Int) (rsp : rI sp) (g0 : 0 ≤ S 0 0 ∧ S 0 0 ≤ 10) (g1 : 0 ≤ S 0 1 ∧ S 0 1 ≤ 4) : Met l yX3_isWrong (ws_ yX3_isWrong cX3_isWrong 5 (some .boolean)) (rmk 2 0 0 43) (va_Pc [.ref (Ad 0), .int (zI stone), .int (zI river), .int (zI a), .int (zI sp)] (kP l E sz (mW E Ad S) [])) (kQ E (fun _ : Unit => MOk (put S 7 7 (throwCode (S 0) stone river a sp))) (fun _ => some (.int (zI (b2 (0 < throwCode (S 0) stone river a sp))))) (fun _ => (mW E Ad (put S 7 7 (throwCode (S 0) stone river a sp)))) (va_A (mW E Ad S) sz)) 0 0 (va_A (mW E Ad S) sz) := by
  refine kz_start (Qf := kQ E (fun _ : Unit => MOk (put S 7 7 (throwCode (S 0) stone river a sp))) (fun _ => some (.int (zI (b2 (0 < throwCode (S 0) stone river a sp))))) (fun _ => (mW E Ad (put S 7 7 (throwCode (S 0) stone river a sp))))) (by decide) (Nat.le_of_ble_eq_true rfl) ?_
  intro p e s m args below meth c A ls Q H locs hx hb hr hlk hml hts hown hname hG hK hA hAN hP hD hR hRA hS hQ hl
  replace hown : s.vm.findClass RX3 = some m.cls := hown
  replace hl : lv_has ls 5 [(0, .ref (Ad 0)), (1, .int (zI (stone))), (2, .int (zI (river))), (3, .int (zI (a))), (4, .int (zI (sp)))] := hl
  replace hP : va_P (kD E) kcl (mW E Ad (S)) H := hP
  replace hD : va_D A (mW E Ad (S)) := hD
  refine lv_aload_n hx hb dX3_isWrong_0 rfl (lv_at hl 0 rfl) ?_
  refine lv_aload_n hx hb dX3_isWrong_1 rfl (lv_at hl 0 rfl) ?_
  refine lv_iload_n hx hb dX3_isWrong_2 rfl (lv_at hl 1 rfl) ?_
  refine kz_backM (va_runV (As := [.int (zI (stone))]) (rest := [.ref (Ad 0)]) ⟨hx, hb, hml, hown, hts⟩ (mX3_isStone l E H.size Ad S hM stone (by omega) (show 0 ≤ (S 0 0) ∧ (S 0 0) ≤ 10 by first | omega | exact hI.st _ (by omega) (by omega) | exact hI.rv _ (by omega) (by omega) | exact hI)) (cwV 1 hts (lw_V q2433 q2435 qs42 q83 q2436) rfl rfl rfl (by decide +kernel) ⟨(Nat.le_of_ble_eq_true rfl), (Nat.le_of_ble_eq_true rfl)⟩) (kz_preVM (wc := mW E Ad S) (va_recv hK hP (ci := 2) (q0 := 0) rfl rfl) hG hS hAN hP hD kz_nilP kz_nilA) rfl rfl hl.1 rfl (lv_room (Nat.le_of_ble_eq_true rfl)) dX3_isWrong_3 ⟨(Nat.le_of_ble_eq_true rfl), (Nat.le_of_ble_eq_true rfl)⟩) hP hD hS hA (fun u H9 locs9 hu hP9 hD9 hS9 hzz hkk => ?_)
  clear hzz hkk hP hD hS H locs u
  revert hS9 hD9 hP9 locs9 H9
  intro H locs hP hD hS
  clear hu
  replace hP : va_P (kD E) kcl (mW E Ad (S)) H := hP
  replace hD : va_D A (mW E Ad (S)) := hD
  show W p l e _ s m args below meth c H locs _ _ Q (F0 m 6 ls [.int (zI (b2 (0 ≤ stone ∧ stone ≤ (S 0 0) - 1))), .ref (Ad 0)])
  have J1 : ∀ (v2 : Int) (H : Heap) (locs : List Loc) (ls : Array Slot), v2 = (if 0 ≤ stone ∧ stone ≤ (S 0 0) - 1 then (if 0 ≤ river ∧ river ≤ (S 0 1) - 1 then (if 0 ≤ a ∧ a ≤ 90 ∧ 1 ≤ sp ∧ sp ≤ 20 then 0 else 2) else 1) else 1) → rI v2 → va_P (kD E) kcl (mW E Ad (S)) H → va_D A (mW E Ad (S)) → va_S A s.heap H locs → lv_has ls 5 [(0, .ref (Ad 0)), (1, .int (zI (stone))), (2, .int (zI (river))), (3, .int (zI (a))), (4, .int (zI (sp)))] → W p l e (rmk 2 0 0 43) s m args below meth c H locs 0 0 Q (F0 m 35 ls [.int (zI (v2)), .ref (Ad 0)]) := by
    clear hl hS hD hP ls locs H
    intro v2 H locs ls hv2 rv2 hP hD hS hl
    have dv2 : (¬ (0 ≤ stone ∧ stone ≤ (S 0 0) - 1) ∧ v2 = 1) ∨ (0 ≤ stone ∧ stone ≤ (S 0 0) - 1 ∧ 0 ≤ river ∧ river ≤ (S 0 1) - 1 ∧ ¬ (0 ≤ a ∧ a ≤ 90 ∧ 1 ≤ sp ∧ sp ≤ 20) ∧ v2 = 2) ∨ (0 ≤ stone ∧ stone ≤ (S 0 0) - 1 ∧ 0 ≤ river ∧ river ≤ (S 0 1) - 1 ∧ 0 ≤ a ∧ a ≤ 90 ∧ 1 ≤ sp ∧ sp ≤ 20 ∧ v2 = 0) ∨ (0 ≤ stone ∧ stone ≤ (S 0 0) - 1 ∧ ¬ (0 ≤ river ∧ river ≤ (S 0 1) - 1) ∧ v2 = 1) := by rw [hv2]; (repeat' split) <;> first | omega | simp_all
    refine kz_backM (va_runV (As := [.int (zI (v2))]) (rest := []) ⟨hx, hb, hml, hown, hts⟩ (mX3_fails l E H.size Ad S hM v2 (by omega)) (cwV 1 hts (lw_V q2394 q2396 qs36 q83 q2397) rfl rfl rfl (by decide +kernel) ⟨(Nat.le_of_ble_eq_true rfl), (Nat.le_of_ble_eq_true rfl)⟩) (kz_preVM (wc := mW E Ad S) (va_recv hK hP (ci := 2) (q0 := 0) rfl rfl) hG hS hAN hP hD kz_nilP kz_nilA) rfl rfl hl.1 rfl (lv_room (Nat.le_of_ble_eq_true rfl)) dX3_isWrong_35 ⟨(Nat.le_of_ble_eq_true rfl), (Nat.le_of_ble_eq_true rfl)⟩) hP hD hS hA (fun u H9 locs9 hu hP9 hD9 hS9 hzz hkk => ?_)
    clear hzz hkk hP hD hS H locs u
    revert hS9 hD9 hP9 locs9 H9
    intro H locs hP hD hS
    replace hM : MOk (put S 7 7 v2) := hu
    clear hu
    replace hP : va_P (kD E) kcl (mW E Ad (put S 7 7 v2)) H := hP
    replace hD : va_D A (mW E Ad (put S 7 7 v2)) := hD
    show W p l e _ s m args below meth c H locs _ _ Q (F0 m 38 ls [.int (zI (b2 (0 < v2)))])
    have q9 : v2 = throwCode (S 0) stone river a sp := by unfold throwCode; (repeat' split) <;> omega
    have e1 : b2 (0 < throwCode (S 0) stone river a sp) = b2 (0 < v2) := b2_c (by rw [q9])
    have e3 : put S 7 7 (throwCode (S 0) stone river a sp) = put S 7 7 v2 := by rw [q9]
    exact kz_zret () hx hb hr hlk hP hD hS dX3_isWrong_38 (congrArg (fun z : Int => some (Value.int (zI z))) e1) (kz_M e3 hM) (congrArg (mW E Ad) e3) hQ (Nat.le_of_ble_eq_true rfl) (Nat.le_of_ble_eq_true rfl)
  refine kz_if0B (tgt := 17) hx hb dX3_isWrong_6 (by decide) (fun c6 => ?_) (fun c6 => ?_)
  · skip
    refine kz_iconst hx hb dX3_isWrong_17 ?_
    refine lv_goto (tgt := 35) hx hb dX3_isWrong_18 (by decide) ?_
    exact J1 1 _ _ _ (Eq.symm (if_neg c6)) (by omega) hP hD hS hl
  · skip
    refine lv_aload_n hx hb dX3_isWrong_9 rfl (lv_at hl 0 rfl) ?_
    refine lv_iload_n hx hb dX3_isWrong_10 rfl (lv_at hl 2 rfl) ?_
    refine kz_backM (va_runV (As := [.int (zI (river))]) (rest := [.ref (Ad 0)]) ⟨hx, hb, hml, hown, hts⟩ (mX3_isRiver l E H.size Ad S hM river (by omega) (show 0 ≤ (S 0 1) ∧ (S 0 1) ≤ 4 by first | omega | exact hI.st _ (by omega) (by omega) | exact hI.rv _ (by omega) (by omega) | exact hI)) (cwV 1 hts (lw_V q2421 q2423 qs40 q83 q2424) rfl rfl rfl (by decide +kernel) ⟨(Nat.le_of_ble_eq_true rfl), (Nat.le_of_ble_eq_true rfl)⟩) (kz_preVM (wc := mW E Ad S) (va_recv hK hP (ci := 2) (q0 := 0) rfl rfl) hG hS hAN hP hD kz_nilP kz_nilA) rfl rfl hl.1 rfl (lv_room (Nat.le_of_ble_eq_true rfl)) dX3_isWrong_11 ⟨(Nat.le_of_ble_eq_true rfl), (Nat.le_of_ble_eq_true rfl)⟩) hP hD hS hA (fun u H9 locs9 hu hP9 hD9 hS9 hzz hkk => ?_)
    clear hzz hkk hP hD hS H locs u
    revert hS9 hD9 hP9 locs9 H9
    intro H locs hP hD hS
    clear hu
    replace hP : va_P (kD E) kcl (mW E Ad (S)) H := hP
    replace hD : va_D A (mW E Ad (S)) := hD
    show W p l e _ s m args below meth c H locs _ _ Q (F0 m 14 ls [.int (zI (b2 (0 ≤ river ∧ river ≤ (S 0 1) - 1))), .ref (Ad 0)])
    refine kz_if1B (tgt := 21) hx hb dX3_isWrong_14 (by decide) (fun c14 => ?_) (fun c14 => ?_)
    · skip
      refine lv_iload_n hx hb dX3_isWrong_21 rfl (lv_at hl 3 rfl) ?_
      refine lv_iload hx hb dX3_isWrong_22 (lv_at hl 4 rfl) ?_
      refine kz_back (wc := []) (wx := (mW E Ad (S))) (va_runS (As := [.int (zI (a)), .int (zI (sp))]) (rest := [.ref (Ad 0)]) ⟨hx, hb, hml, hown, hts⟩ (mX3_isThrow l E H.size a (by omega) sp (by omega)) (va_cwS 2 hts (lw_S q2511 q2512 q83 q2513) rfl rfl rfl (by decide +kernel) ⟨(Nat.le_of_ble_eq_true rfl), (Nat.le_of_ble_eq_true rfl)⟩) (kz_pre (wc := []) (wx := (mW E Ad (S))) hG hS hAN hP hD kz_nilP kz_nilA) rfl rfl hl.1 rfl (lv_room (Nat.le_of_ble_eq_true rfl)) dX3_isWrong_24 ⟨(Nat.le_of_ble_eq_true rfl), (Nat.le_of_ble_eq_true rfl)⟩) hP hD hS hA (fun u H9 locs9 hu hP9 hD9 hS9 hzz hkk => ?_)
      clear hzz hkk hP hD hS H locs u
      revert hS9 hD9 hP9 locs9 H9
      intro H locs hP hD hS
      clear hu
      replace hP : va_P (kD E) kcl (mW E Ad (S)) H := hP
      replace hD : va_D A (mW E Ad (S)) := hD
      show W p l e _ s m args below meth c H locs _ _ Q (F0 m 27 ls [.int (zI (b2 (0 ≤ a ∧ a ≤ 90 ∧ 1 ≤ sp ∧ sp ≤ 20))), .ref (Ad 0)])
      refine kz_if0B (tgt := 34) hx hb dX3_isWrong_27 (by decide) (fun c27 => ?_) (fun c27 => ?_)
      · skip
        refine kz_iconst hx hb dX3_isWrong_34 ?_
        exact J1 2 _ _ _ (Eq.symm (Eq.trans (if_pos c6) (Eq.trans (if_pos c14) (if_neg c27)))) (by omega) hP hD hS hl
      · skip
        refine kz_iconst hx hb dX3_isWrong_30 ?_
        refine lv_goto (tgt := 35) hx hb dX3_isWrong_31 (by decide) ?_
        exact J1 0 _ _ _ (Eq.symm (Eq.trans (if_pos c6) (Eq.trans (if_pos c14) (if_pos c27)))) (by omega) hP hD hS hl
    · skip
      refine kz_iconst hx hb dX3_isWrong_17 ?_
      refine lv_goto (tgt := 35) hx hb dX3_isWrong_18 (by decide) ?_
      exact J1 1 _ _ _ (Eq.symm (Eq.trans (if_pos c6) (if_neg c14))) (by omega) hP hD hS hl

