/-! THE MODEL, on -/
set_option maxHeartbeats 4000000 in
set_option maxRecDepth 100000 in
theorem mX3_nextFree (l : Launch) (E : KE) (sz : Nat) (Ad : Nat → Nat) (S : St) (hM : MOk S) (B : Int) (river : Int) (rriver : rI river) (dn : Int) (rdn : rI dn) (hI : GI B (S 0)) : Met l yX3_nextFree (ws_ yX3_nextFree cX3_nextFree 5 (some .int)) (rmk 2 0 0 43) (va_Pc [.ref (Ad 0), .int (zI river), .int (zI dn)] (kP l E sz (mW E Ad S) [])) (kQ E (fun _ : Unit => rI ((xNextFree S river dn).2) ∧ MOk ((xNextFree S river dn).1)) (fun _ => some (.int (zI ((xNextFree S river dn).2)))) (fun _ => (mW E Ad ((xNextFree S river dn).1))) (va_A (mW E Ad S) sz)) 0 0 (va_A (mW E Ad S) sz) := by
  refine kz_start (Qf := kQ E (fun _ : Unit => rI ((xNextFree S river dn).2) ∧ MOk ((xNextFree S river dn).1)) (fun _ => some (.int (zI ((xNextFree S river dn).2)))) (fun _ => (mW E Ad ((xNextFree S river dn).1)))) (by decide) (Nat.le_of_ble_eq_true rfl) ?_
  intro p e s m args below meth c A ls Q H locs hx hb hr hlk hml hts hown hname hG hK hA hAN hP hD hR hRA hS hQ hl
  replace hown : s.vm.findClass RX3 = some m.cls := hown
  replace hl : lv_has ls 5 [(0, .ref (Ad 0)), (1, .int (zI (river))), (2, .int (zI (dn)))] := hl
  have g0 := hI.n
  have g1 := hI.m
  have g2 := hI.ct
  replace hP : va_P (kD E) kcl (mW E Ad (S)) H := hP
  replace hD : va_D A (mW E Ad (S)) := hD
  refine lv_aload_n hx hb dX3_nextFree_0 rfl (lv_at hl 0 rfl) ?_
  refine lv_aload_n hx hb dX3_nextFree_1 rfl (lv_at hl 0 rfl) ?_
  refine lv_iload_n hx hb dX3_nextFree_2 rfl (lv_at hl 1 rfl) ?_
  refine kz_backM (va_runV (As := [.int (zI (river))]) (rest := [.ref (Ad 0)]) ⟨hx, hb, hml, hown, hts⟩ (mX3_isRiver l E H.size Ad S hM river (by omega) (show 0 ≤ (S 0 1) ∧ (S 0 1) ≤ 4 by first | omega | exact hI.st _ (by omega) (by omega) | exact hI.rv _ (by omega) (by omega) | exact hI)) (cwV 1 hts (lw_V q2421 q2423 qs40 q83 q2424) rfl rfl rfl (by decide +kernel) ⟨(Nat.le_of_ble_eq_true rfl), (Nat.le_of_ble_eq_true rfl)⟩) (kz_preVM (wc := mW E Ad S) (va_recv hK hP (ci := 2) (q0 := 0) rfl rfl) hG hS hAN hP hD kz_nilP kz_nilA) rfl rfl hl.1 rfl (lv_room (Nat.le_of_ble_eq_true rfl)) dX3_nextFree_3 ⟨(Nat.le_of_ble_eq_true rfl), (Nat.le_of_ble_eq_true rfl)⟩) hP hD hS hA (fun u H9 locs9 hu hP9 hD9 hS9 hzz hkk => ?_)
  clear hzz hkk hP hD hS H locs u
  revert hS9 hD9 hP9 locs9 H9
  intro H locs hP hD hS
  clear hu
  replace hP : va_P (kD E) kcl (mW E Ad (S)) H := hP
  replace hD : va_D A (mW E Ad (S)) := hD
  show W p l e _ s m args below meth c H locs _ _ Q (F0 m 6 ls [.int (zI (b2 (0 ≤ river ∧ river ≤ (S 0 1) - 1))), .ref (Ad 0)])
  have J1 : ∀ (v2 : Int) (H : Heap) (locs : List Loc) (ls : Array Slot), v2 = (if 0 ≤ river ∧ river ≤ (S 0 1) - 1 then (if 1 ≤ dn ∧ dn ≤ 30 then 0 else 2) else 1) → rI v2 → va_P (kD E) kcl (mW E Ad (S)) H → va_D A (mW E Ad (S)) → va_S A s.heap H locs → lv_has ls 5 [(0, .ref (Ad 0)), (1, .int (zI (river))), (2, .int (zI (dn)))] → W p l e (rmk 2 0 0 43) s m args below meth c H locs 0 0 Q (F0 m 28 ls [.int (zI (v2)), .ref (Ad 0)]) := by
    clear hl hS hD hP ls locs H
    intro v2 H locs ls hv2 rv2 hP hD hS hl
    have dv2 : (0 ≤ river ∧ river ≤ (S 0 1) - 1 ∧ ¬ (1 ≤ dn ∧ dn ≤ 30) ∧ v2 = 2) ∨ (0 ≤ river ∧ river ≤ (S 0 1) - 1 ∧ 1 ≤ dn ∧ dn ≤ 30 ∧ v2 = 0) ∨ (¬ (0 ≤ river ∧ river ≤ (S 0 1) - 1) ∧ v2 = 1) := by rw [hv2]; (repeat' split) <;> first | omega | simp_all
    refine kz_backM (va_runV (As := [.int (zI (v2))]) (rest := []) ⟨hx, hb, hml, hown, hts⟩ (mX3_fails l E H.size Ad S hM v2 (by omega)) (cwV 1 hts (lw_V q2394 q2396 qs36 q83 q2397) rfl rfl rfl (by decide +kernel) ⟨(Nat.le_of_ble_eq_true rfl), (Nat.le_of_ble_eq_true rfl)⟩) (kz_preVM (wc := mW E Ad S) (va_recv hK hP (ci := 2) (q0 := 0) rfl rfl) hG hS hAN hP hD kz_nilP kz_nilA) rfl rfl hl.1 rfl (lv_room (Nat.le_of_ble_eq_true rfl)) dX3_nextFree_28 ⟨(Nat.le_of_ble_eq_true rfl), (Nat.le_of_ble_eq_true rfl)⟩) hP hD hS hA (fun u H9 locs9 hu hP9 hD9 hS9 hzz hkk => ?_)
    clear hzz hkk hP hD hS H locs u
    revert hS9 hD9 hP9 locs9 H9
    intro H locs hP hD hS
    replace hM : MOk (put S 7 7 v2) := hu
    clear hu
    replace hP : va_P (kD E) kcl (mW E Ad (put S 7 7 v2)) H := hP
    replace hD : va_D A (mW E Ad (put S 7 7 v2)) := hD
    show W p l e _ s m args below meth c H locs _ _ Q (F0 m 31 ls [.int (zI (b2 (0 < v2)))])
    refine kz_if0B (tgt := 36) hx hb dX3_nextFree_31 (by decide) (fun c31 => ?_) (fun c31 => ?_)
    · skip
      obtain rfl : v2 = 0 := by omega
      refine kz_iconst hx hb dX3_nextFree_36 ?_
      refine lv_istore_n (lv' := [(3, .int (zI (0))), (0, .ref (Ad 0)), (1, .int (zI (river))), (2, .int (zI (dn)))]) hx hb dX3_nextFree_37 rfl hl (by decide) rfl (fun ls hl => ?_)
      refine kz_iconst hx hb dX3_nextFree_38 ?_
      refine lv_istore (lv' := [(4, .int (zI (0))), (3, .int (zI (0))), (0, .ref (Ad 0)), (1, .int (zI (river))), (2, .int (zI (dn)))]) hx hb dX3_nextFree_39 hl (by decide) rfl (fun ls hl => ?_)
      have L41_3 : ∀ (fu : Nat) (row k : Int) (H : Heap) (locs : List Loc) (ls : Array Slot), (0 ≤ k ∧ k ≤ 30 ∧ 0 ≤ row ∧ row ≤ k) → (row = runF (S 0) river k.toNat) → (nextG (S 0) river dn = firstF (fun k => runF (S 0) river (k + 1).toNat = dn) (30 - k).toNat k) → rI row → rI k → (30 - k : Int).toNat < fu → va_P (kD E) kcl (mW E Ad (put S 7 7 0)) H → va_D A (mW E Ad (put S 7 7 0)) → va_S A s.heap H locs → lv_has ls 5 [(0, .ref (Ad 0)), (1, .int (zI (river))), (2, .int (zI (dn))), (3, .int (zI (row))), (4, .int (zI (k)))] → W p l e (rmk 2 0 0 43) s m args below meth c H locs 0 0 Q (F0 m 41 ls []) := by
        clear hl hS hD hP ls locs H
        intro fu
        induction fu with
        | zero => intro row k H locs ls hk hrow hn rrow rk hf; exact absurd hf (Nat.not_lt_zero _)
        | succ fu ih41 =>
          intro row k H locs ls hk hrow hn rrow rk hf hP hD hS hl
          refine lv_iload hx hb dX3_nextFree_41 (lv_at hl 4 rfl) ?_
          refine kz_bipush hx hb dX3_nextFree_43 (by decide) ?_
          refine kz_icmp_ge (tgt := 84) hx hb dX3_nextFree_45 (by decide) (by omega) (by omega) (fun c45 => ?_) (fun c45 => ?_)
          · skip
            rw [firstF_0 _ (by omega)] at hn
            refine lv_aload_n hx hb dX3_nextFree_84 rfl (lv_at hl 0 rfl) ?_
            refine kz_iconst hx hb dX3_nextFree_85 ?_
            refine va_put (D := kD E) (ci := 2) (fs := mO Ad (put S 7 7 0)) (v := .int (zI (3))) (ty := .int) (C := RX3) (T := TX3) (N := 19) hx hb hts in_X3 tyX3 tyX3_ok nmX3 hown hK hP hD hS 0 rfl rfl 7 (by decide) (hts _ q2327) (fun _ h9 => h9) rfl (by decide +kernel) rfl rfl (Nat.le_of_ble_eq_true rfl) dX3_nextFree_86 (fun H9 locs9 hP9 hD9 hS9 => ?_)
            rw [mW_f7] at hP9 hD9
            clear hP hD hS H locs
            revert hS9 hD9 hP9 locs9 H9
            intro H locs hP hD hS
            replace hP : va_P (kD E) kcl (mW E Ad (put (put S 7 7 0) 7 7 3)) H := hP
            replace hD : va_D A (mW E Ad (put (put S 7 7 0) 7 7 3)) := hD
            replace hM : MOk (put (put S 7 7 0) 7 7 3) := hM.put 7 7 (by omega)
            refine kz_iconst hx hb dX3_nextFree_89 ?_
            have e0 : xNextFree S river dn = (put (put S 7 7 0) 7 7 3, 0) := by unfold xNextFree; (repeat (first | refine Eq.trans (if_pos (by omega)) ?_ | refine Eq.trans (if_neg (by omega)) ?_)); first | rfl | (refine Prod.ext rfl ?_; omega)
            have e1 : (xNextFree S river dn).2 = 0 := by rw [e0]
            have e3 : (xNextFree S river dn).1 = put (put S 7 7 0) 7 7 3 := by rw [e0]
            exact kz_iret () hx hb hr hlk hP hD hS dX3_nextFree_90 (congrArg (fun z : Int => some (Value.int (zI z))) e1) ⟨(kz_r e1 (by omega)), (kz_M e3 hM)⟩ (congrArg (mW E Ad) e3) hQ (Nat.le_of_ble_eq_true rfl) (Nat.le_of_ble_eq_true rfl)
          · skip
            refine lv_aload_n hx hb dX3_nextFree_48 rfl (lv_at hl 0 rfl) ?_
            refine lv_iload_n hx hb dX3_nextFree_49 rfl (lv_at hl 1 rfl) ?_
            refine lv_iload hx hb dX3_nextFree_50 (lv_at hl 4 rfl) ?_
            refine kz_backM (va_runV (As := [.int (zI (river)), .int (zI (k))]) (rest := []) ⟨hx, hb, hml, hown, hts⟩ (mX3_bookedFor l E H.size Ad (put S 7 7 0) hM river (by omega) k (by omega) (show 0 ≤ river ∧ river < 4 by first | omega | exact hI.st _ (by omega) (by omega) | exact hI.rv _ (by omega) (by omega) | exact hI) (show 0 ≤ k ∧ k < 30 by first | omega | exact hI.st _ (by omega) (by omega) | exact hI.rv _ (by omega) (by omega) | exact hI)) (cwV 2 hts (lw_V q2465 q2467 qs48 q83 q2468) rfl rfl rfl (by decide +kernel) ⟨(Nat.le_of_ble_eq_true rfl), (Nat.le_of_ble_eq_true rfl)⟩) (kz_preVM (wc := mW E Ad (put S 7 7 0)) (va_recv hK hP (ci := 2) (q0 := 0) rfl rfl) hG hS hAN hP hD kz_nilP kz_nilA) rfl rfl hl.1 rfl (lv_room (Nat.le_of_ble_eq_true rfl)) dX3_nextFree_52 ⟨(Nat.le_of_ble_eq_true rfl), (Nat.le_of_ble_eq_true rfl)⟩) hP hD hS hA (fun u H9 locs9 hu hP9 hD9 hS9 hzz hkk => ?_)
            clear hzz hkk hP hD hS H locs u
            revert hS9 hD9 hP9 locs9 H9
            intro H locs hP hD hS
            have r4 : rI ((S 0 ((174 + 30 * river + k)))) := hu
            clear hu
            replace hP : va_P (kD E) kcl (mW E Ad (put S 7 7 0)) H := hP
            replace hD : va_D A (mW E Ad (put S 7 7 0)) := hD
            show W p l e _ s m args below meth c H locs _ _ Q (F0 m 55 ls [.int (zI ((S 0 ((174 + 30 * river + k)))))])
            have J5 : ∀ (v6 : Int) (H : Heap) (locs : List Loc) (ls : Array Slot), v6 = (if ((S 0 ((174 + 30 * river + k)))) < 0 then (row + 1) else 0) → rI v6 → va_P (kD E) kcl (mW E Ad (put S 7 7 0)) H → va_D A (mW E Ad (put S 7 7 0)) → va_S A s.heap H locs → lv_has ls 5 [(0, .ref (Ad 0)), (1, .int (zI (river))), (2, .int (zI (dn))), (3, .int (zI (row))), (4, .int (zI (k)))] → W p l e (rmk 2 0 0 43) s m args below meth c H locs 0 0 Q (F0 m 65 ls [.int (zI (v6))]) := by
              clear hl hS hD hP ls locs H
              intro v6 H locs ls hv6 rv6 hP hD hS hl
              refine lv_istore_n (lv' := [(3, .int (zI (v6))), (0, .ref (Ad 0)), (1, .int (zI (river))), (2, .int (zI (dn))), (4, .int (zI (k)))]) hx hb dX3_nextFree_65 rfl hl (by decide) rfl (fun ls hl => ?_)
              refine lv_iload_n hx hb dX3_nextFree_66 rfl (lv_at hl 0 rfl) ?_
              refine lv_iload_n hx hb dX3_nextFree_67 rfl (lv_at hl 3 rfl) ?_
              refine kz_icmp_ne (tgt := 78) hx hb dX3_nextFree_68 (by decide) (by omega) (by omega) (fun c68 => ?_) (fun c68 => ?_)
              · skip
                refine kz_iinc (lv' := [(4, .int (zI (k + 1))), (3, .int (zI (v6))), (0, .ref (Ad 0)), (1, .int (zI (river))), (2, .int (zI (dn)))]) hx hb dX3_nextFree_78 hl (k := 4) rfl (by decide) rfl (fun ls hl => ?_)
                refine lv_goto (tgt := 41) hx hb dX3_nextFree_81 (by decide) ?_
                exact ih41 v6 (k + 1) _ _ _ (by omega) (by rw [runF_s _ _ (by omega), ← hrow]; (repeat' split) <;> omega) (by rw [firstF_s _ (by omega), if_neg (by rw [runF_s _ _ (by omega), ← hrow]; (repeat' split) <;> omega)] at hn; exact hn) (by omega) (by omega) (by omega) hP hD hS (lv_sub hl [2, 3, 4, 1, 0] rfl)
              · skip
                rw [firstF_s _ (by omega), if_pos (by rw [runF_s _ _ (by omega), ← hrow]; (repeat' split) <;> omega)] at hn
                refine lv_iload hx hb dX3_nextFree_71 (lv_at hl 4 rfl) ?_
                refine kz_iconst hx hb dX3_nextFree_73 ?_
                refine kz_iadd hx hb dX3_nextFree_74 ?_
                refine lv_iload_n hx hb dX3_nextFree_75 rfl (lv_at hl 3 rfl) ?_
                refine kz_isub hx hb dX3_nextFree_76 ?_
                have e0 : xNextFree S river dn = (put S 7 7 0, (k + 1) - dn) := by unfold xNextFree; (repeat (first | refine Eq.trans (if_pos (by omega)) ?_ | refine Eq.trans (if_neg (by omega)) ?_)); first | rfl | (refine Prod.ext rfl ?_; omega)
                have e1 : (xNextFree S river dn).2 = (k + 1) - dn := by rw [e0]
                have e3 : (xNextFree S river dn).1 = put S 7 7 0 := by rw [e0]
                exact kz_iret () hx hb hr hlk hP hD hS dX3_nextFree_77 (congrArg (fun z : Int => some (Value.int (zI z))) e1) ⟨(kz_r e1 (by omega)), (kz_M e3 hM)⟩ (congrArg (mW E Ad) e3) hQ (Nat.le_of_ble_eq_true rfl) (Nat.le_of_ble_eq_true rfl)
            refine kz_if_lt (tgt := 62) hx hb dX3_nextFree_55 (by decide) (by omega) (fun c55 => ?_) (fun c55 => ?_)
            · skip
              refine lv_iload_n hx hb dX3_nextFree_62 rfl (lv_at hl 3 rfl) ?_
              refine kz_iconst hx hb dX3_nextFree_63 ?_
              refine kz_iadd hx hb dX3_nextFree_64 ?_
              exact J5 ((row + 1)) _ _ _ (Eq.symm (if_pos c55)) (by omega) hP hD hS hl
            · skip
              refine kz_iconst hx hb dX3_nextFree_58 ?_
              refine lv_goto (tgt := 65) hx hb dX3_nextFree_59 (by decide) ?_
              exact J5 0 _ _ _ (Eq.symm (if_neg c55)) (by omega) hP hD hS hl
      exact L41_3 ((30 - 0 : Int).toNat + 1) 0 0 _ _ _ (by omega) (by rfl) (by rfl) (by omega) (by omega) (Nat.lt_succ_self _) hP hD hS (lv_sub hl [2, 3, 4, 1, 0] rfl)
    · skip
      rcases (show v2 = 1 ∨ v2 = 2 by omega) with rfl | rfl
      · skip
        refine kz_iconst hx hb dX3_nextFree_34 ?_
        have e0 : xNextFree S river dn = (put S 7 7 1, 0) := by unfold xNextFree; (repeat (first | refine Eq.trans (if_pos (by omega)) ?_ | refine Eq.trans (if_neg (by omega)) ?_)); first | rfl | (refine Prod.ext rfl ?_; omega)
        have e1 : (xNextFree S river dn).2 = 0 := by rw [e0]
        have e3 : (xNextFree S river dn).1 = put S 7 7 1 := by rw [e0]
        exact kz_iret () hx hb hr hlk hP hD hS dX3_nextFree_35 (congrArg (fun z : Int => some (Value.int (zI z))) e1) ⟨(kz_r e1 (by omega)), (kz_M e3 hM)⟩ (congrArg (mW E Ad) e3) hQ (Nat.le_of_ble_eq_true rfl) (Nat.le_of_ble_eq_true rfl)
      · skip
        refine kz_iconst hx hb dX3_nextFree_34 ?_
        have e0 : xNextFree S river dn = (put S 7 7 2, 0) := by unfold xNextFree; (repeat (first | refine Eq.trans (if_pos (by omega)) ?_ | refine Eq.trans (if_neg (by omega)) ?_)); first | rfl | (refine Prod.ext rfl ?_; omega)
        have e1 : (xNextFree S river dn).2 = 0 := by rw [e0]
        have e3 : (xNextFree S river dn).1 = put S 7 7 2 := by rw [e0]
        exact kz_iret () hx hb hr hlk hP hD hS dX3_nextFree_35 (congrArg (fun z : Int => some (Value.int (zI z))) e1) ⟨(kz_r e1 (by omega)), (kz_M e3 hM)⟩ (congrArg (mW E Ad) e3) hQ (Nat.le_of_ble_eq_true rfl) (Nat.le_of_ble_eq_true rfl)
  refine kz_if1B (tgt := 13) hx hb dX3_nextFree_6 (by decide) (fun c6 => ?_) (fun c6 => ?_)
  · skip
    refine lv_iload_n hx hb dX3_nextFree_13 rfl (lv_at hl 2 rfl) ?_
    refine kz_iconst hx hb dX3_nextFree_14 ?_
    refine kz_bipush hx hb dX3_nextFree_15 (by decide) ?_
    refine kz_back (wc := []) (wx := (mW E Ad (S))) (va_runS (As := [.int (zI (dn)), .int (zI (1)), .int (zI (30))]) (rest := [.ref (Ad 0)]) ⟨hx, hb, hml, hown, hts⟩ (mX3_in l E H.size dn (by omega) 1 (by omega) 30 (by omega)) (va_cwS 3 hts (lw_S q2391 q2392 q83 q2393) rfl rfl rfl (by decide +kernel) ⟨(Nat.le_of_ble_eq_true rfl), (Nat.le_of_ble_eq_true rfl)⟩) (kz_pre (wc := []) (wx := (mW E Ad (S))) hG hS hAN hP hD kz_nilP kz_nilA) rfl rfl hl.1 rfl (lv_room (Nat.le_of_ble_eq_true rfl)) dX3_nextFree_17 ⟨(Nat.le_of_ble_eq_true rfl), (Nat.le_of_ble_eq_true rfl)⟩) hP hD hS hA (fun u H9 locs9 hu hP9 hD9 hS9 hzz hkk => ?_)
    clear hzz hkk hP hD hS H locs u
    revert hS9 hD9 hP9 locs9 H9
    intro H locs hP hD hS
    clear hu
    replace hP : va_P (kD E) kcl (mW E Ad (S)) H := hP
    replace hD : va_D A (mW E Ad (S)) := hD
    show W p l e _ s m args below meth c H locs _ _ Q (F0 m 20 ls [.int (zI (b2 (1 ≤ dn ∧ dn ≤ 30))), .ref (Ad 0)])
    refine kz_if0B (tgt := 27) hx hb dX3_nextFree_20 (by decide) (fun c20 => ?_) (fun c20 => ?_)
    · skip
      refine kz_iconst hx hb dX3_nextFree_27 ?_
      exact J1 2 _ _ _ (Eq.symm (Eq.trans (if_pos c6) (if_neg c20))) (by omega) hP hD hS hl
    · skip
      refine kz_iconst hx hb dX3_nextFree_23 ?_
      refine lv_goto (tgt := 28) hx hb dX3_nextFree_24 (by decide) ?_
      exact J1 0 _ _ _ (Eq.symm (Eq.trans (if_pos c6) (if_pos c20))) (by omega) hP hD hS hl
  · skip
    refine kz_iconst hx hb dX3_nextFree_9 ?_
    refine lv_goto (tgt := 28) hx hb dX3_nextFree_10 (by decide) ?_
    exact J1 1 _ _ _ (Eq.symm (if_neg c6)) (by omega) hP hD hS hl

