/-! THE MODEL, on -/
set_option maxHeartbeats 4000000 in
set_option maxRecDepth 100000 in
theorem mX3_isWord (l : Launch) (E : KE) (sz : Nat) (Ad : Nat → Nat) (S : St) (hM : MOk S) (a v : Nat) (tl : List Int) (htl : ∀ c ∈ tl, 0 ≤ c ∧ c < 128) (hln : tl.length ≤ 100000) (hla : a < kN E) (hlv : v < kN E) (hat : 0 ≤ S 7 16 ∧ S 7 16 ≤ S 7 11 ∧ S 7 11 ≤ 60) : Met l yX3_isWord (ws_ yX3_isWord cX3_isWord 3 (some .boolean)) (rmk 4 0 0 85) (va_Pc [.ref (Ad 0), .ref a] (kPx l E sz (mW E Ad S) [] (fun U : State => StrR a v tl.length (txF tl) U))) (kQ E (fun _ : Unit => rI ((pWord tl S).2) ∧ MOk (pC (pWord tl) S) ∧ S 7 16 ≤ (pC (pWord tl) S) 7 16 ∧ (pC (pWord tl) S) 7 16 ≤ S 7 11) (fun _ => some (.int (zI ((pWord tl S).2)))) (fun _ => (mW E Ad (pC (pWord tl) S))) (va_A (mW E Ad S) sz)) 0 0 (va_A (mW E Ad S) sz) := by
  refine kz_startX (Qf := kQ E (fun _ : Unit => rI ((pWord tl S).2) ∧ MOk (pC (pWord tl) S) ∧ S 7 16 ≤ (pC (pWord tl) S) 7 16 ∧ (pC (pWord tl) S) 7 16 ≤ S 7 11) (fun _ => some (.int (zI ((pWord tl S).2)))) (fun _ => (mW E Ad (pC (pWord tl) S)))) (by decide) (Nat.le_of_ble_eq_true rfl) ?_
  intro p e s m args below meth c A ls Q H locs hx hb hr hlk hml hts hown hname hG hK hA hAN hP hD hR hRA hS hQ hl hX hXA
  replace hX : StrR a v tl.length (txF tl) s := hX
  replace hown : s.vm.findClass RX3 = some m.cls := hown
  replace hl : lv_has ls 3 [(0, .ref (Ad 0)), (1, .ref a)] := hl
  have na : ¬ A a := fun z => absurd (hAN _ z) (Nat.not_le.mpr hla)
  have nv : ¬ A v := fun z => absurd (hAN _ z) (Nat.not_le.mpr hlv)
  have hll : tl.length ≤ 100000 := hln
  replace hP : va_P (kD E) kcl (mW E Ad (S)) H := hP
  replace hD : va_D A (mW E Ad (S)) := hD
  refine kz_iconst hx hb dX3_isWord_0 ?_
  refine lv_istore_n (lv' := [(2, .int (zI (0))), (0, .ref (Ad 0)), (1, .ref a)]) hx hb dX3_isWord_1 rfl hl (by decide) rfl (fun ls hl => ?_)
  have L2_1 : ∀ (fu : Nat) (k : Int) (S1 : St) (H : Heap) (locs : List Loc) (ls : Array Slot), (0 ≤ k ∧ k ≤ (tl.length : Int)) → (pWord tl S = pWord (tl.drop k.toNat) S1) → (0 ≤ S1 7 16 ∧ S1 7 16 ≤ S 7 11) → (S1 7 11 = S 7 11) → rI k → MOk S1 → ((tl.length : Int) - k : Int).toNat < fu → va_P (kD E) kcl (mW E Ad (S1)) H → va_D A (mW E Ad (S1)) → va_S A s.heap H locs → lv_has ls 3 [(0, .ref (Ad 0)), (1, .ref a), (2, .int (zI (k)))] → W p l e (rmk 4 0 0 85) s m args below meth c H locs 0 0 Q (F0 m 2 ls []) := by
    clear hl hS hD hP ls locs H hM
    intro fu
    induction fu with
    | zero => intro k S1 H locs ls hk hT hb1 h11 rk hM hf; exact absurd hf (Nat.not_lt_zero _)
    | succ fu ih2 =>
      intro k S1 H locs ls hk hT hb1 h11 rk hM hf hP hD hS hl
      refine lv_iload_n hx hb dX3_isWord_2 rfl (lv_at hl 2 rfl) ?_
      refine lv_aload_n hx hb dX3_isWord_3 rfl (lv_at hl 1 rfl) ?_
      refine kz_back (wc := []) (wx := (mW E Ad (S1))) (va_runV (As := []) (rest := [.int (zI (k))]) ⟨hx, hb, hml, hown, hts⟩ (mJ8_length l E H.size a v tl.length (txF tl) (by have := hll; omega)) (cwV 0 hts (lw_V q2654 q562 q563 q81 q564) rfl rfl rfl (by decide +kernel) ⟨(Nat.le_of_ble_eq_true rfl), (Nat.le_of_ble_eq_true rfl)⟩) (kz_preXV (kz_preV (wc := []) (wx := (mW E Ad (S1))) (hX.re na hS) hG hS hAN hP hD kz_nilP kz_nilA) (fun _ _ _ _ h => h) (fun U hU hW => hX.on hS na nv hU hW)) rfl rfl hl.1 rfl (lv_room (Nat.le_of_ble_eq_true rfl)) dX3_isWord_4 ⟨(Nat.le_of_ble_eq_true rfl), (Nat.le_of_ble_eq_true rfl)⟩) hP hD hS hA (fun u H9 locs9 hu hP9 hD9 hS9 hzz hkk => ?_)
      clear hzz hkk hP hD hS H locs u
      revert hS9 hD9 hP9 locs9 H9
      intro H locs hP hD hS
      have r2 : rI ((tl.length : Int)) := hu
      clear hu
      replace hP : va_P (kD E) kcl (mW E Ad (S1)) H := hP
      replace hD : va_D A (mW E Ad (S1)) := hD
      show W p l e _ s m args below meth c H locs _ _ Q (F0 m 7 ls [.int (zI ((tl.length : Int))), .int (zI (k))])
      refine kz_icmp_ge (tgt := 30) hx hb dX3_isWord_7 (by decide) (by omega) (by omega) (fun c7 => ?_) (fun c7 => ?_)
      · skip
        rw [pWord_e (by omega)] at hT
        refine kz_iconst hx hb dX3_isWord_30 ?_
        have e0 : (pWord tl) S = (S1, 1) := by first | (rw [hT]; done) | (rw [hT]; rfl)
        have e1 : ((pWord tl) S).2 = 1 := by rw [e0]
        have e3 : pC (pWord tl) S = S1 := by rw [← (PG.word tl (fun c h => (htl c h).1)).c S, e0]
        exact kz_zNret () hx hb hr hlk hP hD hS dX3_isWord_31 (by decide) (congrArg (fun z : Int => some (Value.int (zI z))) e1) ⟨(kz_r e1 (by omega)), (kz_M e3 hM), (by have z := (PG.word tl (fun c h => (htl c h).1)).m S (by omega) (by omega); rw [(PG.word tl (fun c h => (htl c h).1)).c S] at z; exact z)⟩ (congrArg (mW E Ad) e3) hQ (Nat.le_of_ble_eq_true rfl) (Nat.le_of_ble_eq_true rfl)
      · skip
        refine lv_aload_n hx hb dX3_isWord_10 rfl (lv_at hl 0 rfl) ?_
        refine lv_aload_n hx hb dX3_isWord_11 rfl (lv_at hl 1 rfl) ?_
        refine lv_iload_n hx hb dX3_isWord_12 rfl (lv_at hl 2 rfl) ?_
        refine kz_back (wc := []) (wx := (mW E Ad (S1))) (va_runV (As := [.int (zI (k))]) (rest := [.ref (Ad 0)]) ⟨hx, hb, hml, hown, hts⟩ (mJ8_charAt l E H.size a v tl.length (txF tl) (by have := hll; omega) k (by omega) (show ∀ j, 0 ≤ (txF tl) j ∧ (txF tl) j < 128 by exact txF_r htl) (show 0 ≤ k ∧ k < tl.length by omega)) (cwV 1 hts (lw_V q2655 q2032 q2033 q81 q2034) rfl rfl rfl (by decide +kernel) ⟨(Nat.le_of_ble_eq_true rfl), (Nat.le_of_ble_eq_true rfl)⟩) (kz_preXV (kz_preV (wc := []) (wx := (mW E Ad (S1))) (hX.re na hS) hG hS hAN hP hD kz_nilP kz_nilA) (fun _ _ _ _ h => h) (fun U hU hW => hX.on hS na nv hU hW)) rfl rfl hl.1 rfl (lv_room (Nat.le_of_ble_eq_true rfl)) dX3_isWord_13 ⟨(Nat.le_of_ble_eq_true rfl), (Nat.le_of_ble_eq_true rfl)⟩) hP hD hS hA (fun u H9 locs9 hu hP9 hD9 hS9 hzz hkk => ?_)
        clear hzz hkk hP hD hS H locs u
        revert hS9 hD9 hP9 locs9 H9
        intro H locs hP hD hS
        have r3 : rI ((txF tl) k) := hu
        clear hu
        replace hP : va_P (kD E) kcl (mW E Ad (S1)) H := hP
        replace hD : va_D A (mW E Ad (S1)) := hD
        show W p l e _ s m args below meth c H locs _ _ Q (F0 m 16 ls [.int (zI ((txF tl) k)), .ref (Ad 0)])
        have hx9 := txF_r htl k
        refine kz_backM (va_runV (As := [.int (zI ((txF tl) k))]) (rest := []) ⟨hx, hb, hml, hown, hts⟩ (mX3_skipsOver l E H.size Ad S1 hM ((txF tl) k) (by omega) (show 0 ≤ (S1 7 16) ∧ (S1 7 16) ≤ (S1 7 11) ∧ (S1 7 11) ≤ 60 by first | omega | exact hI.st _ (by omega) (by omega) | exact hI.rv _ (by omega) (by omega) | exact hI) (show 0 ≤ ((txF tl) k) by first | omega | exact hI.st _ (by omega) (by omega) | exact hI.rv _ (by omega) (by omega) | exact hI)) (cwV 1 hts (lw_V q2637 q2639 qs61 q83 q2640) rfl rfl rfl (by decide +kernel) ⟨(Nat.le_of_ble_eq_true rfl), (Nat.le_of_ble_eq_true rfl)⟩) (kz_preVM (wc := mW E Ad S1) (va_recv hK hP (ci := 2) (q0 := 0) rfl rfl) hG hS hAN hP hD kz_nilP kz_nilA) rfl rfl hl.1 rfl (lv_room (Nat.le_of_ble_eq_true rfl)) dX3_isWord_16 ⟨(Nat.le_of_ble_eq_true rfl), (Nat.le_of_ble_eq_true rfl)⟩) hP hD hS hA (fun u H9 locs9 hu hP9 hD9 hS9 hzz hkk => ?_)
        clear hzz hkk hP hD hS H locs u
        revert hS9 hD9 hP9 locs9 H9
        intro H locs hP hD hS
        clear hM
        obtain ⟨r4, hM, p5, p6⟩ := hu
        replace r4 : rI ((pSk ((txF tl) k) S1).2) := r4
        replace hM : MOk ((pSk ((txF tl) k) S1).1) := hM
        replace p5 : (S1 7 16) ≤ (pSk ((txF tl) k) S1).1 7 16 ∧ (pSk ((txF tl) k) S1).1 7 16 ≤ (S1 7 11) := p5
        replace p6 : ((pSk ((txF tl) k) S1).2 = 0 ∨ (S1 7 16) + 1 ≤ (pSk ((txF tl) k) S1).1 7 16) := p6
        replace hP : va_P (kD E) kcl (mW E Ad ((pSk ((txF tl) k) S1).1)) H := hP
        replace hD : va_D A (mW E Ad ((pSk ((txF tl) k) S1).1)) := hD
        show W p l e _ s m args below meth c H locs _ _ Q (F0 m 19 ls [.int (zI ((pSk ((txF tl) k) S1).2))])
        refine kz_if_ne (tgt := 24) hx hb dX3_isWord_19 (by decide) (by omega) (fun c19 => ?_) (fun c19 => ?_)
        · skip
          rw [pWord_s hk.1 (by omega), pIf_t (by assumption)] at hT
          refine kz_iinc (lv' := [(2, .int (zI (k + 1))), (0, .ref (Ad 0)), (1, .ref a)]) hx hb dX3_isWord_24 hl (k := 2) rfl (by decide) rfl (fun ls hl => ?_)
          refine lv_goto (tgt := 2) hx hb dX3_isWord_27 (by decide) ?_
          exact ih2 (k + 1) ((pSk ((txF tl) k) S1).1) _ _ _ (by omega) (by exact hT) (by omega) (by exact h11) (by omega) hM (by omega) hP hD hS (lv_sub hl [1, 2, 0] rfl)
        · skip
          rw [pWord_s hk.1 (by omega), pIf_f (by assumption)] at hT
          refine kz_iconst hx hb dX3_isWord_22 ?_
          have e0 : (pWord tl) S = ((pSk ((txF tl) k) S1).1, 0) := by first | (rw [hT]; done) | (rw [hT]; rfl)
          have e1 : ((pWord tl) S).2 = 0 := by rw [e0]
          have e3 : pC (pWord tl) S = (pSk ((txF tl) k) S1).1 := by rw [← (PG.word tl (fun c h => (htl c h).1)).c S, e0]
          exact kz_zNret () hx hb hr hlk hP hD hS dX3_isWord_23 (by decide) (congrArg (fun z : Int => some (Value.int (zI z))) e1) ⟨(kz_r e1 (by omega)), (kz_M e3 hM), (by have z := (PG.word tl (fun c h => (htl c h).1)).m S (by omega) (by omega); rw [(PG.word tl (fun c h => (htl c h).1)).c S] at z; exact z)⟩ (congrArg (mW E Ad) e3) hQ (Nat.le_of_ble_eq_true rfl) (Nat.le_of_ble_eq_true rfl)
  exact L2_1 (((tl.length : Int) - 0 : Int).toNat + 1) 0 S _ _ _ (by omega) (by rfl) (by omega) (by rfl) (by omega) hM (Nat.lt_succ_self _) hP hD hS (lv_sub hl [1, 2, 0] rfl)

