/-! THE MODEL, on -/
set_option maxHeartbeats 4000000 in
set_option maxRecDepth 100000 in
theorem mX3_append (l : Launch) (E : KE) (sz : Nat) (Ad : Nat → Nat) (S : St) (hM : MOk S) (pk : Int) (rpk : rI pk) (hln : 0 ≤ S 7 11 ∧ S 7 11 ≤ 60) : Met l yX3_append (ws_ yX3_append cX3_append 6 (some .int)) (rmk 1 0 0 22) (va_Pc [.ref (Ad 0), .int (zI pk)] (kP l E sz (mW E Ad S) [])) (kQ E (fun _ : Unit => rI ((xAppend S pk).2) ∧ MOk ((xAppend S pk).1)) (fun _ => some (.int (zI ((xAppend S pk).2)))) (fun _ => (mW E Ad ((xAppend S pk).1))) (va_A (mW E Ad S) sz)) 0 0 (va_A (mW E Ad S) sz) := by
  refine kz_start (Qf := kQ E (fun _ : Unit => rI ((xAppend S pk).2) ∧ MOk ((xAppend S pk).1)) (fun _ => some (.int (zI ((xAppend S pk).2)))) (fun _ => (mW E Ad ((xAppend S pk).1)))) (by decide) (Nat.le_of_ble_eq_true rfl) ?_
  intro p e s m args below meth c A ls Q H locs hx hb hr hlk hml hts hown hname hG hK hA hAN hP hD hR hRA hS hQ hl
  replace hown : s.vm.findClass RX3 = some m.cls := hown
  replace hl : lv_has ls 6 [(0, .ref (Ad 0)), (1, .int (zI (pk)))] := hl
  replace hP : va_P (kD E) kcl (mW E Ad (S)) H := hP
  replace hD : va_D A (mW E Ad (S)) := hD
  refine kz_iconst hx hb dX3_append_0 ?_
  refine lv_istore_n (lv' := [(2, .int (zI (0))), (0, .ref (Ad 0)), (1, .int (zI (pk)))]) hx hb dX3_append_1 rfl hl (by decide) rfl (fun ls hl => ?_)
  refine kz_iconst hx hb dX3_append_2 ?_
  refine lv_istore_n (lv' := [(3, .int (zI (0))), (2, .int (zI (0))), (0, .ref (Ad 0)), (1, .int (zI (pk)))]) hx hb dX3_append_3 rfl hl (by decide) rfl (fun ls hl => ?_)
  refine kz_bipush hx hb dX3_append_4 (by decide) ?_
  refine lv_istore (lv' := [(4, .int (zI (24))), (3, .int (zI (0))), (2, .int (zI (0))), (0, .ref (Ad 0)), (1, .int (zI (pk)))]) hx hb dX3_append_6 hl (by decide) rfl (fun ls hl => ?_)
  have L8_1 : ∀ (fu : Nat) (n bad k : Int) (H : Heap) (locs : List Loc) (ls : Array Slot), (0 ≤ k + 8 ∧ k ≤ 24 ∧ k % 8 = 0) → (n = (codesN pk ((24 - k) / 8).toNat).length) → (bad = b2 (badB pk ((24 - k) / 8).toNat = true)) → (0 ≤ n ∧ n ≤ 4) → rI n → rI bad → rI k → (k + 8 : Int).toNat < fu → va_P (kD E) kcl (mW E Ad (S)) H → va_D A (mW E Ad (S)) → va_S A s.heap H locs → lv_has ls 6 [(0, .ref (Ad 0)), (1, .int (zI (pk))), (2, .int (zI (n))), (3, .int (zI (bad))), (4, .int (zI (k)))] → W p l e (rmk 1 0 0 22) s m args below meth c H locs 0 0 Q (F0 m 8 ls []) := by
    clear hl hS hD hP ls locs H
    intro fu
    induction fu with
    | zero => intro n bad k H locs ls hk hn hbad hnb rn rbad rk hf; exact absurd hf (Nat.not_lt_zero _)
    | succ fu ih8 =>
      intro n bad k H locs ls hk hn hbad hnb rn rbad rk hf hP hD hS hl
      subst hbad
      refine lv_iload hx hb dX3_append_8 (lv_at hl 4 rfl) ?_
      refine kz_if_lt (tgt := 67) hx hb dX3_append_10 (by decide) (by omega) (fun c10 => ?_) (fun c10 => ?_)
      · skip
        refine lv_aload_n hx hb dX3_append_67 rfl (lv_at hl 0 rfl) ?_
        refine lv_iload_n hx hb dX3_append_68 rfl (lv_at hl 3 rfl) ?_
        have J2 : ∀ (v3 : Int) (H : Heap) (locs : List Loc) (ls : Array Slot), v3 = (if badB pk ((24 - k) / 8).toNat = true then 1 else (if ((S 7 11) + n) ≤ 60 then 0 else 2)) → rI v3 → va_P (kD E) kcl (mW E Ad (S)) H → va_D A (mW E Ad (S)) → va_S A s.heap H locs → lv_has ls 6 [(0, .ref (Ad 0)), (1, .int (zI (pk))), (2, .int (zI (n))), (3, .int (zI (b2 (badB pk ((24 - k) / 8).toNat = true)))), (4, .int (zI (k)))] → W p l e (rmk 1 0 0 22) s m args below meth c H locs 0 0 Q (F0 m 92 ls [.int (zI (v3)), .ref (Ad 0)]) := by
          clear hl hS hD hP ls locs H
          intro v3 H locs ls hv3 rv3 hP hD hS hl
          have dv3 : (¬ (badB pk ((24 - k) / 8).toNat = true) ∧ ((S 7 11) + n) ≤ 60 ∧ v3 = 0) ∨ (¬ (badB pk ((24 - k) / 8).toNat = true) ∧ ¬ (((S 7 11) + n) ≤ 60) ∧ v3 = 2) ∨ (badB pk ((24 - k) / 8).toNat = true ∧ v3 = 1) := by rw [hv3]; (repeat' split) <;> first | omega | simp_all
          refine kz_backM (va_runV (As := [.int (zI (v3))]) (rest := []) ⟨hx, hb, hml, hown, hts⟩ (mX3_fails l E H.size Ad S hM v3 (by omega)) (cwV 1 hts (lw_V q2394 q2396 qs36 q83 q2397) rfl rfl rfl (by decide +kernel) ⟨(Nat.le_of_ble_eq_true rfl), (Nat.le_of_ble_eq_true rfl)⟩) (kz_preVM (wc := mW E Ad S) (va_recv hK hP (ci := 2) (q0 := 0) rfl rfl) hG hS hAN hP hD kz_nilP kz_nilA) rfl rfl hl.1 rfl (lv_room (Nat.le_of_ble_eq_true rfl)) dX3_append_92 ⟨(Nat.le_of_ble_eq_true rfl), (Nat.le_of_ble_eq_true rfl)⟩) hP hD hS hA (fun u H9 locs9 hu hP9 hD9 hS9 hzz hkk => ?_)
          clear hzz hkk hP hD hS H locs u
          revert hS9 hD9 hP9 locs9 H9
          intro H locs hP hD hS
          replace hM : MOk (put S 7 7 v3) := hu
          clear hu
          replace hP : va_P (kD E) kcl (mW E Ad (put S 7 7 v3)) H := hP
          replace hD : va_D A (mW E Ad (put S 7 7 v3)) := hD
          show W p l e _ s m args below meth c H locs _ _ Q (F0 m 95 ls [.int (zI (b2 (0 < v3)))])
          refine kz_if0B (tgt := 100) hx hb dX3_append_95 (by decide) (fun c95 => ?_) (fun c95 => ?_)
          · skip
            obtain rfl : v3 = 0 := by omega
            have e4 : ((24 - k) / 8).toNat = 4 := by omega
            rw [e4] at dv3 hn
            have hok : ¬ badB pk 4 = true ∧ S 7 11 + (codesN pk 4).length ≤ 60 := by rcases dv3 with h | h | h <;> first | exact ⟨h.1, by omega⟩ | exact absurd h.2.2 (by decide) | exact absurd h.2 (by decide)
            refine kz_bipush hx hb dX3_append_100 (by decide) ?_
            refine lv_istore (lv' := [(4, .int (zI (24))), (0, .ref (Ad 0)), (1, .int (zI (pk))), (2, .int (zI (n))), (3, .int (zI (b2 (badB pk ((24 - k) / 8).toNat = true))))]) hx hb dX3_append_102 hl (by decide) rfl (fun ls hl => ?_)
            have L104_4 : ∀ (fu : Nat) (k2 : Int) (S1 : St) (H : Heap) (locs : List Loc) (ls : Array Slot), (0 ≤ k2 + 8 ∧ k2 ≤ 24 ∧ k2 % 8 = 0) → (S1 = mIn (put S 7 7 0) (codesN pk ((24 - k2) / 8).toNat)) → (S1 7 11 = S 7 11 + (codesN pk ((24 - k2) / 8).toNat).length) → rI k2 → MOk S1 → (k2 + 8 : Int).toNat < fu → va_P (kD E) kcl (mW E Ad (S1)) H → va_D A (mW E Ad (S1)) → va_S A s.heap H locs → lv_has ls 6 [(0, .ref (Ad 0)), (1, .int (zI (pk))), (4, .int (zI (k2)))] → W p l e (rmk 1 0 0 22) s m args below meth c H locs 0 0 Q (F0 m 104 ls []) := by
              clear hl hS hD hP ls locs H hM
              intro fu
              induction fu with
              | zero => intro k2 S1 H locs ls hk2 hS1 h11 rk2 hM hf; exact absurd hf (Nat.not_lt_zero _)
              | succ fu ih104 =>
                intro k2 S1 H locs ls hk2 hS1 h11 rk2 hM hf hP hD hS hl
                refine lv_iload hx hb dX3_append_104 (lv_at hl 2 rfl) ?_
                refine kz_if_lt (tgt := 154) hx hb dX3_append_106 (by decide) (by omega) (fun c106 => ?_) (fun c106 => ?_)
                · skip
                  refine lv_aload_n hx hb dX3_append_154 rfl (lv_at hl 0 rfl) ?_
                  have r5 : rI (S1 7 11) := hM 7 11
                  refine va_get (D := kD E) (ci := 2) (fs := mO Ad (S1)) (v := .int (zI (S1 7 11))) (C := RX3) (T := TX3) (N := 19) hx hb hts in_X3 hown hK hP 0 rfl rfl 11 (by decide) (hts _ q2331) (fun _ h9 => h9) rfl dX3_append_155 ?_
                  have e0 : xAppend S pk = (S1, S1 7 11) := by unfold xAppend; rw [if_neg hok.1, if_neg (by omega), hS1, show ((24 - k2) / 8).toNat = 4 by omega]; rfl
                  have e1 : (xAppend S pk).2 = S1 7 11 := by rw [e0]
                  have e3 : (xAppend S pk).1 = S1 := by rw [e0]
                  exact kz_iret () hx hb hr hlk hP hD hS dX3_append_158 (congrArg (fun z : Int => some (Value.int (zI z))) e1) ⟨(kz_r e1 (by omega)), (kz_M e3 hM)⟩ (congrArg (mW E Ad) e3) hQ (Nat.le_of_ble_eq_true rfl) (Nat.le_of_ble_eq_true rfl)
                · skip
                  have ek : codeN pk ((24 - k2) / 8) = byt pk k2 := by unfold codeN; rw [show 24 - 8 * ((24 - k2) / 8) = k2 by omega]
                  refine lv_iload_n hx hb dX3_append_109 rfl (lv_at hl 1 rfl) ?_
                  refine lv_iload hx hb dX3_append_110 (lv_at hl 2 rfl) ?_
                  refine kz_iushr hx hb dX3_append_112 ?_
                  refine kz_sipush hx hb dX3_append_113 (by decide) ?_
                  refine kz_byt hx hb dX3_append_116 ?_
                  have y6 := byt_b pk k2
                  refine lv_istore (lv' := [(5, .int (zI (byt pk k2))), (0, .ref (Ad 0)), (1, .int (zI (pk))), (4, .int (zI (k2)))]) hx hb dX3_append_117 hl (by decide) rfl (fun ls hl => ?_)
                  refine lv_iload hx hb dX3_append_119 (lv_at hl 0 rfl) ?_
                  have J7 : ∀ (S8 : St) (H : Heap) (locs : List Loc) (ls : Array Slot), S8 = (if (byt pk k2) = 0 then S1 else put (put S1 4 (S1 7 11) (byt pk k2)) 7 11 ((S1 7 11) + 1)) → MOk S8 → va_P (kD E) kcl (mW E Ad (S8)) H → va_D A (mW E Ad (S8)) → va_S A s.heap H locs → lv_has ls 6 [(0, .ref (Ad 0)), (1, .int (zI (pk))), (4, .int (zI (k2))), (5, .int (zI (byt pk k2)))] → W p l e (rmk 1 0 0 22) s m args below meth c H locs 0 0 Q (F0 m 148 ls []) := by
                    clear hl hS hD hP ls locs H hM
                    intro S8 H locs ls hS8 hM hP hD hS hl
                    refine kz_iinc (lv' := [(4, .int (zI (k2 + (-8)))), (0, .ref (Ad 0)), (1, .int (zI (pk))), (5, .int (zI (byt pk k2)))]) hx hb dX3_append_148 hl (k := 2) rfl (by decide) rfl (fun ls hl => ?_)
                    refine lv_goto (tgt := 104) hx hb dX3_append_151 (by decide) ?_
                    exact ih104 (k2 + (-8)) S8 _ _ _ (by omega) (by rw [hS8, show (24 - (k2 + -8)) / 8 = (24 - k2) / 8 + 1 by omega, codesN_s _ (by omega), ek, ← mIn_app, ← hS1]; by_cases e9 : byt pk k2 = 0; (rw [if_pos e9, if_pos e9]; exact (mIn_nil _).symm); (rw [if_neg e9, if_neg e9]; exact mIn_1 S1 _)) (by rw [hS8, show (24 - (k2 + -8)) / 8 = (24 - k2) / 8 + 1 by omega, codesN_l _ (by omega), ek]; by_cases e9 : byt pk k2 = 0; (rw [if_pos e9, b2_f (fun z => z e9)]; omega); (rw [if_neg e9, b2_t e9]; show S1 7 11 + 1 = _; omega)) (by omega) hM (by omega) hP hD hS (lv_sub hl [1, 2, 0] rfl)
                  refine kz_if_ne (tgt := 127) hx hb dX3_append_121 (by decide) (by omega) (fun c121 => ?_) (fun c121 => ?_)
                  · skip
                    have hm := codesN_m pk (show ((24 - k2) / 8 + 1).toNat ≤ 4 by omega)
                    rw [codesN_l _ (by omega), ek, b2_t c121] at hm
                    refine lv_aload_n hx hb dX3_append_127 rfl (lv_at hl 1 rfl) ?_
                    refine va_get (D := kD E) (ci := 2) (fs := mO Ad (S1)) (v := .ref (Ad 5)) (C := RX3) (T := TX3) (N := 19) hx hb hts in_X3 hown hK hP 0 rfl rfl 10 (by decide) (hts _ q2330) (fun _ h9 => h9) rfl dX3_append_128 ?_
                    refine lv_aload_n hx hb dX3_append_131 rfl (lv_at hl 1 rfl) ?_
                    have r9 : rI (S1 7 11) := hM 7 11
                    refine va_get (D := kD E) (ci := 2) (fs := mO Ad (S1)) (v := .int (zI (S1 7 11))) (C := RX3) (T := TX3) (N := 19) hx hb hts in_X3 hown hK hP 0 rfl rfl 11 (by decide) (hts _ q2331) (fun _ h9 => h9) rfl dX3_append_132 ?_
                    refine lv_iload hx hb dX3_append_135 (lv_at hl 0 rfl) ?_
                    refine kz_iast (cA := kA E 0) (n := 60) (g := S1 4) hx hb hK hP hD hS 5 0 rfl rfl (by omega) dX3_append_137 (fun H9 locs9 hP9 hD9 hS9 => ?_)
                    rw [mW_a4] at hP9 hD9
                    clear hP hD hS H locs
                    revert hS9 hD9 hP9 locs9 H9
                    intro H locs hP hD hS
                    replace hP : va_P (kD E) kcl (mW E Ad (put S1 4 (S1 7 11) (byt pk k2))) H := hP
                    replace hD : va_D A (mW E Ad (put S1 4 (S1 7 11) (byt pk k2))) := hD
                    replace hM : MOk (put S1 4 (S1 7 11) (byt pk k2)) := hM.put 4 _ (by omega)
                    refine lv_aload_n hx hb dX3_append_138 rfl (lv_at hl 1 rfl) ?_
                    refine lv_dup hx hb dX3_append_139 rfl ?_
                    have r10 : rI (S1 7 11) := hM 7 11
                    refine va_get (D := kD E) (ci := 2) (fs := mO Ad (put S1 4 (S1 7 11) (byt pk k2))) (v := .int (zI (S1 7 11))) (C := RX3) (T := TX3) (N := 19) hx hb hts in_X3 hown hK hP 0 rfl rfl 11 (by decide) (hts _ q2331) (fun _ h9 => h9) rfl dX3_append_140 ?_
                    refine kz_iconst hx hb dX3_append_143 ?_
                    refine kz_iadd hx hb dX3_append_144 ?_
                    refine va_put (D := kD E) (ci := 2) (fs := mO Ad (put S1 4 (S1 7 11) (byt pk k2))) (v := .int (zI ((S1 7 11) + 1))) (ty := .int) (C := RX3) (T := TX3) (N := 19) hx hb hts in_X3 tyX3 tyX3_ok nmX3 hown hK hP hD hS 0 rfl rfl 11 (by decide) (hts _ q2331) (fun _ h9 => h9) rfl (by decide +kernel) rfl rfl (Nat.le_of_ble_eq_true rfl) dX3_append_145 (fun H9 locs9 hP9 hD9 hS9 => ?_)
                    rw [mW_f11] at hP9 hD9
                    clear hP hD hS H locs
                    revert hS9 hD9 hP9 locs9 H9
                    intro H locs hP hD hS
                    replace hP : va_P (kD E) kcl (mW E Ad (put (put S1 4 (S1 7 11) (byt pk k2)) 7 11 ((S1 7 11) + 1))) H := hP
                    replace hD : va_D A (mW E Ad (put (put S1 4 (S1 7 11) (byt pk k2)) 7 11 ((S1 7 11) + 1))) := hD
                    replace hM : MOk (put (put S1 4 (S1 7 11) (byt pk k2)) 7 11 ((S1 7 11) + 1)) := hM.put 7 11 (by omega)
                    exact J7 (put (put S1 4 (S1 7 11) (byt pk k2)) 7 11 ((S1 7 11) + 1)) _ _ _ (Eq.symm (if_neg c121)) hM hP hD hS (lv_sub hl [1, 2, 3, 0] rfl)
                  · skip
                    refine lv_goto (tgt := 148) hx hb dX3_append_124 (by decide) ?_
                    exact J7 S1 _ _ _ (Eq.symm (if_pos c121)) hM hP hD hS (lv_sub hl [1, 2, 3, 0] rfl)
            exact L104_4 ((24 + 8 : Int).toNat + 1) 24 (put S 7 7 0) _ _ _ (by omega) (by exact (mIn_nil _).symm) (by show S 7 11 = S 7 11 + 0; omega) (by omega) hM (Nat.lt_succ_self _) hP hD hS (lv_sub hl [1, 2, 0] rfl)
          · skip
            rcases (show v3 = 1 ∨ v3 = 2 by omega) with rfl | rfl
            · skip
              refine kz_iconst hx hb dX3_append_98 ?_
              have e0 : xAppend S pk = (put S 7 7 1, 0) := by unfold xAppend; have e4 : ((24 - k) / 8).toNat = 4 := (by omega); rw [e4] at dv3 hn; rcases dv3 with h | h | h <;> first | (exact absurd h.2.2 (by decide)) | (exact absurd h.2 (by decide)) | (rw [if_pos h.1]; done) | (rw [if_neg h.1, if_pos (by omega)]; done)
              have e1 : (xAppend S pk).2 = 0 := by rw [e0]
              have e3 : (xAppend S pk).1 = put S 7 7 1 := by rw [e0]
              exact kz_iret () hx hb hr hlk hP hD hS dX3_append_99 (congrArg (fun z : Int => some (Value.int (zI z))) e1) ⟨(kz_r e1 (by omega)), (kz_M e3 hM)⟩ (congrArg (mW E Ad) e3) hQ (Nat.le_of_ble_eq_true rfl) (Nat.le_of_ble_eq_true rfl)
            · skip
              refine kz_iconst hx hb dX3_append_98 ?_
              have e0 : xAppend S pk = (put S 7 7 2, 0) := by unfold xAppend; have e4 : ((24 - k) / 8).toNat = 4 := (by omega); rw [e4] at dv3 hn; rcases dv3 with h | h | h <;> first | (exact absurd h.2.2 (by decide)) | (exact absurd h.2 (by decide)) | (rw [if_pos h.1]; done) | (rw [if_neg h.1, if_pos (by omega)]; done)
              have e1 : (xAppend S pk).2 = 0 := by rw [e0]
              have e3 : (xAppend S pk).1 = put S 7 7 2 := by rw [e0]
              exact kz_iret () hx hb hr hlk hP hD hS dX3_append_99 (congrArg (fun z : Int => some (Value.int (zI z))) e1) ⟨(kz_r e1 (by omega)), (kz_M e3 hM)⟩ (congrArg (mW E Ad) e3) hQ (Nat.le_of_ble_eq_true rfl) (Nat.le_of_ble_eq_true rfl)
        refine kz_if0B (tgt := 76) hx hb dX3_append_69 (by decide) (fun c69 => ?_) (fun c69 => ?_)
        · skip
          refine lv_aload_n hx hb dX3_append_76 rfl (lv_at hl 0 rfl) ?_
          have r11 : rI (S 7 11) := hM 7 11
          refine va_get (D := kD E) (ci := 2) (fs := mO Ad (S)) (v := .int (zI (S 7 11))) (C := RX3) (T := TX3) (N := 19) hx hb hts in_X3 hown hK hP 0 rfl rfl 11 (by decide) (hts _ q2331) (fun _ h9 => h9) rfl dX3_append_77 ?_
          refine lv_iload_n hx hb dX3_append_80 rfl (lv_at hl 2 rfl) ?_
          refine kz_iadd hx hb dX3_append_81 ?_
          refine kz_bipush hx hb dX3_append_82 (by decide) ?_
          refine kz_icmp_le (tgt := 91) hx hb dX3_append_84 (by decide) (by omega) (by omega) (fun c84 => ?_) (fun c84 => ?_)
          · skip
            refine kz_iconst hx hb dX3_append_91 ?_
            exact J2 0 _ _ _ (Eq.symm (Eq.trans (if_neg c69) (if_pos c84))) (by omega) hP hD hS hl
          · skip
            refine kz_iconst hx hb dX3_append_87 ?_
            refine lv_goto (tgt := 92) hx hb dX3_append_88 (by decide) ?_
            exact J2 2 _ _ _ (Eq.symm (Eq.trans (if_neg c69) (if_neg c84))) (by omega) hP hD hS hl
        · skip
          refine kz_iconst hx hb dX3_append_72 ?_
          refine lv_goto (tgt := 92) hx hb dX3_append_73 (by decide) ?_
          exact J2 1 _ _ _ (Eq.symm (if_pos c69)) (by omega) hP hD hS hl
      · skip
        have ek : codeN pk ((24 - k) / 8) = byt pk k := by unfold codeN; rw [show 24 - 8 * ((24 - k) / 8) = k by omega]
        refine lv_iload_n hx hb dX3_append_13 rfl (lv_at hl 1 rfl) ?_
        refine lv_iload hx hb dX3_append_14 (lv_at hl 4 rfl) ?_
        refine kz_iushr hx hb dX3_append_16 ?_
        refine kz_sipush hx hb dX3_append_17 (by decide) ?_
        refine kz_byt hx hb dX3_append_20 ?_
        have y12 := byt_b pk k
        refine lv_istore (lv' := [(5, .int (zI (byt pk k))), (0, .ref (Ad 0)), (1, .int (zI (pk))), (2, .int (zI (n))), (3, .int (zI (b2 (badB pk ((24 - k) / 8).toNat = true)))), (4, .int (zI (k)))]) hx hb dX3_append_21 hl (by decide) rfl (fun ls hl => ?_)
        refine lv_iload_n hx hb dX3_append_23 rfl (lv_at hl 4 rfl) ?_
        refine lv_iload hx hb dX3_append_24 (lv_at hl 0 rfl) ?_
        have J13 : ∀ (v14 : Int) (H : Heap) (locs : List Loc) (ls : Array Slot), v14 = b2 (¬ ((byt pk k) = 0) ∧ (¬ (32 ≤ (byt pk k) ∧ (byt pk k) ≤ 126))) → va_P (kD E) kcl (mW E Ad (S)) H → va_D A (mW E Ad (S)) → va_S A s.heap H locs → lv_has ls 6 [(0, .ref (Ad 0)), (1, .int (zI (pk))), (2, .int (zI (n))), (3, .int (zI (b2 (badB pk ((24 - k) / 8).toNat = true)))), (4, .int (zI (k))), (5, .int (zI (byt pk k)))] → W p l e (rmk 1 0 0 22) s m args below meth c H locs 0 0 Q (F0 m 46 ls [.int (zI (v14)), .int (zI (b2 (badB pk ((24 - k) / 8).toNat = true)))]) := by
          clear hl hS hD hP ls locs H
          intro v14 H locs ls hv14 hP hD hS hl
          subst hv14
          refine kz_ior hx hb dX3_append_46 ?_
          have z15 := b2_01 ((badB pk ((24 - k) / 8).toNat = true) ∨ (¬ ((byt pk k) = 0) ∧ (¬ (32 ≤ (byt pk k) ∧ (byt pk k) ≤ 126))))
          refine lv_istore_n (lv' := [(3, .int (zI (b2 ((badB pk ((24 - k) / 8).toNat = true) ∨ (¬ ((byt pk k) = 0) ∧ (¬ (32 ≤ (byt pk k) ∧ (byt pk k) ≤ 126))))))), (0, .ref (Ad 0)), (1, .int (zI (pk))), (2, .int (zI (n))), (4, .int (zI (k))), (5, .int (zI (byt pk k)))]) hx hb dX3_append_47 rfl hl (by decide) rfl (fun ls hl => ?_)
          refine lv_iload_n hx hb dX3_append_48 rfl (lv_at hl 3 rfl) ?_
          refine lv_iload hx hb dX3_append_49 (lv_at hl 5 rfl) ?_
          have J16 : ∀ (v17 : Int) (H : Heap) (locs : List Loc) (ls : Array Slot), v17 = b2 (¬ ((byt pk k) = 0)) → va_P (kD E) kcl (mW E Ad (S)) H → va_D A (mW E Ad (S)) → va_S A s.heap H locs → lv_has ls 6 [(0, .ref (Ad 0)), (1, .int (zI (pk))), (2, .int (zI (n))), (3, .int (zI (b2 ((badB pk ((24 - k) / 8).toNat = true) ∨ (¬ ((byt pk k) = 0) ∧ (¬ (32 ≤ (byt pk k) ∧ (byt pk k) ≤ 126))))))), (4, .int (zI (k))), (5, .int (zI (byt pk k)))] → W p l e (rmk 1 0 0 22) s m args below meth c H locs 0 0 Q (F0 m 59 ls [.int (zI (v17)), .int (zI (n))]) := by
            clear hl hS hD hP ls locs H
            intro v17 H locs ls hv17 hP hD hS hl
            subst hv17
            have z18 := b2_01 (¬ ((byt pk k) = 0))
            refine kz_iadd hx hb dX3_append_59 ?_
            refine lv_istore_n (lv' := [(2, .int (zI (n + (b2 (¬ ((byt pk k) = 0)))))), (0, .ref (Ad 0)), (1, .int (zI (pk))), (3, .int (zI (b2 ((badB pk ((24 - k) / 8).toNat = true) ∨ (¬ ((byt pk k) = 0) ∧ (¬ (32 ≤ (byt pk k) ∧ (byt pk k) ≤ 126))))))), (4, .int (zI (k))), (5, .int (zI (byt pk k)))]) hx hb dX3_append_60 rfl hl (by decide) rfl (fun ls hl => ?_)
            refine kz_iinc (lv' := [(4, .int (zI (k + (-8)))), (2, .int (zI (n + (b2 (¬ ((byt pk k) = 0)))))), (0, .ref (Ad 0)), (1, .int (zI (pk))), (3, .int (zI (b2 ((badB pk ((24 - k) / 8).toNat = true) ∨ (¬ ((byt pk k) = 0) ∧ (¬ (32 ≤ (byt pk k) ∧ (byt pk k) ≤ 126))))))), (5, .int (zI (byt pk k)))]) hx hb dX3_append_61 hl (k := 4) rfl (by decide) rfl (fun ls hl => ?_)
            refine lv_goto (tgt := 8) hx hb dX3_append_64 (by decide) ?_
            exact ih8 (n + (b2 (¬ ((byt pk k) = 0)))) (b2 ((badB pk ((24 - k) / 8).toNat = true) ∨ (¬ ((byt pk k) = 0) ∧ (¬ (32 ≤ (byt pk k) ∧ (byt pk k) ≤ 126))))) (k + (-8)) _ _ _ (by omega) (by rw [show (24 - (k + -8)) / 8 = (24 - k) / 8 + 1 by omega, codesN_l _ (by omega), hn, ek]) (by rw [show (24 - (k + -8)) / 8 = (24 - k) / 8 + 1 by omega, badB_s _ (by omega), ek]; refine b2_c ?_; simp only [Bool.or_eq_true, decide_eq_true_eq]) (by have := codesN_b pk ((24 - k) / 8).toNat; omega) (by omega) (by omega) (by omega) (by omega) hP hD hS (lv_sub hl [2, 3, 1, 4, 0] rfl)
          refine kz_if_eq (tgt := 58) hx hb dX3_append_51 (by decide) (by omega) (fun c51 => ?_) (fun c51 => ?_)
          · skip
            refine kz_iconst hx hb dX3_append_58 ?_
            exact J16 0 _ _ _ (b2_f (by first | omega | simp only [c51, if_true, if_false, and_true, true_and, and_false, false_and, or_true, true_or, or_false, false_or, not_true_eq_false, not_false_eq_true])).symm hP hD hS (lv_sub hl [1, 2, 3, 0, 4, 5] rfl)
          · skip
            refine kz_iconst hx hb dX3_append_54 ?_
            refine lv_goto (tgt := 59) hx hb dX3_append_55 (by decide) ?_
            exact J16 1 _ _ _ (b2_t (by first | omega | simp only [c51, if_true, if_false, and_true, true_and, and_false, false_and, or_true, true_or, or_false, false_or, not_true_eq_false, not_false_eq_true])).symm hP hD hS (lv_sub hl [1, 2, 3, 0, 4, 5] rfl)
        refine kz_if_eq (tgt := 45) hx hb dX3_append_26 (by decide) (by omega) (fun c26 => ?_) (fun c26 => ?_)
        · skip
          refine kz_iconst hx hb dX3_append_45 ?_
          exact J13 0 _ _ _ (b2_f (by first | omega | simp only [c26, if_true, if_false, and_true, true_and, and_false, false_and, or_true, true_or, or_false, false_or, not_true_eq_false, not_false_eq_true])).symm hP hD hS (lv_sub hl [1, 2, 3, 4, 5, 0] rfl)
        · skip
          refine lv_iload hx hb dX3_append_29 (lv_at hl 0 rfl) ?_
          refine kz_bipush hx hb dX3_append_31 (by decide) ?_
          refine kz_bipush hx hb dX3_append_33 (by decide) ?_
          refine kz_back (wc := []) (wx := (mW E Ad (S))) (va_runS (As := [.int (zI (byt pk k)), .int (zI (32)), .int (zI (126))]) (rest := [.int (zI (b2 (badB pk ((24 - k) / 8).toNat = true)))]) ⟨hx, hb, hml, hown, hts⟩ (mX3_in l E H.size (byt pk k) (by omega) 32 (by omega) 126 (by omega)) (va_cwS 3 hts (lw_S q2391 q2392 q83 q2393) rfl rfl rfl (by decide +kernel) ⟨(Nat.le_of_ble_eq_true rfl), (Nat.le_of_ble_eq_true rfl)⟩) (kz_pre (wc := []) (wx := (mW E Ad (S))) hG hS hAN hP hD kz_nilP kz_nilA) rfl rfl hl.1 rfl (lv_room (Nat.le_of_ble_eq_true rfl)) dX3_append_35 ⟨(Nat.le_of_ble_eq_true rfl), (Nat.le_of_ble_eq_true rfl)⟩) hP hD hS hA (fun u H9 locs9 hu hP9 hD9 hS9 hzz hkk => ?_)
          clear hzz hkk hP hD hS H locs u
          revert hS9 hD9 hP9 locs9 H9
          intro H locs hP hD hS
          clear hu
          replace hP : va_P (kD E) kcl (mW E Ad (S)) H := hP
          replace hD : va_D A (mW E Ad (S)) := hD
          show W p l e _ s m args below meth c H locs _ _ Q (F0 m 38 ls [.int (zI (b2 (32 ≤ (byt pk k) ∧ (byt pk k) ≤ 126))), .int (zI (b2 (badB pk ((24 - k) / 8).toNat = true)))])
          refine kz_if1B (tgt := 45) hx hb dX3_append_38 (by decide) (fun c38 => ?_) (fun c38 => ?_)
          · skip
            refine kz_iconst hx hb dX3_append_45 ?_
            exact J13 0 _ _ _ (b2_f (by first | omega | simp only [c26, c38, if_true, if_false, and_true, true_and, and_false, false_and, or_true, true_or, or_false, false_or, not_true_eq_false, not_false_eq_true])).symm hP hD hS (lv_sub hl [1, 2, 3, 4, 5, 0] rfl)
          · skip
            refine kz_iconst hx hb dX3_append_41 ?_
            refine lv_goto (tgt := 46) hx hb dX3_append_42 (by decide) ?_
            exact J13 1 _ _ _ (b2_t (by first | omega | simp only [c26, c38, if_true, if_false, and_true, true_and, and_false, false_and, or_true, true_or, or_false, false_or, not_true_eq_false, not_false_eq_true])).symm hP hD hS (lv_sub hl [1, 2, 3, 4, 5, 0] rfl)
  exact L8_1 ((24 + 8 : Int).toNat + 1) 0 0 24 _ _ _ (by omega) (by rfl) (by rfl) (by omega) (by omega) (by omega) (by omega) (Nat.lt_succ_self _) hP hD hS (lv_sub hl [3, 4, 2, 1, 0] rfl)

