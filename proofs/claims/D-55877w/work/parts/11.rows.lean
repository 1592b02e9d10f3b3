/-! ROWS over the base: arrays of whole numbers, new cells in front, a contract's end -/
section KZR
variable {p : Program} {l : Launch} {e : Env} {R : Room} {s : State} {m : MethodId} {args : Array Value} {below : List Frame} {meth : Method} {c : Code} {H : Heap} {locs : List Loc} {cells slots : Nat} {Q : State → Prop} {cc : ByteArray} {pc : Nat} {ls : Array Slot} {rest : List Value} {D : va_G} {cl : List vw_C} {tys : List (ClassId × FieldType)} {ws : va_W} {A : Nat → Prop} {H0 : Heap} {a : Nat}
theorem kz_iald (hx : p.tables.exec = Jvm.exec) (hb : c.code = cc) (hK : va_K D cl tys s) (hP : va_P D cl ws H) (q0 t0 : Nat) {cA : ClassId} {n : Nat} {g : Int → Int} (ha : ws[q0]? = some (a, .inl (cA, n, .inl (zR g)))) (ht : tys[t0]? = some (cA, .int)) {t : Int} (hin : 0 ≤ t ∧ t < (n : Int) ∧ (n : Int) ≤ 2147483647) (d : decode cc pc = .ok (.iaload, 1))
    (k : W p l e R s m args below meth c H locs cells slots Q (F0 m (pc + 1) ls (.int (zI (g t)) :: rest))) : W p l e R s m args below meth c H locs cells slots Q (F0 m pc ls (.int (zI t) :: .ref a :: rest)) :=
  va_iald hx hb hK hP q0 t0 ha ht (zR_in ⟨hin.1, hin.2.1⟩ (by omega)) d (by rw [zR_get g hin.1 ⟨by omega, by omega⟩]; exact k)
theorem kz_bald (hx : p.tables.exec = Jvm.exec) (hb : c.code = cc) (hK : va_K D cl tys s) (hP : va_P D cl ws H) (q0 t0 : Nat) {cA : ClassId} {n : Nat} {g : Int → Int} (ha : ws[q0]? = some (a, .inl (cA, n, .inl (zR g)))) (ht : tys[t0]? = some (cA, .byte)) {t : Int} (hin : 0 ≤ t ∧ t < (n : Int) ∧ (n : Int) ≤ 2147483647) (d : decode cc pc = .ok (.baload, 1))
    (k : W p l e R s m args below meth c H locs cells slots Q (F0 m (pc + 1) ls (.int (zI (g t)) :: rest))) : W p l e R s m args below meth c H locs cells slots Q (F0 m pc ls (.int (zI t) :: .ref a :: rest)) :=
  va_bald hx hb hK hP q0 t0 ha ht (zR_in ⟨hin.1, hin.2.1⟩ (by omega)) d (by rw [zR_get g hin.1 ⟨by omega, by omega⟩]; exact k)
theorem kz_cald (hx : p.tables.exec = Jvm.exec) (hb : c.code = cc) (hK : va_K D cl tys s) (hP : va_P D cl ws H) (q0 t0 : Nat) {cA : ClassId} {n : Nat} {g : Int → Int} (ha : ws[q0]? = some (a, .inl (cA, n, .inl (zR g)))) (ht : tys[t0]? = some (cA, .char)) {t : Int} (hin : 0 ≤ t ∧ t < (n : Int) ∧ (n : Int) ≤ 2147483647) (d : decode cc pc = .ok (.caload, 1))
    (k : W p l e R s m args below meth c H locs cells slots Q (F0 m (pc + 1) ls (.int (zI (g t)) :: rest))) : W p l e R s m args below meth c H locs cells slots Q (F0 m pc ls (.int (zI t) :: .ref a :: rest)) :=
  va_cald hx hb hK hP q0 t0 ha ht (zR_in ⟨hin.1, hin.2.1⟩ (by omega)) d (by rw [zR_get g hin.1 ⟨by omega, by omega⟩]; exact k)
theorem kz_zald (hx : p.tables.exec = Jvm.exec) (hb : c.code = cc) (hK : va_K D cl tys s) (hP : va_P D cl ws H) (q0 t0 : Nat) {cA : ClassId} {n : Nat} {g : Int → Int} (ha : ws[q0]? = some (a, .inl (cA, n, .inl (zR g)))) (ht : tys[t0]? = some (cA, .boolean)) {t : Int} (hin : 0 ≤ t ∧ t < (n : Int) ∧ (n : Int) ≤ 2147483647) (d : decode cc pc = .ok (.baload, 1))
    (k : W p l e R s m args below meth c H locs cells slots Q (F0 m (pc + 1) ls (.int (zI (g t)) :: rest))) : W p l e R s m args below meth c H locs cells slots Q (F0 m pc ls (.int (zI t) :: .ref a :: rest)) :=
  va_zald hx hb hK hP q0 t0 ha ht (zR_in ⟨hin.1, hin.2.1⟩ (by omega)) d (by rw [zR_get g hin.1 ⟨by omega, by omega⟩]; exact k)
theorem kz_iast (hx : p.tables.exec = Jvm.exec) (hb : c.code = cc) (hK : va_K D cl tys s) (hP : va_P D cl ws H) (hD : va_D A ws) (hS : va_S A H0 H locs) (q0 t0 : Nat) {cA : ClassId} {n : Nat} {g : Int → Int} (ha : ws[q0]? = some (a, .inl (cA, n, .inl (zR g)))) (ht : tys[t0]? = some (cA, .int)) {t v : Int} (hin : 0 ≤ t ∧ t < (n : Int) ∧ (n : Int) ≤ 2147483647) (d : decode cc pc = .ok (.iastore, 1))
    (kk : ∀ (H1 : Heap) (locs1 : List Loc), va_P D cl (ws.set q0 (a, .inl (cA, n, .inl (zR (uz g t v))))) H1 → va_D A (ws.set q0 (a, .inl (cA, n, .inl (zR (uz g t v))))) → va_S A H0 H1 locs1 → W p l e R s m args below meth c H1 locs1 cells slots Q (F0 m (pc + 1) ls rest)) : W p l e R s m args below meth c H locs cells slots Q (F0 m pc ls (.int (zI v) :: .int (zI t) :: .ref a :: rest)) :=
  va_iast hx hb hK hP hD hS q0 t0 ha ht (zR_in ⟨hin.1, hin.2.1⟩ (by omega)) d (by rw [zR_upd g v hin.1 ⟨by omega, by omega⟩]; exact kk)
theorem zI_charV {v : Int} (h : 0 ≤ v ∧ v < 65536) : vp_nar .char (zI v) = zI v := by
  rw [vp_nar_char]
  exact zI_char h.1 h.2
theorem kz_cast (hx : p.tables.exec = Jvm.exec) (hb : c.code = cc) (hK : va_K D cl tys s) (hP : va_P D cl ws H) (hD : va_D A ws) (hS : va_S A H0 H locs) (q0 t0 : Nat) {cA : ClassId} {n : Nat} {g : Int → Int} (ha : ws[q0]? = some (a, .inl (cA, n, .inl (zR g)))) (ht : tys[t0]? = some (cA, .char)) {t v : Int} (hin : 0 ≤ t ∧ t < (n : Int) ∧ (n : Int) ≤ 2147483647) (h : 0 ≤ v ∧ v < 65536) (d : decode cc pc = .ok (.castore, 1))
    (kk : ∀ (H1 : Heap) (locs1 : List Loc), va_P D cl (ws.set q0 (a, .inl (cA, n, .inl (zR (uz g t v))))) H1 → va_D A (ws.set q0 (a, .inl (cA, n, .inl (zR (uz g t v))))) → va_S A H0 H1 locs1 → W p l e R s m args below meth c H1 locs1 cells slots Q (F0 m (pc + 1) ls rest)) : W p l e R s m args below meth c H locs cells slots Q (F0 m pc ls (.int (zI v) :: .int (zI t) :: .ref a :: rest)) :=
  va_cast hx hb hK hP hD hS q0 t0 ha ht (zR_in ⟨hin.1, hin.2.1⟩ (by omega)) d (by rw [zI_charV h, zR_upd g v hin.1 ⟨by omega, by omega⟩]; exact kk)
theorem zI_byte {v : Int} (h : -128 ≤ v ∧ v < 128) : (zI v).toInt8.toInt32 = zI v := by
  refine Int32.toInt_inj.mp ?_
  rw [Int8.toInt_toInt32, Int32.toInt_toInt8, zI_toInt ⟨by omega, by omega⟩]
  exact Int.bmod_eq_of_le (by omega) (by omega)
theorem zI_byteV {v : Int} (h : -128 ≤ v ∧ v < 128) : vp_nar .byte (zI v) = zI v := by
  rw [vp_nar_byte]
  exact zI_byte h
theorem kz_bast (hx : p.tables.exec = Jvm.exec) (hb : c.code = cc) (hK : va_K D cl tys s) (hP : va_P D cl ws H) (hD : va_D A ws) (hS : va_S A H0 H locs) (q0 t0 : Nat) {cA : ClassId} {n : Nat} {g : Int → Int} (ha : ws[q0]? = some (a, .inl (cA, n, .inl (zR g)))) (ht : tys[t0]? = some (cA, .byte)) {t v : Int} (hin : 0 ≤ t ∧ t < (n : Int) ∧ (n : Int) ≤ 2147483647) (h : -128 ≤ v ∧ v < 128) (d : decode cc pc = .ok (.bastore, 1))
    (kk : ∀ (H1 : Heap) (locs1 : List Loc), va_P D cl (ws.set q0 (a, .inl (cA, n, .inl (zR (uz g t v))))) H1 → va_D A (ws.set q0 (a, .inl (cA, n, .inl (zR (uz g t v))))) → va_S A H0 H1 locs1 → W p l e R s m args below meth c H1 locs1 cells slots Q (F0 m (pc + 1) ls rest)) : W p l e R s m args below meth c H locs cells slots Q (F0 m pc ls (.int (zI v) :: .int (zI t) :: .ref a :: rest)) :=
  va_bast hx hb hK hP hD hS q0 t0 ha ht (zR_in ⟨hin.1, hin.2.1⟩ (by omega)) d (by rw [zI_byteV h, zR_upd g v hin.1 ⟨by omega, by omega⟩]; exact kk)
theorem kz_alen (hx : p.tables.exec = Jvm.exec) (hb : c.code = cc) (hK : va_K D cl tys s) (hP : va_P D cl ws H) (q0 t0 : Nat) {cA : ClassId} {x : vp_A} (ha : ws[q0]? = some (a, .inl (cA, x))) {ty : FieldType} (ht : tys[t0]? = some (cA, ty)) (d : decode cc pc = .ok (.arraylength, 1))
    (k : W p l e R s m args below meth c H locs cells slots Q (F0 m (pc + 1) ls (.int (zI (x.1 : Int)) :: rest))) : W p l e R s m args below meth c H locs cells slots Q (F0 m pc ls (.ref a :: rest)) :=
  va_alen hx hb hK hP q0 t0 ha ht (zI_nat x.1) d k
theorem kz_tsw (hx : p.tables.exec = Jvm.exec) (hb : c.code = cc) {dflt lo hi : Int} {offs : Array Int} {len : Nat} {a : Int} (v : Int) {off : Int} {tgt : Nat} (d : decode cc pc = .ok (.tableswitch dflt lo hi offs, len)) (ha : a = v) (hv : rI v) (h : lo ≤ v ∧ v ≤ hi) (ho : offs[(v - lo).toNat]? = some off) (ht : (pc : Int) + off = (tgt : Int))
    (k : W p l e R s m args below meth c H locs cells slots Q (F0 m tgt ls rest)) : W p l e R s m args below meth c H locs cells slots Q (F0 m pc ls (.int (zI a) :: rest)) := by
  subst ha
  exact lv_tableIn hx hb d (by rw [zI_toInt hv]; omega) (by rw [zI_toInt hv]; omega) (by rw [zI_toInt hv]; exact ho) ht k
theorem kz_tswD (hx : p.tables.exec = Jvm.exec) (hb : c.code = cc) {dflt lo hi : Int} {offs : Array Int} {len : Nat} {a : Int} {tgt : Nat} (d : decode cc pc = .ok (.tableswitch dflt lo hi offs, len)) (hv : rI a) (h : a < lo ∨ hi < a) (ht : (pc : Int) + dflt = (tgt : Int))
    (k : W p l e R s m args below meth c H locs cells slots Q (F0 m tgt ls rest)) : W p l e R s m args below meth c H locs cells slots Q (F0 m pc ls (.int (zI a) :: rest)) :=
  lv_tableOut hx hb d (by rw [zI_toInt hv]; exact h) ht k
end KZR
section KZA
variable {p : Program} {l : Launch} {e : Env} {R : Room} {s : State} {m : MethodId} {args : Array Value} {below : List Frame} {meth : Method} {c : Code} {H : Heap} {locs : List Loc} {cells slots : Nat} {Q : State → Prop} {cc : ByteArray} {pc : Nat} {ls : Array Slot} {rest : List Value} {E : KE} {ws : va_W} {A : Nat → Prop} {H0 : Heap}
theorem kz_front {cl : List vw_C} {D : va_G} {q : Nat × va_E} (hP : va_P D cl (ws ++ [q]) H) (hD : va_D A (ws ++ [q])) : va_P D cl (q :: ws) H ∧ va_D A (q :: ws) := kz_mv hP hD (List.perm_append_comm (l₁ := ws) (l₂ := [q]))
theorem kz_newo (hx : p.tables.exec = Jvm.exec) (hb : c.code = cc) {own C : String} {T : u_T} {N ci index : Nat} (hts : ∀ w ∈ lw_all, w.before args s = true) (hin : ∀ w ∈ u_ws C T N, w ∈ lw_all) (ty : Nat → FieldType) (hty : ∀ k, k < N → parseFieldDescriptor (T k).2.2.1 = some (ty k)) (hown : s.vm.findClass own = some m.cls) (hcl : Cond.classLink own index C ∈ lw_all) (hinst : Cond.instantiable C N ∈ lw_all) (hini : Cond.initialized C ∈ lw_all)
    (hK : va_K (kD E) kcl (kty E) s) (hP : va_P (kD E) kcl ws H) (hD : va_D A ws) (hS : va_S A H0 H locs) (hA : ∀ q, H0.size ≤ q → A q) (hc : kcl[ci]? = some (C, T, N)) {fs : List Value} (hfs : (List.range N).map (fun j => defaultValue (ty j)) = fs) (hcells : cells + 1 ≤ R.cells) (hslots : slots + N ≤ R.slots) (d : decode cc pc = .ok (.new index, 3))
    (kk : ∀ (q : Nat) (H1 : Heap), va_P (kD E) kcl ((q, .inr (ci, fs)) :: ws) H1 → va_D A ((q, .inr (ci, fs)) :: ws) → va_S A H0 H1 locs → W p l e R s m args below meth c H1 locs (cells + 1) (slots + N) Q (F0 m (pc + 3) ls (.ref q :: rest))) : W p l e R s m args below meth c H locs cells slots Q (F0 m pc ls rest) :=
  va_new (fs := fs) hx hb hts hin ty hty hown (hts _ hcl) (hts _ hinst) (hts _ hini) hK hP hD hS hA hc (fun j hj => by rw [← hfs]; show defaultValue (ty j) = ((List.range N).map (fun j => defaultValue (ty j))).getD j .null; rw [List.getD_eq_getElem?_getD, List.getElem?_map, List.getElem?_range hj]; rfl) hcells hslots d (fun q H1 hP hD hS => by
    obtain ⟨hP, hD⟩ := kz_front hP hD
    exact kk q H1 hP hD hS)
theorem kz_arrC {tyK : FieldType} {cA cB : ClassId} (h : va_RA s cA tyK) (h2 : va_RA s cB tyK) : cA = cB := by
  have key : ∀ c, va_RA s c tyK → s.vm.findClass ("[" ++ tyK.toString) = some c := by
    intro c h
    cases tyK with
    | object C => obtain ⟨_, _, -, -, -, h4⟩ := h; exact h4
    | _ => exact h
  exact Option.some.inj ((key _ h).symm.trans (key _ h2))
theorem kz_newa (hx : p.tables.exec = Jvm.exec) (hb : c.code = cc) {atype : ArrayType} (hts : ∀ w ∈ lw_all, w.before args s = true) (harr : Cond.arrayClass (newarray.typeOf atype) ∈ lw_all) (ty : FieldType) (t0 : Nat) (ht : (kty E)[t0]? = some (kA E t0, ty)) (hty : newarray.typeOf atype = ty) (hK : va_K (kD E) kcl (kty E) s) (hP : va_P (kD E) kcl ws H) (hD : va_D A ws) (hS : va_S A H0 H locs) (hA : ∀ q, H0.size ≤ q → A q)
    {t : Int} {N' : Nat} (a0 : vp_A) (ha : ∀ cA : ClassId, vp_cell cA a0 = arrV cA N' (fun _ => defaultValue ty)) (hN : t = (N' : Int)) (hN2 : N' ≤ 16777216) (hcells : cells + 1 ≤ R.cells) (hslots : slots + N' ≤ R.slots) (d : decode cc pc = .ok (.newarray atype, 2)) (hbyt : componentBytes ty ≤ 8)
    (kk : ∀ (q : Nat) (H1 : Heap), va_P (kD E) kcl ((q, .inl (kA E t0, a0)) :: ws) H1 → va_D A ((q, .inl (kA E t0, a0)) :: ws) → va_S A H0 H1 locs → W p l e R s m args below meth c H1 locs (cells + 1) (slots + N') Q (F0 m (pc + 2) ls (.ref q :: rest))) : W p l e R s m args below meth c H locs cells slots Q (F0 m pc ls (.int (zI t) :: rest)) := by
  have hr : rI t := ⟨by omega, by omega⟩
  refine va_newa hx hb (hts _ harr) hty hK hP hD hS hA (N' := N') (a0 := a0) ha (fun h => ?_) (by rw [zI_clamp hr]; omega) (Nat.le_trans (Nat.mul_le_mul hN2 hbyt) (by decide)) hcells hslots d (fun q cA H1 hK1 hP hD hS => ?_)
  · have := (zI_lt hr (by decide)).mp (show zI t < zI 0 from h)
    omega
  · have h1 : va_RA s cA ty := (hK1.2 (kty E).length (cA, ty) (by rw [List.getElem?_append_right (Nat.le_refl _), Nat.sub_self]; rfl)).2
    have h2 : va_RA s (kA E t0) ty := (hK.2 t0 _ ht).2
    obtain rfl := kz_arrC h1 h2
    obtain ⟨hP, hD⟩ := kz_front hP hD
    exact kk q H1 hP hD hS
theorem kz_newq (hx : p.tables.exec = Jvm.exec) (hb : c.code = cc) {own C : String} {index : Nat} (hown : s.vm.findClass own = some m.cls) (hclink : (Cond.classLink own index C).before args s = true) (hover : va_AO C s) (t0 : Nat) (ht : (kty E)[t0]? = some (kA E t0, .object C)) (hK : va_K (kD E) kcl (kty E) s) (hP : va_P (kD E) kcl ws H) (hD : va_D A ws) (hS : va_S A H0 H locs) (hA : ∀ q, H0.size ≤ q → A q)
    {t : Int} {N' : Nat} (hN : t = (N' : Int)) (hN2 : N' ≤ 16777216) (hcells : cells + 1 ≤ R.cells) (hslots : slots + N' ≤ R.slots) (d : decode cc pc = .ok (.anewarray index, 3))
    (kk : ∀ (q : Nat) (H1 : Heap), va_P (kD E) kcl ((q, .inl (kA E t0, N', .inr (.inr (.inr (.inr (fun _ => none)))))) :: ws) H1 → va_D A ((q, .inl (kA E t0, N', .inr (.inr (.inr (.inr (fun _ => none)))))) :: ws) → va_S A H0 H1 locs → W p l e R s m args below meth c H1 locs (cells + 1) (slots + N') Q (F0 m (pc + 3) ls (.ref q :: rest))) : W p l e R s m args below meth c H locs cells slots Q (F0 m pc ls (.int (zI t) :: rest)) := by
  have hr : rI t := ⟨by omega, by omega⟩
  refine va_newq hx hb hown hclink hover hK hP hD hS hA (N' := N') (fun h => ?_) (by rw [zI_clamp hr]; omega) (by omega) hcells hslots d (fun q cA H1 hK1 hP hD hS => ?_)
  · have := (zI_lt hr (by decide)).mp (show zI t < zI 0 from h)
    omega
  · have h1 : va_RA s cA (.object C) := (hK1.2 (kty E).length (cA, .object C) (by rw [List.getElem?_append_right (Nat.le_refl _), Nat.sub_self]; rfl)).2
    have h2 : va_RA s (kA E t0) (.object C) := (hK.2 t0 _ ht).2
    obtain rfl := kz_arrC h1 h2
    obtain ⟨hP, hD⟩ := kz_front hP hD
    exact kk q H1 hP hD hS
end KZA
section KZE
variable {p : Program} {l : Launch} {e : Env} {R : Room} {s : State} {m : MethodId} {args : Array Value} {below : List Frame} {meth : Method} {c : Code} {H : Heap} {locs : List Loc} {cells slots : Nat} {cc : ByteArray} {pc : Nat} {ls : Array Slot} {E : KE} {ws : va_W} {A : Nat → Prop} {S : Type} {post : S → Prop} {v : S → Option Value} {w : S → va_W} {Q : State → Prop} {mc ms : Nat}
theorem kz_end {oc : Outcome} {t : State} {a : Array Value} {x : Option Value} (u : S) (hP : va_P (kD E) kcl ws H) (hD : va_D A ws) (hS : va_S A s.heap H locs) (h1 : v u = x) (h2 : post u) (h3 : w u = ws) (ho : oc = .returned x) (ht : t.heap = H) : kQ E post v w A a s oc t :=
  ⟨⟨u, by rw [h1]; exact ho, h2, by rw [ht, h3]; exact hP, by rw [h3]; exact hD⟩, hS.F ht⟩
theorem kz_iret (u : S) (hx : p.tables.exec = Jvm.exec) (hb : c.code = cc) (hr : meth.sig.returnType = some .int) (hlk : meth.locks = false) (hP : va_P (kD E) kcl ws H) (hD : va_D A ws) (hS : va_S A s.heap H locs) (d : decode cc pc = .ok (.ireturn, 1)) {x : Int32} (h1 : v u = some (.int x)) (h2 : post u) (h3 : w u = ws) (hQ : Q = MQ below (kQ E post v w A) args s mc ms A) (hc : cells ≤ mc) (hs : slots ≤ ms) : W p l e R s m args below meth c H locs cells slots Q (F0 m pc ls [.int x]) :=
  hQ ▸ W.widen hc hs (W.iret hx hb hr (fun t ht hW => kz_end u hP hD hS h1 h2 h3 rfl ht) hS.2.2 d hlk)
theorem kz_zret (u : S) (hx : p.tables.exec = Jvm.exec) (hb : c.code = cc) (hr : meth.sig.returnType = some .boolean) (hlk : meth.locks = false) (hP : va_P (kD E) kcl ws H) (hD : va_D A ws) (hS : va_S A s.heap H locs) (d : decode cc pc = .ok (.ireturn, 1)) {B : Prop} [Decidable B] (h1 : v u = some (.int (zI (b2 B)))) (h2 : post u) (h3 : w u = ws) (hQ : Q = MQ below (kQ E post v w A) args s mc ms A) (hc : cells ≤ mc) (hs : slots ≤ ms) : W p l e R s m args below meth c H locs cells slots Q (F0 m pc ls [.int (zI (b2 B))]) :=
  hQ ▸ W.widen hc hs (W.zret hx hb hr (by unfold b2; split <;> rfl) (fun t ht hW => kz_end u hP hD hS h1 h2 h3 rfl ht) hS.2.2 d hlk)
theorem kz_zNret (u : S) (hx : p.tables.exec = Jvm.exec) (hb : c.code = cc) (hr : meth.sig.returnType = some .boolean) (hlk : meth.locks = false) (hP : va_P (kD E) kcl ws H) (hD : va_D A ws) (hS : va_S A s.heap H locs) (d : decode cc pc = .ok (.ireturn, 1)) {x : Int} (hx0 : x = 0 ∨ x = 1) (h1 : v u = some (.int (zI x))) (h2 : post u) (h3 : w u = ws) (hQ : Q = MQ below (kQ E post v w A) args s mc ms A) (hc : cells ≤ mc) (hs : slots ≤ ms) : W p l e R s m args below meth c H locs cells slots Q (F0 m pc ls [.int (zI x)]) :=
  hQ ▸ W.widen hc hs (W.zret hx hb hr (by rcases hx0 with rfl | rfl <;> rfl) (fun t ht hW => kz_end u hP hD hS h1 h2 h3 rfl ht) hS.2.2 d hlk)
theorem kz_cret (u : S) (hx : p.tables.exec = Jvm.exec) (hb : c.code = cc) (hr : meth.sig.returnType = some .char) (hlk : meth.locks = false) (hP : va_P (kD E) kcl ws H) (hD : va_D A ws) (hS : va_S A s.heap H locs) (d : decode cc pc = .ok (.ireturn, 1)) {x : Int} (hx0 : 0 ≤ x ∧ x < 65536) (h1 : v u = some (.int (zI x))) (h2 : post u) (h3 : w u = ws) (hQ : Q = MQ below (kQ E post v w A) args s mc ms A) (hc : cells ≤ mc) (hs : slots ≤ ms) : W p l e R s m args below meth c H locs cells slots Q (F0 m pc ls [.int (zI x)]) :=
  hQ ▸ W.widen hc hs (W.zret hx hb hr (by obtain ⟨n, rfl⟩ := Int.eq_ofNat_of_zero_le hx0.1; rw [← zI_nat]; exact (pk_charN (by omega)).1) (fun t ht hW => kz_end u hP hD hS h1 h2 h3 rfl ht) hS.2.2 d hlk)
theorem kz_vret (u : S) (hx : p.tables.exec = Jvm.exec) (hb : c.code = cc) (hr : meth.sig.returnType = none) (hlk : meth.locks = false) (hP : va_P (kD E) kcl ws H) (hD : va_D A ws) (hS : va_S A s.heap H locs) (d : decode cc pc = .ok (.return_, 1)) (h1 : v u = none) (h2 : post u) (h3 : w u = ws) (hQ : Q = MQ below (kQ E post v w A) args s mc ms A) (hc : cells ≤ mc) (hs : slots ≤ ms) : W p l e R s m args below meth c H locs cells slots Q (F0 m pc ls []) :=
  hQ ▸ W.widen hc hs (W.vret hx hb hr (fun t ht hW => kz_end u hP hD hS h1 h2 h3 rfl ht) hS.2.2 d hlk)
theorem kz_aret (u : S) (hx : p.tables.exec = Jvm.exec) (hb : c.code = cc) {rt : FieldType} (hr : meth.sig.returnType = some rt) (hrt : (∃ n, rt = .object n) ∨ ∃ t, rt = .array t) (hlk : meth.locks = false) (hP : va_P (kD E) kcl ws H) (hD : va_D A ws) (hS : va_S A s.heap H locs) (d : decode cc pc = .ok (.areturn, 1)) {x : Value} (hx1 : x = .null ∨ ∃ a, x = .ref a) (h1 : v u = some x) (h2 : post u) (h3 : w u = ws) (hQ : Q = MQ below (kQ E post v w A) args s mc ms A) (hc : cells ≤ mc) (hs : slots ≤ ms) : W p l e R s m args below meth c H locs cells slots Q (F0 m pc ls [x]) :=
  hQ ▸ W.widen hc hs (W.aret hx hb hr hrt hx1 (fun t ht hW => kz_end u hP hD hS h1 h2 h3 rfl ht) hS.2.2 d hlk)
end KZE
def ushrI (a k : Int) : Int := ((zI a).toUInt32 >>> ((zI k).toUInt32 &&& Int32.toUInt32 31)).toInt32.toInt
def andI (a b : Int) : Int := (zI a &&& zI b).toInt
/-- a byte of an int, from the bit k on -/
def byt (a k : Int) : Int := andI (ushrI a k) 255
theorem byt_b (a k : Int) : 0 ≤ byt a k ∧ byt a k ≤ 255 := by
  unfold byt andI
  have h := pk_and (zI (ushrI a k)) (m := zI 255) 8 (by decide)
  rw [h, nI_toInt (by omega)]
  omega
section KZB
variable {p : Program} {l : Launch} {e : Env} {R : Room} {s : State} {m : MethodId} {args : Array Value} {below : List Frame} {meth : Method} {c : Code} {H : Heap} {locs : List Loc} {cells slots : Nat} {Q : State → Prop} {cc : ByteArray} {pc : Nat} {ls : Array Slot} {rest : List Value}
theorem kz_iushr (hx : p.tables.exec = Jvm.exec) (hb : c.code = cc) {a b : Int} (d : decode cc pc = .ok (.iushr, 1)) (k : W p l e R s m args below meth c H locs cells slots Q (F0 m (pc + 1) ls (.int (zI (ushrI a b)) :: rest))) : W p l e R s m args below meth c H locs cells slots Q (F0 m pc ls (.int (zI b) :: .int (zI a) :: rest)) := lv_iushr hx hb d (zI_of _).symm k
theorem kz_iand (hx : p.tables.exec = Jvm.exec) (hb : c.code = cc) {a b : Int} (d : decode cc pc = .ok (.iand, 1)) (k : W p l e R s m args below meth c H locs cells slots Q (F0 m (pc + 1) ls (.int (zI (andI a b)) :: rest))) : W p l e R s m args below meth c H locs cells slots Q (F0 m pc ls (.int (zI b) :: .int (zI a) :: rest)) := lv_iand hx hb d (by rw [← zI_of (zI a &&& zI b)]; exact k)
theorem kz_byt (hx : p.tables.exec = Jvm.exec) (hb : c.code = cc) {a b : Int} (d : decode cc pc = .ok (.iand, 1)) (k : W p l e R s m args below meth c H locs cells slots Q (F0 m (pc + 1) ls (.int (zI (byt a b)) :: rest))) : W p l e R s m args below meth c H locs cells slots Q (F0 m pc ls (.int (zI 255) :: .int (zI (ushrI a b)) :: rest)) := kz_iand hx hb d k
theorem kz_ior (hx : p.tables.exec = Jvm.exec) (hb : c.code = cc) {P1 P2 : Prop} [Decidable P1] [Decidable P2] (d : decode cc pc = .ok (.ior, 1)) (k : W p l e R s m args below meth c H locs cells slots Q (F0 m (pc + 1) ls (.int (zI (b2 (P1 ∨ P2))) :: rest))) : W p l e R s m args below meth c H locs cells slots Q (F0 m pc ls (.int (zI (b2 P2)) :: .int (zI (b2 P1)) :: rest)) := by
  refine lv_ior hx hb d ?_
  have h : zI (b2 P1) ||| zI (b2 P2) = zI (b2 (P1 ∨ P2)) := by
    by_cases h1 : P1
    · by_cases h2 : P2
      · rw [b2_t h1, b2_t h2, b2_t (Or.inl h1)]; rfl
      · rw [b2_t h1, b2_f h2, b2_t (Or.inl h1)]; rfl
    · by_cases h2 : P2
      · rw [b2_f h1, b2_t h2, b2_t (Or.inr h2)]; rfl
      · rw [b2_f h1, b2_f h2, b2_f (fun z => z.elim h1 h2)]; rfl
  rw [h]
  exact k
theorem kz_iandB (hx : p.tables.exec = Jvm.exec) (hb : c.code = cc) {P1 P2 : Prop} [Decidable P1] [Decidable P2] (d : decode cc pc = .ok (.iand, 1)) (k : W p l e R s m args below meth c H locs cells slots Q (F0 m (pc + 1) ls (.int (zI (b2 (P1 ∧ P2))) :: rest))) : W p l e R s m args below meth c H locs cells slots Q (F0 m pc ls (.int (zI (b2 P2)) :: .int (zI (b2 P1)) :: rest)) := by
  refine lv_iand hx hb d ?_
  have h : zI (b2 P1) &&& zI (b2 P2) = zI (b2 (P1 ∧ P2)) := by
    by_cases h1 : P1
    · by_cases h2 : P2
      · rw [b2_t h1, b2_t h2, b2_t ⟨h1, h2⟩]; rfl
      · rw [b2_t h1, b2_f h2, b2_f (fun z => h2 z.2)]; rfl
    · by_cases h2 : P2
      · rw [b2_f h1, b2_t h2, b2_f (fun z => h1 z.1)]; rfl
      · rw [b2_f h1, b2_f h2, b2_f (fun z => h1 z.1)]; rfl
  rw [h]
  exact k
end KZB
theorem kz_nz (P : Prop) [Decidable P] : narrow .boolean (.int (zI (b2 P))) = .int (zI (b2 P)) := by unfold b2; split <;> rfl
theorem kz_fz (P : Prop) [Decidable P] : fits .boolean (.int (zI (b2 P))) = true := by unfold b2; split <;> rfl
theorem Gl.nF {l : Launch} {E : KE} {s : State} {args : Array Value} (hG : Gl l E s) {a : String} {i : Nat} {b n d h : String} (q : Cond.fieldLinkNest a i b n d h ∈ lw_tbl) : (Cond.fieldLinkNest a i b n d h).before args s = true := va_Nw.use rfl (va_Nw.warmF hG.2.2.1 (va_Nw.of rfl (hG.2.2.2.2.1 _ q)))
theorem Gl.nM {l : Launch} {E : KE} {s : State} (hG : Gl l E s) {a : String} {i : Nat} {x : MethodName} {h : String} (q : Cond.methodLinkNest a i x h ∈ lw_tbl) : va_Nw (.methodLinkNest a i x h) s := va_Nw.warmM hG.2.2.1 (va_Nw.of rfl (hG.2.2.2.2.1 _ q))
theorem Gl.nC {l : Launch} {E : KE} {s : State} (hG : Gl l E s) {C T : String} (q : Cond.castable C T ∈ lw_tbl) : va_Nw (.castable C T) s := va_Nw.warmC hG.2.2.1 (va_Nw.of rfl (hG.2.2.2.2.1 _ q))
theorem Gl.nD {l : Launch} {E : KE} {s : State} (hG : Gl l E s) {x : MethodName} (q : Cond.declares x ∈ lw_tbl) : va_Nw (.declares x) s := va_Nw.warmD hG.2.2.1 (va_Nw.of rfl (hG.2.2.2.2.1 _ q))
