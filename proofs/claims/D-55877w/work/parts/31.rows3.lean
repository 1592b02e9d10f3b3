/-! ROWS for contracts with a fact of the start (X), for Strings that are read, and statics -/
/-- a contract's start with a fact X besides -/
def kPx (l : Launch) (E : KE) (sz : Nat) (ws wr : va_W) (X : State → Prop) (U : State) : Prop := kP l E sz ws wr U ∧ X U
theorem kz_startX {l : Launch} {y : MethodName} {cc : ByteArray} {nL : Nat} {ret : Option FieldType} {rm : Room} {E : KE} {sz : Nat} {av : List Value} {ws wr : va_W} {X : State → Prop} {mc ms : Nat} {Qf : (Nat → Prop) → Array Value → State → Outcome → State → Prop} (hy : plainName y.cls = true) (hl : (lg_sl av).length ≤ nL)
    (body : ∀ (p : Program) (e : Env) (s : State) (m : MethodId) (args : Array Value) (below : List Frame) (meth : Method) (c : Code) (A : Nat → Prop) (ls : Array Slot) (Q : State → Prop) (H : Heap) (locs : List Loc), p.tables.exec = Jvm.exec → c.code = cc → meth.sig.returnType = ret → meth.locks = false → c.maxLocals = nL → (∀ w ∈ lw_all, w.before args s = true) → s.vm.findClass y.cls = some m.cls → meth.name = y.name → Gl l E s → va_K (kD E) kcl (kty E) s → (∀ q : Nat, s.heap.size ≤ q → A q) → (∀ q, A q → kN E ≤ q) → va_P (kD E) kcl ws H → va_D A ws → va_P (kD E) kcl wr s.heap → (∀ q ∈ wr, ¬ A q.1) → va_S A s.heap H locs → Q = MQ below (Qf A) args s mc ms A → lv_has ls nL (lv_args 0 av) → X s → (∀ a : Nat, a < s.heap.size → (∀ q ∈ ws, q.1 ≠ a) → ¬ A a) →
      W p l e rm s m args below meth c H locs 0 0 Q (F0 m 0 ls [])) :
    Met l y (ws_ y cc nL ret) rm (va_Pc av (kPx l E sz ws wr X)) (Qf (va_A ws sz)) mc ms (va_A ws sz) := by
  refine Met.ofW (cc := cc) (maxL := nL) (ret := ret) hy rfl ?_
  intro p e s m args below meth c s₁ B hml hv
  obtain ⟨hav, ⟨hsz, hG, hP, hD0, hR, hRA⟩, hX⟩ := hv
  subst hav
  subst hsz
  have hts := atoms_spec (ws := ws_ y cc nL ret) B.pre
  have hts : ∀ w ∈ lw_all, w.before _ s = true := fun w h => hts w (List.mem_cons_of_mem _ h)
  rw [lg_entry_eq]
  refine body p e s m _ below meth c (va_A ws s.heap.size) _ _ s.heap [] B.exec B.bytes B.returns B.notSynchronized hml hts (findClass_of_methodNamed B.named) (name_of_methodNamed B.named B.method).1 hG hG.K (fun q h => Or.inr h) (fun q h => ?_) hP hD0.self hR (fun q hq hA => ?_) va_S.rf rfl (lv_entry av hl) hX (fun a ha hn hA => ?_)
  · rcases kz_Amem.mp h with ⟨x, hx, rfl⟩ | h
    · obtain ⟨i, hi⟩ := List.getElem?_of_mem hx
      exact hD0.2 i x hi
    · exact Nat.le_trans hG.1 h
  · rcases kz_Amem.mp hA with ⟨x, hx, he⟩ | h
    · exact hRA q hq x hx he.symm
    · have := (kz_Pmem hR hq).lt
      omega
  · rcases kz_Amem.mp hA with ⟨x, hx, he⟩ | h
    · exact hn x hx he
    · omega
theorem kz_preXS {l : Launch} {E : KE} {s : State} {H : Heap} {wc wr : va_W} {av : List Value} {X : State → Prop} (h : PreS s H (va_Pc av (kP l E H.size wc wr)) av) (hB : FrameBlind (va_Pc av (kPx l E H.size wc wr X))) (hX : ∀ U : State, U.heap = H → s.WarmedH U.vm → X U) : PreS s H (va_Pc av (kPx l E H.size wc wr X)) av :=
  ⟨hB, fun U hU hW => ⟨rfl, (h.2 U hU hW).2, hX U hU hW⟩⟩
theorem kz_preXV {l : Launch} {E : KE} {s : State} {H : Heap} {wc wr : va_W} {b : Nat} {As : List Value} {C : String} {X : State → Prop} (h : PreV s H C b (va_Pc (.ref b :: As) (kP l E H.size wc wr)) As) (hB : FrameBlind (va_Pc (.ref b :: As) (kPx l E H.size wc wr X))) (hX : ∀ U : State, U.heap = H → s.WarmedH U.vm → X U) : PreV s H C b (va_Pc (.ref b :: As) (kPx l E H.size wc wr X)) As :=
  ⟨hB, h.2.1, fun U hU hW => ⟨rfl, (h.2.2 U hU hW).2, hX U hU hW⟩⟩
theorem Gl.Zi {l : Launch} {E : KE} {s : State} {A : Nat → Prop} (hG : Gl l E s) (hAN : ∀ q, A q → kN E ≤ q) {C n d : String} {z : Int} (h1 : Cond.laysStatic C n d ∈ lw_tbl) (h2 : Cond.initialized C ∈ lw_tbl) (h3 : Cond.eq (.static C n d) (.int (zI z)) ∈ flatC (Jvm.Cond.and given_1 narrow_1)) : va_Z C n d (.int (zI z)) A s s.heap := hG.Z hAN h1 h2 h3
theorem Gl.Zq {l : Launch} {E : KE} {s : State} {A : Nat → Prop} (hG : Gl l E s) (hAN : ∀ q, A q → kN E ≤ q) {C n d : String} (h1 : Cond.laysStatic C n d ∈ lw_tbl) (h2 : Cond.initialized C ∈ lw_tbl) (h3 : Cond.isRef (.static C n d) ∈ flatC (Jvm.Cond.and given_1 narrow_1)) : va_Z C n d .null A s s.heap ∨ ∃ t : Nat, va_Z C n d (.ref t) A s s.heap := by
  obtain ⟨g1, g2, g3, -, g5, g6, -⟩ := hG
  have h := va_Zqof (A := fun q => kN E ≤ q) (g5 _ h1) (g5 _ h2) (flat_of_before _ g6 _ h3) (fun a ha => by show ¬ kN E ≤ a; have : a < kN E := ha; omega)
  rcases h with h | ⟨t, h⟩
  · exact Or.inl (h.at g3.alike (fun q hq _ => g2 q hq) hAN)
  · exact Or.inr ⟨t, h.at g3.alike (fun q hq _ => g2 q hq) hAN⟩
section KZX
variable {p : Program} {l : Launch} {e : Env} {R : Room} {s : State} {m : MethodId} {args : Array Value} {below : List Frame} {meth : Method} {c : Code} {H : Heap} {locs : List Loc} {cells slots : Nat} {Q : State → Prop} {cc : ByteArray} {pc : Nat} {ls : Array Slot} {rest : List Value} {A : Nat → Prop} {a v n : Nat} {f : Int → Int}
theorem StrR.co (h : StrR a v n f s) (na : ¬ A a) : va_OF "java/lang/String" "coder" "B" (.int (zI 0)) a A s s.heap := by
  obtain ⟨cf, k, i, f, cell, h1, h2, h3, h4, h5, -⟩ := h.2.1
  exact ⟨cf, k, i, f, cell, h1, h2, h3, h4, h5, na⟩
theorem StrR.va (h : StrR a v n f s) (na : ¬ A a) : va_OF "java/lang/String" "value" "[B" (.ref v) a A s s.heap := by
  obtain ⟨cf, k, i, f, cell, h1, h2, h3, h4, h5, -⟩ := h.2.2.1
  exact ⟨cf, k, i, f, cell, h1, h2, h3, h4, h5, na⟩
theorem StrR.tb (h : StrR a v n f s) (nv : ¬ A v) : va_T .byte v n (fun j => .int (zR f j)) A s s.heap := by
  obtain ⟨cell, h1, h2, h3, h4, h5, h6, -⟩ := h.2.2.2
  exact ⟨cell, h1, h2, h3, h4, h5, h6, nv⟩
theorem StrR.re (h : StrR a v n f s) (na : ¬ A a) (hS : va_S A s.heap H locs) : ∃ cell : Cell, H[a]? = some cell ∧ cell.vm.isStatics = false ∧ s.vm.findClass "java/lang/String" = some cell.cls := by
  obtain ⟨cell, h1, h2, h3, -⟩ := h.1
  exact ⟨cell, by rw [hS.2.1 a (Array.getElem?_eq_some_iff.mp h1).1 na]; exact h1, h2, h3⟩
theorem kz_slen (hx : p.tables.exec = Jvm.exec) (hb : c.code = cc) (h : StrR a v n f s) (nv : ¬ A v) (hS : va_S A s.heap H locs) (d : decode cc pc = .ok (.arraylength, 1))
    (k : W p l e R s m args below meth c H locs cells slots Q (F0 m (pc + 1) ls (.int (zI (n : Int)) :: rest))) : W p l e R s m args below meth c H locs cells slots Q (F0 m pc ls (.ref v :: rest)) :=
  va_tlen hx hb (h.tb nv) hS (zI_nat n) d k
theorem kz_sby (hx : p.tables.exec = Jvm.exec) (hb : c.code = cc) (h : StrR a v n f s) (nv : ¬ A v) (hS : va_S A s.heap H locs) {t : Int} (hin : 0 ≤ t ∧ t < (n : Int) ∧ (n : Int) ≤ 2147483647) (d : decode cc pc = .ok (.baload, 1))
    (k : W p l e R s m args below meth c H locs cells slots Q (F0 m (pc + 1) ls (.int (zI (f t)) :: rest))) : W p l e R s m args below meth c H locs cells slots Q (F0 m pc ls (.int (zI t) :: .ref v :: rest)) :=
  va_tb hx hb (h.tb nv) hS (zR_in ⟨hin.1, hin.2.1⟩ (by omega)) (congrArg Value.int (zR_get f hin.1 ⟨by omega, by omega⟩)) d k
theorem zI_255 {t : Int} (h : 0 ≤ t ∧ t < 256) : zI t &&& zI 255 = zI t := by
  obtain ⟨n, rfl⟩ := Int.eq_ofNat_of_zero_le h.1
  have key : ∀ n : Nat, n < 256 → zI (n : Int) &&& zI 255 = zI (n : Int) := by decide +kernel
  exact key n (by omega)
theorem kz_and255 (hx : p.tables.exec = Jvm.exec) (hb : c.code = cc) {t : Int} (d : decode cc pc = .ok (.iand, 1)) (h : 0 ≤ t ∧ t < 256)
    (k : W p l e R s m args below meth c H locs cells slots Q (F0 m (pc + 1) ls (.int (zI t) :: rest))) : W p l e R s m args below meth c H locs cells slots Q (F0 m pc ls (.int (zI 255) :: .int (zI t) :: rest)) := lv_iand hx hb d (by rw [zI_255 h]; exact k)
theorem zI_shr0 (x : Int32) : x >>> (zI 0 &&& 31) = x := by
  have e : zI 0 &&& 31 = 0 := by decide
  rw [e]
  exact Int32.shiftRight_zero
theorem kz_ishr0 (hx : p.tables.exec = Jvm.exec) (hb : c.code = cc) {t : Int} (d : decode cc pc = .ok (.ishr, 1))
    (k : W p l e R s m args below meth c H locs cells slots Q (F0 m (pc + 1) ls (.int (zI t) :: rest))) : W p l e R s m args below meth c H locs cells slots Q (F0 m pc ls (.int (zI 0) :: .int (zI t) :: rest)) := lv_ishr hx hb d (by rw [zI_shr0]; exact k)
end KZX
section KZXE
variable {p : Program} {l : Launch} {e : Env} {R : Room} {s : State} {m : MethodId} {args : Array Value} {below : List Frame} {meth : Method} {c : Code} {H : Heap} {locs : List Loc} {cells slots : Nat} {cc : ByteArray} {pc : Nat} {ls : Array Slot} {E : KE} {ws : va_W} {A : Nat → Prop} {S : Type} {post : S → Prop} {v : S → Option Value} {w : S → va_W} {Q : State → Prop} {mc ms : Nat}
theorem kz_bret (u : S) (hx : p.tables.exec = Jvm.exec) (hb : c.code = cc) (hr : meth.sig.returnType = some .byte) (hlk : meth.locks = false) (hP : va_P (kD E) kcl ws H) (hD : va_D A ws) (hS : va_S A s.heap H locs) (d : decode cc pc = .ok (.ireturn, 1)) {x : Int} (hx0 : -128 ≤ x ∧ x < 128) (h1 : v u = some (.int (zI x))) (h2 : post u) (h3 : w u = ws) (hQ : Q = MQ below (kQ E post v w A) args s mc ms A) (hc : cells ≤ mc) (hs : slots ≤ ms) : W p l e R s m args below meth c H locs cells slots Q (F0 m pc ls [.int (zI x)]) :=
  hQ ▸ W.widen hc hs (W.zret hx hb hr (congrArg Value.int (zI_byte hx0)) (fun t ht hW => kz_end u hP hD hS h1 h2 h3 rfl ht) hS.2.2 d hlk)
end KZXE
