/-! BASE LAYER: whole numbers as Int (zI), worlds as lists up to order, one start and one call for every contract -/
section KZN
def zI (t : Int) : Int32 := Int32.ofInt t
abbrev rI (t : Int) : Prop := -2147483648 ≤ t ∧ t ≤ 2147483647
theorem zI_add (a b : Int) : zI a + zI b = zI (a + b) := (Int32.ofInt_add a b).symm
theorem zI_sub (a b : Int) : zI a - zI b = zI (a - b) := (Int32.ofInt_sub a b).symm
theorem zI_mul (a b : Int) : zI a * zI b = zI (a * b) := (Int32.ofInt_mul a b).symm
theorem zI_neg (a : Int) : - zI a = zI (- a) := (Int32.ofInt_neg a).symm
theorem zI_toInt {t : Int} (h : rI t) : (zI t).toInt = t := Int32.toInt_ofInt_of_le (by have := h.1; omega) (by have := h.2; omega)
theorem zI_of (x : Int32) : zI x.toInt = x := Int32.ofInt_toInt x
theorem zI_rng (x : Int32) : rI x.toInt := ⟨by have := Int32.le_toInt x; omega, by have := Int32.toInt_lt x; omega⟩
theorem zI_ex (x : Int32) : ∃ t, rI t ∧ x = zI t := ⟨x.toInt, zI_rng x, (zI_of x).symm⟩
theorem zI_inj {a b : Int} (ha : rI a) (hb : rI b) (h : zI a = zI b) : a = b := by
  have h2 := congrArg Int32.toInt h
  rwa [zI_toInt ha, zI_toInt hb] at h2
theorem zI_eq {a b : Int} (ha : rI a) (hb : rI b) : zI a = zI b ↔ a = b := ⟨zI_inj ha hb, fun h => by rw [h]⟩
theorem zI_lt {a b : Int} (ha : rI a) (hb : rI b) : zI a < zI b ↔ a < b := by rw [Int32.lt_iff_toInt_lt, zI_toInt ha, zI_toInt hb]
theorem zI_le {a b : Int} (ha : rI a) (hb : rI b) : zI a ≤ zI b ↔ a ≤ b := by rw [Int32.le_iff_toInt_le, zI_toInt ha, zI_toInt hb]
theorem zI_nat (n : Nat) : Int32.ofNat n = zI (n : Int) := (Int32.ofInt_eq_ofNat).symm
theorem zI_clamp {t : Int} (h : rI t) : (zI t).toNatClampNeg = t.toNat := by
  show (zI t).toInt.toNat = t.toNat
  rw [zI_toInt h]
theorem zI_tdiv {a b : Int} (ha : rI a) (hb : rI b) : zI a / zI b = zI (a.tdiv b) :=
  (Int32.ofInt_tdiv (by have := ha.1; simpa using this) (Int.le_trans ha.2 (by decide)) (by have := hb.1; simpa using this) (Int.le_trans hb.2 (by decide))).symm
theorem zI_div {a b : Int} (h0 : 0 ≤ a) (ha : a ≤ 2147483647) (hb : rI b) : zI a / zI b = zI (a / b) := by
  rw [zI_tdiv ⟨by omega, ha⟩ hb, Int.tdiv_eq_ediv_of_nonneg h0]
theorem zI_rem {a b : Int} (h0 : 0 ≤ a) (ha : a ≤ 2147483647) (hb : rI b) : zI a - zI a / zI b * zI b = zI (a % b) := by
  rw [zI_div h0 ha hb, zI_mul, zI_sub, Int.emod_def, Int.mul_comm b]
theorem zI_ne0 {b : Int} (hb : rI b) (h : b ≠ 0) : ¬ zI b = 0 := fun h2 => h (zI_inj hb (by decide) (h2.trans (show (0 : Int32) = zI 0 from rfl)))
theorem zI_char {t : Int} (h0 : 0 ≤ t) (h1 : t < 65536) : ((zI t).toUInt32 % 65536).toInt32 = zI t := by
  obtain ⟨n, rfl⟩ := Int.eq_ofNat_of_zero_le h0
  have e := pk_char (zI (n : Int))
  rw [e]
  have e2 : (zI (n : Int)).toBitVec.toNat = n := by rw [← zI_nat]; exact pk_tn (by omega)
  rw [e2, Nat.mod_eq_of_lt (by omega)]
  exact zI_nat n
def zL (t : Int) : Int64 := Int64.ofInt t
abbrev rL (t : Int) : Prop := -9223372036854775808 ≤ t ∧ t ≤ 9223372036854775807
theorem zL_toInt {t : Int} (h : rL t) : (zL t).toInt = t := Int64.toInt_ofInt_of_le (by have := h.1; omega) (by have := h.2; omega)
theorem zL_of (x : Int64) : zL x.toInt = x := Int64.ofInt_toInt x
theorem zL_add (a b : Int) : zL a + zL b = zL (a + b) := (Int64.ofInt_add a b).symm
theorem zL_sub (a b : Int) : zL a - zL b = zL (a - b) := (Int64.ofInt_sub a b).symm
theorem zL_mul (a b : Int) : zL a * zL b = zL (a * b) := (Int64.ofInt_mul a b).symm
theorem zL_neg (a : Int) : - zL a = zL (- a) := (Int64.ofInt_neg a).symm
theorem zL_inj {a b : Int} (ha : rL a) (hb : rL b) (h : zL a = zL b) : a = b := by
  have h2 := congrArg Int64.toInt h
  rwa [zL_toInt ha, zL_toInt hb] at h2
theorem zL_lt {a b : Int} (ha : rL a) (hb : rL b) : zL a < zL b ↔ a < b := by rw [Int64.lt_iff_toInt_lt, zL_toInt ha, zL_toInt hb]
theorem zIL {t : Int} (h : rI t) : (zI t).toInt64 = zL t := by
  refine Int64.toInt_inj.mp ?_
  rw [Int32.toInt_toInt64, zI_toInt h, zL_toInt ⟨by have := h.1; omega, by have := h.2; omega⟩]
theorem zLI (t : Int) : (zL t).toInt32 = zI t := by
  refine Int32.toInt_inj.mp ?_
  show (Int64.ofInt t).toInt32.toInt = (Int32.ofInt t).toInt
  rw [Int64.toInt_toInt32, Int64.toInt_ofInt, Int32.toInt_ofInt]
  exact Int.bmod_bmod_of_dvd (by decide)
/-- a truth as a number -/
def b2 (P : Prop) [Decidable P] : Int := if P then 1 else 0
theorem b2_t {P : Prop} [Decidable P] (h : P) : b2 P = 1 := if_pos h
theorem b2_f {P : Prop} [Decidable P] (h : ¬ P) : b2 P = 0 := if_neg h
theorem b2_r (P : Prop) [Decidable P] : rI (b2 P) := by unfold b2; split <;> decide
theorem b2_01 (P : Prop) [Decidable P] : 0 ≤ b2 P ∧ b2 P ≤ 1 := by unfold b2; split <;> decide
theorem b2_c {P Q : Prop} [Decidable P] [Decidable Q] (h : P ↔ Q) : b2 P = b2 Q := by unfold b2; simp only [h]
/-- a row with one place written -/
def uz (g : Int → Int) (t v : Int) : Int → Int := fun j => if j = t then v else g j
theorem uz_s (g : Int → Int) (t v : Int) : uz g t v t = v := if_pos rfl
theorem uz_n {g : Int → Int} {t v j : Int} (h : j ≠ t) : uz g t v j = g j := if_neg h
/-- a row as what an array of ints holds -/
def zR (g : Int → Int) : Nat → Int32 := fun j => zI (g (j : Int))
theorem zR_get (g : Int → Int) {t : Int} (h0 : 0 ≤ t) (h : rI t) : zR g (zI t).toNatClampNeg = zI (g t) := by
  show zI (g (((zI t).toNatClampNeg : Nat) : Int)) = _
  rw [zI_clamp h, Int.toNat_of_nonneg h0]
theorem zR_upd (g : Int → Int) {t : Int} (v : Int) (h0 : 0 ≤ t) (h : rI t) : upd (zR g) (zI t).toNatClampNeg (zI v) = zR (uz g t v) := by
  funext j
  rw [zI_clamp h]
  show (if j = t.toNat then zI v else zI (g (j : Int))) = zI (if (j : Int) = t then v else g (j : Int))
  by_cases e : j = t.toNat
  · rw [if_pos e, if_pos (by omega)]
  · rw [if_neg e, if_neg (by omega)]
theorem zR_in {t : Int} {n : Nat} (h : 0 ≤ t ∧ t < (n : Int)) (hn : n < 2147483648) : vp_in (zI t) n := by
  intro h2
  rcases h2 with h2 | h2
  · exact absurd ((zI_lt ⟨by omega, by omega⟩ (by decide)).mp (show zI t < zI 0 from h2)) (by omega)
  · rw [zI_clamp ⟨by omega, by omega⟩] at h2
    omega
end KZN
section KZW
variable {p : Program} {l : Launch} {e : Env} {R : Room} {s : State} {m : MethodId} {args : Array Value} {below : List Frame} {meth : Method} {c : Code} {H : Heap} {locs : List Loc} {cells slots : Nat} {Q : State → Prop} {cc : ByteArray} {pc : Nat} {ls : Array Slot} {rest : List Value}
theorem kz_iadd (hx : p.tables.exec = Jvm.exec) (hb : c.code = cc) {a b : Int} (d : decode cc pc = .ok (.iadd, 1)) 
    (k : W p l e R s m args below meth c H locs cells slots Q (F0 m (pc + 1) ls (.int (zI (a + b)) :: rest))) : W p l e R s m args below meth c H locs cells slots Q (F0 m pc ls (.int (zI b) :: .int (zI a) :: rest)) := lv_iadd hx hb d (by rw [zI_add]; exact k)
theorem kz_isub (hx : p.tables.exec = Jvm.exec) (hb : c.code = cc) {a b : Int} (d : decode cc pc = .ok (.isub, 1)) 
    (k : W p l e R s m args below meth c H locs cells slots Q (F0 m (pc + 1) ls (.int (zI (a - b)) :: rest))) : W p l e R s m args below meth c H locs cells slots Q (F0 m pc ls (.int (zI b) :: .int (zI a) :: rest)) := lv_isub hx hb d (by rw [zI_sub]; exact k)
theorem kz_imul (hx : p.tables.exec = Jvm.exec) (hb : c.code = cc) {a b : Int} (d : decode cc pc = .ok (.imul, 1)) 
    (k : W p l e R s m args below meth c H locs cells slots Q (F0 m (pc + 1) ls (.int (zI (a * b)) :: rest))) : W p l e R s m args below meth c H locs cells slots Q (F0 m pc ls (.int (zI b) :: .int (zI a) :: rest)) := lv_imul hx hb d (by rw [zI_mul]; exact k)
theorem kz_ladd (hx : p.tables.exec = Jvm.exec) (hb : c.code = cc) {a b : Int} (d : decode cc pc = .ok (.ladd, 1)) 
    (k : W p l e R s m args below meth c H locs cells slots Q (F0 m (pc + 1) ls (.long (zL (a + b)) :: rest))) : W p l e R s m args below meth c H locs cells slots Q (F0 m pc ls (.long (zL b) :: .long (zL a) :: rest)) := lv_ladd hx hb d (by rw [zL_add]; exact k)
theorem kz_lsub (hx : p.tables.exec = Jvm.exec) (hb : c.code = cc) {a b : Int} (d : decode cc pc = .ok (.lsub, 1)) 
    (k : W p l e R s m args below meth c H locs cells slots Q (F0 m (pc + 1) ls (.long (zL (a - b)) :: rest))) : W p l e R s m args below meth c H locs cells slots Q (F0 m pc ls (.long (zL b) :: .long (zL a) :: rest)) := lv_lsub hx hb d (by rw [zL_sub]; exact k)
theorem kz_lmul (hx : p.tables.exec = Jvm.exec) (hb : c.code = cc) {a b : Int} (d : decode cc pc = .ok (.lmul, 1)) 
    (k : W p l e R s m args below meth c H locs cells slots Q (F0 m (pc + 1) ls (.long (zL (a * b)) :: rest))) : W p l e R s m args below meth c H locs cells slots Q (F0 m pc ls (.long (zL b) :: .long (zL a) :: rest)) := lv_lmul hx hb d (by rw [zL_mul]; exact k)
theorem kz_ineg (hx : p.tables.exec = Jvm.exec) (hb : c.code = cc) {a : Int} (d : decode cc pc = .ok (.ineg, 1)) 
    (k : W p l e R s m args below meth c H locs cells slots Q (F0 m (pc + 1) ls (.int (zI (- a)) :: rest))) : W p l e R s m args below meth c H locs cells slots Q (F0 m pc ls (.int (zI a) :: rest)) := lv_ineg hx hb d (by rw [zI_neg]; exact k)
theorem kz_idiv (hx : p.tables.exec = Jvm.exec) (hb : c.code = cc) {a b : Int} (d : decode cc pc = .ok (.idiv, 1)) (h : 0 ≤ a ∧ a ≤ 2147483647 ∧ rI b ∧ b ≠ 0)
    (k : W p l e R s m args below meth c H locs cells slots Q (F0 m (pc + 1) ls (.int (zI (a / b)) :: rest))) : W p l e R s m args below meth c H locs cells slots Q (F0 m pc ls (.int (zI b) :: .int (zI a) :: rest)) := lv_idiv hx hb d (zI_ne0 h.2.2.1 h.2.2.2) (by rw [zI_div h.1 h.2.1 h.2.2.1]; exact k)
theorem kz_irem (hx : p.tables.exec = Jvm.exec) (hb : c.code = cc) {a b : Int} (d : decode cc pc = .ok (.irem, 1)) (h : 0 ≤ a ∧ a ≤ 2147483647 ∧ rI b ∧ b ≠ 0)
    (k : W p l e R s m args below meth c H locs cells slots Q (F0 m (pc + 1) ls (.int (zI (a % b)) :: rest))) : W p l e R s m args below meth c H locs cells slots Q (F0 m pc ls (.int (zI b) :: .int (zI a) :: rest)) := lv_irem hx hb d (zI_ne0 h.2.2.1 h.2.2.2) (by rw [zI_rem h.1 h.2.1 h.2.2.1]; exact k)
theorem kz_i2c (hx : p.tables.exec = Jvm.exec) (hb : c.code = cc) {a : Int} (d : decode cc pc = .ok (.i2c, 1)) (h : 0 ≤ a ∧ a < 65536)
    (k : W p l e R s m args below meth c H locs cells slots Q (F0 m (pc + 1) ls (.int (zI a) :: rest))) : W p l e R s m args below meth c H locs cells slots Q (F0 m pc ls (.int (zI a) :: rest)) := lv_i2c hx hb d (zI_char h.1 h.2) k
theorem kz_i2l (hx : p.tables.exec = Jvm.exec) (hb : c.code = cc) {a : Int} (d : decode cc pc = .ok (.i2l, 1)) (h : rI a)
    (k : W p l e R s m args below meth c H locs cells slots Q (F0 m (pc + 1) ls (.long (zL a) :: rest))) : W p l e R s m args below meth c H locs cells slots Q (F0 m pc ls (.int (zI a) :: rest)) := lv_i2l hx hb d (zIL h) k
theorem kz_l2i (hx : p.tables.exec = Jvm.exec) (hb : c.code = cc) {a : Int} (d : decode cc pc = .ok (.l2i, 1)) 
    (k : W p l e R s m args below meth c H locs cells slots Q (F0 m (pc + 1) ls (.int (zI a) :: rest))) : W p l e R s m args below meth c H locs cells slots Q (F0 m pc ls (.long (zL a) :: rest)) := lv_l2i hx hb d (zLI a) k
theorem kz_iconst (hx : p.tables.exec = Jvm.exec) (hb : c.code = cc) {n : Int} (d : decode cc pc = .ok (.iconst n, 1)) 
    (k : W p l e R s m args below meth c H locs cells slots Q (F0 m (pc + 1) ls (.int (zI n) :: rest))) : W p l e R s m args below meth c H locs cells slots Q (F0 m pc ls (rest)) := lv_iconst hx hb d rfl k
theorem kz_bipush (hx : p.tables.exec = Jvm.exec) (hb : c.code = cc) {n : Int} (d : decode cc pc = .ok (.bipush n, 2)) (h : (Int8.ofInt n).toInt32 = zI n)
    (k : W p l e R s m args below meth c H locs cells slots Q (F0 m (pc + 2) ls (.int (zI n) :: rest))) : W p l e R s m args below meth c H locs cells slots Q (F0 m pc ls (rest)) := lv_bipush hx hb d h k
theorem kz_sipush (hx : p.tables.exec = Jvm.exec) (hb : c.code = cc) {n : Int} (d : decode cc pc = .ok (.sipush n, 3)) (h : (Int16.ofInt n).toInt32 = zI n)
    (k : W p l e R s m args below meth c H locs cells slots Q (F0 m (pc + 3) ls (.int (zI n) :: rest))) : W p l e R s m args below meth c H locs cells slots Q (F0 m pc ls (rest)) := lv_sipush hx hb d h k
theorem kz_lconst (hx : p.tables.exec = Jvm.exec) (hb : c.code = cc) {n : Fin 2} (d : decode cc pc = .ok (.lconst n, 1)) 
    (k : W p l e R s m args below meth c H locs cells slots Q (F0 m (pc + 1) ls (.long (zL (n : Nat)) :: rest))) : W p l e R s m args below meth c H locs cells slots Q (F0 m pc ls (rest)) := lv_lconst hx hb d (Int64.ofInt_eq_ofNat).symm k
theorem kz_icmp_eq (hx : p.tables.exec = Jvm.exec) (hb : c.code = cc) {a b : Int} {off : Int} {tgt : Nat} (d : decode cc pc = .ok (.if_icmp .eq off, 3)) (ht : (pc : Int) + off = (tgt : Int)) (ha : rI a) (hb2 : rI b)
    (kt : a = b → W p l e R s m args below meth c H locs cells slots Q (F0 m tgt ls rest)) (kf : ¬ (a = b) → W p l e R s m args below meth c H locs cells slots Q (F0 m (pc + 3) ls rest)) : W p l e R s m args below meth c H locs cells slots Q (F0 m pc ls (.int (zI b) :: .int (zI a) :: rest)) :=
  lv_icmp_eq hx hb d ht (fun h => kt ((zI_eq ha hb2).mp h)) (fun h => kf (fun h2 => h ((zI_eq ha hb2).mpr h2)))
theorem kz_if_eq (hx : p.tables.exec = Jvm.exec) (hb : c.code = cc) {a : Int} {off : Int} {tgt : Nat} (d : decode cc pc = .ok (.ifCond .eq off, 3)) (ht : (pc : Int) + off = (tgt : Int)) (ha : rI a)
    (kt : a = 0 → W p l e R s m args below meth c H locs cells slots Q (F0 m tgt ls rest)) (kf : ¬ (a = 0) → W p l e R s m args below meth c H locs cells slots Q (F0 m (pc + 3) ls rest)) : W p l e R s m args below meth c H locs cells slots Q (F0 m pc ls (.int (zI a) :: rest)) :=
  lv_if_eq hx hb d ht (fun h => kt ((zI_eq ha (show rI 0 by decide)).mp h)) (fun h => kf (fun h2 => h ((zI_eq ha (show rI 0 by decide)).mpr h2)))
theorem kz_icmp_lt (hx : p.tables.exec = Jvm.exec) (hb : c.code = cc) {a b : Int} {off : Int} {tgt : Nat} (d : decode cc pc = .ok (.if_icmp .lt off, 3)) (ht : (pc : Int) + off = (tgt : Int)) (ha : rI a) (hb2 : rI b)
    (kt : a < b → W p l e R s m args below meth c H locs cells slots Q (F0 m tgt ls rest)) (kf : ¬ (a < b) → W p l e R s m args below meth c H locs cells slots Q (F0 m (pc + 3) ls rest)) : W p l e R s m args below meth c H locs cells slots Q (F0 m pc ls (.int (zI b) :: .int (zI a) :: rest)) :=
  lv_icmp_lt hx hb d ht (fun h => kt ((zI_lt ha hb2).mp h)) (fun h => kf (fun h2 => h ((zI_lt ha hb2).mpr h2)))
theorem kz_if_lt (hx : p.tables.exec = Jvm.exec) (hb : c.code = cc) {a : Int} {off : Int} {tgt : Nat} (d : decode cc pc = .ok (.ifCond .lt off, 3)) (ht : (pc : Int) + off = (tgt : Int)) (ha : rI a)
    (kt : a < 0 → W p l e R s m args below meth c H locs cells slots Q (F0 m tgt ls rest)) (kf : ¬ (a < 0) → W p l e R s m args below meth c H locs cells slots Q (F0 m (pc + 3) ls rest)) : W p l e R s m args below meth c H locs cells slots Q (F0 m pc ls (.int (zI a) :: rest)) :=
  lv_if_lt hx hb d ht (fun h => kt ((zI_lt ha (show rI 0 by decide)).mp h)) (fun h => kf (fun h2 => h ((zI_lt ha (show rI 0 by decide)).mpr h2)))
theorem kz_icmp_ge (hx : p.tables.exec = Jvm.exec) (hb : c.code = cc) {a b : Int} {off : Int} {tgt : Nat} (d : decode cc pc = .ok (.if_icmp .ge off, 3)) (ht : (pc : Int) + off = (tgt : Int)) (ha : rI a) (hb2 : rI b)
    (kt : b ≤ a → W p l e R s m args below meth c H locs cells slots Q (F0 m tgt ls rest)) (kf : ¬ (b ≤ a) → W p l e R s m args below meth c H locs cells slots Q (F0 m (pc + 3) ls rest)) : W p l e R s m args below meth c H locs cells slots Q (F0 m pc ls (.int (zI b) :: .int (zI a) :: rest)) :=
  lv_icmp_ge hx hb d ht (fun h => kt ((zI_le hb2 ha).mp h)) (fun h => kf (fun h2 => h ((zI_le hb2 ha).mpr h2)))
theorem kz_if_ge (hx : p.tables.exec = Jvm.exec) (hb : c.code = cc) {a : Int} {off : Int} {tgt : Nat} (d : decode cc pc = .ok (.ifCond .ge off, 3)) (ht : (pc : Int) + off = (tgt : Int)) (ha : rI a)
    (kt : 0 ≤ a → W p l e R s m args below meth c H locs cells slots Q (F0 m tgt ls rest)) (kf : ¬ (0 ≤ a) → W p l e R s m args below meth c H locs cells slots Q (F0 m (pc + 3) ls rest)) : W p l e R s m args below meth c H locs cells slots Q (F0 m pc ls (.int (zI a) :: rest)) :=
  lv_if_ge hx hb d ht (fun h => kt ((zI_le (show rI 0 by decide) ha).mp h)) (fun h => kf (fun h2 => h ((zI_le (show rI 0 by decide) ha).mpr h2)))
theorem kz_icmp_gt (hx : p.tables.exec = Jvm.exec) (hb : c.code = cc) {a b : Int} {off : Int} {tgt : Nat} (d : decode cc pc = .ok (.if_icmp .gt off, 3)) (ht : (pc : Int) + off = (tgt : Int)) (ha : rI a) (hb2 : rI b)
    (kt : b < a → W p l e R s m args below meth c H locs cells slots Q (F0 m tgt ls rest)) (kf : ¬ (b < a) → W p l e R s m args below meth c H locs cells slots Q (F0 m (pc + 3) ls rest)) : W p l e R s m args below meth c H locs cells slots Q (F0 m pc ls (.int (zI b) :: .int (zI a) :: rest)) :=
  lv_icmp_gt hx hb d ht (fun h => kt ((zI_lt hb2 ha).mp h)) (fun h => kf (fun h2 => h ((zI_lt hb2 ha).mpr h2)))
theorem kz_if_gt (hx : p.tables.exec = Jvm.exec) (hb : c.code = cc) {a : Int} {off : Int} {tgt : Nat} (d : decode cc pc = .ok (.ifCond .gt off, 3)) (ht : (pc : Int) + off = (tgt : Int)) (ha : rI a)
    (kt : 0 < a → W p l e R s m args below meth c H locs cells slots Q (F0 m tgt ls rest)) (kf : ¬ (0 < a) → W p l e R s m args below meth c H locs cells slots Q (F0 m (pc + 3) ls rest)) : W p l e R s m args below meth c H locs cells slots Q (F0 m pc ls (.int (zI a) :: rest)) :=
  lv_if_gt hx hb d ht (fun h => kt ((zI_lt (show rI 0 by decide) ha).mp h)) (fun h => kf (fun h2 => h ((zI_lt (show rI 0 by decide) ha).mpr h2)))
theorem kz_icmp_le (hx : p.tables.exec = Jvm.exec) (hb : c.code = cc) {a b : Int} {off : Int} {tgt : Nat} (d : decode cc pc = .ok (.if_icmp .le off, 3)) (ht : (pc : Int) + off = (tgt : Int)) (ha : rI a) (hb2 : rI b)
    (kt : a ≤ b → W p l e R s m args below meth c H locs cells slots Q (F0 m tgt ls rest)) (kf : ¬ (a ≤ b) → W p l e R s m args below meth c H locs cells slots Q (F0 m (pc + 3) ls rest)) : W p l e R s m args below meth c H locs cells slots Q (F0 m pc ls (.int (zI b) :: .int (zI a) :: rest)) :=
  lv_icmp_le hx hb d ht (fun h => kt ((zI_le ha hb2).mp h)) (fun h => kf (fun h2 => h ((zI_le ha hb2).mpr h2)))
theorem kz_if_le (hx : p.tables.exec = Jvm.exec) (hb : c.code = cc) {a : Int} {off : Int} {tgt : Nat} (d : decode cc pc = .ok (.ifCond .le off, 3)) (ht : (pc : Int) + off = (tgt : Int)) (ha : rI a)
    (kt : a ≤ 0 → W p l e R s m args below meth c H locs cells slots Q (F0 m tgt ls rest)) (kf : ¬ (a ≤ 0) → W p l e R s m args below meth c H locs cells slots Q (F0 m (pc + 3) ls rest)) : W p l e R s m args below meth c H locs cells slots Q (F0 m pc ls (.int (zI a) :: rest)) :=
  lv_if_le hx hb d ht (fun h => kt ((zI_le ha (show rI 0 by decide)).mp h)) (fun h => kf (fun h2 => h ((zI_le ha (show rI 0 by decide)).mpr h2)))
theorem kz_icmp_ne (hx : p.tables.exec = Jvm.exec) (hb : c.code = cc) {a b : Int} {off : Int} {tgt : Nat} (d : decode cc pc = .ok (.if_icmp .ne off, 3)) (ht : (pc : Int) + off = (tgt : Int)) (ha : rI a) (hb2 : rI b)
    (kt : a ≠ b → W p l e R s m args below meth c H locs cells slots Q (F0 m tgt ls rest)) (kf : a = b → W p l e R s m args below meth c H locs cells slots Q (F0 m (pc + 3) ls rest)) : W p l e R s m args below meth c H locs cells slots Q (F0 m pc ls (.int (zI b) :: .int (zI a) :: rest)) :=
  lv_icmp_ne hx hb d ht (fun h => kt (fun h2 => h ((zI_eq ha hb2).mpr h2))) (fun h => kf ((zI_eq ha hb2).mp h))
theorem kz_if_ne (hx : p.tables.exec = Jvm.exec) (hb : c.code = cc) {a : Int} {off : Int} {tgt : Nat} (d : decode cc pc = .ok (.ifCond .ne off, 3)) (ht : (pc : Int) + off = (tgt : Int)) (ha : rI a)
    (kt : a ≠ 0 → W p l e R s m args below meth c H locs cells slots Q (F0 m tgt ls rest)) (kf : a = 0 → W p l e R s m args below meth c H locs cells slots Q (F0 m (pc + 3) ls rest)) : W p l e R s m args below meth c H locs cells slots Q (F0 m pc ls (.int (zI a) :: rest)) :=
  lv_if_ne hx hb d ht (fun h => kt (fun h2 => h ((zI_eq ha (show rI 0 by decide)).mpr h2))) (fun h => kf ((zI_eq ha (show rI 0 by decide)).mp h))
theorem kz_if0B (hx : p.tables.exec = Jvm.exec) (hb : c.code = cc) {B : Prop} [Decidable B] {off : Int} {tgt : Nat} (d : decode cc pc = .ok (.ifCond .eq off, 3)) (ht : (pc : Int) + off = (tgt : Int))
    (kt : ¬ B → W p l e R s m args below meth c H locs cells slots Q (F0 m tgt ls rest)) (kf : B → W p l e R s m args below meth c H locs cells slots Q (F0 m (pc + 3) ls rest)) : W p l e R s m args below meth c H locs cells slots Q (F0 m pc ls (.int (zI (b2 B)) :: rest)) :=
  kz_if_eq hx hb d ht (b2_r B) (fun h => kt (fun h2 => by rw [b2_t h2] at h; exact absurd h (by decide))) (fun h => kf (Decidable.byContradiction fun h2 => h (b2_f h2)))
theorem kz_if1B (hx : p.tables.exec = Jvm.exec) (hb : c.code = cc) {B : Prop} [Decidable B] {off : Int} {tgt : Nat} (d : decode cc pc = .ok (.ifCond .ne off, 3)) (ht : (pc : Int) + off = (tgt : Int))
    (kt : B → W p l e R s m args below meth c H locs cells slots Q (F0 m tgt ls rest)) (kf : ¬ B → W p l e R s m args below meth c H locs cells slots Q (F0 m (pc + 3) ls rest)) : W p l e R s m args below meth c H locs cells slots Q (F0 m pc ls (.int (zI (b2 B)) :: rest)) :=
  kz_if_ne hx hb d ht (b2_r B) (fun h => kt (Decidable.byContradiction fun h2 => h (b2_f h2))) (fun h => kf (fun h2 => by rw [b2_t h2] at h; exact absurd h (by decide)))
theorem kz_iinc (hx : p.tables.exec = Jvm.exec) (hb : c.code = cc) {i nL k : Nat} {n x : Int} {lv lv' : List (Nat × Value)} (d : decode cc pc = .ok (.iinc i n, 3)) (h : lv_has ls nL lv) (hk : lv[k]? = some (i, .int (zI x))) (hn : i < nL) (hl : (i, Value.int (zI (x + n))) :: lv.filter (fun q => !(q.1 == i) && !(q.1 + 1 == i && q.2.category == 2)) = lv')
    (kk : ∀ ls, lv_has ls nL lv' → W p l e R s m args below meth c H locs cells slots Q (F0 m (pc + 3) ls rest)) : W p l e R s m args below meth c H locs cells slots Q (F0 m pc ls rest) :=
  lv_iinc hx hb d h hk (zI_add x n) hn hl kk
theorem kz_lcmp (hx : p.tables.exec = Jvm.exec) (hb : c.code = cc) {a b : Int} (d : decode cc pc = .ok (.lcmp, 1)) (ha : rL a) (hb2 : rL b)
    (k : W p l e R s m args below meth c H locs cells slots Q (F0 m (pc + 1) ls (.int (zI (if a < b then -1 else if a = b then 0 else 1)) :: rest))) : W p l e R s m args below meth c H locs cells slots Q (F0 m pc ls (.long (zL b) :: .long (zL a) :: rest)) := by
  refine W.lcmp hx hb d ?_
  have e : lg_cmp (zL a) (zL b) = zI (if a < b then -1 else if a = b then 0 else 1) := by
    unfold lg_cmp
    by_cases h1 : b < a
    · rw [if_pos (show zL a > zL b from (zL_lt hb2 ha).mpr h1), if_neg (by omega), if_neg (by omega)]
      rfl
    · rw [if_neg (fun h => h1 ((zL_lt hb2 ha).mp h))]
      by_cases h2 : a = b
      · subst h2
        rw [if_pos rfl, if_neg (by omega), if_pos rfl]
        rfl
      · rw [if_neg (fun h => h2 (zL_inj ha hb2 h)), if_pos (by omega)]
        rfl
  rw [e]
  exact k
theorem kz_widen {g : JFrame} {k n : Nat} (h1 : cells ≤ k) (h2 : slots ≤ n) (kk : W p l e R s m args below meth c H locs k n Q g) : W p l e R s m args below meth c H locs cells slots Q g := W.widen h1 h2 kk
end KZW
section KZP
/-- worlds, up to order -/
theorem kz_Psub {D : va_G} {cl : List vw_C} {ws ws' : va_W} {H : Heap} (hP : va_P D cl ws H) (h : ∀ q ∈ ws', q ∈ ws) : va_P D cl ws' H := fun k q hk => by
  obtain ⟨i, hi⟩ := List.getElem?_of_mem (h q (List.mem_of_getElem? hk))
  exact hP i q hi
theorem kz_Dnd {A : Nat → Prop} {ws : va_W} : va_D A ws ↔ (ws.map (fun q => q.1)).Nodup ∧ ∀ q ∈ ws, A q.1 := by
  constructor
  · intro h
    refine ⟨?_, fun q hq => ?_⟩
    · refine List.pairwise_iff_getElem.mpr (fun i j hi hj hij he => ?_)
      rw [List.length_map] at hi hj
      rw [List.getElem_map, List.getElem_map] at he
      exact absurd (h.1 i j _ _ (List.getElem?_eq_getElem hi) (List.getElem?_eq_getElem hj) he) (by omega)
    · obtain ⟨i, hi⟩ := List.getElem?_of_mem hq
      exact h.2 i q hi
  · intro h
    refine ⟨fun i j x y hi hj he => ?_, fun k q hk => h.2 q (List.mem_of_getElem? hk)⟩
    have h1 : (ws.map (fun q => q.1))[i]? = some x.1 := by rw [List.getElem?_map, hi]; rfl
    have h2 : (ws.map (fun q => q.1))[j]? = some x.1 := by rw [List.getElem?_map, hj, he]; rfl
    have hl := (List.getElem?_eq_some_iff.mp h1).1
    exact (List.getElem?_inj hl h.1).mp (h1.trans h2.symm)
theorem kz_mv {A : Nat → Prop} {D : va_G} {cl : List vw_C} {ws ws' : va_W} {H : Heap} (hP : va_P D cl ws H) (hD : va_D A ws) (h : ws.Perm ws') : va_P D cl ws' H ∧ va_D A ws' := by
  refine ⟨kz_Psub hP (fun q hq => h.mem_iff.mpr hq), ?_⟩
  rw [kz_Dnd] at hD ⊢
  exact ⟨((h.map _).nodup_iff).mp hD.1, fun q hq => hD.2 q (h.mem_iff.mpr hq)⟩
theorem kz_takeR {α : Type} (ws : List α) : ∀ n, n ≤ ws.length → (List.range n).filterMap (fun i => ws[i]?) = ws.take n := by
  intro n
  induction n with
  | zero => intro _; rfl
  | succ n ih =>
    intro h
    rw [List.range_succ, List.filterMap_append, ih (by omega), List.take_succ]
    rw [List.filterMap_cons, List.filterMap_nil]
    have e : ws[n]? = some ws[n] := List.getElem?_eq_getElem (by omega)
    rw [e]
    rfl
/-- another order, by places: the first n cells in the order is, then the rest -/
theorem kz_re {ws ws' : va_W} (is : List Nat) (n : Nat) (hn : n ≤ ws.length) (hp : is.Perm (List.range n)) (hs : is.filterMap (fun i => ws[i]?) ++ ws.drop n = ws') : ws.Perm ws' := by
  rw [← hs]
  have h1 : (is.filterMap (fun i => ws[i]?)).Perm (ws.take n) := by
    rw [← kz_takeR ws n hn]
    exact hp.filterMap _
  have h2 := h1.symm.append_right (ws.drop n)
  rwa [List.take_append_drop] at h2
theorem kz_Dsub {A : Nat → Prop} {w1 w2 : va_W} (h : va_D A (w1 ++ w2)) : va_D A w1 ∧ va_D A w2 ∧ ∀ p ∈ w1, ∀ q ∈ w2, p.1 ≠ q.1 := by
  rw [kz_Dnd] at h
  obtain ⟨h1, h2⟩ := h
  rw [List.map_append, List.nodup_append] at h1
  refine ⟨kz_Dnd.mpr ⟨h1.1, fun q hq => h2 q (List.mem_append_left _ hq)⟩, kz_Dnd.mpr ⟨h1.2.1, fun q hq => h2 q (List.mem_append_right _ hq)⟩, fun p hp q hq => ?_⟩
  exact h1.2.2 _ (List.mem_map.mpr ⟨p, hp, rfl⟩) _ (List.mem_map.mpr ⟨q, hq, rfl⟩)
theorem kz_Dapp {A : Nat → Prop} {w1 w2 : va_W} (h1 : va_D A w1) (h2 : va_D A w2) (h3 : ∀ p ∈ w1, ∀ q ∈ w2, p.1 ≠ q.1) : va_D A (w1 ++ w2) := by
  rw [kz_Dnd] at h1 h2 ⊢
  refine ⟨?_, fun q hq => (List.mem_append.mp hq).elim (h1.2 q) (h2.2 q)⟩
  rw [List.map_append, List.nodup_append]
  refine ⟨h1.1, h2.1, fun a ha b hb => ?_⟩
  obtain ⟨p, hp, rfl⟩ := List.mem_map.mp ha
  obtain ⟨q, hq, rfl⟩ := List.mem_map.mp hb
  exact h3 p hp q hq
theorem kz_Pmem {D : va_G} {cl : List vw_C} {ws : va_W} {H : Heap} (hP : va_P D cl ws H) {q : Nat × va_E} (hq : q ∈ ws) : va_at D cl q H := by
  obtain ⟨i, hi⟩ := List.getElem?_of_mem hq
  exact hP i q hi
theorem kz_Pof {D : va_G} {cl : List vw_C} {ws : va_W} {H : Heap} (h : ∀ q ∈ ws, va_at D cl q H) : va_P D cl ws H := fun _ q hk => h q (List.mem_of_getElem? hk)
theorem kz_Amem {ws : va_W} {sz a : Nat} : va_A ws sz a ↔ (∃ q ∈ ws, q.1 = a) ∨ sz ≤ a := by
  constructor
  · rintro (⟨k, e, h⟩ | h)
    · exact Or.inl ⟨_, List.mem_of_getElem? h, rfl⟩
    · exact Or.inr h
  · rintro (⟨q, h, rfl⟩ | h)
    · obtain ⟨i, hi⟩ := List.getElem?_of_mem h
      exact va_A.in hi
    · exact Or.inr h
end KZP
section KZC
abbrev rmk (f c s l : Nat) : Room := { frames := f, cells := c, slots := s, locals := l }
abbrev KE : Type := State × Nat × va_G × (Nat → ClassId)
abbrev kN (E : KE) : Nat := E.1.heap.size
abbrev kD (E : KE) : va_G := E.2.2.1
abbrev kA (E : KE) : Nat → ClassId := E.2.2.2
abbrev kty (E : KE) : List (ClassId × FieldType) := [(kA E 0, .int), (kA E 1, .long), (kA E 2, .byte), (kA E 3, .char), (kA E 4, .double), (kA E 5, .object "java/lang/Object"), (kA E 6, .object "java/lang/String")]
/-- what holds all through a run: old cells stay, the tables' words held at its start, the classes are known -/
def Gl (l : Launch) (E : KE) (U : State) : Prop :=
  kN E ≤ U.heap.size ∧ (∀ q : Nat, q < kN E → U.heap[q]? = E.1.heap[q]?) ∧ E.1.WarmedH U.vm ∧ va_K (kD E) kcl (kty E) E.1 ∧ (∀ w ∈ lw_tbl, w.before #[Value.ref E.2.1] E.1 = true) ∧ (Jvm.Cond.and given_1 narrow_1).before #[Value.ref E.2.1] E.1 = true ∧ l.flags = flags0
theorem Gl.K {l : Launch} {E : KE} {U : State} (h : Gl l E U) : va_K (kD E) kcl (kty E) U := va_K.moved h.2.2.1.alike h.2.2.2.1
theorem Gl.to {l : Launch} {E : KE} {s U : State} {A : Nat → Prop} {H : Heap} {locs : List Loc} (h : Gl l E s) (hS : va_S A s.heap H locs) (hAN : ∀ q, A q → kN E ≤ q) (hU : U.heap = H) (hW : s.WarmedH U.vm) : Gl l E U := by
  obtain ⟨h1, h2, h3, h4, h5, h6, h7⟩ := h
  refine ⟨by rw [hU]; exact Nat.le_trans h1 hS.1, fun q hq => ?_, State.WarmedH.trans h3 hW, h4, h5, h6, h7⟩
  rw [hU, hS.2.1 q (by omega) (fun hA => by have := hAN q hA; omega)]
  exact h2 q hq
/-- a contract's start: the cells ws that it may write, the cells wr that it reads alone -/
def kP (l : Launch) (E : KE) (sz : Nat) (ws wr : va_W) (U : State) : Prop :=
  U.heap.size = sz ∧ Gl l E U ∧ va_P (kD E) kcl ws U.heap ∧ va_D (fun q => kN E ≤ q) ws ∧ va_P (kD E) kcl wr U.heap ∧ ∀ p ∈ wr, ∀ q ∈ ws, p.1 ≠ q.1
/-- a contract's end -/
def kQ {S : Type} (E : KE) (post : S → Prop) (v : S → Option Value) (w : S → va_W) (A : Nat → Prop) : Array Value → State → Outcome → State → Prop := fun _ st oc t =>
  (∃ u : S, oc = .returned (v u) ∧ post u ∧ va_P (kD E) kcl (w u) t.heap ∧ va_D A (w u)) ∧ va_F A st t
theorem kz_start {l : Launch} {y : MethodName} {cc : ByteArray} {nL : Nat} {ret : Option FieldType} {rm : Room} {E : KE} {sz : Nat} {av : List Value} {ws wr : va_W} {mc ms : Nat} {Qf : (Nat → Prop) → Array Value → State → Outcome → State → Prop} (hy : plainName y.cls = true) (hl : (lg_sl av).length ≤ nL)
    (body : ∀ (p : Program) (e : Env) (s : State) (m : MethodId) (args : Array Value) (below : List Frame) (meth : Method) (c : Code) (A : Nat → Prop) (ls : Array Slot) (Q : State → Prop) (H : Heap) (locs : List Loc), p.tables.exec = Jvm.exec → c.code = cc → meth.sig.returnType = ret → meth.locks = false → c.maxLocals = nL → (∀ w ∈ lw_all, w.before args s = true) → s.vm.findClass y.cls = some m.cls → meth.name = y.name → Gl l E s → va_K (kD E) kcl (kty E) s → (∀ q : Nat, s.heap.size ≤ q → A q) → (∀ q, A q → kN E ≤ q) → va_P (kD E) kcl ws H → va_D A ws → va_P (kD E) kcl wr s.heap → (∀ q ∈ wr, ¬ A q.1) → va_S A s.heap H locs → Q = MQ below (Qf A) args s mc ms A → lv_has ls nL (lv_args 0 av) →
      W p l e rm s m args below meth c H locs 0 0 Q (F0 m 0 ls [])) :
    Met l y (ws_ y cc nL ret) rm (va_Pc av (kP l E sz ws wr)) (Qf (va_A ws sz)) mc ms (va_A ws sz) := by
  refine Met.ofW (cc := cc) (maxL := nL) (ret := ret) hy rfl ?_
  intro p e s m args below meth c s₁ B hml hv
  obtain ⟨hav, hsz, hG, hP, hD0, hR, hRA⟩ := hv
  subst hav
  subst hsz
  have hts := atoms_spec (ws := ws_ y cc nL ret) B.pre
  have hts : ∀ w ∈ lw_all, w.before _ s = true := fun w h => hts w (List.mem_cons_of_mem _ h)
  rw [lg_entry_eq]
  refine body p e s m _ below meth c (va_A ws s.heap.size) _ _ s.heap [] B.exec B.bytes B.returns B.notSynchronized hml hts (findClass_of_methodNamed B.named) (name_of_methodNamed B.named B.method).1 hG hG.K (fun q h => Or.inr h) (fun q h => ?_) hP hD0.self hR (fun q hq hA => ?_) va_S.rf rfl (lv_entry av hl)
  · rcases kz_Amem.mp h with ⟨x, hx, rfl⟩ | h
    · obtain ⟨i, hi⟩ := List.getElem?_of_mem hx
      exact hD0.2 i x hi
    · exact Nat.le_trans hG.1 h
  · rcases kz_Amem.mp hA with ⟨x, hx, he⟩ | h
    · exact hRA q hq x hx he.symm
    · have := (kz_Pmem hR hq).lt
      omega
theorem kz_nilP {D : va_G} {cl : List vw_C} {H : Heap} : va_P D cl [] H := fun _ _ h => by simp at h
theorem kz_nilA {w : va_W} : ∀ p ∈ ([] : va_W), ∀ q ∈ w, p.1 ≠ q.1 := fun _ h => by simp at h
/-- what is read alone is still there -/
theorem kz_ro {E : KE} {A : Nat → Prop} {wr : va_W} {H0 H : Heap} {locs : List Loc} (hR : va_P (kD E) kcl wr H0) (hRA : ∀ q ∈ wr, ¬ A q.1) (hS : va_S A H0 H locs) : va_P (kD E) kcl wr H :=
  kz_Pof fun q hq => (kz_Pmem hR hq).kept (hS.2.1 q.1 (kz_Pmem hR hq).lt (hRA q hq))
theorem kz_pre {l : Launch} {E : KE} {s : State} {A : Nat → Prop} {H : Heap} {locs : List Loc} {wc wx wr : va_W} {av : List Value} (hG : Gl l E s) (hS : va_S A s.heap H locs) (hAN : ∀ q, A q → kN E ≤ q) (hP : va_P (kD E) kcl (wc ++ wx) H) (hD : va_D A (wc ++ wx)) (hR : va_P (kD E) kcl wr H) (hRA : ∀ p ∈ wr, ∀ q ∈ wc, p.1 ≠ q.1) : PreS s H (va_Pc av (kP l E H.size wc wr)) av :=
  ⟨fun _ _ _ _ h => h, fun U hU hW => ⟨rfl, by rw [hU], hG.to hS hAN hU hW, by rw [hU]; exact kz_Psub hP (fun q hq => List.mem_append_left _ hq), (kz_Dsub hD).1.weaken (fun _ q _ h => hAN q.1 h), by rw [hU]; exact hR, hRA⟩⟩
theorem kz_preV {l : Launch} {E : KE} {s : State} {A : Nat → Prop} {H : Heap} {locs : List Loc} {wc wx wr : va_W} {b : Nat} {As : List Value} {C : String} (hr : ∃ cell : Cell, H[b]? = some cell ∧ cell.vm.isStatics = false ∧ s.vm.findClass C = some cell.cls) (hG : Gl l E s) (hS : va_S A s.heap H locs) (hAN : ∀ q, A q → kN E ≤ q) (hP : va_P (kD E) kcl (wc ++ wx) H) (hD : va_D A (wc ++ wx)) (hR : va_P (kD E) kcl wr H) (hRA : ∀ p ∈ wr, ∀ q ∈ wc, p.1 ≠ q.1) : PreV s H C b (va_Pc (.ref b :: As) (kP l E H.size wc wr)) As :=
  ⟨fun _ _ _ _ h => h, hr, (kz_pre (av := .ref b :: As) hG hS hAN hP hD hR hRA).2⟩
theorem kz_frA {A : Nat → Prop} {E : KE} {wc wx : va_W} {H0 H : Heap} {locs : List Loc} (hD : va_D A (wc ++ wx)) (hS : va_S A H0 H locs) (hA : ∀ q, H0.size ≤ q → A q) : ∀ q, va_A wc H.size q → A q := by
  intro q h
  rcases kz_Amem.mp h with ⟨x, hx, rfl⟩ | h
  · obtain ⟨i, hi⟩ := List.getElem?_of_mem hx
    exact (kz_Dsub hD).1.2 i x hi
  · exact hA q (Nat.le_trans hS.1 h)
theorem kz_join {A : Nat → Prop} {E : KE} {wc wx w1 : va_W} {H H1 : Heap} {locs : List Loc} {H0 : Heap} (hP : va_P (kD E) kcl (wc ++ wx) H) (hD : va_D A (wc ++ wx)) (hS : va_S A H0 H locs) (hA : ∀ q, H0.size ≤ q → A q) (hk : ∀ q : Nat, q < H.size → ¬ va_A wc H.size q → H1[q]? = H[q]?) (hP1 : va_P (kD E) kcl w1 H1) (hD1 : va_D (va_A wc H.size) w1) : va_P (kD E) kcl (w1 ++ wx) H1 ∧ va_D A (w1 ++ wx) := by
  have hx : ∀ q ∈ wx, ¬ va_A wc H.size q.1 := fun q hq h => by
    rcases kz_Amem.mp h with ⟨x, hx, he⟩ | h
    · exact (kz_Dsub hD).2.2 x hx q hq he
    · have := (kz_Pmem hP (List.mem_append_right _ hq)).lt
      omega
  refine ⟨kz_Pof fun q hq => ?_, kz_Dapp (hD1.weaken (fun _ q _ h => kz_frA (E := E) hD hS hA q.1 h)) (kz_Dsub hD).2.1 (fun p hp q hq he => ?_)⟩
  · rcases List.mem_append.mp hq with h | h
    · exact kz_Pmem hP1 h
    · have h2 := kz_Pmem hP (List.mem_append_right _ h)
      exact h2.kept (hk q.1 h2.lt (hx q h))
  · refine hx q hq ?_
    rw [← he]
    obtain ⟨i, hi⟩ := List.getElem?_of_mem hp
    exact hD1.2 i p hi
theorem kz_back {S : Type} {p : Program} {l : Launch} {e : Env} {R : Room} {s : State} {m : MethodId} {args : Array Value} {below : List Frame} {meth : Method} {c : Code} {H : Heap} {locs : List Loc} {cells slots mc ms : Nat} {Q : State → Prop} {pc : Nat} {ls : Array Slot} {rest st0 : List Value} {a : Array Value} {A : Nat → Prop} {E : KE} {wc wx : va_W} {post : S → Prop} {v : S → Option Value} {w : S → va_W}
    (hr : va_Run p l e R s m args below meth c H locs cells slots mc ms (F0 m pc ls st0) rest (kQ E post v w (va_A wc H.size) a) (va_A wc H.size)) (hP : va_P (kD E) kcl (wc ++ wx) H) (hD : va_D A (wc ++ wx)) (hS : va_S A s.heap H locs) (hA : ∀ q, s.heap.size ≤ q → A q)
    (kk : ∀ (u : S) (H1 : Heap) (locs1 : List Loc), post u → va_P (kD E) kcl (w u ++ wx) H1 → va_D A (w u ++ wx) → va_S A s.heap H1 locs1 → H.size ≤ H1.size → (∀ q : Nat, q < H.size → ¬ va_A wc H.size q → H1[q]? = H[q]?) → W p l e R s m args below meth c H1 locs1 (cells + mc) (slots + ms) Q (F0 m (pc + 3) ls ((v u).toList ++ rest))) : W p l e R s m args below meth c H locs cells slots Q (F0 m pc ls st0) := by
  intro T hT X
  obtain ⟨v', st₀, t, T', L, h0, X', hL, e1, e2, ⟨⟨u, hv, hp, hP1, hD1⟩, hz, hk⟩, st⟩ := hr T hT X
  cases hv
  rw [h0] at hz hk
  have hF := kz_frA (E := E) hD hS hA
  have hk' : ∀ q : Nat, q < H.size → ¬ va_A wc H.size q → T'.heap[q]? = H[q]? := fun q h1 h2 => by rw [e1]; exact hk q h1 h2
  obtain ⟨hP2, hD2⟩ := kz_join hP hD hS hA hk' (by rw [e1]; exact hP1) hD1
  obtain ⟨t2, a1, b1⟩ := kk u T'.heap (locs ++ L) hp hP2 hD2 ⟨Nat.le_trans hS.1 (by rw [e1]; exact hz), fun q h1 h2 => by rw [hk' q (Nat.lt_of_lt_of_le h1 hS.1) (fun z => h2 (hF q z))]; exact hS.2.1 q h1 h2, fun q hq => by
      rcases List.mem_append.mp hq with h | h
      · exact hS.2.2 q h
      · exact hF _ (hL q h)⟩ (by rw [e1]; exact hz) hk' T' rfl X'
  exact ⟨t2, st t2 a1, b1⟩
theorem kz_backM {S : Type} {p : Program} {l : Launch} {e : Env} {R : Room} {s : State} {m : MethodId} {args : Array Value} {below : List Frame} {meth : Method} {c : Code} {H : Heap} {locs : List Loc} {cells slots mc ms : Nat} {Q : State → Prop} {pc : Nat} {ls : Array Slot} {rest st0 : List Value} {a : Array Value} {A : Nat → Prop} {E : KE} {wc : va_W} {post : S → Prop} {v : S → Option Value} {w : S → va_W}
    (hr : va_Run p l e R s m args below meth c H locs cells slots mc ms (F0 m pc ls st0) rest (kQ E post v w (va_A wc H.size) a) (va_A wc H.size)) (hP : va_P (kD E) kcl wc H) (hD : va_D A wc) (hS : va_S A s.heap H locs) (hA : ∀ q, s.heap.size ≤ q → A q)
    (kk : ∀ (u : S) (H1 : Heap) (locs1 : List Loc), post u → va_P (kD E) kcl (w u) H1 → va_D A (w u) → va_S A s.heap H1 locs1 → H.size ≤ H1.size → (∀ q : Nat, q < H.size → ¬ va_A wc H.size q → H1[q]? = H[q]?) → W p l e R s m args below meth c H1 locs1 (cells + mc) (slots + ms) Q (F0 m (pc + 3) ls ((v u).toList ++ rest))) : W p l e R s m args below meth c H locs cells slots Q (F0 m pc ls st0) :=
  kz_back (wx := []) hr (by rw [List.append_nil]; exact hP) (by rw [List.append_nil]; exact hD) hS hA (fun u H1 locs1 h1 h2 h3 h4 h5 h6 => by rw [List.append_nil] at h2 h3; exact kk u H1 locs1 h1 h2 h3 h4 h5 h6)
theorem kz_preM {l : Launch} {E : KE} {s : State} {A : Nat → Prop} {H : Heap} {locs : List Loc} {wc wr : va_W} {av : List Value} (hG : Gl l E s) (hS : va_S A s.heap H locs) (hAN : ∀ q, A q → kN E ≤ q) (hP : va_P (kD E) kcl wc H) (hD : va_D A wc) (hR : va_P (kD E) kcl wr H) (hRA : ∀ p ∈ wr, ∀ q ∈ wc, p.1 ≠ q.1) : PreS s H (va_Pc av (kP l E H.size wc wr)) av :=
  kz_pre (wx := []) hG hS hAN (by rw [List.append_nil]; exact hP) (by rw [List.append_nil]; exact hD) hR hRA
theorem kz_preVM {l : Launch} {E : KE} {s : State} {A : Nat → Prop} {H : Heap} {locs : List Loc} {wc wr : va_W} {b : Nat} {As : List Value} {C : String} (hr : ∃ cell : Cell, H[b]? = some cell ∧ cell.vm.isStatics = false ∧ s.vm.findClass C = some cell.cls) (hG : Gl l E s) (hS : va_S A s.heap H locs) (hAN : ∀ q, A q → kN E ≤ q) (hP : va_P (kD E) kcl wc H) (hD : va_D A wc) (hR : va_P (kD E) kcl wr H) (hRA : ∀ p ∈ wr, ∀ q ∈ wc, p.1 ≠ q.1) : PreV s H C b (va_Pc (.ref b :: As) (kP l E H.size wc wr)) As :=
  kz_preV (wx := []) hr hG hS hAN (by rw [List.append_nil]; exact hP) (by rw [List.append_nil]; exact hD) hR hRA
end KZC
