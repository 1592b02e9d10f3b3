/-! STRINGS: what is read of a String (Latin-1), the claim's literals, statics of whole numbers -/
/-- a String at a, its bytes at v: n letters f -/
def StrR (a v n : Nat) (f : Int → Int) (U : State) : Prop :=
  va_O "java/lang/String" a (fun _ => False) U U.heap ∧ va_OF "java/lang/String" "coder" "B" (.int 0) a (fun _ => False) U U.heap ∧ va_OF "java/lang/String" "value" "[B" (.ref v) a (fun _ => False) U U.heap ∧ va_T .byte v n (fun j => .int (zR f j)) (fun _ => False) U U.heap
theorem va_O.at {nm : String} {a : Nat} {A B : Nat → Prop} {u U : State} {H H1 : Heap} (hvm : u.vm.Alike U.vm) (h : va_O nm a A u H) (hq : H1[a]? = H[a]?) (hB : ¬ B a) : va_O nm a B U H1 := by
  obtain ⟨cell, h1, h2, h3, -⟩ := va_O.moved hvm h
  exact ⟨cell, by rw [hq]; exact h1, h2, h3, hB⟩
theorem va_OF.at {o n d : String} {v : Value} {a : Nat} {A B : Nat → Prop} {u U : State} {H H1 : Heap} (hvm : u.vm.Alike U.vm) (h : va_OF o n d v a A u H) (hq : H1[a]? = H[a]?) (hB : ¬ B a) : va_OF o n d v a B U H1 := by
  obtain ⟨cf, k, i, f, cell, h1, h2, h3, h4, h5, -⟩ := va_OF.moved hvm h
  exact ⟨cf, k, i, f, cell, h1, h2, by rw [hq]; exact h3, h4, h5, hB⟩
theorem va_T.at {ty : FieldType} {a N : Nat} {f : Nat → Value} {A B : Nat → Prop} {u U : State} {H H1 : Heap} (hvm : u.vm.Alike U.vm) (h : va_T ty a N f A u H) (hq : H1[a]? = H[a]?) (hB : ¬ B a) : va_T ty a N f B U H1 := by
  obtain ⟨cell, h1, h2, h3, h4, h5, h6, -⟩ := va_T.moved hvm h
  exact ⟨cell, by rw [hq]; exact h1, h2, h3, h4, h5, h6, hB⟩
theorem va_Z.at {C n d : String} {v : Value} {A B : Nat → Prop} {u U : State} {H H1 : Heap} (hvm : u.vm.Alike U.vm) (h : va_Z C n d v A u H) (hq : ∀ q, q < H.size → ¬ A q → H1[q]? = H[q]?) (hB : ∀ q, B q → A q) : va_Z C n d v B U H1 := va_Z.narrow (va_Z.kept (va_Z.moved hvm h) hq) hB
theorem StrR.lt {a v n : Nat} {f : Int → Int} {U : State} (h : StrR a v n f U) : a < U.heap.size ∧ v < U.heap.size := by
  obtain ⟨⟨c1, h1, -⟩, -, -, ⟨c2, h2, -⟩⟩ := h
  exact ⟨(Array.getElem?_eq_some_iff.mp h1).1, (Array.getElem?_eq_some_iff.mp h2).1⟩
theorem StrR.to {a v n : Nat} {f : Int → Int} {u U : State} (h : StrR a v n f u) (hvm : u.vm.Alike U.vm) (ha : U.heap[a]? = u.heap[a]?) (hv : U.heap[v]? = u.heap[v]?) : StrR a v n f U :=
  ⟨h.1.at hvm ha id, h.2.1.at hvm ha id, h.2.2.1.at hvm ha id, h.2.2.2.at hvm hv id⟩
/-- still there behind steps that write in A alone -/
theorem StrR.on {a v n : Nat} {f : Int → Int} {s U : State} {A : Nat → Prop} {H : Heap} {locs : List Loc} (h : StrR a v n f s) (hS : va_S A s.heap H locs) (ha : ¬ A a) (hv : ¬ A v) (hU : U.heap = H) (hW : s.WarmedH U.vm) : StrR a v n f U :=
  h.to hW.alike (by rw [hU]; exact hS.2.1 a h.lt.1 ha) (by rw [hU]; exact hS.2.1 v h.lt.2 hv)
theorem Gl.Z {l : Launch} {E : KE} {s : State} {A : Nat → Prop} (hG : Gl l E s) (hAN : ∀ q, A q → kN E ≤ q) {C n d : String} {z : Int32} (h1 : Cond.laysStatic C n d ∈ lw_tbl) (h2 : Cond.initialized C ∈ lw_tbl) (h3 : Cond.eq (.static C n d) (.int z) ∈ flatC (Jvm.Cond.and given_1 narrow_1)) : va_Z C n d (.int z) A s s.heap := by
  obtain ⟨g1, g2, g3, -, g5, g6, -⟩ := hG
  have h := va_Zof (A := fun q => kN E ≤ q) (g5 _ h1) (g5 _ h2) (va_eqi (flat_of_before _ g6 _ h3)) (fun a ha => by show ¬ kN E ≤ a; have : a < kN E := ha; omega)
  exact h.at g3.alike (fun q hq _ => g2 q hq) hAN
def litA (E : KE) (own : String) (k : Nat) : Nat := match (Term.string own k).eval #[Value.ref E.2.1] E.1 none [] E.1 with
  | some (.ref a) => a
  | _ => 0
def litV (E : KE) (own : String) (k : Nat) : Nat := match (Term.field (.string own k) "java/lang/String" "value" "[B").eval #[Value.ref E.2.1] E.1 none [] E.1 with
  | some (.ref a) => a
  | _ => 0
def txF (l : List Int) : Int → Int := fun j => l.getD j.toNat 0

def Lit (E : KE) (own : String) (k : Nat) (l : List Int) (h : Int) (U : State) : Prop :=
  StrR (litA E own k) (litV E own k) l.length (txF l) U ∧ va_OF "java/lang/String" "hash" "I" (.int (zI h)) (litA E own k) (fun _ => False) U U.heap ∧ litA E own k < kN E ∧ litV E own k < kN E ∧ (Term.string own k).eval #[Value.ref E.2.1] E.1 none [] E.1 = some (.ref (litA E own k))
theorem Gl.lit {l : Launch} {E : KE} {s : State} (hG : Gl l E s) {own : String} {k : Nat} {tx : List Int} {h : Int} (hl : tx.length < 2147483648)
    (c1 : Cond.exactly (.string own k) "java/lang/String" ∈ flatC (Jvm.Cond.and given_1 narrow_1)) (c2 : Cond.eq (.field (.string own k) "java/lang/String" "coder" "B") (.int 0) ∈ flatC (Jvm.Cond.and given_1 narrow_1))
    (c3 : Cond.arrayOf (.field (.string own k) "java/lang/String" "value" "[B") .byte ∈ flatC (Jvm.Cond.and given_1 narrow_1)) (c4 : Cond.eq (.length (.field (.string own k) "java/lang/String" "value" "[B")) (.int (Int32.ofNat tx.length)) ∈ flatC (Jvm.Cond.and given_1 narrow_1))
    (c5 : ∀ j : Nat, j < tx.length → Cond.eq (.elem (.field (.string own k) "java/lang/String" "value" "[B") (.int (Int32.ofNat j))) (.int (zR (txF tx) j)) ∈ flatC (Jvm.Cond.and given_1 narrow_1)) (c6 : Cond.eq (.field (.string own k) "java/lang/String" "hash" "I") (.int (zI h)) ∈ flatC (Jvm.Cond.and given_1 narrow_1)) : Lit E own k tx h s := by
  obtain ⟨g1, g2, g3, -, g5, g6, -⟩ := hG
  have hf := flat_of_before _ g6
  have hA : ∀ a : Nat, a < E.1.heap.size → ¬ (fun _ => False) a := fun _ _ z => z
  obtain ⟨a, cl, cA, kA0, q1, q2, q3, q4, q5, q6, -⟩ := Cond.exactly_spec (hf _ c1)
  obtain ⟨t, ht, hT⟩ := va_Tof (f := fun j => .int (zR (txF tx) j)) (A := fun _ => False) hl (hf _ c3) (va_eqt (hf _ c4)) (fun j hj => va_eqt (hf _ (c5 j hj))) hA
  have ea : litA E own k = a := by unfold litA; rw [q1]
  have ev : litV E own k = t := by unfold litV; rw [ht]
  have la : a < kN E := (Array.getElem?_eq_some_iff.mp q3).1
  have lv : t < kN E := by obtain ⟨c0, h0, -⟩ := hT; exact (Array.getElem?_eq_some_iff.mp h0).1
  have H : StrR a t tx.length (txF tx) E.1 := ⟨⟨cA, q3, q5, by rw [q6]; exact q2, id⟩, vk_OFof q1 (va_eqt (hf _ c2)) hA, vk_OFof q1 ht hA, hT⟩
  have Hh : va_OF "java/lang/String" "hash" "I" (.int (zI h)) a (fun _ => False) E.1 E.1.heap := vk_OFof q1 (va_eqt (hf _ c6)) hA
  unfold Lit
  rw [ea, ev]
  exact ⟨H.to g3.alike (g2 a la) (g2 t lv), Hh.at g3.alike (g2 a la) id, la, lv, q1⟩
/-- a literal of the pool of 'own', where it is one with that of (own', k') -/
theorem Gl.ldc {l : Launch} {E : KE} {s : State} (hG : Gl l E s) {own own' tx : String} {k k' : Nat} {tl : List Int} {h : Int} (hL : Lit E own' k' tl h s) (c1 : Cond.stringRef own k tx ∈ lw_tbl) (c2 : (own = own' ∧ k = k') ∨ Cond.eq (.string own k) (.string own' k') ∈ flatC (Jvm.Cond.and given_1 narrow_1) ∨ Cond.eq (.string own' k') (.string own k) ∈ flatC (Jvm.Cond.and given_1 narrow_1)) : vk_R own k tx (litA E own' k') s := by
  obtain ⟨g1, g2, g3, -, g5, g6, -⟩ := hG
  have hf := flat_of_before _ g6
  have e' := hL.2.2.2.2
  have e : (Term.string own k).eval #[Value.ref E.2.1] E.1 none [] E.1 = some (.ref (litA E own' k')) := by
    rcases c2 with ⟨rfl, rfl⟩ | c2 | c2
    · exact e'
    · exact va_eqv (hf _ c2) e'
    · exact va_eqR (hf _ c2) e'
  exact vk_R.warm g3 (vk_R.of (g5 _ c1) e)
theorem Gl.lit_stone {l : Launch} {E : KE} {s : State} (hG : Gl l E s) : Lit E "SkipSchool" 117 [115, 116, 111, 110, 101] (109770853) s := by
  refine hG.lit (by decide) (List.mem_of_getElem? (i := 890) (by decide +kernel)) (List.mem_of_getElem? (i := 891) (by decide +kernel)) (List.mem_of_getElem? (i := 892) (by decide +kernel)) (List.mem_of_getElem? (i := 893) (by decide +kernel)) (fun j hj => ?_) (List.mem_of_getElem? (i := 899) (by decide +kernel))
  rcases (show j = 0 ∨ j = 1 ∨ j = 2 ∨ j = 3 ∨ j = 4 by simp at hj; omega) with rfl | rfl | rfl | rfl | rfl
  · exact (List.mem_of_getElem? (i := 894) (by decide +kernel))
  · exact (List.mem_of_getElem? (i := 895) (by decide +kernel))
  · exact (List.mem_of_getElem? (i := 896) (by decide +kernel))
  · exact (List.mem_of_getElem? (i := 897) (by decide +kernel))
  · exact (List.mem_of_getElem? (i := 898) (by decide +kernel))
theorem Gl.lit_river {l : Launch} {E : KE} {s : State} (hG : Gl l E s) : Lit E "SkipSchool" 123 [114, 105, 118, 101, 114] (108526092) s := by
  refine hG.lit (by decide) (List.mem_of_getElem? (i := 902) (by decide +kernel)) (List.mem_of_getElem? (i := 903) (by decide +kernel)) (List.mem_of_getElem? (i := 904) (by decide +kernel)) (List.mem_of_getElem? (i := 905) (by decide +kernel)) (fun j hj => ?_) (List.mem_of_getElem? (i := 911) (by decide +kernel))
  rcases (show j = 0 ∨ j = 1 ∨ j = 2 ∨ j = 3 ∨ j = 4 by simp at hj; omega) with rfl | rfl | rfl | rfl | rfl
  · exact (List.mem_of_getElem? (i := 906) (by decide +kernel))
  · exact (List.mem_of_getElem? (i := 907) (by decide +kernel))
  · exact (List.mem_of_getElem? (i := 908) (by decide +kernel))
  · exact (List.mem_of_getElem? (i := 909) (by decide +kernel))
  · exact (List.mem_of_getElem? (i := 910) (by decide +kernel))
theorem Gl.lit_calm {l : Launch} {E : KE} {s : State} (hG : Gl l E s) : Lit E "SkipSchool" 125 [99, 97, 108, 109] (3045983) s := by
  refine hG.lit (by decide) (List.mem_of_getElem? (i := 914) (by decide +kernel)) (List.mem_of_getElem? (i := 915) (by decide +kernel)) (List.mem_of_getElem? (i := 916) (by decide +kernel)) (List.mem_of_getElem? (i := 917) (by decide +kernel)) (fun j hj => ?_) (List.mem_of_getElem? (i := 922) (by decide +kernel))
  rcases (show j = 0 ∨ j = 1 ∨ j = 2 ∨ j = 3 by simp at hj; omega) with rfl | rfl | rfl | rfl
  · exact (List.mem_of_getElem? (i := 918) (by decide +kernel))
  · exact (List.mem_of_getElem? (i := 919) (by decide +kernel))
  · exact (List.mem_of_getElem? (i := 920) (by decide +kernel))
  · exact (List.mem_of_getElem? (i := 921) (by decide +kernel))
theorem Gl.lit_book {l : Launch} {E : KE} {s : State} (hG : Gl l E s) : Lit E "SkipSchool" 147 [98, 111, 111, 107] (3029737) s := by
  refine hG.lit (by decide) (List.mem_of_getElem? (i := 925) (by decide +kernel)) (List.mem_of_getElem? (i := 926) (by decide +kernel)) (List.mem_of_getElem? (i := 927) (by decide +kernel)) (List.mem_of_getElem? (i := 928) (by decide +kernel)) (fun j hj => ?_) (List.mem_of_getElem? (i := 933) (by decide +kernel))
  rcases (show j = 0 ∨ j = 1 ∨ j = 2 ∨ j = 3 by simp at hj; omega) with rfl | rfl | rfl | rfl
  · exact (List.mem_of_getElem? (i := 929) (by decide +kernel))
  · exact (List.mem_of_getElem? (i := 930) (by decide +kernel))
  · exact (List.mem_of_getElem? (i := 931) (by decide +kernel))
  · exact (List.mem_of_getElem? (i := 932) (by decide +kernel))
theorem Gl.lit_free {l : Launch} {E : KE} {s : State} (hG : Gl l E s) : Lit E "SkipSchool" 149 [102, 114, 101, 101] (3151468) s := by
  refine hG.lit (by decide) (List.mem_of_getElem? (i := 936) (by decide +kernel)) (List.mem_of_getElem? (i := 937) (by decide +kernel)) (List.mem_of_getElem? (i := 938) (by decide +kernel)) (List.mem_of_getElem? (i := 939) (by decide +kernel)) (fun j hj => ?_) (List.mem_of_getElem? (i := 944) (by decide +kernel))
  rcases (show j = 0 ∨ j = 1 ∨ j = 2 ∨ j = 3 by simp at hj; omega) with rfl | rfl | rfl | rfl
  · exact (List.mem_of_getElem? (i := 940) (by decide +kernel))
  · exact (List.mem_of_getElem? (i := 941) (by decide +kernel))
  · exact (List.mem_of_getElem? (i := 942) (by decide +kernel))
  · exact (List.mem_of_getElem? (i := 943) (by decide +kernel))
theorem Gl.lit_teach {l : Launch} {E : KE} {s : State} (hG : Gl l E s) : Lit E "SkipSchool" 171 [116, 101, 97, 99, 104] (110233717) s := by
  refine hG.lit (by decide) (List.mem_of_getElem? (i := 947) (by decide +kernel)) (List.mem_of_getElem? (i := 948) (by decide +kernel)) (List.mem_of_getElem? (i := 949) (by decide +kernel)) (List.mem_of_getElem? (i := 950) (by decide +kernel)) (fun j hj => ?_) (List.mem_of_getElem? (i := 956) (by decide +kernel))
  rcases (show j = 0 ∨ j = 1 ∨ j = 2 ∨ j = 3 ∨ j = 4 by simp at hj; omega) with rfl | rfl | rfl | rfl | rfl
  · exact (List.mem_of_getElem? (i := 951) (by decide +kernel))
  · exact (List.mem_of_getElem? (i := 952) (by decide +kernel))
  · exact (List.mem_of_getElem? (i := 953) (by decide +kernel))
  · exact (List.mem_of_getElem? (i := 954) (by decide +kernel))
  · exact (List.mem_of_getElem? (i := 955) (by decide +kernel))
theorem Gl.lit_try {l : Launch} {E : KE} {s : State} (hG : Gl l E s) : Lit E "SkipSchool" 173 [116, 114, 121] (115131) s := by
  refine hG.lit (by decide) (List.mem_of_getElem? (i := 959) (by decide +kernel)) (List.mem_of_getElem? (i := 960) (by decide +kernel)) (List.mem_of_getElem? (i := 961) (by decide +kernel)) (List.mem_of_getElem? (i := 962) (by decide +kernel)) (fun j hj => ?_) (List.mem_of_getElem? (i := 966) (by decide +kernel))
  rcases (show j = 0 ∨ j = 1 ∨ j = 2 by simp at hj; omega) with rfl | rfl | rfl
  · exact (List.mem_of_getElem? (i := 963) (by decide +kernel))
  · exact (List.mem_of_getElem? (i := 964) (by decide +kernel))
  · exact (List.mem_of_getElem? (i := 965) (by decide +kernel))
theorem Gl.lit_throw {l : Launch} {E : KE} {s : State} (hG : Gl l E s) : Lit E "SkipSchool" 175 [116, 104, 114, 111, 119] (110339814) s := by
  refine hG.lit (by decide) (List.mem_of_getElem? (i := 969) (by decide +kernel)) (List.mem_of_getElem? (i := 970) (by decide +kernel)) (List.mem_of_getElem? (i := 971) (by decide +kernel)) (List.mem_of_getElem? (i := 972) (by decide +kernel)) (fun j hj => ?_) (List.mem_of_getElem? (i := 978) (by decide +kernel))
  rcases (show j = 0 ∨ j = 1 ∨ j = 2 ∨ j = 3 ∨ j = 4 by simp at hj; omega) with rfl | rfl | rfl | rfl | rfl
  · exact (List.mem_of_getElem? (i := 973) (by decide +kernel))
  · exact (List.mem_of_getElem? (i := 974) (by decide +kernel))
  · exact (List.mem_of_getElem? (i := 975) (by decide +kernel))
  · exact (List.mem_of_getElem? (i := 976) (by decide +kernel))
  · exact (List.mem_of_getElem? (i := 977) (by decide +kernel))
theorem Gl.lit_fetch {l : Launch} {E : KE} {s : State} (hG : Gl l E s) : Lit E "SkipSchool" 177 [102, 101, 116, 99, 104] (97322682) s := by
  refine hG.lit (by decide) (List.mem_of_getElem? (i := 981) (by decide +kernel)) (List.mem_of_getElem? (i := 982) (by decide +kernel)) (List.mem_of_getElem? (i := 983) (by decide +kernel)) (List.mem_of_getElem? (i := 984) (by decide +kernel)) (fun j hj => ?_) (List.mem_of_getElem? (i := 990) (by decide +kernel))
  rcases (show j = 0 ∨ j = 1 ∨ j = 2 ∨ j = 3 ∨ j = 4 by simp at hj; omega) with rfl | rfl | rfl | rfl | rfl
  · exact (List.mem_of_getElem? (i := 985) (by decide +kernel))
  · exact (List.mem_of_getElem? (i := 986) (by decide +kernel))
  · exact (List.mem_of_getElem? (i := 987) (by decide +kernel))
  · exact (List.mem_of_getElem? (i := 988) (by decide +kernel))
  · exact (List.mem_of_getElem? (i := 989) (by decide +kernel))
theorem Gl.lit_day {l : Launch} {E : KE} {s : State} (hG : Gl l E s) : Lit E "SkipSchool" 179 [100, 97, 121] (99228) s := by
  refine hG.lit (by decide) (List.mem_of_getElem? (i := 562) (by decide +kernel)) (List.mem_of_getElem? (i := 563) (by decide +kernel)) (List.mem_of_getElem? (i := 564) (by decide +kernel)) (List.mem_of_getElem? (i := 565) (by decide +kernel)) (fun j hj => ?_) (List.mem_of_getElem? (i := 569) (by decide +kernel))
  rcases (show j = 0 ∨ j = 1 ∨ j = 2 by simp at hj; omega) with rfl | rfl | rfl
  · exact (List.mem_of_getElem? (i := 566) (by decide +kernel))
  · exact (List.mem_of_getElem? (i := 567) (by decide +kernel))
  · exact (List.mem_of_getElem? (i := 568) (by decide +kernel))
theorem Gl.lit_slash {l : Launch} {E : KE} {s : State} (hG : Gl l E s) : Lit E "SkipSchool$Stone" 81 [47] (47) s := by
  refine hG.lit (by decide) (List.mem_of_getElem? (i := 993) (by decide +kernel)) (List.mem_of_getElem? (i := 994) (by decide +kernel)) (List.mem_of_getElem? (i := 995) (by decide +kernel)) (List.mem_of_getElem? (i := 996) (by decide +kernel)) (fun j hj => ?_) (List.mem_of_getElem? (i := 998) (by decide +kernel))
  rcases (show j = 0 by simp at hj; omega) with rfl
  · exact (List.mem_of_getElem? (i := 997) (by decide +kernel))
theorem Gl.lit_star {l : Launch} {E : KE} {s : State} (hG : Gl l E s) : Lit E "SkipSchool$Stone" 86 [42] (42) s := by
  refine hG.lit (by decide) (List.mem_of_getElem? (i := 1000) (by decide +kernel)) (List.mem_of_getElem? (i := 1001) (by decide +kernel)) (List.mem_of_getElem? (i := 1002) (by decide +kernel)) (List.mem_of_getElem? (i := 1003) (by decide +kernel)) (fun j hj => ?_) (List.mem_of_getElem? (i := 1005) (by decide +kernel))
  rcases (show j = 0 by simp at hj; omega) with rfl
  · exact (List.mem_of_getElem? (i := 1004) (by decide +kernel))
theorem Gl.lit_empty {l : Launch} {E : KE} {s : State} (hG : Gl l E s) : Lit E "SkipSchool" 59 [] (0) s := by
  refine hG.lit (by decide) (List.mem_of_getElem? (i := 556) (by decide +kernel)) (List.mem_of_getElem? (i := 557) (by decide +kernel)) (List.mem_of_getElem? (i := 558) (by decide +kernel)) (List.mem_of_getElem? (i := 559) (by decide +kernel)) (fun j hj => ?_) (List.mem_of_getElem? (i := 560) (by decide +kernel))
  exact absurd hj (by simp)
theorem Gl.lit_at {l : Launch} {E : KE} {s : State} (hG : Gl l E s) : Lit E "SkipSchool$Stone" 90 [64] (64) s := by
  refine hG.lit (by decide) (List.mem_of_getElem? (i := 1014) (by decide +kernel)) (List.mem_of_getElem? (i := 1015) (by decide +kernel)) (List.mem_of_getElem? (i := 1016) (by decide +kernel)) (List.mem_of_getElem? (i := 1017) (by decide +kernel)) (fun j hj => ?_) (List.mem_of_getElem? (i := 1019) (by decide +kernel))
  rcases (show j = 0 by simp at hj; omega) with rfl
  · exact (List.mem_of_getElem? (i := 1018) (by decide +kernel))
theorem Gl.lit_bang {l : Launch} {E : KE} {s : State} (hG : Gl l E s) : Lit E "SkipSchool$Stone" 100 [33] (33) s := by
  refine hG.lit (by decide) (List.mem_of_getElem? (i := 1021) (by decide +kernel)) (List.mem_of_getElem? (i := 1022) (by decide +kernel)) (List.mem_of_getElem? (i := 1023) (by decide +kernel)) (List.mem_of_getElem? (i := 1024) (by decide +kernel)) (fun j hj => ?_) (List.mem_of_getElem? (i := 1026) (by decide +kernel))
  rcases (show j = 0 by simp at hj; omega) with rfl
  · exact (List.mem_of_getElem? (i := 1025) (by decide +kernel))
theorem Gl.lit_gt {l : Launch} {E : KE} {s : State} (hG : Gl l E s) : Lit E "SkipSchool$Stone" 105 [62] (62) s := by
  refine hG.lit (by decide) (List.mem_of_getElem? (i := 1028) (by decide +kernel)) (List.mem_of_getElem? (i := 1029) (by decide +kernel)) (List.mem_of_getElem? (i := 1030) (by decide +kernel)) (List.mem_of_getElem? (i := 1031) (by decide +kernel)) (fun j hj => ?_) (List.mem_of_getElem? (i := 1033) (by decide +kernel))
  rcases (show j = 0 by simp at hj; omega) with rfl
  · exact (List.mem_of_getElem? (i := 1032) (by decide +kernel))
theorem Gl.lit_ach {l : Launch} {E : KE} {s : State} (hG : Gl l E s) : Lit E "SkipSchoolModel" 190 [97, 99, 104] (96390) s := by
  refine hG.lit (by decide) (List.mem_of_getElem? (i := 1203) (by decide +kernel)) (List.mem_of_getElem? (i := 1204) (by decide +kernel)) (List.mem_of_getElem? (i := 1205) (by decide +kernel)) (List.mem_of_getElem? (i := 1206) (by decide +kernel)) (fun j hj => ?_) (List.mem_of_getElem? (i := 1210) (by decide +kernel))
  rcases (show j = 0 ∨ j = 1 ∨ j = 2 by simp at hj; omega) with rfl | rfl | rfl
  · exact (List.mem_of_getElem? (i := 1207) (by decide +kernel))
  · exact (List.mem_of_getElem? (i := 1208) (by decide +kernel))
  · exact (List.mem_of_getElem? (i := 1209) (by decide +kernel))
theorem Gl.lit_y {l : Launch} {E : KE} {s : State} (hG : Gl l E s) : Lit E "SkipSchoolModel" 196 [121] (121) s := by
  refine hG.lit (by decide) (List.mem_of_getElem? (i := 1212) (by decide +kernel)) (List.mem_of_getElem? (i := 1213) (by decide +kernel)) (List.mem_of_getElem? (i := 1214) (by decide +kernel)) (List.mem_of_getElem? (i := 1215) (by decide +kernel)) (fun j hj => ?_) (List.mem_of_getElem? (i := 1217) (by decide +kernel))
  rcases (show j = 0 by simp at hj; omega) with rfl
  · exact (List.mem_of_getElem? (i := 1216) (by decide +kernel))
theorem Gl.lit_row {l : Launch} {E : KE} {s : State} (hG : Gl l E s) : Lit E "SkipSchoolModel" 201 [114, 111, 119] (113114) s := by
  refine hG.lit (by decide) (List.mem_of_getElem? (i := 1219) (by decide +kernel)) (List.mem_of_getElem? (i := 1220) (by decide +kernel)) (List.mem_of_getElem? (i := 1221) (by decide +kernel)) (List.mem_of_getElem? (i := 1222) (by decide +kernel)) (fun j hj => ?_) (List.mem_of_getElem? (i := 1226) (by decide +kernel))
  rcases (show j = 0 ∨ j = 1 ∨ j = 2 by simp at hj; omega) with rfl | rfl | rfl
  · exact (List.mem_of_getElem? (i := 1223) (by decide +kernel))
  · exact (List.mem_of_getElem? (i := 1224) (by decide +kernel))
  · exact (List.mem_of_getElem? (i := 1225) (by decide +kernel))
theorem Gl.lit_ee {l : Launch} {E : KE} {s : State} (hG : Gl l E s) : Lit E "SkipSchoolModel" 203 [101, 101] (3232) s := by
  refine hG.lit (by decide) (List.mem_of_getElem? (i := 1228) (by decide +kernel)) (List.mem_of_getElem? (i := 1229) (by decide +kernel)) (List.mem_of_getElem? (i := 1230) (by decide +kernel)) (List.mem_of_getElem? (i := 1231) (by decide +kernel)) (fun j hj => ?_) (List.mem_of_getElem? (i := 1234) (by decide +kernel))
  rcases (show j = 0 ∨ j = 1 by simp at hj; omega) with rfl | rfl
  · exact (List.mem_of_getElem? (i := 1232) (by decide +kernel))
  · exact (List.mem_of_getElem? (i := 1233) (by decide +kernel))
theorem Gl.lit_tch {l : Launch} {E : KE} {s : State} (hG : Gl l E s) : Lit E "SkipSchoolModel" 205 [116, 99, 104] (114649) s := by
  refine hG.lit (by decide) (List.mem_of_getElem? (i := 1236) (by decide +kernel)) (List.mem_of_getElem? (i := 1237) (by decide +kernel)) (List.mem_of_getElem? (i := 1238) (by decide +kernel)) (List.mem_of_getElem? (i := 1239) (by decide +kernel)) (fun j hj => ?_) (List.mem_of_getElem? (i := 1243) (by decide +kernel))
  rcases (show j = 0 ∨ j = 1 ∨ j = 2 by simp at hj; omega) with rfl | rfl | rfl
  · exact (List.mem_of_getElem? (i := 1240) (by decide +kernel))
  · exact (List.mem_of_getElem? (i := 1241) (by decide +kernel))
  · exact (List.mem_of_getElem? (i := 1242) (by decide +kernel))
theorem Gl.lit_tone {l : Launch} {E : KE} {s : State} (hG : Gl l E s) : Lit E "SkipSchoolModel" 207 [116, 111, 110, 101] (3565938) s := by
  refine hG.lit (by decide) (List.mem_of_getElem? (i := 1157) (by decide +kernel)) (List.mem_of_getElem? (i := 1158) (by decide +kernel)) (List.mem_of_getElem? (i := 1159) (by decide +kernel)) (List.mem_of_getElem? (i := 1160) (by decide +kernel)) (fun j hj => ?_) (List.mem_of_getElem? (i := 1165) (by decide +kernel))
  rcases (show j = 0 ∨ j = 1 ∨ j = 2 ∨ j = 3 by simp at hj; omega) with rfl | rfl | rfl | rfl
  · exact (List.mem_of_getElem? (i := 1161) (by decide +kernel))
  · exact (List.mem_of_getElem? (i := 1162) (by decide +kernel))
  · exact (List.mem_of_getElem? (i := 1163) (by decide +kernel))
  · exact (List.mem_of_getElem? (i := 1164) (by decide +kernel))
theorem Gl.lit_iver {l : Launch} {E : KE} {s : State} (hG : Gl l E s) : Lit E "SkipSchoolModel" 209 [105, 118, 101, 114] (3244698) s := by
  refine hG.lit (by decide) (List.mem_of_getElem? (i := 1167) (by decide +kernel)) (List.mem_of_getElem? (i := 1168) (by decide +kernel)) (List.mem_of_getElem? (i := 1169) (by decide +kernel)) (List.mem_of_getElem? (i := 1170) (by decide +kernel)) (fun j hj => ?_) (List.mem_of_getElem? (i := 1175) (by decide +kernel))
  rcases (show j = 0 ∨ j = 1 ∨ j = 2 ∨ j = 3 by simp at hj; omega) with rfl | rfl | rfl | rfl
  · exact (List.mem_of_getElem? (i := 1171) (by decide +kernel))
  · exact (List.mem_of_getElem? (i := 1172) (by decide +kernel))
  · exact (List.mem_of_getElem? (i := 1173) (by decide +kernel))
  · exact (List.mem_of_getElem? (i := 1174) (by decide +kernel))
theorem Gl.lit_ook {l : Launch} {E : KE} {s : State} (hG : Gl l E s) : Lit E "SkipSchoolModel" 211 [111, 111, 107] (110219) s := by
  refine hG.lit (by decide) (List.mem_of_getElem? (i := 1177) (by decide +kernel)) (List.mem_of_getElem? (i := 1178) (by decide +kernel)) (List.mem_of_getElem? (i := 1179) (by decide +kernel)) (List.mem_of_getElem? (i := 1180) (by decide +kernel)) (fun j hj => ?_) (List.mem_of_getElem? (i := 1184) (by decide +kernel))
  rcases (show j = 0 ∨ j = 1 ∨ j = 2 by simp at hj; omega) with rfl | rfl | rfl
  · exact (List.mem_of_getElem? (i := 1181) (by decide +kernel))
  · exact (List.mem_of_getElem? (i := 1182) (by decide +kernel))
  · exact (List.mem_of_getElem? (i := 1183) (by decide +kernel))
theorem Gl.lit_alm {l : Launch} {E : KE} {s : State} (hG : Gl l E s) : Lit E "SkipSchoolModel" 213 [97, 108, 109] (96674) s := by
  refine hG.lit (by decide) (List.mem_of_getElem? (i := 1186) (by decide +kernel)) (List.mem_of_getElem? (i := 1187) (by decide +kernel)) (List.mem_of_getElem? (i := 1188) (by decide +kernel)) (List.mem_of_getElem? (i := 1189) (by decide +kernel)) (fun j hj => ?_) (List.mem_of_getElem? (i := 1193) (by decide +kernel))
  rcases (show j = 0 ∨ j = 1 ∨ j = 2 by simp at hj; omega) with rfl | rfl | rfl
  · exact (List.mem_of_getElem? (i := 1190) (by decide +kernel))
  · exact (List.mem_of_getElem? (i := 1191) (by decide +kernel))
  · exact (List.mem_of_getElem? (i := 1192) (by decide +kernel))
theorem Gl.lit_ay {l : Launch} {E : KE} {s : State} (hG : Gl l E s) : Lit E "SkipSchoolModel" 215 [97, 121] (3128) s := by
  refine hG.lit (by decide) (List.mem_of_getElem? (i := 1195) (by decide +kernel)) (List.mem_of_getElem? (i := 1196) (by decide +kernel)) (List.mem_of_getElem? (i := 1197) (by decide +kernel)) (List.mem_of_getElem? (i := 1198) (by decide +kernel)) (fun j hj => ?_) (List.mem_of_getElem? (i := 1201) (by decide +kernel))
  rcases (show j = 0 ∨ j = 1 by simp at hj; omega) with rfl | rfl
  · exact (List.mem_of_getElem? (i := 1199) (by decide +kernel))
  · exact (List.mem_of_getElem? (i := 1200) (by decide +kernel))
