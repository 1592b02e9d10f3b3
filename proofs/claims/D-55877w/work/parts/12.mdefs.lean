/-! THE MODEL's STATE: St c i: row c at place i; rows 0 g, 1 kept, 2 saved, 3 before, 4 input, 5 signs, 6 told, 7 the object's whole-number fields by their places -/
abbrev St : Type := Nat → Int → Int
def put (S : St) (c : Nat) (i v : Int) : St := fun c' => if c' = c then uz (S c) i v else S c'
def putR (S : St) (c : Nat) (g : Int → Int) : St := fun c' => if c' = c then g else S c'
def MOk (S : St) : Prop := ∀ c i, rI (S c i)
theorem kz_r {a b : Int} (h : a = b) (hb : rI b) : rI a := h ▸ hb
theorem kz_M {S S' : St} (h : S = S') (hb : MOk S') : MOk S := h ▸ hb
theorem MOk.put {S : St} (h : MOk S) (c : Nat) (i : Int) {v : Int} (hv : rI v) : MOk (put S c i v) := by
  intro c' i'
  show rI ((if c' = c then (fun j => if j = i then v else S c j) else S c') i')
  split
  · show rI (if i' = i then v else S c i')
    split
    · exact hv
    · exact h _ _
  · exact h _ _
theorem MOk.putR {S : St} (h : MOk S) (c : Nat) {g : Int → Int} (hg : ∀ i, rI (g i)) : MOk (putR S c g) := by
  intro c' i'
  show rI ((if c' = c then g else S c') i')
  split
  · exact hg _
  · exact h _ _
def mO (Ad : Nat → Nat) (S : St) : List Value := [.ref (Ad 1), .ref (Ad 2), .ref (Ad 3), .ref (Ad 4), .int (zI (S 7 4)), .int (zI (S 7 5)), .int (zI (S 7 6)), .int (zI (S 7 7)), .int (zI (S 7 8)), .int (zI (S 7 9)), .ref (Ad 5), .int (zI (S 7 11)), .int (zI (S 7 12)), .int (zI (S 7 13)), .ref (Ad 6), .int (zI (S 7 15)), .int (zI (S 7 16)), .ref (Ad 7), .int (zI (S 7 18))]
def mW (E : KE) (Ad : Nat → Nat) (S : St) : va_W := [(Ad 0, .inr (2, mO Ad S)), (Ad 1, .inl (kA E 0, 304, .inl (zR (S 0)))), (Ad 2, .inl (kA E 0, 2432, .inl (zR (S 1)))), (Ad 3, .inl (kA E 0, 304, .inl (zR (S 2)))), (Ad 4, .inl (kA E 0, 304, .inl (zR (S 3)))), (Ad 5, .inl (kA E 0, 60, .inl (zR (S 4)))), (Ad 6, .inl (kA E 3, 40, .inl (zR (S 5)))), (Ad 7, .inl (kA E 0, 155, .inl (zR (S 6))))]
theorem mW_f4 (E : KE) (Ad : Nat → Nat) (S : St) (v : Int) : (mW E Ad S).set 0 (Ad 0, .inr (2, (mO Ad S).set 4 (.int (zI v)))) = mW E Ad (put S 7 4 v) := rfl
theorem mW_f5 (E : KE) (Ad : Nat → Nat) (S : St) (v : Int) : (mW E Ad S).set 0 (Ad 0, .inr (2, (mO Ad S).set 5 (.int (zI v)))) = mW E Ad (put S 7 5 v) := rfl
theorem mW_f6 (E : KE) (Ad : Nat → Nat) (S : St) (v : Int) : (mW E Ad S).set 0 (Ad 0, .inr (2, (mO Ad S).set 6 (.int (zI v)))) = mW E Ad (put S 7 6 v) := rfl
theorem mW_f7 (E : KE) (Ad : Nat → Nat) (S : St) (v : Int) : (mW E Ad S).set 0 (Ad 0, .inr (2, (mO Ad S).set 7 (.int (zI v)))) = mW E Ad (put S 7 7 v) := rfl
theorem mW_f8 (E : KE) (Ad : Nat → Nat) (S : St) (v : Int) : (mW E Ad S).set 0 (Ad 0, .inr (2, (mO Ad S).set 8 (.int (zI v)))) = mW E Ad (put S 7 8 v) := rfl
theorem mW_f9 (E : KE) (Ad : Nat → Nat) (S : St) (v : Int) : (mW E Ad S).set 0 (Ad 0, .inr (2, (mO Ad S).set 9 (.int (zI v)))) = mW E Ad (put S 7 9 v) := rfl
theorem mW_f11 (E : KE) (Ad : Nat → Nat) (S : St) (v : Int) : (mW E Ad S).set 0 (Ad 0, .inr (2, (mO Ad S).set 11 (.int (zI v)))) = mW E Ad (put S 7 11 v) := rfl
theorem mW_f12 (E : KE) (Ad : Nat → Nat) (S : St) (v : Int) : (mW E Ad S).set 0 (Ad 0, .inr (2, (mO Ad S).set 12 (.int (zI v)))) = mW E Ad (put S 7 12 v) := rfl
theorem mW_f13 (E : KE) (Ad : Nat → Nat) (S : St) (v : Int) : (mW E Ad S).set 0 (Ad 0, .inr (2, (mO Ad S).set 13 (.int (zI v)))) = mW E Ad (put S 7 13 v) := rfl
theorem mW_f15 (E : KE) (Ad : Nat → Nat) (S : St) (v : Int) : (mW E Ad S).set 0 (Ad 0, .inr (2, (mO Ad S).set 15 (.int (zI v)))) = mW E Ad (put S 7 15 v) := rfl
theorem mW_f16 (E : KE) (Ad : Nat → Nat) (S : St) (v : Int) : (mW E Ad S).set 0 (Ad 0, .inr (2, (mO Ad S).set 16 (.int (zI v)))) = mW E Ad (put S 7 16 v) := rfl
theorem mW_f18 (E : KE) (Ad : Nat → Nat) (S : St) (v : Int) : (mW E Ad S).set 0 (Ad 0, .inr (2, (mO Ad S).set 18 (.int (zI v)))) = mW E Ad (put S 7 18 v) := rfl
theorem mW_a0 (E : KE) (Ad : Nat → Nat) (S : St) (i v : Int) : (mW E Ad S).set 1 (Ad 1, .inl (kA E 0, 304, .inl (zR (uz (S 0) i v)))) = mW E Ad (put S 0 i v) := rfl
theorem mW_a1 (E : KE) (Ad : Nat → Nat) (S : St) (i v : Int) : (mW E Ad S).set 2 (Ad 2, .inl (kA E 0, 2432, .inl (zR (uz (S 1) i v)))) = mW E Ad (put S 1 i v) := rfl
theorem mW_a2 (E : KE) (Ad : Nat → Nat) (S : St) (i v : Int) : (mW E Ad S).set 3 (Ad 3, .inl (kA E 0, 304, .inl (zR (uz (S 2) i v)))) = mW E Ad (put S 2 i v) := rfl
theorem mW_a3 (E : KE) (Ad : Nat → Nat) (S : St) (i v : Int) : (mW E Ad S).set 4 (Ad 4, .inl (kA E 0, 304, .inl (zR (uz (S 3) i v)))) = mW E Ad (put S 3 i v) := rfl
theorem mW_a4 (E : KE) (Ad : Nat → Nat) (S : St) (i v : Int) : (mW E Ad S).set 5 (Ad 5, .inl (kA E 0, 60, .inl (zR (uz (S 4) i v)))) = mW E Ad (put S 4 i v) := rfl
theorem mW_a5 (E : KE) (Ad : Nat → Nat) (S : St) (i v : Int) : (mW E Ad S).set 6 (Ad 6, .inl (kA E 3, 40, .inl (zR (uz (S 5) i v)))) = mW E Ad (put S 5 i v) := rfl
theorem mW_a6 (E : KE) (Ad : Nat → Nat) (S : St) (i v : Int) : (mW E Ad S).set 7 (Ad 7, .inl (kA E 0, 155, .inl (zR (uz (S 6) i v)))) = mW E Ad (put S 6 i v) := rfl
