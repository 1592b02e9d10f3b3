/-! WHAT THE MODEL COMPUTES, on: days, lines, what is typed -/
def gDayK (g : Int → Int) (r k : Int) : Int → Int := fun j => if 174 + 30 * r ≤ j ∧ j < 174 + 30 * r + k then g (j + 1) else g j
theorem gDayK_0 (g : Int → Int) (r : Int) : gDayK g r 0 = g := by
  funext j
  exact if_neg (by omega)
theorem gDayK_s (g : Int → Int) (r : Int) {k : Int} (hk : 0 ≤ k) : uz (gDayK g r k) (174 + 30 * r + k) (gDayK g r k (174 + 30 * r + (k + 1))) = gDayK g r (k + 1) := by
  funext j
  unfold uz gDayK
  by_cases e : j = 174 + 30 * r + k
  · subst e
    rw [if_pos rfl, if_neg (by omega), if_pos (by omega), show 174 + 30 * r + k + 1 = 174 + 30 * r + (k + 1) by omega]
  · rw [if_neg e]
    by_cases e2 : 174 + 30 * r ≤ j ∧ j < 174 + 30 * r + k
    · rw [if_pos e2, if_pos (by omega)]
    · rw [if_neg e2, if_neg (by omega)]
theorem gDayR_k (g : Int → Int) (r : Int) : uz (gDayK g r 29) (174 + 30 * r + 30 - 1) (-1) = gDayR g r := by
  funext j
  unfold uz gDayK gDayR
  by_cases e : j = 174 + 30 * r + 29
  · subst e
    rw [if_pos (by omega), if_neg (by omega), if_pos rfl]
  · rw [if_neg (by omega)]
    by_cases e2 : 174 + 30 * r ≤ j ∧ j < 174 + 30 * r + 29
    · rw [if_pos e2, if_pos e2]
    · rw [if_neg e2, if_neg e2, if_neg e]
theorem gDayR_0 (g : Int → Int) (r : Int) : gDayR g r (174 + 30 * r + 0) = g (174 + 30 * r + 1) := by
  unfold gDayR
  rw [if_pos (by omega), show 174 + 30 * r + 0 + 1 = 174 + 30 * r + 1 by omega]
theorem gDayN_n (g : Int → Int) (n : Nat) : ∀ j, (j < 174 ∨ 174 + 30 * (n : Int) ≤ j) → gDayN g n j = g j := by
  induction n with
  | zero => intro j _; rfl
  | succ n ih =>
    intro j h
    show gDayR (gDayN g n) n j = g j
    unfold gDayR
    rw [if_neg (by omega), if_neg (by omega), ih j (by omega)]
theorem gDayN_s (g : Int → Int) {r : Int} (h : 0 ≤ r) : gDayN g (r + 1).toNat = gDayR (gDayN g r.toNat) r := by
  obtain ⟨n, rfl⟩ := Int.eq_ofNat_of_zero_le h
  rfl
theorem gDayN_0 (g : Int → Int) {r : Int} (h : 0 ≤ r) : gDayN g r.toNat (174 + 30 * r + 1) = g (174 + 30 * r + 1) := gDayN_n g _ _ (by omega)
-- letters written
def wrow (r : Int → Int) (i : Int) (l : List Int) : Int → Int := fun j => if i ≤ j ∧ j < i + l.length then l.getD (j - i).toNat 0 else r j
theorem wrow_nil (r : Int → Int) (i : Int) : wrow r i [] = r := by
  funext j
  unfold wrow
  exact if_neg (by have : (([] : List Int).length : Int) = 0 := rfl; omega)
theorem wrow_1 (r : Int → Int) (i c : Int) : uz r i c = wrow r i [c] := by
  funext j
  unfold uz wrow
  have hl : (([c] : List Int).length : Int) = 1 := rfl
  by_cases e : j = i
  · subst e
    rw [if_pos rfl, if_pos (by omega), show j - j = 0 by omega]
    rfl
  · rw [if_neg e, if_neg (by omega)]
theorem wrow_app (r : Int → Int) (i : Int) (l l2 : List Int) : wrow (wrow r i l) (i + l.length) l2 = wrow r i (l ++ l2) := by
  funext j
  unfold wrow
  have hl : ((l ++ l2).length : Int) = l.length + l2.length := by rw [List.length_append]; omega
  rw [hl]
  by_cases h1 : i + l.length ≤ j ∧ j < i + l.length + l2.length
  · rw [if_pos h1, if_pos (by omega), List.getD_eq_getElem?_getD, List.getD_eq_getElem?_getD, List.getElem?_append_right (by omega), show (j - i).toNat - l.length = (j - (i + l.length)).toNat by omega]
  · rw [if_neg h1]
    by_cases h2 : i ≤ j ∧ j < i + l.length
    · rw [if_pos h2, if_pos (by omega), List.getD_eq_getElem?_getD, List.getD_eq_getElem?_getD, List.getElem?_append_left (by omega)]
    · rw [if_neg h2, if_neg (by omega)]
def mWs (S : St) (l : List Int) : St := put (putR S 5 (wrow (S 5) (S 7 15) l)) 7 15 (S 7 15 + l.length)
theorem mWs_1 (S : St) (c : Int) : put (put S 5 (S 7 15) c) 7 15 (S 7 15 + 1) = mWs S [c] := by
  unfold mWs
  rw [putR_put S 5, wrow_1]
  rfl
theorem mWs_nil (S : St) : mWs S [] = S := by
  unfold mWs
  rw [wrow_nil, putR_self]
  funext c
  show (if c = 7 then uz (S 7) 15 (S 7 15 + 0) else S c) = S c
  split
  · rename_i h
    subst h
    funext j
    unfold uz
    split
    · rename_i h; subst h; omega
    · rfl
  · rfl
theorem mWs_app (S : St) (l l2 : List Int) : mWs (mWs S l) l2 = mWs S (l ++ l2) := by
  have e5 : (mWs S l) 5 = wrow (S 5) (S 7 15) l := rfl
  have e7 : (mWs S l) 7 = uz (S 7) 15 (S 7 15 + l.length) := rfl
  have e15 : (mWs S l) 7 15 = S 7 15 + l.length := rfl
  have hl : ((l ++ l2).length : Int) = l.length + l2.length := by rw [List.length_append]; omega
  funext c
  by_cases h7 : c = 7
  · subst h7
    show uz ((mWs S l) 7) 15 ((mWs S l) 7 15 + l2.length) = uz (S 7) 15 (S 7 15 + (l ++ l2).length)
    rw [e15, e7, uz_uz, hl, Int.add_assoc]
  · by_cases h5 : c = 5
    · subst h5
      show wrow ((mWs S l) 5) ((mWs S l) 7 15) l2 = wrow (S 5) (S 7 15) (l ++ l2)
      rw [e5, e15, wrow_app]
    · show (if c = 7 then _ else if c = 5 then _ else (if c = 7 then _ else if c = 5 then _ else S c)) = (if c = 7 then _ else if c = 5 then _ else S c)
      simp only [if_neg h7, if_neg h5]
def numT (n : Int) : List Int := if 9 < n then [48 + n / 10, 48 + n % 10] else [48 + n % 10]
theorem numT_l (n : Int) : 1 ≤ ((numT n).length : Int) ∧ ((numT n).length : Int) ≤ 2 := by unfold numT; split <;> simp
def lineT (g : Int → Int) (k : Int) : List Int :=
  numT (g (10 + 14 * k + 0)) ++ [47] ++ numT (g (10 + 14 * k + 1)) ++ [42] ++ numT (g (10 + 14 * k + 2)) ++
  (if 0 ≤ g (10 + 14 * k + 3) then [64] ++ numT (g (10 + 14 * k + 3)) else []) ++
  (if g (10 + 14 * k + 5) = -2 then [33] else if 0 ≤ g (10 + 14 * k + 5) then [62] ++ numT (g (10 + 14 * k + 5)) else [])
def rlN (g : Int → Int) (r : Int) : Nat → List Int
  | 0 => []
  | n + 1 => rlN g r n ++ [if g (174 + 30 * r + n) < 0 then 46 else 48 + g (174 + 30 * r + n)]
theorem rlN_l (g : Int → Int) (r : Int) (n : Nat) : (rlN g r n).length = n := by
  induction n with
  | zero => rfl
  | succ n ih => show (rlN g r n ++ [_]).length = n + 1; rw [List.length_append, ih]; rfl
theorem rlN_s (g : Int → Int) (r : Int) {k : Int} (h : 0 ≤ k) : rlN g r (k + 1).toNat = rlN g r k.toNat ++ [if g (174 + 30 * r + k) < 0 then 46 else 48 + g (174 + 30 * r + k)] := by
  obtain ⟨n, rfl⟩ := Int.eq_ofNat_of_zero_le h
  rfl
def xLine (S : St) (k : Int) : St × Int := if ¬ (0 ≤ k ∧ k ≤ S 0 0 - 1) then (put S 7 7 1, 0) else (mWs (put (put S 7 7 0) 7 15 0) (lineT (S 0) k), (lineT (S 0) k).length)
def xRLine (S : St) (r : Int) : St × Int := if ¬ (0 ≤ r ∧ r ≤ S 0 1 - 1) then (put S 7 7 1, 0) else (mWs (put (put S 7 7 0) 7 15 0) (rlN (S 0) r 30), 30)
def xChar (S : St) (i : Int) : St × Int := if ¬ (0 ≤ i ∧ i ≤ S 7 15 - 1) then (put S 7 7 1, 32) else (put S 7 7 0, S 5 i)
-- what is typed
def codeN (p : Int) (j : Int) : Int := byt p (24 - 8 * j)
def badB (p : Int) : Nat → Bool
  | 0 => false
  | n + 1 => badB p n || decide (¬ codeN p n = 0 ∧ ¬ (32 ≤ codeN p n ∧ codeN p n ≤ 126))
def codesN (p : Int) : Nat → List Int
  | 0 => []
  | n + 1 => codesN p n ++ (if codeN p n = 0 then [] else [codeN p n])
theorem badB_s (p : Int) {k : Int} (h : 0 ≤ k) : badB p (k + 1).toNat = (badB p k.toNat || decide (¬ codeN p k = 0 ∧ ¬ (32 ≤ codeN p k ∧ codeN p k ≤ 126))) := by
  obtain ⟨n, rfl⟩ := Int.eq_ofNat_of_zero_le h
  rfl
theorem codesN_s (p : Int) {k : Int} (h : 0 ≤ k) : codesN p (k + 1).toNat = codesN p k.toNat ++ (if codeN p k = 0 then [] else [codeN p k]) := by
  obtain ⟨n, rfl⟩ := Int.eq_ofNat_of_zero_le h
  rfl
theorem codesN_l (p : Int) {k : Int} (h : 0 ≤ k) : ((codesN p (k + 1).toNat).length : Int) = (codesN p k.toNat).length + b2 (¬ codeN p k = 0) := by
  rw [codesN_s p h, List.length_append]
  by_cases e : codeN p k = 0
  · rw [if_pos e, b2_f (fun z => z e)]; rfl
  · rw [if_neg e, b2_t e]; rfl
theorem codesN_b (p : Int) (n : Nat) : (codesN p n).length ≤ n := by
  induction n with
  | zero => exact Nat.le_refl _
  | succ n ih =>
    show (codesN p n ++ _).length ≤ n + 1
    rw [List.length_append]
    split <;> simp <;> omega
theorem codesN_m (p : Int) {n m : Nat} (h : n ≤ m) : ((codesN p n).length : Int) ≤ (codesN p m).length := by
  induction m with
  | zero => rw [show n = 0 by omega]; exact Int.le_refl _
  | succ m ih =>
    by_cases e : n = m + 1
    · rw [e]; exact Int.le_refl _
    · have := ih (by omega)
      have e2 : (codesN p (m + 1)).length = (codesN p m).length + (if codeN p m = 0 then ([] : List Int) else [codeN p m]).length := List.length_append
      omega
def mIn (S : St) (l : List Int) : St := put (putR S 4 (wrow (S 4) (S 7 11) l)) 7 11 (S 7 11 + l.length)
theorem mIn_1 (S : St) (c : Int) : put (put S 4 (S 7 11) c) 7 11 (S 7 11 + 1) = mIn S [c] := by
  unfold mIn
  rw [putR_put S 4, wrow_1]
  rfl
theorem mIn_nil (S : St) : mIn S [] = S := by
  unfold mIn
  rw [wrow_nil, putR_self]
  funext c
  show (if c = 7 then uz (S 7) 11 (S 7 11 + 0) else S c) = S c
  split
  · rename_i h
    subst h
    funext j
    unfold uz
    split
    · rename_i h; subst h; omega
    · rfl
  · rfl
theorem mIn_app (S : St) (l l2 : List Int) : mIn (mIn S l) l2 = mIn S (l ++ l2) := by
  have e5 : (mIn S l) 4 = wrow (S 4) (S 7 11) l := rfl
  have e7 : (mIn S l) 7 = uz (S 7) 11 (S 7 11 + l.length) := rfl
  have e15 : (mIn S l) 7 11 = S 7 11 + l.length := rfl
  have hl : ((l ++ l2).length : Int) = l.length + l2.length := by rw [List.length_append]; omega
  funext c
  by_cases h7 : c = 7
  · subst h7
    show uz ((mIn S l) 7) 11 ((mIn S l) 7 11 + l2.length) = uz (S 7) 11 (S 7 11 + (l ++ l2).length)
    rw [e15, e7, uz_uz, hl, Int.add_assoc]
  · by_cases h5 : c = 4
    · subst h5
      show wrow ((mIn S l) 4) ((mIn S l) 7 11) l2 = wrow (S 4) (S 7 11) (l ++ l2)
      rw [e5, e15, wrow_app]
    · show (if c = 7 then _ else if c = 4 then _ else (if c = 7 then _ else if c = 4 then _ else S c)) = (if c = 7 then _ else if c = 4 then _ else S c)
      simp only [if_neg h7, if_neg h5]
def xAppend (S : St) (pk : Int) : St × Int :=
  if badB pk 4 = true then (put S 7 7 1, 0) else if 60 < S 7 11 + (codesN pk 4).length then (put S 7 7 2, 0) else (mIn (put S 7 7 0) (codesN pk 4), S 7 11 + (codesN pk 4).length)
