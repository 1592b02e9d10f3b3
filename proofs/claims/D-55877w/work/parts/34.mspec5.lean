/-! WHAT THE MODEL COMPUTES: rows for the walks of what reads orders -/
theorem put_self (S : St) (r : Nat) (i : Int) : put S r i (S r i) = S := by
  funext c j
  by_cases h : c = r
  · subst h
    by_cases e : j = i
    · subst e; exact put_s S c j _
    · exact put_k S c i _ e
  · exact congrFun (put_o S r i _ h) j
theorem pSk_t {c : Int} {S : St} (h : hereI S = c) : pSk c S = (put S 7 16 (S 7 16 + 1), 1) := by
  unfold pSk
  rw [if_pos h, if_pos h]
theorem pSk_f {c : Int} {S : St} (h : ¬ hereI S = c) : pSk c S = (S, 0) := by
  unfold pSk
  rw [if_neg h, if_neg h, put_self]
theorem hereI_d {S : St} : (48 ≤ hereI S ∧ hereI S ≤ 57) ↔ digAt S (S 7 16) := by
  unfold hereI digAt
  split <;> omega
theorem pFig_f {p n : Int} {S : St} (h : ¬ digAt S (S 7 16)) : pFig p n S = (S, 0) := by
  unfold pFig
  rw [if_neg h, if_neg h, if_neg h, putR_self, Int.add_zero, put_self]
theorem pFig_t {p n : Int} {S S1 : St} (h : digAt S (S 7 16)) {v x : Int} (h1 : S1 = put (putR S 6 (uz (S 6) p v)) 7 16 x) (h2 : digV S n.toNat (S 7 16) 0 = v) (h3 : x = S 7 16 + digN S n.toNat (S 7 16)) : pFig p n S = (S1, 1) := by
  unfold pFig
  rw [if_pos h, if_pos h, if_pos h, h2, h1, h3]
theorem pf_0 (S : St) (p : Int) : put S 6 p 0 = put (putR S 6 (uz (S 6) p (put S 6 p 0 6 p))) 7 16 (S 7 16 + 0) := by
  rw [put_s, Int.add_zero, ← putR_put]
  exact (put_self (put S 6 p 0) 7 16).symm
theorem pf_s {S S1 : St} {p w x : Int} (h : S1 = put (putR S 6 (uz (S 6) p w)) 7 16 x) (V y y' : Int) (hy : y = y') : put (put S1 6 p V) 7 16 y = put (putR S 6 (uz (S 6) p (put (put S1 6 p V) 7 16 y 6 p))) 7 16 y' := by
  subst hy
  have e : put (put S1 6 p V) 7 16 y 6 p = V := (congrFun (put_o (put S1 6 p V) 7 16 y (show (6 : Nat) ≠ 7 by decide)) p).trans (put_s S1 6 p V)
  rw [e]
  subst h
  funext c i
  by_cases h7 : c = 7
  · subst h7
    by_cases hi : i = 16
    · subst hi; rw [put_s, put_s]
    · rw [put_k _ 7 16 _ hi, put_k _ 7 16 _ hi]
      refine (congrFun (put_o _ 6 p _ (show (7 : Nat) ≠ 6 by decide)) i).trans ?_
      rw [put_k _ 7 16 _ hi]
      rfl
  · rw [put_o _ 7 16 _ h7, put_o _ 7 16 _ h7]
    by_cases h6 : c = 6
    · subst h6
      show uz ((put (putR S 6 (uz (S 6) p w)) 7 16 x) 6) p V i = uz (S 6) p V i
      have e6 : (put (putR S 6 (uz (S 6) p w)) 7 16 x) 6 = uz (S 6) p w := rfl
      rw [e6]
      unfold uz
      split <;> rfl
    · rw [put_o _ 6 p _ h6, put_o _ 7 16 _ h7]
      have z : ∀ g : Int → Int, putR S 6 g c = S c := fun g => if_neg h6
      rw [z, z]
theorem digV_s {S : St} {n a v : Int} (h : 1 ≤ n) (hd : digAt S a) : digV S n.toNat a v = digV S (n - 1).toNat (a + 1) (10 * v + S 4 a - 48) := by
  obtain ⟨k, hk⟩ : ∃ k : Nat, n = (k : Int) + 1 := ⟨(n - 1).toNat, by omega⟩
  subst hk
  rw [show ((k : Int) + 1).toNat = k + 1 by omega, show ((k : Int) + 1 - 1).toNat = k by omega]
  exact if_pos hd
theorem digN_s {S : St} {n a : Int} (h : 1 ≤ n) (hd : digAt S a) : digN S n.toNat a = digN S (n - 1).toNat (a + 1) + 1 := by
  obtain ⟨k, hk⟩ : ∃ k : Nat, n = (k : Int) + 1 := ⟨(n - 1).toNat, by omega⟩
  subst hk
  rw [show ((k : Int) + 1).toNat = k + 1 by omega, show ((k : Int) + 1 - 1).toNat = k by omega]
  exact if_pos hd
theorem digV_e {S : St} {n a v : Int} (h : n ≤ 0 ∨ ¬ digAt S a) : digV S n.toNat a v = v := by
  cases e : n.toNat with
  | zero => rfl
  | succ k => exact if_neg (by rcases h with h | h; omega; exact h)
theorem digN_e {S : St} {n a : Int} (h : n ≤ 0 ∨ ¬ digAt S a) : digN S n.toNat a = 0 := by
  cases e : n.toNat with
  | zero => rfl
  | succ k => exact if_neg (by rcases h with h | h; omega; exact h)
theorem hereI_v {S : St} (h : digAt S (S 7 16)) : hereI S = S 4 (S 7 16) := if_pos h.1
theorem txF_r {tl : List Int} (h : ∀ c ∈ tl, 0 ≤ c ∧ c < 128) (j : Int) : 0 ≤ txF tl j ∧ txF tl j < 128 := by
  unfold txF
  rw [List.getD_eq_getElem?_getD]
  cases e : tl[j.toNat]? with
  | none => exact ⟨by decide, by decide⟩
  | some x => exact h x (List.mem_of_getElem? e)
theorem pWord_s {tl : List Int} {k : Int} (h0 : 0 ≤ k) (h1 : k < (tl.length : Int)) : pWord (tl.drop k.toNat) = pIf (pSk (txF tl k)) (pWord (tl.drop (k + 1).toNat)) pNo := by
  rw [show (k + 1).toNat = k.toNat + 1 by omega, List.drop_eq_getElem_cons (by omega : k.toNat < tl.length)]
  have e : txF tl k = tl[k.toNat]'(by omega) := by
    unfold txF
    rw [List.getD_eq_getElem?_getD, List.getElem?_eq_getElem (by omega : k.toNat < tl.length)]
    rfl
  rw [e]
  rfl
theorem pWord_e {tl : List Int} {k : Int} (h1 : (tl.length : Int) ≤ k) (S : St) : pWord (tl.drop k.toNat) S = (S, 1) := by
  rw [List.drop_eq_nil_of_le (by omega)]
  rfl
theorem pIf_tC {f g h : PP} {S : St} (hg : PG f) (e : ¬ (f S).2 = 0) : pIf f g h S = g (pC f S) := by rw [pIf_t e, hg.c S]
theorem pIf_fC {f g h : PP} {S : St} (hg : PG f) (e : (f S).2 = 0) : pIf f g h S = h (pC f S) := by rw [pIf_f e, hg.c S]
theorem PG.e {f : PP} (h : PG f) (S : St) : f S = (pC f S, (f S).2) := by rw [← h.c S]
