/-! WHAT THE MODEL COMPUTES: orders read off the input -/
abbrev PP := St → St × Int
def hereI (S : St) : Int := if S 7 16 < S 7 11 then S 4 (S 7 16) else -1
def pIf (f g h : PP) : PP := fun S => if (f S).2 = 0 then h (f S).1 else g (f S).1
def pNo : PP := fun S => (S, 0)
def pYes : PP := fun S => (S, 1)
theorem pIf_t {f g h : PP} {S : St} (e : ¬ (f S).2 = 0) : pIf f g h S = g (f S).1 := if_neg e
theorem pIf_f {f g h : PP} {S : St} (e : (f S).2 = 0) : pIf f g h S = h (f S).1 := if_pos e
def pSk (c : Int) : PP := fun S => (put S 7 16 (if hereI S = c then S 7 16 + 1 else S 7 16), if hereI S = c then 1 else 0)
def pWord : List Int → PP
  | [] => pYes
  | c :: t => pIf (pSk c) (pWord t) pNo
/-- how many digits from place a on, at most n -/
abbrev digAt (S : St) (a : Int) : Prop := a < S 7 11 ∧ 48 ≤ S 4 a ∧ S 4 a ≤ 57
def digN (S : St) : Nat → Int → Int
  | 0, _ => 0
  | n + 1, a => if digAt S a then digN S n (a + 1) + 1 else 0
def digV (S : St) : Nat → Int → Int → Int
  | 0, _, v => v
  | n + 1, a, v => if digAt S a then digV S n (a + 1) (10 * v + S 4 a - 48) else v
def pFig (p n : Int) : PP := fun S => (put (putR S 6 (if digAt S (S 7 16) then uz (S 6) p (digV S n.toNat (S 7 16) 0) else S 6)) 7 16 (S 7 16 + (if digAt S (S 7 16) then digN S n.toNat (S 7 16) else 0)), if digAt S (S 7 16) then 1 else 0)
def pHas (w : Int) : PP := fun S => (put S 6 (5 * S 7 18) w, 1)
/-- a parser: it changes the place, and what is told, alone -/
def pC (f : PP) (S : St) : St := put (putR S 6 ((f S).1 6)) 7 16 ((f S).1 7 16)
def PG (f : PP) : Prop := (∀ S c, c ≠ 6 → c ≠ 7 → (f S).1 c = S c) ∧ (∀ S i, i ≠ 16 → (f S).1 7 i = S 7 i) ∧
  (∀ S, 0 ≤ S 7 16 → S 7 16 ≤ S 7 11 → S 7 16 ≤ (f S).1 7 16 ∧ (f S).1 7 16 ≤ S 7 11) ∧ ∀ S, (f S).2 = 0 ∨ (f S).2 = 1
theorem PG.o {f : PP} (h : PG f) : ∀ S c, c ≠ 6 → c ≠ 7 → (f S).1 c = S c := h.1
theorem PG.k {f : PP} (h : PG f) : ∀ S i, i ≠ 16 → (f S).1 7 i = S 7 i := h.2.1
theorem PG.m {f : PP} (h : PG f) : ∀ S, 0 ≤ S 7 16 → S 7 16 ≤ S 7 11 → S 7 16 ≤ (f S).1 7 16 ∧ (f S).1 7 16 ≤ S 7 11 := h.2.2.1
theorem PG.r {f : PP} (h : PG f) : ∀ S, (f S).2 = 0 ∨ (f S).2 = 1 := h.2.2.2
theorem PG.c {f : PP} (h : PG f) (S : St) : (f S).1 = pC f S := by
  funext c i
  unfold pC
  show _ = (if c = 7 then uz ((putR S 6 ((f S).1 6)) 7) 16 ((f S).1 7 16) else if c = 6 then (f S).1 6 else S c) i
  by_cases h7 : c = 7
  · subst h7
    rw [if_pos rfl]
    by_cases hi : i = 16
    · subst hi; exact (uz_s _ _ _).symm
    · rw [uz_n hi]
      exact h.k S i hi
  · rw [if_neg h7]
    by_cases h6 : c = 6
    · subst h6; rw [if_pos rfl]
    · rw [if_neg h6, h.o S c h6 h7]
theorem PG.if {f g h : PP} (hf : PG f) (hg : PG g) (hh : PG h) : PG (pIf f g h) := by
  refine ⟨?_, ?_, ?_, ?_⟩
  · intro S c h6 h7
    unfold pIf
    split
    · rw [hh.o _ c h6 h7, hf.o S c h6 h7]
    · rw [hg.o _ c h6 h7, hf.o S c h6 h7]
  · intro S i hi
    unfold pIf
    split
    · rw [hh.k _ i hi, hf.k S i hi]
    · rw [hg.k _ i hi, hf.k S i hi]
  · intro S h0 h1
    have hfm := hf.m S h0 h1
    have e := hf.k S 11 (by decide)
    unfold pIf
    split
    · have := hh.m (f S).1 (by omega) (by omega)
      omega
    · have := hg.m (f S).1 (by omega) (by omega)
      omega
  · intro S
    unfold pIf
    split
    · exact hh.r _
    · exact hg.r _

theorem PG.no : PG pNo := ⟨fun _ _ _ _ => rfl, fun _ _ _ => rfl, fun S _ h => ⟨Int.le_refl _, h⟩, fun _ => Or.inl rfl⟩
theorem PG.yes : PG pYes := ⟨fun _ _ _ _ => rfl, fun _ _ _ => rfl, fun S _ h => ⟨Int.le_refl _, h⟩, fun _ => Or.inr rfl⟩
theorem put_o (S : St) (r : Nat) (i v : Int) {c : Nat} (h : c ≠ r) : put S r i v c = S c := by
  show (if c = r then uz (S r) i v else S c) = S c
  exact if_neg h
theorem put_k (S : St) (r : Nat) (i v : Int) {j : Int} (h : j ≠ i) : put S r i v r j = S r j := by
  show (if r = r then uz (S r) i v else S r) j = S r j
  rw [if_pos rfl]
  exact uz_n h
theorem put_s (S : St) (r : Nat) (i v : Int) : put S r i v r i = v := by
  show (if r = r then uz (S r) i v else S r) i = v
  rw [if_pos rfl]
  exact uz_s _ _ _
theorem hereI_t {S : St} {c : Int} (h : hereI S = c) (hc : 0 ≤ c) : S 7 16 < S 7 11 := by
  unfold hereI at h
  split at h
  · assumption
  · omega
theorem pSk_at (S : St) (c : Int) : (pSk c S).1 7 16 = if hereI S = c then S 7 16 + 1 else S 7 16 := put_s S 7 16 _
theorem PG.sk {c : Int} (hc : 0 ≤ c) : PG (pSk c) := by
  refine ⟨?_, ?_, ?_, ?_⟩
  · intro S c' h6 h7
    exact put_o S 7 16 _ h7
  · intro S i hi
    exact put_k S 7 16 _ hi
  · intro S h0 h1
    rw [pSk_at]
    split
    · rename_i h
      have := hereI_t h hc
      omega
    · omega
  · intro S
    show (if hereI S = c then (1 : Int) else 0) = 0 ∨ (if hereI S = c then (1 : Int) else 0) = 1
    split
    · exact Or.inr rfl
    · exact Or.inl rfl

theorem PG.has (w : Int) : PG (pHas w) := ⟨fun S c h6 _ => put_o S 6 _ _ h6, fun S i _ => congrFun (put_o S 6 (5 * S 7 18) w (show (7 : Nat) ≠ 6 by decide)) i, fun S _ h => ⟨Int.le_refl _, h⟩, fun _ => Or.inr rfl⟩
theorem digN_b (S : St) (n : Nat) : ∀ a, a ≤ S 7 11 → 0 ≤ digN S n a ∧ a + digN S n a ≤ S 7 11 := by
  induction n with
  | zero => intro a h; show 0 ≤ (0 : Int) ∧ a + 0 ≤ S 7 11; omega
  | succ n ih =>
    intro a h
    show 0 ≤ (if digAt S a then digN S n (a + 1) + 1 else 0) ∧ a + (if digAt S a then digN S n (a + 1) + 1 else 0) ≤ S 7 11
    split
    · rename_i hd
      have := ih (a + 1) (by have := hd.1; omega)
      omega
    · omega
theorem pFig_at (S : St) (p n : Int) : (pFig p n S).1 7 16 = S 7 16 + (if digAt S (S 7 16) then digN S n.toNat (S 7 16) else 0) := put_s (putR S 6 (if digAt S (S 7 16) then uz (S 6) p (digV S n.toNat (S 7 16) 0) else S 6)) 7 16 _
theorem PG.fig (p n : Int) : PG (pFig p n) := by
  refine ⟨?_, ?_, ?_, ?_⟩
  · intro S c h6 h7
    exact (put_o _ 7 16 _ h7).trans (if_neg h6)
  · intro S i hi
    exact put_k _ 7 16 _ hi
  · intro S h0 h1
    rw [pFig_at]
    split
    · have := digN_b S n.toNat (S 7 16) h1
      omega
    · omega
  · intro S
    show (if digAt S (S 7 16) then (1 : Int) else 0) = 0 ∨ (if digAt S (S 7 16) then (1 : Int) else 0) = 1
    split
    · exact Or.inr rfl
    · exact Or.inl rfl

theorem PG.word (l : List Int) (h : ∀ c ∈ l, 0 ≤ c) : PG (pWord l) := by
  induction l with
  | nil => exact PG.yes
  | cons c t ih => exact PG.if (PG.sk (h c (List.mem_cons_self))) (ih (fun c hc => h c (List.mem_cons_of_mem _ hc))) PG.no
/-- a parser that takes something, or fails -/
def PS (f : PP) : Prop := ∀ S, 0 ≤ S 7 16 → S 7 16 ≤ S 7 11 → (f S).2 = 0 ∨ S 7 16 + 1 ≤ (f S).1 7 16
theorem PS.no : PS pNo := fun _ _ _ => Or.inl rfl
theorem PS.sk {c : Int} : PS (pSk c) := fun S h0 h1 => by
  show (if hereI S = c then (1 : Int) else 0) = 0 ∨ S 7 16 + 1 ≤ (pSk c S).1 7 16
  rw [pSk_at]
  by_cases h : hereI S = c
  · rw [if_pos h, if_pos h]; exact Or.inr (Int.le_refl _)
  · rw [if_neg h]; exact Or.inl rfl
theorem PS.if {f g h : PP} (hf : PS f) (gf : PG f) (hg : PG g) (hh : PS h) : PS (pIf f g h) := fun S h0 h1 => by
  have hm := gf.m S h0 h1
  have e := gf.k S 11 (by decide)
  by_cases h2 : (f S).2 = 0
  · rw [pIf_f h2]
    rcases hh (f S).1 (by omega) (by omega) with h3 | h3
    · exact Or.inl h3
    · exact Or.inr (by omega)
  · rw [pIf_t h2]
    rcases hf S h0 h1 with h3 | h3
    · exact absurd h3 h2
    · have := hg.m (f S).1 (by omega) (by omega)
      exact Or.inr (by omega)
abbrev pAnd (f g : PP) : PP := pIf f g pNo
def pThr (p : Int) : PP := pAnd (pFig p 1) (pAnd (pSk 62) (pAnd (pFig (p + 1) 1) (pAnd (pSk 64) (pAnd (pFig (p + 2) 2) (pAnd (pSk 42) (pAnd (pFig (p + 3) 2) pYes))))))
def pT (p : Int) : PP := pIf (pSk 101) (pAnd (pHas 4) (pAnd (pWord [97, 99, 104]) (pAnd (pFig p 1) pYes))) (pIf (pSk 114) (pAnd (pHas 5) (pAnd (pWord [121]) (pAnd (pThr p) pYes))) (pAnd (pSk 104) (pAnd (pHas 6) (pAnd (pWord [114, 111, 119]) (pAnd (pThr p) pYes)))))
def pF (p : Int) : PP := pIf (pSk 114) (pAnd (pHas 3) (pAnd (pWord [101, 101]) (pAnd (pFig p 1) (pAnd (pSk 43) (pAnd (pFig (p + 1) 2) pYes))))) (pAnd (pSk 101) (pAnd (pHas 7) (pAnd (pWord [116, 99, 104]) (pAnd (pFig p 1) pYes))))
def pOrdP (p : Int) : PP := pIf (pSk 115) (pAnd (pHas 0) (pAnd (pWord [116, 111, 110, 101]) (pAnd (pFig p 1) (pAnd (pFig (p + 1) 1) pYes))))
  (pIf (pSk 114) (pAnd (pHas 1) (pAnd (pWord [105, 118, 101, 114]) (pAnd (pFig p 2) (pAnd (pSk 47) (pAnd (pFig (p + 1) 1) pYes)))))
  (pIf (pSk 98) (pAnd (pHas 2) (pAnd (pWord [111, 111, 107]) (pAnd (pFig p 1) (pAnd (pSk 62) (pAnd (pFig (p + 1) 1) (pAnd (pSk 43) (pAnd (pFig (p + 2) 2) pYes)))))))
  (pIf (pSk 99) (pAnd (pHas 8) (pAnd (pWord [97, 108, 109]) (pAnd (pFig p 1) (pAnd (pSk 61) (pAnd (pFig (p + 1) 1) pYes)))))
  (pIf (pSk 100) (pAnd (pHas 9) (pAnd (pWord [97, 121]) pYes))
  (pIf (pSk 116) (pT p)
  (pAnd (pSk 102) (pAnd (pF p) pYes)))))))
def pOrd : PP := fun S => pOrdP (5 * S 7 18 + 1) S
theorem PG.thr (p : Int) : PG (pThr p) := PG.if (PG.fig _ _) (PG.if (PG.sk (by decide)) (PG.if (PG.fig _ _) (PG.if (PG.sk (by decide)) (PG.if (PG.fig _ _) (PG.if (PG.sk (by decide)) (PG.if (PG.fig _ _) PG.yes PG.no) PG.no) PG.no) PG.no) PG.no) PG.no) PG.no
theorem PG.t (p : Int) : PG (pT p) := PG.if (PG.sk (by decide)) (PG.if (PG.has _) (PG.if (PG.word _ (by decide)) (PG.if (PG.fig _ _) PG.yes PG.no) PG.no) PG.no) (PG.if (PG.sk (by decide)) (PG.if (PG.has _) (PG.if (PG.word _ (by decide)) (PG.if (PG.thr _) PG.yes PG.no) PG.no) PG.no) (PG.if (PG.sk (by decide)) (PG.if (PG.has _) (PG.if (PG.word _ (by decide)) (PG.if (PG.thr _) PG.yes PG.no) PG.no) PG.no) PG.no))
theorem PG.f (p : Int) : PG (pF p) := PG.if (PG.sk (by decide)) (PG.if (PG.has _) (PG.if (PG.word _ (by decide)) (PG.if (PG.fig _ _) (PG.if (PG.sk (by decide)) (PG.if (PG.fig _ _) PG.yes PG.no) PG.no) PG.no) PG.no) PG.no) (PG.if (PG.sk (by decide)) (PG.if (PG.has _) (PG.if (PG.word _ (by decide)) (PG.if (PG.fig _ _) PG.yes PG.no) PG.no) PG.no) PG.no)
theorem PG.ordP (p : Int) : PG (pOrdP p) ∧ PS (pOrdP p) := by
  have g1 : PG (pAnd (pHas 0) (pAnd (pWord [116, 111, 110, 101]) (pAnd (pFig p 1) (pAnd (pFig (p + 1) 1) pYes)))) := PG.if (PG.has _) (PG.if (PG.word _ (by decide)) (PG.if (PG.fig _ _) (PG.if (PG.fig _ _) PG.yes PG.no) PG.no) PG.no) PG.no
  have g2 : PG (pAnd (pHas 1) (pAnd (pWord [105, 118, 101, 114]) (pAnd (pFig p 2) (pAnd (pSk 47) (pAnd (pFig (p + 1) 1) pYes))))) := PG.if (PG.has _) (PG.if (PG.word _ (by decide)) (PG.if (PG.fig _ _) (PG.if (PG.sk (by decide)) (PG.if (PG.fig _ _) PG.yes PG.no) PG.no) PG.no) PG.no) PG.no
  have g3 : PG (pAnd (pHas 2) (pAnd (pWord [111, 111, 107]) (pAnd (pFig p 1) (pAnd (pSk 62) (pAnd (pFig (p + 1) 1) (pAnd (pSk 43) (pAnd (pFig (p + 2) 2) pYes))))))) := PG.if (PG.has _) (PG.if (PG.word _ (by decide)) (PG.if (PG.fig _ _) (PG.if (PG.sk (by decide)) (PG.if (PG.fig _ _) (PG.if (PG.sk (by decide)) (PG.if (PG.fig _ _) PG.yes PG.no) PG.no) PG.no) PG.no) PG.no) PG.no) PG.no
  have g4 : PG (pAnd (pHas 8) (pAnd (pWord [97, 108, 109]) (pAnd (pFig p 1) (pAnd (pSk 61) (pAnd (pFig (p + 1) 1) pYes))))) := PG.if (PG.has _) (PG.if (PG.word _ (by decide)) (PG.if (PG.fig _ _) (PG.if (PG.sk (by decide)) (PG.if (PG.fig _ _) PG.yes PG.no) PG.no) PG.no) PG.no) PG.no
  have g5 : PG (pAnd (pHas 9) (pAnd (pWord [97, 121]) pYes)) := PG.if (PG.has _) (PG.if (PG.word _ (by decide)) PG.yes PG.no) PG.no
  have g7 : PG (pAnd (pF p) pYes) := PG.if (PG.f p) PG.yes PG.no
  have k : ∀ {c : Int}, 0 ≤ c → PG (pSk c) := PG.sk
  refine ⟨PG.if (k (by decide)) g1 (PG.if (k (by decide)) g2 (PG.if (k (by decide)) g3 (PG.if (k (by decide)) g4 (PG.if (k (by decide)) g5 (PG.if (k (by decide)) (PG.t p) (PG.if (k (by decide)) g7 PG.no)))))), ?_⟩
  exact PS.if PS.sk (k (by decide)) g1 (PS.if PS.sk (k (by decide)) g2 (PS.if PS.sk (k (by decide)) g3 (PS.if PS.sk (k (by decide)) g4 (PS.if PS.sk (k (by decide)) g5 (PS.if PS.sk (k (by decide)) (PG.t p) (PS.if PS.sk (k (by decide)) g7 PS.no))))))
theorem PG.ord : PG pOrd := ⟨fun S => (PG.ordP _).1.o S, fun S => (PG.ordP _).1.k S, fun S => (PG.ordP _).1.m S, fun S => (PG.ordP _).1.r S⟩
theorem PS.ord : PS pOrd := fun S => (PG.ordP _).2 S
/-- the text: at most n orders -/
def pTxtN : Nat → PP
  | 0 => pNo
  | n + 1 => fun S => if (pOrd S).2 = 0 then ((pOrd S).1, 0) else
      if (pSk 59 (put (pOrd S).1 7 18 (S 7 18 + 1))).2 = 0 then ((pSk 59 (put (pOrd S).1 7 18 (S 7 18 + 1))).1, b2 ((pSk 59 (put (pOrd S).1 7 18 (S 7 18 + 1))).1 7 16 = S 7 11)) else pTxtN n (pSk 59 (put (pOrd S).1 7 18 (S 7 18 + 1))).1
def pTxt : PP := fun S => pTxtN 61 (put (put S 7 16 0) 7 18 0)
/-- the text read: place, what is told and how much of it, alone -/
def pX (S : St) : St := put (put (putR S 6 ((pTxt S).1 6)) 7 16 ((pTxt S).1 7 16)) 7 18 ((pTxt S).1 7 18)
theorem pTxtN_s (n : Nat) (S : St) : pTxtN (n + 1) S = if (pOrd S).2 = 0 then ((pOrd S).1, 0) else
      if (pSk 59 (put (pOrd S).1 7 18 (S 7 18 + 1))).2 = 0 then ((pSk 59 (put (pOrd S).1 7 18 (S 7 18 + 1))).1, b2 ((pSk 59 (put (pOrd S).1 7 18 (S 7 18 + 1))).1 7 16 = S 7 11)) else pTxtN n (pSk 59 (put (pOrd S).1 7 18 (S 7 18 + 1))).1 := rfl
theorem pTxtN_k (n : Nat) : ∀ S, (∀ c, c ≠ 6 → c ≠ 7 → (pTxtN n S).1 c = S c) ∧ ∀ i, i ≠ 16 → i ≠ 18 → (pTxtN n S).1 7 i = S 7 i := by
  induction n with
  | zero => exact fun S => ⟨fun _ _ _ => rfl, fun _ _ _ => rfl⟩
  | succ n ih =>
    intro S
    have hs := (PG.sk (c := 59) (by decide))
    have ho := PG.ord
    have e1 : ∀ c, c ≠ 6 → c ≠ 7 → (pSk 59 (put (pOrd S).1 7 18 (S 7 18 + 1))).1 c = S c := fun c h6 h7 => by rw [hs.o _ c h6 h7, put_o _ 7 18 _ h7, ho.o S c h6 h7]
    have e2 : ∀ i, i ≠ 16 → i ≠ 18 → (pSk 59 (put (pOrd S).1 7 18 (S 7 18 + 1))).1 7 i = S 7 i := fun i h6 h8 => by rw [hs.k _ i h6, put_k _ 7 18 _ h8, ho.k S i h6]
    rw [pTxtN_s]
    split
    · exact ⟨fun c h6 h7 => ho.o S c h6 h7, fun i h6 _ => ho.k S i h6⟩
    · split
      · exact ⟨e1, e2⟩
      · exact ⟨fun c h6 h7 => ((ih _).1 c h6 h7).trans (e1 c h6 h7), fun i h6 h8 => ((ih _).2 i h6 h8).trans (e2 i h6 h8)⟩
theorem pX_e (S : St) : (pTxt S).1 = pX S := by
  have h := pTxtN_k 61 (put (put S 7 16 0) 7 18 0)
  funext c i
  unfold pX
  show _ = (if c = 7 then uz (uz (S 7) 16 ((pTxt S).1 7 16)) 18 ((pTxt S).1 7 18) else if c = 7 then _ else if c = 6 then (pTxt S).1 6 else S c) i
  by_cases h7 : c = 7
  · subst h7
    rw [if_pos rfl]
    by_cases hi : i = 18
    · subst hi; exact (uz_s _ _ _).symm
    · rw [uz_n hi]
      by_cases hj : i = 16
      · subst hj; exact (uz_s _ _ _).symm
      · rw [uz_n hj]
        refine (h.2 i hj hi).trans ?_
        rw [put_k _ 7 18 _ hi, put_k _ 7 16 _ hj]
  · rw [if_neg h7, if_neg h7]
    by_cases h6 : c = 6
    · subst h6; rw [if_pos rfl]
    · rw [if_neg h6]
      refine congrFun ((h.1 c h6 h7).trans ?_) i
      rw [put_o _ 7 18 _ h7, put_o _ 7 16 _ h7]
