/-! WHAT THE MODEL's CALLS DO: the answer and the state behind; what a school's row keeps (GI) -/
abbrev SB (g : Int → Int) (k : Int) : Prop := 0 ≤ g (10 + 14 * k + 0) ∧ g (10 + 14 * k + 0) ≤ 9 ∧ 1 ≤ g (10 + 14 * k + 1) ∧ g (10 + 14 * k + 1) ≤ 9 ∧ 0 ≤ g (10 + 14 * k + 2) ∧ g (10 + 14 * k + 2) ≤ 99
abbrev RB (g : Int → Int) (r : Int) : Prop := 5 ≤ g (150 + 6 * r + 0) ∧ g (150 + 6 * r + 0) ≤ 60 ∧ 0 ≤ g (150 + 6 * r + 1) ∧ g (150 + 6 * r + 1) ≤ 9
/-- what holds of a school's row, B: how many changes were made at most -/
def GI (B : Int) (g : Int → Int) : Prop :=
  (0 ≤ g 0 ∧ g 0 ≤ 10) ∧ (0 ≤ g 1 ∧ g 1 ≤ 4) ∧ (∀ k, 0 ≤ k → k < g 0 → SB g k) ∧ (∀ r, 0 ≤ r → r < g 1 → RB g r) ∧
  (∀ k, 0 ≤ k → k < g 0 → (-1 ≤ g (10 + 14 * k + 3) ∧ g (10 + 14 * k + 3) ≤ 90) ∧ (0 ≤ g (10 + 14 * k + 4) ∧ g (10 + 14 * k + 4) ≤ 240) ∧ (-2 ≤ g (10 + 14 * k + 5) ∧ g (10 + 14 * k + 5) < g 1) ∧ (0 ≤ g (10 + 14 * k + 6) ∧ g (10 + 14 * k + 6) ≤ B) ∧ (0 ≤ g (10 + 14 * k + 7) ∧ g (10 + 14 * k + 7) ≤ 240 * B) ∧ (-1 ≤ g (10 + 14 * k + 8) ∧ g (10 + 14 * k + 8) ≤ g 2) ∧ (-1 ≤ g (10 + 14 * k + 9) ∧ g (10 + 14 * k + 9) ≤ g 2)) ∧
  (∀ r, 0 ≤ r → r < g 1 → (0 ≤ g (150 + 6 * r + 2) ∧ g (150 + 6 * r + 2) ≤ 240) ∧ (-1 ≤ g (150 + 6 * r + 3) ∧ g (150 + 6 * r + 3) ≤ 9) ∧ (0 ≤ g (150 + 6 * r + 4) ∧ g (150 + 6 * r + 4) ≤ B)) ∧
  (∀ r a, 0 ≤ r → r < 4 → 0 ≤ a → a < 30 → -1 ≤ g (174 + 30 * r + a) ∧ g (174 + 30 * r + a) ≤ 9 ∧ (g 1 ≤ r → g (174 + 30 * r + a) = -1)) ∧
  (0 ≤ g 8 ∧ stay g (-2) = g 8) ∧ (∀ i, 0 ≤ i → i < g 8 → 0 ≤ g (294 + i) ∧ g (294 + i) < g 0 ∧ g (10 + 14 * g (294 + i) + 5) = -2) ∧
  (0 ≤ g 2 ∧ g 2 ≤ B) ∧ (0 ≤ g 5 ∧ g 5 ≤ B) ∧ (0 ≤ g 6 ∧ g 6 ≤ g 5) ∧ (0 ≤ g 3 ∧ g 3 ≤ B) ∧ (0 ≤ g 4 ∧ g 4 ≤ B) ∧ (0 ≤ g 7 ∧ g 7 ≤ 240 * B) ∧ (0 ≤ B ∧ B ≤ 4000)
theorem GI.n {B : Int} {g : Int → Int} (h : GI B g) : 0 ≤ g 0 ∧ g 0 ≤ 10 := h.1
theorem GI.m {B : Int} {g : Int → Int} (h : GI B g) : 0 ≤ g 1 ∧ g 1 ≤ 4 := h.2.1
theorem GI.st {B : Int} {g : Int → Int} (h : GI B g) (k : Int) (h1 : 0 ≤ k) (h2 : k < g 0) : SB g k := h.2.2.1 k h1 h2
theorem GI.rv {B : Int} {g : Int → Int} (h : GI B g) (r : Int) (h1 : 0 ≤ r) (h2 : r < g 1) : RB g r := h.2.2.2.1 r h1 h2
theorem GI.sx {B : Int} {g : Int → Int} (h : GI B g) (k : Int) (h1 : 0 ≤ k) (h2 : k < g 0) : (-1 ≤ g (10 + 14 * k + 3) ∧ g (10 + 14 * k + 3) ≤ 90) ∧ (0 ≤ g (10 + 14 * k + 4) ∧ g (10 + 14 * k + 4) ≤ 240) ∧ (-2 ≤ g (10 + 14 * k + 5) ∧ g (10 + 14 * k + 5) < g 1) ∧ (0 ≤ g (10 + 14 * k + 6) ∧ g (10 + 14 * k + 6) ≤ B) ∧ (0 ≤ g (10 + 14 * k + 7) ∧ g (10 + 14 * k + 7) ≤ 240 * B) ∧ (-1 ≤ g (10 + 14 * k + 8) ∧ g (10 + 14 * k + 8) ≤ g 2) ∧ (-1 ≤ g (10 + 14 * k + 9) ∧ g (10 + 14 * k + 9) ≤ g 2) := h.2.2.2.2.1 k h1 h2
theorem GI.rx {B : Int} {g : Int → Int} (h : GI B g) (r : Int) (h1 : 0 ≤ r) (h2 : r < g 1) : (0 ≤ g (150 + 6 * r + 2) ∧ g (150 + 6 * r + 2) ≤ 240) ∧ (-1 ≤ g (150 + 6 * r + 3) ∧ g (150 + 6 * r + 3) ≤ 9) ∧ (0 ≤ g (150 + 6 * r + 4) ∧ g (150 + 6 * r + 4) ≤ B) := h.2.2.2.2.2.1 r h1 h2
theorem GI.bk {B : Int} {g : Int → Int} (h : GI B g) (r a : Int) (h1 : 0 ≤ r) (h2 : r < 4) (h3 : 0 ≤ a) (h4 : a < 30) : -1 ≤ g (174 + 30 * r + a) ∧ g (174 + 30 * r + a) ≤ 9 ∧ (g 1 ≤ r → g (174 + 30 * r + a) = -1) := h.2.2.2.2.2.2.1 r a h1 h2 h3 h4
theorem GI.al {B : Int} {g : Int → Int} (h : GI B g) : 0 ≤ g 8 ∧ stay g (-2) = g 8 := h.2.2.2.2.2.2.2.1
theorem GI.ai {B : Int} {g : Int → Int} (h : GI B g) (i : Int) (h1 : 0 ≤ i) (h2 : i < g 8) : 0 ≤ g (294 + i) ∧ g (294 + i) < g 0 ∧ g (10 + 14 * g (294 + i) + 5) = -2 := h.2.2.2.2.2.2.2.2.1 i h1 h2
theorem GI.ct {B : Int} {g : Int → Int} (h : GI B g) : (0 ≤ g 2 ∧ g 2 ≤ B) ∧ (0 ≤ g 5 ∧ g 5 ≤ B) ∧ (0 ≤ g 6 ∧ g 6 ≤ g 5) ∧ (0 ≤ g 3 ∧ g 3 ≤ B) ∧ (0 ≤ g 4 ∧ g 4 ≤ B) ∧ (0 ≤ g 7 ∧ g 7 ≤ 240 * B) ∧ (0 ≤ B ∧ B ≤ 4000) := h.2.2.2.2.2.2.2.2.2
theorem sumTo_lt {f : Int → Int} (hf : ∀ k, 0 ≤ f k ∧ f k ≤ 1) {n : Nat} {k : Int} (h0 : 0 ≤ k) (h1 : k < n) (h : f k = 0) : sumTo f n < n := by
  induction n with
  | zero => omega
  | succ n ih =>
    show sumTo f n + f n < ((n + 1 : Nat) : Int)
    have hb := sumTo_b f hf n
    have hn := hf n
    by_cases e : k = n
    · subst e; omega
    · have := ih (by omega); omega
/-- not all are sunk: there is a place for one more alumnus -/
theorem GI.room {B : Int} {g : Int → Int} (h : GI B g) (k : Int) (h1 : 0 ≤ k) (h2 : k < g 0) (h3 : g (10 + 14 * k + 5) ≠ -2) : 0 ≤ g 8 ∧ g 8 < 10 := by
  have ha := h.al
  have hn := h.n
  have hl : stay g (-2) < ((g 0).toNat : Int) := sumTo_lt (fun _ => b2_01 _) h1 (by omega) (b2_f (fun z => by rcases z with z | z <;> omega))
  omega
theorem kz_mulb {a b A B : Int} (ha : 0 ≤ a ∧ a ≤ A) (hb : 0 ≤ b ∧ b ≤ B) : 0 ≤ a * b ∧ a * b ≤ A * B := ⟨Int.mul_nonneg ha.1 hb.1, Int.mul_le_mul ha.2 hb.2 hb.1 (by omega)⟩
theorem strengthG_b {g : Int → Int} {k sp : Int} (h : SB g k) (hs : 1 ≤ sp ∧ sp ≤ 20) : -10 ≤ strengthG g k sp ∧ strengthG g k sp ≤ 240 := by
  obtain ⟨a1, a2, a3, a4, a5, a6⟩ := h
  have := kz_mulb (a := sp) (b := g (10 + 14 * k + 0) + 2) (A := 20) (B := 11) (by omega) (by omega)
  unfold strengthG
  omega
theorem apartG_b {a b : Int} (ha : 0 ≤ a ∧ a ≤ 90) (hb : 0 ≤ b ∧ b ≤ 90) : 0 ≤ apartG a b ∧ apartG a b ≤ 90 := by unfold apartG; split <;> omega
theorem ownAng_b {g : Int → Int} {k : Int} (h : SB g k) : 1 ≤ ownAng g k ∧ ownAng g k ≤ 27 := by
  obtain ⟨a1, a2, a3, a4, a5, a6⟩ := h
  unfold ownAng
  omega
theorem dragG_b {g : Int → Int} {k r a : Int} (h : SB g k) (h2 : RB g r) (ha : 0 ≤ a ∧ a ≤ 90) : 1 ≤ dragG g k r a ∧ dragG g k r a ≤ 40 := by
  have h1 := ownAng_b h
  have h3 := apartG_b (a := a) (b := ownAng g k) ha (by omega)
  obtain ⟨b1, b2, b3, b4⟩ := h2
  unfold dragG
  omega
def skipsG (g : Int → Int) (k r a sp : Int) : Int := skN (strengthG g k sp) (dragG g k r a)
def wayG (g : Int → Int) (k r a sp : Int) : Int := wyN (strengthG g k sp) (dragG g k r a)
theorem skipsG_b {g : Int → Int} {k r a sp : Int} (h : SB g k) (h2 : RB g r) (ha : 0 ≤ a ∧ a ≤ 90) (hs : 1 ≤ sp ∧ sp ≤ 20) : 0 ≤ skipsG g k r a sp ∧ skipsG g k r a sp ≤ 240 := by
  have := dragG_b h h2 ha
  have := strengthG_b h hs
  exact skN_b (by omega) 240 _ (by omega)
theorem wayG_b {g : Int → Int} {k r a sp : Int} (h : SB g k) (h2 : RB g r) (ha : 0 ≤ a ∧ a ≤ 90) (hs : 1 ≤ sp ∧ sp ≤ 20) : 0 ≤ wayG g k r a sp ∧ wayG g k r a sp ≤ 57840 := by
  have := dragG_b h h2 ha
  have := strengthG_b h hs
  exact wyN_b (by omega) 240 _ (by omega)
/-- is this a throw, and of what stone and river: 0, or the place of the exception -/
def throwCode (g : Int → Int) (k r a sp : Int) : Int := if 0 ≤ k ∧ k ≤ g 0 - 1 ∧ 0 ≤ r ∧ r ≤ g 1 - 1 then (if 0 ≤ a ∧ a ≤ 90 ∧ 1 ≤ sp ∧ sp ≤ 20 then 0 else 2) else 1
theorem throwCode_b (g : Int → Int) (k r a sp : Int) : 0 ≤ throwCode g k r a sp ∧ throwCode g k r a sp ≤ 2 := by unfold throwCode; (repeat' split) <;> omega
theorem throwCode_0 {g : Int → Int} {k r a sp : Int} (h : throwCode g k r a sp = 0) : 0 ≤ k ∧ k ≤ g 0 - 1 ∧ 0 ≤ r ∧ r ≤ g 1 - 1 ∧ 0 ≤ a ∧ a ≤ 90 ∧ 1 ≤ sp ∧ sp ≤ 20 := by
  unfold throwCode at h
  split at h
  · split at h <;> omega
  · omega
def gTeach (g : Int → Int) (k : Int) : Int → Int := uz (uz (uz g (10 + 14 * k + 2) (min (g (10 + 14 * k + 2) + 1 + g (10 + 14 * k + 0) / 2) 99)) (10 + 14 * k + 8) (g 2)) 3 (g 3 + 1)
def gTrial (g : Int → Int) (k a n : Int) : Int → Int := uz (uz (if g (10 + 14 * k + 4) < n ∨ g (10 + 14 * k + 3) < 0 then uz (uz g (10 + 14 * k + 3) a) (10 + 14 * k + 4) n else g) (10 + 14 * k + 9) (g 2)) 4 (g 4 + 1)
/-- a throw's row ahead of what becomes of the stone -/
def gSkim0 (g : Int → Int) (k r n : Int) : Int → Int := uz (uz (uz (uz g (10 + 14 * k + 6) (g (10 + 14 * k + 6) + 1)) (10 + 14 * k + 7) (g (10 + 14 * k + 7) + n)) 5 (g 5 + 1)) 7 (g 7 + n)
def gSaw (g : Int → Int) (r k n : Int) : Int → Int := if g (150 + 6 * r + 3) < 0 ∨ g (150 + 6 * r + 2) < n then uz (uz g (150 + 6 * r + 2) n) (150 + 6 * r + 3) k else g
theorem gSkim0_n {g : Int → Int} {k r n j : Int} (h1 : j ≠ 10 + 14 * k + 6) (h2 : j ≠ 10 + 14 * k + 7) (h3 : j ≠ 5) (h4 : j ≠ 7) : gSkim0 g k r n j = g j := by
  unfold gSkim0
  rw [uz_n h4, uz_n h3, uz_n h2, uz_n h1]
theorem gSaw0_t {g : Int → Int} {k r n : Int} (hk : 0 ≤ k ∧ k < 10) (hr : 0 ≤ r ∧ r < 4) (h : g (150 + 6 * r + 3) < 0 ∨ g (150 + 6 * r + 2) < n) : gSaw (gSkim0 g k r n) r k n = uz (uz (gSkim0 g k r n) (150 + 6 * r + 2) n) (150 + 6 * r + 3) k := by
  unfold gSaw
  exact if_pos (by rw [gSkim0_n (by omega) (by omega) (by omega) (by omega), gSkim0_n (by omega) (by omega) (by omega) (by omega)]; exact h)
theorem gSaw0_f {g : Int → Int} {k r n : Int} (hk : 0 ≤ k ∧ k < 10) (hr : 0 ≤ r ∧ r < 4) (h : ¬ (g (150 + 6 * r + 3) < 0 ∨ g (150 + 6 * r + 2) < n)) : gSaw (gSkim0 g k r n) r k n = gSkim0 g k r n := by
  unfold gSaw
  exact if_neg (by rw [gSkim0_n (by omega) (by omega) (by omega) (by omega), gSkim0_n (by omega) (by omega) (by omega) (by omega)]; exact h)
def gOver (g : Int → Int) (k r n : Int) : Int → Int := uz (uz (uz g (10 + 14 * k + 5) r) (10 + 14 * k + 2) (min (g (10 + 14 * k + 2) + n) 99)) 6 (g 6 + 1)
def gSink (g : Int → Int) (k r : Int) : Int → Int := uz (uz (uz (uz (uz g (10 + 14 * k + 5) (-2)) (10 + 14 * k + 10) (g 2)) (150 + 6 * r + 4) (g (150 + 6 * r + 4) + 1)) (294 + g 8) k) 8 (g 8 + 1)
def gSkim (g : Int → Int) (k r a sp : Int) : Int → Int :=
  if g (150 + 6 * r + 0) ≤ wayG g k r a sp then gOver (gSaw (gSkim0 g k r (skipsG g k r a sp)) r k (skipsG g k r a sp)) k r (skipsG g k r a sp) else gSink (gSaw (gSkim0 g k r (skipsG g k r a sp)) r k (skipsG g k r a sp)) k r
/-- a day goes by: the bookings of river r, up to its place k, moved -/
def gDayR (g : Int → Int) (r : Int) : Int → Int := fun j => if 174 + 30 * r ≤ j ∧ j < 174 + 30 * r + 29 then g (j + 1) else if j = 174 + 30 * r + 29 then -1 else g j
def gDayN (g : Int → Int) : Nat → Int → Int
  | 0 => g
  | n + 1 => gDayR (gDayN g n) n
def gDay (g : Int → Int) : Int → Int := uz (gDayN g (g 1).toNat) 2 (g 2 + 1)
def dayN (g : Int → Int) : Int := sumTo (fun r => b2 (0 ≤ g (174 + 30 * r + 1))) (g 1).toNat
def bestF (f : Int → Int) : Nat → Int
  | 0 => 0
  | n + 1 => if f (bestF f n) < f (n + 1 : Nat) then ((n + 1 : Nat) : Int) else bestF f n
theorem bestF_b (f : Int → Int) (n : Nat) : 0 ≤ bestF f n ∧ bestF f n ≤ n := by
  induction n with
  | zero => exact ⟨Int.le_refl _, Int.le_refl _⟩
  | succ n ih => unfold bestF; split <;> omega
theorem bestF_s (f : Int → Int) {k : Int} (h : 0 ≤ k) : bestF f (k + 1).toNat = if f (bestF f k.toNat) < f (k + 1) then k + 1 else bestF f k.toNat := by
  obtain ⟨n, rfl⟩ := Int.eq_ofNat_of_zero_le h
  rfl
/-- the first place from k on where P holds, of n places; -1 without one -/
def firstF (P : Int → Prop) [DecidablePred P] : Nat → Int → Int
  | 0, _ => -1
  | n + 1, k => if P k then k else firstF P n (k + 1)
theorem firstF_s (P : Int → Prop) [DecidablePred P] {m k : Int} (h : k < m) : firstF P (m - k).toNat k = if P k then k else firstF P (m - (k + 1)).toNat (k + 1) := by
  obtain ⟨n, hn⟩ : ∃ n, (m - k).toNat = n + 1 := ⟨(m - k).toNat - 1, by omega⟩
  rw [hn, show (m - (k + 1)).toNat = n by omega]
  rfl
theorem firstF_0 (P : Int → Prop) [DecidablePred P] {m k : Int} (h : m ≤ k) : firstF P (m - k).toNat k = -1 := by
  rw [show (m - k).toNat = 0 by omega]
  rfl
theorem firstF_b (P : Int → Prop) [DecidablePred P] : ∀ (n : Nat) (k : Int), firstF P n k = -1 ∨ (k ≤ firstF P n k ∧ firstF P n k < k + n ∧ P (firstF P n k)) := by
  intro n
  induction n with
  | zero => intro k; exact Or.inl rfl
  | succ n ih =>
    intro k
    unfold firstF
    split
    · rename_i h
      exact Or.inr ⟨Int.le_refl _, by omega, h⟩
    · rcases ih (k + 1) with h | h
      · exact Or.inl h
      · exact Or.inr ⟨by omega, by omega, h.2.2⟩
def leastG (g : Int → Int) (k r a : Int) : Int := firstF (fun sp => g (150 + 6 * r + 0) ≤ wayG g k r a sp) 20 1
/-- how many days ahead of place k are free in a row -/
def runF (g : Int → Int) (r : Int) : Nat → Int
  | 0 => 0
  | n + 1 => if 0 ≤ g (174 + 30 * r + n) then 0 else runF g r n + 1
theorem runF_b (g : Int → Int) (r : Int) (n : Nat) : 0 ≤ runF g r n ∧ runF g r n ≤ n := by
  induction n with
  | zero => exact ⟨Int.le_refl _, Int.le_refl _⟩
  | succ n ih => unfold runF; split <;> omega
theorem runF_s (g : Int → Int) (r : Int) {k : Int} (h : 0 ≤ k) : runF g r (k + 1).toNat = if 0 ≤ g (174 + 30 * r + k) then 0 else runF g r k.toNat + 1 := by
  obtain ⟨n, rfl⟩ := Int.eq_ofNat_of_zero_le h
  rfl
def nextG (g : Int → Int) (r d : Int) : Int := firstF (fun k => runF g r (k + 1).toNat = d) 30 0
def aheadOf (g : Int → Int) (w k o : Int) : Int := b2 (g (10 + 14 * k + w) < g (10 + 14 * o + w) ∨ (g (10 + 14 * o + w) = g (10 + 14 * k + w) ∧ o < k))
def placeOf (g : Int → Int) (w k : Int) : Int := sumTo (aheadOf g w k) (g 0).toNat
def whatOf (m : Int) : Int := if m = 0 then 2 else if m = 1 then 7 else 4
def rankG (g : Int → Int) (m p : Int) : Int := firstF (fun k => placeOf g (whatOf m) k = p) (g 0).toNat 0
def gradedG (g : Int → Int) (c : Int) : Int := sumTo (fun k => b2 (gradeG g k = c)) (g 0).toNat
def skillsG (g : Int → Int) : Int := sumTo (fun k => g (10 + 14 * k + 2)) (g 0).toNat
-- the calls
def xStone (S : St) (f w : Int) : St × Int :=
  if ¬ (0 ≤ f ∧ f ≤ 9 ∧ 1 ≤ w ∧ w ≤ 9) then (put S 7 7 1, 0) else
  if S 0 0 = 10 then (mRef (put S 7 7 0) 2 1 10, 0) else (putR (mKeeps (put S 7 7 0) 0) 0 (gStone (S 0) f w), S 0 0)
def xRiver (S : St) (w c : Int) : St × Int :=
  if ¬ (5 ≤ w ∧ w ≤ 60 ∧ 0 ≤ c ∧ c ≤ 9) then (put S 7 7 1, 0) else
  if S 0 1 = 4 then (mRef (put S 7 7 0) 2 1 4, 0) else (putR (mKeeps (put S 7 7 0) 0) 0 (gRiver (S 0) w c), S 0 1 + 1 - 1)
def xCalm (S : St) (r c : Int) : St × Int :=
  if ¬ (0 ≤ r ∧ r ≤ S 0 1 - 1) then (put S 7 7 1, 0) else if ¬ (0 ≤ c ∧ c ≤ 9) then (put S 7 7 2, 0) else
  if S 0 (150 + 6 * r + 1) = c then (mRef (put S 7 7 0) 3 7 c, 0) else (put (mKeeps (put S 7 7 0) 0) 0 (150 + 6 * r + 1) c, S 0 (150 + 6 * r + 1))
def xStoneOf (S : St) (k w : Int) : St × Int :=
  if ¬ (0 ≤ k ∧ k ≤ S 0 0 - 1) then (put S 7 7 1, 0) else if ¬ (0 ≤ w ∧ w ≤ 9) then (put S 7 7 2, 0) else
  (put S 7 7 0, if w = 3 then ownAng (S 0) k else if w = 9 then daysFor (S 0) k else if w < 3 then S 0 (10 + 14 * k + w) else S 0 (10 + 14 * k + (w - 1)))
def xGrade (S : St) (k : Int) : St × Int := if ¬ (0 ≤ k ∧ k ≤ S 0 0 - 1) then (put S 7 7 1, 32) else (put S 7 7 0, gradeG (S 0) k)
def xRiverOf (S : St) (r w : Int) : St × Int :=
  if ¬ (0 ≤ r ∧ r ≤ S 0 1 - 1) then (put S 7 7 1, 0) else if ¬ (0 ≤ w ∧ w ≤ 6) then (put S 7 7 2, 0) else
  (put S 7 7 0, if w = 2 then daysOf (S 0) r else if w = 5 then stay (S 0) r else S 0 (150 + 6 * r + (if w < 2 then w else if w < 5 then w - 1 else 4)))
def xBook (S : St) (k r a : Int) : St × Int :=
  if ¬ (0 ≤ k ∧ k ≤ S 0 0 - 1 ∧ 0 ≤ r ∧ r ≤ S 0 1 - 1) then (put S 7 7 1, 0) else if ¬ (0 ≤ a ∧ a ≤ 29) then (put S 7 7 2, 0) else
  if S 0 (10 + 14 * k + 5) = -2 then (mRef (put S 7 7 0) 3 4 (S 0 (10 + 14 * k + 10)), 0) else
  if 0 ≤ S 0 (174 + 30 * r + a) then (mRef (put S 7 7 0) 3 2 (S 0 (174 + 30 * r + a)), 0) else
  (put (mKeeps (put S 7 7 0) 0) 0 (174 + 30 * r + a) k, daysOf (uz (S 0) (174 + 30 * r + a) k) r)
def xFree (S : St) (r a : Int) : St × Int :=
  if ¬ (0 ≤ r ∧ r ≤ S 0 1 - 1) then (put S 7 7 1, 0) else if ¬ (0 ≤ a ∧ a ≤ 29) then (put S 7 7 2, 0) else
  if S 0 (174 + 30 * r + a) < 0 then (mRef (put S 7 7 0) 3 10 (daysOf (S 0) r), 0) else
  (put (mKeeps (put S 7 7 0) 0) 0 (174 + 30 * r + a) (-1), S 0 (174 + 30 * r + a))
def xBooked (S : St) (r a : Int) : St × Int :=
  if ¬ (0 ≤ r ∧ r ≤ S 0 1 - 1) then (put S 7 7 1, 0) else if ¬ (0 ≤ a ∧ a ≤ 29) then (put S 7 7 2, 0) else (put S 7 7 0, S 0 (174 + 30 * r + a))
def xNextFree (S : St) (r d : Int) : St × Int :=
  if ¬ (0 ≤ r ∧ r ≤ S 0 1 - 1) then (put S 7 7 1, 0) else if ¬ (1 ≤ d ∧ d ≤ 30) then (put S 7 7 2, 0) else
  if nextG (S 0) r d < 0 then (put (put S 7 7 0) 7 7 3, 0) else (put S 7 7 0, nextG (S 0) r d + 1 - d)
def xTeach (S : St) (k : Int) : St × Int :=
  if ¬ (0 ≤ k ∧ k ≤ S 0 0 - 1) then (put S 7 7 1, 0) else
  if S 0 (10 + 14 * k + 5) = -2 then (mRef (put S 7 7 0) 2 4 (S 0 (10 + 14 * k + 10)), 0) else
  if S 0 (10 + 14 * k + 8) = S 0 2 then (mRef (put S 7 7 0) 2 8 (S 0 2), 0) else
  if S 0 (10 + 14 * k + 2) = 99 then (mRef (put S 7 7 0) 2 9 99, 0) else
  (putR (mKeeps (put S 7 7 0) 0) 0 (gTeach (S 0) k), min (S 0 (10 + 14 * k + 2) + 1 + S 0 (10 + 14 * k + 0) / 2) 99)
def xTrial (S : St) (k r a sp : Int) : St × Int :=
  if 0 < throwCode (S 0) k r a sp then (put S 7 7 (throwCode (S 0) k r a sp), 0) else
  if S 0 (10 + 14 * k + 5) = -2 then (mRef (put S 7 7 0) 3 4 (S 0 (10 + 14 * k + 10)), 0) else
  if S 0 (10 + 14 * k + 9) = S 0 2 then (mRef (put S 7 7 0) 3 8 (S 0 2), 0) else
  (putR (mKeeps (put S 7 7 0) 0) 0 (gTrial (S 0) k a (skipsG (S 0) k r a sp)), skipsG (S 0) k r a sp)
def xSkim (S : St) (k r a sp : Int) : St × Int :=
  if 0 < throwCode (S 0) k r a sp then (put S 7 7 (throwCode (S 0) k r a sp), 0) else
  if S 0 (10 + 14 * k + 5) = -2 then (mRef (put S 7 7 0) 3 4 (S 0 (10 + 14 * k + 10)), 0) else
  if 0 ≤ S 0 (10 + 14 * k + 5) then (mRef (put S 7 7 0) 3 5 (S 0 (10 + 14 * k + 5)), 0) else
  if ¬ S 0 (174 + 30 * r + 0) = k then (mRef (put S 7 7 0) 3 3 (S 0 (174 + 30 * r + 0)), 0) else
  (putR (mKeeps (put S 7 7 0) 0) 0 (gSkim (S 0) k r a sp), if S 0 (150 + 6 * r + 0) ≤ wayG (S 0) k r a sp then skipsG (S 0) k r a sp else - skipsG (S 0) k r a sp)
def xFetch (S : St) (k : Int) : St × Int :=
  if ¬ (0 ≤ k ∧ k ≤ S 0 0 - 1) then (put S 7 7 1, 0) else
  if S 0 (10 + 14 * k + 5) = -2 then (mRef (put S 7 7 0) 2 4 (S 0 (10 + 14 * k + 10)), 0) else
  if S 0 (10 + 14 * k + 5) = -1 then (mRef (put S 7 7 0) 2 6 (stay (S 0) 9), 0) else
  (put (mKeeps (put S 7 7 0) 0) 0 (10 + 14 * k + 5) (-1), stay (uz (S 0) (10 + 14 * k + 5) (-1)) 9)
def xDay (S : St) : St × Int := (putR (mKeeps S 0) 0 (gDay (S 0)), dayN (S 0))
def xSkips (S : St) (k r a sp : Int) : St × Int := (put S 7 7 (throwCode (S 0) k r a sp), if 0 < throwCode (S 0) k r a sp then 0 else skipsG (S 0) k r a sp)
def xWay (S : St) (k r a sp : Int) : St × Int := (put S 7 7 (throwCode (S 0) k r a sp), if 0 < throwCode (S 0) k r a sp then 0 else wayG (S 0) k r a sp)
def xBest (S : St) (k r sp : Int) : St × Int := (put S 7 7 (throwCode (S 0) k r 0 sp), if 0 < throwCode (S 0) k r 0 sp then 0 else bestF (fun a => wayG (S 0) k r a sp) 90)
def xLeast (S : St) (k r a : Int) : St × Int := if 0 < throwCode (S 0) k r a 1 then (put S 7 7 (throwCode (S 0) k r a 1), 0) else if leastG (S 0) k r a < 0 then (put (put S 7 7 0) 7 7 3, 0) else (put S 7 7 0, leastG (S 0) k r a)
def xAlum (S : St) (p : Int) : St × Int := if ¬ (0 ≤ p ∧ p ≤ S 0 8 - 1) then (put S 7 7 1, 0) else (put S 7 7 0, S 0 (294 + p))
def xSank (S : St) (k : Int) : St × Int := if ¬ (0 ≤ k ∧ k ≤ S 0 0 - 1) then (put S 7 7 1, 0) else if ¬ S 0 (10 + 14 * k + 5) = -2 then (put S 7 7 2, 0) else (put S 7 7 0, S 0 (10 + 14 * k + 10))
def xRanked (S : St) (m p : Int) : St × Int := if ¬ (0 ≤ m ∧ m ≤ 2) then (put S 7 7 1, 0) else if rankG (S 0) m p < 0 then (put (put S 7 7 0) 7 7 2, 0) else (put S 7 7 0, rankG (S 0) m p)
def xGraded (S : St) (c : Int) : St × Int := if ¬ (97 ≤ c ∧ c ≤ 101) then (put S 7 7 1, 0) else (put S 7 7 0, gradedG (S 0) c)
def xRefusal (S : St) (d : Prop) [Decidable d] : St × Int := if S 7 8 = 0 then (put S 7 7 1, 0) else (put S 7 7 0, if d then S 7 9 else S 7 8)
def xAccount (S : St) (w : Int) : St × Int := if ¬ (0 ≤ w ∧ w ≤ 13) then (put S 7 7 1, 0) else
  (put S 7 7 0, if w = 3 then stay (S 0) (-1) else if w = 4 then stay (S 0) 9 else if w = 5 then stay (S 0) (-2) else if w = 6 then bookingsG (S 0) else if w = 12 then S 7 11 else if w = 13 then S 7 5 else if w < 3 then S 0 w else S 0 (w - 4))
def xErr (S : St) : St × Int := if S 7 12 < 0 then (put S 7 7 1, 0) else (put S 7 7 0, S 7 12)
def xItem (S : St) : St × Int := if S 7 13 < 0 then (put S 7 7 1, 0) else (put S 7 7 0, S 7 13)
def xSnap (S : St) : St × Int := (putR (put (put S 7 7 0) 7 4 1) 2 (blit (S 0) (S 2) 0 0), S 0 0)
def xRestore (S : St) : St × Int := if S 7 4 = 0 then (put S 7 7 1, 0) else (put (putR (put S 7 7 0) 0 (blit (S 2) (S 0) 0 0)) 7 5 0, blit (S 2) (S 0) 0 0 0)
def xUndo (S : St) : St × Int := if S 7 5 = 0 then (put S 7 7 1, 0) else (putR (put (put S 7 7 0) 7 5 (S 7 5 - 1)) 0 (blit (S 1) (S 0) (304 * (S 7 5 - 1)) 0), S 7 5 - 1)
def xClear (S : St) : St × Int := (put (putR (put S 7 7 0) 0 (gEmpty (S 0))) 7 5 0, S 0 0)
