/-! WHAT THE MODEL COMPUTES, as functions of its rows (g: counts, stones by fourteens, rivers by sixes, bookings by thirties, alumni) -/
def sumTo (f : Int → Int) : Nat → Int
  | 0 => 0
  | n + 1 => sumTo f n + f n
theorem sumTo_0 (f : Int → Int) {k : Int} (h : k = 0) : sumTo f k.toNat = 0 := by subst h; rfl
theorem sumTo_s (f : Int → Int) {k : Int} (h : 0 ≤ k) : sumTo f (k + 1).toNat = sumTo f k.toNat + f k := by
  obtain ⟨n, rfl⟩ := Int.eq_ofNat_of_zero_le h
  show sumTo f (n + 1) = sumTo f n + f n
  rfl
theorem sumTo_b (f : Int → Int) (hf : ∀ k, 0 ≤ f k ∧ f k ≤ 1) (n : Nat) : 0 ≤ sumTo f n ∧ sumTo f n ≤ n := by
  induction n with
  | zero => exact ⟨Int.le_refl _, Int.le_refl _⟩
  | succ n ih =>
    have := hf n
    show 0 ≤ sumTo f n + f n ∧ sumTo f n + f n ≤ ((n + 1 : Nat) : Int)
    omega
theorem sumTo_c (f f' : Int → Int) (n : Nat) (h : ∀ k : Int, 0 ≤ k → k < n → f k = f' k) : sumTo f n = sumTo f' n := by
  induction n with
  | zero => rfl
  | succ n ih =>
    show sumTo f n + f n = sumTo f' n + f' n
    rw [ih (fun k h1 h2 => h k h1 (by omega)), h n (by omega) (by omega)]
def blitN (f h : Int → Int) (a on k : Int) : Int → Int := fun j => if on ≤ j ∧ j < on + k then f (a + (j - on)) else h j
theorem blitN_0 (f h : Int → Int) (a on : Int) {k : Int} (hk : k = 0) : blitN f h a on k = h := by
  subst hk
  funext j
  exact if_neg (by omega)
theorem blitN_s (f h : Int → Int) (a on : Int) {k : Int} (hk : 0 ≤ k) : uz (blitN f h a on k) (on + k) (f (a + k)) = blitN f h a on (k + 1) := by
  funext j
  unfold uz blitN
  by_cases e : j = on + k
  · subst e
    rw [if_pos rfl, if_pos (by omega), show a + (on + k - on) = a + k by omega]
  · rw [if_neg e]
    by_cases e2 : on ≤ j ∧ j < on + k
    · rw [if_pos e2, if_pos (by omega)]
    · rw [if_neg e2, if_neg (by omega)]
/-- a copy of a whole row -/
def blit (f h : Int → Int) (a on : Int) : Int → Int := blitN f h a on 304
theorem blit_r {f h : Int → Int} (hf : ∀ i, rI (f i)) (hh : ∀ i, rI (h i)) (a on : Int) : ∀ i, rI (blit f h a on i) := by
  intro i
  unfold blit blitN
  split
  · exact hf _
  · exact hh _
theorem put_putR (S : St) (c : Nat) (g : Int → Int) (i v : Int) : put (putR S c g) c i v = putR S c (uz g i v) := by
  funext c'
  unfold put putR
  by_cases h : c' = c
  · subst h; simp only [if_true]
  · simp only [if_neg h]
theorem putR_put (S : St) (c : Nat) (i v : Int) : put S c i v = putR S c (uz (S c) i v) := rfl
theorem putR_putR (S : St) (c : Nat) (g g' : Int → Int) : putR (putR S c g) c g' = putR S c g' := by
  funext c'
  unfold putR
  by_cases h : c' = c
  · simp only [if_pos h]
  · simp only [if_neg h]
theorem putR_at (S : St) (c : Nat) (g : Int → Int) : putR S c g c = g := if_pos rfl
theorem putR_self (S : St) (c : Nat) : putR S c (S c) = S := by
  funext c'
  unfold putR
  by_cases h : c' = c
  · subst h; exact if_pos rfl
  · exact if_neg h
def shiftN (h : Int → Int) (k : Int) : Int → Int := fun j => if 0 ≤ j ∧ j < k then h (j + 304) else h j
theorem shiftN_0 (h : Int → Int) {k : Int} (hk : k = 0) : shiftN h k = h := by
  subst hk
  funext j
  exact if_neg (by omega)
theorem shiftN_s (h : Int → Int) {k : Int} (hk : 0 ≤ k) : uz (shiftN h k) k (shiftN h k (k + 304)) = shiftN h (k + 1) := by
  funext j
  unfold uz shiftN
  by_cases e : j = k
  · subst e
    rw [if_pos rfl, if_neg (by omega), if_pos (by omega)]
  · rw [if_neg e]
    by_cases e2 : 0 ≤ j ∧ j < k
    · rw [if_pos e2, if_pos (by omega)]
    · rw [if_neg e2, if_neg (by omega)]
/-- the kept rows with one row more -/
def keepRow (h row : Int → Int) (n : Int) : Int → Int := if n = 8 then blit row (shiftN h 2128) 0 2128 else blit row h 0 (304 * n)
/-- the model's keeps, of its row c -/
def mKeeps (S : St) (c : Nat) : St := putR (putR S 1 (if S 7 6 = 0 then keepRow (S 1) (S c) (S 7 5) else S 1)) 7 (uz (uz (S 7) 7 0) 5 (if S 7 6 = 0 then (if S 7 5 = 8 then 8 else S 7 5 + 1) else S 7 5))
theorem mKeeps_w (S : St) (c : Nat) (h : ¬ S 7 6 = 0) : mKeeps S c = put S 7 7 0 := by
  unfold mKeeps
  rw [if_neg h, if_neg h, putR_self]
  funext c'
  unfold putR put
  by_cases h7 : c' = 7
  · subst h7
    rw [if_pos rfl, if_pos rfl]
    funext i
    unfold uz
    by_cases h5 : i = 5
    · subst h5; rfl
    · rw [if_neg h5]
  · rw [if_neg h7, if_neg h7]
theorem mKeeps_n (S : St) (c : Nat) (h : S 7 6 = 0) : mKeeps S c = putR (putR S 1 (keepRow (S 1) (S c) (S 7 5))) 7 (uz (uz (S 7) 7 0) 5 (if S 7 5 = 8 then 8 else S 7 5 + 1)) := by
  unfold mKeeps
  rw [if_pos h, if_pos h]
theorem putR_comm (S : St) {c c' : Nat} (h : c ≠ c') (g g' : Int → Int) : putR (putR S c g) c' g' = putR (putR S c' g') c g := by
  funext x
  unfold putR
  by_cases h1 : x = c'
  · subst h1
    rw [if_pos rfl, if_neg (Ne.symm h), if_pos rfl]
  · by_cases h2 : x = c
    · subst h2
      rw [if_neg h, if_pos rfl, if_pos rfl]
    · rw [if_neg h1, if_neg h2, if_neg h2, if_neg h1]
theorem uz_uz (g : Int → Int) (i v w : Int) : uz (uz g i v) i w = uz g i w := by
  funext j
  unfold uz
  by_cases h : j = i
  · rw [if_pos h, if_pos h]
  · rw [if_neg h, if_neg h, if_neg h]
theorem mKeeps_a (S : St) (g : Int → Int) (v w : Int) (hw : w = v) : putR (putR S 1 g) 7 (uz (uz (S 7) 7 0) 5 w) = put (putR (put S 7 7 0) 1 g) 7 5 v := by
  subst hw
  funext x
  unfold put putR
  by_cases h7 : x = 7
  · subst h7; rfl
  · by_cases h1 : x = 1
    · subst h1; rfl
    · simp only [if_neg h7, if_neg h1]
theorem mKeeps_b (S : St) (g1 g : Int → Int) (v w x : Int) (hw : w = v) : putR (putR S 1 g) 7 (uz (uz (S 7) 7 0) 5 w) = put (putR (put (putR (put S 7 7 0) 1 g1) 7 5 x) 1 g) 7 5 v := by
  subst hw
  funext y
  unfold put putR
  by_cases h7 : y = 7
  · subst h7; exact (uz_uz _ 5 x w).symm
  · by_cases h1 : y = 1
    · subst h1; rfl
    · simp only [if_neg h7, if_neg h1]
def mRef (S : St) (place why of : Int) : St := put (put (put S 7 7 place) 7 8 why) 7 9 of
def zeroN (g : Int → Int) (k : Int) : Int → Int := fun j => if 0 ≤ j ∧ j < k then 0 else g j
def fillN (g : Int → Int) (lo v k : Int) : Int → Int := fun j => if lo ≤ j ∧ j < k then v else g j
theorem fillN_0 (g : Int → Int) (lo v : Int) {k : Int} (hk : k = lo) : fillN g lo v k = g := by
  subst hk
  funext j
  exact if_neg (by omega)
theorem fillN_s (g : Int → Int) (lo v : Int) {k : Int} (hk : lo ≤ k) : uz (fillN g lo v k) k v = fillN g lo v (k + 1) := by
  funext j
  unfold uz fillN
  by_cases e : j = k
  · subst e
    rw [if_pos rfl, if_pos (by omega)]
  · rw [if_neg e]
    by_cases e2 : lo ≤ j ∧ j < k
    · rw [if_pos e2, if_pos (by omega)]
    · rw [if_neg e2, if_neg (by omega)]
/-- the row of an empty school -/
def gEmpty (g : Int → Int) : Int → Int := fillN (fillN g 0 0 304) 174 (-1) 294
def gStone (g : Int → Int) (f w : Int) : Int → Int :=
  uz (uz (uz (uz (uz (uz (fillN (uz g 0 (g 0 + 1)) (10 + 14 * g 0) 0 (10 + 14 * g 0 + 14)) (10 + 14 * g 0 + 0) f) (10 + 14 * g 0 + 1) w) (10 + 14 * g 0 + 3) (-1)) (10 + 14 * g 0 + 5) (-1)) (10 + 14 * g 0 + 8) (-1)) (10 + 14 * g 0 + 9) (-1)
def gRiver (g : Int → Int) (w c : Int) : Int → Int :=
  uz (uz (uz (uz (fillN g (150 + 6 * g 1) 0 (150 + 6 * g 1 + 6)) (150 + 6 * g 1 + 0) w) (150 + 6 * g 1 + 1) c) (150 + 6 * g 1 + 3) (-1)) 1 (g 1 + 1)
def stay (g : Int → Int) (w : Int) : Int := sumTo (fun k => b2 (g (10 + 14 * k + 5) = w ∨ (w = 9 ∧ 0 ≤ g (10 + 14 * k + 5)))) (g 0).toNat
def daysFor (g : Int → Int) (s : Int) : Int := sumTo (fun j => b2 (g (174 + j) = s)) (30 * g 1).toNat
def daysOf (g : Int → Int) (r : Int) : Int := sumTo (fun k => b2 (0 ≤ g (174 + 30 * r + k))) 30
def bookingsG (g : Int → Int) : Int := sumTo (fun r => daysOf g r) (g 1).toNat
theorem daysOf_b (g : Int → Int) (r : Int) : 0 ≤ daysOf g r ∧ daysOf g r ≤ 30 := sumTo_b _ (fun _ => b2_01 _) 30
theorem stay_b (g : Int → Int) (w : Int) : 0 ≤ stay g w ∧ stay g w ≤ (g 0).toNat := sumTo_b _ (fun _ => b2_01 _) _
theorem daysFor_b (g : Int → Int) (s : Int) : 0 ≤ daysFor g s ∧ daysFor g s ≤ (30 * g 1).toNat := sumTo_b _ (fun _ => b2_01 _) _
def ownAng (g : Int → Int) (k : Int) : Int := 10 + 2 * g (10 + 14 * k + 0) - g (10 + 14 * k + 1)
def markG (g : Int → Int) (k : Int) : Int := g (10 + 14 * k + 2) / 2 + 5 * g (10 + 14 * k + 0)
def gradeG (g : Int → Int) (k : Int) : Int := if 80 ≤ markG g k then 97 else if 60 ≤ markG g k then 98 else if 40 ≤ markG g k then 99 else if 20 ≤ markG g k then 100 else 101
theorem gradeG_r (g : Int → Int) (k : Int) : 97 ≤ gradeG g k ∧ gradeG g k ≤ 101 := by unfold gradeG; repeat' split <;> omega
def strengthG (g : Int → Int) (k sp : Int) : Int := sp * (g (10 + 14 * k + 0) + 2) + g (10 + 14 * k + 2) / 5 - g (10 + 14 * k + 1)
def apartG (a b : Int) : Int := if a < b then b - a else a - b
def dragG (g : Int → Int) (k r a : Int) : Int := 1 + apartG a (ownAng g k) / 3 + (9 - g (150 + 6 * r + 1)) / 2
/-- skips and way of a throw with this strength and drag -/
def skF : Nat → Int → Int → Int
  | 0, _, _ => 0
  | n + 1, s, d => if 0 < s then 1 + skF n (s - d) d else 0
def wyF : Nat → Int → Int → Int
  | 0, _, _ => 0
  | n + 1, s, d => if 0 < s then 1 + s / 5 + wyF n (s - d) d else 0
def skN (s d : Int) : Int := skF s.toNat s d
def wyN (s d : Int) : Int := wyF s.toNat s d
theorem skF_m {d : Int} (hd : 0 < d) : ∀ (n n' : Nat) (s : Int), s ≤ n → s ≤ n' → skF n s d = skF n' s d := by
  intro n
  induction n with
  | zero =>
    intro n' s h _
    cases n' with
    | zero => rfl
    | succ n' => exact (if_neg (by omega)).symm
  | succ n ih =>
    intro n' s h h'
    cases n' with
    | zero => exact if_neg (by omega)
    | succ n' =>
      show (if 0 < s then 1 + skF n (s - d) d else 0) = (if 0 < s then 1 + skF n' (s - d) d else 0)
      rw [ih n' (s - d) (by omega) (by omega)]
theorem wyF_m {d : Int} (hd : 0 < d) : ∀ (n n' : Nat) (s : Int), s ≤ n → s ≤ n' → wyF n s d = wyF n' s d := by
  intro n
  induction n with
  | zero =>
    intro n' s h _
    cases n' with
    | zero => rfl
    | succ n' => exact (if_neg (by omega)).symm
  | succ n ih =>
    intro n' s h h'
    cases n' with
    | zero => exact if_neg (by omega)
    | succ n' =>
      show (if 0 < s then 1 + s / 5 + wyF n (s - d) d else 0) = (if 0 < s then 1 + s / 5 + wyF n' (s - d) d else 0)
      rw [ih n' (s - d) (by omega) (by omega)]
theorem skN_s {s d : Int} (hd : 0 < d) (h : 0 < s) : skN s d = 1 + skN (s - d) d := by
  obtain ⟨n, hn⟩ : ∃ n, s.toNat = n + 1 := ⟨s.toNat - 1, by omega⟩
  unfold skN
  rw [hn]
  show (if 0 < s then 1 + skF n (s - d) d else 0) = _
  rw [if_pos h, skF_m hd n (s - d).toNat (s - d) (by omega) (by omega)]
theorem wyN_s {s d : Int} (hd : 0 < d) (h : 0 < s) : wyN s d = 1 + s / 5 + wyN (s - d) d := by
  obtain ⟨n, hn⟩ : ∃ n, s.toNat = n + 1 := ⟨s.toNat - 1, by omega⟩
  unfold wyN
  rw [hn]
  show (if 0 < s then 1 + s / 5 + wyF n (s - d) d else 0) = _
  rw [if_pos h, wyF_m hd n (s - d).toNat (s - d) (by omega) (by omega)]
theorem skN_0 {s d : Int} (h : s ≤ 0) : skN s d = 0 := by
  unfold skN
  rw [show s.toNat = 0 by omega]
  rfl
theorem wyN_0 {s d : Int} (h : s ≤ 0) : wyN s d = 0 := by
  unfold wyN
  rw [show s.toNat = 0 by omega]
  rfl
theorem skN_b {d : Int} (hd : 0 < d) : ∀ (n : Nat) (s : Int), s ≤ n → 0 ≤ skN s d ∧ skN s d ≤ n := by
  intro n
  induction n with
  | zero => intro s h; rw [skN_0 (by omega)]; omega
  | succ n ih =>
    intro s h
    by_cases h0 : 0 < s
    · rw [skN_s hd h0]
      have := ih (s - d) (by omega)
      omega
    · rw [skN_0 (by omega)]; omega
theorem wyN_b {d : Int} (hd : 0 < d) : ∀ (n : Nat) (s : Int), s ≤ n → 0 ≤ wyN s d ∧ wyN s d ≤ n * (1 + n) := by
  intro n
  induction n with
  | zero => intro s h; rw [wyN_0 (by omega)]; omega
  | succ n ih =>
    intro s h
    have e : ((n + 1 : Nat) : Int) * (1 + ((n + 1 : Nat) : Int)) = n * (1 + n) + 2 * n + 2 := by
      rw [Int.natCast_add, Int.mul_add, Int.mul_add, Int.add_mul, Int.add_mul, Int.add_mul]
      simp only [Int.natCast_one, Int.mul_one, Int.one_mul, Int.mul_add]
      omega
    have hb := ih (s - d)
    have hn : (0 : Int) ≤ n * (1 + n) := Int.mul_nonneg (by omega) (by omega)
    by_cases h0 : 0 < s
    · rw [wyN_s hd h0]
      have := hb (by omega)
      omega
    · rw [wyN_0 (by omega)]
      omega
