set_option maxRecDepth 100000
/-! S: the tape, the street -/
def tyG (u : MS) (p q tp : Nat) (v : Int32) : MS := mV (mS u p (pushF (u.2.1 p) tp v)) q (nI (tp + 4))
theorem tyG_eq (u : MS) (p q : Nat) (i1 i2 i3 i4 : Nat) (a b c d x1 x2 x3 x4 : Int32) : mV (mA (mV (mA (mV (mA (mV (mA u p i1 a) q x1) p i2 b) q x2) p i3 c) q x3) p i4 d) q x4 = mV (mS u p (upd (upd (upd (upd (u.2.1 p) i1 a) i2 b) i3 c) i4 d)) q x4 := by
  refine Prod.ext ?_ (Prod.ext ?_ rfl)
  · funext j
    by_cases h : j = q
    · subst h; simp [mV, upd]
    · simp [mV, mA, mS, upd, h]
  · funext j
    by_cases h : j = p
    · subst h; simp [mV, mA, mS, upd2]
    · simp [mV, mA, mS, upd2, h]
def feedG (u : MS) (p q tp : Nat) (a b c d e : Int32) : MS := mV (mS u p (feedF (u.2.1 p) tp a b c d e)) q (nI (tp + 4 + 4 + 4 + 4 + 4))
theorem tyG_2 (u : MS) (p q : Nat) (f : Nat → Int32) (x : Int32) (tp : Nat) (v : Int32) : tyG (mV (mS u p f) q x) p q tp v = mV (mS u p (pushF f tp v)) q (nI (tp + 4)) := by
  unfold tyG
  refine Prod.ext ?_ (Prod.ext ?_ rfl)
  · funext j
    by_cases h : j = q
    · subst h; simp [mV, upd]
    · simp [mV, mS, upd, h]
  · funext j
    by_cases h : j = p
    · subst h; simp [mV, mS]
    · simp [mV, mS, h]
theorem feedG_eq (u : MS) (p q tp : Nat) (a b c d e : Int32) : tyG (tyG (tyG (tyG (tyG u p q tp a) p q (tp + 4) b) p q (tp + 4 + 4) c) p q (tp + 4 + 4 + 4) d) p q (tp + 4 + 4 + 4 + 4) e = feedG u p q tp a b c d e := by
  rw [show tyG u p q tp a = mV (mS u p (pushF (u.2.1 p) tp a)) q (nI (tp + 4)) from rfl, tyG_2, tyG_2, tyG_2, tyG_2]; rfl
/-- an array's first n entries are f's -/
def mF (u : MS) (a n : Nat) (f : Nat → Int32) : MS := (u.1, fun j => if j = a then (fun t => if t < n then f t else u.2.1 a t) else u.2.1 j, u.2.2)
theorem mF_0 (u : MS) (a : Nat) (f : Nat → Int32) : mF u a 0 f = u := by
  refine Prod.ext rfl (Prod.ext ?_ rfl)
  funext j
  simp only [mF]
  split
  · next h => subst h; funext t; simp
  · rfl
theorem mF_s {u : MS} {a n : Nat} {f : Nat → Int32} {x : Int32} (h : x = f n) : mA (mF u a n f) a n x = mF u a (n + 1) f := by
  subst h
  refine Prod.ext rfl (Prod.ext ?_ rfl)
  funext j
  simp only [mA, mF, upd2]
  split
  · next h =>
    funext t
    unfold upd
    by_cases h1 : t = n
    · subst h1; simp
    · by_cases h2 : t < n
      · simp [h1, h2, show t < n + 1 by omega]
      · simp [h1, h2, show ¬ t < n + 1 by omega]
  · rfl
theorem mF_r (u : MS) (a n : Nat) (f : Nat → Int32) : (mF u a n f).2.1 a n = u.2.1 a n := by simp [mF]
theorem mF_1 (u : MS) (a n : Nat) (f : Nat → Int32) : (mF u a n f).1 = u.1 := rfl
/-- a street (base a) takes another's (base b) -/
def tkS (u : MS) (a b : Nat) : MS := mV (mV (mV (mV (mV (mC u b a 16) (a + 1) (u.1 (b + 1))) (a + 2) (u.1 (b + 2))) (a + 3) (u.1 (b + 3))) (a + 4) (u.1 (b + 4))) (a + 5) (u.1 (b + 5))
theorem tkS_j (u : MS) {a b n : Nat} (h : n < 16) : (tkS u a b).2.1 a n = u.2.1 b n := by simp [tkS, mV_2, mC_2, h]
theorem tkS_2 (u : MS) {a b k : Nat} (h : k ≠ a) : (tkS u a b).2.1 k = u.2.1 k := by simp [tkS, mV_2, mC_2, h]
theorem tkS_1 (u : MS) {a b k : Nat} (h : k < a + 1 ∨ a + 5 < k) : (tkS u a b).1 k = u.1 k := by
  simp only [tkS, mV_1, mC_1]
  rw [if_neg (by omega), if_neg (by omega), if_neg (by omega), if_neg (by omega), if_neg (by omega)]
theorem tkS_k (u : MS) {a b i : Nat} (h1 : 1 ≤ i) (h2 : i ≤ 5) : (tkS u a b).1 (a + i) = u.1 (b + i) := by
  simp only [tkS, mV_1, mC_1]
  have : i = 1 ∨ i = 2 ∨ i = 3 ∨ i = 4 ∨ i = 5 := by omega
  rcases this with rfl | rfl | rfl | rfl | rfl <;> simp
def undoF (u : MS) : Nat → Int32 := fun t => if isHouseB (u.1 24) (nI t) = true then u.2.1 60 t else 0
def undoS (u : MS) : MS := mV (mF (tkS u 40 60) 40 16 (undoF u)) 41 (if isHouseB (u.1 24) (u.1 61) = true then u.1 61 else -1)
/-- the moment's facts -/
def moM (u : MS) (F : Nat → Int32) : MS := (fun k => if 31 ≤ k ∧ k < 40 then F (k - 31) else u.1 k, u.2)
theorem mo9 (u : MS) (f : Nat → Int32) (x0 x1 x2 x3 x4 x5 x6 x7 x8 : Int32) : mV (mV (mV (mV (mV (mV (mV (mV (mV u 31 x0) 32 x1) 33 x2) 34 x3) 35 x4) 36 x5) 37 x6) 38 x7) 39 x8 = moM u (upd (upd (upd (upd (upd (upd (upd (upd (upd f 0 x0) 1 x1) 2 x2) 3 x3) 4 x4) 5 x5) 6 x6) 7 x7) 8 x8) := by
  refine Prod.ext ?_ rfl
  funext k
  simp only [mV, moM]
  by_cases h : 31 ≤ k ∧ k < 40
  · have : k = 31 ∨ k = 32 ∨ k = 33 ∨ k = 34 ∨ k = 35 ∨ k = 36 ∨ k = 37 ∨ k = 38 ∨ k = 39 := by omega
    rcases this with rfl | rfl | rfl | rfl | rfl | rfl | rfl | rfl | rfl <;> rfl
  · rw [if_neg h]
    simp only [upd]
    rw [if_neg (by omega), if_neg (by omega), if_neg (by omega), if_neg (by omega), if_neg (by omega), if_neg (by omega), if_neg (by omega), if_neg (by omega), if_neg (by omega)]
def ofM (u : MS) (h g s n b : Int32) : MS := mV (mV (mV (mV (mV (mV u 31 h) 32 (if g = -1 then 16 else g)) 33 s) 34 (if g = -1 then 0 else abI (h - g))) 35 n) 36 b
def onM (u : MS) (k t w : Int32) : MS := mV (mV (mV u 37 (remI k 100)) 38 (remI t 100)) 39 w
theorem asked_eq (u : MS) (h g s n b k t w : Int32) : onM (ofM u h g s n b) k t w = moM u (upd (upd (upd (upd (upd (upd (upd (upd (upd F00 0 h) 1 (if g = -1 then 16 else g)) 2 s) 3 (if g = -1 then 0 else abI (h - g))) 4 n) 5 b) 6 (remI k 100)) 7 (remI t 100)) 8 w) := mo9 _ _ _ _ _ _ _ _ _ _ _
def lot1 (x : Int32) : Int32 := remI (25173 * x + 13849) 65536
def sumJ (f : Nat → Int32) : Nat → Int32
  | 0 => 0
  | k + 1 => sumJ f k + f k
