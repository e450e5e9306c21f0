set_option maxRecDepth 100000
/-- the sum of m bytes from a on -/
def smN (f : Nat → Int32) (a : Nat) : Nat → Nat
  | 0 => 0
  | m + 1 => smN f a m + ocN f (a + m)
theorem smN_le (f : Nat → Int32) (a m : Nat) : smN f a m ≤ 255 * m := by
  induction m with
  | zero => exact Nat.le_refl _
  | succ m ih => have := ocN_lt f (a + m); unfold smN; omega
theorem smN_1 (f : Nat → Int32) (a m : Nat) : smN f a (m + 1) = ocN f a + smN f (a + 1) m := by
  induction m with
  | zero => simp [smN]
  | succ m ih =>
    show smN f a (m + 1) + ocN f (a + (m + 1)) = _
    rw [ih]
    show _ = ocN f a + (smN f (a + 1) m + ocN f (a + 1 + m))
    rw [show a + 1 + m = a + (m + 1) by omega]
    omega
/-- halves: the most that the first can have of the m from a on -/
def hvN (f : Nat → Int32) : Nat → Nat → Nat
  | 0, _ => 0
  | m + 1, a => smN f a (m + 1) - min (hvN f m (a + 1)) (hvN f m a)
theorem hvN_le (f : Nat → Int32) (m a : Nat) : hvN f m a ≤ smN f a m := by
  cases m with
  | zero => exact Nat.le_refl _
  | succ m => exact Nat.sub_le _ _
theorem hvN_2 (f : Nat → Int32) (m a : Nat) : hvN f (m + 2) a = max (ocN f a + smN f (a + 1) (m + 1) - hvN f (m + 1) (a + 1)) (ocN f (a + (m + 1)) + smN f a (m + 1) - hvN f (m + 1) a) := by
  have h1 := hvN_le f (m + 1) (a + 1)
  have h2 := hvN_le f (m + 1) a
  have h3 := smN_1 f a (m + 1)
  have h4 : smN f a (m + 2) = smN f a (m + 1) + ocN f (a + (m + 1)) := rfl
  show smN f a (m + 2) - min _ _ = _
  have h5 : smN f a (m + 2) = ocN f a + smN f (a + 1) (m + 1) := h3
  omega
theorem hvN_b (f : Nat → Int32) {m a : Nat} (hm : m ≤ 12) : hvN f m a ≤ 3060 := by
  have := hvN_le f m a; have := smN_le f a m; omega
def halvesG (tp n : Int32) : Bool := inB n 2 12 && !decide (tp < n)
def halvesI (f : Nat → Int32) (tp n : Int32) : Int32 := if halvesG tp n = true then nI (hvN f (ix n) 0) else -1
def checkI (hs : Int32) (joy f : Nat → Int32) (tp n : Int32) : Int32 := if chkG tp n = true then missS (chkC hs joy (fun k => nI (ocN f k))) (ix n) 0 else -2
def countI (hs th cl tp : Int32) (now w : Nat → Int32) (k : Int32) : Int32 :=
  if k = 0 then now 19 else if k = 1 then hs else if k = 2 then th else if k = 3 then orNoneS (now 16) else if k = 4 then now 17 else if k = 5 then now 18 else if k = 6 then cl else if k = 7 then tp else if k = 8 then now 20
  else if k = 9 then joyAll hs now 16 else if k = 10 then bitsI (now 17) else if k = 11 then 12 - turnsS w (-1) 12 else -1
/-- undone: joy where no house is now, or was none then, is gone; the window too -/
def mU (u : MS) (n : Nat) : MS := (u.1, fun k => if k = 0 then (fun t => if t < n ∧ hasB ((u.1 60) &&& (u.1 8)) (nI t) = false then 0 else u.2.1 0 t) else u.2.1 k, u.2.2)
theorem mU_0 (u : MS) : mU u 0 = u := by
  unfold mU
  have : (fun k => if k = 0 then (fun t => if t < 0 ∧ hasB ((u.1 60) &&& (u.1 8)) (nI t) = false then 0 else u.2.1 0 t) else u.2.1 k) = u.2.1 := by
    funext k
    by_cases h : k = 0
    · subst h; simp
    · simp [h]
  rw [this]
theorem mU_t (u : MS) (n : Nat) (h : hasB ((u.1 60) &&& (u.1 8)) (nI n) = true) : mU u (n + 1) = mU u n := by
  unfold mU
  simp only [Prod.mk.injEq, true_and, and_true]
  funext k
  by_cases e : k = 0
  · subst e
    funext t
    by_cases e2 : t = n
    · subst e2; simp [h]
    · have : (t < n + 1) = (t < n) := by simp; omega
      simp [this]
  · simp [e]
theorem mU_f (u : MS) (n : Nat) (h : hasB ((u.1 60) &&& (u.1 8)) (nI n) = false) : mU u (n + 1) = mA (mU u n) 0 n 0 := by
  unfold mU mA upd2 upd
  simp only [Prod.mk.injEq, true_and, and_true]
  funext k
  by_cases e : k = 0
  · subst e
    funext t
    by_cases e2 : t = n
    · subst e2; simp [h]
    · have : (t < n + 1) = (t < n) := by simp; omega
      simp [this, e2]
  · simp [e]
theorem mU_1 (u : MS) (n : Nat) : (mU u n).1 = u.1 := rfl
theorem mU_3 (u : MS) (n : Nat) : (mU u n).2.2 = u.2.2 := rfl
theorem mU_2 (u : MS) (n k : Nat) (h : ¬ k = 0) : (mU u n).2.1 k = u.2.1 k := by unfold mU; simp [h]
theorem mU_20 (u : MS) (n t : Nat) : (mU u n).2.1 0 t = if t < n ∧ hasB ((u.1 60) &&& (u.1 8)) (nI t) = false then 0 else u.2.1 0 t := by unfold mU; simp
def mUn (u : MS) : MS := if isHouseB (u.1 8) (u.2.1 2 16) = true then mU (mC u 2 0 21) 16 else mA (mU (mC u 2 0 21) 16) 0 16 (-1)
def pushF (f : Nat → Int32) (tp : Nat) (v : Int32) : Nat → Int32 := upd (upd (upd (upd f tp (byB v 24)) (tp + 1) (byB v 16)) (tp + 1 + 1) (byB v 8)) (tp + 1 + 1 + 1) (byB v 0)
def tyM (u : MS) (tp : Nat) (v : Int32) : MS := mV (mS u 10 (pushF (u.2.1 10) tp v)) 11 (nI (tp + 4))
theorem tyM_eq (u : MS) (i1 i2 i3 i4 : Nat) (a b c d x1 x2 x3 x4 : Int32) : mV (mA (mV (mA (mV (mA (mV (mA u 10 i1 a) 11 x1) 10 i2 b) 11 x2) 10 i3 c) 11 x3) 10 i4 d) 11 x4 = mV (mS u 10 (upd (upd (upd (upd (u.2.1 10) i1 a) i2 b) i3 c) i4 d)) 11 x4 := by
  refine Prod.ext ?_ (Prod.ext ?_ rfl)
  · funext j
    by_cases h : j = 11
    · subst h; simp [mV, upd]
    · simp [mV, mA, mS, upd, h]
  · funext j
    by_cases h : j = 10
    · subst h; simp [mV, mA, mS, upd2]
    · simp [mV, mA, mS, upd2, h]
def feedF (f : Nat → Int32) (tp : Nat) (a b c d e : Int32) : Nat → Int32 := pushF (pushF (pushF (pushF (pushF f tp a) (tp + 4) b) (tp + 4 + 4) c) (tp + 4 + 4 + 4) d) (tp + 4 + 4 + 4 + 4) e
def feedM (u : MS) (tp : Nat) (a b c d e : Int32) : MS := mV (mS u 10 (feedF (u.2.1 10) tp a b c d e)) 11 (nI (tp + 4 + 4 + 4 + 4 + 4))
theorem tyM_2 (u : MS) (f : Nat → Int32) (x : Int32) (tp : Nat) (v : Int32) : tyM (mV (mS u 10 f) 11 x) tp v = mV (mS u 10 (pushF f tp v)) 11 (nI (tp + 4)) := by
  unfold tyM
  refine Prod.ext ?_ (Prod.ext ?_ rfl)
  · funext j
    by_cases h : j = 11
    · subst h; simp [mV, upd]
    · simp [mV, mS, upd, h]
  · funext j
    by_cases h : j = 10
    · subst h; simp [mV, mS]
    · simp [mV, mS, h]
theorem feedM_eq (u : MS) (tp : Nat) (a b c d e : Int32) : tyM (tyM (tyM (tyM (tyM u tp a) (tp + 4) b) (tp + 4 + 4) c) (tp + 4 + 4 + 4) d) (tp + 4 + 4 + 4 + 4) e = feedM u tp a b c d e := by
  rw [show tyM u tp a = mV (mS u 10 (pushF (u.2.1 10) tp a)) 11 (nI (tp + 4)) from rfl, tyM_2, tyM_2, tyM_2, tyM_2]; rfl
def swapF (w : Nat → Int32) (a b : Nat) : Nat → Int32 := upd (upd w a (w b)) b (w a)
theorem swap_back (u : MS) (a b : Nat) : mA (mA (mA (mA u 3 a (u.2.1 3 b)) 3 b (u.2.1 3 a)) 3 a ((mA (mA u 3 a (u.2.1 3 b)) 3 b (u.2.1 3 a)).2.1 3 b)) 3 b ((mA (mA u 3 a (u.2.1 3 b)) 3 b (u.2.1 3 a)).2.1 3 a) = u := by
  refine Prod.ext rfl (Prod.ext ?_ rfl)
  funext j
  by_cases h : j = 3
  · subst h
    funext t
    by_cases h1 : t = b
    · subst h1
      by_cases h2 : t = a
      · subst h2; simp [mA_2]
      · simp [mA_2]; intro h3; subst h3; rfl
    · by_cases h2 : t = a
      · subst h2; simp [mA_2, h1]
      · simp [mA_2, h1, h2]
  · funext t; simp [mA_2, h]
def ifSwI (w : Nat → Int32) (a b : Int32) : Int32 := if isTurnB a = true ∧ isTurnB b = true then wayI (swapF w (ix a) (ix b)) false else -1
def hvM (f : Nat → Int32) (i n : Nat) (g : Nat → Int32) : Prop := ∀ a t, i ≤ a → a ≤ t → t < n → g (12 * a + t) = nI (hvN f (t - a + 1) a)
