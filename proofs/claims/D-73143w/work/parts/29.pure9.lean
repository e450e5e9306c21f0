set_option maxRecDepth 100000
/-! the shortest rota, as the reference lays it; second windows -/
def absN (a b : Nat) : Nat := if a < b then b - a else a - b
theorem abI_nI {a b : Nat} (ha : a < 2 ^ 30) (hb : b < 2 ^ 30) : abI (nI a - nI b) = nI (absN a b) := by
  unfold abI absN
  by_cases h : a < b
  · rw [if_pos (pk_sneg hb h), if_pos h, Int32.neg_sub]; exact pk_sub (by omega)
  · rw [pk_sub (by omega), if_neg (nI_pos (by omega)), if_neg h]
def orT (c : Nat → Bool) : Nat → Nat
  | 0 => 0
  | k + 1 => if c k = true then orT c k ||| 2 ^ k else orT c k
theorem orT_lt (c : Nat → Bool) (n : Nat) : orT c n < 2 ^ n := by
  induction n with
  | zero => exact Nat.one_pos
  | succ n ih =>
    have h1 : orT c n < 2 ^ (n + 1) := Nat.lt_of_lt_of_le ih (Nat.pow_le_pow_right (by decide) (by omega))
    unfold orT
    split
    · exact Nat.or_lt_two_pow h1 (Nat.pow_lt_pow_right (by decide) (by omega))
    · exact h1
theorem orT_bit (c : Nat → Bool) (n i : Nat) : (orT c n).testBit i = (decide (i < n) && c i) := by
  induction n with
  | zero => simp [orT]
  | succ n ih =>
    unfold orT
    by_cases e : i = n
    · subst e
      by_cases h : c i = true
      · rw [if_pos h, or_bit]; simp [h]
      · rw [if_neg h, ih]; simp [h]
    · have q : (i < n + 1) = (i < n) := by simp; omega
      by_cases h : c n = true
      · rw [if_pos h, or_bit, ih]; simp [e, q]
      · rw [if_neg h, ih]; simp [q]
abbrev FARN : Nat := 100000000
def updN (f : Nat → Nat) (k x : Nat) : Nat → Nat := fun j => if j = k then x else f j
def thenN (h last v : Nat) : Nat := if last = 16 then h else v + 32 * absN h last
def chL (T : Nat → Nat) (h m met : Nat) (A : Nat → Nat) : Nat → (Nat → Nat)
  | 0 => A
  | last + 1 => if FARN ≤ T (17 * met + last) then chL T h m met A last else updN (chL T h m met A last) (17 * (met ||| m) + h) (min (chL T h m met A last (17 * (met ||| m) + h)) (thenN h last (T (17 * met + last))))
def chM (T : Nat → Nat) (h m : Nat) (A : Nat → Nat) : Nat → (Nat → Nat)
  | 0 => A
  | met + 1 => chL T h m met (chM T h m A met) 17
def chN (T A : Nat → Nat) (h m n : Nat) : Nat → Nat := if m = 0 then A else chM T h m A (2 ^ n)
theorem chL_le {T : Nat → Nat} {h m met : Nat} {A : Nat → Nat} (hA : ∀ i, A i ≤ FARN) : ∀ k i, chL T h m met A k i ≤ FARN := by
  intro k
  induction k with
  | zero => exact hA
  | succ k ih =>
    intro i
    unfold chL
    split
    · exact ih i
    · unfold updN
      split
      · exact Nat.le_trans (Nat.min_le_left _ _) (ih _)
      · exact ih i
theorem chM_le {T : Nat → Nat} {h m : Nat} {A : Nat → Nat} (hA : ∀ i, A i ≤ FARN) : ∀ k i, chM T h m A k i ≤ FARN := by
  intro k
  induction k with
  | zero => exact hA
  | succ k ih => intro i; exact chL_le ih 17 i
theorem chN_le {T A : Nat → Nat} {h m n : Nat} (hA : ∀ i, A i ≤ FARN) (i : Nat) : chN T A h m n i ≤ FARN := by
  unfold chN
  split
  · exact hA i
  · exact chM_le hA _ i
theorem absN_le {a b : Nat} (ha : a ≤ 16) (hb : b ≤ 16) : absN a b ≤ 16 := by unfold absN; split <;> omega
theorem upd_updN (g : Nat → Int32) (A : Nat → Nat) (k x : Nat) (N : Nat) (h : ∀ i, i < N → g i = nI (A i)) : ∀ i, i < N → upd g k (nI x) i = nI (updN A k x i) := by
  intro i hi
  unfold upd updN
  split
  · rfl
  · exact h i hi
/-- which wishes a house meets in a turn; hs houses by house -/
def metC (f : Nat → Int32) (sd fr un fc : Nat → Int32) (h : Nat) (t : Int32) (k : Nat) : Bool := decide (ocN f (2 * k) = h) && isSeenB (sd (ocN f (2 * k + 1))) (fc h) (fr (ocN f (2 * k + 1))) (un (ocN f (2 * k + 1))) t
/-- a turn laid, house by house: hs houses, met what each meets -/
def layN (hs : Int32) (met : Nat → Nat) (T : Nat → Nat) (n : Nat) : Nat → (Nat → Nat)
  | 0 => T
  | h + 1 => if isHouseB hs (nI h) = true then chN T (layN hs met T n h) h (met h) n else layN hs met T n h
theorem layN_le {hs : Int32} {met T : Nat → Nat} {n : Nat} (hT : ∀ i, T i ≤ FARN) : ∀ h i, layN hs met T n h i ≤ FARN := by
  intro h
  induction h with
  | zero => exact hT
  | succ h ih =>
    intro i
    unfold layN
    split
    · exact chN_le ih i
    · exact ih i
def tabN (hs : Int32) (met : Nat → Nat → Nat) (n : Nat) : Nat → (Nat → Nat)
  | 0 => fun c => if c = 16 then 0 else FARN
  | t + 1 => layN hs (met t) (tabN hs met n t) n 16
theorem tabN_le (hs : Int32) (met : Nat → Nat → Nat) (n : Nat) : ∀ t i, tabN hs met n t i ≤ FARN := by
  intro t
  induction t with
  | zero => intro i; show (if i = 16 then 0 else FARN) ≤ _; split <;> omega
  | succ t ih => intro i; exact layN_le ih 16 i
def leaN (T : Nat → Nat) (n : Nat) : Nat → Nat
  | 0 => FARN
  | k + 1 => min (leaN T n k) (T (17 * (2 ^ n - 1) + k))
theorem leaN_le (T : Nat → Nat) (n k : Nat) : leaN T n k ≤ FARN := by
  induction k with
  | zero => exact Nat.le_refl _
  | succ k ih => exact Nat.le_trans (Nat.min_le_left _ _) ih
def wishC (hs th : Int32) (f : Nat → Int32) (k : Nat) : Bool := isHouseB hs (nI (ocN f (2 * k))) && isHouseB th (nI (ocN f (2 * k + 1)))
def shortV (hs : Int32) (met : Nat → Nat → Nat) (n : Nat) : Nat := leaN (tabN hs met n 12) n 16
def crackG1 (tp n k : Int32) : Bool := inB n 1 6 && (inB k 0 1 && !decide (tp < 2 * n))
def shortI (hs th : Int32) (f sd fr un fc : Nat → Int32) (tp n k : Int32) : Int32 :=
  if crackG1 tp n k = true then (if allC (wishC hs th f) (ix n) = true then
    (if FARN ≤ shortV hs (fun t h => orT (metC f sd fr un fc h (nI t)) (ix n)) (ix n) then -2 else if k = 0 then nI (shortV hs (fun t h => orT (metC f sd fr un fc h (nI t)) (ix n)) (ix n) / 32) else nI (shortV hs (fun t h => orT (metC f sd fr un fc h (nI t)) (ix n)) (ix n) % 32)) else -3) else -1
theorem isHouseB_lt {hs : Int32} {x : Nat} (hx : x < 2 ^ 31) (h : isHouseB hs (nI x) = true) : x < 16 := by
  obtain ⟨j, hj, e, _⟩ := isHouseB_nI h
  have := (nI_eq hx (by omega)).mp e
  omega
theorem chL_f {T : Nat → Nat} {h m met : Nat} {A : Nat → Nat} {la : Nat} (q : FARN ≤ T (17 * met + la)) : chL T h m met A (la + 1) = chL T h m met A la := if_pos q
theorem chL_n {T : Nat → Nat} {h m met : Nat} {A : Nat → Nat} {la : Nat} (q : ¬ FARN ≤ T (17 * met + la)) : chL T h m met A (la + 1) = updN (chL T h m met A la) (17 * (met ||| m) + h) (min (chL T h m met A la (17 * (met ||| m) + h)) (thenN h la (T (17 * met + la)))) := if_neg q
theorem thenN_b {h la v : Nat} (hh : h < 16) (hl : la ≤ 16) (hv : v ≤ FARN) : thenN h la v < 2 ^ 31 := by
  have := absN_le (show h ≤ 16 by omega) hl
  unfold thenN FARN at *
  split <;> omega
theorem layN_t {hs : Int32} {met T : Nat → Nat} {n h : Nat} (c : isHouseB hs (nI h) = true) : layN hs met T n (h + 1) = chN T (layN hs met T n h) h (met h) n := if_pos c
theorem layN_f {hs : Int32} {met T : Nat → Nat} {n h : Nat} (c : isHouseB hs (nI h) = false) : layN hs met T n (h + 1) = layN hs met T n h := if_neg (by rw [c]; decide)
theorem shortI_1 {hs th : Int32} {f sd fr un fc : Nat → Int32} {tp n k : Int32} {v : Nat} (hg : crackG1 tp n k = true) (ha : allC (wishC hs th f) (ix n) = true) (hv : shortV hs (fun t h => orT (metC f sd fr un fc h (nI t)) (ix n)) (ix n) = v) (h : ¬ v < FARN) : shortI hs th f sd fr un fc tp n k = -2 := by
  unfold shortI
  rw [hv, if_pos hg, if_pos ha, if_pos (Nat.not_lt.mp h)]
theorem shortI_2 {hs th : Int32} {f sd fr un fc : Nat → Int32} {tp n k : Int32} {v : Nat} (hg : crackG1 tp n k = true) (ha : allC (wishC hs th f) (ix n) = true) (hv : shortV hs (fun t h => orT (metC f sd fr un fc h (nI t)) (ix n)) (ix n) = v) (h : v < FARN) (hk : k = 0) : shortI hs th f sd fr un fc tp n k = nI (v / 32) := by
  unfold shortI
  rw [hv, if_pos hg, if_pos ha, if_neg (Nat.not_le.mpr h), if_pos hk]
theorem shortI_3 {hs th : Int32} {f sd fr un fc : Nat → Int32} {tp n k : Int32} {v : Nat} (hg : crackG1 tp n k = true) (ha : allC (wishC hs th f) (ix n) = true) (hv : shortV hs (fun t h => orT (metC f sd fr un fc h (nI t)) (ix n)) (ix n) = v) (h : v < FARN) (hk : ¬ k = 0) : shortI hs th f sd fr un fc tp n k = nI (v % 32) := by
  unfold shortI
  rw [hv, if_pos hg, if_pos ha, if_neg (Nat.not_le.mpr h), if_neg hk]
