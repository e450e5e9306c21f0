set_option maxRecDepth 100000
/-! what is read of a text: f the tape, n its length, p the place -/
def ckN (f : Nat → Int32) (n p : Nat) : Nat := if p < n then ocN f p else 300
def hereI (f : Nat → Int32) (n p : Nat) : Int32 := if p < n then nI (ocN f p) else -1
def digB (f : Nat → Int32) (n p : Nat) : Bool := decide (48 ≤ ckN f n p) && decide (ckN f n p ≤ 57)
theorem ckN_t {f : Nat → Int32} {n p : Nat} (h : p < n) : ckN f n p = ocN f p := if_pos h
theorem ckN_f {f : Nat → Int32} {n p : Nat} (h : ¬ p < n) : ckN f n p = 300 := if_neg h
theorem hereI_t {f : Nat → Int32} {n p : Nat} (h : p < n) : hereI f n p = nI (ocN f p) := if_pos h
theorem hereI_f {f : Nat → Int32} {n p : Nat} (h : ¬ p < n) : hereI f n p = -1 := if_neg h
theorem hereI_eq {f : Nat → Int32} {n p c : Nat} (hc : c < 256) : hereI f n p = nI c ↔ ckN f n p = c := by
  by_cases h : p < n
  · rw [hereI_t h, ckN_t h]; exact nI_eq (ocN_b _ _) (by omega)
  · rw [hereI_f h, ckN_f h]
    constructor
    · intro e; exact absurd e.symm (nI_neg (by omega) (by decide))
    · intro e; omega
theorem hereI_le {f : Nat → Int32} {n p c : Nat} (hc : c < 256) : nI c ≤ hereI f n p ↔ (c ≤ ckN f n p ∧ ckN f n p < 256) := by
  by_cases h : p < n
  · rw [hereI_t h, ckN_t h, nI_leI (by omega) (ocN_b _ _)]
    have := ocN_lt f p
    omega
  · rw [hereI_f h, ckN_f h]
    constructor
    · intro e
      have e := Int32.le_iff_toInt_le.mp e
      rw [nI_toInt (by omega), show (-1 : Int32).toInt = -1 from rfl] at e
      omega
    · intro e; omega
theorem hereI_gt {f : Nat → Int32} {n p c : Nat} (hc : c < 256) : nI c < hereI f n p ↔ (c < ckN f n p ∧ ckN f n p < 256) := by
  by_cases h : p < n
  · rw [hereI_t h, ckN_t h, nI_ltI (by omega) (ocN_b _ _)]
    have := ocN_lt f p
    omega
  · rw [hereI_f h, ckN_f h]
    constructor
    · intro e
      have e := Int32.lt_iff_toInt_lt.mp e
      rw [nI_toInt (by omega), show (-1 : Int32).toInt = -1 from rfl] at e
      omega
    · intro e; omega
def wrI (k p : Nat) : Int32 := -1000 * nI k - nI p
theorem digB_here (f : Nat → Int32) (n p : Nat) : digB f n p = (decide (48 ≤ hereI f n p) && decide (hereI f n p ≤ 57)) := by
  unfold digB
  by_cases h : p < n
  · have hb := ocN_lt f p
    rw [hereI_t h, ckN_t h]
    have h1 : ((48 : Int32) ≤ nI (ocN f p)) ↔ 48 ≤ ocN f p := nI_leI (a := 48) (by omega) (by omega)
    have h2 : (nI (ocN f p) ≤ (57 : Int32)) ↔ ocN f p ≤ 57 := nI_leI (b := 57) (by omega) (by omega)
    simp only [h1, h2]
  · rw [hereI_f h, ckN_f h]; rfl
theorem digB_ck {f : Nat → Int32} {n p : Nat} (h : digB f n p = true) : p < n ∧ 48 ≤ ocN f p ∧ ocN f p ≤ 57 ∧ hereI f n p = nI (ocN f p) := by
  unfold digB at h
  simp only [Bool.and_eq_true, decide_eq_true_eq] at h
  by_cases q : p < n
  · rw [ckN_t q] at h; exact ⟨q, h.1, h.2, hereI_t q⟩
  · rw [ckN_f q] at h; omega
/-- a number of the terrace: a fault (what, where), or its value and the place behind it -/
def numW (f : Nat → Int32) (n p : Nat) : (Nat × Nat) ⊕ (Nat × Nat) :=
  if digB f n p = true then
    (if digB f n (p + 1) = true then
      (if digB f n (p + 2) = true then .inl (2, p + 2)
       else if 10 * (ocN f p - 48) + (ocN f (p + 1) - 48) < 12 then .inr (10 * (ocN f p - 48) + (ocN f (p + 1) - 48), p + 2) else .inl (3, p))
     else .inr (ocN f p - 48, p + 1))
  else .inl (1, p)
