set_option maxRecDepth 100000
/-! second windows: sets of houses, what they see -/
def evS (hs : Int32) (ev : Nat → Int32) (h : Nat) : Int32 := if isHouseB hs (nI h) = true then ev h else 0
/-- what a set of houses sees -/
def svS (ev : Nat → Int32) (s : Nat) : Int32 := orI (fun h => if s.testBit h = true then ev h else 0) 16
theorem bt_orI (f : Nat → Int32) (n i : Nat) : bt (orI f n) i = decide (∃ h, h < n ∧ bt (f h) i = true) := by
  induction n with
  | zero => simp [orI, b_0]
  | succ n ih =>
    show bt (orI f n ||| f n) i = _
    rw [b_or, ih]
    by_cases q : ∃ h, h < n ∧ bt (f h) i = true
    · obtain ⟨h, h1, h2⟩ := q
      have a : (∃ h, h < n ∧ bt (f h) i = true) := ⟨h, h1, h2⟩
      have b : (∃ h, h < n + 1 ∧ bt (f h) i = true) := ⟨h, by omega, h2⟩
      simp [a, b]
    · by_cases e : bt (f n) i = true
      · have b : (∃ h, h < n + 1 ∧ bt (f h) i = true) := ⟨n, by omega, e⟩
        simp [e, b]
      · have b : ¬ (∃ h, h < n + 1 ∧ bt (f h) i = true) := by
          intro ⟨h, h1, h2⟩
          by_cases e2 : h = n
          · subst e2; exact e h2
          · exact q ⟨h, by omega, h2⟩
        have e : bt (f n) i = false := Bool.eq_false_iff.mpr e
        simp [q, e, b]
theorem svS_low {ev : Nat → Int32} {s : Nat} (h0 : s ≠ 0) (hs : s < 2 ^ 16) : svS ev s = svS ev (clrB s (lowN s)) ||| ev (lowN s) := by
  obtain ⟨h1, h2, _⟩ := lowN_spec h0 hs
  refine b_ext (fun i hi => ?_)
  rw [b_or]
  unfold svS
  rw [bt_orI, bt_orI]
  apply Bool.eq_iff_iff.mpr
  simp only [decide_eq_true_eq, Bool.or_eq_true]
  constructor
  · intro ⟨h, a, b⟩
    by_cases e : h = lowN s
    · subst e; rw [if_pos h1] at b; exact Or.inr b
    · left
      refine ⟨h, a, ?_⟩
      by_cases q : s.testBit h = true
      · rw [if_pos q] at b; rw [if_pos (by rw [clrB_bit, q]; simp [e])]; exact b
      · rw [if_neg q, b_0] at b; cases b
  · intro q
    rcases q with ⟨h, a, b⟩ | b
    · refine ⟨h, a, ?_⟩
      by_cases q : (clrB s (lowN s)).testBit h = true
      · rw [if_pos q] at b
        rw [clrB_bit] at q
        simp only [Bool.and_eq_true] at q
        rw [if_pos q.1]; exact b
      · rw [if_neg q, b_0] at b; cases b
    · exact ⟨lowN s, h2, by rw [if_pos h1]; exact b⟩
theorem svS_0 (ev : Nat → Int32) : svS ev 0 = 0 := by
  refine b_ext (fun i hi => ?_)
  unfold svS
  rw [bt_orI, b_0]
  simp [b_0]
theorem and_pred {s : Nat} (h0 : s ≠ 0) (hs : s < 2 ^ 16) : s &&& (s - 1) = clrB s (lowN s) := by
  obtain ⟨h1, _, h3⟩ := lowN_spec h0 hs
  generalize lowN s = a at h1 h3
  -- s = 2^(a+1) q + 2^a
  have hm : s % 2 ^ (a + 1) = 2 ^ a := by
    refine Nat.eq_of_testBit_eq (fun j => ?_)
    rw [Nat.testBit_mod_two_pow, Nat.testBit_two_pow]
    by_cases e : a = j
    · subst e; simp [h1]
    · by_cases q : j < a + 1
      · simp [e, q, h3 j (by omega)]
      · simp [e, q]
  have hd := Nat.div_add_mod s (2 ^ (a + 1))
  rw [hm] at hd
  have hp := Nat.two_pow_pos a
  have e1 : s - 1 = 2 ^ (a + 1) * (s / 2 ^ (a + 1)) + (2 ^ a - 1) := by omega
  refine Nat.eq_of_testBit_eq (fun j => ?_)
  rw [Nat.testBit_and, clrB_bit, e1, Nat.testBit_two_pow_mul_add _ (by have := Nat.pow_lt_pow_right (a := 2) (by decide) (show a < a + 1 by omega); omega)]
  by_cases q : j < a + 1
  · rw [if_pos q]
    by_cases e : j = a
    · subst e; simp [Nat.testBit_two_pow_sub_one]
    · rw [h3 j (by omega)]; simp
  · rw [if_neg q]
    have e : ¬ j = a := by omega
    have h5 : s.testBit j = (s / 2 ^ (a + 1)).testBit (j - (a + 1)) := by rw [Nat.testBit_div_two_pow]; congr 1; omega
    rw [← h5]; simp [e]
/-- the sets from above, the best so far -/
def bsB (hs : Nat) (ev : Nat → Int32) (all : Int32) : Nat → Nat
  | 0 => hs
  | m + 1 => if (nI (65536 - (m + 1)) &&& (nI hs ^^^ (-1)) = 0 ∧ svS ev (65536 - (m + 1)) = all) ∧ cntN (65536 - (m + 1)) ≤ cntN (bsB hs ev all m) then 65536 - (m + 1) else bsB hs ev all m
theorem bsB_lt {hs : Nat} {ev : Nat → Int32} {all : Int32} (h : hs < 65536) : ∀ m, bsB hs ev all m < 65536 := by
  intro m
  induction m with
  | zero => exact h
  | succ m ih => unfold bsB; split <;> omega
theorem cntN_le (s : Nat) : cntN s ≤ 16 := cnN_le s 16
def bestN (hs : Nat) (ev : Nat → Int32) : Nat := bsB hs ev (orI ev 16) 65536
def secondI (hs : Nat) (ev : Nat → Int32) (k : Int32) : Int32 := if inB k 0 1 = true then (if k = 0 then nI (cntN (bestN hs ev)) else nI (bestN hs ev)) else -1
theorem orI_congr {f g : Nat → Int32} {n : Nat} (h : ∀ i, i < n → f i = g i) : orI f n = orI g n := by
  induction n with
  | zero => rfl
  | succ n ih => show orI f n ||| f n = orI g n ||| g n; rw [ih (fun i hi => h i (by omega)), h n (by omega)]
theorem bsB_s {hs : Nat} {ev : Nat → Int32} {all : Int32} {s : Nat} (h : s < 65536) : bsB hs ev all (65536 - s) = if (nI s &&& (nI hs ^^^ (-1)) = 0 ∧ svS ev s = all) ∧ cntN s ≤ cntN (bsB hs ev all (65536 - (s + 1))) then s else bsB hs ev all (65536 - (s + 1)) := by
  obtain ⟨m, hm⟩ : ∃ m, 65536 - s = m + 1 := ⟨65536 - s - 1, by omega⟩
  have h2 : 65536 - (s + 1) = m := by omega
  have h3 : 65536 - (m + 1) = s := by omega
  rw [hm, h2]
  show (if (nI (65536 - (m + 1)) &&& (nI hs ^^^ (-1)) = 0 ∧ svS ev (65536 - (m + 1)) = all) ∧ cntN (65536 - (m + 1)) ≤ cntN (bsB hs ev all m) then 65536 - (m + 1) else bsB hs ev all m) = _
  rw [h3]
theorem bsB_n {hs : Nat} {ev : Nat → Int32} {all : Int32} {s : Nat} (h : s < 65536) (q : ¬ ((nI s &&& (nI hs ^^^ (-1)) = 0 ∧ svS ev s = all) ∧ cntN s ≤ cntN (bsB hs ev all (65536 - (s + 1))))) : bsB hs ev all (65536 - s) = bsB hs ev all (65536 - (s + 1)) := by rw [bsB_s h, if_neg q]
theorem bsB_t {hs : Nat} {ev : Nat → Int32} {all : Int32} {s : Nat} (h : s < 65536) (q : (nI s &&& (nI hs ^^^ (-1)) = 0 ∧ svS ev s = all) ∧ cntN s ≤ cntN (bsB hs ev all (65536 - (s + 1)))) : bsB hs ev all (65536 - s) = s := by rw [bsB_s h, if_pos q]
