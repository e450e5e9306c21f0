set_option maxRecDepth 100000
/-! S: second windows -/
def vldS (hs : Nat) (ev : Nat → Int32) (all : Int32) (s : Nat) : Prop := nI s &&& (nI hs ^^^ (-1)) = 0 ∧ svS ev s = all
/-- the sets from below -/
def bsA (hs : Nat) (ev : Nat → Int32) (all : Int32) : Nat → Nat
  | 0 => hs
  | s + 1 => if (nI s &&& (nI hs ^^^ (-1)) = 0 ∧ svS ev s = all) ∧ (cntN s < cntN (bsA hs ev all s) ∨ cntN s = cntN (bsA hs ev all s) ∧ s < bsA hs ev all s) then s else bsA hs ev all s
abbrev lexN (a b : Nat) : Prop := cntN a < cntN b ∨ (cntN a = cntN b ∧ a ≤ b)
theorem bsA_spec {hs : Nat} {ev : Nat → Int32} {all : Int32} (hv : vldS hs ev all hs) : ∀ m, vldS hs ev all (bsA hs ev all m) ∧ ∀ s, s < m → vldS hs ev all s → lexN (bsA hs ev all m) s := by
  intro m
  induction m with
  | zero => exact ⟨hv, fun s h => absurd h (Nat.not_lt_zero _)⟩
  | succ m ih =>
    obtain ⟨h1, h2⟩ := ih
    unfold bsA
    split
    · next h =>
      refine ⟨h.1, fun s hsm hvs => ?_⟩
      by_cases e : s = m
      · subst e; exact Or.inr ⟨rfl, Nat.le_refl _⟩
      · have h3 := h2 s (by omega) hvs
        unfold lexN at *; omega
    · next h =>
      refine ⟨h1, fun s hsm hvs => ?_⟩
      by_cases e : s = m
      · subst e
        have : ¬ (cntN s < cntN (bsA hs ev all s) ∨ cntN s = cntN (bsA hs ev all s) ∧ s < bsA hs ev all s) := fun q => h ⟨hvs, q⟩
        unfold lexN; omega
      · exact h2 s (by omega) hvs
theorem bsB_spec {hs : Nat} {ev : Nat → Int32} {all : Int32} (hv : vldS hs ev all hs) : ∀ m, m ≤ 65536 → vldS hs ev all (bsB hs ev all m) ∧ ∀ s, 65536 - m ≤ s → s < 65536 → vldS hs ev all s → lexN (bsB hs ev all m) s := by
  intro m
  induction m with
  | zero => intro _; exact ⟨hv, fun s h1 h2 => by omega⟩
  | succ m ih =>
    intro hm
    obtain ⟨h1, h2⟩ := ih (by omega)
    unfold bsB
    split
    · next h =>
      refine ⟨h.1, fun s hsm hs2 hvs => ?_⟩
      by_cases e : s = 65536 - (m + 1)
      · subst e; exact Or.inr ⟨rfl, Nat.le_refl _⟩
      · have h3 := h2 s (by omega) hs2 hvs
        have h4 := h.2
        unfold lexN at *; omega
    · next h =>
      refine ⟨h1, fun s hsm hs2 hvs => ?_⟩
      by_cases e : s = 65536 - (m + 1)
      · subst e
        have : ¬ (cntN (65536 - (m + 1)) ≤ cntN (bsB hs ev all m)) := fun q => h ⟨hvs, q⟩
        exact Or.inl (by omega)
      · exact h2 s (by omega) hs2 hvs
theorem bsA_lt {hs : Nat} {ev : Nat → Int32} {all : Int32} (h : hs < 65536) : ∀ m, m ≤ 65536 → bsA hs ev all m < 65536 := by
  intro m
  induction m with
  | zero => intro _; exact h
  | succ m ih => intro hm; have := ih (by omega); unfold bsA; split <;> omega
theorem bs_eq {hs : Nat} {ev : Nat → Int32} {all : Int32} (h : hs < 65536) (hv : vldS hs ev all hs) : bsA hs ev all 65536 = bsB hs ev all 65536 := by
  obtain ⟨a1, a2⟩ := bsA_spec hv 65536
  obtain ⟨b1, b2⟩ := bsB_spec hv 65536 (Nat.le_refl _)
  have c1 := a2 _ (bsB_lt h _) b1
  have c2 := b2 _ (by omega) (bsA_lt h _ (Nat.le_refl _)) a1
  unfold lexN at *; omega
theorem bs_valid {hs : Nat} (h : hs < 65536) (ev : Nat → Int32) : vldS hs (evS (nI hs) ev) (orI (evS (nI hs) ev) 16) hs := by
  refine ⟨?_, ?_⟩
  · refine b_ext (fun i hi => ?_)
    rw [b_and, b_xor, b_m1 i hi, b_0]
    cases bt (nI hs) i <;> rfl
  · refine orI_congr (fun i hi => ?_)
    unfold evS
    have e : isHouseB (nI hs) (nI i) = hs.testBit i := by
      unfold isHouseB
      rw [hasB_nI _ (by omega)]
      have : inB (nI i) 0 15 = true := by
        unfold inB
        have h1 : (0 : Int32) ≤ nI i := (nI_leI (a := 0) (b := i) (by omega) (by omega)).mpr (Nat.zero_le _)
        have h2 : nI i ≤ (15 : Int32) := (nI_leI (a := i) (b := 15) (by omega) (by omega)).mpr (by omega)
        rw [decide_eq_true h1, decide_eq_true h2]; rfl
      rw [this]; rfl
    rw [e]
    cases hs.testBit i <;> rfl
theorem bsA_t {hs : Nat} {ev : Nat → Int32} {all : Int32} {s : Nat} (h1 : nI s &&& (nI hs ^^^ (-1)) = 0) (h2 : svS ev s = all) (h3 : cntN s < cntN (bsA hs ev all s) ∨ cntN s = cntN (bsA hs ev all s) ∧ s < bsA hs ev all s) : bsA hs ev all (s + 1) = s := if_pos ⟨⟨h1, h2⟩, h3⟩
theorem bsA_n {hs : Nat} {ev : Nat → Int32} {all : Int32} {s : Nat} (h : ¬ ((nI s &&& (nI hs ^^^ (-1)) = 0 ∧ svS ev s = all) ∧ (cntN s < cntN (bsA hs ev all s) ∨ cntN s = cntN (bsA hs ev all s) ∧ s < bsA hs ev all s))) : bsA hs ev all (s + 1) = bsA hs ev all s := if_neg h
theorem sub_gt {a b : Nat} (ha : a < 2 ^ 30) (hb : b < 2 ^ 30) : 0 < nI a - nI b ↔ b < a := by
  rw [Int32.lt_iff_toInt_lt, pk_sub_toInt ha hb, show (0 : Int32).toInt = 0 from rfl]; omega
theorem sub_eq {a b : Nat} (ha : a < 2 ^ 30) (hb : b < 2 ^ 30) : nI a - nI b = 0 ↔ a = b := by
  rw [← Int32.toInt_inj, pk_sub_toInt ha hb, show (0 : Int32).toInt = 0 from rfl]; omega
