set_option maxRecDepth 100000
/-- a sum of the law, by descent -/
def sumE (f : Nat → Int32) (n op p : Nat) : SR := rdE f n (2 * n + 6) 3 op p ([], fun _ => none)
theorem opnB_self (ws : List Nat) : opnB ws.length ws = false := Bool.eq_false_iff.mpr fun z => by
  obtain ⟨k, h1, h2, _⟩ := (opnB_iff ws).mp z
  omega
/-- the machine's answer on a sum, from its own stack on -/
theorem mR_sum {f : Nat → Int32} {n fu op p : Nat} {cs ws : List Nat} (hp : p ≤ n) (hf : 2 * (n + 1 - p) + 1 ≤ fu) (ht : topF true ws) :
    (∀ e, sumE f n op p = .inl e → mR f n ws.length fu true cs ws op p = .inl e) ∧ ∀ r, sumE f n op p = .inr r → mR f n ws.length fu true cs ws op p = .inr (cs ++ r.1.1, ws, op, r.2) := by
  obtain ⟨_, _, _, h3⟩ := mR_sim (f := f) (n := n) (base := ws.length) (2 * n + 6)
  obtain ⟨_, _, _, o3⟩ := rdE_ok (f := f) (n := n) (2 * n + 6)
  obtain ⟨j1, j2⟩ := h3 op p ([], fun _ => none) cs ws fu hp hf (Nat.le_refl _) ht
  refine ⟨fun e h => j1 e h (o3 op p _ e hp (by omega) h), fun r h => ?_⟩
  obtain ⟨b1, b2, b3, fu', b4, b5⟩ := j2 r h
  rw [b5, mR_end (by omega) b3 (opnB_self ws), clS_top ht]
theorem sumE_seg {f : Nat → Int32} {n op p : Nat} {r : SA × Nat} (hp : p ≤ n) (h : sumE f n op p = .inr r) : (SegL r.1.1 r.1.2 ∧ r.1.1.length ≤ r.2 - p) ∧ p < r.2 ∧ r.2 ≤ n ∧ sgnN (ckN f n r.2) = none := by
  obtain ⟨_, _, _, s3⟩ := rdE_seg (f := f) (n := n) (2 * n + 6)
  exact ⟨s3 op p _ r hp h, (rdE_b hp).2.2.2 h⟩
