set_option maxRecDepth 100000
/-! where a reading goes wrong, and the sign of what it answers then -/
def Bd {α : Type} (n : Nat) (x : (Nat × Nat) ⊕ (α × Nat)) : Prop := match x with
  | .inl e => e.1 ≤ 9 ∧ e.2 ≤ n + 6
  | .inr r => r.2 ≤ n
theorem Bd.w {α β : Type} {n : Nat} {x : (Nat × Nat) ⊕ (α × Nat)} {k : α × Nat → (Nat × Nat) ⊕ (β × Nat)} (h : Bd n x) (hk : ∀ r, r.2 ≤ n → Bd n (k r)) : Bd n (bW x k) := by
  cases x with
  | inl e => exact h
  | inr r => exact hk r h
theorem Bd.l {α : Type} {n : Nat} {k p : Nat} (hk : k ≤ 9) (hp : p ≤ n + 6) : Bd (α := α) n (.inl (k, p)) := ⟨hk, hp⟩
theorem ck_lt {f : Nat → Int32} {n p : Nat} {P : Nat → Bool} (h : P (ckN f n p) = true) (h0 : P 300 = false) : p < n := Nat.not_le.mp fun q => by
  rw [ckN_f (by omega), h0] at h; cases h
theorem dig_lt {f : Nat → Int32} {n p : Nat} (h : digB f n p = true) : p < n := Nat.not_le.mp fun q => by
  unfold digB at h; rw [ckN_f (by omega)] at h; cases h
theorem nmL_Bd {f : Nat → Int32} {n : Nat} : ∀ b p v, p ≤ n → Bd n (nmL f n b p v) := by
  intro b
  induction b with
  | zero =>
    intro p v hp
    unfold nmL
    split
    · exact Bd.l (by decide) (by omega)
    · exact hp
  | succ b ih =>
    intro p v hp
    unfold nmL
    split
    · rename_i h
      exact ih _ _ (by have := dig_lt h; omega)
    · exact hp
theorem rdE_Bd {f : Nat → Int32} {n : Nat} : ∀ k m op p a, p ≤ n → Bd n (rdE f n k m op p a) := by
  intro k
  induction k with
  | zero => intro m op p a _; unfold rdE; exact Bd.l (by decide) (by omega)
  | succ k ih =>
    intro m op p a hp
    match m with
    | 0 =>
      unfold rdE
      split
      · rename_i h
        have hpn := ckN_in (by decide) h
        split
        · exact Bd.l (by decide) (by omega)
        · refine (ih _ _ _ _ (by omega)).w fun r hr => ?_
          split
          · rename_i h2
            have := ckN_in (by decide) h2
            exact (show r.2 + 1 ≤ n by omega)
          · exact Bd.l (by decide) (by omega)
      · split
        · exact (nmL_Bd 5 p 0 hp).w fun r hr => hr
        · split
          · rename_i i hi
            have hpn : p < n := Nat.not_le.mp fun q => by rw [ckN_f (by omega), show letN 300 = none from rfl] at hi; cases hi
            exact (show p + 1 ≤ n by omega)
          · exact Bd.l (by decide) (by omega)
    | 1 =>
      unfold rdE
      split
      · rename_i h
        have hpn := ck_lt h rfl
        exact (ih _ _ _ _ (by omega)).w fun r hr => ih _ _ _ _ hr
      · exact hp
    | 2 =>
      unfold rdE
      split
      · rename_i h
        have hpn := ck_lt h rfl
        exact (ih _ _ _ _ (by omega)).w fun r hr => (ih _ _ _ _ hr).w fun r2 hr2 => ih _ _ _ _ hr2
      · exact hp
    | m + 3 =>
      unfold rdE
      exact (ih _ _ _ _ hp).w fun r hr => (ih _ _ _ _ hr).w fun r2 hr2 => ih _ _ _ _ hr2
theorem rdC_Bd {f : Nat → Int32} {n : Nat} : ∀ k m op p b a, p ≤ n → (3 ≤ m → p < n) → Bd n (rdC f n k m op p b a) := by
  intro k
  induction k with
  | zero => intro m op p b a _ _; unfold rdC; exact Bd.l (by decide) (by omega)
  | succ k ih =>
    intro m op p b a hp h3
    match m with
    | 0 =>
      unfold rdC
      split
      · rename_i h
        have hpn := ckN_in (by decide) h
        split
        · exact Bd.l (by decide) (by omega)
        · exact (ih _ _ _ _ _ (by omega) (by omega)).w fun r hr => hr
      · split
        · rename_i h; exact ih _ _ _ _ _ hp (fun _ => ckN_in (by decide) h)
        · refine (rdE_Bd (2 * n + 6) 3 op p _ hp).w fun x hx => ?_
          split
          · rename_i s hs
            have hpn : x.2 < n := Nat.not_le.mp fun q => by rw [ckN_f (by omega), show cmpN 300 = none from rfl] at hs; cases hs
            exact (rdE_Bd (2 * n + 6) 3 op (x.2 + 1) _ (by omega)).w fun y hy => hy
          · exact Bd.l (by decide) (by omega)
    | 1 =>
      unfold rdC
      split
      · rename_i h
        have hpn := ckN_in (by decide) h
        exact (ih _ _ _ _ _ (by omega) (by omega)).w fun r hr => ih _ _ _ _ _ hr (by omega)
      · exact hp
    | 2 =>
      unfold rdC
      split
      · rename_i h
        have hpn := ckN_in (by decide) h
        exact (ih _ _ _ _ _ (by omega) (by omega)).w fun r hr => (ih _ _ _ _ _ hr (by omega)).w fun r2 hr2 => ih _ _ _ _ _ hr2 (by omega)
      · exact hp
    | m + 3 =>
      unfold rdC
      split
      · exact Bd.l (by decide) (by omega)
      · have hpn := h3 (by omega)
        · refine (ih _ _ _ _ _ (by omega) (by omega)).w fun r hr => (ih _ _ _ _ _ hr (by omega)).w fun r1 hr1 => (ih _ _ _ _ _ hr1 (by omega)).w fun r2 hr2 => ?_
          split
          · rename_i h2
            have := ckN_in (by decide) h2
            exact (show r2.2 + 1 ≤ n by omega)
          · exact Bd.l (by decide) (by omega)
theorem ruleE_Bd {f : Nat → Int32} {n m p b : Nat} (hp : p ≤ n) : Bd n (ruleE f n m p b) := by
  unfold ruleE
  split
  · rename_i h
    have hpn := isRu_lt h
    split
    · exact Bd.l (by decide) (by omega)
    · have h1 : Bd n (halfE f n p) := by
        unfold halfE
        split
        · exact (show p + 1 ≤ n by omega)
        · exact rdE_Bd _ _ _ _ _ (by omega)
      refine h1.w fun s hs => ?_
      have h2 : Bd n (conW f n s.2 (b + s.1.1.length)) := by
        unfold conW
        split
        · rename_i h4; exact rdC_Bd _ _ _ _ _ _ hs (fun _ => ckN_in (by decide) h4)
        · exact Bd.l (by decide) (by omega)
      exact h2.w fun r hr => hr
  · exact Bd.l (by decide) (by omega)
theorem rulesE_Bd {f : Nat → Int32} {n : Nat} : ∀ k rs b p e, p ≤ n → rulesE f n k rs b p = .inl e → e.1 ≤ 9 ∧ e.2 ≤ n + 6 := by
  intro k
  induction k with
  | zero => intro rs b p e _ h; unfold rulesE at h; cases h; exact ⟨by decide, by omega⟩
  | succ k ih =>
    intro rs b p e hp h
    rw [rulesE_s] at h
    have h1 := ruleE_Bd (f := f) (m := rs.length) (b := b) hp
    cases hx : ruleE f n rs.length p b with
    | inl e1 => rw [hx] at h h1; cases h; exact h1
    | inr r =>
      rw [hx] at h h1
      have h1 : r.2 ≤ n := h1
      have h : (if r.2 < n then (if ckN f n r.2 = 59 then rulesE f n k (rs ++ [r.1]) (b + lenR r.1) (r.2 + 1) else .inl (1, r.2)) else .inr (rs ++ [r.1]) : (Nat × Nat) ⊕ List RL) = .inl e := h
      split at h
      · split at h
        · exact ih _ _ _ _ (by omega) h
        · cases h; exact ⟨(by decide : (1 : Nat) ≤ 9), by dsimp only; omega⟩
      · cases h
theorem wr_neg : ∀ k, k < 9 → ∀ p, p < 260 → wrI (k + 1) p < 0 := by decide +kernel
theorem lawE_neg {f : Nat → Int32} {n : Nat} {e : Nat × Nat} (hn : n ≤ 240) (h : lawE f n = .inl e) (he : fOK e.1) : wrI e.1 e.2 < 0 := by
  obtain ⟨h1, h2⟩ := rulesE_Bd _ _ _ _ _ (Nat.zero_le _) h
  have h3 : 1 ≤ e.1 := Nat.not_lt.mp fun q => by
    have h4 := he.2
    rw [show e.1 = 0 by omega] at h4
    exact absurd h4 (by decide)
  have h5 := wr_neg (e.1 - 1) (by omega) e.2 (by omega)
  rw [show e.1 - 1 + 1 = e.1 by omega] at h5
  exact h5
