set_option maxRecDepth 100000
/-! S: cracks, swaps, panes, what is kept -/
theorem isTurnB_d {v : Nat} (h : v < 256) : isTurnB (nI v) = decide (v < 12) := (by decide +kernel : ∀ v, v < 256 → isTurnB (nI v) = decide (v < 12)) v h
theorem nI_pr {v : Nat} (h : 0 < v) : nI v + Int32.ofInt (-1) = nI (v - 1) := by
  obtain ⟨k, rfl⟩ : ∃ k, v = k + 1 := ⟨v - 1, by omega⟩
  exact nI_dec k
theorem mwI_low {c : Nat → Nat → Bool} {g : Nat → Nat} {a r : Nat} : ∀ k, (∀ i, i < k → r.testBit i = false) → mwI c g a r k = g r := by
  intro k
  induction k with
  | zero => intro _; rfl
  | succ k ih => intro h; rw [mwI_u1 (h k (by omega))]; exact ih (fun i hi => h i (by omega))
theorem clr_low {s : Nat} (h0 : s ≠ 0) (h : s < 2 ^ 16) : ∀ i, i < lowN s + 1 → (clrB s (lowN s)).testBit i = false := by
  intro i hi
  obtain ⟨_, _, h3⟩ := lowN_spec h0 h
  rw [clrB_bit]
  by_cases e : i = lowN s
  · simp [e]
  · rw [h3 i (by omega)]; rfl
theorem ry_0 (k t : Nat) : ryS k t 0 = 0 := by cases t <;> rfl
def rrC (f : Nat → Int32) (t b l r : Nat) : Bool := allC (fun i => clearR (ocN f (t + i)) l r) (b + 1 - t)
def px4 (f : Nat → Int32) (t b l acc : Nat) : Nat → Nat
  | 0 => acc
  | m + 1 => if rrC f t b l (l + m) = true then max (px4 f t b l acc m) ((b - t + 1) * (m + 1)) else px4 f t b l acc m
def px3 (f : Nat → Int32) (t b wd acc : Nat) : Nat → Nat
  | 0 => acc
  | l + 1 => px4 f t b l (px3 f t b wd acc l) (wd - l)
def px2 (f : Nat → Int32) (wd t acc : Nat) : Nat → Nat
  | 0 => acc
  | m + 1 => px3 f t (t + m) wd (px2 f wd t acc m) wd
def px1 (f : Nat → Int32) (n wd : Nat) : Nat → Nat
  | 0 => 0
  | t + 1 => px2 f wd t (px1 f n wd t) (n - t)
theorem px4_le {f : Nat → Int32} {t b l acc M : Nat} : ∀ m, acc ≤ M → (∀ i, i < m → rrC f t b l (l + i) = true → (b - t + 1) * (i + 1) ≤ M) → px4 f t b l acc m ≤ M := by
  intro m
  induction m with
  | zero => intro h _; exact h
  | succ m ih =>
    intro h h2
    have h3 := ih h (fun i hi => h2 i (by omega))
    unfold px4
    split
    · next hc => exact Nat.max_le.mpr ⟨h3, h2 m (by omega) hc⟩
    · exact h3
theorem px4_acc {f : Nat → Int32} {t b l acc : Nat} : ∀ m, acc ≤ px4 f t b l acc m := by
  intro m
  induction m with
  | zero => exact Nat.le_refl _
  | succ m ih =>
    unfold px4
    split
    · exact Nat.le_trans ih (Nat.le_max_left _ _)
    · exact ih
theorem px4_ge {f : Nat → Int32} {t b l acc i : Nat} (hc : rrC f t b l (l + i) = true) : ∀ m, i < m → (b - t + 1) * (i + 1) ≤ px4 f t b l acc m := by
  intro m
  induction m with
  | zero => intro h; omega
  | succ m ih =>
    intro h
    unfold px4
    by_cases e : i = m
    · subst e; rw [if_pos hc]; exact Nat.le_max_right _ _
    · have := ih (by omega)
      split
      · exact Nat.le_trans this (Nat.le_max_left _ _)
      · exact this
theorem px3_le {f : Nat → Int32} {t b wd acc M : Nat} : ∀ l, acc ≤ M → (∀ j i, j < l → j + i < wd → rrC f t b j (j + i) = true → (b - t + 1) * (i + 1) ≤ M) → px3 f t b wd acc l ≤ M := by
  intro l
  induction l with
  | zero => intro h _; exact h
  | succ l ih => intro h h2; exact px4_le _ (ih h (fun j i hj => h2 j i (by omega))) (fun i hi hc => h2 l i (by omega) (by omega) hc)
theorem px3_acc {f : Nat → Int32} {t b wd acc : Nat} : ∀ l, acc ≤ px3 f t b wd acc l := by
  intro l
  induction l with
  | zero => exact Nat.le_refl _
  | succ l ih => exact Nat.le_trans ih (px4_acc _)
theorem px3_ge {f : Nat → Int32} {t b wd acc j i : Nat} (hi : j + i < wd) (hc : rrC f t b j (j + i) = true) : ∀ l, j < l → (b - t + 1) * (i + 1) ≤ px3 f t b wd acc l := by
  intro l
  induction l with
  | zero => intro h; omega
  | succ l ih =>
    intro h
    by_cases e : j = l
    · subst e; exact px4_ge hc _ (by omega)
    · exact Nat.le_trans (ih (by omega)) (px4_acc _)
theorem px2_le {f : Nat → Int32} {wd t acc M : Nat} : ∀ m, acc ≤ M → (∀ k j i, k < m → j + i < wd → rrC f t (t + k) j (j + i) = true → (k + 1) * (i + 1) ≤ M) → px2 f wd t acc m ≤ M := by
  intro m
  induction m with
  | zero => intro h _; exact h
  | succ m ih => intro h h2; exact px3_le _ (ih h (fun k j i hk => h2 k j i (by omega))) (fun j i hj hi hc => by rw [show t + m - t = m by omega]; exact h2 m j i (by omega) hi hc)
theorem px2_acc {f : Nat → Int32} {wd t acc : Nat} : ∀ m, acc ≤ px2 f wd t acc m := by
  intro m
  induction m with
  | zero => exact Nat.le_refl _
  | succ m ih => exact Nat.le_trans ih (px3_acc _)
theorem px2_ge {f : Nat → Int32} {wd t acc k j i : Nat} (hi : j + i < wd) (hc : rrC f t (t + k) j (j + i) = true) : ∀ m, k < m → (k + 1) * (i + 1) ≤ px2 f wd t acc m := by
  intro m
  induction m with
  | zero => intro h; omega
  | succ m ih =>
    intro h
    by_cases e : k = m
    · subst e
      have := px3_ge (acc := px2 f wd t acc k) hi hc wd (by omega)
      rw [show t + k - t = k by omega] at this; exact this
    · exact Nat.le_trans (ih (by omega)) (px3_acc _)
theorem px1_le {f : Nat → Int32} {n wd M : Nat} : ∀ t, (∀ s k j i, s < t → s + k < n → j + i < wd → rrC f s (s + k) j (j + i) = true → (k + 1) * (i + 1) ≤ M) → px1 f n wd t ≤ M := by
  intro t
  induction t with
  | zero => intro _; exact Nat.zero_le _
  | succ t ih => intro h; exact px2_le _ (ih (fun s k j i hs => h s k j i (by omega))) (fun k j i hk hi hc => h t k j i (by omega) (by omega) hi hc)
theorem px1_ge {f : Nat → Int32} {n wd s k j i : Nat} (hk : s + k < n) (hi : j + i < wd) (hc : rrC f s (s + k) j (j + i) = true) : ∀ t, s < t → (k + 1) * (i + 1) ≤ px1 f n wd t := by
  intro t
  induction t with
  | zero => intro h; omega
  | succ t ih =>
    intro h
    by_cases e : s = t
    · subst e; exact px2_ge hi hc _ (by omega)
    · exact Nat.le_trans (ih (by omega)) (px2_acc _)
theorem run_ge {c : Nat → Bool} : ∀ m r k, k ≤ m → (∀ i, i < k → c (r + i) = true) → k ≤ runS c m r := by
  intro m
  induction m with
  | zero => intro r k h _; omega
  | succ m ih =>
    intro r k h h2
    cases k with
    | zero => exact Nat.zero_le _
    | succ k =>
      unfold runS
      rw [if_pos (show c r = true from h2 0 (by omega))]
      have := ih (r + 1) k (by omega) (fun i hi => by rw [show r + 1 + i = r + (i + 1) by omega]; exact h2 (i + 1) (by omega))
      omega
theorem run_all {c : Nat → Bool} : ∀ m r i, i < runS c m r → c (r + i) = true := by
  intro m
  induction m with
  | zero => intro r i h; exact absurd h (Nat.not_lt_zero _)
  | succ m ih =>
    intro r i h
    unfold runS at h
    by_cases hc : c r = true
    · rw [if_pos hc] at h
      cases i with
      | zero => exact hc
      | succ i => have := ih (r + 1) i (by omega); rw [show r + 1 + i = r + (i + 1) by omega] at this; exact this
    · rw [if_neg hc] at h; omega
theorem rr_iff {f : Nat → Int32} {n s k l r : Nat} (hk : s + k < n) : rrC f s (s + k) l r = true ↔ k + 1 ≤ tallN f n l r s := by
  unfold rrC tallN
  rw [show s + k + 1 - s = k + 1 by omega, allC_iff]
  constructor
  · intro h; exact run_ge _ _ _ (by omega) h
  · intro h i hi; exact run_all (c := fun y => clearR (ocN f y) l r) (n - s) s i (by omega)
theorem pnR_acc {f : Nat → Int32} {n a b acc : Nat} : ∀ r, acc ≤ pnR f n a b acc r := by
  intro r
  induction r with
  | zero => exact Nat.le_refl _
  | succ r ih => exact Nat.le_trans ih (Nat.le_max_left _ _)
theorem pnR_ge {f : Nat → Int32} {n a b acc s : Nat} : ∀ r, s < r → tallN f n a b s * (b - a + 1) ≤ pnR f n a b acc r := by
  intro r
  induction r with
  | zero => intro h; omega
  | succ r ih =>
    intro h
    by_cases e : s = r
    · subst e; exact Nat.le_max_right _ _
    · exact Nat.le_trans (ih (by omega)) (Nat.le_max_left _ _)
theorem pnR_le2 {f : Nat → Int32} {n a b acc M : Nat} (h1 : acc ≤ M) : ∀ r, (∀ s, s < r → tallN f n a b s * (b - a + 1) ≤ M) → pnR f n a b acc r ≤ M := by
  intro r
  induction r with
  | zero => intro _; exact h1
  | succ r ih => intro h; exact Nat.max_le.mpr ⟨ih (fun s hs => h s (by omega)), h r (by omega)⟩
theorem pnC_ge {f : Nat → Int32} {n wd a b s : Nat} (hab : a ≤ b) (hb : b < wd) (hs : s < n) : ∀ c, wd * a + b < c → tallN f n a b s * (b - a + 1) ≤ pnC f n wd c := by
  intro c
  induction c with
  | zero => intro h; omega
  | succ c ih =>
    intro h
    unfold pnC
    by_cases e : wd * a + b = c
    · have h1 : c / wd = a := by rw [← e, Nat.mul_add_div (by omega), Nat.div_eq_of_lt hb, Nat.add_zero]
      have h2 : c % wd = b := by rw [← e, Nat.mul_add_mod, Nat.mod_eq_of_lt hb]
      rw [h1, h2, if_pos hab]
      exact pnR_ge n hs
    · have := ih (by omega)
      split
      · exact Nat.le_trans this (pnR_acc _)
      · exact this
theorem pnC_le2 {f : Nat → Int32} {n wd M : Nat} (h : ∀ a b s, a ≤ b → b < wd → s < n → tallN f n a b s * (b - a + 1) ≤ M) (h0 : 0 < wd) : ∀ c, pnC f n wd c ≤ M := by
  intro c
  induction c with
  | zero => exact Nat.zero_le _
  | succ c ih =>
    unfold pnC
    split
    · next hq => exact pnR_le2 ih n (fun s hs => h _ _ s hq (Nat.mod_lt _ h0) hs)
    · exact ih
theorem panes_eq {f : Nat → Int32} {n wd : Nat} (h0 : 0 < wd) : px1 f n wd n = pnC f n wd (wd * wd) := by
  refine Nat.le_antisymm ?_ ?_
  · refine px1_le n (fun s k j i _ hk hi hc => ?_)
    have h1 := (rr_iff hk).mp hc
    have h2 := pnC_ge (f := f) (n := n) (wd := wd) (a := j) (b := j + i) (s := s) (by omega) hi (by omega) (wd * wd) (by
      have := Nat.mul_le_mul (Nat.le_refl wd) (show j + 1 ≤ wd by omega)
      rw [Nat.mul_add, Nat.mul_one] at this; omega)
    rw [show j + i - j + 1 = i + 1 by omega] at h2
    exact Nat.le_trans (Nat.mul_le_mul h1 (Nat.le_refl _)) h2
  · refine pnC_le2 (fun a b s hab hb hs => ?_) h0 _
    have ht := tallN_le f n a b s
    cases hh : tallN f n a b s with
    | zero => rw [Nat.zero_mul]; exact Nat.zero_le _
    | succ k =>
      have hk : s + k < n := by
        have : tallN f n a b s ≤ n - s := runS_le _ _ _
        omega
      have := px1_ge (f := f) (n := n) (wd := wd) (s := s) (k := k) (j := a) (i := b - a) hk (by omega) (by rw [show a + (b - a) = b by omega]; exact (rr_iff hk).mpr (by omega)) n (by omega)
      exact this
theorem px1_b {f : Nat → Int32} {n wd t : Nat} (hn : n ≤ 6) (hw : wd ≤ 6) (ht : t ≤ n) : px1 f n wd t ≤ 36 := px1_le t (fun s k j i _ hk hi _ => Nat.mul_le_mul (show k + 1 ≤ 6 by omega) (show i + 1 ≤ 6 by omega))
theorem px2_b {f : Nat → Int32} {n wd t m : Nat} (hn : n ≤ 6) (hw : wd ≤ 6) (ht : t < n) (hm : m ≤ n - t) : px2 f wd t (px1 f n wd t) m ≤ 36 := px2_le m (px1_b hn hw (by omega)) (fun k j i hk hi _ => Nat.mul_le_mul (show k + 1 ≤ 6 by omega) (show i + 1 ≤ 6 by omega))
theorem px3_b {f : Nat → Int32} {n wd t m l : Nat} (hn : n ≤ 6) (hw : wd ≤ 6) (ht : t + m < n) (hl : l ≤ wd) : px3 f t (t + m) wd (px2 f wd t (px1 f n wd t) m) l ≤ 36 := px3_le l (px2_b hn hw (by omega) (by omega)) (fun j i hj hi _ => Nat.mul_le_mul (show t + m - t + 1 ≤ 6 by omega) (show i + 1 ≤ 6 by omega))
theorem px4_b {f : Nat → Int32} {n wd t m l k : Nat} (hn : n ≤ 6) (hw : wd ≤ 6) (ht : t + m < n) (hl : l < wd) (hk : k ≤ wd - l) : px4 f t (t + m) l (px3 f t (t + m) wd (px2 f wd t (px1 f n wd t) m) l) k ≤ 36 := px4_le k (px3_b hn hw ht (by omega)) (fun i hi _ => Nat.mul_le_mul (show t + m - t + 1 ≤ 6 by omega) (show i + 1 ≤ 6 by omega))
