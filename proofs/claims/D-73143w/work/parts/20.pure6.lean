set_option maxRecDepth 100000
/-! sets of a few as Nat: swaps at once, sales -/
theorem shl1 (n : Nat) (hn : n < 32) : (1 : Int32) <<< (nI n &&& 31) = nI (2 ^ n) := by
  refine b_ext (fun i hi => ?_)
  rw [show (1 : Int32) <<< (nI n &&& 31) = bitI n from rfl, bt_bitI hn hi, bt_nI hi, Nat.testBit_two_pow]
  by_cases h : i = n
  · subst h; simp
  · have : ¬ n = i := fun e => h e.symm
    simp [h, this]
theorem nI_or (a b : Nat) : nI a ||| nI b = nI (a ||| b) := by
  refine b_ext (fun i hi => ?_)
  rw [b_or, bt_nI hi, bt_nI hi, bt_nI hi, Nat.testBit_or]
theorem nI_and (a b : Nat) : nI a &&& nI b = nI (a &&& b) := by
  refine b_ext (fun i hi => ?_)
  rw [b_and, bt_nI hi, bt_nI hi, bt_nI hi, Nat.testBit_and]
theorem lt_bits {x y : Nat} (i : Nat) (hx : x.testBit i = false) (hy : y.testBit i = true) (h : ∀ j, i < j → x.testBit j = y.testBit j) : x < y := by
  have e : x / 2 ^ i / 2 = y / 2 ^ i / 2 := by
    rw [Nat.div_div_eq_div_mul, Nat.div_div_eq_div_mul, ← Nat.pow_succ]
    refine Nat.eq_of_testBit_eq (fun j => ?_)
    rw [Nat.testBit_div_two_pow, Nat.testBit_div_two_pow]
    exact h _ (by omega)
  rw [Nat.testBit_eq_decide_div_mod_eq] at hx hy
  have h1 : x / 2 ^ i % 2 ≠ 1 := by simpa using hx
  have h2 : y / 2 ^ i % 2 = 1 := by simpa using hy
  have h3 : x / 2 ^ i < y / 2 ^ i := by omega
  rcases Nat.lt_or_ge x y with q | q
  · exact q
  · have := Nat.div_le_div_right (c := 2 ^ i) q; omega
def clrB (s a : Nat) : Nat := s ^^^ (if s.testBit a = true then 2 ^ a else 0)
theorem clrB_bit (s a i : Nat) : (clrB s a).testBit i = (s.testBit i && !decide (i = a)) := by
  unfold clrB
  rw [Nat.testBit_xor]
  by_cases h : s.testBit a = true
  · rw [if_pos h, Nat.testBit_two_pow]
    by_cases e : i = a
    · subst e; simp [h]
    · have : ¬ a = i := fun q => e q.symm
      simp [e, this]
  · rw [if_neg h]
    by_cases e : i = a
    · subst e; simp [h]
    · simp [e]
theorem clrB_lt {s a : Nat} (h : s.testBit a = true) : clrB s a < s := by
  refine lt_bits a ?_ h (fun j hj => ?_)
  · rw [clrB_bit]; simp
  · rw [clrB_bit]; have : ¬ j = a := by omega
    simp [this]
theorem clrB_same {s a : Nat} (h : s.testBit a = false) : clrB s a = s := by
  unfold clrB; rw [h]; simp
theorem clrB_le (s a : Nat) : clrB s a ≤ s := by
  cases h : s.testBit a
  · rw [clrB_same h]; exact Nat.le_refl _
  · exact Nat.le_of_lt (clrB_lt h)
theorem andnot {a : Nat} (s : Nat) (ha : a < 32) : nI s &&& (((1 : Int32) <<< (nI a &&& 31)) ^^^ (-1)) = nI (clrB s a) := by
  refine b_ext (fun i hi => ?_)
  rw [b_and, b_xor, b_m1 i hi, bt_nI hi, bt_nI hi, clrB_bit, show (1 : Int32) <<< (nI a &&& 31) = bitI a from rfl, bt_bitI ha hi]
  simp
def lowF (s : Nat) : Nat → Nat → Nat
  | 0, k => k
  | m + 1, k => if s.testBit k = true then k else lowF s m (k + 1)
def lowN (s : Nat) : Nat := lowF s 16 0
theorem lowF_spec (s : Nat) : ∀ m k, (∃ j, k ≤ j ∧ j < k + m ∧ s.testBit j = true) → s.testBit (lowF s m k) = true ∧ lowF s m k < k + m ∧ k ≤ lowF s m k ∧ ∀ i, k ≤ i → i < lowF s m k → s.testBit i = false := by
  intro m
  induction m with
  | zero => intro k ⟨j, h1, h2, _⟩; omega
  | succ m ih =>
    intro k ⟨j, h1, h2, h3⟩
    unfold lowF
    by_cases h : s.testBit k = true
    · rw [if_pos h]; exact ⟨h, by omega, by omega, fun i a b => by omega⟩
    · rw [if_neg h]
      have hj : j ≠ k := fun e => h (e ▸ h3)
      obtain ⟨q1, q2, q3, q4⟩ := ih (k + 1) ⟨j, by omega, by omega, h3⟩
      refine ⟨q1, by omega, by omega, fun i a b => ?_⟩
      by_cases e : i = k
      · subst e; exact Bool.eq_false_iff.mpr h
      · exact q4 i (by omega) b
theorem bit_of_pos {s : Nat} (h0 : s ≠ 0) (h : s < 2 ^ 16) : ∃ j, j < 16 ∧ s.testBit j = true := by
  by_cases q : ∃ j, j < 16 ∧ s.testBit j = true
  · exact q
  · refine absurd (Nat.eq_of_testBit_eq (fun i => ?_)) h0
    rw [Nat.zero_testBit]
    by_cases hi : i < 16
    · cases e : s.testBit i
      · rfl
      · exact absurd ⟨i, hi, e⟩ q
    · exact Nat.testBit_lt_two_pow (Nat.lt_of_lt_of_le h (Nat.pow_le_pow_right (by decide) (by omega)))
theorem lowN_spec {s : Nat} (h0 : s ≠ 0) (h : s < 2 ^ 16) : s.testBit (lowN s) = true ∧ lowN s < 16 ∧ ∀ i, i < lowN s → s.testBit i = false := by
  obtain ⟨j, hj, e⟩ := bit_of_pos h0 h
  obtain ⟨a, b, _, d⟩ := lowF_spec s 16 0 ⟨j, by omega, by omega, e⟩
  exact ⟨a, by unfold lowN; omega, fun i hi => d i (by omega) hi⟩
theorem bit_lt {s a n : Nat} (h : s.testBit a = true) (hs : s < 2 ^ n) : a < n := by
  rcases Nat.lt_or_ge a n with q | q
  · exact q
  · rw [Nat.testBit_lt_two_pow (Nat.lt_of_lt_of_le hs (Nat.pow_le_pow_right (by decide) q))] at h; cases h
/-- the most swaps at once -/
def mwI (c : Nat → Nat → Bool) (g : Nat → Nat) (a r : Nat) : Nat → Nat
  | 0 => g r
  | b + 1 => if r.testBit b = true ∧ c a b = true then max (mwI c g a r b) (1 + g (clrB r b)) else mwI c g a r b
def mwD (c : Nat → Nat → Bool) (n : Nat) : Nat → Nat → Nat
  | 0, _ => 0
  | d + 1, s => if s = 0 then 0 else mwI c (mwD c n d) (lowN s) (clrB s (lowN s)) n
def mwF (c : Nat → Nat → Bool) (n s : Nat) : Nat := mwD c n (s + 1) s
theorem mwI_congr {c : Nat → Nat → Bool} {g g' : Nat → Nat} {a r : Nat} (h : ∀ q, q ≤ r → g q = g' q) : ∀ m, mwI c g a r m = mwI c g' a r m := by
  intro m
  induction m with
  | zero => exact h r (Nat.le_refl _)
  | succ m ih => unfold mwI; rw [ih, h _ (clrB_le r m)]
theorem mwD_stable {c : Nat → Nat → Bool} {n : Nat} : ∀ (s d d' : Nat), s < 2 ^ 16 → s < d → s < d' → mwD c n d s = mwD c n d' s := by
  intro s
  induction s using Nat.strongRecOn with
  | ind s ih =>
    intro d d' hs hd hd'
    obtain ⟨d, rfl⟩ : ∃ q, d = q + 1 := ⟨d - 1, by omega⟩
    obtain ⟨d', rfl⟩ : ∃ q, d' = q + 1 := ⟨d' - 1, by omega⟩
    unfold mwD
    by_cases h0 : s = 0
    · rw [if_pos h0, if_pos h0]
    · rw [if_neg h0, if_neg h0]
      have hl := clrB_lt (lowN_spec h0 hs).1
      exact mwI_congr (fun q hq => ih q (by omega) d d' (by omega) (by omega) (by omega)) n
theorem mwF_eq {c : Nat → Nat → Bool} {n s : Nat} (h0 : s ≠ 0) (hs : s < 2 ^ 16) : mwF c n s = mwI c (mwF c n) (lowN s) (clrB s (lowN s)) n := by
  show (if s = 0 then 0 else mwI c (mwD c n s) (lowN s) (clrB s (lowN s)) n) = _
  rw [if_neg h0]
  have hl := clrB_lt (lowN_spec h0 hs).1
  exact mwI_congr (fun q hq => mwD_stable q s (q + 1) (by omega) (by omega) (by omega)) n
theorem mwF_0 (c : Nat → Nat → Bool) (n : Nat) : mwF c n 0 = 0 := rfl
theorem mwI_le {c : Nat → Nat → Bool} {g : Nat → Nat} {a r M : Nat} (h : ∀ q, q ≤ r → g q ≤ M) : ∀ m, mwI c g a r m ≤ M + 1 := by
  intro m
  induction m with
  | zero => have := h r (Nat.le_refl _); exact Nat.le_succ_of_le this
  | succ m ih =>
    unfold mwI
    have := h _ (clrB_le r m)
    split <;> omega
theorem mwD_le (c : Nat → Nat → Bool) (n : Nat) : ∀ d s, mwD c n d s ≤ d := by
  intro d
  induction d with
  | zero => intro s; exact Nat.le_refl _
  | succ d ih =>
    intro s
    unfold mwD
    split
    · omega
    · exact mwI_le (fun q _ => ih q) n
theorem mwF_le (c : Nat → Nat → Bool) (n s : Nat) : mwF c n s ≤ s + 1 := mwD_le c n (s + 1) s
/-- how many are in a set -/
def cnN (s : Nat) : Nat → Nat
  | 0 => 0
  | k + 1 => cnN s k + (if s.testBit k = true then 1 else 0)
def cntN (s : Nat) : Nat := cnN s 16
theorem cnN_le (s k : Nat) : cnN s k ≤ k := by
  induction k with
  | zero => exact Nat.le_refl _
  | succ k ih => unfold cnN; split <;> omega
theorem bitsI_nI (s : Nat) : bitsI (nI s) = nI (cntN s) := by
  have h : ∀ k, k ≤ 16 → bitsN (nI s) k = nI (cnN s k) := by
    intro k
    induction k with
    | zero => intro _; rfl
    | succ k ih =>
      intro hk
      unfold bitsN cnN
      rw [ih (by omega), and1_bt, b_sshr k (by omega) (nI s) (i := 0) (by omega), if_pos (by omega : k + 0 < 32)]
      rw [show bt (nI s) (k + 0) = s.testBit k from bt_nI (by omega)]
      by_cases e : s.testBit k = true
      · rw [if_pos e, if_pos e]; exact nI_1 _
      · rw [if_neg e, if_neg e]; simp
  exact h 16 (Nat.le_refl _)
theorem cnN_pad {s n : Nat} (hs : s < 2 ^ n) : ∀ k, n ≤ k → cnN s k = cnN s n := by
  intro k
  induction k with
  | zero => intro h; have : n = 0 := by omega
            subst this; rfl
  | succ k ih =>
    intro h
    by_cases e : n = k + 1
    · subst e; rfl
    · show cnN s k + _ = _
      rw [ih (by omega), if_neg (by rw [Nat.testBit_lt_two_pow (Nat.lt_of_lt_of_le hs (Nat.pow_le_pow_right (by decide) (by omega)))]; decide)]
      omega
theorem cnN_miss {s t : Nat} (h : s.testBit t = false) : ∀ n, t < n → cnN s n < n := by
  intro n
  induction n with
  | zero => intro q; omega
  | succ n ih =>
    intro q
    have := cnN_le s n
    by_cases e : t = n
    · subst e; show cnN s t + _ < _; rw [if_neg (by rw [h]; decide)]; omega
    · have := ih (by omega)
      show cnN s n + _ < _
      split <;> omega
theorem cntN_miss {s t n : Nat} (hn : n ≤ 16) (hs : s < 2 ^ n) (ht : t < n) (h : s.testBit t = false) : cntN s < n := by
  unfold cntN; rw [cnN_pad hs 16 hn]; exact cnN_miss h n ht
theorem or_bit (s t i : Nat) : (s ||| 2 ^ t).testBit i = (s.testBit i || decide (i = t)) := by
  rw [Nat.testBit_or, Nat.testBit_two_pow]
  by_cases e : i = t
  · subst e; simp
  · have : ¬ t = i := fun q => e q.symm
    simp [e, this]
theorem or_gt {s t : Nat} (h : s.testBit t = false) : s < s ||| 2 ^ t := by
  refine lt_bits t h (by rw [or_bit]; simp) (fun j hj => ?_)
  rw [or_bit]; have : ¬ j = t := by omega
  simp [this]
theorem or_lt {s t n : Nat} (hs : s < 2 ^ n) (ht : t < n) : s ||| 2 ^ t < 2 ^ n := Nat.or_lt_two_pow hs (Nat.pow_lt_pow_right (by decide) ht)
theorem cntN_or {s t : Nat} (h : s.testBit t = false) (ht : t < 16) : cntN (s ||| 2 ^ t) = cntN s + 1 := by
  have hh : ∀ k, cnN (s ||| 2 ^ t) k = cnN s k + (if t < k then 1 else 0) := by
    intro k
    induction k with
    | zero => rfl
    | succ k ih =>
      unfold cnN
      rw [ih, or_bit]
      by_cases e : k = t
      · subst e; simp [h]
      · by_cases q : t < k
        · have : t < k + 1 := by omega
          simp [e, q, this]; omega
        · have : ¬ t < k + 1 := by omega
          simp [e, q, this]
  unfold cntN; rw [hh, if_pos ht]
/-- a sale: what the others can have when these turns are gone -/
def slI (f : Nat → Int32) (n : Nat) (g : Nat → Nat) (s : Nat) : Nat → Nat
  | 0 => 0
  | t + 1 => if s.testBit t = true then slI f n g s t else max (slI f n g s t) (worN f n (cntN s) t + g (s ||| 2 ^ t))
def slD (f : Nat → Int32) (n : Nat) : Nat → Nat → Nat
  | 0, _ => 0
  | d + 1, s => slI f n (slD f n d) s n
def slF (f : Nat → Int32) (n s : Nat) : Nat := slD f n (2 ^ n - s) s
theorem slI_congr {f : Nat → Int32} {n : Nat} {g g' : Nat → Nat} {s : Nat} : ∀ m, (∀ t, t < m → s.testBit t = false → g (s ||| 2 ^ t) = g' (s ||| 2 ^ t)) → slI f n g s m = slI f n g' s m := by
  intro m
  induction m with
  | zero => intro _; rfl
  | succ m ih =>
    intro h
    unfold slI
    rw [ih (fun t ht q => h t (by omega) q)]
    by_cases e : s.testBit m = true
    · rw [if_pos e, if_pos e]
    · rw [if_neg e, if_neg e, h m (by omega) (Bool.eq_false_iff.mpr e)]
theorem slD_stable {f : Nat → Int32} {n : Nat} : ∀ (m s d d' : Nat), 2 ^ n - s = m → s < 2 ^ n → 2 ^ n - s ≤ d → 2 ^ n - s ≤ d' → slD f n d s = slD f n d' s := by
  intro m
  induction m using Nat.strongRecOn with
  | ind m ih =>
    intro s d d' hm hs hd hd'
    obtain ⟨d, rfl⟩ : ∃ q, d = q + 1 := ⟨d - 1, by omega⟩
    obtain ⟨d', rfl⟩ : ∃ q, d' = q + 1 := ⟨d' - 1, by omega⟩
    refine slI_congr n (fun t ht q => ?_)
    have h1 := or_gt q
    have h2 := or_lt hs ht
    exact ih (2 ^ n - (s ||| 2 ^ t)) (by omega) _ d d' rfl h2 (by omega) (by omega)
theorem slF_eq {f : Nat → Int32} {n s : Nat} (hs : s < 2 ^ n) : slF f n s = slI f n (slF f n) s n := by
  unfold slF
  obtain ⟨d, hd⟩ : ∃ d, 2 ^ n - s = d + 1 := ⟨2 ^ n - s - 1, by omega⟩
  rw [hd]
  refine slI_congr n (fun t ht q => ?_)
  have h1 := or_gt q
  have h2 := or_lt hs ht
  exact slD_stable _ _ d _ rfl h2 (by omega) (Nat.le_refl _)
theorem slI_b {f : Nat → Int32} {n : Nat} {g : Nat → Nat} {s M : Nat} : ∀ m, (∀ t, t < m → s.testBit t = false → g (s ||| 2 ^ t) ≤ M) → slI f n g s m ≤ M + 255 := by
  intro m
  induction m with
  | zero => intro _; exact Nat.zero_le _
  | succ m ih =>
    intro h
    unfold slI
    have h1 := ih (fun t ht q => h t (by omega) q)
    by_cases e : s.testBit m = true
    · rw [if_pos e]; exact h1
    · rw [if_neg e]
      have h2 := h m (by omega) (Bool.eq_false_iff.mpr e)
      have h3 : worN f n (cntN s) m < 256 := ocN_lt _ _
      omega
theorem slD_b (f : Nat → Int32) (n : Nat) : ∀ d s, slD f n d s ≤ 255 * d := by
  intro d
  induction d with
  | zero => intro s; exact Nat.le_refl _
  | succ d ih => intro s; have := slI_b (f := f) (n := n) (g := slD f n d) (s := s) (M := 255 * d) n (fun t _ _ => ih _); show slI _ _ _ _ _ ≤ _; omega
theorem slF_b (f : Nat → Int32) {n : Nat} (s : Nat) (hn : 2 ^ n ≤ 256) : slF f n s ≤ 65280 := by
  have := slD_b f n (2 ^ n - s) s; unfold slF; omega
theorem slI_get {f : Nat → Int32} {n : Nat} {g : Nat → Nat} {s : Nat} : ∀ m, (∃ t, t < m ∧ s.testBit t = false) → ∃ t, t < m ∧ s.testBit t = false ∧ worN f n (cntN s) t + g (s ||| 2 ^ t) = slI f n g s m := by
  intro m
  induction m with
  | zero => intro ⟨t, h, _⟩; omega
  | succ m ih =>
    intro ⟨t, h1, h2⟩
    unfold slI
    by_cases e : s.testBit m = true
    · rw [if_pos e]
      have ht : t < m := by
        rcases Nat.lt_or_ge t m with q | q
        · exact q
        · have : t = m := by omega
          subst this; rw [h2] at e; cases e
      obtain ⟨t', a, b, d⟩ := ih ⟨t, ht, h2⟩
      exact ⟨t', by omega, b, d⟩
    · rw [if_neg e]
      by_cases q : ∃ t, t < m ∧ s.testBit t = false
      · obtain ⟨t', a, b, d⟩ := ih q
        by_cases le : slI f n g s m ≤ worN f n (cntN s) m + g (s ||| 2 ^ m)
        · exact ⟨m, by omega, Bool.eq_false_iff.mpr e, by omega⟩
        · exact ⟨t', by omega, b, by omega⟩
      · have hz : ∀ k, k ≤ m → slI f n g s k = 0 := by
          intro k
          induction k with
          | zero => intro _; rfl
          | succ k ih2 =>
            intro hk
            unfold slI
            rw [if_pos (by cases w : s.testBit k; exact absurd ⟨k, by omega, w⟩ q; rfl)]
            exact ih2 (by omega)
        exact ⟨m, by omega, Bool.eq_false_iff.mpr e, by rw [hz m (Nat.le_refl _)]; omega⟩
