set_option maxRecDepth 100000
theorem mS_A2 (u : MS) (k k2 i : Nat) (f g : Nat → Int32) (x : Int32) (h : k ≠ k2) : mA (mS (mS u k f) k2 g) k i x = mS (mS u k (upd f i x)) k2 g := by
  refine Prod.ext rfl (Prod.ext ?_ rfl)
  funext j
  by_cases e : j = k
  · subst e; simp [mA, mS, upd2, h]
  · by_cases e2 : j = k2
    · subst e2; simp [mA, mS, upd2, e]
    · simp [mA, mS, upd2, e, e2]
theorem mS_S (u : MS) (k : Nat) (f g : Nat → Int32) : mS (mS u k f) k g = mS u k g := by
  refine Prod.ext rfl (Prod.ext ?_ rfl)
  funext j
  by_cases e : j = k
  · subst e; simp [mS]
  · simp [mS, e]
def swapsI (f : Nat → Int32) (tp n k : Int32) : Int32 := if swapsG tp n k = true then (if k = 1 then nI (mwF (bothB f (ix n)) (ix n) (2 ^ ix n - 1)) else twC (bothB f (ix n)) (ix n)) else -1
theorem pow_le8 {n : Nat} (h : n ≤ 8) : 2 ^ n ≤ 256 := Nat.pow_le_pow_right (n := 2) (by decide) h
theorem mwF_n (c : Nat → Nat → Bool) {n s : Nat} (hn : n ≤ 8) (hs : s < 2 ^ n) : mwF c n s ≤ 257 := by
  have := mwF_le c n s; have := pow_le8 hn; omega
theorem mwI_n {c : Nat → Nat → Bool} {n s a r m : Nat} (hn : n ≤ 8) (hs : s < 2 ^ n) (hr : r ≤ s) : mwI c (mwF c n) a r m ≤ 258 := mwI_le (fun q hq => mwF_n c hn (by omega)) m
theorem upd_s (g : Nat → Int32) (i : Nat) (x : Int32) : upd g i x i = x := if_pos rfl
theorem upd_n {g : Nat → Int32} {i j : Nat} (x : Int32) (h : j ≠ i) : upd g i x j = g j := if_neg h
theorem rd_b {f : Nat → Int32} {n : Nat} {s t : Nat} (hn : n ≤ 8) (hs : s < 2 ^ n) (m : Nat) : slI f n (slF f n) s m ≤ 65535 := by
  have h := slI_b (f := f) (n := n) (g := slF f n) (s := s) (M := 65280) m (fun t _ _ => slF_b f _ (pow_le8 hn))
  omega
/-- who gets which turn: turn by turn, the least that is still best -/
def pickN (f : Nat → Int32) (n p s : Nat) : Nat → Nat → Nat
  | 0, t => t
  | m + 1, t => if s.testBit t = true ∨ ¬ worN f n p t + slF f n (s ||| 2 ^ t) = slF f n s then pickN f n p s m (t + 1) else t
def picksN (f : Nat → Int32) (n : Nat) : Nat → Nat
  | 0 => 0
  | p + 1 => picksN f n p ||| 2 ^ pickN f n p (picksN f n p) n 0
theorem pickN_spec {f : Nat → Int32} {n p s : Nat} : ∀ m t, (∃ j, t ≤ j ∧ j < t + m ∧ s.testBit j = false ∧ worN f n p j + slF f n (s ||| 2 ^ j) = slF f n s) → (s.testBit (pickN f n p s m t) = false ∧ worN f n p (pickN f n p s m t) + slF f n (s ||| 2 ^ pickN f n p s m t) = slF f n s) ∧ t ≤ pickN f n p s m t ∧ pickN f n p s m t < t + m ∧ ∀ i, t ≤ i → i < pickN f n p s m t → (s.testBit i = true ∨ ¬ worN f n p i + slF f n (s ||| 2 ^ i) = slF f n s) := by
  intro m
  induction m with
  | zero => intro t ⟨j, h1, h2, _⟩; omega
  | succ m ih =>
    intro t ⟨j, h1, h2, h3, h4⟩
    unfold pickN
    by_cases h : s.testBit t = true ∨ ¬ worN f n p t + slF f n (s ||| 2 ^ t) = slF f n s
    · rw [if_pos h]
      have hj : j ≠ t := by
        intro e; subst e
        rcases h with q | q
        · rw [h3] at q; cases q
        · exact q h4
      obtain ⟨q1, q2, q3, q4⟩ := ih (t + 1) ⟨j, by omega, by omega, h3, h4⟩
      refine ⟨q1, by omega, by omega, fun i a b => ?_⟩
      by_cases e : i = t
      · subst e; exact h
      · exact q4 i (by omega) b
    · rw [if_neg h]
      refine ⟨⟨?_, ?_⟩, Nat.le_refl _, by omega, fun i a b => by omega⟩
      · cases e : s.testBit t
        · rfl
        · exact absurd (Or.inl e) h
      · by_cases e : worN f n p t + slF f n (s ||| 2 ^ t) = slF f n s
        · exact e
        · exact absurd (Or.inr e) h
theorem cntN_0 : cntN 0 = 0 := by decide
theorem some_free {s n : Nat} (hn : n ≤ 16) (hs : s < 2 ^ n) (hc : cntN s < n) : ∃ t, t < n ∧ s.testBit t = false := by
  by_cases q : ∃ t, t < n ∧ s.testBit t = false
  · exact q
  · exfalso
    have hh : ∀ k, k ≤ n → cnN s k = k := by
      intro k
      induction k with
      | zero => intro _; rfl
      | succ k ih =>
        intro hk
        unfold cnN
        rw [ih (by omega), if_pos (by cases w : s.testBit k; exact absurd ⟨k, by omega, w⟩ q; rfl)]
    have := hh n (Nat.le_refl _)
    unfold cntN at hc
    rw [cnN_pad hs 16 hn] at hc
    omega
theorem picks_ok {f : Nat → Int32} {n : Nat} (hn : n ≤ 8) : ∀ p, p ≤ n → picksN f n p < 2 ^ n ∧ cntN (picksN f n p) = p := by
  intro p
  induction p with
  | zero => intro _; exact ⟨Nat.two_pow_pos n, cntN_0⟩
  | succ p ih =>
    intro hp
    obtain ⟨h1, h2⟩ := ih (by omega)
    obtain ⟨t, a, b⟩ := some_free (by omega) h1 (by omega)
    have hg := slI_get (f := f) (n := n) (g := slF f n) n ⟨t, a, b⟩
    rw [← slF_eq h1, h2] at hg
    obtain ⟨j, j1, j2, j3⟩ := hg
    obtain ⟨⟨q1, q2⟩, q3, q4, q5⟩ := pickN_spec (f := f) (n := n) (p := p) (s := picksN f n p) n 0 ⟨j, by omega, by omega, j2, j3⟩
    refine ⟨or_lt h1 (by omega), ?_⟩
    show cntN (picksN f n p ||| _) = _
    rw [cntN_or q1 (by omega), h2]
theorem pick_ex {f : Nat → Int32} {n p : Nat} (hn : n ≤ 8) (hp : p < n) : ∃ j, j < n ∧ (picksN f n p).testBit j = false ∧ worN f n p j + slF f n (picksN f n p ||| 2 ^ j) = slF f n (picksN f n p) := by
  obtain ⟨h1, h2⟩ := picks_ok (f := f) hn p (by omega)
  obtain ⟨t, a, b⟩ := some_free (by omega) h1 (by omega)
  have hg := slI_get (f := f) (n := n) (g := slF f n) n ⟨t, a, b⟩
  rw [← slF_eq h1, h2] at hg
  exact hg
def saleG (tp n k : Int32) : Bool := inB n 2 8 && ((inB k 0 (n - 1) || decide (k = 100)) && !decide (tp < n * n))
def whoN (f : Nat → Int32) (n : Nat) (k : Int32) : Nat → Nat → Int32
  | 0, _ => -1
  | m + 1, p => if nI (pickN f n p (picksN f n p) n 0) = k then nI p else whoN f n k m (p + 1)
def saleI (f : Nat → Int32) (tp n k : Int32) : Int32 := if saleG tp n k = true then (if k = 100 then nI (slF f (ix n) 0) else whoN f (ix n) k (ix n) 0) else -1
theorem mwI_s (c : Nat → Nat → Bool) (g : Nat → Nat) (a r b : Nat) : mwI c g a r (b + 1) = if r.testBit b = true ∧ c a b = true then max (mwI c g a r b) (1 + g (clrB r b)) else mwI c g a r b := rfl
theorem slI_s (f : Nat → Int32) (n : Nat) (g : Nat → Nat) (s t : Nat) : slI f n g s (t + 1) = if s.testBit t = true then slI f n g s t else max (slI f n g s t) (worN f n (cntN s) t + g (s ||| 2 ^ t)) := rfl
theorem mwI_u1 {c : Nat → Nat → Bool} {g : Nat → Nat} {a r b : Nat} (h : r.testBit b = false) : mwI c g a r (b + 1) = mwI c g a r b := by rw [mwI_s, h]; simp
theorem mwI_u2 {c : Nat → Nat → Bool} {g : Nat → Nat} {a r b : Nat} (h : c a b = false) : mwI c g a r (b + 1) = mwI c g a r b := by rw [mwI_s, h]; simp
theorem mwI_p {c : Nat → Nat → Bool} {g : Nat → Nat} {a r b : Nat} (h : r.testBit b = true) (h2 : c a b = true) : mwI c g a r (b + 1) = max (mwI c g a r b) (1 + g (clrB r b)) := by rw [mwI_s, if_pos ⟨h, h2⟩]
theorem slI_u {f : Nat → Int32} {n : Nat} {g : Nat → Nat} {s t : Nat} (h : s.testBit t = true) : slI f n g s (t + 1) = slI f n g s t := by rw [slI_s, if_pos h]
theorem slI_p {f : Nat → Int32} {n : Nat} {g : Nat → Nat} {s t : Nat} (h : s.testBit t = false) : slI f n g s (t + 1) = max (slI f n g s t) (worN f n (cntN s) t + g (s ||| 2 ^ t)) := by rw [slI_s, h]; rfl
theorem whoN_t {f : Nat → Int32} {n : Nat} {k : Int32} {p : Nat} (hp : p < n) (h : nI (pickN f n p (picksN f n p) n 0) = k) : whoN f n k (n - p) p = nI p := by
  obtain ⟨m, hm⟩ : ∃ m, n - p = m + 1 := ⟨n - p - 1, by omega⟩
  rw [hm]; show (if _ = k then nI p else _) = _; rw [if_pos h]
theorem whoN_f {f : Nat → Int32} {n : Nat} {k : Int32} {p : Nat} (hp : p < n) (h : ¬ nI (pickN f n p (picksN f n p) n 0) = k) : whoN f n k (n - p) p = whoN f n k (n - (p + 1)) (p + 1) := by
  obtain ⟨m, hm⟩ : ∃ m, n - p = m + 1 := ⟨n - p - 1, by omega⟩
  have h2 : n - (p + 1) = m := by omega
  rw [hm, h2]; show (if _ = k then nI p else _) = _; rw [if_neg h]
