set_option maxRecDepth 100000
/-! the reference's machine for conditions: true: it expects a piece; false: a piece is read, its nots closed -/
def enP : List Nat → List Nat → Nat → List Nat × List Nat × Nat
  | cs, [], op => (cs, [], op)
  | cs, x :: ws, op => if x / UN = 10 then enP (cs ++ [UN * 10]) ws (op - 1) else (cs, x :: ws, op)
def lnB (al : Bool) (x : Nat) : Bool := decide (x / UN = 11) || (al && decide (x / UN = 12))
def lnS (cs : List Nat) (x : Nat) : List Nat := cs.set (x % UN) (UN * (cs[x % UN]?.getD 0 / UN) + cs.length)
def lnd (al : Bool) : List Nat → List Nat → List Nat × List Nat
  | cs, [] => (cs, [])
  | cs, x :: ws => if lnB al x = true then lnd al (lnS cs x) ws else (cs, x :: ws)
/-- two sums compared -/
def cmpW (f : Nat → Int32) (n : Nat) (cs ws : List Nat) (op p : Nat) : MR := bW (sumE f n op p) fun x => match cmpN (ckN f n x.2) with
  | some s => bW (sumE f n op (x.2 + 1)) fun y => .inr ((enP (cs ++ (x.1.1 ++ y.1.1 ++ [UN * s])) ws op).1, (enP (cs ++ (x.1.1 ++ y.1.1 ++ [UN * s])) ws op).2.1, (enP (cs ++ (x.1.1 ++ y.1.1 ++ [UN * s])) ws op).2.2, y.2)
  | none => .inl (1, x.2)
def opW (f : Nat → Int32) (n p : Nat) : Nat := if ckN f n p = 33 then 10 else 13
def mK (f : Nat → Int32) (n : Nat) : Nat → Bool → List Nat → List Nat → Nat → Nat → MR
  | 0, _, _, _, _, _ => .inl (0, 0)
  | k + 1, true, cs, ws, op, p =>
    if ckN f n p = 33 ∨ ckN f n p = 40 then (if op = 6 then .inl (5, p) else mK f n k true cs (UN * opW f n p :: ws) (op + 1) (p + 1))
    else bW (cmpW f n cs ws op p) fun s => mK f n k false s.1 s.2.1 s.2.2.1 s.2.2.2
  | k + 1, false, cs, ws, op, p =>
    if ckN f n p = 41 then
      (if (lnd true cs ws).2.tail = [] then .inr ((lnd true cs ws).1, [], op - 1, p + 1)
       else mK f n k false (enP (lnd true cs ws).1 (lnd true cs ws).2.tail (op - 1)).1 (enP (lnd true cs ws).1 (lnd true cs ws).2.tail (op - 1)).2.1 (enP (lnd true cs ws).1 (lnd true cs ws).2.tail (op - 1)).2.2 (p + 1))
    else if ckN f n p = 38 then mK f n k true ((lnd false cs ws).1 ++ [UN * 11]) ((UN * 11 + (lnd false cs ws).1.length) :: (lnd false cs ws).2) op (p + 1)
    else if ckN f n p = 124 then mK f n k true ((lnd true cs ws).1 ++ [UN * 12]) ((UN * 12 + (lnd true cs ws).1.length) :: (lnd true cs ws).2) op (p + 1)
    else .inl (1, p)
section MCEQ
variable {f : Nat → Int32} {n k op p : Nat} {cs ws : List Nat}
theorem mK_T : mK f n (k + 1) true cs ws op p = if ckN f n p = 33 ∨ ckN f n p = 40 then (if op = 6 then .inl (5, p) else mK f n k true cs (UN * opW f n p :: ws) (op + 1) (p + 1))
    else bW (cmpW f n cs ws op p) fun s => mK f n k false s.1 s.2.1 s.2.2.1 s.2.2.2 := rfl
theorem mK_F : mK f n (k + 1) false cs ws op p = if ckN f n p = 41 then
      (if (lnd true cs ws).2.tail = [] then .inr ((lnd true cs ws).1, [], op - 1, p + 1)
       else mK f n k false (enP (lnd true cs ws).1 (lnd true cs ws).2.tail (op - 1)).1 (enP (lnd true cs ws).1 (lnd true cs ws).2.tail (op - 1)).2.1 (enP (lnd true cs ws).1 (lnd true cs ws).2.tail (op - 1)).2.2 (p + 1))
    else if ckN f n p = 38 then mK f n k true ((lnd false cs ws).1 ++ [UN * 11]) ((UN * 11 + (lnd false cs ws).1.length) :: (lnd false cs ws).2) op (p + 1)
    else if ckN f n p = 124 then mK f n k true ((lnd true cs ws).1 ++ [UN * 12]) ((UN * 12 + (lnd true cs ws).1.length) :: (lnd true cs ws).2) op (p + 1)
    else .inl (1, p) := rfl
end MCEQ
/-- what the top waits for -/
def hdQ (q : Nat → Prop) (ws : List Nat) : Prop := ∀ x t, ws = x :: t → q (x / UN)
theorem hdQ_c {q : Nat → Prop} {x : Nat} {ws : List Nat} (h : q (x / UN)) : hdQ q (x :: ws) := fun y t e => by cases e; exact h
theorem hdQ_m {q q' : Nat → Prop} {ws : List Nat} (h : hdQ q ws) (hh : ∀ i, q i → q' i) : hdQ q' ws := fun x t e => hh _ (h x t e)
theorem enP_no {cs ws : List Nat} {op : Nat} (h : hdQ (fun i => ¬ i = 10) ws) : enP cs ws op = (cs, ws, op) := by
  cases ws with
  | nil => rfl
  | cons x t => exact if_neg (h x t rfl)
theorem enP_10 {cs ws : List Nat} {x op : Nat} (h : x / UN = 10) : enP cs (x :: ws) op = enP (cs ++ [UN * 10]) ws (op - 1) := if_pos h
theorem lnB_i {al : Bool} {x : Nat} : lnB al x = true ↔ (x / UN = 11 ∨ (al = true ∧ x / UN = 12)) := by
  unfold lnB
  rw [Bool.or_eq_true, Bool.and_eq_true, decide_eq_true_eq, decide_eq_true_eq]
theorem lnd_no {al : Bool} {cs ws : List Nat} (h : hdQ (fun i => ¬ i = 11 ∧ (al = true → ¬ i = 12)) ws) : lnd al cs ws = (cs, ws) := by
  cases ws with
  | nil => rfl
  | cons x t => exact if_neg (fun z => by
      have hx := h x t rfl
      rcases lnB_i.mp z with q | q
      · exact hx.1 q
      · exact hx.2 q.1 q.2)
theorem lnd_y {al : Bool} {x : Nat} {cs ws : List Nat} (h : lnB al x = true) : lnd al cs (x :: ws) = lnd al (lnS cs x) ws := if_pos h
theorem un_da {s j : Nat} (hj : j < UN) : (UN * s + j) / UN = s := by
  rw [Nat.mul_add_div (by decide), Nat.div_eq_of_lt hj, Nat.add_zero]
theorem un_ma {s j : Nat} (hj : j < UN) : (UN * s + j) % UN = j := by
  rw [Nat.mul_add_mod, Nat.mod_eq_of_lt hj]
theorem set_mid (x y : Nat) (B : List Nat) : ∀ A : List Nat, (A ++ x :: B).set A.length y = A ++ y :: B := by
  intro A
  induction A with
  | nil => rfl
  | cons a A ih => show a :: (A ++ x :: B).set A.length y = a :: (A ++ y :: B); rw [ih]
theorem get_mid (x : Nat) (B : List Nat) : ∀ A : List Nat, (A ++ x :: B)[A.length]? = some x := by
  intro A
  induction A with
  | nil => rfl
  | cons a A ih => show (A ++ x :: B)[A.length]? = some x; exact ih
theorem lnS_mid {A B : List Nat} {s : Nat} (hj : A.length < UN) : lnS (A ++ UN * s :: B) (UN * s + A.length) = A ++ (UN * s + (A.length + 1 + B.length)) :: B := by
  unfold lnS
  rw [un_ma hj, get_mid]
  show (A ++ UN * s :: B).set A.length (UN * (UN * s / UN) + (A ++ UN * s :: B).length) = _
  rw [un_div, set_mid, List.length_append, List.length_cons, show A.length + (B.length + 1) = A.length + 1 + B.length by omega]
section MCRUN
variable {f : Nat → Int32} {n k op p : Nat} {ws A B : List Nat}
theorem mK_l11 (hj : A.length < UN) : mK f n k false (A ++ UN * 11 :: B) ((UN * 11 + A.length) :: ws) op p = mK f n k false (A ++ (UN * 11 + (A.length + 1 + B.length)) :: B) ws op p := by
  have hs : ∀ al, lnd al (A ++ UN * 11 :: B) ((UN * 11 + A.length) :: ws) = lnd al (A ++ (UN * 11 + (A.length + 1 + B.length)) :: B) ws := fun al => by
    rw [lnd_y (lnB_i.mpr (Or.inl (un_da hj))), lnS_mid hj]
  cases k with
  | zero => rfl
  | succ k => rw [mK_F, mK_F, hs true, hs false]
theorem mK_l12 (hj : A.length < UN) (h38 : ¬ ckN f n p = 38) : mK f n k false (A ++ UN * 12 :: B) ((UN * 12 + A.length) :: ws) op p = mK f n k false (A ++ (UN * 12 + (A.length + 1 + B.length)) :: B) ws op p := by
  have hs : lnd true (A ++ UN * 12 :: B) ((UN * 12 + A.length) :: ws) = lnd true (A ++ (UN * 12 + (A.length + 1 + B.length)) :: B) ws := by
    rw [lnd_y (lnB_i.mpr (Or.inr ⟨rfl, un_da hj⟩)), lnS_mid hj]
  cases k with
  | zero => rfl
  | succ k => rw [mK_F, mK_F, hs, if_neg h38, if_neg h38]
end MCRUN
section RDCEQ
variable {f : Nat → Int32} {n k op p b : Nat} {a : CA}
theorem rdC_0 : rdC f n (k + 1) 0 op p b a = if ckN f n p = 33 then (if op = 6 then .inl (5, p) else bW (rdC f n k 0 (op + 1) (p + 1) b a) fun r => .inr ((r.1.1 ++ [UN * 10], fun F => (r.1.2 F).map (fun v => !v)), r.2))
    else if ckN f n p = 40 then rdC f n k 3 op p b a
    else bW (sumE f n op p) fun x => match cmpN (ckN f n x.2) with
      | some s => bW (sumE f n op (x.2 + 1)) fun y => .inr ((x.1.1 ++ y.1.1 ++ [UN * s], fun F => cmpS (nI (ckN f n x.2)) (x.1.2 F) (y.1.2 F)), y.2)
      | none => .inl (1, x.2) := rfl
theorem rdC_1 : rdC f n (k + 1) 1 op p b a = if ckN f n p = 38 then bW (rdC f n k 0 op (p + 1) (b + a.1.length + 1) a) (fun r => rdC f n k 1 op r.2 b (a.1 ++ [UN * 11 + (b + a.1.length + 1 + r.1.1.length)] ++ r.1.1, fun F => somS false (a.2 F) (r.1.2 F))) else .inr (a, p) := rfl
theorem rdC_2 : rdC f n (k + 1) 2 op p b a = if ckN f n p = 124 then bW (rdC f n k 0 op (p + 1) (b + a.1.length + 1) a) (fun r => bW (rdC f n k 1 op r.2 (b + a.1.length + 1) r.1) fun r2 => rdC f n k 2 op r2.2 b (a.1 ++ [UN * 12 + (b + a.1.length + 1 + r2.1.1.length)] ++ r2.1.1, fun F => somS true (a.2 F) (r2.1.2 F))) else .inr (a, p) := rfl
theorem rdC_3 : rdC f n (k + 1) 3 op p b a = if op = 6 then .inl (5, p) else bW (rdC f n k 0 (op + 1) (p + 1) b a) (fun r => bW (rdC f n k 1 (op + 1) r.2 b r.1) fun r1 => bW (rdC f n k 2 (op + 1) r1.2 b r1.1) fun r2 => if ckN f n r2.2 = 41 then .inr (r2.1, r2.2 + 1) else .inl (1, r2.2)) := rfl
end RDCEQ
theorem bW_r {α β : Type} {x : (Nat × Nat) ⊕ α} {k : α → (Nat × Nat) ⊕ β} {r : β} (h : bW x k = .inr r) : ∃ a, x = .inr a ∧ k a = .inr r := by
  cases x with
  | inl e => cases h
  | inr a => exact ⟨a, rfl, h⟩
theorem bW_l {α β : Type} {x : (Nat × Nat) ⊕ α} {k : α → (Nat × Nat) ⊕ β} {e : Nat × Nat} (h : bW x k = .inl e) : x = .inl e ∨ ∃ a, x = .inr a ∧ k a = .inl e := by
  cases x with
  | inl e1 => cases h; exact Or.inl rfl
  | inr a => exact Or.inr ⟨a, rfl, h⟩
theorem cmpN_lt {c s : Nat} (h : cmpN c = some s) : (s = 7 ∨ s = 8 ∨ s = 9) ∧ c < 256 := by
  unfold cmpN at h
  split at h
  · cases h; omega
  · split at h
    · cases h; omega
    · split at h
      · cases h; omega
      · cases h
theorem ckN_lt {f : Nat → Int32} {n p c : Nat} (h : ckN f n p = c) (hc : c < 256) : p < n := ckN_in hc h
/-- places and lengths -/
theorem rdC_b {f : Nat → Int32} {n : Nat} : ∀ k,
    (∀ op p b a r, p ≤ n → rdC f n k 0 op p b a = .inr r → p < r.2 ∧ r.2 ≤ n ∧ 1 ≤ r.1.1.length ∧ p + r.1.1.length ≤ r.2) ∧
    (∀ op p b a r, p ≤ n → rdC f n k 1 op p b a = .inr r → p ≤ r.2 ∧ r.2 ≤ n ∧ a.1.length ≤ r.1.1.length ∧ p + r.1.1.length ≤ r.2 + a.1.length ∧ ¬ ckN f n r.2 = 38) ∧
    (∀ op p b a r, p ≤ n → ¬ ckN f n p = 38 → rdC f n k 2 op p b a = .inr r → p ≤ r.2 ∧ r.2 ≤ n ∧ a.1.length ≤ r.1.1.length ∧ p + r.1.1.length ≤ r.2 + a.1.length ∧ ¬ ckN f n r.2 = 38 ∧ ¬ ckN f n r.2 = 124) ∧
    (∀ op p b a r, p < n → rdC f n k 3 op p b a = .inr r → p < r.2 ∧ r.2 ≤ n ∧ 1 ≤ r.1.1.length ∧ p + r.1.1.length ≤ r.2) := by
  intro k
  induction k with
  | zero => exact ⟨fun _ _ _ _ _ _ h => (by cases h), fun _ _ _ _ _ _ h => (by cases h), fun _ _ _ _ _ _ _ h => (by cases h), fun _ _ _ _ _ _ h => (by cases h)⟩
  | succ k ih =>
    obtain ⟨i0, i1, i2, i3⟩ := ih
    refine ⟨fun op p b a r hp h => ?_, fun op p b a r hp h => ?_, fun op p b a r hp h38 h => ?_, fun op p b a r hp h => ?_⟩
    · rw [rdC_0] at h
      by_cases h33 : ckN f n p = 33
      · have hpn := ckN_lt h33 (by decide)
        rw [if_pos h33] at h
        by_cases h6 : op = 6
        · rw [if_pos h6] at h; cases h
        · rw [if_neg h6] at h
          obtain ⟨r1, q1, q2⟩ := bW_r h
          have := i0 _ _ _ _ r1 (by omega) q1
          cases q2
          simp only [List.length_append, List.length_singleton]; omega
      · rw [if_neg h33] at h
        by_cases h40 : ckN f n p = 40
        · have hpn := ckN_lt h40 (by decide)
          rw [if_pos h40] at h
          exact i3 _ _ _ _ r hpn h
        · rw [if_neg h40] at h
          obtain ⟨x, q1, q2⟩ := bW_r h
          obtain ⟨⟨-, s1⟩, s2, s3, -⟩ := sumE_seg hp q1
          cases hc : cmpN (ckN f n x.2) with
          | none => rw [hc] at q2; cases q2
          | some s =>
            rw [hc] at q2
            have hxn := ckN_lt rfl (cmpN_lt hc).2
            obtain ⟨y, q3, q4⟩ := bW_r q2
            obtain ⟨⟨t0, t1⟩, t2, t3, -⟩ := sumE_seg (by omega) q3
            have := t0.2.1
            cases q4
            simp only [List.length_append, List.length_singleton]; omega
    · rw [rdC_1] at h
      by_cases hc : ckN f n p = 38
      · have hpn := ckN_lt hc (by decide)
        rw [if_pos hc] at h
        obtain ⟨r1, q1, q2⟩ := bW_r h
        have h1 := i0 _ _ _ _ r1 (by omega) q1
        have h2 := i1 _ _ _ _ r (by omega) q2
        simp only [List.length_append, List.length_singleton] at h2
        refine ⟨by omega, by omega, by omega, by omega, h2.2.2.2.2⟩
      · rw [if_neg hc] at h; cases h
        exact ⟨Nat.le_refl _, hp, Nat.le_refl _, Nat.le_refl _, hc⟩
    · rw [rdC_2] at h
      by_cases hc : ckN f n p = 124
      · have hpn := ckN_lt hc (by decide)
        rw [if_pos hc] at h
        obtain ⟨r1, q1, q2⟩ := bW_r h
        have h1 := i0 _ _ _ _ r1 (by omega) q1
        obtain ⟨r2, q3, q4⟩ := bW_r q2
        have h2 := i1 _ _ _ _ r2 (by omega) q3
        have h3 := i2 _ _ _ _ r (by omega) h2.2.2.2.2 q4
        simp only [List.length_append, List.length_singleton] at h3
        refine ⟨by omega, by omega, by omega, by omega, h3.2.2.2.2⟩
      · rw [if_neg hc] at h; cases h
        exact ⟨Nat.le_refl _, hp, Nat.le_refl _, Nat.le_refl _, h38, hc⟩
    · rw [rdC_3] at h
      by_cases h6 : op = 6
      · rw [if_pos h6] at h; cases h
      · rw [if_neg h6] at h
        obtain ⟨r1, q1, q2⟩ := bW_r h
        have h1 := i0 _ _ _ _ r1 (by omega) q1
        obtain ⟨r2, q3, q4⟩ := bW_r q2
        have h2 := i1 _ _ _ _ r2 (by omega) q3
        obtain ⟨r3, q5, q6⟩ := bW_r q4
        have h3 := i2 _ _ _ _ r3 (by omega) h2.2.2.2.2 q5
        by_cases hc : ckN f n r3.2 = 41
        · have hrn := ckN_lt hc (by decide)
          rw [if_pos hc] at q6; cases q6
          show p < r3.2 + 1 ∧ r3.2 + 1 ≤ n ∧ 1 ≤ r3.1.1.length ∧ p + r3.1.1.length ≤ r3.2 + 1
          omega
        · rw [if_neg hc] at q6; cases q6
theorem sumE_0 {f : Nat → Int32} {n op p : Nat} {e : Nat × Nat} (hp : p ≤ n) (h : sumE f n op p = .inl e) : e.1 ≠ 0 := by
  obtain ⟨_, _, _, o3⟩ := rdE_ok (f := f) (n := n) (2 * n + 6)
  exact o3 op p _ e hp (by omega) h
/-- the fuel is enough -/
theorem rdC_ok {f : Nat → Int32} {n : Nat} : ∀ k, (∀ op p b a e, p ≤ n → 2 * (n + 1 - p) + 2 ≤ k → rdC f n k 0 op p b a = .inl e → e.1 ≠ 0) ∧ (∀ op p b a e, p ≤ n → 2 * (n + 1 - p) + 2 ≤ k → rdC f n k 1 op p b a = .inl e → e.1 ≠ 0) ∧ (∀ op p b a e, p ≤ n → ¬ ckN f n p = 38 → 2 * (n + 1 - p) + 2 ≤ k → rdC f n k 2 op p b a = .inl e → e.1 ≠ 0) ∧ (∀ op p b a e, p < n → 2 * (n + 1 - p) + 1 ≤ k → rdC f n k 3 op p b a = .inl e → e.1 ≠ 0) := by
  intro k
  induction k with
  | zero => exact ⟨fun _ _ _ _ _ _ h => by omega, fun _ _ _ _ _ _ h => by omega, fun _ _ _ _ _ _ _ h => by omega, fun _ _ _ _ _ _ h => by omega⟩
  | succ k ih =>
    obtain ⟨i0, i1, i2, i3⟩ := ih
    obtain ⟨b0, b1, b2, -⟩ := rdC_b (f := f) (n := n) k
    refine ⟨fun op p b a e hp hk h => ?_, fun op p b a e hp hk h => ?_, fun op p b a e hp h38 hk h => ?_, fun op p b a e hp hk h => ?_⟩
    · rw [rdC_0] at h
      by_cases h33 : ckN f n p = 33
      · have hpn := ckN_lt h33 (by decide)
        rw [if_pos h33] at h
        by_cases h6 : op = 6
        · rw [if_pos h6] at h; cases h; exact Nat.succ_ne_zero _
        · rw [if_neg h6] at h
          rcases bW_l h with q | ⟨r, q1, q2⟩
          · exact i0 _ _ _ _ _ (by omega) (by omega) q
          · cases q2
      · rw [if_neg h33] at h
        by_cases h40 : ckN f n p = 40
        · have hpn := ckN_lt h40 (by decide)
          rw [if_pos h40] at h
          exact i3 _ _ _ _ _ hpn (by omega) h
        · rw [if_neg h40] at h
          rcases bW_l h with q | ⟨x, q1, q2⟩
          · exact sumE_0 hp q
          · cases hc : cmpN (ckN f n x.2) with
            | none => rw [hc] at q2; cases q2; exact Nat.succ_ne_zero _
            | some s =>
              rw [hc] at q2
              have hxn := ckN_lt rfl (cmpN_lt hc).2
              rcases bW_l q2 with q | ⟨y, q3, q4⟩
              · exact sumE_0 (by omega) q
              · cases q4
    · rw [rdC_1] at h
      by_cases hc : ckN f n p = 38
      · have hpn := ckN_lt hc (by decide)
        rw [if_pos hc] at h
        rcases bW_l h with q | ⟨r, q1, q2⟩
        · exact i0 _ _ _ _ _ (by omega) (by omega) q
        · have h1 := b0 _ _ _ _ r (by omega) q1
          exact i1 _ _ _ _ _ (by omega) (by omega) q2
      · rw [if_neg hc] at h; cases h
    · rw [rdC_2] at h
      by_cases hc : ckN f n p = 124
      · have hpn := ckN_lt hc (by decide)
        rw [if_pos hc] at h
        rcases bW_l h with q | ⟨r, q1, q2⟩
        · exact i0 _ _ _ _ _ (by omega) (by omega) q
        · have h1 := b0 _ _ _ _ r (by omega) q1
          rcases bW_l q2 with q | ⟨r2, q3, q4⟩
          · exact i1 _ _ _ _ _ (by omega) (by omega) q
          · have h2 := b1 _ _ _ _ r2 (by omega) q3
            exact i2 _ _ _ _ _ (by omega) h2.2.2.2.2 (by omega) q4
      · rw [if_neg hc] at h; cases h
    · rw [rdC_3] at h
      by_cases h6 : op = 6
      · rw [if_pos h6] at h; cases h; exact Nat.succ_ne_zero _
      · rw [if_neg h6] at h
        rcases bW_l h with q | ⟨r, q1, q2⟩
        · exact i0 _ _ _ _ _ (by omega) (by omega) q
        · have h1 := b0 _ _ _ _ r (by omega) q1
          rcases bW_l q2 with q | ⟨r2, q3, q4⟩
          · exact i1 _ _ _ _ _ (by omega) (by omega) q
          · have h2 := b1 _ _ _ _ r2 (by omega) q3
            rcases bW_l q4 with q | ⟨r3, q5, q6⟩
            · exact i2 _ _ _ _ _ (by omega) h2.2.2.2.2 (by omega) q
            · by_cases hc : ckN f n r3.2 = 41
              · rw [if_pos hc] at q6; cases q6
              · rw [if_neg hc] at q6; cases q6; exact Nat.succ_ne_zero _
section SIMC
variable {f : Nat → Int32} {n : Nat}
/-- the machine follows the descent -/
theorem mK_sim (hn : n ≤ 240) : ∀ k,
    (∀ op p a cs ws fu, p ≤ n → n + 1 - p ≤ fu → cs.length ≤ p → ¬ ws = [] → (∀ e, rdC f n k 0 op p cs.length a = .inl e → e.1 ≠ 0 → mK f n fu true cs ws op p = .inl e) ∧ ∀ r, rdC f n k 0 op p cs.length a = .inr r → ∃ fu', n + 1 - r.2 ≤ fu' ∧ mK f n fu true cs ws op p = mK f n fu' false (enP (cs ++ r.1.1) ws op).1 (enP (cs ++ r.1.1) ws op).2.1 (enP (cs ++ r.1.1) ws op).2.2 r.2) ∧
    (∀ op p a cs ws fu, p ≤ n → n + 1 - p ≤ fu → cs.length + a.1.length ≤ p → hdQ (fun i => i = 12 ∨ i = 13) ws → ¬ ws = [] → (∀ e, rdC f n k 1 op p cs.length a = .inl e → e.1 ≠ 0 → mK f n fu false (cs ++ a.1) ws op p = .inl e) ∧ ∀ r, rdC f n k 1 op p cs.length a = .inr r → ∃ fu', n + 1 - r.2 ≤ fu' ∧ mK f n fu false (cs ++ a.1) ws op p = mK f n fu' false (cs ++ r.1.1) ws op r.2) ∧
    (∀ op p a cs ws fu, p ≤ n → ¬ ckN f n p = 38 → n + 1 - p ≤ fu → cs.length + a.1.length ≤ p → hdQ (fun i => i = 13) ws → ¬ ws = [] → (∀ e, rdC f n k 2 op p cs.length a = .inl e → e.1 ≠ 0 → mK f n fu false (cs ++ a.1) ws op p = .inl e) ∧ ∀ r, rdC f n k 2 op p cs.length a = .inr r → ∃ fu', n + 1 - r.2 ≤ fu' ∧ mK f n fu false (cs ++ a.1) ws op p = mK f n fu' false (cs ++ r.1.1) ws op r.2) ∧
    (∀ op p a cs ws fu, ckN f n p = 40 → n + 1 - p ≤ fu → cs.length ≤ p → (∀ e, rdC f n k 3 op p cs.length a = .inl e → e.1 ≠ 0 → mK f n fu true cs ws op p = .inl e) ∧ ∀ r, rdC f n k 3 op p cs.length a = .inr r → (ws = [] → mK f n fu true cs ws op p = .inr (cs ++ r.1.1, [], op, r.2)) ∧ (¬ ws = [] → ∃ fu', n + 1 - r.2 ≤ fu' ∧ mK f n fu true cs ws op p = mK f n fu' false (enP (cs ++ r.1.1) ws op).1 (enP (cs ++ r.1.1) ws op).2.1 (enP (cs ++ r.1.1) ws op).2.2 r.2)) := by
  intro k
  induction k with
  | zero => exact ⟨fun _ _ _ _ _ _ _ _ _ _ => ⟨fun e h h0 => (h0 (by cases h; rfl)).elim, fun r h => (by cases h)⟩, fun _ _ _ _ _ _ _ _ _ _ _ => ⟨fun e h h0 => (h0 (by cases h; rfl)).elim, fun r h => (by cases h)⟩, fun _ _ _ _ _ _ _ _ _ _ _ _ => ⟨fun e h h0 => (h0 (by cases h; rfl)).elim, fun r h => (by cases h)⟩, fun _ _ _ _ _ _ _ _ _ => ⟨fun e h h0 => (h0 (by cases h; rfl)).elim, fun r h => (by cases h)⟩⟩
  | succ k ih =>
    obtain ⟨i0, i1, i2, i3⟩ := ih
    obtain ⟨b0, b1, b2, b3⟩ := rdC_b (f := f) (n := n) k
    refine ⟨fun op p a cs ws fu hp hf hb hw => ?_, fun op p a cs ws fu hp hf hb ht hw => ?_, fun op p a cs ws fu hp h38 hf hb ht hw => ?_, fun op p a cs ws fu h40 hf hb => ?_⟩
    · obtain ⟨g, rfl⟩ : ∃ g, fu = g + 1 := ⟨fu - 1, by omega⟩
      rw [rdC_0]
      by_cases h33 : ckN f n p = 33
      · have hpn := ckN_lt h33 (by decide)
        rw [if_pos h33, mK_T, if_pos (Or.inl h33)]
        by_cases h6 : op = 6
        · rw [if_pos h6, if_pos h6]; exact ⟨fun e h _ => (by cases h; rfl), fun r h => (by cases h)⟩
        · rw [if_neg h6, if_neg h6]
          have hop : opW f n p = 10 := if_pos h33
          rw [hop]
          obtain ⟨j1, j2⟩ := i0 (op + 1) (p + 1) a cs (UN * 10 :: ws) g (by omega) (by omega) (by omega) (by intro z; cases z)
          refine ⟨fun e h h0 => ?_, fun r h => ?_⟩
          · rcases bW_l h with q | ⟨r, q1, q2⟩
            · exact j1 e q h0
            · cases q2
          · obtain ⟨r1, q1, q2⟩ := bW_r h
            obtain ⟨fu', c1, c2⟩ := j2 r1 q1
            rw [enP_10 (un_div 10), Nat.add_sub_cancel, List.append_assoc] at c2
            cases q2
            exact ⟨fu', c1, c2⟩
      · rw [if_neg h33]
        by_cases h40 : ckN f n p = 40
        · rw [if_pos h40]
          obtain ⟨j1, j2⟩ := i3 op p a cs ws (g + 1) h40 hf hb
          exact ⟨j1, fun r h => (j2 r h).2 hw⟩
        · rw [if_neg h40, mK_T, if_neg (fun z => z.elim h33 h40)]
          refine ⟨fun e h h0 => ?_, fun r h => ?_⟩
          · unfold cmpW
            rcases bW_l h with q | ⟨x, q1, q2⟩
            · rw [q]; rfl
            · rw [q1]; dsimp only [bW] at q2 ⊢
              cases hc : cmpN (ckN f n x.2) with
              | none => rw [hc] at q2; cases q2; rfl
              | some s =>
                rw [hc] at q2; dsimp only at q2 ⊢
                rcases bW_l q2 with q | ⟨y, q3, q4⟩
                · rw [q]
                · cases q4
          · unfold cmpW
            obtain ⟨x, q1, q2⟩ := bW_r h
            obtain ⟨⟨-, s1⟩, s2, s3, -⟩ := sumE_seg hp q1
            rw [q1]; dsimp only [bW]
            cases hc : cmpN (ckN f n x.2) with
            | none => rw [hc] at q2; cases q2
            | some s =>
              rw [hc] at q2; dsimp only at q2 ⊢
              have hxn := ckN_lt rfl (cmpN_lt hc).2
              obtain ⟨y, q3, q4⟩ := bW_r q2
              obtain ⟨-, t2, t3, -⟩ := sumE_seg (by omega) q3
              rw [q3]; dsimp only
              cases q4
              exact ⟨g, by show n + 1 - y.2 ≤ g; omega, rfl⟩
    · rw [rdC_1]
      by_cases hc : ckN f n p = 38
      · have hpn := ckN_lt hc (by decide)
        obtain ⟨g, rfl⟩ : ∃ g, fu = g + 1 := ⟨fu - 1, by omega⟩
        have hl : (cs ++ a.1).length = cs.length + a.1.length := List.length_append
        have hl1 : (cs ++ a.1 ++ [UN * 11]).length = cs.length + a.1.length + 1 := by rw [List.length_append, hl]; rfl
        have hlU : (cs ++ a.1).length < UN := by rw [hl]; show _ < 1048576; omega
        have hlno : lnd false (cs ++ a.1) ws = (cs ++ a.1, ws) := lnd_no (hdQ_m ht (fun i hi => ⟨by omega, fun z => by cases z⟩))
        rw [if_pos hc, mK_F, if_neg (by omega), if_pos hc, hlno]
        obtain ⟨j1, j2⟩ := i0 op (p + 1) a (cs ++ a.1 ++ [UN * 11]) ((UN * 11 + (cs ++ a.1).length) :: ws) g (by omega) (by omega) (by rw [hl1]; omega) (by intro z; cases z)
        rw [hl1] at j1 j2
        have key : ∀ r1, rdC f n k 0 op (p + 1) (cs.length + a.1.length + 1) a = .inr r1 → ∃ fu', n + 1 - r1.2 ≤ fu' ∧ mK f n g true (cs ++ a.1 ++ [UN * 11]) ((UN * 11 + (cs ++ a.1).length) :: ws) op (p + 1) = mK f n fu' false (cs ++ (a.1 ++ [UN * 11 + (cs.length + a.1.length + 1 + r1.1.1.length)] ++ r1.1.1)) ws op r1.2 := fun r1 q1 => by
          obtain ⟨fu', c1, c2⟩ := j2 r1 q1
          refine ⟨fu', c1, ?_⟩
          rw [c2, enP_no (hdQ_c (by rw [un_da hlU]; decide))]
          dsimp only
          have e1 : cs ++ a.1 ++ [UN * 11] ++ r1.1.1 = (cs ++ a.1) ++ UN * 11 :: r1.1.1 := by rw [List.append_assoc (cs ++ a.1)]; rfl
          rw [e1, mK_l11 hlU, hl, List.append_assoc cs, List.append_assoc a.1]; rfl
        refine ⟨fun e h h0 => ?_, fun r h => ?_⟩
        · rcases bW_l h with q | ⟨r1, q1, q2⟩
          · exact j1 e q h0
          · obtain ⟨fu', c1, c2⟩ := key r1 q1
            have h1 := b0 _ _ _ _ r1 (by omega) q1
            rw [c2]
            exact (i1 op r1.2 (a.1 ++ [UN * 11 + (cs.length + a.1.length + 1 + r1.1.1.length)] ++ r1.1.1, fun F => somS false (a.2 F) (r1.1.2 F)) cs ws fu' (by omega) c1 (by simp only [List.length_append, List.length_singleton]; omega) ht hw).1 e q2 h0
        · obtain ⟨r1, q1, q2⟩ := bW_r h
          obtain ⟨fu', c1, c2⟩ := key r1 q1
          have h1 := b0 _ _ _ _ r1 (by omega) q1
          rw [c2]
          exact (i1 op r1.2 (a.1 ++ [UN * 11 + (cs.length + a.1.length + 1 + r1.1.1.length)] ++ r1.1.1, fun F => somS false (a.2 F) (r1.1.2 F)) cs ws fu' (by omega) c1 (by simp only [List.length_append, List.length_singleton]; omega) ht hw).2 r q2
      · rw [if_neg hc]
        refine ⟨fun e h _ => (by cases h), fun r h => ?_⟩
        cases h
        exact ⟨fu, hf, rfl⟩
    · rw [rdC_2]
      by_cases hc : ckN f n p = 124
      · have hpn := ckN_lt hc (by decide)
        obtain ⟨g, rfl⟩ : ∃ g, fu = g + 1 := ⟨fu - 1, by omega⟩
        have hl : (cs ++ a.1).length = cs.length + a.1.length := List.length_append
        have hl1 : (cs ++ a.1 ++ [UN * 12]).length = cs.length + a.1.length + 1 := by rw [List.length_append, hl]; rfl
        have hlU : (cs ++ a.1).length < UN := by rw [hl]; show _ < 1048576; omega
        have hlno : lnd true (cs ++ a.1) ws = (cs ++ a.1, ws) := lnd_no (hdQ_m ht (fun i hi => ⟨by omega, fun z => by omega⟩))
        rw [if_pos hc, mK_F, if_neg (by omega), if_neg h38, if_pos hc, hlno]
        obtain ⟨j1, j2⟩ := i0 op (p + 1) a (cs ++ a.1 ++ [UN * 12]) ((UN * 12 + (cs ++ a.1).length) :: ws) g (by omega) (by omega) (by rw [hl1]; omega) (by intro z; cases z)
        rw [hl1] at j1 j2
        have h12 : hdQ (fun i => i = 12 ∨ i = 13) ((UN * 12 + (cs ++ a.1).length) :: ws) := hdQ_c (by rw [un_da hlU]; exact Or.inl rfl)
        have key1 : ∀ r1, rdC f n k 0 op (p + 1) (cs.length + a.1.length + 1) a = .inr r1 → ∃ fu', n + 1 - r1.2 ≤ fu' ∧ mK f n g true (cs ++ a.1 ++ [UN * 12]) ((UN * 12 + (cs ++ a.1).length) :: ws) op (p + 1) = mK f n fu' false (cs ++ a.1 ++ [UN * 12] ++ r1.1.1) ((UN * 12 + (cs ++ a.1).length) :: ws) op r1.2 := fun r1 q1 => by
          obtain ⟨fu', c1, c2⟩ := j2 r1 q1
          refine ⟨fu', c1, ?_⟩
          rw [c2, enP_no (hdQ_c (by rw [un_da hlU]; decide))]
        have key2 : ∀ r1, rdC f n k 0 op (p + 1) (cs.length + a.1.length + 1) a = .inr r1 → (∀ e, rdC f n k 1 op r1.2 (cs.length + a.1.length + 1) r1.1 = .inl e → e.1 ≠ 0 → mK f n g true (cs ++ a.1 ++ [UN * 12]) ((UN * 12 + (cs ++ a.1).length) :: ws) op (p + 1) = .inl e) ∧ ∀ r2, rdC f n k 1 op r1.2 (cs.length + a.1.length + 1) r1.1 = .inr r2 → ∃ fu', n + 1 - r2.2 ≤ fu' ∧ mK f n g true (cs ++ a.1 ++ [UN * 12]) ((UN * 12 + (cs ++ a.1).length) :: ws) op (p + 1) = mK f n fu' false (cs ++ (a.1 ++ [UN * 12 + (cs.length + a.1.length + 1 + r2.1.1.length)] ++ r2.1.1)) ws op r2.2 := fun r1 q1 => by
          obtain ⟨fu', c1, c2⟩ := key1 r1 q1
          have h1 := b0 _ _ _ _ r1 (by omega) q1
          obtain ⟨l1, l2⟩ := i1 op r1.2 r1.1 (cs ++ a.1 ++ [UN * 12]) ((UN * 12 + (cs ++ a.1).length) :: ws) fu' (by omega) c1 (by rw [hl1]; omega) h12 (by intro z; cases z)
          rw [hl1] at l1 l2
          rw [c2]
          refine ⟨l1, fun r2 q3 => ?_⟩
          obtain ⟨fu2, d1, d2⟩ := l2 r2 q3
          have h2 := b1 _ _ _ _ r2 (by omega) q3
          refine ⟨fu2, d1, ?_⟩
          have e1 : cs ++ a.1 ++ [UN * 12] ++ r2.1.1 = (cs ++ a.1) ++ UN * 12 :: r2.1.1 := by rw [List.append_assoc (cs ++ a.1)]; rfl
          rw [d2, e1, mK_l12 hlU h2.2.2.2.2, hl, List.append_assoc cs, List.append_assoc a.1]; rfl
        refine ⟨fun e h h0 => ?_, fun r h => ?_⟩
        · rcases bW_l h with q | ⟨r1, q1, q2⟩
          · exact j1 e q h0
          · have h1 := b0 _ _ _ _ r1 (by omega) q1
            rcases bW_l q2 with q | ⟨r2, q3, q4⟩
            · exact (key2 r1 q1).1 e q h0
            · obtain ⟨fu', c1, c2⟩ := (key2 r1 q1).2 r2 q3
              have h2 := b1 _ _ _ _ r2 (by omega) q3
              rw [c2]
              exact (i2 op r2.2 (a.1 ++ [UN * 12 + (cs.length + a.1.length + 1 + r2.1.1.length)] ++ r2.1.1, fun F => somS true (a.2 F) (r2.1.2 F)) cs ws fu' (by omega) h2.2.2.2.2 c1 (by simp only [List.length_append, List.length_singleton]; omega) ht hw).1 e q4 h0
        · obtain ⟨r1, q1, q2⟩ := bW_r h
          have h1 := b0 _ _ _ _ r1 (by omega) q1
          obtain ⟨r2, q3, q4⟩ := bW_r q2
          obtain ⟨fu', c1, c2⟩ := (key2 r1 q1).2 r2 q3
          have h2 := b1 _ _ _ _ r2 (by omega) q3
          rw [c2]
          exact (i2 op r2.2 (a.1 ++ [UN * 12 + (cs.length + a.1.length + 1 + r2.1.1.length)] ++ r2.1.1, fun F => somS true (a.2 F) (r2.1.2 F)) cs ws fu' (by omega) h2.2.2.2.2 c1 (by simp only [List.length_append, List.length_singleton]; omega) ht hw).2 r q4
      · rw [if_neg hc]
        refine ⟨fun e h _ => (by cases h), fun r h => ?_⟩
        cases h
        exact ⟨fu, hf, rfl⟩
    · have hpn := ckN_lt h40 (by decide)
      obtain ⟨g, rfl⟩ : ∃ g, fu = g + 1 := ⟨fu - 1, by omega⟩
      have hop : opW f n p = 13 := if_neg (by omega)
      rw [rdC_3, mK_T, if_pos (Or.inr h40), hop]
      by_cases h6 : op = 6
      · rw [if_pos h6, if_pos h6]; exact ⟨fun e h _ => (by cases h; rfl), fun r h => (by cases h)⟩
      · rw [if_neg h6, if_neg h6]
        have h13 : hdQ (fun i => i = 13) (UN * 13 :: ws) := hdQ_c (un_div 13)
        have hne : ¬ UN * 13 :: ws = [] := by intro z; cases z
        obtain ⟨j1, j2⟩ := i0 (op + 1) (p + 1) a cs (UN * 13 :: ws) g (by omega) (by omega) (by omega) hne
        have k1 : ∀ r1, rdC f n k 0 (op + 1) (p + 1) cs.length a = .inr r1 → ∃ fu', n + 1 - r1.2 ≤ fu' ∧ mK f n g true cs (UN * 13 :: ws) (op + 1) (p + 1) = mK f n fu' false (cs ++ r1.1.1) (UN * 13 :: ws) (op + 1) r1.2 := fun r1 q1 => by
          obtain ⟨fu', c1, c2⟩ := j2 r1 q1
          refine ⟨fu', c1, ?_⟩
          rw [c2, enP_no (hdQ_m h13 (fun i hi => by omega))]
        have k2 : ∀ r1, rdC f n k 0 (op + 1) (p + 1) cs.length a = .inr r1 → (∀ e, rdC f n k 1 (op + 1) r1.2 cs.length r1.1 = .inl e → e.1 ≠ 0 → mK f n g true cs (UN * 13 :: ws) (op + 1) (p + 1) = .inl e) ∧ ∀ r2, rdC f n k 1 (op + 1) r1.2 cs.length r1.1 = .inr r2 → ∃ fu', n + 1 - r2.2 ≤ fu' ∧ mK f n g true cs (UN * 13 :: ws) (op + 1) (p + 1) = mK f n fu' false (cs ++ r2.1.1) (UN * 13 :: ws) (op + 1) r2.2 := fun r1 q1 => by
          obtain ⟨fu', c1, c2⟩ := k1 r1 q1
          have h1 := b0 _ _ _ _ r1 (by omega) q1
          rw [c2]
          exact i1 (op + 1) r1.2 r1.1 cs (UN * 13 :: ws) fu' (by omega) c1 (by omega) (hdQ_m h13 (fun i hi => Or.inr hi)) hne
        have k3 : ∀ r1 r2, rdC f n k 0 (op + 1) (p + 1) cs.length a = .inr r1 → rdC f n k 1 (op + 1) r1.2 cs.length r1.1 = .inr r2 → (∀ e, rdC f n k 2 (op + 1) r2.2 cs.length r2.1 = .inl e → e.1 ≠ 0 → mK f n g true cs (UN * 13 :: ws) (op + 1) (p + 1) = .inl e) ∧ ∀ r3, rdC f n k 2 (op + 1) r2.2 cs.length r2.1 = .inr r3 → ∃ fu', n + 1 - r3.2 ≤ fu' ∧ mK f n g true cs (UN * 13 :: ws) (op + 1) (p + 1) = mK f n fu' false (cs ++ r3.1.1) (UN * 13 :: ws) (op + 1) r3.2 := fun r1 r2 q1 q2 => by
          obtain ⟨fu', c1, c2⟩ := (k2 r1 q1).2 r2 q2
          have h1 := b0 _ _ _ _ r1 (by omega) q1
          have h2 := b1 _ _ _ _ r2 (by omega) q2
          rw [c2]
          exact i2 (op + 1) r2.2 r2.1 cs (UN * 13 :: ws) fu' (by omega) h2.2.2.2.2 c1 (by omega) h13 hne
        have k4 : ∀ r1 r2 r3, rdC f n k 0 (op + 1) (p + 1) cs.length a = .inr r1 → rdC f n k 1 (op + 1) r1.2 cs.length r1.1 = .inr r2 → rdC f n k 2 (op + 1) r2.2 cs.length r2.1 = .inr r3 → ∃ g', n + 1 - r3.2 ≤ g' + 1 ∧ mK f n g true cs (UN * 13 :: ws) (op + 1) (p + 1) = if ckN f n r3.2 = 41 then (if ws = [] then .inr (cs ++ r3.1.1, [], op, r3.2 + 1) else mK f n g' false (enP (cs ++ r3.1.1) ws op).1 (enP (cs ++ r3.1.1) ws op).2.1 (enP (cs ++ r3.1.1) ws op).2.2 (r3.2 + 1)) else .inl (1, r3.2) := fun r1 r2 r3 q1 q2 q3 => by
          obtain ⟨fu', c1, c2⟩ := (k3 r1 r2 q1 q2).2 r3 q3
          have h1 := b0 _ _ _ _ r1 (by omega) q1
          have h2 := b1 _ _ _ _ r2 (by omega) q2
          have h3 := b2 _ _ _ _ r3 (by omega) h2.2.2.2.2 q3
          obtain ⟨g', rfl⟩ : ∃ g', fu' = g' + 1 := ⟨fu' - 1, by omega⟩
          refine ⟨g', c1, ?_⟩
          have hlno : ∀ al, lnd al (cs ++ r3.1.1) (UN * 13 :: ws) = (cs ++ r3.1.1, UN * 13 :: ws) := fun al => lnd_no (hdQ_m h13 (fun i hi => ⟨by omega, fun z => by omega⟩))
          rw [c2, mK_F, hlno, if_neg h3.2.2.2.2.1, if_neg h3.2.2.2.2.2]; rfl
        refine ⟨fun e h h0 => ?_, fun r h => ?_⟩
        · rcases bW_l h with q | ⟨r1, q1, q2⟩
          · exact j1 e q h0
          · rcases bW_l q2 with q | ⟨r2, q3, q4⟩
            · exact (k2 r1 q1).1 e q h0
            · rcases bW_l q4 with q | ⟨r3, q5, q6⟩
              · exact (k3 r1 r2 q1 q3).1 e q h0
              · obtain ⟨g', c1, c2⟩ := k4 r1 r2 r3 q1 q3 q5
                rw [c2]
                by_cases hc : ckN f n r3.2 = 41
                · rw [if_pos hc] at q6; cases q6
                · rw [if_neg hc] at q6 ⊢; cases q6; rfl
        · obtain ⟨r1, q1, q2⟩ := bW_r h
          obtain ⟨r2, q3, q4⟩ := bW_r q2
          obtain ⟨r3, q5, q6⟩ := bW_r q4
          obtain ⟨g', c1, c2⟩ := k4 r1 r2 r3 q1 q3 q5
          rw [c2]
          by_cases hc : ckN f n r3.2 = 41
          · rw [if_pos hc] at q6 ⊢; cases q6
            refine ⟨fun hw => by rw [if_pos hw], fun hw => ⟨g', ?_, by rw [if_neg hw]⟩⟩
            show n + 1 - (r3.2 + 1) ≤ g'; omega
          · rw [if_neg hc] at q6; cases q6
end SIMC
/-- a whole condition, at an open bracket -/
def conE (f : Nat → Int32) (n p b : Nat) : CR := rdC f n (2 * n + 6) 3 0 p b ([], fun _ => none)
theorem mK_con {f : Nat → Int32} {n fu p : Nat} {cs : List Nat} (hn : n ≤ 240) (h40 : ckN f n p = 40) (hf : n + 1 - p ≤ fu) (hb : cs.length ≤ p) :
    (∀ e, conE f n p cs.length = .inl e → mK f n fu true cs [] 0 p = .inl e) ∧ ∀ r, conE f n p cs.length = .inr r → mK f n fu true cs [] 0 p = .inr (cs ++ r.1.1, [], 0, r.2) := by
  have hpn := ckN_lt h40 (by decide)
  obtain ⟨_, _, _, h3⟩ := mK_sim (f := f) hn (2 * n + 6)
  obtain ⟨_, _, _, o3⟩ := rdC_ok (f := f) (n := n) (2 * n + 6)
  obtain ⟨j1, j2⟩ := h3 0 p ([], fun _ => none) cs [] fu h40 hf hb
  exact ⟨fun e h => j1 e h (o3 0 p _ _ e hpn (by omega) h), fun r h => (j2 r h).1 rfl⟩
theorem conE_b {f : Nat → Int32} {n p b : Nat} {r : CA × Nat} (hp : p < n) (h : conE f n p b = .inr r) : p < r.2 ∧ r.2 ≤ n ∧ 1 ≤ r.1.1.length ∧ p + r.1.1.length ≤ r.2 := (rdC_b (f := f) (n := n) (2 * n + 6)).2.2.2 0 p b _ r hp h
theorem nineD_some {b : Bool} {x y : CDn} (hx : nineD x) (hy : nineD y) : nineD fun F => somS b (x F) (y F) := fun F F' h => by
  show somS b (x F) (y F) = somS b (x F') (y F'); rw [hx F F' h, hy F F' h]
theorem nineD_cmp {c : Int32} {x y : SDn} (hx : nineD x) (hy : nineD y) : nineD fun F => cmpS c (x F) (y F) := fun F F' h => by
  show cmpS c (x F) (y F) = cmpS c (x F') (y F'); rw [hx F F' h, hy F F' h]
theorem nineD_not {x : CDn} (hx : nineD x) : nineD fun F => (x F).map (fun v => !v) := fun F F' h => by
  show (x F).map _ = (x F').map _; rw [hx F F' h]
/-- the list's codes at b are the condition -/
def SegC (l : List Nat) (b : Nat) (d : CDn) : Prop := (∀ cd, CS cd b l → Seg cd b (b + l.length) (bD d)) ∧ 1 ≤ l.length ∧ (∀ x ∈ l, x < 2 ^ 31) ∧ nineD d
theorem SegC_jmp {A B : List Nat} {b s : Nat} {x y : CDn} (h1 : SegC A b x) (h2 : SegC B (b + A.length + 1) y) (hs : s = 11 ∨ s = 12) (hU : b + A.length + 1 + B.length < UN) : SegC (A ++ [UN * s + (b + A.length + 1 + B.length)] ++ B) b (fun F => somS (decide (s = 12)) (x F) (y F)) := by
  have hl1 := h1.2.1; have hl2 := h2.2.1
  refine ⟨fun cd h => ?_, by simp only [List.length_append, List.length_singleton]; omega, fun z hz => ?_, nineD_some h1.2.2.2 h2.2.2.2⟩
  · rw [List.append_assoc, CS_app] at h
    have hh : cd (b + A.length) = UN * s + (b + A.length + 1 + B.length) ∧ CS cd (b + A.length + 1) B := h.2
    have e : b + (A ++ [UN * s + (b + A.length + 1 + B.length)] ++ B).length = b + A.length + 1 + B.length := by simp only [List.length_append, List.length_singleton]; omega
    rw [e]
    exact Seg_jmp (h1.1 cd h.1) (h2.1 cd hh.2) (by omega) (by omega) hs hh.1 hU
  · rcases List.mem_append.mp hz with hz | hz
    · rcases List.mem_append.mp hz with hz | hz
      · exact h1.2.2.1 z hz
      · rw [List.mem_singleton.mp hz]
        have : UN * s ≤ 1048576 * 12 := Nat.mul_le_mul_left _ (by omega)
        have hU : b + A.length + 1 + B.length < 1048576 := hU
        omega
    · exact h2.2.2.1 z hz
theorem rdC_seg {f : Nat → Int32} {n : Nat} (hn : n ≤ 240) : ∀ k,
    (∀ op p b a r, p ≤ n → b ≤ p → rdC f n k 0 op p b a = .inr r → SegC r.1.1 b r.1.2) ∧
    (∀ op p b a r, p ≤ n → b + a.1.length ≤ p → SegC a.1 b a.2 → rdC f n k 1 op p b a = .inr r → SegC r.1.1 b r.1.2) ∧
    (∀ op p b a r, p ≤ n → ¬ ckN f n p = 38 → b + a.1.length ≤ p → SegC a.1 b a.2 → rdC f n k 2 op p b a = .inr r → SegC r.1.1 b r.1.2) ∧
    (∀ op p b a r, p < n → b ≤ p → rdC f n k 3 op p b a = .inr r → SegC r.1.1 b r.1.2) := by
  intro k
  induction k with
  | zero => exact ⟨fun _ _ _ _ _ _ _ h => (by cases h), fun _ _ _ _ _ _ _ _ h => (by cases h), fun _ _ _ _ _ _ _ _ _ h => (by cases h), fun _ _ _ _ _ _ _ h => (by cases h)⟩
  | succ k ih =>
    obtain ⟨i0, i1, i2, i3⟩ := ih
    obtain ⟨b0, b1, b2, -⟩ := rdC_b (f := f) (n := n) k
    refine ⟨fun op p b a r hp hb h => ?_, fun op p b a r hp hb ha h => ?_, fun op p b a r hp h38 hb ha h => ?_, fun op p b a r hp hb h => ?_⟩
    · rw [rdC_0] at h
      by_cases h33 : ckN f n p = 33
      · have hpn := ckN_lt h33 (by decide)
        rw [if_pos h33] at h
        by_cases h6 : op = 6
        · rw [if_pos h6] at h; cases h
        · rw [if_neg h6] at h
          obtain ⟨r1, q1, q2⟩ := bW_r h
          have hS := i0 _ _ _ _ r1 (by omega) (by omega) q1
          have hl := hS.2.1
          cases q2
          refine ⟨fun cd hc => ?_, by rw [List.length_append, List.length_singleton]; omega, fun x hx => ?_, nineD_not hS.2.2.2⟩
          · rw [CS_app] at hc
            have e : b + (r1.1.1 ++ [UN * 10]).length = b + r1.1.1.length + 1 := by rw [List.length_append, List.length_singleton]; omega
            rw [e]
            exact Seg_not (hS.1 cd hc.1) (by omega) hc.2.1
          · rcases List.mem_append.mp hx with hx | hx
            · exact hS.2.2.1 x hx
            · rw [List.mem_singleton.mp hx]; decide
      · rw [if_neg h33] at h
        by_cases h40 : ckN f n p = 40
        · have hpn := ckN_lt h40 (by decide)
          rw [if_pos h40] at h
          exact i3 _ _ _ _ r hpn hb h
        · rw [if_neg h40] at h
          obtain ⟨x, q1, q2⟩ := bW_r h
          obtain ⟨⟨s0, s1⟩, s2, s3, -⟩ := sumE_seg hp q1
          cases hc : cmpN (ckN f n x.2) with
          | none => rw [hc] at q2; cases q2
          | some s =>
            rw [hc] at q2
            have hcs := cmpN_lt hc
            have hxn := ckN_lt rfl hcs.2
            obtain ⟨y, q3, q4⟩ := bW_r q2
            obtain ⟨⟨t0, t1⟩, t2, t3, -⟩ := sumE_seg (by omega) q3
            have hl1 := s0.2.1; have hl2 := t0.2.1
            cases q4
            refine ⟨fun cd hd => ?_, by simp only [List.length_append, List.length_singleton]; omega, fun z hz => ?_, nineD_cmp s0.2.2.2 t0.2.2.2⟩
            · rw [List.append_assoc, CS_app, CS_app] at hd
              have e : b + (x.1.1 ++ y.1.1 ++ [UN * s]).length = b + x.1.1.length + y.1.1.length + 1 := by simp only [List.length_append, List.length_singleton]; omega
              rw [e]
              exact Seg_cmp (s0.1 cd b hd.1) (t0.1 cd _ hd.2.1) (by omega) (by omega) hc hd.2.2.1
            · rcases List.mem_append.mp hz with hz | hz
              · rcases List.mem_append.mp hz with hz | hz
                · exact s0.2.2.1 z hz
                · exact t0.2.2.1 z hz
              · rw [List.mem_singleton.mp hz]
                have : UN * s ≤ 1048576 * 9 := Nat.mul_le_mul_left _ (by omega)
                omega
    · rw [rdC_1] at h
      by_cases hc : ckN f n p = 38
      · have hpn := ckN_lt hc (by decide)
        rw [if_pos hc] at h
        obtain ⟨r1, q1, q2⟩ := bW_r h
        have h1 := b0 _ _ _ _ r1 (by omega) q1
        have hS := i0 _ _ _ _ r1 (by omega) (by omega) q1
        exact i1 _ _ _ _ r (by omega) (by simp only [List.length_append, List.length_singleton]; omega) (SegC_jmp ha hS (Or.inl rfl) (by show _ < 1048576; omega)) q2
      · rw [if_neg hc] at h; cases h; exact ha
    · rw [rdC_2] at h
      by_cases hc : ckN f n p = 124
      · have hpn := ckN_lt hc (by decide)
        rw [if_pos hc] at h
        obtain ⟨r1, q1, q2⟩ := bW_r h
        have h1 := b0 _ _ _ _ r1 (by omega) q1
        have hS := i0 _ _ _ _ r1 (by omega) (by omega) q1
        obtain ⟨r2, q3, q4⟩ := bW_r q2
        have h2 := b1 _ _ _ _ r2 (by omega) q3
        have hS2 := i1 _ _ _ _ r2 (by omega) (by omega) hS q3
        exact i2 _ _ _ _ r (by omega) h2.2.2.2.2 (by simp only [List.length_append, List.length_singleton]; omega) (SegC_jmp ha hS2 (Or.inr rfl) (by show _ < 1048576; omega)) q4
      · rw [if_neg hc] at h; cases h; exact ha
    · rw [rdC_3] at h
      by_cases h6 : op = 6
      · rw [if_pos h6] at h; cases h
      · rw [if_neg h6] at h
        obtain ⟨r1, q1, q2⟩ := bW_r h
        have h1 := b0 _ _ _ _ r1 (by omega) q1
        have hS := i0 _ _ _ _ r1 (by omega) (by omega) q1
        obtain ⟨r2, q3, q4⟩ := bW_r q2
        have h2 := b1 _ _ _ _ r2 (by omega) q3
        have hS2 := i1 _ _ _ _ r2 (by omega) (by omega) hS q3
        obtain ⟨r3, q5, q6⟩ := bW_r q4
        have h3 := b2 _ _ _ _ r3 (by omega) h2.2.2.2.2 q5
        have hS3 := i2 _ _ _ _ r3 (by omega) h2.2.2.2.2 (by omega) hS2 q5
        by_cases hc : ckN f n r3.2 = 41
        · rw [if_pos hc] at q6; cases q6; exact hS3
        · rw [if_neg hc] at q6; cases q6
theorem conE_seg {f : Nat → Int32} {n p b : Nat} {r : CA × Nat} (hn : n ≤ 240) (hp : p < n) (hb : b ≤ p) (h : conE f n p b = .inr r) : SegC r.1.1 b r.1.2 := (rdC_seg (f := f) hn (2 * n + 6)).2.2.2 0 p b _ r hp hb h
