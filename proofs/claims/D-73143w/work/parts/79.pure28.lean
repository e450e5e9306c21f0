set_option maxRecDepth 100000
/-! the law's text: sums. U: the unit of codes -/
abbrev UN : Nat := 1048576
def letN (c : Nat) : Option Nat := if c = 104 then some 0 else if c = 103 then some 1 else if c = 115 then some 2 else if c = 100 then some 3 else if c = 110 then some 4 else if c = 98 then some 5 else if c = 107 then some 6 else if c = 116 then some 7 else if c = 119 then some 8 else none
def sgnN (c : Nat) : Option Nat := if c = 43 then some 2 else if c = 45 then some 3 else if c = 42 then some 4 else if c = 47 then some 5 else if c = 37 then some 6 else none
def mulC (c : Nat) : Bool := decide (c = 42) || (decide (c = 47) || decide (c = 37))
def addC (c : Nat) : Bool := decide (c = 43) || decide (c = 45)
def sgC (c : Nat) : Nat := if c = 43 then 2 else if c = 45 then 3 else if c = 42 then 4 else if c = 47 then 5 else 6
/-- a number: five digits at most -/
def nmL (f : Nat → Int32) (n : Nat) : Nat → Nat → Nat → (Nat × Nat) ⊕ (Nat × Nat)
  | 0, p, v => if digB f n p = true then .inl (2, p) else .inr (v, p)
  | b + 1, p, v => if digB f n p = true then nmL f n b (p + 1) (10 * v + (ocN f p - 48)) else .inr (v, p)
def numL (f : Nat → Int32) (n p : Nat) : (Nat × Nat) ⊕ (Nat × Nat) := nmL f n 5 p 0
/-- what is closed of the waiting: signs of sums -/
def clsB (al : Bool) (x : Nat) : Bool := (decide (4 ≤ x / UN) && decide (x / UN ≤ 6)) || (al && (decide (x / UN = 2) || decide (x / UN = 3)))
def clS (al : Bool) : List Nat → List Nat → List Nat × List Nat
  | cs, [] => (cs, [])
  | cs, x :: ws => if clsB al x = true then clS al (cs ++ [UN * (x / UN)]) ws else (cs, x :: ws)
def opnB (base : Nat) : List Nat → Bool
  | [] => false
  | x :: ws => (decide (base ≤ ws.length) && decide (x / UN = 14)) || opnB base ws
abbrev MR : Type := (Nat × Nat) ⊕ (List Nat × List Nat × Nat × Nat)
/-- the reference's machine for a sum: true: it expects a factor; false: one is read -/
def mR (f : Nat → Int32) (n base : Nat) : Nat → Bool → List Nat → List Nat → Nat → Nat → MR
  | 0, _, _, _, _, _ => .inl (0, 0)
  | k + 1, true, cs, ws, op, p =>
    if ckN f n p = 91 then (if op = 6 then .inl (5, p) else mR f n base k true cs (UN * 14 :: ws) (op + 1) (p + 1))
    else if digB f n p = true then bW (numL f n p) fun v => mR f n base k false (cs ++ [v.1]) ws op v.2
    else match letN (ckN f n p) with
      | some i => mR f n base k false (cs ++ [UN + i]) ws op (p + 1)
      | none => .inl (1, p)
  | k + 1, false, cs, ws, op, p =>
    match sgnN (ckN f n p) with
    | some s => mR f n base k true (clS (decide (s < 4)) cs ws).1 (UN * s :: (clS (decide (s < 4)) cs ws).2) op (p + 1)
    | none =>
      if ckN f n p = 93 ∧ opnB base ws = true then mR f n base k false (clS true cs ws).1 (clS true cs ws).2.tail (op - 1) (p + 1)
      else if opnB base ws = true then .inl (1, p) else .inr ((clS true cs ws).1, (clS true cs ws).2, op, p)
abbrev SA : Type := List Nat × SDn
abbrev SR : Type := (Nat × Nat) ⊕ (SA × Nat)
def sgD (c : Nat) (x y : SDn) : SDn := fun F => (x F).bind fun v => (y F).bind fun w => workS (nI c) v w
/-- sums by descent: 0 a factor, 1 what follows one in a product, 2 what follows a product in a sum, 3 a sum -/
def rdE (f : Nat → Int32) (n : Nat) : Nat → Nat → Nat → Nat → SA → SR
  | 0, _, _, _, _ => .inl (0, 0)
  | k + 1, 0, op, p, a =>
    if ckN f n p = 91 then (if op = 6 then .inl (5, p) else bW (rdE f n k 3 (op + 1) (p + 1) a) fun r => if ckN f n r.2 = 93 then .inr (r.1, r.2 + 1) else .inl (1, r.2))
    else if digB f n p = true then bW (numL f n p) fun v => .inr (([v.1], fun _ => some (nI v.1)), v.2)
    else match letN (ckN f n p) with
      | some i => .inr (([UN + i], fun F => some (F i)), p + 1)
      | none => .inl (1, p)
  | k + 1, 1, op, p, a => if mulC (ckN f n p) = true then bW (rdE f n k 0 op (p + 1) a) fun r => rdE f n k 1 op r.2 (a.1 ++ r.1.1 ++ [UN * sgC (ckN f n p)], sgD (ckN f n p) a.2 r.1.2) else .inr (a, p)
  | k + 1, 2, op, p, a => if addC (ckN f n p) = true then bW (rdE f n k 0 op (p + 1) a) fun r => bW (rdE f n k 1 op r.2 r.1) fun r2 => rdE f n k 2 op r2.2 (a.1 ++ r2.1.1 ++ [UN * sgC (ckN f n p)], sgD (ckN f n p) a.2 r2.1.2) else .inr (a, p)
  | k + 1, _ + 3, op, p, a => bW (rdE f n k 0 op p a) fun r => bW (rdE f n k 1 op r.2 r.1) fun r2 => rdE f n k 2 op r2.2 r2.1
theorem mR_S (f : Nat → Int32) (n base k : Nat) (cs ws : List Nat) (op p : Nat) : mR f n base (k + 1) false cs ws op p = match sgnN (ckN f n p) with
    | some s => mR f n base k true (clS (decide (s < 4)) cs ws).1 (UN * s :: (clS (decide (s < 4)) cs ws).2) op (p + 1)
    | none =>
      if ckN f n p = 93 ∧ opnB base ws = true then mR f n base k false (clS true cs ws).1 (clS true cs ws).2.tail (op - 1) (p + 1)
      else if opnB base ws = true then .inl (1, p) else .inr ((clS true cs ws).1, (clS true cs ws).2, op, p) := rfl
theorem sgn_mul {c : Nat} (h : mulC c = true) : sgnN c = some (sgC c) ∧ 4 ≤ sgC c ∧ sgC c ≤ 6 := by
  unfold mulC at h
  simp only [Bool.or_eq_true, decide_eq_true_eq] at h
  rcases h with rfl | rfl | rfl <;> decide
theorem sgn_add {c : Nat} (h : addC c = true) : sgnN c = some (sgC c) ∧ 2 ≤ sgC c ∧ sgC c ≤ 3 := by
  unfold addC at h
  simp only [Bool.or_eq_true, decide_eq_true_eq] at h
  rcases h with rfl | rfl <;> decide
theorem sgn_none {c : Nat} (h1 : mulC c = false) (h2 : addC c = false) : sgnN c = none := by
  unfold mulC at h1; unfold addC at h2
  simp only [Bool.or_eq_false_iff, decide_eq_false_iff_not] at h1 h2
  unfold sgnN
  rw [if_neg h2.1, if_neg h2.2, if_neg h1.1, if_neg h1.2.1, if_neg h1.2.2]
theorem mul_add {c : Nat} (h : addC c = true) : mulC c = false := by
  unfold addC at h
  simp only [Bool.or_eq_true, decide_eq_true_eq] at h
  rcases h with rfl | rfl <;> decide
theorem clS_t {al : Bool} {x : Nat} {cs ws : List Nat} (h : clsB al x = true) : clS al cs (x :: ws) = clS al (cs ++ [UN * (x / UN)]) ws := if_pos h
theorem clS_f {al : Bool} {x : Nat} {cs ws : List Nat} (h : clsB al x = false) : clS al cs (x :: ws) = (cs, x :: ws) := if_neg (by rw [h]; decide)
theorem un_div (s : Nat) : UN * s / UN = s := Nat.mul_div_cancel_left s (by decide)
/-- the top waits for more than a sign: nothing of sums lies there -/
def topF (al : Bool) (ws : List Nat) : Prop := ∀ x t, ws = x :: t → clsB al x = false
theorem clS_top {al : Bool} {cs ws : List Nat} (h : topF al ws) : clS al cs ws = (cs, ws) := by
  cases ws with
  | nil => rfl
  | cons x t => exact clS_f (h x t rfl)
theorem topF_f {ws : List Nat} (h : topF true ws) : topF false ws := fun x t e => by
  have := h x t e
  unfold clsB at this ⊢
  simp only [Bool.or_eq_false_iff] at this
  rw [this.1]; rfl
theorem opnB_skip {base x : Nat} {ws : List Nat} (h : ¬ x / UN = 14) : opnB base (x :: ws) = opnB base ws := by
  show ((decide (base ≤ ws.length) && decide (x / UN = 14)) || opnB base ws) = _
  rw [decide_eq_false h, Bool.and_false, Bool.false_or]
section MRUN
variable {f : Nat → Int32} {n base k op p : Nat} {cs ws : List Nat}
/-- a sign that waits on top may be closed at once -/
theorem mR_mul {s : Nat} (h4 : 4 ≤ s) (h6 : s ≤ 6) : mR f n base k false cs (UN * s :: ws) op p = mR f n base k false (cs ++ [UN * s]) ws op p := by
  have hu := un_div s
  have hc : ∀ al, clsB al (UN * s) = true := fun al => by unfold clsB; rw [hu, decide_eq_true h4, decide_eq_true h6]; rfl
  have hs : ∀ al, clS al cs (UN * s :: ws) = clS al (cs ++ [UN * s]) ws := fun al => by rw [clS_t (hc al), hu]
  have ho : opnB base (UN * s :: ws) = opnB base ws := opnB_skip (by rw [hu]; omega)
  cases k with
  | zero => rfl
  | succ k => unfold mR; rw [hs, ho]; simp only [hs]
theorem mR_add {s : Nat} (h2 : 2 ≤ s) (h3 : s ≤ 3) (hm : mulC (ckN f n p) = false) : mR f n base k false cs (UN * s :: ws) op p = mR f n base k false (cs ++ [UN * s]) ws op p := by
  have hu := un_div s
  have hc : clsB true (UN * s) = true := by
    unfold clsB; rw [hu]
    rcases (show s = 2 ∨ s = 3 by omega) with rfl | rfl <;> rfl
  have hs : clS true cs (UN * s :: ws) = clS true (cs ++ [UN * s]) ws := by rw [clS_t hc, hu]
  have ho : opnB base (UN * s :: ws) = opnB base ws := opnB_skip (by rw [hu]; omega)
  cases k with
  | zero => rfl
  | succ k =>
    by_cases ha : addC (ckN f n p) = true
    · obtain ⟨e, a2, a3⟩ := sgn_add ha
      unfold mR; rw [e]; dsimp only
      rw [decide_eq_true (p := sgC (ckN f n p) < 4) (by omega), hs]
    · have e := sgn_none hm (by simpa using ha)
      unfold mR; rw [e]; dsimp only
      rw [hs, ho]
end MRUN
theorem nmL_b {f : Nat → Int32} {n : Nat} : ∀ b p v r, nmL f n b p v = .inr r → p ≤ r.2 ∧ r.2 ≤ p + b ∧ (p < r.2 → r.2 ≤ n) ∧ r.1 + 1 ≤ (v + 1) * 10 ^ b := by
  intro b
  induction b with
  | zero =>
    intro p v r h
    unfold nmL at h
    split at h
    · cases h
    · cases h; simp
  | succ b ih =>
    intro p v r h
    unfold nmL at h
    split at h
    · rename_i d
      obtain ⟨a1, a2, a3, -⟩ := digB_ck d
      have := ih (p + 1) _ r h
      have h10 : (10 * v + (ocN f p - 48) + 1) * 10 ^ b ≤ (10 * (v + 1)) * 10 ^ b := Nat.mul_le_mul_right _ (by omega)
      have e10 : (10 * (v + 1)) * 10 ^ b = (v + 1) * 10 ^ (b + 1) := by rw [Nat.pow_succ, Nat.mul_comm 10 (v + 1), Nat.mul_assoc, Nat.mul_comm 10 (10 ^ b)]
      refine ⟨by omega, by omega, fun _ => ?_, by omega⟩
      by_cases q : p + 1 < r.2
      · exact this.2.2.1 q
      · omega
    · cases h
      refine ⟨Nat.le_refl _, by omega, fun z => by omega, ?_⟩
      have : 1 ≤ 10 ^ (b + 1) := Nat.pow_pos (by decide)
      exact Nat.le_mul_of_pos_right _ this
theorem numL_b {f : Nat → Int32} {n p : Nat} {r : Nat × Nat} (hd : digB f n p = true) (h : numL f n p = .inr r) : p < r.2 ∧ r.2 ≤ n ∧ r.1 < 100000 := by
  unfold numL nmL at h
  rw [if_pos hd] at h
  obtain ⟨a1, a2, a3, -⟩ := digB_ck hd
  have h1 := nmL_b _ _ _ _ h
  have h2 : (10 * 0 + (ocN f p - 48) + 1) * 10 ^ 4 ≤ 10 * 10 ^ 4 := Nat.mul_le_mul_right _ (by omega)
  have h3 : r.1 + 1 ≤ 10 * 10 ^ 4 := Nat.le_trans h1.2.2.2 h2
  refine ⟨by omega, ?_, by omega⟩
  by_cases q : p + 1 < r.2
  · exact h1.2.2.1 q
  · omega
/-- what is in front of the fuel -/
def okF (n p fu : Nat) : Prop := 2 * (n + 1 - p) + 1 ≤ fu
theorem letN_lt {c i : Nat} (h : letN c = some i) : i < 9 ∧ c < 256 := by
  unfold letN at h
  repeat (split at h; (rename_i e; cases h; omega))
  cases h
section SIM
variable {f : Nat → Int32} {n base : Nat}
/-- the machine follows the descent: a factor (0), a product's rest (1), a sum's rest (2), a sum (3) -/
theorem mR_sim : ∀ k,
    (∀ op p a cs ws fu, p ≤ n → 2 * (n + 1 - p) + 1 ≤ fu → base ≤ ws.length → (∀ e, rdE f n k 0 op p a = .inl e → e.1 ≠ 0 → mR f n base fu true cs ws op p = .inl e) ∧ ∀ r, rdE f n k 0 op p a = .inr r → p < r.2 ∧ r.2 ≤ n ∧ ∃ fu', 2 * (n + 1 - r.2) + 2 ≤ fu' ∧ mR f n base fu true cs ws op p = mR f n base fu' false (cs ++ r.1.1) ws op r.2) ∧
    (∀ op p a cs ws fu, p ≤ n → 2 * (n + 1 - p) + 2 ≤ fu → base ≤ ws.length → topF false ws → (∀ e, rdE f n k 1 op p a = .inl e → e.1 ≠ 0 → mR f n base fu false (cs ++ a.1) ws op p = .inl e) ∧ ∀ r, rdE f n k 1 op p a = .inr r → p ≤ r.2 ∧ r.2 ≤ n ∧ mulC (ckN f n r.2) = false ∧ ∃ fu', 2 * (n + 1 - r.2) + 2 ≤ fu' ∧ mR f n base fu false (cs ++ a.1) ws op p = mR f n base fu' false (cs ++ r.1.1) ws op r.2) ∧
    (∀ op p a cs ws fu, p ≤ n → 2 * (n + 1 - p) + 2 ≤ fu → base ≤ ws.length → topF true ws → mulC (ckN f n p) = false → (∀ e, rdE f n k 2 op p a = .inl e → e.1 ≠ 0 → mR f n base fu false (cs ++ a.1) ws op p = .inl e) ∧ ∀ r, rdE f n k 2 op p a = .inr r → p ≤ r.2 ∧ r.2 ≤ n ∧ sgnN (ckN f n r.2) = none ∧ ∃ fu', 2 * (n + 1 - r.2) + 2 ≤ fu' ∧ mR f n base fu false (cs ++ a.1) ws op p = mR f n base fu' false (cs ++ r.1.1) ws op r.2) ∧
    (∀ op p a cs ws fu, p ≤ n → 2 * (n + 1 - p) + 1 ≤ fu → base ≤ ws.length → topF true ws → (∀ e, rdE f n k 3 op p a = .inl e → e.1 ≠ 0 → mR f n base fu true cs ws op p = .inl e) ∧ ∀ r, rdE f n k 3 op p a = .inr r → p < r.2 ∧ r.2 ≤ n ∧ sgnN (ckN f n r.2) = none ∧ ∃ fu', 2 * (n + 1 - r.2) + 2 ≤ fu' ∧ mR f n base fu true cs ws op p = mR f n base fu' false (cs ++ r.1.1) ws op r.2) := by
  intro k
  induction k with
  | zero => exact ⟨fun _ _ _ _ _ _ _ _ _ => ⟨fun e h h0 => (h0 (by cases h; rfl)).elim, fun r h => by cases h⟩, fun _ _ _ _ _ _ _ _ _ _ => ⟨fun e h h0 => (h0 (by cases h; rfl)).elim, fun r h => by cases h⟩, fun _ _ _ _ _ _ _ _ _ _ _ => ⟨fun e h h0 => (h0 (by cases h; rfl)).elim, fun r h => by cases h⟩, fun _ _ _ _ _ _ _ _ _ _ => ⟨fun e h h0 => (h0 (by cases h; rfl)).elim, fun r h => by cases h⟩⟩
  | succ k ih =>
    obtain ⟨i0, i1, i2, i3⟩ := ih
    refine ⟨fun op p a cs ws fu hp hf hb => ?_, fun op p a cs ws fu hp hf hb ht => ?_, fun op p a cs ws fu hp hf hb ht hm => ?_, fun op p a cs ws fu hp hf hb ht => ?_⟩
    · obtain ⟨g, rfl⟩ : ∃ g, fu = g + 1 := ⟨fu - 1, by omega⟩
      have hM : mR f n base (g + 1) true cs ws op p = if ckN f n p = 91 then (if op = 6 then .inl (5, p) else mR f n base g true cs (UN * 14 :: ws) (op + 1) (p + 1)) else if digB f n p = true then bW (numL f n p) (fun v => mR f n base g false (cs ++ [v.1]) ws op v.2) else match letN (ckN f n p) with
        | some i => mR f n base g false (cs ++ [UN + i]) ws op (p + 1)
        | none => .inl (1, p) := rfl
      have hR : rdE f n (k + 1) 0 op p a = if ckN f n p = 91 then (if op = 6 then .inl (5, p) else bW (rdE f n k 3 (op + 1) (p + 1) a) fun r => if ckN f n r.2 = 93 then .inr (r.1, r.2 + 1) else .inl (1, r.2)) else if digB f n p = true then bW (numL f n p) (fun v => .inr (([v.1], fun _ => some (nI v.1)), v.2)) else match letN (ckN f n p) with
        | some i => .inr (([UN + i], fun F => some (F i)), p + 1)
        | none => .inl (1, p) := rfl
      rw [hM, hR]
      by_cases h91 : ckN f n p = 91
      · have hpn := ckN_in (by decide) h91
        rw [if_pos h91, if_pos h91]
        by_cases h6 : op = 6
        · rw [if_pos h6, if_pos h6]; exact ⟨fun e h _ => (by cases h; rfl), fun r h => by cases h⟩
        · rw [if_neg h6, if_neg h6]
          have htop : topF true (UN * 14 :: ws) := fun x t e => by cases e; rfl
          obtain ⟨j1, j2⟩ := i3 (op + 1) (p + 1) a cs (UN * 14 :: ws) g (by omega) (by omega) (by show base ≤ ws.length + 1; omega) htop
          cases hq : rdE f n k 3 (op + 1) (p + 1) a with
          | inl e1 =>
            refine ⟨fun e h h0 => ?_, fun r h => by cases h⟩
            cases h; exact j1 _ hq h0
          | inr r1 =>
            obtain ⟨b1, b2, b3, fu', b4, b5⟩ := j2 r1 hq
            have hop : opnB base (UN * 14 :: ws) = true := by
              show ((decide (base ≤ ws.length) && decide (UN * 14 / UN = 14)) || opnB base ws) = true
              rw [decide_eq_true hb, un_div]; rfl
            obtain ⟨g', rfl⟩ : ∃ g, fu' = g + 1 := ⟨fu' - 1, by omega⟩
            have hM2 : mR f n base (g' + 1) false (cs ++ r1.1.1) (UN * 14 :: ws) (op + 1) r1.2 = if ckN f n r1.2 = 93 then mR f n base g' false (cs ++ r1.1.1) ws op (r1.2 + 1) else .inl (1, r1.2) := by
              rw [mR_S, b3]; dsimp only
              rw [clS_top htop, hop]
              by_cases h93 : ckN f n r1.2 = 93
              · rw [if_pos ⟨h93, rfl⟩, if_pos h93]; rfl
              · rw [if_neg (fun z => h93 z.1), if_neg h93]; rfl
            dsimp only [bW]
            rw [b5, hM2]
            by_cases h93 : ckN f n r1.2 = 93
            · have hn := ckN_in (by decide) h93
              rw [if_pos h93, if_pos h93]
              refine ⟨fun e h _ => (by cases h), fun r h => ?_⟩
              cases h
              exact ⟨by show p < r1.2 + 1; omega, by show r1.2 + 1 ≤ n; omega, g', by show 2 * (n + 1 - (r1.2 + 1)) + 2 ≤ g'; omega, rfl⟩
            · rw [if_neg h93, if_neg h93]
              exact ⟨fun e h _ => (by cases h; rfl), fun r h => by cases h⟩
      · rw [if_neg h91, if_neg h91]
        by_cases hd : digB f n p = true
        · rw [if_pos hd, if_pos hd]
          cases hv : numL f n p with
          | inl e1 => exact ⟨fun e h _ => (by cases h; rfl), fun r h => by cases h⟩
          | inr v =>
            have hb := numL_b hd hv
            refine ⟨fun e h _ => (by cases h), fun r h => ?_⟩
            cases h
            exact ⟨hb.1, hb.2.1, g, by show 2 * (n + 1 - v.2) + 2 ≤ g; omega, rfl⟩
        · rw [if_neg hd, if_neg hd]
          cases hl : letN (ckN f n p) with
          | none => exact ⟨fun e h _ => (by cases h; rfl), fun r h => by cases h⟩
          | some i =>
            have hpn : p < n := Nat.not_le.mp fun q => by have h9 := (letN_lt hl).2; rw [ckN_f (by omega)] at h9; omega
            refine ⟨fun e h _ => (by cases h), fun r h => ?_⟩
            cases h
            exact ⟨by show p < p + 1; omega, hpn, g, by show 2 * (n + 1 - (p + 1)) + 2 ≤ g; omega, rfl⟩
    · have hR : rdE f n (k + 1) 1 op p a = if mulC (ckN f n p) = true then bW (rdE f n k 0 op (p + 1) a) (fun r => rdE f n k 1 op r.2 (a.1 ++ r.1.1 ++ [UN * sgC (ckN f n p)], sgD (ckN f n p) a.2 r.1.2)) else .inr (a, p) := rfl
      rw [hR]
      by_cases hm : mulC (ckN f n p) = true
      · obtain ⟨e1, e2, e3⟩ := sgn_mul hm
        have hpn : p < n := Nat.not_le.mp fun q => by rw [ckN_f (by omega)] at hm; exact absurd hm (by decide)
        obtain ⟨g, rfl⟩ : ∃ g, fu = g + 1 := ⟨fu - 1, by omega⟩
        have hM : mR f n base (g + 1) false (cs ++ a.1) ws op p = mR f n base g true (cs ++ a.1) (UN * sgC (ckN f n p) :: ws) op (p + 1) := by
          rw [mR_S, e1]; dsimp only
          rw [decide_eq_false (p := sgC (ckN f n p) < 4) (by omega), clS_top ht]
        rw [if_pos hm, hM]
        obtain ⟨j1, j2⟩ := i0 op (p + 1) a (cs ++ a.1) (UN * sgC (ckN f n p) :: ws) g (by omega) (by omega) (by show base ≤ ws.length + 1; omega)
        cases hq : rdE f n k 0 op (p + 1) a with
        | inl e4 => exact ⟨fun e h h0 => (by cases h; exact j1 _ hq h0), fun r h => by cases h⟩
        | inr r1 =>
          obtain ⟨b1, b2, fu', b4, b5⟩ := j2 r1 hq
          rw [b5, mR_mul e2 e3]
          obtain ⟨l1, l2⟩ := i1 op r1.2 (a.1 ++ r1.1.1 ++ [UN * sgC (ckN f n p)], sgD (ckN f n p) a.2 r1.1.2) cs ws fu' b2 b4 hb ht
          have ec : cs ++ a.1 ++ r1.1.1 ++ [UN * sgC (ckN f n p)] = cs ++ (a.1 ++ r1.1.1 ++ [UN * sgC (ckN f n p)]) := by simp only [List.append_assoc]
          rw [ec]
          refine ⟨l1, fun r h => ?_⟩
          obtain ⟨c1, c2, c3, c4⟩ := l2 r h
          exact ⟨by omega, c2, c3, c4⟩
      · rw [if_neg hm]
        refine ⟨fun e h _ => (by cases h), fun r h => ?_⟩
        cases h
        exact ⟨Nat.le_refl _, hp, by simpa using hm, fu, hf, rfl⟩
    · have hR : rdE f n (k + 1) 2 op p a = if addC (ckN f n p) = true then bW (rdE f n k 0 op (p + 1) a) (fun r => bW (rdE f n k 1 op r.2 r.1) fun r2 => rdE f n k 2 op r2.2 (a.1 ++ r2.1.1 ++ [UN * sgC (ckN f n p)], sgD (ckN f n p) a.2 r2.1.2)) else .inr (a, p) := rfl
      rw [hR]
      by_cases ha : addC (ckN f n p) = true
      · obtain ⟨e1, e2, e3⟩ := sgn_add ha
        have hpn : p < n := Nat.not_le.mp fun q => by rw [ckN_f (by omega)] at ha; exact absurd ha (by decide)
        obtain ⟨g, rfl⟩ : ∃ g, fu = g + 1 := ⟨fu - 1, by omega⟩
        have hM : mR f n base (g + 1) false (cs ++ a.1) ws op p = mR f n base g true (cs ++ a.1) (UN * sgC (ckN f n p) :: ws) op (p + 1) := by
          rw [mR_S, e1]; dsimp only
          rw [decide_eq_true (p := sgC (ckN f n p) < 4) (by omega), clS_top ht]
        rw [if_pos ha, hM]
        obtain ⟨j1, j2⟩ := i0 op (p + 1) a (cs ++ a.1) (UN * sgC (ckN f n p) :: ws) g (by omega) (by omega) (by show base ≤ ws.length + 1; omega)
        cases hq : rdE f n k 0 op (p + 1) a with
        | inl e4 => exact ⟨fun e h h0 => (by cases h; exact j1 _ hq h0), fun r h => by cases h⟩
        | inr r1 =>
          obtain ⟨b1, b2, fu', b4, b5⟩ := j2 r1 hq
          have htf : topF false (UN * sgC (ckN f n p) :: ws) := fun x t e => by
            cases e
            unfold clsB; rw [un_div, decide_eq_false (p := 4 ≤ sgC (ckN f n p)) (by omega)]; rfl
          obtain ⟨l1, l2⟩ := i1 op r1.2 r1.1 (cs ++ a.1) (UN * sgC (ckN f n p) :: ws) fu' b2 b4 (by show base ≤ ws.length + 1; omega) htf
          rw [b5]
          dsimp only [bW]
          cases hq2 : rdE f n k 1 op r1.2 r1.1 with
          | inl e4 => exact ⟨fun e h h0 => (by cases h; exact l1 _ hq2 h0), fun r h => by cases h⟩
          | inr r2 =>
            obtain ⟨c1, c2, c3, fu2, c4, c5⟩ := l2 r2 hq2
            rw [c5, mR_add e2 e3 c3]
            obtain ⟨m1, m2⟩ := i2 op r2.2 (a.1 ++ r2.1.1 ++ [UN * sgC (ckN f n p)], sgD (ckN f n p) a.2 r2.1.2) cs ws fu2 c2 c4 hb ht c3
            have ec : cs ++ a.1 ++ r2.1.1 ++ [UN * sgC (ckN f n p)] = cs ++ (a.1 ++ r2.1.1 ++ [UN * sgC (ckN f n p)]) := by simp only [List.append_assoc]
            rw [ec]
            refine ⟨m1, fun r h => ?_⟩
            obtain ⟨d1, d2, d3, d4⟩ := m2 r h
            exact ⟨by omega, d2, d3, d4⟩
      · rw [if_neg ha]
        refine ⟨fun e h _ => (by cases h), fun r h => ?_⟩
        cases h
        exact ⟨Nat.le_refl _, hp, sgn_none hm (by simpa using ha), fu, hf, rfl⟩
    · have hR : rdE f n (k + 1) 3 op p a = bW (rdE f n k 0 op p a) (fun r => bW (rdE f n k 1 op r.2 r.1) fun r2 => rdE f n k 2 op r2.2 r2.1) := rfl
      rw [hR]
      obtain ⟨j1, j2⟩ := i0 op p a cs ws fu hp hf hb
      cases hq : rdE f n k 0 op p a with
      | inl e4 => exact ⟨fun e h h0 => (by cases h; exact j1 _ hq h0), fun r h => by cases h⟩
      | inr r1 =>
        obtain ⟨b1, b2, fu', b4, b5⟩ := j2 r1 hq
        obtain ⟨l1, l2⟩ := i1 op r1.2 r1.1 cs ws fu' b2 b4 hb (topF_f ht)
        rw [b5]
        dsimp only [bW]
        cases hq2 : rdE f n k 1 op r1.2 r1.1 with
        | inl e4 => exact ⟨fun e h h0 => (by cases h; exact l1 _ hq2 h0), fun r h => by cases h⟩
        | inr r2 =>
          obtain ⟨c1, c2, c3, fu2, c4, c5⟩ := l2 r2 hq2
          rw [c5]
          obtain ⟨m1, m2⟩ := i2 op r2.2 r2.1 cs ws fu2 c2 c4 hb ht c3
          refine ⟨m1, fun r h => ?_⟩
          obtain ⟨d1, d2, d3, d4⟩ := m2 r h
          exact ⟨by omega, d2, d3, d4⟩
end SIM
