set_option maxRecDepth 100000
/-! what codes come to -/
def reckS (op x y : Int32) : Int32 := if op = 2 then x + y else if op = 3 then x - y else if op = 4 then x * y else if op = 5 then x / y else if op = 6 then remI x y else if op = 7 then (if x < y then 1 else 0) else if op = 8 then (if y < x then 1 else 0) else if x = y then 1 else 0
def rkS (cd : Nat → Nat) (F : Nat → Int32) (to : Nat) : Nat → Nat → Nat → (Nat → Int32) → Option Int32
  | 0, _, _, _ => none
  | f + 1, k, n, g =>
    if to ≤ k then some (g 0) else
    if cd k / 1048576 = 0 then (if n < 260 then rkS cd F to f (k + 1) (n + 1) (upd g n (nI (cd k % 1048576))) else none) else
    if cd k / 1048576 = 1 then (if n < 260 ∧ cd k % 1048576 < 9 then rkS cd F to f (k + 1) (n + 1) (upd g n (F (cd k % 1048576))) else none) else
    if cd k / 1048576 = 10 then (if 1 ≤ n ∧ n ≤ 260 then rkS cd F to f (k + 1) n (upd g (n - 1) (1 - g (n - 1))) else none) else
    if cd k / 1048576 = 11 ∨ cd k / 1048576 = 12 then (if 1 ≤ n ∧ n ≤ 260 then (if g (n - 1) = (if cd k / 1048576 = 12 then 1 else 0) then rkS cd F to f (cd k % 1048576) n g else rkS cd F to f (k + 1) (n - 1) g) else none) else
    if 2 ≤ n ∧ n ≤ 260 then (if (cd k / 1048576 = 5 ∨ cd k / 1048576 = 6) ∧ g (n - 1) = 0 then some 0 else rkS cd F to f (k + 1) (n - 1) (upd g (n - 2) (reckS (nI (cd k / 1048576)) (g (n - 2)) (g (n - 1))))) else none
section RK
variable {cd : Nat → Nat} {F : Nat → Int32} {to f k n : Nat} {g : Nat → Int32} {r : Int32}
theorem rk_pos {fu : Nat} (h : rkS cd F to fu k n g = some r) : ∃ f, fu = f + 1 := by
  cases fu with
  | zero => cases h
  | succ f => exact ⟨f, rfl⟩
theorem rk_end (h : rkS cd F to (f + 1) k n g = some r) (hk : to ≤ k) : r = g 0 := by
  unfold rkS at h; rw [if_pos hk] at h; exact (Option.some.inj h).symm
theorem rk_num (h : rkS cd F to (f + 1) k n g = some r) (hk : ¬ to ≤ k) (ho : cd k / 1048576 = 0) : n < 260 ∧ rkS cd F to f (k + 1) (n + 1) (upd g n (nI (cd k % 1048576))) = some r := by
  unfold rkS at h; rw [if_neg hk, if_pos ho] at h
  split at h
  · next q => exact ⟨q, h⟩
  · cases h
theorem rk_let (h : rkS cd F to (f + 1) k n g = some r) (hk : ¬ to ≤ k) (ho : cd k / 1048576 = 1) : (n < 260 ∧ cd k % 1048576 < 9) ∧ rkS cd F to f (k + 1) (n + 1) (upd g n (F (cd k % 1048576))) = some r := by
  unfold rkS at h; rw [if_neg hk, if_neg (by omega), if_pos ho] at h
  split at h
  · next q => exact ⟨q, h⟩
  · cases h
theorem rk_not (h : rkS cd F to (f + 1) k n g = some r) (hk : ¬ to ≤ k) (ho : cd k / 1048576 = 10) : (1 ≤ n ∧ n ≤ 260) ∧ rkS cd F to f (k + 1) n (upd g (n - 1) (1 - g (n - 1))) = some r := by
  unfold rkS at h; rw [if_neg hk, if_neg (by omega), if_neg (by omega), if_pos ho] at h
  split at h
  · next q => exact ⟨q, h⟩
  · cases h
theorem rk_if (h : rkS cd F to (f + 1) k n g = some r) (hk : ¬ to ≤ k) (ho : cd k / 1048576 = 11 ∨ cd k / 1048576 = 12) : (1 ≤ n ∧ n ≤ 260) ∧ (if g (n - 1) = (if cd k / 1048576 = 12 then 1 else 0) then rkS cd F to f (cd k % 1048576) n g else rkS cd F to f (k + 1) (n - 1) g) = some r := by
  unfold rkS at h; rw [if_neg hk, if_neg (by omega), if_neg (by omega), if_neg (by omega), if_pos ho] at h
  split at h
  · next q => exact ⟨q, h⟩
  · cases h
theorem rk_bin (h : rkS cd F to (f + 1) k n g = some r) (hk : ¬ to ≤ k) (h0 : ¬ cd k / 1048576 = 0) (h1 : ¬ cd k / 1048576 = 1) (h10 : ¬ cd k / 1048576 = 10) (h11 : ¬ cd k / 1048576 = 11) (h12 : ¬ cd k / 1048576 = 12) : (2 ≤ n ∧ n ≤ 260) ∧ (if (cd k / 1048576 = 5 ∨ cd k / 1048576 = 6) ∧ g (n - 1) = 0 then some 0 else rkS cd F to f (k + 1) (n - 1) (upd g (n - 2) (reckS (nI (cd k / 1048576)) (g (n - 2)) (g (n - 1))))) = some r := by
  unfold rkS at h; rw [if_neg hk, if_neg h0, if_neg h1, if_neg h10, if_neg (by omega)] at h
  split at h
  · next q => exact ⟨q, h⟩
  · cases h
end RK
/-- a law as it is asked: how many clauses, their letters, what they tell of facts, whether they hold -/
abbrev LW : Type := Nat × (Nat → Int32) × (Nat → (Nat → Int32) → Int32) × (Nat → (Nat → Int32) → Bool)
/-- the first clause of a letter that holds -/
def findW (W : LW) (c : Int32) (F : Nat → Int32) : Nat → Nat → Option Nat
  | 0, _ => none
  | m + 1, q => if W.2.1 q = c ∧ W.2.2.2 q F = true then some q else findW W c F m (q + 1)
theorem findW_t {W : LW} {c : Int32} {F : Nat → Int32} {q n : Nat} (hq : q < n) (h : W.2.1 q = c) (h2 : W.2.2.2 q F = true) : findW W c F (n - q) q = some q := by
  obtain ⟨m, hm⟩ : ∃ m, n - q = m + 1 := ⟨n - q - 1, by omega⟩
  rw [hm]; show (if _ then _ else _) = _; rw [if_pos ⟨h, h2⟩]
theorem findW_f {W : LW} {c : Int32} {F : Nat → Int32} {q n : Nat} (hq : q < n) (h : ¬ (W.2.1 q = c ∧ W.2.2.2 q F = true)) : findW W c F (n - q) q = findW W c F (n - (q + 1)) (q + 1) := by
  obtain ⟨m, hm⟩ : ∃ m, n - q = m + 1 := ⟨n - q - 1, by omega⟩
  have h2 : n - (q + 1) = m := by omega
  rw [hm, h2]; show (if _ then _ else _) = _; rw [if_neg h]
theorem findW_e {W : LW} {c : Int32} {F : Nat → Int32} {q n : Nat} (hq : n ≤ q) : findW W c F (n - q) q = none := by rw [Nat.sub_eq_zero_of_le hq]; rfl
def byLawS (W : LW) (c hi wo : Int32) (F : Nat → Int32) : Int32 := match findW W c F W.1 0 with
  | none => wo
  | some q => if W.2.2.1 q F < 0 then 0 else if hi < W.2.2.1 q F then hi else W.2.2.1 q F
def anyS (W : LW) (c : Int32) (F : Nat → Int32) : Bool := (findW W c F W.1 0).isSome
/-- the reference's codes are that law -/
def codesOK (u : MS) (W : LW) : Prop := u.1 20 = nI W.1 ∧ W.1 ≤ 16 ∧ ∃ cd : Nat → Nat, ∃ fr hf to : Nat → Nat, (∀ k, k < 260 → u.2.1 27 k = nI (cd k) ∧ cd k < 2 ^ 31) ∧ ∀ q, q < W.1 → u.2.1 28 q = W.2.1 q ∧ u.2.1 29 q = nI (fr q) ∧ u.2.1 30 q = nI (hf q) ∧ u.2.1 31 q = nI (to q) ∧ fr q ≤ 240 ∧ hf q ≤ 240 ∧ to q ≤ 240 ∧
  (∀ F g, ∃ fu r, rkS cd F (to q) fu (hf q) 0 g = some r ∧ W.2.2.2 q F = decide (r = 1)) ∧ (¬ W.2.1 q = 120 → ∀ F g, ∃ fu, rkS cd F (hf q) fu (fr q) 0 g = some (W.2.2.1 q F))
def fctU (f : Nat → Int32) (h t d wh br cr dy sn : Int32) : Nat → Int32 := upd (upd (upd (upd (upd (upd (upd (upd (upd f 0 h) 1 (if wh = -1 then 16 else wh)) 2 t) 3 (if wh = -1 then 0 else abI (h - wh))) 4 (bitsI sn)) 5 (bitsI br)) 6 (remI cr 100)) 7 (remI dy 100)) 8 d
theorem byLawS_t {W : LW} {c hi wo : Int32} {F : Nat → Int32} {q : Nat} (h : findW W c F W.1 0 = some q) : byLawS W c hi wo F = if W.2.2.1 q F < 0 then 0 else if hi < W.2.2.1 q F then hi else W.2.2.1 q F := by unfold byLawS; rw [h]
theorem byLawS_n {W : LW} {c hi wo : Int32} {F : Nat → Int32} (h : findW W c F W.1 0 = none) : byLawS W c hi wo F = wo := by unfold byLawS; rw [h]
theorem mA_S (u : MS) (k i : Nat) (x : Int32) : mA u k i x = mS u k (upd (u.2.1 k) i x) := by
  have h := mS_A u k i (u.2.1 k) x
  rw [mS_self] at h; exact h
theorem mA9 (u : MS) (x0 x1 x2 x3 x4 x5 x6 x7 x8 : Int32) : mA (mA (mA (mA (mA (mA (mA (mA (mA u 33 0 x0) 33 1 x1) 33 2 x2) 33 3 x3) 33 4 x4) 33 5 x5) 33 6 x6) 33 7 x7) 33 8 x8 = mS u 33 (upd (upd (upd (upd (upd (upd (upd (upd (upd (u.2.1 33) 0 x0) 1 x1) 2 x2) 3 x3) 4 x4) 5 x5) 6 x6) 7 x7) 8 x8) := by
  rw [mA_S u 33 0 x0, mS_A, mS_A, mS_A, mS_A, mS_A, mS_A, mS_A, mS_A]
def dM (u : MS) (v50 : Int32) (a0 : Nat → Int32) (a32 : Nat → Int32) (a33 : Nat → Int32) : MS := (fun k => if k = 50 then v50 else u.1 k, fun k => if k = 0 then a0 else if k = 32 then a32 else if k = 33 then a33 else u.2.1 k, u.2.2)
theorem dM_self (u : MS) : dM u (u.1 50) (u.2.1 0) (u.2.1 32) (u.2.1 33) = u := by
  refine Prod.ext ?_ (Prod.ext ?_ rfl) <;> (funext k; simp only [dM]; (repeat' split) <;> first | rfl | (subst_vars; rfl) | (exfalso; omega) | simp_all)
theorem dM_again (u : MS) (v50 : Int32) (a0 : Nat → Int32) (a32 : Nat → Int32) (a33 : Nat → Int32) (w50 : Int32) (b0 : Nat → Int32) (b32 : Nat → Int32) (b33 : Nat → Int32) : dM (dM u v50 a0 a32 a33) w50 b0 b32 b33 = dM u w50 b0 b32 b33 := by
  refine Prod.ext ?_ (Prod.ext ?_ rfl) <;> (funext k; simp only [dM]; (repeat' split) <;> first | rfl | (subst_vars; rfl) | (exfalso; omega) | simp_all)
theorem dM_V50 (u : MS) (v50 : Int32) (a0 : Nat → Int32) (a32 : Nat → Int32) (a33 : Nat → Int32) (x : Int32) : mV (dM u v50 a0 a32 a33) 50 x = dM u x a0 a32 a33 := by
  refine Prod.ext ?_ rfl; funext k; simp only [dM, mV, upd]; (repeat' split) <;> first | rfl | (subst_vars; rfl) | (exfalso; omega) | simp_all
theorem dM_A0 (u : MS) (v50 : Int32) (a0 : Nat → Int32) (a32 : Nat → Int32) (a33 : Nat → Int32) (i : Nat) (x : Int32) : mA (dM u v50 a0 a32 a33) 0 i x = dM u v50 (upd a0 i x) a32 a33 := by
  refine Prod.ext rfl (Prod.ext ?_ rfl); funext k; simp only [dM, mA, upd2]; (repeat' split) <;> first | rfl | (subst_vars; rfl) | (exfalso; omega) | simp_all
theorem dM_S0 (u : MS) (v50 : Int32) (a0 : Nat → Int32) (a32 : Nat → Int32) (a33 : Nat → Int32) (x : Nat → Int32) : mS (dM u v50 a0 a32 a33) 0 x = dM u v50 x a32 a33 := by
  refine Prod.ext rfl (Prod.ext ?_ rfl); funext k; simp only [dM, mS]; (repeat' split) <;> first | rfl | (subst_vars; rfl) | (exfalso; omega) | simp_all
theorem dM_A32 (u : MS) (v50 : Int32) (a0 : Nat → Int32) (a32 : Nat → Int32) (a33 : Nat → Int32) (i : Nat) (x : Int32) : mA (dM u v50 a0 a32 a33) 32 i x = dM u v50 a0 (upd a32 i x) a33 := by
  refine Prod.ext rfl (Prod.ext ?_ rfl); funext k; simp only [dM, mA, upd2]; (repeat' split) <;> first | rfl | (subst_vars; rfl) | (exfalso; omega) | simp_all
theorem dM_S32 (u : MS) (v50 : Int32) (a0 : Nat → Int32) (a32 : Nat → Int32) (a33 : Nat → Int32) (x : Nat → Int32) : mS (dM u v50 a0 a32 a33) 32 x = dM u v50 a0 x a33 := by
  refine Prod.ext rfl (Prod.ext ?_ rfl); funext k; simp only [dM, mS]; (repeat' split) <;> first | rfl | (subst_vars; rfl) | (exfalso; omega) | simp_all
theorem dM_A33 (u : MS) (v50 : Int32) (a0 : Nat → Int32) (a32 : Nat → Int32) (a33 : Nat → Int32) (i : Nat) (x : Int32) : mA (dM u v50 a0 a32 a33) 33 i x = dM u v50 a0 a32 (upd a33 i x) := by
  refine Prod.ext rfl (Prod.ext ?_ rfl); funext k; simp only [dM, mA, upd2]; (repeat' split) <;> first | rfl | (subst_vars; rfl) | (exfalso; omega) | simp_all
theorem dM_S33 (u : MS) (v50 : Int32) (a0 : Nat → Int32) (a32 : Nat → Int32) (a33 : Nat → Int32) (x : Nat → Int32) : mS (dM u v50 a0 a32 a33) 33 x = dM u v50 a0 a32 x := by
  refine Prod.ext rfl (Prod.ext ?_ rfl); funext k; simp only [dM, mS]; (repeat' split) <;> first | rfl | (subst_vars; rfl) | (exfalso; omega) | simp_all
theorem dM_g0 (u : MS) (v50 : Int32) (a0 : Nat → Int32) (a32 : Nat → Int32) (a33 : Nat → Int32) : (dM u v50 a0 a32 a33).2.1 0 = a0 := rfl
theorem dM_g1 (u : MS) (v50 : Int32) (a0 : Nat → Int32) (a32 : Nat → Int32) (a33 : Nat → Int32) : (dM u v50 a0 a32 a33).2.1 1 = (u.2.1 1) := rfl
theorem dM_g2 (u : MS) (v50 : Int32) (a0 : Nat → Int32) (a32 : Nat → Int32) (a33 : Nat → Int32) : (dM u v50 a0 a32 a33).2.1 2 = (u.2.1 2) := rfl
theorem dM_g3 (u : MS) (v50 : Int32) (a0 : Nat → Int32) (a32 : Nat → Int32) (a33 : Nat → Int32) : (dM u v50 a0 a32 a33).2.1 3 = (u.2.1 3) := rfl
theorem dM_g4 (u : MS) (v50 : Int32) (a0 : Nat → Int32) (a32 : Nat → Int32) (a33 : Nat → Int32) : (dM u v50 a0 a32 a33).2.1 4 = (u.2.1 4) := rfl
theorem dM_g5 (u : MS) (v50 : Int32) (a0 : Nat → Int32) (a32 : Nat → Int32) (a33 : Nat → Int32) : (dM u v50 a0 a32 a33).2.1 5 = (u.2.1 5) := rfl
theorem dM_g6 (u : MS) (v50 : Int32) (a0 : Nat → Int32) (a32 : Nat → Int32) (a33 : Nat → Int32) : (dM u v50 a0 a32 a33).2.1 6 = (u.2.1 6) := rfl
theorem dM_g7 (u : MS) (v50 : Int32) (a0 : Nat → Int32) (a32 : Nat → Int32) (a33 : Nat → Int32) : (dM u v50 a0 a32 a33).2.1 7 = (u.2.1 7) := rfl
theorem dM_f8 (u : MS) (v50 : Int32) (a0 : Nat → Int32) (a32 : Nat → Int32) (a33 : Nat → Int32) : (dM u v50 a0 a32 a33).1 8 = (u.1 8) := rfl
theorem dM_f9 (u : MS) (v50 : Int32) (a0 : Nat → Int32) (a32 : Nat → Int32) (a33 : Nat → Int32) : (dM u v50 a0 a32 a33).1 9 = (u.1 9) := rfl
theorem dM_g10 (u : MS) (v50 : Int32) (a0 : Nat → Int32) (a32 : Nat → Int32) (a33 : Nat → Int32) : (dM u v50 a0 a32 a33).2.1 10 = (u.2.1 10) := rfl
theorem dM_f11 (u : MS) (v50 : Int32) (a0 : Nat → Int32) (a32 : Nat → Int32) (a33 : Nat → Int32) : (dM u v50 a0 a32 a33).1 11 = (u.1 11) := rfl
theorem dM_f12 (u : MS) (v50 : Int32) (a0 : Nat → Int32) (a32 : Nat → Int32) (a33 : Nat → Int32) : (dM u v50 a0 a32 a33).1 12 = (u.1 12) := rfl
theorem dM_f13 (u : MS) (v50 : Int32) (a0 : Nat → Int32) (a32 : Nat → Int32) (a33 : Nat → Int32) : (dM u v50 a0 a32 a33).1 13 = (u.1 13) := rfl
theorem dM_f14 (u : MS) (v50 : Int32) (a0 : Nat → Int32) (a32 : Nat → Int32) (a33 : Nat → Int32) : (dM u v50 a0 a32 a33).1 14 = (u.1 14) := rfl
theorem dM_f15 (u : MS) (v50 : Int32) (a0 : Nat → Int32) (a32 : Nat → Int32) (a33 : Nat → Int32) : (dM u v50 a0 a32 a33).1 15 = (u.1 15) := rfl
theorem dM_f16 (u : MS) (v50 : Int32) (a0 : Nat → Int32) (a32 : Nat → Int32) (a33 : Nat → Int32) : (dM u v50 a0 a32 a33).1 16 = (u.1 16) := rfl
theorem dM_f17 (u : MS) (v50 : Int32) (a0 : Nat → Int32) (a32 : Nat → Int32) (a33 : Nat → Int32) : (dM u v50 a0 a32 a33).1 17 = (u.1 17) := rfl
theorem dM_f18 (u : MS) (v50 : Int32) (a0 : Nat → Int32) (a32 : Nat → Int32) (a33 : Nat → Int32) : (dM u v50 a0 a32 a33).1 18 = (u.1 18) := rfl
theorem dM_f19 (u : MS) (v50 : Int32) (a0 : Nat → Int32) (a32 : Nat → Int32) (a33 : Nat → Int32) : (dM u v50 a0 a32 a33).1 19 = (u.1 19) := rfl
theorem dM_f20 (u : MS) (v50 : Int32) (a0 : Nat → Int32) (a32 : Nat → Int32) (a33 : Nat → Int32) : (dM u v50 a0 a32 a33).1 20 = (u.1 20) := rfl
theorem dM_g21 (u : MS) (v50 : Int32) (a0 : Nat → Int32) (a32 : Nat → Int32) (a33 : Nat → Int32) : (dM u v50 a0 a32 a33).2.1 21 = (u.2.1 21) := rfl
theorem dM_g22 (u : MS) (v50 : Int32) (a0 : Nat → Int32) (a32 : Nat → Int32) (a33 : Nat → Int32) : (dM u v50 a0 a32 a33).2.1 22 = (u.2.1 22) := rfl
theorem dM_g23 (u : MS) (v50 : Int32) (a0 : Nat → Int32) (a32 : Nat → Int32) (a33 : Nat → Int32) : (dM u v50 a0 a32 a33).2.1 23 = (u.2.1 23) := rfl
theorem dM_g24 (u : MS) (v50 : Int32) (a0 : Nat → Int32) (a32 : Nat → Int32) (a33 : Nat → Int32) : (dM u v50 a0 a32 a33).2.1 24 = (u.2.1 24) := rfl
theorem dM_g25 (u : MS) (v50 : Int32) (a0 : Nat → Int32) (a32 : Nat → Int32) (a33 : Nat → Int32) : (dM u v50 a0 a32 a33).2.1 25 = (u.2.1 25) := rfl
theorem dM_g26 (u : MS) (v50 : Int32) (a0 : Nat → Int32) (a32 : Nat → Int32) (a33 : Nat → Int32) : (dM u v50 a0 a32 a33).2.1 26 = (u.2.1 26) := rfl
theorem dM_g27 (u : MS) (v50 : Int32) (a0 : Nat → Int32) (a32 : Nat → Int32) (a33 : Nat → Int32) : (dM u v50 a0 a32 a33).2.1 27 = (u.2.1 27) := rfl
theorem dM_g28 (u : MS) (v50 : Int32) (a0 : Nat → Int32) (a32 : Nat → Int32) (a33 : Nat → Int32) : (dM u v50 a0 a32 a33).2.1 28 = (u.2.1 28) := rfl
theorem dM_g29 (u : MS) (v50 : Int32) (a0 : Nat → Int32) (a32 : Nat → Int32) (a33 : Nat → Int32) : (dM u v50 a0 a32 a33).2.1 29 = (u.2.1 29) := rfl
theorem dM_g30 (u : MS) (v50 : Int32) (a0 : Nat → Int32) (a32 : Nat → Int32) (a33 : Nat → Int32) : (dM u v50 a0 a32 a33).2.1 30 = (u.2.1 30) := rfl
theorem dM_g31 (u : MS) (v50 : Int32) (a0 : Nat → Int32) (a32 : Nat → Int32) (a33 : Nat → Int32) : (dM u v50 a0 a32 a33).2.1 31 = (u.2.1 31) := rfl
theorem dM_g32 (u : MS) (v50 : Int32) (a0 : Nat → Int32) (a32 : Nat → Int32) (a33 : Nat → Int32) : (dM u v50 a0 a32 a33).2.1 32 = a32 := rfl
theorem dM_g33 (u : MS) (v50 : Int32) (a0 : Nat → Int32) (a32 : Nat → Int32) (a33 : Nat → Int32) : (dM u v50 a0 a32 a33).2.1 33 = a33 := rfl
theorem dM_g34 (u : MS) (v50 : Int32) (a0 : Nat → Int32) (a32 : Nat → Int32) (a33 : Nat → Int32) : (dM u v50 a0 a32 a33).2.1 34 = (u.2.1 34) := rfl
theorem dM_g35 (u : MS) (v50 : Int32) (a0 : Nat → Int32) (a32 : Nat → Int32) (a33 : Nat → Int32) : (dM u v50 a0 a32 a33).2.1 35 = (u.2.1 35) := rfl
theorem dM_g36 (u : MS) (v50 : Int32) (a0 : Nat → Int32) (a32 : Nat → Int32) (a33 : Nat → Int32) : (dM u v50 a0 a32 a33).2.1 36 = (u.2.1 36) := rfl
theorem dM_g37 (u : MS) (v50 : Int32) (a0 : Nat → Int32) (a32 : Nat → Int32) (a33 : Nat → Int32) : (dM u v50 a0 a32 a33).2.1 37 = (u.2.1 37) := rfl
theorem dM_f38 (u : MS) (v50 : Int32) (a0 : Nat → Int32) (a32 : Nat → Int32) (a33 : Nat → Int32) : (dM u v50 a0 a32 a33).1 38 = (u.1 38) := rfl
theorem dM_f39 (u : MS) (v50 : Int32) (a0 : Nat → Int32) (a32 : Nat → Int32) (a33 : Nat → Int32) : (dM u v50 a0 a32 a33).1 39 = (u.1 39) := rfl
theorem dM_f40 (u : MS) (v50 : Int32) (a0 : Nat → Int32) (a32 : Nat → Int32) (a33 : Nat → Int32) : (dM u v50 a0 a32 a33).1 40 = (u.1 40) := rfl
theorem dM_g41 (u : MS) (v50 : Int32) (a0 : Nat → Int32) (a32 : Nat → Int32) (a33 : Nat → Int32) : (dM u v50 a0 a32 a33).2.1 41 = (u.2.1 41) := rfl
theorem dM_g42 (u : MS) (v50 : Int32) (a0 : Nat → Int32) (a32 : Nat → Int32) (a33 : Nat → Int32) : (dM u v50 a0 a32 a33).2.1 42 = (u.2.1 42) := rfl
theorem dM_g43 (u : MS) (v50 : Int32) (a0 : Nat → Int32) (a32 : Nat → Int32) (a33 : Nat → Int32) : (dM u v50 a0 a32 a33).2.1 43 = (u.2.1 43) := rfl
theorem dM_g44 (u : MS) (v50 : Int32) (a0 : Nat → Int32) (a32 : Nat → Int32) (a33 : Nat → Int32) : (dM u v50 a0 a32 a33).2.1 44 = (u.2.1 44) := rfl
theorem dM_g45 (u : MS) (v50 : Int32) (a0 : Nat → Int32) (a32 : Nat → Int32) (a33 : Nat → Int32) : (dM u v50 a0 a32 a33).2.1 45 = (u.2.1 45) := rfl
theorem dM_f46 (u : MS) (v50 : Int32) (a0 : Nat → Int32) (a32 : Nat → Int32) (a33 : Nat → Int32) : (dM u v50 a0 a32 a33).1 46 = (u.1 46) := rfl
theorem dM_f47 (u : MS) (v50 : Int32) (a0 : Nat → Int32) (a32 : Nat → Int32) (a33 : Nat → Int32) : (dM u v50 a0 a32 a33).1 47 = (u.1 47) := rfl
theorem dM_f48 (u : MS) (v50 : Int32) (a0 : Nat → Int32) (a32 : Nat → Int32) (a33 : Nat → Int32) : (dM u v50 a0 a32 a33).1 48 = (u.1 48) := rfl
theorem dM_f49 (u : MS) (v50 : Int32) (a0 : Nat → Int32) (a32 : Nat → Int32) (a33 : Nat → Int32) : (dM u v50 a0 a32 a33).1 49 = (u.1 49) := rfl
theorem dM_f50 (u : MS) (v50 : Int32) (a0 : Nat → Int32) (a32 : Nat → Int32) (a33 : Nat → Int32) : (dM u v50 a0 a32 a33).1 50 = v50 := rfl
theorem dM_g51 (u : MS) (v50 : Int32) (a0 : Nat → Int32) (a32 : Nat → Int32) (a33 : Nat → Int32) : (dM u v50 a0 a32 a33).2.1 51 = (u.2.1 51) := rfl
theorem dM_g52 (u : MS) (v50 : Int32) (a0 : Nat → Int32) (a32 : Nat → Int32) (a33 : Nat → Int32) : (dM u v50 a0 a32 a33).2.1 52 = (u.2.1 52) := rfl
theorem dM_g53 (u : MS) (v50 : Int32) (a0 : Nat → Int32) (a32 : Nat → Int32) (a33 : Nat → Int32) : (dM u v50 a0 a32 a33).2.1 53 = (u.2.1 53) := rfl
theorem dM_g54 (u : MS) (v50 : Int32) (a0 : Nat → Int32) (a32 : Nat → Int32) (a33 : Nat → Int32) : (dM u v50 a0 a32 a33).2.1 54 = (u.2.1 54) := rfl
theorem dM_g55 (u : MS) (v50 : Int32) (a0 : Nat → Int32) (a32 : Nat → Int32) (a33 : Nat → Int32) : (dM u v50 a0 a32 a33).2.1 55 = (u.2.1 55) := rfl
theorem dM_g56 (u : MS) (v50 : Int32) (a0 : Nat → Int32) (a32 : Nat → Int32) (a33 : Nat → Int32) : (dM u v50 a0 a32 a33).2.1 56 = (u.2.1 56) := rfl
theorem dM_f59 (u : MS) (v50 : Int32) (a0 : Nat → Int32) (a32 : Nat → Int32) (a33 : Nat → Int32) : (dM u v50 a0 a32 a33).1 59 = (u.1 59) := rfl
theorem dM_f60 (u : MS) (v50 : Int32) (a0 : Nat → Int32) (a32 : Nat → Int32) (a33 : Nat → Int32) : (dM u v50 a0 a32 a33).1 60 = (u.1 60) := rfl
