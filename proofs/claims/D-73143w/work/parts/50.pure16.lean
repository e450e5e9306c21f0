set_option maxRecDepth 100000
/-! S: pure facts of the small methods -/
theorem bI_fit (b : Bool) : fits .boolean (.int (bI b)) = true := by cases b <;> rfl
theorem or0 (x : Int32) : x ||| 0 = x := b_ext (fun i _ => by rw [b_or, b_0, Bool.or_false])
theorem add0 (x : Int32) : x + 0 = x := Int32.add_zero x
/-- a plan's numbers: below 12 -/
def PB (f : Nat → Int32) : Prop := ∀ k, k < 16 → ∃ j : Nat, j < 12 ∧ f k = nI j
theorem isTurnB_of {t : Nat} (h : t < 12) : isTurnB (nI t) = true := (by decide +kernel : ∀ t, t < 12 → isTurnB (nI t) = true) t h
def inL (v n : Int32) : Bool := decide (0 ≤ v) && decide (v < n)
theorem inL_c {v n m : Int32} (h : n.toInt = m.toInt + 1) : inL v n = inB v 0 m := by
  unfold inL inB
  have e : v < n ↔ v ≤ m := by
    rw [Int32.lt_iff_toInt_lt, Int32.le_iff_toInt_le]; omega
  simp only [e]
theorem lt_c {v : Int32} (n m : Int32) (h : n.toInt = m.toInt + 1) : v < n ↔ v ≤ m := by
  rw [Int32.lt_iff_toInt_lt, Int32.le_iff_toInt_le]; omega
def fmI (x y : Int32) : Int32 := if x ^^^ y < 0 ∧ ¬ remI x y = 0 then remI x y + y else remI x y
theorem fm_b : ∀ a, a < 12 → ∀ b, b < 12 → decide (fmI (nI a - nI b + 1) 12 < 3) = besideB (nI a) (nI b) := by decide +kernel
theorem fm_bb {sd fc : Nat → Int32} (h1 : PB sd) (h2 : PB fc) {p h : Nat} (hp : p < 16) (hh : h < 16) : decide (fmI (sd p - fc h + 1) 12 < 3) = besideB (sd p) (fc h) := by
  obtain ⟨a, ha, ea⟩ := h1 p hp
  obtain ⟨b, hb, eb⟩ := h2 h hh
  rw [ea, eb]; exact fm_b a ha b hb
/-- a set of 16 -/
def sB (x : Int32) : Prop := x = nI (ix x) ∧ ix x < 65536
theorem sB_nI {n : Nat} (h : n < 65536) : sB (nI n) := ⟨by rw [ixn (by omega)], by rw [ixn (by omega)]; exact h⟩
theorem orN_orT (c : Nat → Bool) (n : Nat) (hn : n ≤ 16) : orN c n = nI (orT c n) := by
  refine b_ext (fun i hi => ?_)
  rw [bt_orN c (by omega) hi, bt_nI hi, orT_bit]
theorem sB_orN (c : Nat → Bool) : sB (orN c 16) := by
  rw [orN_orT c 16 (by omega)]
  exact sB_nI (Nat.lt_of_lt_of_le (orT_lt c 16) (by decide))
theorem sB_seen (th : Int32) (sd fr un fc : Nat → Int32) (j : Nat) (t : Int32) : sB (snS th sd fr un fc j t) := by unfold snS seenS; exact sB_orN _
theorem sB_seenS (th : Int32) (sd fr un : Nat → Int32) (f t : Int32) : sB (seenS th sd fr un f t) := by unfold seenS; exact sB_orN _
theorem and_nI (a b : Nat) : nI a &&& nI b = nI (a &&& b) := b_ext (fun i hi => by rw [b_and, bt_nI hi, bt_nI hi, bt_nI hi, Nat.testBit_and])
theorem or_nI (a b : Nat) : nI a ||| nI b = nI (a ||| b) := b_ext (fun i hi => by rw [b_or, bt_nI hi, bt_nI hi, bt_nI hi, Nat.testBit_or])
theorem bt_sB {x : Int32} (h : sB x) {i : Nat} (hi : 16 ≤ i) (h2 : i < 32) : bt x i = false := by
  rw [h.1, bt_nI h2]
  exact Nat.testBit_lt_two_pow (Nat.lt_of_lt_of_le h.2 (Nat.pow_le_pow_right (by decide : 0 < 2) hi))
theorem bt_toNat (x : Int32) : x = nI x.toBitVec.toNat := by
  refine b_ext (fun i hi => ?_)
  rw [bt_nI hi]; rfl
theorem sB_of {x : Int32} (h : ∀ i, 16 ≤ i → i < 32 → bt x i = false) : sB x := by
  have h2 : x.toBitVec.toNat < 2 ^ 16 := by
    refine Nat.lt_pow_two_of_testBit _ (fun i hi => ?_)
    by_cases q : i < 32
    · exact h i hi q
    · exact b_big (by omega)
  have e := bt_toNat x
  have q := sB_nI h2
  rw [← e] at q; exact q
theorem sB_and {x : Int32} (y : Int32) (h : sB x) : sB (x &&& y) := sB_of (fun i hi h2 => by rw [b_and, bt_sB h hi h2, Bool.false_and])
theorem sB_or {x y : Int32} (h : sB x) (h2 : sB y) : sB (x ||| y) := sB_of (fun i hi q => by rw [b_or, bt_sB h hi q, bt_sB h2 hi q]; rfl)
theorem sB_bitI {k : Nat} (hk : k < 16) : sB (bitI k) := sB_of (fun i hi h2 => by rw [bt_bitI (by omega) h2]; simp; omega)
theorem sB_0 : sB 0 := sB_nI (n := 0) (by decide)
/-! the longest row, not cut -/
def ruN (c : Nat → Bool) : Nat → Nat
  | 0 => 0
  | k + 1 => if c (k % 12) = true then ruN c k + 1 else 0
def muN (c : Nat → Bool) : Nat → Nat
  | 0 => 0
  | k + 1 => max (muN c k) (ruN c (k + 1))
theorem ruN_le (c : Nat → Bool) : ∀ k, ruN c k ≤ k := by
  intro k
  induction k with
  | zero => exact Nat.le_refl _
  | succ k ih => unfold ruN; split <;> omega
theorem muN_le (c : Nat → Bool) : ∀ k, muN c k ≤ k := by
  intro k
  induction k with
  | zero => exact Nat.le_refl _
  | succ k ih => unfold muN; have := ruN_le c (k + 1); omega
theorem row_ru (c : Nat → Bool) : ∀ k, k < 1000 → rowS c k = nI (min 12 (ruN c k)) := by
  intro k
  induction k with
  | zero => intro _; rfl
  | succ k ih =>
    intro hk
    have hl := ruN_le c k
    unfold rowS ruN
    by_cases h : c (k % 12) = true
    · rw [if_pos h, if_pos h, ih (by omega)]
      show mnI (nI 12) (nI _ + nI 1) = _
      rw [nI_add, mnI_nI (by omega) (by omega)]; congr 1; omega
    · rw [if_neg h, if_neg h]; rfl
theorem most_mu (c : Nat → Bool) : ∀ k, k < 1000 → mostS c k = nI (min 12 (muN c k)) := by
  intro k
  induction k with
  | zero => intro _; rfl
  | succ k ih =>
    intro hk
    have hl := ruN_le c (k + 1); have hl2 := muN_le c k
    unfold mostS muN
    rw [ih (by omega), row_ru c (k + 1) hk, mxI_nI (by omega) (by omega)]; congr 1; omega
theorem long_mu (c : Nat → Bool) : mnI (nI (muN c 24)) 12 = longC c := by
  unfold longC
  have := muN_le c 24
  rw [most_mu c 24 (by omega), show (12 : Int32) = nI 12 from rfl, mnI_nI (by omega) (by omega), Nat.min_comm]
theorem mu_s (c : Nat → Bool) {k : Nat} (hk : k < 1000) : mxI (nI (muN c k)) (nI (ruN c (k + 1))) = nI (muN c (k + 1)) := by
  have h1 := ruN_le c (k + 1); have h2 := muN_le c k
  rw [mxI_nI (by omega) (by omega)]; rfl
theorem ru_t {c : Nat → Bool} {k : Nat} (h : c (k % 12) = true) : ruN c (k + 1) = ruN c k + 1 := if_pos h
theorem ru_f {c : Nat → Bool} {k : Nat} (h : ¬ c (k % 12) = true) : ruN c (k + 1) = 0 := if_neg h
theorem cnt_t {c : Nat → Bool} {k : Nat} (h : c k = true) : cntC c (k + 1) = cntC c k + 1 := if_pos h
theorem cnt_f {c : Nat → Bool} {k : Nat} (h : ¬ c k = true) : cntC c (k + 1) = cntC c k := if_neg h
theorem readersI_t {w : Nat → Int32} {sn : Nat → Int32 → Int32} {t : Nat} (h : t < 12) : readersI w sn (nI t) 12 = rdI w sn t 12 := by
  unfold readersI
  rw [if_pos ⟨isTurnB_of h, by decide⟩, ixn (by omega)]; rfl
theorem sB_rd {w : Nat → Int32} {sn : Nat → Int32 → Int32} {t : Nat} (hw : WOK w) : ∀ n k set, sB set → sB (rdS w sn t n k set) := by
  intro n
  induction n with
  | zero => intro k set h; exact h
  | succ n ih =>
    intro k set h
    unfold rdS
    by_cases h1 : w ((t + k) % 12) = -1
    · rw [if_pos h1]; exact ih _ _ h
    · have hb : sB (set ||| bitI (ix (w ((t + k) % 12)))) := sB_or h (sB_bitI (hw.ix (by omega) h1).2)
      rw [if_neg h1]
      split
      · exact hb
      · exact ih _ _ hb
/-! bits counted in parallel -/
theorem land_dig (k x m : Nat) : x &&& m = (x % 2 ^ k &&& m % 2 ^ k) + 2 ^ k * (x / 2 ^ k &&& m / 2 ^ k) := by
  rw [← Nat.and_mod_two_pow, ← Nat.and_div_two_pow]; exact (Nat.mod_add_div _ _).symm
theorem and4 (x m : Nat) : x &&& m = (x % 16 &&& m % 16) + 16 * ((x / 16 % 16 &&& m / 16 % 16) + 16 * ((x / 256 % 16 &&& m / 256 % 16) + 16 * ((x / 4096 % 16 &&& m / 4096 % 16) + 16 * (x / 65536 &&& m / 65536)))) := by
  have h1 := land_dig 4 x m
  have h2 := land_dig 4 (x / 16) (m / 16)
  have h3 := land_dig 4 (x / 256) (m / 256)
  have h4 := land_dig 4 (x / 4096) (m / 4096)
  simp only [Nat.div_div_eq_div_mul] at h1 h2 h3 h4
  have e : (2 : Nat) ^ 4 = 16 := rfl
  rw [e] at h1 h2 h3 h4
  rw [h1, h2, h3, h4]
def pa1 (n : Nat) : Nat := n - (n / 2 ^ 1 &&& 1431655765)
def pa2 (n : Nat) : Nat := (pa1 n &&& 858993459) + (pa1 n / 2 ^ 2 &&& 858993459)
def pa3 (n : Nat) : Nat := (pa2 n + pa2 n / 2 ^ 4) &&& 252645135
def pa4 (n : Nat) : Nat := pa3 n + pa3 n / 2 ^ 8
def pa5 (n : Nat) : Nat := pa4 n + pa4 n / 2 ^ 16
theorem pa_b {n : Nat} (h : n < 65536) : pa1 n < 65536 ∧ pa2 n < 131072 ∧ pa3 n < 262144 ∧ pa4 n < 524288 ∧ pa5 n < 1048576 := by
  have h1 : pa1 n < 65536 := by unfold pa1; omega
  have h2 : pa2 n < 131072 := by
    have a := @Nat.and_le_left (pa1 n) 858993459
    have b := @Nat.and_le_left (pa1 n / 2 ^ 2) 858993459
    unfold pa2; omega
  have h3 : pa3 n < 262144 := by
    have a := @Nat.and_le_left (pa2 n + pa2 n / 2 ^ 4) 252645135
    unfold pa3; omega
  have h4 : pa4 n < 524288 := by unfold pa4; omega
  exact ⟨h1, h2, h3, h4, by unfold pa5; omega⟩
def qz (d : Nat) : Nat := d / 2 &&& 5
def rz (d : Nat) : Nat := d - qz d
def pz (d : Nat) : Nat := (rz d &&& 3) + (rz d / 4 &&& 3)
theorem qz_a : ∀ d, d < 16 → ∀ b, b < 2 → (d / 2 + 8 * b) % 16 &&& 5 = qz d := by decide +kernel
theorem qz_le : ∀ d, d < 16 → qz d ≤ d ∧ rz d < 16 ∧ pz d ≤ 4 := by decide +kernel
theorem rz_a : ∀ d, d < 16 → (d % 16 &&& 3) = (d &&& 3) ∧ (d &&& 3) < 4 := by decide +kernel
theorem rz_b : ∀ d, d < 16 → ∀ b, b < 4 → (d / 4 + 4 * b) % 16 &&& 3 = (d / 4 &&& 3) := by decide +kernel
theorem fz_a : ∀ d, d < 9 → (d % 16 &&& 15) = d := by decide +kernel
theorem pz_c : ∀ d, d < 16 → cnN d 4 = pz d := by decide +kernel
theorem pc_1 {d0 d1 d2 d3 n : Nat} (h0 : d0 < 16) (h1 : d1 < 16) (h2 : d2 < 16) (h3 : d3 < 16) (hn : n = d0 + 16 * d1 + 256 * d2 + 4096 * d3) : pa1 n = rz d0 + 16 * rz d1 + 256 * rz d2 + 4096 * rz d3 := by
  have e : n / 2 ^ 1 &&& 1431655765 = qz d0 + 16 * qz d1 + 256 * qz d2 + 4096 * qz d3 := by
    rw [and4]
    have z0 : n / 2 ^ 1 % 16 = (d0 / 2 + 8 * (d1 % 2)) % 16 := by omega
    have z1 : n / 2 ^ 1 / 16 % 16 = (d1 / 2 + 8 * (d2 % 2)) % 16 := by omega
    have z2 : n / 2 ^ 1 / 256 % 16 = (d2 / 2 + 8 * (d3 % 2)) % 16 := by omega
    have z3 : n / 2 ^ 1 / 4096 % 16 = (d3 / 2 + 8 * 0) % 16 := by omega
    have z4 : n / 2 ^ 1 / 65536 = 0 := by omega
    rw [z0, z1, z2, z3, z4, Nat.zero_and]
    show ((_ &&& 5) + 16 * ((_ &&& 5) + 16 * ((_ &&& 5) + 16 * ((_ &&& 5) + 16 * 0)))) = _
    rw [qz_a d0 h0 _ (by omega), qz_a d1 h1 _ (by omega), qz_a d2 h2 _ (by omega), qz_a d3 h3 _ (by omega)]; omega
  have a0 := (qz_le d0 h0).1; have a1 := (qz_le d1 h1).1; have a2 := (qz_le d2 h2).1; have a3 := (qz_le d3 h3).1
  unfold pa1 rz
  rw [e]; omega
theorem pc_2 {r0 r1 r2 r3 n : Nat} (h0 : r0 < 16) (h1 : r1 < 16) (h2 : r2 < 16) (h3 : r3 < 16) (hn : n = r0 + 16 * r1 + 256 * r2 + 4096 * r3) : (n &&& 858993459) + (n / 2 ^ 2 &&& 858993459) = ((r0 &&& 3) + (r0 / 4 &&& 3)) + 16 * ((r1 &&& 3) + (r1 / 4 &&& 3)) + 256 * ((r2 &&& 3) + (r2 / 4 &&& 3)) + 4096 * ((r3 &&& 3) + (r3 / 4 &&& 3)) := by
  rw [and4, and4 (n / 2 ^ 2)]
  have y0 : n % 16 = r0 % 16 := by omega
  have y1 : n / 16 % 16 = r1 % 16 := by omega
  have y2 : n / 256 % 16 = r2 % 16 := by omega
  have y3 : n / 4096 % 16 = r3 % 16 := by omega
  have y4 : n / 65536 = 0 := by omega
  have z0 : n / 2 ^ 2 % 16 = (r0 / 4 + 4 * (r1 % 4)) % 16 := by omega
  have z1 : n / 2 ^ 2 / 16 % 16 = (r1 / 4 + 4 * (r2 % 4)) % 16 := by omega
  have z2 : n / 2 ^ 2 / 256 % 16 = (r2 / 4 + 4 * (r3 % 4)) % 16 := by omega
  have z3 : n / 2 ^ 2 / 4096 % 16 = (r3 / 4 + 4 * 0) % 16 := by omega
  have z4 : n / 2 ^ 2 / 65536 = 0 := by omega
  rw [y0, y1, y2, y3, y4, z0, z1, z2, z3, z4, Nat.zero_and]
  show ((_ &&& 3) + 16 * ((_ &&& 3) + 16 * ((_ &&& 3) + 16 * ((_ &&& 3) + 16 * 0)))) + ((_ &&& 3) + 16 * ((_ &&& 3) + 16 * ((_ &&& 3) + 16 * ((_ &&& 3) + 16 * 0)))) = _
  rw [(rz_a r0 h0).1, (rz_a r1 h1).1, (rz_a r2 h2).1, (rz_a r3 h3).1, rz_b r0 h0 _ (by omega), rz_b r1 h1 _ (by omega), rz_b r2 h2 _ (by omega), rz_b r3 h3 _ (by omega)]; omega
theorem pc_3 {p0 p1 p2 p3 n : Nat} (h0 : p0 ≤ 4) (h1 : p1 ≤ 4) (h2 : p2 ≤ 4) (h3 : p3 ≤ 4) (hn : n = p0 + 16 * p1 + 256 * p2 + 4096 * p3) : (n + n / 2 ^ 4) &&& 252645135 = (p0 + p1) + 256 * (p2 + p3) := by
  have e1 : n / 2 ^ 4 = p1 + 16 * p2 + 256 * p3 := by omega
  obtain ⟨m, hm⟩ : ∃ m, m = n + n / 2 ^ 4 := ⟨_, rfl⟩
  have e2 : m = (p0 + p1) + 16 * (p1 + p2) + 256 * (p2 + p3) + 4096 * p3 := by omega
  rw [← hm]
  clear hm e1 hn
  rw [and4]
  have z0 : m % 16 = (p0 + p1) % 16 := by omega
  have y2 : m / 256 = (p2 + p3) + 16 * p3 := by omega
  have z2 : m / 256 % 16 = (p2 + p3) % 16 := by rw [y2]; omega
  have z4 : m / 65536 = 0 := by omega
  rw [z0, z2, z4, Nat.zero_and]
  show ((_ &&& 15) + 16 * ((_ &&& 0) + 16 * ((_ &&& 15) + 16 * ((_ &&& 0) + 16 * 0)))) = _
  rw [fz_a _ (by omega), fz_a _ (by omega), Nat.and_zero, Nat.and_zero]; omega
theorem cn_split (s k : Nat) : ∀ m, cnN s (k + m) = cnN s k + cnN (s / 2 ^ k) m := by
  intro m
  induction m with
  | zero => rfl
  | succ m ih =>
    show cnN s (k + m) + (if s.testBit (k + m) = true then 1 else 0) = cnN s k + (cnN (s / 2 ^ k) m + (if (s / 2 ^ k).testBit m = true then 1 else 0))
    rw [ih, Nat.testBit_div_two_pow, Nat.add_comm m k]; omega
theorem cn_mod (s k : Nat) : cnN s k = cnN (s % 2 ^ k) k := by
  have h : ∀ m, m ≤ k → cnN s m = cnN (s % 2 ^ k) m := by
    intro m
    induction m with
    | zero => intro _; rfl
    | succ m ih =>
      intro hm
      show cnN s m + (if s.testBit m = true then 1 else 0) = cnN (s % 2 ^ k) m + (if (s % 2 ^ k).testBit m = true then 1 else 0)
      rw [ih (by omega), Nat.testBit_mod_two_pow]; simp [show m < k by omega]
  exact h k (Nat.le_refl _)
theorem pc_eq {n : Nat} (h : n < 65536) : pa5 n % 2 ^ 6 = cntN n := by
  obtain ⟨d0, hd0⟩ : ∃ d, d = n % 16 := ⟨_, rfl⟩
  obtain ⟨d1, hd1⟩ : ∃ d, d = n / 16 % 16 := ⟨_, rfl⟩
  obtain ⟨d2, hd2⟩ : ∃ d, d = n / 256 % 16 := ⟨_, rfl⟩
  obtain ⟨d3, hd3⟩ : ∃ d, d = n / 4096 % 16 := ⟨_, rfl⟩
  have h0 : d0 < 16 := by omega
  have h1 : d1 < 16 := by omega
  have h2 : d2 < 16 := by omega
  have h3 : d3 < 16 := by omega
  have e1 := pc_1 (n := n) h0 h1 h2 h3 (by omega)
  have q0 := qz_le d0 h0; have q1 := qz_le d1 h1; have q2 := qz_le d2 h2; have q3 := qz_le d3 h3
  have e2 : pa2 n = pz d0 + 16 * pz d1 + 256 * pz d2 + 4096 * pz d3 := pc_2 q0.2.1 q1.2.1 q2.2.1 q3.2.1 e1
  have e3 : pa3 n = (pz d0 + pz d1) + 256 * (pz d2 + pz d3) := pc_3 q0.2.2 q1.2.2 q2.2.2 q3.2.2 e2
  have e4 : cntN n = pz d0 + (pz d1 + (pz d2 + pz d3)) := by
    unfold cntN
    rw [show (16 : Nat) = 4 + 12 from rfl, cn_split, show (12 : Nat) = 4 + 8 from rfl, cn_split, show (8 : Nat) = 4 + 4 from rfl, cn_split]
    rw [cn_mod n 4, cn_mod (n / 2 ^ 4) 4, cn_mod (n / 2 ^ 4 / 2 ^ 4) 4, cn_mod (n / 2 ^ 4 / 2 ^ 4 / 2 ^ 4) 4]
    rw [show n % 2 ^ 4 = d0 by omega, show n / 2 ^ 4 % 2 ^ 4 = d1 by omega, show n / 2 ^ 4 / 2 ^ 4 % 2 ^ 4 = d2 by omega, show n / 2 ^ 4 / 2 ^ 4 / 2 ^ 4 % 2 ^ 4 = d3 by omega]
    rw [pz_c _ h0, pz_c _ h1, pz_c _ h2, pz_c _ h3]
  rw [e4]
  have q0 := q0.2.2; have q1 := q1.2.2; have q2 := q2.2.2; have q3 := q3.2.2
  clear e1 e2 e4 hd0 hd1 hd2 hd3
  have e5 : pa3 n / 2 ^ 8 = pz d2 + pz d3 := by omega
  have e6 : pa4 n = pa3 n + (pz d2 + pz d3) := by unfold pa4; rw [e5]
  have e7 : pa4 n / 2 ^ 16 = 0 := by omega
  unfold pa5
  rw [e7, e6, e3]; omega
theorem nt_eq : ∀ s, s < 256 → s ≠ 0 → lowN s < 8 ∧ (nI s ^^^ (-1)) &&& (nI s - 1) = nI (2 ^ lowN s - 1) := by decide +kernel
theorem cnt24_t {c : Nat → Bool} {k : Nat} {n : Int32} (h : c (k % 12) = true) (hk : k < 12) (hn : n = cntC c (min k 12)) : n + 1 = cntC c (min (k + 1) 12) := by
  rw [Nat.mod_eq_of_lt hk] at h
  rw [Nat.min_eq_left (by omega)] at hn
  rw [Nat.min_eq_left (by omega), cnt_t h, hn]
theorem cnt24_f {c : Nat → Bool} {k : Nat} {n : Int32} (h : ¬ c (k % 12) = true ∨ 12 ≤ k) (hn : n = cntC c (min k 12)) : n = cntC c (min (k + 1) 12) := by
  by_cases hk : k < 12
  · rw [Nat.min_eq_left (by omega)] at hn
    rw [Nat.min_eq_left (by omega), hn]
    rcases h with h | h
    · rw [Nat.mod_eq_of_lt hk] at h; rw [cnt_f h]
    · omega
  · rw [Nat.min_eq_right (by omega)] at hn
    rw [Nat.min_eq_right (by omega), hn]
theorem swap_backS (u : MS) (k a b : Nat) : mA (mA (mA (mA u k a (u.2.1 k b)) k b (u.2.1 k a)) k a ((mA (mA u k a (u.2.1 k b)) k b (u.2.1 k a)).2.1 k b)) k b ((mA (mA u k a (u.2.1 k b)) k b (u.2.1 k a)).2.1 k a) = u := by
  refine Prod.ext rfl (Prod.ext ?_ rfl)
  funext j
  funext t
  simp only [mA_2]
  by_cases hj : j = k
  · subst hj; by_cases h1 : t = a <;> by_cases h2 : t = b <;> by_cases h3 : a = b <;> simp_all
  · simp [hj]
/-- joy: at most 99999 -/
def JB (f : Nat → Int32) : Prop := ∀ k, k < 16 → ∃ j : Nat, j < 100000 ∧ f k = nI j
theorem and255 {f : Nat → Int32} (h : JB f) {k : Nat} (hk : k < 16) : f k &&& 255 = remI (f k) 256 := by
  obtain ⟨j, hj, e⟩ := h k hk
  rw [e, pk_andN (by omega) 8 (by decide)]
  exact (pk_rem (a := j) (d := 256) (by omega) (by omega) (by omega)).symm
