def bt (x : Int32) (i : Nat) : Bool := x.toBitVec.getLsbD i
theorem b_ext {x y : Int32} (h : ∀ i, i < 32 → bt x i = bt y i) : x = y := Int32.toBitVec_inj.mp (BitVec.eq_of_getLsbD_eq (fun i hi => h i hi))
theorem b_or (x y : Int32) (i : Nat) : bt (x ||| y) i = (bt x i || bt y i) := by unfold bt; rw [Int32.toBitVec_or, BitVec.getLsbD_or]
theorem b_and (x y : Int32) (i : Nat) : bt (x &&& y) i = (bt x i && bt y i) := by unfold bt; rw [Int32.toBitVec_and, BitVec.getLsbD_and]
theorem b_xor (x y : Int32) (i : Nat) : bt (x ^^^ y) i = (bt x i ^^ bt y i) := by unfold bt; rw [Int32.toBitVec_xor, BitVec.getLsbD_xor]
theorem b_big {x : Int32} {i : Nat} (h : 32 ≤ i) : bt x i = false := BitVec.getLsbD_of_ge _ _ h
theorem b_255 (i : Nat) : bt 255 i = decide (i < 8) := by
  rcases Nat.lt_or_ge i 32 with h | h
  · exact (by decide +kernel : ∀ i, i < 32 → bt 255 i = decide (i < 8)) i h
  · rw [b_big h, decide_eq_false (by omega)]
theorem b_65535 (i : Nat) : bt 65535 i = decide (i < 16) := by
  rcases Nat.lt_or_ge i 32 with h | h
  · exact (by decide +kernel : ∀ i, i < 32 → bt 65535 i = decide (i < 16)) i h
  · rw [b_big h, decide_eq_false (by omega)]
theorem b_m1 : ∀ i, i < 32 → bt (-1) i = true := by decide +kernel
theorem b_0 (i : Nat) : bt 0 i = false := BitVec.getLsbD_zero
theorem s_l : ∀ n, n < 32 → ((nI n &&& 31).toBitVec.smod 32).toNat = n := by decide +kernel
theorem s_u : ∀ n, n < 32 → (((nI n).toUInt32 &&& Int32.toUInt32 31).toBitVec % 32).toNat = n := by decide +kernel
theorem b_shl (n : Nat) (hn : n < 32) (x : Int32) {i : Nat} (hi : i < 32) : bt (x <<< (nI n &&& 31)) i = (decide (n ≤ i) && bt x (i - n)) := by
  unfold bt
  rw [Int32.toBitVec_shiftLeft]
  show (x.toBitVec <<< ((nI n &&& 31).toBitVec.smod 32).toNat).getLsbD i = _
  rw [s_l n hn, BitVec.getLsbD_shiftLeft]
  rcases Nat.lt_or_ge i n with h | h
  · simp [h, Nat.not_le.mpr h]
  · simp [hi, h, Nat.not_lt.mpr h]
theorem b_ushr (n : Nat) (hn : n < 32) (x : Int32) (i : Nat) : bt ((x.toUInt32 >>> ((nI n).toUInt32 &&& Int32.toUInt32 31)).toInt32) i = bt x (n + i) := by
  show (x.toUInt32 >>> ((nI n).toUInt32 &&& Int32.toUInt32 31)).toBitVec.getLsbD i = x.toUInt32.toBitVec.getLsbD (n + i)
  rw [UInt32.toBitVec_shiftRight]
  show (x.toUInt32.toBitVec >>> (((nI n).toUInt32 &&& Int32.toUInt32 31).toBitVec % 32).toNat).getLsbD i = _
  rw [s_u n hn, BitVec.getLsbD_ushiftRight]
theorem b_sshr (n : Nat) (hn : n < 32) (x : Int32) {i : Nat} (hi : i < 32) : bt (x >>> (nI n &&& 31)) i = if n + i < 32 then bt x (n + i) else bt x 31 := by
  unfold bt
  rw [Int32.toBitVec_shiftRight]
  show (x.toBitVec.sshiftRight ((nI n &&& 31).toBitVec.smod 32).toNat).getLsbD i = _
  rw [s_l n hn, BitVec.getLsbD_sshiftRight, BitVec.msb_eq_getLsbD_last]
  simp [hi]
theorem bp_b (x : Int32) : x.toInt8.toInt32 &&& 255 = x &&& 255 := by
  apply Int32.toBitVec_inj.mp
  rw [Int32.toBitVec_and, Int32.toBitVec_and, Int8.toBitVec_toInt32, Int32.toBitVec_toInt8]
  apply BitVec.eq_of_getLsbD_eq
  intro i hi
  rw [BitVec.getLsbD_and, BitVec.getLsbD_and]
  have hm : ∀ i < 32, 8 ≤ i → (255 : Int32).toBitVec.getLsbD i = false := by decide
  rcases Nat.lt_or_ge i 8 with z | z
  · rw [BitVec.getLsbD_signExtend, BitVec.getLsbD_signExtend, if_pos z, if_pos hi]
    simp only [z, hi, decide_true, Bool.true_and]
  · rw [hm i hi z]; simp
/-! ===== the char cast and 65535 ===== -/
/-! what the small methods answer, over machine ints -/
def inB (v lo hi : Int32) : Bool := decide (lo ≤ v) && decide (v ≤ hi)
def hasB (set k : Int32) : Bool := decide ((set >>> (k &&& 31)) &&& 1 = 1)
def mnI (a b : Int32) : Int32 := if a < b then a else b
def mxI (a b : Int32) : Int32 := if b < a then a else b
def abI (a : Int32) : Int32 := if a < 0 then -a else a
def isHouseB (hs h : Int32) : Bool := inB h 0 15 && hasB hs h
def isTurnB (t : Int32) : Bool := inB t 0 11
def bitI (k : Nat) : Int32 := 1 <<< (nI k &&& 31)
def bitsN (set : Int32) : Nat → Int32
  | 0 => 0
  | k + 1 => bitsN set k + ((set >>> (nI k &&& 31)) &&& 1)
def bitsI (set : Int32) : Int32 := bitsN set 16
def orN (c : Nat → Bool) : Nat → Int32
  | 0 => 0
  | k + 1 => if c k = true then orN c k ||| bitI k else orN c k
def orI (f : Nat → Int32) : Nat → Int32
  | 0 => 0
  | k + 1 => orI f k ||| f k
def remI (x y : Int32) : Int32 := x - x / y * y
def offI (sd fc : Int32) : Int32 := remI (sd - fc + 12) 12
def besideB (sd fc : Int32) : Bool := decide (offI sd fc < 2) || decide (offI sd fc = 11)
def thenB (fr un t : Int32) : Bool := if fr ≤ un then inB t fr un else decide (fr ≤ t) || decide (t ≤ un)
def isSeenB (sd fc fr un t : Int32) : Bool := besideB sd fc && thenB fr un t
def seenS (th : Int32) (sd fr un : Nat → Int32) (fc t : Int32) : Int32 := orN (fun p => isHouseB th (nI p) && isSeenB (sd p) fc (fr p) (un p) t) 16
def everS (th : Int32) (sd fr un : Nat → Int32) (fc : Int32) : Int32 := orI (fun t => seenS th sd fr un fc (nI t)) 12
/-- a byte of the tape, as it is read -/
def ocN (f : Nat → Int32) (k : Nat) : Nat := (f k).toBitVec.toNat % 2 ^ 8
theorem ocN_b (f : Nat → Int32) (k : Nat) : ocN f k < 2 ^ 31 := by unfold ocN; omega
theorem ocN_lt (f : Nat → Int32) (k : Nat) : ocN f k < 256 := by unfold ocN; omega
def ix (x : Int32) : Nat := x.toNatClampNeg
theorem ixn {j : Nat} (h : j < 2 ^ 31) : ix (nI j) = j := nI_clamp h
theorem inB_nI {x : Int32} (n : Nat) {m : Int32} (hm : m.toInt = n) (h : inB x 0 m = true) : ∃ j : Nat, j ≤ n ∧ x = nI j := by
  simp only [inB, Bool.and_eq_true, decide_eq_true_eq] at h
  exact nI_of2 hm (by have := h.1; rw [Int32.not_lt]; exact this) h.2
theorem isHouseB_nI {hs h : Int32} (c : isHouseB hs h = true) : ∃ j : Nat, j < 16 ∧ h = nI j ∧ ix h = j := by
  simp only [isHouseB, Bool.and_eq_true] at c
  obtain ⟨j, h1, h2⟩ := inB_nI 15 (by decide) c.1
  exact ⟨j, by omega, h2, by rw [h2]; exact ixn (by omega)⟩
theorem isTurnB_nI {t : Int32} (c : isTurnB t = true) : ∃ j : Nat, j < 12 ∧ t = nI j ∧ ix t = j := by
  obtain ⟨j, h1, h2⟩ := inB_nI 11 (by decide) c
  exact ⟨j, by omega, h2, by rw [h2]; exact ixn (by omega)⟩
def snS (th : Int32) (sd fr un fc : Nat → Int32) (h : Nat) (t : Int32) : Int32 := seenS th sd fr un (fc h) t
/-- whose turn: nobody, or a house -/
def WOK (w : Nat → Int32) : Prop := ∀ t, t < 12 → w t = -1 ∨ ∃ j : Nat, j < 16 ∧ w t = nI j
theorem WOK.ix {w : Nat → Int32} (h : WOK w) {t : Nat} (ht : t < 12) (hn : ¬ w t = -1) : w t = nI (ix (w t)) ∧ ix (w t) < 16 := by
  rcases h t ht with q | ⟨j, hj, q⟩
  · exact absurd q hn
  · rw [q, ixn (by omega)]; exact ⟨rfl, hj⟩
def orNoneS (v : Int32) : Int32 := if v = -1 then -2 else v
def turnsS (w : Nat → Int32) (h : Int32) : Nat → Int32
  | 0 => 0
  | k + 1 => if w k = h then turnsS w h k + 1 else turnsS w h k
def rowS (c : Nat → Bool) : Nat → Int32
  | 0 => 0
  | k + 1 => if c (k % 12) = true then mnI 12 (rowS c k + 1) else 0
def mostS (c : Nat → Bool) : Nat → Int32
  | 0 => 0
  | k + 1 => mxI (mostS c k) (rowS c (k + 1))
def longC (c : Nat → Bool) : Int32 := mostS c 24
def cntC (c : Nat → Bool) : Nat → Int32
  | 0 => 0
  | k + 1 => if c k = true then cntC c k + 1 else cntC c k
def wayS (w : Nat → Int32) : Nat → Int32 × Int32 × Int32
  | 0 => (0, -1, -1)
  | k + 1 => if w k = -1 then wayS w k else (if (wayS w k).2.1 = -1 then (wayS w k).1 else (wayS w k).1 + abI (w k - (wayS w k).2.1), w k, if (wayS w k).2.2 = -1 then w k else (wayS w k).2.2)
def wayI (w : Nat → Int32) (round : Bool) : Int32 := if round = true ∧ ¬ (wayS w 12).2.2 = -1 then (wayS w 12).1 + abI ((wayS w 12).2.1 - (wayS w 12).2.2) else (wayS w 12).1
def byRotaS (w : Nat → Int32) (sn : Nat → Int32 → Int32) : Nat → Int32
  | 0 => 0
  | k + 1 => if w k = -1 then byRotaS w sn k else byRotaS w sn k ||| sn (ix (w k)) (nI k)
theorem b_1 {i : Nat} (hi : i < 32) : bt 1 i = decide (i = 0) := by
  have h : ∀ i : Fin 32, bt 1 i.val = decide (i.val = 0) := by decide +kernel
  exact h ⟨i, hi⟩
theorem and1_bt (x : Int32) : (x &&& 1) = if bt x 0 = true then 1 else 0 := by
  refine b_ext (fun i hi => ?_)
  rw [b_and, b_1 hi]
  by_cases h : i = 0
  · subst h
    cases hx : bt x 0
    · simp [b_0]
    · simp [b_1]
  · by_cases hx : bt x 0 = true
    · simp [h, hx, b_1 hi]
    · simp [h, hx, b_0]
theorem hasB_bt (set : Int32) {k : Nat} (hk : k < 32) : hasB set (nI k) = bt set k := by
  unfold hasB
  rw [and1_bt, b_sshr k hk set (i := 0) (by omega), if_pos (by omega : k + 0 < 32)]
  show decide ((if bt set k = true then (1 : Int32) else 0) = 1) = bt set k
  cases bt set k <;> rfl
theorem bt_bitI {k i : Nat} (hk : k < 32) (hi : i < 32) : bt (bitI k) i = decide (i = k) := by
  unfold bitI
  rw [b_shl k hk 1 hi, b_1 (by omega)]
  by_cases h : i = k
  · subst h; simp
  · by_cases h2 : k ≤ i
    · have : i - k ≠ 0 := by omega
      simp [h, this]
    · simp [h, h2]
theorem bt_orN (c : Nat → Bool) {n : Nat} (hn : n ≤ 32) {i : Nat} (hi : i < 32) : bt (orN c n) i = (decide (i < n) && c i) := by
  induction n with
  | zero => simp [orN, b_0]
  | succ n ih =>
    have ih := ih (by omega)
    unfold orN
    by_cases h : c n = true
    · rw [if_pos h, b_or, ih, bt_bitI (by omega) hi]
      by_cases e : i = n
      · subst e; simp [h]
      · have : (i < n + 1) = (i < n) := by simp; omega
        simp [e, this]
    · rw [if_neg h, ih]
      by_cases e : i = n
      · subst e; simp [h]
      · have : (i < n + 1) = (i < n) := by simp; omega
        simp [this]
theorem hasB_orN (c : Nat → Bool) {n : Nat} (hn : n ≤ 32) {i : Nat} (hi : i < n) : hasB (orN c n) (nI i) = c i := by
  rw [hasB_bt _ (by omega), bt_orN c hn (by omega)]
  simp [hi]
theorem bitsN_cnt (set : Int32) {k : Nat} (hk : k ≤ 32) : bitsN set k = cntC (fun i => bt set i) k := by
  induction k with
  | zero => rfl
  | succ k ih =>
    unfold bitsN cntC
    rw [ih (by omega), and1_bt, b_sshr k (by omega) set (i := 0) (by omega), if_pos (by omega : k + 0 < 32)]
    cases h : bt set (k + 0)
    · have h : bt set k = false := h
      simp [h]
    · have h : bt set k = true := h
      simp [h]
theorem cntC_congr {c d : Nat → Bool} {n : Nat} (h : ∀ i, i < n → c i = d i) : cntC c n = cntC d n := by
  induction n with
  | zero => rfl
  | succ n ih =>
    unfold cntC
    rw [ih (fun i hi => h i (by omega)), h n (by omega)]
theorem cntC_pad {c : Nat → Bool} {n m : Nat} (h : ∀ i, n ≤ i → c i = false) (hm : n ≤ m) : cntC c m = cntC c n := by
  induction m with
  | zero => have : n = 0 := by omega
            subst this; rfl
  | succ m ih =>
    by_cases e : n = m + 1
    · subst e; rfl
    · show (if c m = true then cntC c m + 1 else cntC c m) = cntC c n
      rw [h m (by omega), ih (by omega)]; simp
theorem bitsI_orN (c : Nat → Bool) {n : Nat} (hn : n ≤ 16) : bitsI (orN c n) = cntC c n := by
  unfold bitsI
  rw [bitsN_cnt _ (by omega)]
  rw [← cntC_pad (c := fun i => bt (orN c n) i) (n := n) (m := 16) (fun i hi => ?_) hn |>.symm]
  · exact cntC_congr (fun i hi => by rw [bt_orN c (by omega) (by omega)]; simp [hi])
  · by_cases h : i < 32
    · rw [bt_orN c (by omega) h]; simp; omega
    · exact b_big (by omega)
def longS (set : Int32) : Int32 := longC (fun i => hasB set (nI i))
theorem longC_congr {c d : Nat → Bool} (h : ∀ i, i < 12 → c i = d i) : longC c = longC d := by
  have hr : ∀ k, rowS c k = rowS d k := by
    intro k
    induction k with
    | zero => rfl
    | succ k ih => unfold rowS; rw [ih, h (k % 12) (by omega)]
  have hm : ∀ k, mostS c k = mostS d k := by
    intro k
    induction k with
    | zero => rfl
    | succ k ih => unfold mostS; rw [ih, hr]
  exact hm 24
theorem longS_orN (c : Nat → Bool) : longS (orN c 12) = longC c := longC_congr (fun i hi => hasB_orN c (by omega) hi)
