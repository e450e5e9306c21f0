set_option maxRecDepth 100000
theorem nI_neg {b : Nat} {v : Int32} (hb : b < 2 ^ 31) (hv : v < 0) : ¬ nI b = v := fun h => nI_pos hb (by rw [h]; exact hv)
/-! what the queries answer: w whose turn, sn house and turn to what is seen -/
def seesI (hs : Int32) (sn : Nat → Int32 → Int32) (h t : Int32) : Int32 := if isHouseB hs h = true ∧ isTurnB t = true then sn (ix h) t else -1
def darkI (w : Nat → Int32) (h : Int32) : Int32 := longC (fun t => !decide (w t = h))
def lightC (sn : Nat → Int32 → Int32) (j : Nat) : Nat → Bool := fun t => !decide (sn j (nI t) = 0)
def everI (sn : Nat → Int32 → Int32) (j : Nat) : Int32 := orI (fun t => sn j (nI t)) 12
theorem everS_eq (th : Int32) (sd fr un fc : Nat → Int32) (j : Nat) : everS th sd fr un (fc j) = everI (snS th sd fr un fc) j := rfl
def houseI (hs : Int32) (fc joy w : Nat → Int32) (sn : Nat → Int32 → Int32) (h k : Int32) : Int32 :=
  if isHouseB hs h = true then (if k = 0 then fc (ix h) else if k = 1 then joy (ix h) else if k = 2 then turnsS w h 12 else if k = 3 then darkI w h else if k = 4 then everI sn (ix h) else -1) else -1
def rotaI (w : Nat → Int32) (sn : Nat → Int32 → Int32) (k : Int32) : Int32 :=
  if isTurnB k = true then orNoneS (w (ix k)) else if k = 100 then wayI w false else if k = 101 then wayI w true else if k = 102 then byRotaS w sn 12 else -1
def firstS (c : Nat → Bool) : Nat → Nat → Int32
  | 0, _ => -2
  | n + 1, k => if c k = true then nI k else firstS c n (k + 1)
theorem firstS_t {c : Nat → Bool} {k m : Nat} (hk : k < m) (h : c k = true) : firstS c (m - k) k = nI k := by
  obtain ⟨n, hn⟩ : ∃ n, m - k = n + 1 := ⟨m - k - 1, by omega⟩
  rw [hn]; show (if c k = true then nI k else _) = _; rw [if_pos h]
theorem firstS_f {c : Nat → Bool} {k m : Nat} (hk : k < m) (h : ¬ c k = true) : firstS c (m - k) k = firstS c (m - (k + 1)) (k + 1) := by
  obtain ⟨n, hn⟩ : ∃ n, m - k = n + 1 := ⟨m - k - 1, by omega⟩
  rw [hn]; show (if c k = true then nI k else _) = _; rw [if_neg h]; congr 1; omega
theorem firstS_e {c : Nat → Bool} {k m : Nat} (hk : m ≤ k) : firstS c (m - k) k = -2 := by rw [Nat.sub_eq_zero_of_le hk]; rfl
def nextI (hs th : Int32) (w : Nat → Int32) (sn : Nat → Int32 → Int32) (h a t : Int32) : Int32 :=
  if isHouseB hs h = true ∧ isHouseB th a = true ∧ isTurnB t = true then firstS (fun k => decide (w ((ix t + k) % 12) = h) && hasB (sn (ix h) (nI ((ix t + k) % 12))) a) 12 0 else -1
theorem snS_bit (th : Int32) (sd fr un fc : Nat → Int32) (j : Nat) (t : Int32) {a : Nat} (ha : a < 16) : hasB (snS th sd fr un fc j t) (nI a) = (isHouseB th (nI a) && isSeenB (sd a) (fc j) (fr a) (un a) t) := hasB_orN _ (by omega) ha
def lightI (hs : Int32) (sn : Nat → Int32 → Int32) (h k : Int32) : Int32 := if isHouseB hs h = true ∧ inB k 0 1 = true then (if k = 0 then cntC (lightC sn (ix h)) 12 else longC (lightC sn (ix h))) else -1
def seersI (hs th : Int32) (sn : Nat → Int32 → Int32) (a : Int32) : Int32 := if isHouseB th a = true then orN (fun h => isHouseB hs (nI h) && hasB (everI sn h) a) 16 else -1
def mostT (hs : Int32) (w : Nat → Int32) : Nat → Int32
  | 0 => 0
  | k + 1 => if isHouseB hs (nI k) = true then mxI (mostT hs w k) (turnsS w (nI k) 12) else mostT hs w k
def fewT (hs : Int32) (w : Nat → Int32) : Nat → Int32
  | 0 => 12
  | k + 1 => if isHouseB hs (nI k) = true then mnI (fewT hs w k) (turnsS w (nI k) 12) else fewT hs w k
def spreadI (hs : Int32) (w : Nat → Int32) : Int32 := if hs = 0 then 0 else mostT hs w 16 - fewT hs w 16
def rdS (w : Nat → Int32) (sn : Nat → Int32 → Int32) (t : Nat) : Nat → Nat → Int32 → Int32
  | 0, _, set => set
  | n + 1, k, set => if w ((t + k) % 12) = -1 then rdS w sn t n (k + 1) set else if sn (ix (w ((t + k) % 12))) (nI ((t + k) % 12)) = 0 then set ||| bitI (ix (w ((t + k) % 12))) else rdS w sn t n (k + 1) (set ||| bitI (ix (w ((t + k) % 12))))
theorem rdS_s {w : Nat → Int32} {sn : Nat → Int32 → Int32} {t n k : Nat} {set : Int32} (hk : k ≤ n) : rdS w sn t (n + 1 - k) k set = if w ((t + k) % 12) = -1 then rdS w sn t (n + 1 - (k + 1)) (k + 1) set else if sn (ix (w ((t + k) % 12))) (nI ((t + k) % 12)) = 0 then set ||| bitI (ix (w ((t + k) % 12))) else rdS w sn t (n + 1 - (k + 1)) (k + 1) (set ||| bitI (ix (w ((t + k) % 12)))) := by
  obtain ⟨m, hm⟩ : ∃ m, n + 1 - k = m + 1 := ⟨n - k, by omega⟩
  have h2 : n + 1 - (k + 1) = m := by omega
  rw [hm, h2]; rfl
def rdI (w : Nat → Int32) (sn : Nat → Int32 → Int32) (t n : Nat) : Int32 := rdS w sn t n 1 0
def readersI (w : Nat → Int32) (sn : Nat → Int32 → Int32) (t n : Int32) : Int32 := if isTurnB t = true ∧ inB n 0 12 = true then rdI w sn (ix t) (ix n) else -1
def othI (w : Nat → Int32) (sn : Nat → Int32 → Int32) (j t : Nat) : Int32 := bitsI (rdI w sn t 12 &&& (bitI j ^^^ (-1)))
def bbS (w : Nat → Int32) (sn : Nat → Int32 → Int32) (j : Nat) : Nat → Option Nat
  | 0 => none
  | k + 1 => if w k = nI j then (match bbS w sn j k with
    | none => some k
    | some b => if othI w sn j b < othI w sn j k then some k else some b) else bbS w sn j k
def obI : Option Nat → Int32
  | none => -2
  | some b => nI b
theorem bbS_lt {w : Nat → Int32} {sn : Nat → Int32 → Int32} {j : Nat} : ∀ {k b : Nat}, bbS w sn j k = some b → b < k := by
  intro k
  induction k with
  | zero => intro b h; cases h
  | succ k ih =>
    intro b h
    unfold bbS at h
    split at h
    · split at h
      · cases h; omega
      · next hq =>
        split at h
        · cases h; omega
        · cases h; have := ih hq; omega
    · have := ih h; omega
theorem bbS_u {w : Nat → Int32} {sn : Nat → Int32 → Int32} {j k : Nat} (h : ¬ w k = nI j) : bbS w sn j (k + 1) = bbS w sn j k := by show (if w k = nI j then _ else _) = _; rw [if_neg h]
theorem bbS_n {w : Nat → Int32} {sn : Nat → Int32 → Int32} {j k : Nat} (h : w k = nI j) (e : bbS w sn j k = none) : bbS w sn j (k + 1) = some k := by show (if w k = nI j then _ else _) = _; rw [if_pos h, e]
theorem bbS_s {w : Nat → Int32} {sn : Nat → Int32 → Int32} {j k b : Nat} (h : w k = nI j) (e : bbS w sn j k = some b) : bbS w sn j (k + 1) = if othI w sn j b < othI w sn j k then some k else some b := by show (if w k = nI j then _ else _) = _; rw [if_pos h, e]
def bbI (hs : Int32) (w : Nat → Int32) (sn : Nat → Int32 → Int32) (h k : Int32) : Int32 :=
  if isHouseB hs h = true ∧ inB k 0 1 = true then (if k = 0 then obI (bbS w sn (ix h) 12) else match bbS w sn (ix h) 12 with
    | none => 0
    | some b => othI w sn (ix h) b) else -1
def twosS (hs : Int32) (sn : Nat → Int32 → Int32) (t : Int32) : Nat → Int32
  | 0 => 0
  | k + 1 => if isHouseB hs (nI k) = true then twosS hs sn t k + bitsI (sn k t) else twosS hs sn t k
def clrS (f : Nat → Int32) : Nat → Nat
  | 0 => 0
  | k + 1 => if f (clrS f k) < f (k + 1) then k + 1 else clrS f k
theorem clrS_le (f : Nat → Int32) : ∀ k, clrS f k ≤ k := by
  intro k
  induction k with
  | zero => exact Nat.le_refl _
  | succ k ih => unfold clrS; split <;> omega
def clrI (hs : Int32) (sn : Nat → Int32 → Int32) (k : Int32) : Int32 := if inB k 0 1 = true then (if k = 0 then nI (clrS (fun t => twosS hs sn (nI t) 16) 11) else twosS hs sn (nI (clrS (fun t => twosS hs sn (nI t) 16) 11)) 16) else -1
def hadI (hs : Int32) (sn : Nat → Int32 → Int32) (t some : Int32) : Int32 := if isTurnB t = true ∧ inB some 0 65535 = true then orN (fun h => isHouseB hs (nI h) && decide (sn h t = some)) 16 else -1
