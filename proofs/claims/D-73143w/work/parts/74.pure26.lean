set_option maxRecDepth 100000
def terInv (R : (Nat × Nat) ⊕ TrS) (f : Nat → Int32) (n m : Nat) (ok : Bool) (pl fa hs th ln : Int32) (fc sd fr un : Nat → Int32) : Prop :=
  if ok = true then ∃ p ln0, R = linesW f n m ((hs, th), (fc, sd, fr, un), ln0, p) ∧ pl = nI p ∧ ln = nI ln0 ∧ n ≤ p + m ∧ p ≤ n ∧ ln0 ≤ 32 else ∃ e, R = .inl e ∧ fa = wrI e.1 e.2
theorem terI_t {R : (Nat × Nat) ⊕ TrS} {f : Nat → Int32} {n m : Nat} {ok : Bool} {pl fa hs th ln : Int32} {fc sd fr un : Nat → Int32} (h : terInv R f n m ok pl fa hs th ln fc sd fr un) (hk : ok = true) : ∃ p ln0, R = linesW f n m ((hs, th), (fc, sd, fr, un), ln0, p) ∧ pl = nI p ∧ ln = nI ln0 ∧ n ≤ p + m ∧ p ≤ n ∧ ln0 ≤ 32 := by
  unfold terInv at h; rw [if_pos hk] at h; exact h
theorem terI_f {R : (Nat × Nat) ⊕ TrS} {f : Nat → Int32} {n m : Nat} {ok : Bool} {pl fa hs th ln : Int32} {fc sd fr un : Nat → Int32} (h : terInv R f n m ok pl fa hs th ln fc sd fr un) (hk : ok = false) : ∃ e, R = .inl e ∧ fa = wrI e.1 e.2 := by
  unfold terInv at h; rw [if_neg (by rw [hk]; decide)] at h; exact h
theorem terI_of {K : TrS → (Nat × Nat) ⊕ TrS} {r : (Nat × Nat) ⊕ TrS} {f : Nat → Int32} {n m p0 : Nat} {ok : Bool} {pl fa hs th ln : Int32} {fc sd fr un : Nat → Int32} (hb : ∀ s, r = .inr s → p0 ≤ s.2.2.2 ∧ s.2.2.2 ≤ n ∧ s.2.2.1 ≤ 32) (hm : n ≤ p0 + m) (hK : K = linesW f n m) (h : trPost r ok pl fa hs th ln fc sd fr un) : terInv (bW r K) f n m ok pl fa hs th ln fc sd fr un := by
  subst hK
  unfold terInv
  cases hk : ok with
  | false =>
    obtain ⟨e, h1, h2⟩ := trPost_f h hk
    rw [if_neg (by decide), h1]; exact ⟨e, rfl, h2⟩
  | true =>
    obtain ⟨s, h1, h2, h3, h4, h5, h6, h7, h8, h9⟩ := trPost_t h hk
    obtain ⟨b1, b2, b3⟩ := hb s h1
    rw [if_pos rfl, h1, h3, h4, h6, h7, h8, h9]
    exact ⟨s.2.2.2, s.2.2.1, rfl, h2, h5, by omega, b2, b3⟩
theorem terI_0 {f : Nat → Int32} {n : Nat} {ok : Bool} {pl fa hs th ln : Int32} {fc0 sd0 fr0 un0 fc sd fr un : Nat → Int32} (h : trPost (lineW f n 0 0 fc0 sd0 fr0 un0 0 0) ok pl fa hs th ln fc sd fr un) : terInv (terrW f n fc0 sd0 fr0 un0) f n n ok pl fa hs th ln fc sd fr un :=
  terI_of (p0 := 0) (fun s e => by have := lineW_b e; omega) (by omega) rfl h
theorem linesW_s {f : Nat → Int32} {n m : Nat} {s : TrS} (h : s.2.2.2 < n) : linesW f n (m + 1) s = bW (takesW f n 59 s.2.2.2) (fun q => bW (lineW f n s.1.1 s.1.2 s.2.1.1 s.2.1.2.1 s.2.1.2.2.1 s.2.1.2.2.2 s.2.2.1 q) (linesW f n m)) := if_pos h
theorem linesW_e {f : Nat → Int32} {n m : Nat} {s : TrS} (h : ¬ s.2.2.2 < n) : linesW f n m s = .inr s := by
  cases m with
  | zero => rfl
  | succ m => exact if_neg h
theorem terI_w {R : (Nat × Nat) ⊕ TrS} {f : Nat → Int32} {n m p ln0 : Nat} {pl hs th ln : Int32} {fc sd fr un : Nat → Int32} (h : R = linesW f n m ((hs, th), (fc, sd, fr, un), ln0, p)) (hm : n ≤ p + m) (hp : p < n) (ht : takesW f n 59 p = .inl (1, p)) : terInv R f n (m - 1) false pl (wrI 1 p) hs th ln fc sd fr un := by
  obtain ⟨k, rfl⟩ : ∃ k, m = k + 1 := ⟨m - 1, by omega⟩
  unfold terInv
  rw [if_neg (by decide), h, linesW_s hp, ht]; exact ⟨(1, p), rfl, rfl⟩
theorem terI_s {R : (Nat × Nat) ⊕ TrS} {f : Nat → Int32} {n m p ln0 : Nat} {ok : Bool} {pl fa hs th ln hs' th' : Int32} {fc sd fr un fc' sd' fr' un' : Nat → Int32} (h : R = linesW f n m ((hs', th'), (fc', sd', fr', un'), ln0, p)) (hm : n ≤ p + m) (hp : p < n) (ht : takesW f n 59 p = .inr (p + 1)) (hl : ln0 ≤ 32)
    (hP : trPost (lineW f n hs' th' fc' sd' fr' un' ln0 (p + 1)) ok pl fa hs th ln fc sd fr un) : terInv R f n (m - 1) ok pl fa hs th ln fc sd fr un := by
  obtain ⟨k, rfl⟩ : ∃ k, m = k + 1 := ⟨m - 1, by omega⟩
  rw [h, linesW_s hp, ht]
  exact terI_of (p0 := p + 1) (fun s e => by have := lineW_b (ln := ln0) (p := p + 1) e; omega) (by omega) rfl hP
def terG (tp n : Int32) : Bool := inB n 1 200 && !decide (tp < n)
def terR (f : Nat → Int32) (tp n : Int32) (fc sd fr un : Nat → Int32) : Option ((Nat × Nat) ⊕ TrS) := if terG tp n = true then some (terrW f (ix n) fc sd fr un) else none
def terV (r : Option ((Nat × Nat) ⊕ TrS)) : Int32 := match r with
  | none => -1
  | some (.inl e) => wrI e.1 e.2
  | some (.inr s) => nI s.2.2.1
def terOut (r : Option ((Nat × Nat) ⊕ TrS)) (ho0 ti0 : Int32) (fo0 so0 fr0 uo0 nw0 ro0 : Nat → Int32) (ho ti : Int32) (fo so fro uo nw ro : Nat → Int32) : Prop := match r with
  | some (.inr s) => ho = s.1.1 ∧ ti = s.1.2 ∧ (∀ k, k < 16 → fo k = s.2.1.1 k ∧ so k = s.2.1.2.1 k ∧ fro k = s.2.1.2.2.1 k ∧ uo k = s.2.1.2.2.2 k ∧ nw k = 0) ∧ (nw 16 = -1 ∧ nw 17 = 0 ∧ nw 18 = 0 ∧ nw 19 = nw0 19 ∧ nw 20 = nw0 20) ∧ ∀ t, t < 12 → ro t = if isHouseB s.1.1 (ro0 t) = true then ro0 t else -1
  | _ => ho = ho0 ∧ ti = ti0 ∧ fo = fo0 ∧ so = so0 ∧ fro = fr0 ∧ uo = uo0 ∧ nw = nw0 ∧ ro = ro0
def cpI (fc sd fr un nw0 : Nat → Int32) (k : Nat) (fo so fro uo nw : Nat → Int32) : Prop := (∀ i, i < k → fo i = fc i ∧ so i = sd i ∧ fro i = fr i ∧ uo i = un i ∧ nw i = 0) ∧ ∀ i, 16 ≤ i → nw i = nw0 i
theorem cpI_0 (fc sd fr un nw0 fo so fro uo : Nat → Int32) : cpI fc sd fr un nw0 0 fo so fro uo nw0 := ⟨fun i h => absurd h (Nat.not_lt_zero i), fun _ _ => rfl⟩
theorem cpI_s {fc sd fr un nw0 fo so fro uo nw : Nat → Int32} {k : Nat} (hk : k < 16) (h : cpI fc sd fr un nw0 k fo so fro uo nw) : cpI fc sd fr un nw0 (k + 1) (upd fo k (fc k)) (upd so k (sd k)) (upd fro k (fr k)) (upd uo k (un k)) (upd nw k 0) := by
  refine ⟨fun i hi => ?_, fun i hi => ?_⟩
  · by_cases e : i = k
    · subst e; rw [upd_s, upd_s, upd_s, upd_s, upd_s]; exact ⟨rfl, rfl, rfl, rfl, rfl⟩
    · rw [upd_n _ e, upd_n _ e, upd_n _ e, upd_n _ e, upd_n _ e]; exact h.1 i (by omega)
  · rw [upd_n _ (by omega)]; exact h.2 i hi
def roI (hs : Int32) (ro0 : Nat → Int32) (k : Nat) (ro : Nat → Int32) : Prop := (∀ i, i < k → ro i = if isHouseB hs (ro0 i) = true then ro0 i else -1) ∧ ∀ i, k ≤ i → ro i = ro0 i
theorem roI_0 (hs : Int32) (ro : Nat → Int32) : roI hs ro 0 ro := ⟨fun i h => absurd h (Nat.not_lt_zero i), fun _ _ => rfl⟩
theorem roI_t {hs : Int32} {ro0 ro : Nat → Int32} {k : Nat} (h : roI hs ro0 k ro) (c : isHouseB hs (ro k) = true) : roI hs ro0 (k + 1) ro := by
  have e0 := h.2 k (Nat.le_refl k)
  refine ⟨fun i hi => ?_, fun i hi => h.2 i (by omega)⟩
  by_cases e : i = k
  · subst e; rw [← e0, if_pos c]
  · exact h.1 i (by omega)
theorem roI_f {hs : Int32} {ro0 ro : Nat → Int32} {k : Nat} (h : roI hs ro0 k ro) (c : isHouseB hs (ro k) = false) : roI hs ro0 (k + 1) (upd ro k (-1)) := by
  have e0 := h.2 k (Nat.le_refl k)
  refine ⟨fun i hi => ?_, fun i hi => ?_⟩
  · by_cases e : i = k
    · subst e; rw [upd_s, ← e0, if_neg (by rw [c]; decide)]
    · rw [upd_n _ e]; exact h.1 i (by omega)
  · rw [upd_n _ (by omega)]; exact h.2 i (by omega)
theorem terOut_s {R : (Nat × Nat) ⊕ TrS} {s : TrS} {ho0 ti0 : Int32} {fo0 so0 fr0 uo0 nw0 ro0 fo so fro uo nw ro : Nat → Int32} (hR : R = .inr s) (hc : cpI s.2.1.1 s.2.1.2.1 s.2.1.2.2.1 s.2.1.2.2.2 nw0 16 fo so fro uo nw) (hr : roI s.1.1 ro0 12 ro) : terOut (some R) ho0 ti0 fo0 so0 fr0 uo0 nw0 ro0 s.1.1 s.1.2 fo so fro uo (upd (upd (upd nw 16 (-1)) 17 0) 18 0) ro := by
  subst hR
  refine ⟨rfl, rfl, fun k hk => ?_, ⟨rfl, rfl, rfl, ?_, ?_⟩, fun t ht => hr.1 t ht⟩
  · rw [upd_n _ (by omega), upd_n _ (by omega), upd_n _ (by omega)]; exact hc.1 k hk
  · rw [upd_n _ (by decide), upd_n _ (by decide), upd_n _ (by decide)]; exact hc.2 19 (by decide)
  · rw [upd_n _ (by decide), upd_n _ (by decide), upd_n _ (by decide)]; exact hc.2 20 (by decide)
