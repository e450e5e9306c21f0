set_option maxRecDepth 100000
/-! a day: the row (joy by house, where 16, what it brings 17, cracks 18, day 19, lot 20), cracks now -/
abbrev DS : Type := (Nat → Int32) × Int32
def factS (sn : Nat → Int32 → Int32) (F0 nw : Nat → Int32) (h : Nat) (t d : Int32) : Nat → Int32 := fctU F0 (nI h) t d (nw 16) (nw 17) (nw 18) (nw 19) (sn h t)
/-- whether the window stays where it is -/
def staysB (Lw : LW) (sn : Nat → Int32 → Int32) (F0 nw : Nat → Int32) (h : Nat) (t d : Int32) : Bool := anyS Lw 120 (factS sn F0 nw h t d) || decide (nw 16 = nI h)
def moreS (Lw : LW) (sn : Nat → Int32 → Int32) (F0 nw : Nat → Int32) (h : Nat) (t d : Int32) : Int32 := mnI (byLawS Lw 99 9 0 (factS sn F0 nw h t d)) (9999 - nw 18)
def carS (Lw : LW) (sn : Nat → Int32 → Int32) (F0 : Nat → Int32) (h : Nat) (t d : Int32) (q : DS) : DS :=
  if staysB Lw sn F0 q.1 h t d = true then q else (upd (upd q.1 18 (q.1 18 + moreS Lw sn F0 q.1 h t d)) 16 (nI h), q.2 + moreS Lw sn F0 q.1 h t d)
def lotS (nw : Nat → Int32) : Nat → Int32 := upd nw 20 (remI (25173 * nw 20 + 13849) 65536)
def joyS (Lw : LW) (sn : Nat → Int32 → Int32) (F0 : Nat → Int32) (t d : Int32) (nw : Nat → Int32) (h : Nat) : Nat → Int32 :=
  upd nw h (mnI 99999 (nw h + byLawS Lw 106 99 (bitsI (sn h t) + bitsI (nw 17)) (factS sn F0 nw h t d)))
def gladS (Lw : LW) (sn : Nat → Int32 → Int32) (F0 : Nat → Int32) (t d : Int32) (nw : Nat → Int32) : Nat → Int32 :=
  if nw 16 = -1 then nw else if sn (ix (nw 16)) t = 0 then joyS Lw sn F0 t d nw (ix (nw 16)) else upd (joyS Lw sn F0 t d nw (ix (nw 16))) 17 (sn (ix (nw 16)) t)
def carQ (Lw : LW) (sn : Nat → Int32 → Int32) (F0 w : Nat → Int32) (t : Nat) (q : DS) : DS := carS Lw sn F0 (ix (w t)) (nI t) (remI (lotS q.1 20) 10) (lotS q.1, q.2)
def goS (Lw : LW) (sn : Nat → Int32 → Int32) (F0 w : Nat → Int32) (t : Nat) (q : DS) : DS :=
  (gladS Lw sn F0 (nI t) (remI (lotS q.1 20) 10) (carQ Lw sn F0 w t q).1, (carQ Lw sn F0 w t q).2)
def turnsG (Lw : LW) (sn : Nat → Int32 → Int32) (F0 w : Nat → Int32) (q : DS) : Nat → DS
  | 0 => q
  | t + 1 => if w t = -1 then turnsG Lw sn F0 w q t else goS Lw sn F0 w t (turnsG Lw sn F0 w q t)
def dayS (Lw : LW) (sn : Nat → Int32 → Int32) (F0 w : Nat → Int32) (q : DS) : DS :=
  (upd (turnsG Lw sn F0 w q 12).1 19 ((turnsG Lw sn F0 w q 12).1 19 + 1), (turnsG Lw sn F0 w q 12).2)
/-- days, until so many or the last -/
def daysS (Lw : LW) (sn : Nat → Int32 → Int32) (F0 w : Nat → Int32) : Nat → DS → DS
  | 0, q => q
  | n + 1, q => if 9999 ≤ q.1 19 then q else daysS Lw sn F0 w n (dayS Lw sn F0 w q)
/-- where it is: nobody, or a house -/
def atOK (x : Int32) : Prop := x = -1 ∨ ∃ j : Nat, j < 16 ∧ x = nI j
theorem atOK.ix {x : Int32} (h : atOK x) (hn : ¬ x = -1) : x = nI (ix x) ∧ ix x < 16 := by
  rcases h with q | ⟨j, hj, q⟩
  · exact absurd q hn
  · rw [q, ixn (by omega)]; exact ⟨rfl, hj⟩
/-- the facts' own array never matters: all nine are set -/
theorem fctU_any {F F' : Nat → Int32} {h t d wh br cr dy sn : Int32} {i : Nat} (hi : i < 9) : fctU F h t d wh br cr dy sn i = fctU F' h t d wh br cr dy sn i := by
  unfold fctU upd
  have : i = 0 ∨ i = 1 ∨ i = 2 ∨ i = 3 ∨ i = 4 ∨ i = 5 ∨ i = 6 ∨ i = 7 ∨ i = 8 := by omega
  rcases this with rfl | rfl | rfl | rfl | rfl | rfl | rfl | rfl | rfl <;> rfl
/-- a law that looks at the nine facts alone -/
def nineW (Lw : LW) : Prop := ∀ q F F', q < Lw.1 → (∀ i, i < 9 → F i = F' i) → Lw.2.2.1 q F = Lw.2.2.1 q F' ∧ Lw.2.2.2 q F = Lw.2.2.2 q F'
theorem findW_nine {Lw : LW} (h : nineW Lw) {c : Int32} {F F' : Nat → Int32} (hF : ∀ i, i < 9 → F i = F' i) : ∀ m q, q + m ≤ Lw.1 → findW Lw c F m q = findW Lw c F' m q := by
  intro m
  induction m with
  | zero => intro q _; rfl
  | succ m ih =>
    intro q hq
    show (if _ then _ else _) = (if _ then _ else _)
    rw [(h q F F' (by omega) hF).2, ih (q + 1) (by omega)]
theorem findW_lt {Lw : LW} {c : Int32} {F : Nat → Int32} : ∀ m q r, findW Lw c F m q = some r → r < q + m := by
  intro m
  induction m with
  | zero => intro q r h; cases h
  | succ m ih =>
    intro q r h
    unfold findW at h
    split at h
    · cases h; omega
    · have := ih (q + 1) r h; omega
theorem byLawS_nine {Lw : LW} (h : nineW Lw) {c hi wo : Int32} {F F' : Nat → Int32} (hF : ∀ i, i < 9 → F i = F' i) : byLawS Lw c hi wo F = byLawS Lw c hi wo F' := by
  have e := findW_nine h (c := c) hF Lw.1 0 (by omega)
  cases q : findW Lw c F Lw.1 0 with
  | none => rw [byLawS_n q, byLawS_n (by rw [← e]; exact q)]
  | some r =>
    have hr := findW_lt _ _ _ q
    rw [byLawS_t q, byLawS_t (by rw [← e]; exact q), (h r F F' (by omega) hF).1]
theorem anyS_nine {Lw : LW} (h : nineW Lw) {c : Int32} {F F' : Nat → Int32} (hF : ∀ i, i < 9 → F i = F' i) : anyS Lw c F = anyS Lw c F' := by
  unfold anyS; rw [findW_nine h hF Lw.1 0 (by omega)]
def F00 : Nat → Int32 := fun _ => 0
theorem lotS_16 (nw : Nat → Int32) : lotS nw 16 = nw 16 := upd_n _ (by decide)
theorem carS_at {Lw : LW} {sn : Nat → Int32 → Int32} {F0 : Nat → Int32} {h : Nat} {t d : Int32} {q : DS} (hh : h < 16) (ha : atOK (q.1 16)) : atOK ((carS Lw sn F0 h t d q).1 16) := by
  unfold carS
  split
  · exact ha
  · exact Or.inr ⟨h, hh, upd_s (upd q.1 18 (q.1 18 + moreS Lw sn F0 q.1 h t d)) 16 (nI h)⟩
theorem joyS_16 {Lw : LW} {sn : Nat → Int32 → Int32} {F0 nw : Nat → Int32} {t d : Int32} {h : Nat} (hh : h < 16) : joyS Lw sn F0 t d nw h 16 = nw 16 := by
  unfold joyS
  rw [upd_n _ (show (16 : Nat) ≠ h by omega)]
theorem gladS_16 {Lw : LW} {sn : Nat → Int32 → Int32} {F0 nw : Nat → Int32} {t d : Int32} (ha : atOK (nw 16)) : gladS Lw sn F0 t d nw 16 = nw 16 := by
  unfold gladS
  by_cases hn : nw 16 = -1
  · rw [if_pos hn]
  · have hj := (ha.ix hn).2
    rw [if_neg hn]
    by_cases hz : sn (ix (nw 16)) t = 0
    · rw [if_pos hz]; exact joyS_16 hj
    · rw [if_neg hz, upd_n _ (show (16 : Nat) ≠ 17 by decide)]; exact joyS_16 hj
theorem carQ_at {Lw : LW} {sn : Nat → Int32 → Int32} {F0 w : Nat → Int32} {t : Nat} {q : DS} (hw : ix (w t) < 16) (ha : atOK (q.1 16)) : atOK ((carQ Lw sn F0 w t q).1 16) := by
  unfold carQ
  refine carS_at hw ?_
  show atOK (lotS q.1 16)
  rw [lotS_16]; exact ha
theorem goS_at {Lw : LW} {sn : Nat → Int32 → Int32} {F0 w : Nat → Int32} {t : Nat} {q : DS} (hw : ix (w t) < 16) (ha : atOK (q.1 16)) : atOK ((goS Lw sn F0 w t q).1 16) := by
  have h2 := carQ_at (Lw := Lw) (sn := sn) (F0 := F0) hw ha
  unfold goS
  dsimp only
  rw [gladS_16 h2]; exact h2
theorem turnsG_at {Lw : LW} {sn : Nat → Int32 → Int32} {F0 w : Nat → Int32} {q : DS} (hw : WOK w) (ha : atOK (q.1 16)) : ∀ t, t ≤ 12 → atOK ((turnsG Lw sn F0 w q t).1 16) := by
  intro t
  induction t with
  | zero => intro _; exact ha
  | succ t ih =>
    intro ht
    unfold turnsG
    split
    · exact ih (by omega)
    · next hn => exact goS_at (hw.ix (by omega) hn).2 (ih (by omega))
theorem dayS_16 (Lw : LW) (sn : Nat → Int32 → Int32) (F0 w : Nat → Int32) (q : DS) : (dayS Lw sn F0 w q).1 16 = (turnsG Lw sn F0 w q 12).1 16 := by
  show upd (turnsG Lw sn F0 w q 12).1 19 ((turnsG Lw sn F0 w q 12).1 19 + 1) 16 = (turnsG Lw sn F0 w q 12).1 16
  exact upd_n _ (by decide)
theorem dayS_at {Lw : LW} {sn : Nat → Int32 → Int32} {F0 w : Nat → Int32} {q : DS} (hw : WOK w) (ha : atOK (q.1 16)) : atOK ((dayS Lw sn F0 w q).1 16) := by
  rw [dayS_16]; exact turnsG_at hw ha 12 (Nat.le_refl _)
theorem turnsG_n {Lw : LW} {sn : Nat → Int32 → Int32} {F0 w : Nat → Int32} {q : DS} {t : Nat} (h : w t = -1) : turnsG Lw sn F0 w q (t + 1) = turnsG Lw sn F0 w q t := if_pos h
theorem turnsG_g {Lw : LW} {sn : Nat → Int32 → Int32} {F0 w : Nat → Int32} {q : DS} {t : Nat} (h : ¬ w t = -1) : turnsG Lw sn F0 w q (t + 1) = goS Lw sn F0 w t (turnsG Lw sn F0 w q t) := if_neg h
theorem daysS_s {Lw : LW} {sn : Nat → Int32 → Int32} {F0 w : Nat → Int32} {n : Nat} {q : DS} (h : q.1 19 < 9999) : daysS Lw sn F0 w (n + 1) q = daysS Lw sn F0 w n (dayS Lw sn F0 w q) := if_neg (Int32.not_le.mpr h)
theorem daysS_e {Lw : LW} {sn : Nat → Int32 → Int32} {F0 w : Nat → Int32} {n : Nat} {q : DS} (h : 9999 ≤ q.1 19) : daysS Lw sn F0 w n q = q := by
  cases n with
  | zero => rfl
  | succ n => exact if_pos h
theorem codesOK_of {u v : MS} {Lw : LW} (h1 : v.1 20 = u.1 20) (h2 : v.2.1 27 = u.2.1 27) (h3 : v.2.1 28 = u.2.1 28) (h4 : v.2.1 29 = u.2.1 29) (h5 : v.2.1 30 = u.2.1 30) (h6 : v.2.1 31 = u.2.1 31) (h : codesOK u Lw) : codesOK v Lw := by
  unfold codesOK at h ⊢
  rw [h1, h2, h3, h4, h5, h6]; exact h
theorem codesOK_dM {u : MS} {Lw : LW} {v : Int32} {a b c : Nat → Int32} (h : codesOK u Lw) : codesOK (dM u v a b c) Lw := codesOK_of rfl rfl rfl rfl rfl rfl h
theorem carS_t {Lw : LW} {sn : Nat → Int32 → Int32} {F0 nw : Nat → Int32} {h : Nat} {t d cn : Int32} (hs : staysB Lw sn F0 nw h t d = true) : carS Lw sn F0 h t d (nw, cn) = (nw, cn) := by
  unfold carS
  dsimp only
  rw [hs, if_pos rfl]
theorem carS_f {Lw : LW} {sn : Nat → Int32 → Int32} {F0 nw : Nat → Int32} {h : Nat} {t d cn : Int32} (hs : staysB Lw sn F0 nw h t d = false) : carS Lw sn F0 h t d (nw, cn) = (upd (upd nw 18 (nw 18 + mnI (byLawS Lw 99 9 0 (factS sn F0 nw h t d)) (9999 - nw 18))) 16 (nI h), cn + mnI (byLawS Lw 99 9 0 (factS sn F0 nw h t d)) (9999 - nw 18)) := by
  unfold carS moreS
  dsimp only
  rw [hs, if_neg Bool.false_ne_true]
theorem gladS_n {Lw : LW} {sn : Nat → Int32 → Int32} {F0 nw : Nat → Int32} {t d : Int32} (h : nw 16 = -1) : gladS Lw sn F0 t d nw = nw := by unfold gladS; rw [if_pos h]
theorem gladS_z {Lw : LW} {sn : Nat → Int32 → Int32} {F0 nw : Nat → Int32} {t d : Int32} {j : Nat} (h : ¬ nw 16 = -1) (hj : ix (nw 16) = j) (hz : sn j t = 0) : gladS Lw sn F0 t d nw = upd nw j (mnI 99999 (nw j + byLawS Lw 106 99 (bitsI (sn j t) + bitsI (nw 17)) (factS sn F0 nw j t d))) := by
  unfold gladS joyS; rw [if_neg h, hj, if_pos hz]
theorem gladS_p {Lw : LW} {sn : Nat → Int32 → Int32} {F0 nw : Nat → Int32} {t d : Int32} {j : Nat} (h : ¬ nw 16 = -1) (hj : ix (nw 16) = j) (hz : ¬ sn j t = 0) : gladS Lw sn F0 t d nw = upd (upd nw j (mnI 99999 (nw j + byLawS Lw 106 99 (bitsI (sn j t) + bitsI (nw 17)) (factS sn F0 nw j t d)))) 17 (sn j t) := by
  unfold gladS joyS; rw [if_neg h, hj, if_neg hz]
