set_option maxRecDepth 100000
theorem dayS_eq {Lw : LW} {sn : Nat → Int32 → Int32} {F0 w nw : Nat → Int32} {q : DS} {cn : Int32} (h : (nw, cn) = turnsG Lw sn F0 w q 12) : dayS Lw sn F0 w q = (upd nw 19 (nw 19 + 1), cn) := by
  unfold dayS; rw [← h]
theorem daysS_0 (Lw : LW) (sn : Nat → Int32 → Int32) (F0 w : Nat → Int32) (q : DS) : daysS Lw sn F0 w 0 q = q := rfl
theorem daysS_step {Lw : LW} {sn : Nat → Int32 → Int32} {F0 w nw : Nat → Int32} {cn : Int32} {n k : Nat} (hk : k < n) (h : nw 19 < 9999) : daysS Lw sn F0 w (n - k) (nw, cn) = daysS Lw sn F0 w (n - (k + 1)) (dayS Lw sn F0 w (nw, cn)) := by
  obtain ⟨m, hm⟩ : ∃ m, n - k = m + 1 := ⟨n - k - 1, by omega⟩
  have h2 : n - (k + 1) = m := by omega
  rw [hm, h2]; exact daysS_s h
theorem daysS_last {Lw : LW} {sn : Nat → Int32 → Int32} {F0 w nw : Nat → Int32} {cn : Int32} {n : Nat} (h : 9999 ≤ nw 19) : daysS Lw sn F0 w n (nw, cn) = (nw, cn) := daysS_e h
def daysI (Lw : LW) (sn : Nat → Int32 → Int32) (w nw : Nat → Int32) (n : Int32) : Int32 := if inB n 1 100 = true then (daysS Lw sn F00 w (ix n) (nw, 0)).2 else -1
theorem codesOK_mC {u : MS} {Lw : LW} {b n : Nat} (hb : b < 4) (h : codesOK u Lw) : codesOK (mC u 0 b n) Lw := by
  refine codesOK_of (u := u) rfl ?_ ?_ ?_ ?_ ?_ h <;> (rw [mC_2, if_neg (by omega)])
theorem dM_nine {u : MS} {cn : Int32} {nw g f : Nat → Int32} {k : Nat} (h : ¬ k = 0 ∧ ¬ k = 32 ∧ ¬ k = 33) : (dM u cn nw g f).2.1 k = u.2.1 k := by
  simp only [dM]; rw [if_neg h.1, if_neg h.2.1, if_neg h.2.2]
def triedG (hs n k : Int32) : Bool := inB n 1 100 && (inB k 0 3 || isHouseB hs (k - 10))
def triedV (hs : Int32) (q : DS) (k : Int32) : Int32 := if k = 0 then q.2 else if k = 1 then orNoneS (q.1 16) else if k = 2 then q.1 17 else if k = 3 then joyAll hs q.1 16 else q.1 (ix (k - 10))
def triedI (Lw : LW) (sn : Nat → Int32 → Int32) (hs : Int32) (w nw : Nat → Int32) (n k : Int32) : Int32 := if triedG hs n k = true then triedV hs (daysS Lw sn F00 w (ix n) (nw, 0)) k else -1
theorem mC_back {u : MS} {cn : Int32} {nw g f : Nat → Int32} : mC (dM (mC u 0 1 21) cn nw g f) 1 0 21 = mS (dM u cn (fun t => if t < 21 then u.2.1 0 t else nw t) g f) 1 (fun t => if t < 21 then u.2.1 0 t else u.2.1 1 t) := by
  refine Prod.ext ?_ (Prod.ext ?_ rfl)
  · funext k; simp only [mC, dM, mS]
  · funext k
    simp only [mC, dM, mS]
    by_cases h0 : k = 0
    · subst h0; simp; funext t; by_cases e : t < 21 <;> simp [e]
    · by_cases h1 : k = 1
      · subst h1; simp
      · simp [h0, h1]
theorem tried_ix {hs k : Int32} (h : inB k 0 3 = true ∨ isHouseB hs (k - 10) = true) (h0 : ¬ k = 0) (h1 : ¬ k = 1) (h2 : ¬ k = 2) (h3 : ¬ k = 3) : k - 10 = nI (ix (k - 10)) ∧ ix (k - 10) < 16 := by
  rcases h with q | q
  · exfalso
    obtain ⟨j, hj, e⟩ := inB_nI 3 (by decide) q
    have : j = 0 ∨ j = 1 ∨ j = 2 ∨ j = 3 := by omega
    rcases this with rfl | rfl | rfl | rfl
    · exact h0 e
    · exact h1 e
    · exact h2 e
    · exact h3 e
  · obtain ⟨j, a, b, d⟩ := isHouseB_nI q
    rw [d]; exact ⟨b, a⟩
