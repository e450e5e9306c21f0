set_option maxRecDepth 100000
/-! S: days -/
theorem held_by {W : LW} {c hi no : Int32} {F : FF} (h0 : 0 ≤ no) (h1 : no ≤ hi) : mxI 0 (mnI hi (tellS W c no F)) = byLawS W c hi no F := by
  unfold tellS byLawS
  have hh : (0 : Int32) ≤ hi := Int32.le_trans h0 h1
  cases findW W c F W.1 0 with
  | none =>
    show mxI 0 (mnI hi no) = no
    unfold mxI mnI
    by_cases h : hi < no
    · exact absurd h1 (Int32.not_le.mpr h)
    · rw [if_neg h]
      by_cases q : no < 0
      · exact absurd h0 (Int32.not_le.mpr q)
      · rw [if_neg q]
  | some q =>
    show mxI 0 (mnI hi (W.2.2.1 q F)) = (if W.2.2.1 q F < 0 then 0 else if hi < W.2.2.1 q F then hi else W.2.2.1 q F)
    generalize W.2.2.1 q F = x
    clear h0 h1
    unfold mxI mnI
    grind
theorem tellS_nine {W : LW} (h : nineW W) {c no : Int32} {F F' : FF} (hF : ∀ i, i < 9 → F i = F' i) : tellS W c no F = tellS W c no F' := by
  unfold tellS
  rw [findW_nine h hF W.1 0 (by omega)]
  cases hq : findW W c F' W.1 0 with
  | none => rfl
  | some q => exact (h q F F' (by have := findW_lt _ _ _ hq; omega) hF).1
/-- what a street's row holds -/
def dOK (nw : Nat → Int32) : Prop := atOK (nw 16) ∧ sB (nw 17) ∧ ∃ c : Nat, c ≤ 9999 ∧ nw 18 = nI c
def rowA (u : MS) (a : Nat) (nw : Nat → Int32) : Prop := u.1 (a + 1) = nw 16 ∧ u.1 (a + 2) = nw 17 ∧ u.1 (a + 3) = nw 18 ∧ u.1 (a + 4) = nw 19 ∧ u.1 (a + 5) = nw 20 ∧ ∀ k, k < 16 → u.2.1 a k = nw k
theorem byLaw_b {W : LW} {c : Int32} {F : FF} : ∃ b : Nat, b ≤ 9 ∧ byLawS W c 9 0 F = nI b := by
  unfold byLawS
  cases findW W c F W.1 0 with
  | none => exact ⟨0, by omega, rfl⟩
  | some q =>
    show ∃ b : Nat, b ≤ 9 ∧ (if W.2.2.1 q F < 0 then 0 else if 9 < W.2.2.1 q F then 9 else W.2.2.1 q F) = nI b
    generalize W.2.2.1 q F = x
    by_cases h1 : x < 0
    · exact ⟨0, by omega, by rw [if_pos h1]; rfl⟩
    · by_cases h2 : 9 < x
      · exact ⟨9, by omega, by rw [if_neg h1, if_pos h2]; rfl⟩
      · obtain ⟨j, hj, e⟩ := nI_of2 (x := x) (M := 9) (n := 9) (by decide) h1 (Int32.not_lt.mp h2)
        exact ⟨j, hj, by rw [if_neg h1, if_neg h2]; exact e⟩
theorem crk_eq {nw : Nat → Int32} (h : dOK nw) {W : LW} {c : Int32} {F : FF} : mnI 9999 (nw 18 + byLawS W c 9 0 F) = nw 18 + mnI (byLawS W c 9 0 F) (9999 - nw 18) := by
  obtain ⟨_, _, k, hk, e⟩ := h
  obtain ⟨b, hb, e2⟩ := byLaw_b (W := W) (c := c) (F := F)
  rw [e, e2, nI_add, show (9999 : Int32) = nI 9999 from rfl, pk_sub hk, mnI_nI (by omega) (by omega), mnI_nI (by omega) (by omega), nI_add]
  congr 1; omega
theorem dOK_car {Lw : LW} {sn : Nat → Int32 → Int32} {F0 nw : Nat → Int32} {h : Nat} {t d cn : Int32} (hh : h < 16) (ho : dOK nw) : dOK (carS Lw sn F0 h t d (nw, cn)).1 := by
  cases hs : staysB Lw sn F0 nw h t d with
  | true => rw [carS_t hs]; exact ho
  | false =>
    rw [carS_f hs]
    obtain ⟨h1, h2, k, hk, e⟩ := ho
    refine ⟨Or.inr ⟨h, hh, rfl⟩, h2, ?_⟩
    obtain ⟨b, hb, e2⟩ := byLaw_b (W := Lw) (c := 99) (F := factS sn F0 nw h t d)
    refine ⟨k + min b (9999 - k), by omega, ?_⟩
    show nw 18 + mnI (byLawS Lw 99 9 0 (factS sn F0 nw h t d)) (9999 - nw 18) = _
    rw [e, e2, show (9999 : Int32) = nI 9999 from rfl, pk_sub hk, mnI_nI (by omega) (by omega), nI_add]
theorem dOK_lot {nw : Nat → Int32} (ho : dOK nw) : dOK (lotS nw) := ho
theorem dOK_carQ {Lw : LW} {sn : Nat → Int32 → Int32} {F0 w : Nat → Int32} {t : Nat} {q : DS} (hw : ix (w t) < 16) (ho : dOK q.1) : dOK (carQ Lw sn F0 w t q).1 := dOK_car hw (dOK_lot ho)
theorem gladS_k {Lw : LW} {sn : Nat → Int32 → Int32} {F0 nw : Nat → Int32} {t d : Int32} {k : Nat} (hk : 18 ≤ k) (ha : atOK (nw 16)) : gladS Lw sn F0 t d nw k = nw k := by
  by_cases h : nw 16 = -1
  · rw [gladS_n h]
  · have hj := (ha.ix h).2
    by_cases hz : sn (ix (nw 16)) t = 0
    · rw [gladS_z h rfl hz, upd_n _ (by omega)]
    · rw [gladS_p h rfl hz, upd_n _ (by omega), upd_n _ (by omega)]
theorem gladS_17z {Lw : LW} {sn : Nat → Int32 → Int32} {F0 nw : Nat → Int32} {t d : Int32} (h : ¬ nw 16 = -1) (ha : atOK (nw 16)) (hz : sn (ix (nw 16)) t = 0) : gladS Lw sn F0 t d nw 17 = nw 17 := by
  have hj := (ha.ix h).2
  rw [gladS_z h rfl hz, upd_n _ (by omega)]
theorem gladS_17p {Lw : LW} {sn : Nat → Int32 → Int32} {F0 nw : Nat → Int32} {t d : Int32} (h : ¬ nw 16 = -1) (hz : ¬ sn (ix (nw 16)) t = 0) : gladS Lw sn F0 t d nw 17 = sn (ix (nw 16)) t := by
  rw [gladS_p h rfl hz]; exact upd_s _ _ _
theorem dOK_glad {Lw : LW} {sn : Nat → Int32 → Int32} {F0 nw : Nat → Int32} {t d : Int32} (hsn : ∀ j, sB (sn j t)) (ho : dOK nw) : dOK (gladS Lw sn F0 t d nw) := by
  obtain ⟨h1, h2, h3⟩ := ho
  refine ⟨by rw [gladS_16 h1]; exact h1, ?_, by rw [gladS_k (by omega) h1]; exact h3⟩
  by_cases h : nw 16 = -1
  · rw [gladS_n h]; exact h2
  · by_cases hz : sn (ix (nw 16)) t = 0
    · rw [gladS_17z h h1 hz]; exact h2
    · rw [gladS_17p h hz]; exact hsn _
theorem dOK_go {Lw : LW} {sn : Nat → Int32 → Int32} {F0 w : Nat → Int32} {t : Nat} {q : DS} (hsn : ∀ j t, sB (sn j t)) (hw : ix (w t) < 16) (ho : dOK q.1) : dOK (goS Lw sn F0 w t q).1 := dOK_glad (fun j => hsn j _) (dOK_carQ hw ho)
theorem dOK_turns {Lw : LW} {sn : Nat → Int32 → Int32} {F0 w : Nat → Int32} {q : DS} (hsn : ∀ j t, sB (sn j t)) (hw : WOK w) (ho : dOK q.1) : ∀ t, t ≤ 12 → dOK (turnsG Lw sn F0 w q t).1 := by
  intro t
  induction t with
  | zero => intro _; exact ho
  | succ t ih =>
    intro ht
    by_cases h : w t = -1
    · rw [turnsG_n h]; exact ih (by omega)
    · rw [turnsG_g h]; exact dOK_go hsn (hw.ix (by omega) h).2 (ih (by omega))
theorem dOK_day {Lw : LW} {sn : Nat → Int32 → Int32} {F0 w : Nat → Int32} {q : DS} (hsn : ∀ j t, sB (sn j t)) (hw : WOK w) (ho : dOK q.1) : dOK (dayS Lw sn F0 w q).1 := by
  have h := dOK_turns (Lw := Lw) (sn := sn) (F0 := F0) hsn hw ho 12 (Nat.le_refl _)
  exact h
theorem dOK_days {Lw : LW} {sn : Nat → Int32 → Int32} {F0 w : Nat → Int32} (hsn : ∀ j t, sB (sn j t)) (hw : WOK w) : ∀ n (q : DS), dOK q.1 → dOK (daysS Lw sn F0 w n q).1 := by
  intro n
  induction n with
  | zero => intro q h; exact h
  | succ n ih =>
    intro q h
    unfold daysS
    split
    · exact h
    · exact ih _ (dOK_day hsn hw h)
theorem carS_k {Lw : LW} {sn : Nat → Int32 → Int32} {F0 nw : Nat → Int32} {h : Nat} {t d cn : Int32} {k : Nat} (h1 : k ≠ 16) (h2 : k ≠ 18) : (carS Lw sn F0 h t d (nw, cn)).1 k = nw k := by
  cases hs : staysB Lw sn F0 nw h t d with
  | true => rw [carS_t hs]
  | false => rw [carS_f hs]; show upd (upd nw 18 _) 16 _ k = nw k; rw [upd_n _ h1, upd_n _ h2]
theorem bits2_b {x y : Int32} : (0 : Int32) ≤ bitsI x + bitsI y ∧ bitsI x + bitsI y ≤ 99 := by
  have hb : ∀ z : Int32, ∃ n : Nat, n ≤ 16 ∧ bitsI z = nI n := fun z => ⟨cntN z.toBitVec.toNat, by
    have h : ∀ k, cnN z.toBitVec.toNat k ≤ k := by
      intro k
      induction k with
      | zero => exact Nat.le_refl _
      | succ k ih => unfold cnN; split <;> omega
    exact h 16, by rw [← bitsI_nI]; exact congrArg bitsI (bt_toNat z)⟩
  obtain ⟨a, ha, ea⟩ := hb x
  obtain ⟨b, hb, eb⟩ := hb y
  rw [ea, eb, nI_add]
  exact ⟨(nI_leI (a := 0) (by omega) (by omega)).mpr (Nat.zero_le _), (nI_leI (b := 99) (by omega) (by omega)).mpr (by omega)⟩
def dSa (u : MS) (v30 : Int32) (f0 : Nat → Int32) (v41 : Int32) (v42 : Int32) (v43 : Int32) (v44 : Int32) (v45 : Int32) (v46 : Int32) (a40 : Nat → Int32) : MS := (fun k => if 31 ≤ k ∧ k < 40 then f0 (k - 31) else if k = 30 then v30 else if k = 41 then v41 else if k = 42 then v42 else if k = 43 then v43 else if k = 44 then v44 else if k = 45 then v45 else if k = 46 then v46 else u.1 k, fun k => if k = 40 then a40 else u.2.1 k, u.2.2)
theorem dSa_self (u : MS) : dSa u (u.1 30) (fcU u) (u.1 41) (u.1 42) (u.1 43) (u.1 44) (u.1 45) (u.1 46) (u.2.1 40) = u := by
  refine Prod.ext ?_ (Prod.ext ?_ rfl) <;> (funext k; simp only [dSa, fcU]; all_goals ((repeat' split) <;> first | rfl | (subst_vars; rfl) | (rw [Nat.add_sub_cancel' (by omega)]; done) | (exfalso; omega) | simp_all))
theorem dSa_again (u : MS) (v30 : Int32) (f0 : Nat → Int32) (v41 : Int32) (v42 : Int32) (v43 : Int32) (v44 : Int32) (v45 : Int32) (v46 : Int32) (a40 : Nat → Int32) (xv30 : Int32) (xf0 : Nat → Int32) (xv41 : Int32) (xv42 : Int32) (xv43 : Int32) (xv44 : Int32) (xv45 : Int32) (xv46 : Int32) (xa40 : Nat → Int32) : dSa (dSa u v30 f0 v41 v42 v43 v44 v45 v46 a40) xv30 xf0 xv41 xv42 xv43 xv44 xv45 xv46 xa40 = dSa u xv30 xf0 xv41 xv42 xv43 xv44 xv45 xv46 xa40 := by
  refine Prod.ext ?_ (Prod.ext ?_ rfl) <;> (funext k; simp only [dSa]; all_goals ((repeat' split) <;> first | rfl | (subst_vars; rfl) | (exfalso; omega) | simp_all))
theorem dSa_V30 (u : MS) (v30 : Int32) (f0 : Nat → Int32) (v41 : Int32) (v42 : Int32) (v43 : Int32) (v44 : Int32) (v45 : Int32) (v46 : Int32) (a40 : Nat → Int32) (x : Int32) : mV (dSa u v30 f0 v41 v42 v43 v44 v45 v46 a40) 30 x = dSa u x f0 v41 v42 v43 v44 v45 v46 a40 := by
  refine Prod.ext ?_ rfl; funext k; simp only [dSa, mV, upd]; all_goals ((repeat' split) <;> first | rfl | (subst_vars; rfl) | (exfalso; omega) | simp_all)
theorem dSa_V41 (u : MS) (v30 : Int32) (f0 : Nat → Int32) (v41 : Int32) (v42 : Int32) (v43 : Int32) (v44 : Int32) (v45 : Int32) (v46 : Int32) (a40 : Nat → Int32) (x : Int32) : mV (dSa u v30 f0 v41 v42 v43 v44 v45 v46 a40) 41 x = dSa u v30 f0 x v42 v43 v44 v45 v46 a40 := by
  refine Prod.ext ?_ rfl; funext k; simp only [dSa, mV, upd]; all_goals ((repeat' split) <;> first | rfl | (subst_vars; rfl) | (exfalso; omega) | simp_all)
theorem dSa_V42 (u : MS) (v30 : Int32) (f0 : Nat → Int32) (v41 : Int32) (v42 : Int32) (v43 : Int32) (v44 : Int32) (v45 : Int32) (v46 : Int32) (a40 : Nat → Int32) (x : Int32) : mV (dSa u v30 f0 v41 v42 v43 v44 v45 v46 a40) 42 x = dSa u v30 f0 v41 x v43 v44 v45 v46 a40 := by
  refine Prod.ext ?_ rfl; funext k; simp only [dSa, mV, upd]; all_goals ((repeat' split) <;> first | rfl | (subst_vars; rfl) | (exfalso; omega) | simp_all)
theorem dSa_V43 (u : MS) (v30 : Int32) (f0 : Nat → Int32) (v41 : Int32) (v42 : Int32) (v43 : Int32) (v44 : Int32) (v45 : Int32) (v46 : Int32) (a40 : Nat → Int32) (x : Int32) : mV (dSa u v30 f0 v41 v42 v43 v44 v45 v46 a40) 43 x = dSa u v30 f0 v41 v42 x v44 v45 v46 a40 := by
  refine Prod.ext ?_ rfl; funext k; simp only [dSa, mV, upd]; all_goals ((repeat' split) <;> first | rfl | (subst_vars; rfl) | (exfalso; omega) | simp_all)
theorem dSa_V44 (u : MS) (v30 : Int32) (f0 : Nat → Int32) (v41 : Int32) (v42 : Int32) (v43 : Int32) (v44 : Int32) (v45 : Int32) (v46 : Int32) (a40 : Nat → Int32) (x : Int32) : mV (dSa u v30 f0 v41 v42 v43 v44 v45 v46 a40) 44 x = dSa u v30 f0 v41 v42 v43 x v45 v46 a40 := by
  refine Prod.ext ?_ rfl; funext k; simp only [dSa, mV, upd]; all_goals ((repeat' split) <;> first | rfl | (subst_vars; rfl) | (exfalso; omega) | simp_all)
theorem dSa_V45 (u : MS) (v30 : Int32) (f0 : Nat → Int32) (v41 : Int32) (v42 : Int32) (v43 : Int32) (v44 : Int32) (v45 : Int32) (v46 : Int32) (a40 : Nat → Int32) (x : Int32) : mV (dSa u v30 f0 v41 v42 v43 v44 v45 v46 a40) 45 x = dSa u v30 f0 v41 v42 v43 v44 x v46 a40 := by
  refine Prod.ext ?_ rfl; funext k; simp only [dSa, mV, upd]; all_goals ((repeat' split) <;> first | rfl | (subst_vars; rfl) | (exfalso; omega) | simp_all)
theorem dSa_V46 (u : MS) (v30 : Int32) (f0 : Nat → Int32) (v41 : Int32) (v42 : Int32) (v43 : Int32) (v44 : Int32) (v45 : Int32) (v46 : Int32) (a40 : Nat → Int32) (x : Int32) : mV (dSa u v30 f0 v41 v42 v43 v44 v45 v46 a40) 46 x = dSa u v30 f0 v41 v42 v43 v44 v45 x a40 := by
  refine Prod.ext ?_ rfl; funext k; simp only [dSa, mV, upd]; all_goals ((repeat' split) <;> first | rfl | (subst_vars; rfl) | (exfalso; omega) | simp_all)
theorem dSa_A40 (u : MS) (v30 : Int32) (f0 : Nat → Int32) (v41 : Int32) (v42 : Int32) (v43 : Int32) (v44 : Int32) (v45 : Int32) (v46 : Int32) (a40 : Nat → Int32) (i : Nat) (x : Int32) : mA (dSa u v30 f0 v41 v42 v43 v44 v45 v46 a40) 40 i x = dSa u v30 f0 v41 v42 v43 v44 v45 v46 (upd a40 i x) := by
  refine Prod.ext rfl (Prod.ext ?_ rfl); funext k; simp only [dSa, mA, upd2]; all_goals ((repeat' split) <;> first | rfl | (subst_vars; rfl) | (exfalso; omega) | simp_all)
theorem dSa_S40 (u : MS) (v30 : Int32) (f0 : Nat → Int32) (v41 : Int32) (v42 : Int32) (v43 : Int32) (v44 : Int32) (v45 : Int32) (v46 : Int32) (a40 : Nat → Int32) (x : Nat → Int32) : mS (dSa u v30 f0 v41 v42 v43 v44 v45 v46 a40) 40 x = dSa u v30 f0 v41 v42 v43 v44 v45 v46 x := by
  refine Prod.ext rfl (Prod.ext ?_ rfl); funext k; simp only [dSa, mS]; all_goals ((repeat' split) <;> first | rfl | (subst_vars; rfl) | (exfalso; omega) | simp_all)
theorem dSa_mo (u : MS) (v30 : Int32) (f0 : Nat → Int32) (v41 : Int32) (v42 : Int32) (v43 : Int32) (v44 : Int32) (v45 : Int32) (v46 : Int32) (a40 : Nat → Int32) (F : Nat → Int32) : moM (dSa u v30 f0 v41 v42 v43 v44 v45 v46 a40) F = dSa u v30 F v41 v42 v43 v44 v45 v46 a40 := by
  refine Prod.ext ?_ rfl; funext k; simp only [dSa, moM]; all_goals ((repeat' split) <;> first | rfl | (subst_vars; rfl) | (exfalso; omega) | simp_all)
theorem dSa_fc (u : MS) (v30 : Int32) (f0 : Nat → Int32) (v41 : Int32) (v42 : Int32) (v43 : Int32) (v44 : Int32) (v45 : Int32) (v46 : Int32) (a40 : Nat → Int32) : ∀ i, i < 9 → fcU (dSa u v30 f0 v41 v42 v43 v44 v45 v46 a40) i = f0 i := by
  intro i hi
  have : i = 0 ∨ i = 1 ∨ i = 2 ∨ i = 3 ∨ i = 4 ∨ i = 5 ∨ i = 6 ∨ i = 7 ∨ i = 8 := by omega
  rcases this with rfl | rfl | rfl | rfl | rfl | rfl | rfl | rfl | rfl <;> rfl
theorem dSa_g1 (u : MS) (v30 : Int32) (f0 : Nat → Int32) (v41 : Int32) (v42 : Int32) (v43 : Int32) (v44 : Int32) (v45 : Int32) (v46 : Int32) (a40 : Nat → Int32) : (dSa u v30 f0 v41 v42 v43 v44 v45 v46 a40).2.1 1 = (u.2.1 1) := rfl
theorem dSa_g6 (u : MS) (v30 : Int32) (f0 : Nat → Int32) (v41 : Int32) (v42 : Int32) (v43 : Int32) (v44 : Int32) (v45 : Int32) (v46 : Int32) (a40 : Nat → Int32) : (dSa u v30 f0 v41 v42 v43 v44 v45 v46 a40).2.1 6 = (u.2.1 6) := rfl
theorem dSa_f8 (u : MS) (v30 : Int32) (f0 : Nat → Int32) (v41 : Int32) (v42 : Int32) (v43 : Int32) (v44 : Int32) (v45 : Int32) (v46 : Int32) (a40 : Nat → Int32) : (dSa u v30 f0 v41 v42 v43 v44 v45 v46 a40).1 8 = (u.1 8) := rfl
theorem dSa_f9 (u : MS) (v30 : Int32) (f0 : Nat → Int32) (v41 : Int32) (v42 : Int32) (v43 : Int32) (v44 : Int32) (v45 : Int32) (v46 : Int32) (a40 : Nat → Int32) : (dSa u v30 f0 v41 v42 v43 v44 v45 v46 a40).1 9 = (u.1 9) := rfl
theorem dSa_g14 (u : MS) (v30 : Int32) (f0 : Nat → Int32) (v41 : Int32) (v42 : Int32) (v43 : Int32) (v44 : Int32) (v45 : Int32) (v46 : Int32) (a40 : Nat → Int32) : (dSa u v30 f0 v41 v42 v43 v44 v45 v46 a40).2.1 14 = (u.2.1 14) := rfl
theorem dSa_g16 (u : MS) (v30 : Int32) (f0 : Nat → Int32) (v41 : Int32) (v42 : Int32) (v43 : Int32) (v44 : Int32) (v45 : Int32) (v46 : Int32) (a40 : Nat → Int32) : (dSa u v30 f0 v41 v42 v43 v44 v45 v46 a40).2.1 16 = (u.2.1 16) := rfl
theorem dSa_g17 (u : MS) (v30 : Int32) (f0 : Nat → Int32) (v41 : Int32) (v42 : Int32) (v43 : Int32) (v44 : Int32) (v45 : Int32) (v46 : Int32) (a40 : Nat → Int32) : (dSa u v30 f0 v41 v42 v43 v44 v45 v46 a40).2.1 17 = (u.2.1 17) := rfl
theorem dSa_f18 (u : MS) (v30 : Int32) (f0 : Nat → Int32) (v41 : Int32) (v42 : Int32) (v43 : Int32) (v44 : Int32) (v45 : Int32) (v46 : Int32) (a40 : Nat → Int32) : (dSa u v30 f0 v41 v42 v43 v44 v45 v46 a40).1 18 = (u.1 18) := rfl
theorem dSa_g20 (u : MS) (v30 : Int32) (f0 : Nat → Int32) (v41 : Int32) (v42 : Int32) (v43 : Int32) (v44 : Int32) (v45 : Int32) (v46 : Int32) (a40 : Nat → Int32) : (dSa u v30 f0 v41 v42 v43 v44 v45 v46 a40).2.1 20 = (u.2.1 20) := rfl
theorem dSa_g21 (u : MS) (v30 : Int32) (f0 : Nat → Int32) (v41 : Int32) (v42 : Int32) (v43 : Int32) (v44 : Int32) (v45 : Int32) (v46 : Int32) (a40 : Nat → Int32) : (dSa u v30 f0 v41 v42 v43 v44 v45 v46 a40).2.1 21 = (u.2.1 21) := rfl
theorem dSa_g22 (u : MS) (v30 : Int32) (f0 : Nat → Int32) (v41 : Int32) (v42 : Int32) (v43 : Int32) (v44 : Int32) (v45 : Int32) (v46 : Int32) (a40 : Nat → Int32) : (dSa u v30 f0 v41 v42 v43 v44 v45 v46 a40).2.1 22 = (u.2.1 22) := rfl
theorem dSa_g23 (u : MS) (v30 : Int32) (f0 : Nat → Int32) (v41 : Int32) (v42 : Int32) (v43 : Int32) (v44 : Int32) (v45 : Int32) (v46 : Int32) (a40 : Nat → Int32) : (dSa u v30 f0 v41 v42 v43 v44 v45 v46 a40).2.1 23 = (u.2.1 23) := rfl
theorem dSa_f24 (u : MS) (v30 : Int32) (f0 : Nat → Int32) (v41 : Int32) (v42 : Int32) (v43 : Int32) (v44 : Int32) (v45 : Int32) (v46 : Int32) (a40 : Nat → Int32) : (dSa u v30 f0 v41 v42 v43 v44 v45 v46 a40).1 24 = (u.1 24) := rfl
theorem dSa_f25 (u : MS) (v30 : Int32) (f0 : Nat → Int32) (v41 : Int32) (v42 : Int32) (v43 : Int32) (v44 : Int32) (v45 : Int32) (v46 : Int32) (a40 : Nat → Int32) : (dSa u v30 f0 v41 v42 v43 v44 v45 v46 a40).1 25 = (u.1 25) := rfl
theorem dSa_f30 (u : MS) (v30 : Int32) (f0 : Nat → Int32) (v41 : Int32) (v42 : Int32) (v43 : Int32) (v44 : Int32) (v45 : Int32) (v46 : Int32) (a40 : Nat → Int32) : (dSa u v30 f0 v41 v42 v43 v44 v45 v46 a40).1 30 = v30 := rfl
theorem dSa_f31 (u : MS) (v30 : Int32) (f0 : Nat → Int32) (v41 : Int32) (v42 : Int32) (v43 : Int32) (v44 : Int32) (v45 : Int32) (v46 : Int32) (a40 : Nat → Int32) : (dSa u v30 f0 v41 v42 v43 v44 v45 v46 a40).1 31 = (f0 0) := rfl
theorem dSa_f32 (u : MS) (v30 : Int32) (f0 : Nat → Int32) (v41 : Int32) (v42 : Int32) (v43 : Int32) (v44 : Int32) (v45 : Int32) (v46 : Int32) (a40 : Nat → Int32) : (dSa u v30 f0 v41 v42 v43 v44 v45 v46 a40).1 32 = (f0 1) := rfl
theorem dSa_f33 (u : MS) (v30 : Int32) (f0 : Nat → Int32) (v41 : Int32) (v42 : Int32) (v43 : Int32) (v44 : Int32) (v45 : Int32) (v46 : Int32) (a40 : Nat → Int32) : (dSa u v30 f0 v41 v42 v43 v44 v45 v46 a40).1 33 = (f0 2) := rfl
theorem dSa_f34 (u : MS) (v30 : Int32) (f0 : Nat → Int32) (v41 : Int32) (v42 : Int32) (v43 : Int32) (v44 : Int32) (v45 : Int32) (v46 : Int32) (a40 : Nat → Int32) : (dSa u v30 f0 v41 v42 v43 v44 v45 v46 a40).1 34 = (f0 3) := rfl
theorem dSa_f35 (u : MS) (v30 : Int32) (f0 : Nat → Int32) (v41 : Int32) (v42 : Int32) (v43 : Int32) (v44 : Int32) (v45 : Int32) (v46 : Int32) (a40 : Nat → Int32) : (dSa u v30 f0 v41 v42 v43 v44 v45 v46 a40).1 35 = (f0 4) := rfl
theorem dSa_f36 (u : MS) (v30 : Int32) (f0 : Nat → Int32) (v41 : Int32) (v42 : Int32) (v43 : Int32) (v44 : Int32) (v45 : Int32) (v46 : Int32) (a40 : Nat → Int32) : (dSa u v30 f0 v41 v42 v43 v44 v45 v46 a40).1 36 = (f0 5) := rfl
theorem dSa_f37 (u : MS) (v30 : Int32) (f0 : Nat → Int32) (v41 : Int32) (v42 : Int32) (v43 : Int32) (v44 : Int32) (v45 : Int32) (v46 : Int32) (a40 : Nat → Int32) : (dSa u v30 f0 v41 v42 v43 v44 v45 v46 a40).1 37 = (f0 6) := rfl
theorem dSa_f38 (u : MS) (v30 : Int32) (f0 : Nat → Int32) (v41 : Int32) (v42 : Int32) (v43 : Int32) (v44 : Int32) (v45 : Int32) (v46 : Int32) (a40 : Nat → Int32) : (dSa u v30 f0 v41 v42 v43 v44 v45 v46 a40).1 38 = (f0 7) := rfl
theorem dSa_f39 (u : MS) (v30 : Int32) (f0 : Nat → Int32) (v41 : Int32) (v42 : Int32) (v43 : Int32) (v44 : Int32) (v45 : Int32) (v46 : Int32) (a40 : Nat → Int32) : (dSa u v30 f0 v41 v42 v43 v44 v45 v46 a40).1 39 = (f0 8) := rfl
theorem dSa_g40 (u : MS) (v30 : Int32) (f0 : Nat → Int32) (v41 : Int32) (v42 : Int32) (v43 : Int32) (v44 : Int32) (v45 : Int32) (v46 : Int32) (a40 : Nat → Int32) : (dSa u v30 f0 v41 v42 v43 v44 v45 v46 a40).2.1 40 = a40 := rfl
theorem dSa_f41 (u : MS) (v30 : Int32) (f0 : Nat → Int32) (v41 : Int32) (v42 : Int32) (v43 : Int32) (v44 : Int32) (v45 : Int32) (v46 : Int32) (a40 : Nat → Int32) : (dSa u v30 f0 v41 v42 v43 v44 v45 v46 a40).1 41 = v41 := rfl
theorem dSa_f42 (u : MS) (v30 : Int32) (f0 : Nat → Int32) (v41 : Int32) (v42 : Int32) (v43 : Int32) (v44 : Int32) (v45 : Int32) (v46 : Int32) (a40 : Nat → Int32) : (dSa u v30 f0 v41 v42 v43 v44 v45 v46 a40).1 42 = v42 := rfl
theorem dSa_f43 (u : MS) (v30 : Int32) (f0 : Nat → Int32) (v41 : Int32) (v42 : Int32) (v43 : Int32) (v44 : Int32) (v45 : Int32) (v46 : Int32) (a40 : Nat → Int32) : (dSa u v30 f0 v41 v42 v43 v44 v45 v46 a40).1 43 = v43 := rfl
theorem dSa_f44 (u : MS) (v30 : Int32) (f0 : Nat → Int32) (v41 : Int32) (v42 : Int32) (v43 : Int32) (v44 : Int32) (v45 : Int32) (v46 : Int32) (a40 : Nat → Int32) : (dSa u v30 f0 v41 v42 v43 v44 v45 v46 a40).1 44 = v44 := rfl
theorem dSa_f45 (u : MS) (v30 : Int32) (f0 : Nat → Int32) (v41 : Int32) (v42 : Int32) (v43 : Int32) (v44 : Int32) (v45 : Int32) (v46 : Int32) (a40 : Nat → Int32) : (dSa u v30 f0 v41 v42 v43 v44 v45 v46 a40).1 45 = v45 := rfl
theorem dSa_f46 (u : MS) (v30 : Int32) (f0 : Nat → Int32) (v41 : Int32) (v42 : Int32) (v43 : Int32) (v44 : Int32) (v45 : Int32) (v46 : Int32) (a40 : Nat → Int32) : (dSa u v30 f0 v41 v42 v43 v44 v45 v46 a40).1 46 = v46 := rfl
theorem dSa_g50 (u : MS) (v30 : Int32) (f0 : Nat → Int32) (v41 : Int32) (v42 : Int32) (v43 : Int32) (v44 : Int32) (v45 : Int32) (v46 : Int32) (a40 : Nat → Int32) : (dSa u v30 f0 v41 v42 v43 v44 v45 v46 a40).2.1 50 = (u.2.1 50) := rfl
theorem dSa_f51 (u : MS) (v30 : Int32) (f0 : Nat → Int32) (v41 : Int32) (v42 : Int32) (v43 : Int32) (v44 : Int32) (v45 : Int32) (v46 : Int32) (a40 : Nat → Int32) : (dSa u v30 f0 v41 v42 v43 v44 v45 v46 a40).1 51 = (u.1 51) := rfl
theorem dSa_f52 (u : MS) (v30 : Int32) (f0 : Nat → Int32) (v41 : Int32) (v42 : Int32) (v43 : Int32) (v44 : Int32) (v45 : Int32) (v46 : Int32) (a40 : Nat → Int32) : (dSa u v30 f0 v41 v42 v43 v44 v45 v46 a40).1 52 = (u.1 52) := rfl
theorem dSa_f53 (u : MS) (v30 : Int32) (f0 : Nat → Int32) (v41 : Int32) (v42 : Int32) (v43 : Int32) (v44 : Int32) (v45 : Int32) (v46 : Int32) (a40 : Nat → Int32) : (dSa u v30 f0 v41 v42 v43 v44 v45 v46 a40).1 53 = (u.1 53) := rfl
theorem dSa_f54 (u : MS) (v30 : Int32) (f0 : Nat → Int32) (v41 : Int32) (v42 : Int32) (v43 : Int32) (v44 : Int32) (v45 : Int32) (v46 : Int32) (a40 : Nat → Int32) : (dSa u v30 f0 v41 v42 v43 v44 v45 v46 a40).1 54 = (u.1 54) := rfl
theorem dSa_f55 (u : MS) (v30 : Int32) (f0 : Nat → Int32) (v41 : Int32) (v42 : Int32) (v43 : Int32) (v44 : Int32) (v45 : Int32) (v46 : Int32) (a40 : Nat → Int32) : (dSa u v30 f0 v41 v42 v43 v44 v45 v46 a40).1 55 = (u.1 55) := rfl
theorem dSa_f56 (u : MS) (v30 : Int32) (f0 : Nat → Int32) (v41 : Int32) (v42 : Int32) (v43 : Int32) (v44 : Int32) (v45 : Int32) (v46 : Int32) (a40 : Nat → Int32) : (dSa u v30 f0 v41 v42 v43 v44 v45 v46 a40).1 56 = (u.1 56) := rfl
theorem dSa_g60 (u : MS) (v30 : Int32) (f0 : Nat → Int32) (v41 : Int32) (v42 : Int32) (v43 : Int32) (v44 : Int32) (v45 : Int32) (v46 : Int32) (a40 : Nat → Int32) : (dSa u v30 f0 v41 v42 v43 v44 v45 v46 a40).2.1 60 = (u.2.1 60) := rfl
theorem dSa_f61 (u : MS) (v30 : Int32) (f0 : Nat → Int32) (v41 : Int32) (v42 : Int32) (v43 : Int32) (v44 : Int32) (v45 : Int32) (v46 : Int32) (a40 : Nat → Int32) : (dSa u v30 f0 v41 v42 v43 v44 v45 v46 a40).1 61 = (u.1 61) := rfl
theorem dSa_f62 (u : MS) (v30 : Int32) (f0 : Nat → Int32) (v41 : Int32) (v42 : Int32) (v43 : Int32) (v44 : Int32) (v45 : Int32) (v46 : Int32) (a40 : Nat → Int32) : (dSa u v30 f0 v41 v42 v43 v44 v45 v46 a40).1 62 = (u.1 62) := rfl
theorem dSa_f63 (u : MS) (v30 : Int32) (f0 : Nat → Int32) (v41 : Int32) (v42 : Int32) (v43 : Int32) (v44 : Int32) (v45 : Int32) (v46 : Int32) (a40 : Nat → Int32) : (dSa u v30 f0 v41 v42 v43 v44 v45 v46 a40).1 63 = (u.1 63) := rfl
theorem dSa_f64 (u : MS) (v30 : Int32) (f0 : Nat → Int32) (v41 : Int32) (v42 : Int32) (v43 : Int32) (v44 : Int32) (v45 : Int32) (v46 : Int32) (a40 : Nat → Int32) : (dSa u v30 f0 v41 v42 v43 v44 v45 v46 a40).1 64 = (u.1 64) := rfl
theorem dSa_f65 (u : MS) (v30 : Int32) (f0 : Nat → Int32) (v41 : Int32) (v42 : Int32) (v43 : Int32) (v44 : Int32) (v45 : Int32) (v46 : Int32) (a40 : Nat → Int32) : (dSa u v30 f0 v41 v42 v43 v44 v45 v46 a40).1 65 = (u.1 65) := rfl
theorem dSa_f66 (u : MS) (v30 : Int32) (f0 : Nat → Int32) (v41 : Int32) (v42 : Int32) (v43 : Int32) (v44 : Int32) (v45 : Int32) (v46 : Int32) (a40 : Nat → Int32) : (dSa u v30 f0 v41 v42 v43 v44 v45 v46 a40).1 66 = (u.1 66) := rfl
def dSb (u : MS) (v30 : Int32) (f0 : Nat → Int32) (v51 : Int32) (v52 : Int32) (v53 : Int32) (v54 : Int32) (v55 : Int32) (v56 : Int32) (a50 : Nat → Int32) : MS := (fun k => if 31 ≤ k ∧ k < 40 then f0 (k - 31) else if k = 30 then v30 else if k = 51 then v51 else if k = 52 then v52 else if k = 53 then v53 else if k = 54 then v54 else if k = 55 then v55 else if k = 56 then v56 else u.1 k, fun k => if k = 50 then a50 else u.2.1 k, u.2.2)
theorem dSb_self (u : MS) : dSb u (u.1 30) (fcU u) (u.1 51) (u.1 52) (u.1 53) (u.1 54) (u.1 55) (u.1 56) (u.2.1 50) = u := by
  refine Prod.ext ?_ (Prod.ext ?_ rfl) <;> (funext k; simp only [dSb, fcU]; all_goals ((repeat' split) <;> first | rfl | (subst_vars; rfl) | (rw [Nat.add_sub_cancel' (by omega)]; done) | (exfalso; omega) | simp_all))
theorem dSb_again (u : MS) (v30 : Int32) (f0 : Nat → Int32) (v51 : Int32) (v52 : Int32) (v53 : Int32) (v54 : Int32) (v55 : Int32) (v56 : Int32) (a50 : Nat → Int32) (xv30 : Int32) (xf0 : Nat → Int32) (xv51 : Int32) (xv52 : Int32) (xv53 : Int32) (xv54 : Int32) (xv55 : Int32) (xv56 : Int32) (xa50 : Nat → Int32) : dSb (dSb u v30 f0 v51 v52 v53 v54 v55 v56 a50) xv30 xf0 xv51 xv52 xv53 xv54 xv55 xv56 xa50 = dSb u xv30 xf0 xv51 xv52 xv53 xv54 xv55 xv56 xa50 := by
  refine Prod.ext ?_ (Prod.ext ?_ rfl) <;> (funext k; simp only [dSb]; all_goals ((repeat' split) <;> first | rfl | (subst_vars; rfl) | (exfalso; omega) | simp_all))
theorem dSb_V30 (u : MS) (v30 : Int32) (f0 : Nat → Int32) (v51 : Int32) (v52 : Int32) (v53 : Int32) (v54 : Int32) (v55 : Int32) (v56 : Int32) (a50 : Nat → Int32) (x : Int32) : mV (dSb u v30 f0 v51 v52 v53 v54 v55 v56 a50) 30 x = dSb u x f0 v51 v52 v53 v54 v55 v56 a50 := by
  refine Prod.ext ?_ rfl; funext k; simp only [dSb, mV, upd]; all_goals ((repeat' split) <;> first | rfl | (subst_vars; rfl) | (exfalso; omega) | simp_all)
theorem dSb_V51 (u : MS) (v30 : Int32) (f0 : Nat → Int32) (v51 : Int32) (v52 : Int32) (v53 : Int32) (v54 : Int32) (v55 : Int32) (v56 : Int32) (a50 : Nat → Int32) (x : Int32) : mV (dSb u v30 f0 v51 v52 v53 v54 v55 v56 a50) 51 x = dSb u v30 f0 x v52 v53 v54 v55 v56 a50 := by
  refine Prod.ext ?_ rfl; funext k; simp only [dSb, mV, upd]; all_goals ((repeat' split) <;> first | rfl | (subst_vars; rfl) | (exfalso; omega) | simp_all)
theorem dSb_V52 (u : MS) (v30 : Int32) (f0 : Nat → Int32) (v51 : Int32) (v52 : Int32) (v53 : Int32) (v54 : Int32) (v55 : Int32) (v56 : Int32) (a50 : Nat → Int32) (x : Int32) : mV (dSb u v30 f0 v51 v52 v53 v54 v55 v56 a50) 52 x = dSb u v30 f0 v51 x v53 v54 v55 v56 a50 := by
  refine Prod.ext ?_ rfl; funext k; simp only [dSb, mV, upd]; all_goals ((repeat' split) <;> first | rfl | (subst_vars; rfl) | (exfalso; omega) | simp_all)
theorem dSb_V53 (u : MS) (v30 : Int32) (f0 : Nat → Int32) (v51 : Int32) (v52 : Int32) (v53 : Int32) (v54 : Int32) (v55 : Int32) (v56 : Int32) (a50 : Nat → Int32) (x : Int32) : mV (dSb u v30 f0 v51 v52 v53 v54 v55 v56 a50) 53 x = dSb u v30 f0 v51 v52 x v54 v55 v56 a50 := by
  refine Prod.ext ?_ rfl; funext k; simp only [dSb, mV, upd]; all_goals ((repeat' split) <;> first | rfl | (subst_vars; rfl) | (exfalso; omega) | simp_all)
theorem dSb_V54 (u : MS) (v30 : Int32) (f0 : Nat → Int32) (v51 : Int32) (v52 : Int32) (v53 : Int32) (v54 : Int32) (v55 : Int32) (v56 : Int32) (a50 : Nat → Int32) (x : Int32) : mV (dSb u v30 f0 v51 v52 v53 v54 v55 v56 a50) 54 x = dSb u v30 f0 v51 v52 v53 x v55 v56 a50 := by
  refine Prod.ext ?_ rfl; funext k; simp only [dSb, mV, upd]; all_goals ((repeat' split) <;> first | rfl | (subst_vars; rfl) | (exfalso; omega) | simp_all)
theorem dSb_V55 (u : MS) (v30 : Int32) (f0 : Nat → Int32) (v51 : Int32) (v52 : Int32) (v53 : Int32) (v54 : Int32) (v55 : Int32) (v56 : Int32) (a50 : Nat → Int32) (x : Int32) : mV (dSb u v30 f0 v51 v52 v53 v54 v55 v56 a50) 55 x = dSb u v30 f0 v51 v52 v53 v54 x v56 a50 := by
  refine Prod.ext ?_ rfl; funext k; simp only [dSb, mV, upd]; all_goals ((repeat' split) <;> first | rfl | (subst_vars; rfl) | (exfalso; omega) | simp_all)
theorem dSb_V56 (u : MS) (v30 : Int32) (f0 : Nat → Int32) (v51 : Int32) (v52 : Int32) (v53 : Int32) (v54 : Int32) (v55 : Int32) (v56 : Int32) (a50 : Nat → Int32) (x : Int32) : mV (dSb u v30 f0 v51 v52 v53 v54 v55 v56 a50) 56 x = dSb u v30 f0 v51 v52 v53 v54 v55 x a50 := by
  refine Prod.ext ?_ rfl; funext k; simp only [dSb, mV, upd]; all_goals ((repeat' split) <;> first | rfl | (subst_vars; rfl) | (exfalso; omega) | simp_all)
theorem dSb_A50 (u : MS) (v30 : Int32) (f0 : Nat → Int32) (v51 : Int32) (v52 : Int32) (v53 : Int32) (v54 : Int32) (v55 : Int32) (v56 : Int32) (a50 : Nat → Int32) (i : Nat) (x : Int32) : mA (dSb u v30 f0 v51 v52 v53 v54 v55 v56 a50) 50 i x = dSb u v30 f0 v51 v52 v53 v54 v55 v56 (upd a50 i x) := by
  refine Prod.ext rfl (Prod.ext ?_ rfl); funext k; simp only [dSb, mA, upd2]; all_goals ((repeat' split) <;> first | rfl | (subst_vars; rfl) | (exfalso; omega) | simp_all)
theorem dSb_S50 (u : MS) (v30 : Int32) (f0 : Nat → Int32) (v51 : Int32) (v52 : Int32) (v53 : Int32) (v54 : Int32) (v55 : Int32) (v56 : Int32) (a50 : Nat → Int32) (x : Nat → Int32) : mS (dSb u v30 f0 v51 v52 v53 v54 v55 v56 a50) 50 x = dSb u v30 f0 v51 v52 v53 v54 v55 v56 x := by
  refine Prod.ext rfl (Prod.ext ?_ rfl); funext k; simp only [dSb, mS]; all_goals ((repeat' split) <;> first | rfl | (subst_vars; rfl) | (exfalso; omega) | simp_all)
theorem dSb_mo (u : MS) (v30 : Int32) (f0 : Nat → Int32) (v51 : Int32) (v52 : Int32) (v53 : Int32) (v54 : Int32) (v55 : Int32) (v56 : Int32) (a50 : Nat → Int32) (F : Nat → Int32) : moM (dSb u v30 f0 v51 v52 v53 v54 v55 v56 a50) F = dSb u v30 F v51 v52 v53 v54 v55 v56 a50 := by
  refine Prod.ext ?_ rfl; funext k; simp only [dSb, moM]; all_goals ((repeat' split) <;> first | rfl | (subst_vars; rfl) | (exfalso; omega) | simp_all)
theorem dSb_fc (u : MS) (v30 : Int32) (f0 : Nat → Int32) (v51 : Int32) (v52 : Int32) (v53 : Int32) (v54 : Int32) (v55 : Int32) (v56 : Int32) (a50 : Nat → Int32) : ∀ i, i < 9 → fcU (dSb u v30 f0 v51 v52 v53 v54 v55 v56 a50) i = f0 i := by
  intro i hi
  have : i = 0 ∨ i = 1 ∨ i = 2 ∨ i = 3 ∨ i = 4 ∨ i = 5 ∨ i = 6 ∨ i = 7 ∨ i = 8 := by omega
  rcases this with rfl | rfl | rfl | rfl | rfl | rfl | rfl | rfl | rfl <;> rfl
theorem dSb_g1 (u : MS) (v30 : Int32) (f0 : Nat → Int32) (v51 : Int32) (v52 : Int32) (v53 : Int32) (v54 : Int32) (v55 : Int32) (v56 : Int32) (a50 : Nat → Int32) : (dSb u v30 f0 v51 v52 v53 v54 v55 v56 a50).2.1 1 = (u.2.1 1) := rfl
theorem dSb_g6 (u : MS) (v30 : Int32) (f0 : Nat → Int32) (v51 : Int32) (v52 : Int32) (v53 : Int32) (v54 : Int32) (v55 : Int32) (v56 : Int32) (a50 : Nat → Int32) : (dSb u v30 f0 v51 v52 v53 v54 v55 v56 a50).2.1 6 = (u.2.1 6) := rfl
theorem dSb_f8 (u : MS) (v30 : Int32) (f0 : Nat → Int32) (v51 : Int32) (v52 : Int32) (v53 : Int32) (v54 : Int32) (v55 : Int32) (v56 : Int32) (a50 : Nat → Int32) : (dSb u v30 f0 v51 v52 v53 v54 v55 v56 a50).1 8 = (u.1 8) := rfl
theorem dSb_f9 (u : MS) (v30 : Int32) (f0 : Nat → Int32) (v51 : Int32) (v52 : Int32) (v53 : Int32) (v54 : Int32) (v55 : Int32) (v56 : Int32) (a50 : Nat → Int32) : (dSb u v30 f0 v51 v52 v53 v54 v55 v56 a50).1 9 = (u.1 9) := rfl
theorem dSb_g14 (u : MS) (v30 : Int32) (f0 : Nat → Int32) (v51 : Int32) (v52 : Int32) (v53 : Int32) (v54 : Int32) (v55 : Int32) (v56 : Int32) (a50 : Nat → Int32) : (dSb u v30 f0 v51 v52 v53 v54 v55 v56 a50).2.1 14 = (u.2.1 14) := rfl
theorem dSb_g16 (u : MS) (v30 : Int32) (f0 : Nat → Int32) (v51 : Int32) (v52 : Int32) (v53 : Int32) (v54 : Int32) (v55 : Int32) (v56 : Int32) (a50 : Nat → Int32) : (dSb u v30 f0 v51 v52 v53 v54 v55 v56 a50).2.1 16 = (u.2.1 16) := rfl
theorem dSb_g17 (u : MS) (v30 : Int32) (f0 : Nat → Int32) (v51 : Int32) (v52 : Int32) (v53 : Int32) (v54 : Int32) (v55 : Int32) (v56 : Int32) (a50 : Nat → Int32) : (dSb u v30 f0 v51 v52 v53 v54 v55 v56 a50).2.1 17 = (u.2.1 17) := rfl
theorem dSb_f18 (u : MS) (v30 : Int32) (f0 : Nat → Int32) (v51 : Int32) (v52 : Int32) (v53 : Int32) (v54 : Int32) (v55 : Int32) (v56 : Int32) (a50 : Nat → Int32) : (dSb u v30 f0 v51 v52 v53 v54 v55 v56 a50).1 18 = (u.1 18) := rfl
theorem dSb_g20 (u : MS) (v30 : Int32) (f0 : Nat → Int32) (v51 : Int32) (v52 : Int32) (v53 : Int32) (v54 : Int32) (v55 : Int32) (v56 : Int32) (a50 : Nat → Int32) : (dSb u v30 f0 v51 v52 v53 v54 v55 v56 a50).2.1 20 = (u.2.1 20) := rfl
theorem dSb_g21 (u : MS) (v30 : Int32) (f0 : Nat → Int32) (v51 : Int32) (v52 : Int32) (v53 : Int32) (v54 : Int32) (v55 : Int32) (v56 : Int32) (a50 : Nat → Int32) : (dSb u v30 f0 v51 v52 v53 v54 v55 v56 a50).2.1 21 = (u.2.1 21) := rfl
theorem dSb_g22 (u : MS) (v30 : Int32) (f0 : Nat → Int32) (v51 : Int32) (v52 : Int32) (v53 : Int32) (v54 : Int32) (v55 : Int32) (v56 : Int32) (a50 : Nat → Int32) : (dSb u v30 f0 v51 v52 v53 v54 v55 v56 a50).2.1 22 = (u.2.1 22) := rfl
theorem dSb_g23 (u : MS) (v30 : Int32) (f0 : Nat → Int32) (v51 : Int32) (v52 : Int32) (v53 : Int32) (v54 : Int32) (v55 : Int32) (v56 : Int32) (a50 : Nat → Int32) : (dSb u v30 f0 v51 v52 v53 v54 v55 v56 a50).2.1 23 = (u.2.1 23) := rfl
theorem dSb_f24 (u : MS) (v30 : Int32) (f0 : Nat → Int32) (v51 : Int32) (v52 : Int32) (v53 : Int32) (v54 : Int32) (v55 : Int32) (v56 : Int32) (a50 : Nat → Int32) : (dSb u v30 f0 v51 v52 v53 v54 v55 v56 a50).1 24 = (u.1 24) := rfl
theorem dSb_f25 (u : MS) (v30 : Int32) (f0 : Nat → Int32) (v51 : Int32) (v52 : Int32) (v53 : Int32) (v54 : Int32) (v55 : Int32) (v56 : Int32) (a50 : Nat → Int32) : (dSb u v30 f0 v51 v52 v53 v54 v55 v56 a50).1 25 = (u.1 25) := rfl
theorem dSb_f30 (u : MS) (v30 : Int32) (f0 : Nat → Int32) (v51 : Int32) (v52 : Int32) (v53 : Int32) (v54 : Int32) (v55 : Int32) (v56 : Int32) (a50 : Nat → Int32) : (dSb u v30 f0 v51 v52 v53 v54 v55 v56 a50).1 30 = v30 := rfl
theorem dSb_f31 (u : MS) (v30 : Int32) (f0 : Nat → Int32) (v51 : Int32) (v52 : Int32) (v53 : Int32) (v54 : Int32) (v55 : Int32) (v56 : Int32) (a50 : Nat → Int32) : (dSb u v30 f0 v51 v52 v53 v54 v55 v56 a50).1 31 = (f0 0) := rfl
theorem dSb_f32 (u : MS) (v30 : Int32) (f0 : Nat → Int32) (v51 : Int32) (v52 : Int32) (v53 : Int32) (v54 : Int32) (v55 : Int32) (v56 : Int32) (a50 : Nat → Int32) : (dSb u v30 f0 v51 v52 v53 v54 v55 v56 a50).1 32 = (f0 1) := rfl
theorem dSb_f33 (u : MS) (v30 : Int32) (f0 : Nat → Int32) (v51 : Int32) (v52 : Int32) (v53 : Int32) (v54 : Int32) (v55 : Int32) (v56 : Int32) (a50 : Nat → Int32) : (dSb u v30 f0 v51 v52 v53 v54 v55 v56 a50).1 33 = (f0 2) := rfl
theorem dSb_f34 (u : MS) (v30 : Int32) (f0 : Nat → Int32) (v51 : Int32) (v52 : Int32) (v53 : Int32) (v54 : Int32) (v55 : Int32) (v56 : Int32) (a50 : Nat → Int32) : (dSb u v30 f0 v51 v52 v53 v54 v55 v56 a50).1 34 = (f0 3) := rfl
theorem dSb_f35 (u : MS) (v30 : Int32) (f0 : Nat → Int32) (v51 : Int32) (v52 : Int32) (v53 : Int32) (v54 : Int32) (v55 : Int32) (v56 : Int32) (a50 : Nat → Int32) : (dSb u v30 f0 v51 v52 v53 v54 v55 v56 a50).1 35 = (f0 4) := rfl
theorem dSb_f36 (u : MS) (v30 : Int32) (f0 : Nat → Int32) (v51 : Int32) (v52 : Int32) (v53 : Int32) (v54 : Int32) (v55 : Int32) (v56 : Int32) (a50 : Nat → Int32) : (dSb u v30 f0 v51 v52 v53 v54 v55 v56 a50).1 36 = (f0 5) := rfl
theorem dSb_f37 (u : MS) (v30 : Int32) (f0 : Nat → Int32) (v51 : Int32) (v52 : Int32) (v53 : Int32) (v54 : Int32) (v55 : Int32) (v56 : Int32) (a50 : Nat → Int32) : (dSb u v30 f0 v51 v52 v53 v54 v55 v56 a50).1 37 = (f0 6) := rfl
theorem dSb_f38 (u : MS) (v30 : Int32) (f0 : Nat → Int32) (v51 : Int32) (v52 : Int32) (v53 : Int32) (v54 : Int32) (v55 : Int32) (v56 : Int32) (a50 : Nat → Int32) : (dSb u v30 f0 v51 v52 v53 v54 v55 v56 a50).1 38 = (f0 7) := rfl
theorem dSb_f39 (u : MS) (v30 : Int32) (f0 : Nat → Int32) (v51 : Int32) (v52 : Int32) (v53 : Int32) (v54 : Int32) (v55 : Int32) (v56 : Int32) (a50 : Nat → Int32) : (dSb u v30 f0 v51 v52 v53 v54 v55 v56 a50).1 39 = (f0 8) := rfl
theorem dSb_g40 (u : MS) (v30 : Int32) (f0 : Nat → Int32) (v51 : Int32) (v52 : Int32) (v53 : Int32) (v54 : Int32) (v55 : Int32) (v56 : Int32) (a50 : Nat → Int32) : (dSb u v30 f0 v51 v52 v53 v54 v55 v56 a50).2.1 40 = (u.2.1 40) := rfl
theorem dSb_f41 (u : MS) (v30 : Int32) (f0 : Nat → Int32) (v51 : Int32) (v52 : Int32) (v53 : Int32) (v54 : Int32) (v55 : Int32) (v56 : Int32) (a50 : Nat → Int32) : (dSb u v30 f0 v51 v52 v53 v54 v55 v56 a50).1 41 = (u.1 41) := rfl
theorem dSb_f42 (u : MS) (v30 : Int32) (f0 : Nat → Int32) (v51 : Int32) (v52 : Int32) (v53 : Int32) (v54 : Int32) (v55 : Int32) (v56 : Int32) (a50 : Nat → Int32) : (dSb u v30 f0 v51 v52 v53 v54 v55 v56 a50).1 42 = (u.1 42) := rfl
theorem dSb_f43 (u : MS) (v30 : Int32) (f0 : Nat → Int32) (v51 : Int32) (v52 : Int32) (v53 : Int32) (v54 : Int32) (v55 : Int32) (v56 : Int32) (a50 : Nat → Int32) : (dSb u v30 f0 v51 v52 v53 v54 v55 v56 a50).1 43 = (u.1 43) := rfl
theorem dSb_f44 (u : MS) (v30 : Int32) (f0 : Nat → Int32) (v51 : Int32) (v52 : Int32) (v53 : Int32) (v54 : Int32) (v55 : Int32) (v56 : Int32) (a50 : Nat → Int32) : (dSb u v30 f0 v51 v52 v53 v54 v55 v56 a50).1 44 = (u.1 44) := rfl
theorem dSb_f45 (u : MS) (v30 : Int32) (f0 : Nat → Int32) (v51 : Int32) (v52 : Int32) (v53 : Int32) (v54 : Int32) (v55 : Int32) (v56 : Int32) (a50 : Nat → Int32) : (dSb u v30 f0 v51 v52 v53 v54 v55 v56 a50).1 45 = (u.1 45) := rfl
theorem dSb_f46 (u : MS) (v30 : Int32) (f0 : Nat → Int32) (v51 : Int32) (v52 : Int32) (v53 : Int32) (v54 : Int32) (v55 : Int32) (v56 : Int32) (a50 : Nat → Int32) : (dSb u v30 f0 v51 v52 v53 v54 v55 v56 a50).1 46 = (u.1 46) := rfl
theorem dSb_g50 (u : MS) (v30 : Int32) (f0 : Nat → Int32) (v51 : Int32) (v52 : Int32) (v53 : Int32) (v54 : Int32) (v55 : Int32) (v56 : Int32) (a50 : Nat → Int32) : (dSb u v30 f0 v51 v52 v53 v54 v55 v56 a50).2.1 50 = a50 := rfl
theorem dSb_f51 (u : MS) (v30 : Int32) (f0 : Nat → Int32) (v51 : Int32) (v52 : Int32) (v53 : Int32) (v54 : Int32) (v55 : Int32) (v56 : Int32) (a50 : Nat → Int32) : (dSb u v30 f0 v51 v52 v53 v54 v55 v56 a50).1 51 = v51 := rfl
theorem dSb_f52 (u : MS) (v30 : Int32) (f0 : Nat → Int32) (v51 : Int32) (v52 : Int32) (v53 : Int32) (v54 : Int32) (v55 : Int32) (v56 : Int32) (a50 : Nat → Int32) : (dSb u v30 f0 v51 v52 v53 v54 v55 v56 a50).1 52 = v52 := rfl
theorem dSb_f53 (u : MS) (v30 : Int32) (f0 : Nat → Int32) (v51 : Int32) (v52 : Int32) (v53 : Int32) (v54 : Int32) (v55 : Int32) (v56 : Int32) (a50 : Nat → Int32) : (dSb u v30 f0 v51 v52 v53 v54 v55 v56 a50).1 53 = v53 := rfl
theorem dSb_f54 (u : MS) (v30 : Int32) (f0 : Nat → Int32) (v51 : Int32) (v52 : Int32) (v53 : Int32) (v54 : Int32) (v55 : Int32) (v56 : Int32) (a50 : Nat → Int32) : (dSb u v30 f0 v51 v52 v53 v54 v55 v56 a50).1 54 = v54 := rfl
theorem dSb_f55 (u : MS) (v30 : Int32) (f0 : Nat → Int32) (v51 : Int32) (v52 : Int32) (v53 : Int32) (v54 : Int32) (v55 : Int32) (v56 : Int32) (a50 : Nat → Int32) : (dSb u v30 f0 v51 v52 v53 v54 v55 v56 a50).1 55 = v55 := rfl
theorem dSb_f56 (u : MS) (v30 : Int32) (f0 : Nat → Int32) (v51 : Int32) (v52 : Int32) (v53 : Int32) (v54 : Int32) (v55 : Int32) (v56 : Int32) (a50 : Nat → Int32) : (dSb u v30 f0 v51 v52 v53 v54 v55 v56 a50).1 56 = v56 := rfl
theorem dSb_g60 (u : MS) (v30 : Int32) (f0 : Nat → Int32) (v51 : Int32) (v52 : Int32) (v53 : Int32) (v54 : Int32) (v55 : Int32) (v56 : Int32) (a50 : Nat → Int32) : (dSb u v30 f0 v51 v52 v53 v54 v55 v56 a50).2.1 60 = (u.2.1 60) := rfl
theorem dSb_f61 (u : MS) (v30 : Int32) (f0 : Nat → Int32) (v51 : Int32) (v52 : Int32) (v53 : Int32) (v54 : Int32) (v55 : Int32) (v56 : Int32) (a50 : Nat → Int32) : (dSb u v30 f0 v51 v52 v53 v54 v55 v56 a50).1 61 = (u.1 61) := rfl
theorem dSb_f62 (u : MS) (v30 : Int32) (f0 : Nat → Int32) (v51 : Int32) (v52 : Int32) (v53 : Int32) (v54 : Int32) (v55 : Int32) (v56 : Int32) (a50 : Nat → Int32) : (dSb u v30 f0 v51 v52 v53 v54 v55 v56 a50).1 62 = (u.1 62) := rfl
theorem dSb_f63 (u : MS) (v30 : Int32) (f0 : Nat → Int32) (v51 : Int32) (v52 : Int32) (v53 : Int32) (v54 : Int32) (v55 : Int32) (v56 : Int32) (a50 : Nat → Int32) : (dSb u v30 f0 v51 v52 v53 v54 v55 v56 a50).1 63 = (u.1 63) := rfl
theorem dSb_f64 (u : MS) (v30 : Int32) (f0 : Nat → Int32) (v51 : Int32) (v52 : Int32) (v53 : Int32) (v54 : Int32) (v55 : Int32) (v56 : Int32) (a50 : Nat → Int32) : (dSb u v30 f0 v51 v52 v53 v54 v55 v56 a50).1 64 = (u.1 64) := rfl
theorem dSb_f65 (u : MS) (v30 : Int32) (f0 : Nat → Int32) (v51 : Int32) (v52 : Int32) (v53 : Int32) (v54 : Int32) (v55 : Int32) (v56 : Int32) (a50 : Nat → Int32) : (dSb u v30 f0 v51 v52 v53 v54 v55 v56 a50).1 65 = (u.1 65) := rfl
theorem dSb_f66 (u : MS) (v30 : Int32) (f0 : Nat → Int32) (v51 : Int32) (v52 : Int32) (v53 : Int32) (v54 : Int32) (v55 : Int32) (v56 : Int32) (a50 : Nat → Int32) : (dSb u v30 f0 v51 v52 v53 v54 v55 v56 a50).1 66 = (u.1 66) := rfl
