set_option maxRecDepth 100000
def pM (u : MS) (v12 : Int32) (v14 : Int32) (v15 : Int32) : MS := (fun k => if k = 12 then v12 else if k = 14 then v14 else if k = 15 then v15 else u.1 k, fun k => u.2.1 k, u.2.2)
theorem pM_self (u : MS) : pM u (u.1 12) (u.1 14) (u.1 15)  = u := by
  refine Prod.ext ?_ (Prod.ext ?_ rfl) <;> (funext k; simp only [pM]; all_goals ((repeat' split) <;> first | rfl | (subst_vars; rfl) | (exfalso; omega) | simp_all))
theorem pM_again (u : MS) (v12 : Int32) (v14 : Int32) (v15 : Int32) (w12 : Int32) (w14 : Int32) (w15 : Int32) : pM (pM u v12 v14 v15) w12 w14 w15 = pM u w12 w14 w15 := by
  refine Prod.ext ?_ (Prod.ext ?_ rfl) <;> (funext k; simp only [pM]; all_goals ((repeat' split) <;> first | rfl | (subst_vars; rfl) | (exfalso; omega) | simp_all))
theorem pM_V12 (u : MS) (v12 : Int32) (v14 : Int32) (v15 : Int32) (x : Int32) : mV (pM u v12 v14 v15) 12 x = pM u x v14 v15 := by
  refine Prod.ext ?_ rfl; funext k; simp only [pM, mV, upd]; all_goals ((repeat' split) <;> first | rfl | (subst_vars; rfl) | (exfalso; omega) | simp_all)
theorem pM_V14 (u : MS) (v12 : Int32) (v14 : Int32) (v15 : Int32) (x : Int32) : mV (pM u v12 v14 v15) 14 x = pM u v12 x v15 := by
  refine Prod.ext ?_ rfl; funext k; simp only [pM, mV, upd]; all_goals ((repeat' split) <;> first | rfl | (subst_vars; rfl) | (exfalso; omega) | simp_all)
theorem pM_V15 (u : MS) (v12 : Int32) (v14 : Int32) (v15 : Int32) (x : Int32) : mV (pM u v12 v14 v15) 15 x = pM u v12 v14 x := by
  refine Prod.ext ?_ rfl; funext k; simp only [pM, mV, upd]; all_goals ((repeat' split) <;> first | rfl | (subst_vars; rfl) | (exfalso; omega) | simp_all)
theorem pM_g0 (u : MS) (v12 : Int32) (v14 : Int32) (v15 : Int32) : (pM u v12 v14 v15).2.1 0 = (u.2.1 0) := rfl
theorem pM_g1 (u : MS) (v12 : Int32) (v14 : Int32) (v15 : Int32) : (pM u v12 v14 v15).2.1 1 = (u.2.1 1) := rfl
theorem pM_g2 (u : MS) (v12 : Int32) (v14 : Int32) (v15 : Int32) : (pM u v12 v14 v15).2.1 2 = (u.2.1 2) := rfl
theorem pM_g3 (u : MS) (v12 : Int32) (v14 : Int32) (v15 : Int32) : (pM u v12 v14 v15).2.1 3 = (u.2.1 3) := rfl
theorem pM_g4 (u : MS) (v12 : Int32) (v14 : Int32) (v15 : Int32) : (pM u v12 v14 v15).2.1 4 = (u.2.1 4) := rfl
theorem pM_g5 (u : MS) (v12 : Int32) (v14 : Int32) (v15 : Int32) : (pM u v12 v14 v15).2.1 5 = (u.2.1 5) := rfl
theorem pM_g6 (u : MS) (v12 : Int32) (v14 : Int32) (v15 : Int32) : (pM u v12 v14 v15).2.1 6 = (u.2.1 6) := rfl
theorem pM_g7 (u : MS) (v12 : Int32) (v14 : Int32) (v15 : Int32) : (pM u v12 v14 v15).2.1 7 = (u.2.1 7) := rfl
theorem pM_f8 (u : MS) (v12 : Int32) (v14 : Int32) (v15 : Int32) : (pM u v12 v14 v15).1 8 = (u.1 8) := rfl
theorem pM_f9 (u : MS) (v12 : Int32) (v14 : Int32) (v15 : Int32) : (pM u v12 v14 v15).1 9 = (u.1 9) := rfl
theorem pM_g10 (u : MS) (v12 : Int32) (v14 : Int32) (v15 : Int32) : (pM u v12 v14 v15).2.1 10 = (u.2.1 10) := rfl
theorem pM_f11 (u : MS) (v12 : Int32) (v14 : Int32) (v15 : Int32) : (pM u v12 v14 v15).1 11 = (u.1 11) := rfl
theorem pM_f12 (u : MS) (v12 : Int32) (v14 : Int32) (v15 : Int32) : (pM u v12 v14 v15).1 12 = v12 := rfl
theorem pM_f13 (u : MS) (v12 : Int32) (v14 : Int32) (v15 : Int32) : (pM u v12 v14 v15).1 13 = (u.1 13) := rfl
theorem pM_f14 (u : MS) (v12 : Int32) (v14 : Int32) (v15 : Int32) : (pM u v12 v14 v15).1 14 = v14 := rfl
theorem pM_f15 (u : MS) (v12 : Int32) (v14 : Int32) (v15 : Int32) : (pM u v12 v14 v15).1 15 = v15 := rfl
theorem pM_f16 (u : MS) (v12 : Int32) (v14 : Int32) (v15 : Int32) : (pM u v12 v14 v15).1 16 = (u.1 16) := rfl
theorem pM_f17 (u : MS) (v12 : Int32) (v14 : Int32) (v15 : Int32) : (pM u v12 v14 v15).1 17 = (u.1 17) := rfl
theorem pM_f18 (u : MS) (v12 : Int32) (v14 : Int32) (v15 : Int32) : (pM u v12 v14 v15).1 18 = (u.1 18) := rfl
theorem pM_f19 (u : MS) (v12 : Int32) (v14 : Int32) (v15 : Int32) : (pM u v12 v14 v15).1 19 = (u.1 19) := rfl
theorem pM_f20 (u : MS) (v12 : Int32) (v14 : Int32) (v15 : Int32) : (pM u v12 v14 v15).1 20 = (u.1 20) := rfl
theorem pM_g21 (u : MS) (v12 : Int32) (v14 : Int32) (v15 : Int32) : (pM u v12 v14 v15).2.1 21 = (u.2.1 21) := rfl
theorem pM_g22 (u : MS) (v12 : Int32) (v14 : Int32) (v15 : Int32) : (pM u v12 v14 v15).2.1 22 = (u.2.1 22) := rfl
theorem pM_g23 (u : MS) (v12 : Int32) (v14 : Int32) (v15 : Int32) : (pM u v12 v14 v15).2.1 23 = (u.2.1 23) := rfl
theorem pM_g24 (u : MS) (v12 : Int32) (v14 : Int32) (v15 : Int32) : (pM u v12 v14 v15).2.1 24 = (u.2.1 24) := rfl
theorem pM_g25 (u : MS) (v12 : Int32) (v14 : Int32) (v15 : Int32) : (pM u v12 v14 v15).2.1 25 = (u.2.1 25) := rfl
theorem pM_g26 (u : MS) (v12 : Int32) (v14 : Int32) (v15 : Int32) : (pM u v12 v14 v15).2.1 26 = (u.2.1 26) := rfl
theorem pM_g27 (u : MS) (v12 : Int32) (v14 : Int32) (v15 : Int32) : (pM u v12 v14 v15).2.1 27 = (u.2.1 27) := rfl
theorem pM_g28 (u : MS) (v12 : Int32) (v14 : Int32) (v15 : Int32) : (pM u v12 v14 v15).2.1 28 = (u.2.1 28) := rfl
theorem pM_g29 (u : MS) (v12 : Int32) (v14 : Int32) (v15 : Int32) : (pM u v12 v14 v15).2.1 29 = (u.2.1 29) := rfl
theorem pM_g30 (u : MS) (v12 : Int32) (v14 : Int32) (v15 : Int32) : (pM u v12 v14 v15).2.1 30 = (u.2.1 30) := rfl
theorem pM_g31 (u : MS) (v12 : Int32) (v14 : Int32) (v15 : Int32) : (pM u v12 v14 v15).2.1 31 = (u.2.1 31) := rfl
theorem pM_g32 (u : MS) (v12 : Int32) (v14 : Int32) (v15 : Int32) : (pM u v12 v14 v15).2.1 32 = (u.2.1 32) := rfl
theorem pM_g33 (u : MS) (v12 : Int32) (v14 : Int32) (v15 : Int32) : (pM u v12 v14 v15).2.1 33 = (u.2.1 33) := rfl
theorem pM_g34 (u : MS) (v12 : Int32) (v14 : Int32) (v15 : Int32) : (pM u v12 v14 v15).2.1 34 = (u.2.1 34) := rfl
theorem pM_g35 (u : MS) (v12 : Int32) (v14 : Int32) (v15 : Int32) : (pM u v12 v14 v15).2.1 35 = (u.2.1 35) := rfl
theorem pM_g36 (u : MS) (v12 : Int32) (v14 : Int32) (v15 : Int32) : (pM u v12 v14 v15).2.1 36 = (u.2.1 36) := rfl
theorem pM_g37 (u : MS) (v12 : Int32) (v14 : Int32) (v15 : Int32) : (pM u v12 v14 v15).2.1 37 = (u.2.1 37) := rfl
theorem pM_f38 (u : MS) (v12 : Int32) (v14 : Int32) (v15 : Int32) : (pM u v12 v14 v15).1 38 = (u.1 38) := rfl
theorem pM_f39 (u : MS) (v12 : Int32) (v14 : Int32) (v15 : Int32) : (pM u v12 v14 v15).1 39 = (u.1 39) := rfl
theorem pM_f40 (u : MS) (v12 : Int32) (v14 : Int32) (v15 : Int32) : (pM u v12 v14 v15).1 40 = (u.1 40) := rfl
theorem pM_g41 (u : MS) (v12 : Int32) (v14 : Int32) (v15 : Int32) : (pM u v12 v14 v15).2.1 41 = (u.2.1 41) := rfl
theorem pM_g42 (u : MS) (v12 : Int32) (v14 : Int32) (v15 : Int32) : (pM u v12 v14 v15).2.1 42 = (u.2.1 42) := rfl
theorem pM_g43 (u : MS) (v12 : Int32) (v14 : Int32) (v15 : Int32) : (pM u v12 v14 v15).2.1 43 = (u.2.1 43) := rfl
theorem pM_g44 (u : MS) (v12 : Int32) (v14 : Int32) (v15 : Int32) : (pM u v12 v14 v15).2.1 44 = (u.2.1 44) := rfl
theorem pM_g45 (u : MS) (v12 : Int32) (v14 : Int32) (v15 : Int32) : (pM u v12 v14 v15).2.1 45 = (u.2.1 45) := rfl
theorem pM_f46 (u : MS) (v12 : Int32) (v14 : Int32) (v15 : Int32) : (pM u v12 v14 v15).1 46 = (u.1 46) := rfl
theorem pM_f47 (u : MS) (v12 : Int32) (v14 : Int32) (v15 : Int32) : (pM u v12 v14 v15).1 47 = (u.1 47) := rfl
theorem pM_f48 (u : MS) (v12 : Int32) (v14 : Int32) (v15 : Int32) : (pM u v12 v14 v15).1 48 = (u.1 48) := rfl
theorem pM_f49 (u : MS) (v12 : Int32) (v14 : Int32) (v15 : Int32) : (pM u v12 v14 v15).1 49 = (u.1 49) := rfl
theorem pM_f50 (u : MS) (v12 : Int32) (v14 : Int32) (v15 : Int32) : (pM u v12 v14 v15).1 50 = (u.1 50) := rfl
theorem pM_g51 (u : MS) (v12 : Int32) (v14 : Int32) (v15 : Int32) : (pM u v12 v14 v15).2.1 51 = (u.2.1 51) := rfl
theorem pM_g52 (u : MS) (v12 : Int32) (v14 : Int32) (v15 : Int32) : (pM u v12 v14 v15).2.1 52 = (u.2.1 52) := rfl
theorem pM_g53 (u : MS) (v12 : Int32) (v14 : Int32) (v15 : Int32) : (pM u v12 v14 v15).2.1 53 = (u.2.1 53) := rfl
theorem pM_g54 (u : MS) (v12 : Int32) (v14 : Int32) (v15 : Int32) : (pM u v12 v14 v15).2.1 54 = (u.2.1 54) := rfl
theorem pM_g55 (u : MS) (v12 : Int32) (v14 : Int32) (v15 : Int32) : (pM u v12 v14 v15).2.1 55 = (u.2.1 55) := rfl
theorem pM_g56 (u : MS) (v12 : Int32) (v14 : Int32) (v15 : Int32) : (pM u v12 v14 v15).2.1 56 = (u.2.1 56) := rfl
theorem pM_f59 (u : MS) (v12 : Int32) (v14 : Int32) (v15 : Int32) : (pM u v12 v14 v15).1 59 = (u.1 59) := rfl
theorem pM_f60 (u : MS) (v12 : Int32) (v14 : Int32) (v15 : Int32) : (pM u v12 v14 v15).1 60 = (u.1 60) := rfl
theorem numW_0 {f : Nat → Int32} {n p : Nat} (h : digB f n p = false) : numW f n p = .inl (1, p) := if_neg (by rw [h]; decide)
theorem numW_1 {f : Nat → Int32} {n p : Nat} (h : digB f n p = true) (h1 : digB f n (p + 1) = false) : numW f n p = .inr (ocN f p - 48, p + 1) := by
  unfold numW; rw [if_pos h, if_neg (by rw [h1]; decide)]
theorem numW_3 {f : Nat → Int32} {n p : Nat} (h : digB f n p = true) (h1 : digB f n (p + 1) = true) (h2 : digB f n (p + 2) = true) : numW f n p = .inl (2, p + 2) := by
  unfold numW; rw [if_pos h, if_pos h1, if_pos h2]
theorem numW_2 {f : Nat → Int32} {n p : Nat} (h : digB f n p = true) (h1 : digB f n (p + 1) = true) (h2 : digB f n (p + 2) = false) (hv : 10 * (ocN f p - 48) + (ocN f (p + 1) - 48) < 12) : numW f n p = .inr (10 * (ocN f p - 48) + (ocN f (p + 1) - 48), p + 2) := by
  unfold numW; rw [if_pos h, if_pos h1, if_neg (by rw [h2]; decide), if_pos hv]
theorem numW_9 {f : Nat → Int32} {n p : Nat} (h : digB f n p = true) (h1 : digB f n (p + 1) = true) (h2 : digB f n (p + 2) = false) (hv : ¬ 10 * (ocN f p - 48) + (ocN f (p + 1) - 48) < 12) : numW f n p = .inl (3, p) := by
  unfold numW; rw [if_pos h, if_pos h1, if_neg (by rw [h2]; decide), if_neg hv]
/-- what readsWithin leaves: the place, the number, or the fault -/
def numPost (f : Nat → Int32) (n p : Nat) (ok : Bool) (pl fa nu : Int32) : Prop := match numW f n p with
  | .inl (k, q) => ok = false ∧ fa = wrI k q
  | .inr (v, q) => ok = true ∧ pl = nI q ∧ nu = nI v
