set_option maxRecDepth 100000
def fs_rd (o : Nat) (R : Nat → Nat) (tx : Nat) (V : Nat → Int32) : List Value := [.int (V 141), .ref (R 142), .int (V 143), .int (V 144), .int (V 145), .int (V 146), .ref o]
theorem fD141 (o : Nat) (R : Nat → Nat) (tx : Nat) (V : Nat → Int32) : (fs_rd o R tx V)[0]? = some (.int (V 141)) := rfl
theorem fD142 (o : Nat) (R : Nat → Nat) (tx : Nat) (V : Nat → Int32) : (fs_rd o R tx V)[1]? = some (.ref (R 142)) := rfl
theorem fD143 (o : Nat) (R : Nat → Nat) (tx : Nat) (V : Nat → Int32) : (fs_rd o R tx V)[2]? = some (.int (V 143)) := rfl
theorem fD144 (o : Nat) (R : Nat → Nat) (tx : Nat) (V : Nat → Int32) : (fs_rd o R tx V)[3]? = some (.int (V 144)) := rfl
theorem fD145 (o : Nat) (R : Nat → Nat) (tx : Nat) (V : Nat → Int32) : (fs_rd o R tx V)[4]? = some (.int (V 145)) := rfl
theorem fD146 (o : Nat) (R : Nat → Nat) (tx : Nat) (V : Nat → Int32) : (fs_rd o R tx V)[5]? = some (.int (V 146)) := rfl
theorem fD147 (o : Nat) (R : Nat → Nat) (tx : Nat) (V : Nat → Int32) : (fs_rd o R tx V)[6]? = some (.ref o) := rfl
def celQ (G : GG) (o : Nat) (R : Nat → Nat) (tx : Nat) (u : MS) : va_W := [(o, .inr (0, fs_main o R tx u.1)), (R 0, .inr (1, fs_plan o R tx u.1)), (R 2, .inr (2, fs_moment o R tx u.1)), (R 3, .inr (3, fs_street o R tx u.1)), (R 4, .inr (3, fs_then o R tx u.1)), (R 5, .inr (3, fs_kept o R tx u.1)), (R 1, .inl (G.2 0, 12, .inl (u.2.1 1))), (R 6, .inl (G.2 1, 260, .inl (u.2.1 6))), (R 14, .inl (G.2 0, 16, .inl (u.2.1 14))), (R 16, .inl (G.2 0, 8, .inl (u.2.1 16))), (R 17, .inl (G.2 0, 8, .inl (u.2.1 17))), (R 19, .inl (G.2 2, 14, .inr (.inl (u.2.2 19)))), (R 20, .inl (G.2 0, 16, .inl (u.2.1 20))), (R 21, .inl (G.2 0, 16, .inl (u.2.1 21))), (R 22, .inl (G.2 0, 16, .inl (u.2.1 22))), (R 23, .inl (G.2 0, 16, .inl (u.2.1 23))), (R 40, .inl (G.2 0, 16, .inl (u.2.1 40))), (R 50, .inl (G.2 0, 16, .inl (u.2.1 50))), (R 60, .inl (G.2 0, 16, .inl (u.2.1 60))), (R 140, .inr (6, fs_rd o R tx u.1))]
def PwQ (G : GG) (o : Nat) (R : Nat → Nat) (tx : Nat) (u : MS) (H : Heap) : Prop := va_P G.1 vwCl (celQ G o R tx u) H
def adrQ : List Nat := [0, 2, 3, 4, 5, 1, 6, 14, 16, 17, 19, 20, 21, 22, 23, 40, 50, 60, 140]
def AwQ (o : Nat) (R : Nat → Nat) : Nat → Prop := fun q => q = o ∨ ∃ k ∈ adrQ, q = R k
def DwQ (o : Nat) (R : Nat → Nat) : Prop := ∀ (G : GG) (tx : Nat) (u : MS), va_D (AwQ o R) (celQ G o R tx u)
theorem oQ_main (G : GG) (o : Nat) (R : Nat → Nat) (tx : Nat) (u : MS) : (celQ G o R tx u)[0]? = some (o, .inr (0, fs_main o R tx u.1)) := rfl
theorem oQ_plan (G : GG) (o : Nat) (R : Nat → Nat) (tx : Nat) (u : MS) : (celQ G o R tx u)[1]? = some ((R 0), .inr (1, fs_plan o R tx u.1)) := rfl
theorem oQ_moment (G : GG) (o : Nat) (R : Nat → Nat) (tx : Nat) (u : MS) : (celQ G o R tx u)[2]? = some ((R 2), .inr (2, fs_moment o R tx u.1)) := rfl
theorem oQ_street (G : GG) (o : Nat) (R : Nat → Nat) (tx : Nat) (u : MS) : (celQ G o R tx u)[3]? = some ((R 3), .inr (3, fs_street o R tx u.1)) := rfl
theorem oQ_then (G : GG) (o : Nat) (R : Nat → Nat) (tx : Nat) (u : MS) : (celQ G o R tx u)[4]? = some ((R 4), .inr (3, fs_then o R tx u.1)) := rfl
theorem oQ_kept (G : GG) (o : Nat) (R : Nat → Nat) (tx : Nat) (u : MS) : (celQ G o R tx u)[5]? = some ((R 5), .inr (3, fs_kept o R tx u.1)) := rfl
theorem aQ1 (G : GG) (o : Nat) (R : Nat → Nat) (tx : Nat) (u : MS) : (celQ G o R tx u)[6]? = some (R 1, .inl (G.2 0, 12, .inl (u.2.1 1))) := rfl
theorem aQ6 (G : GG) (o : Nat) (R : Nat → Nat) (tx : Nat) (u : MS) : (celQ G o R tx u)[7]? = some (R 6, .inl (G.2 1, 260, .inl (u.2.1 6))) := rfl
theorem aQ14 (G : GG) (o : Nat) (R : Nat → Nat) (tx : Nat) (u : MS) : (celQ G o R tx u)[8]? = some (R 14, .inl (G.2 0, 16, .inl (u.2.1 14))) := rfl
theorem aQ16 (G : GG) (o : Nat) (R : Nat → Nat) (tx : Nat) (u : MS) : (celQ G o R tx u)[9]? = some (R 16, .inl (G.2 0, 8, .inl (u.2.1 16))) := rfl
theorem aQ17 (G : GG) (o : Nat) (R : Nat → Nat) (tx : Nat) (u : MS) : (celQ G o R tx u)[10]? = some (R 17, .inl (G.2 0, 8, .inl (u.2.1 17))) := rfl
theorem aQ19 (G : GG) (o : Nat) (R : Nat → Nat) (tx : Nat) (u : MS) : (celQ G o R tx u)[11]? = some (R 19, .inl (G.2 2, 14, .inr (.inl (u.2.2 19)))) := rfl
theorem aQ20 (G : GG) (o : Nat) (R : Nat → Nat) (tx : Nat) (u : MS) : (celQ G o R tx u)[12]? = some (R 20, .inl (G.2 0, 16, .inl (u.2.1 20))) := rfl
theorem aQ21 (G : GG) (o : Nat) (R : Nat → Nat) (tx : Nat) (u : MS) : (celQ G o R tx u)[13]? = some (R 21, .inl (G.2 0, 16, .inl (u.2.1 21))) := rfl
theorem aQ22 (G : GG) (o : Nat) (R : Nat → Nat) (tx : Nat) (u : MS) : (celQ G o R tx u)[14]? = some (R 22, .inl (G.2 0, 16, .inl (u.2.1 22))) := rfl
theorem aQ23 (G : GG) (o : Nat) (R : Nat → Nat) (tx : Nat) (u : MS) : (celQ G o R tx u)[15]? = some (R 23, .inl (G.2 0, 16, .inl (u.2.1 23))) := rfl
theorem aQ40 (G : GG) (o : Nat) (R : Nat → Nat) (tx : Nat) (u : MS) : (celQ G o R tx u)[16]? = some (R 40, .inl (G.2 0, 16, .inl (u.2.1 40))) := rfl
theorem aQ50 (G : GG) (o : Nat) (R : Nat → Nat) (tx : Nat) (u : MS) : (celQ G o R tx u)[17]? = some (R 50, .inl (G.2 0, 16, .inl (u.2.1 50))) := rfl
theorem aQ60 (G : GG) (o : Nat) (R : Nat → Nat) (tx : Nat) (u : MS) : (celQ G o R tx u)[18]? = some (R 60, .inl (G.2 0, 16, .inl (u.2.1 60))) := rfl
theorem oQ_rd (G : GG) (o : Nat) (R : Nat → Nat) (tx : Nat) (u : MS) : (celQ G o R tx u)[19]? = some ((R 140), .inr (6, fs_rd o R tx u.1)) := rfl
theorem pQ143 (G : GG) (o : Nat) (R : Nat → Nat) (tx : Nat) (u : MS) (x : Int32) : (celQ G o R tx u).set 19 ((R 140), .inr (6, (fs_rd o R tx u.1).set 2 (.int x))) = celQ G o R tx (mV u 143 x) := rfl
theorem pQ144 (G : GG) (o : Nat) (R : Nat → Nat) (tx : Nat) (u : MS) (x : Int32) : (celQ G o R tx u).set 19 ((R 140), .inr (6, (fs_rd o R tx u.1).set 3 (.int x))) = celQ G o R tx (mV u 144 x) := rfl
theorem pQ145 (G : GG) (o : Nat) (R : Nat → Nat) (tx : Nat) (u : MS) (x : Int32) : (celQ G o R tx u).set 19 ((R 140), .inr (6, (fs_rd o R tx u.1).set 4 (.int x))) = celQ G o R tx (mV u 145 x) := rfl
theorem pQ146 (G : GG) (o : Nat) (R : Nat → Nat) (tx : Nat) (u : MS) (x : Int32) : (celQ G o R tx u).set 19 ((R 140), .inr (6, (fs_rd o R tx u.1).set 5 (.int x))) = celQ G o R tx (mV u 146 x) := rfl
def qE (u : MS) (v143 : Int32) (v144 : Int32) (v145 : Int32) (v146 : Int32) : MS := (fun k => if k = 143 then v143 else if k = 144 then v144 else if k = 145 then v145 else if k = 146 then v146 else u.1 k, fun k => u.2.1 k, u.2.2)
theorem qE_self (u : MS) : qE u (u.1 143) (u.1 144) (u.1 145) (u.1 146) = u := by
  refine Prod.ext ?_ (Prod.ext ?_ rfl) <;> (funext k; simp only [qE]; all_goals ((repeat' split) <;> first | rfl | (subst_vars; rfl) | (rw [Nat.add_sub_cancel' (by omega)]; done) | (exfalso; omega) | simp_all))
theorem qE_again (u : MS) (v143 : Int32) (v144 : Int32) (v145 : Int32) (v146 : Int32) (xv143 : Int32) (xv144 : Int32) (xv145 : Int32) (xv146 : Int32) : qE (qE u v143 v144 v145 v146) xv143 xv144 xv145 xv146 = qE u xv143 xv144 xv145 xv146 := by
  refine Prod.ext ?_ (Prod.ext ?_ rfl) <;> (funext k; simp only [qE]; all_goals ((repeat' split) <;> first | rfl | (subst_vars; rfl) | (exfalso; omega) | simp_all))
theorem qE_V143 (u : MS) (v143 : Int32) (v144 : Int32) (v145 : Int32) (v146 : Int32) (x : Int32) : mV (qE u v143 v144 v145 v146) 143 x = qE u x v144 v145 v146 := by
  refine Prod.ext ?_ rfl; funext k; simp only [qE, mV, upd]; all_goals ((repeat' split) <;> first | rfl | (subst_vars; rfl) | (exfalso; omega) | simp_all)
theorem qE_V144 (u : MS) (v143 : Int32) (v144 : Int32) (v145 : Int32) (v146 : Int32) (x : Int32) : mV (qE u v143 v144 v145 v146) 144 x = qE u v143 x v145 v146 := by
  refine Prod.ext ?_ rfl; funext k; simp only [qE, mV, upd]; all_goals ((repeat' split) <;> first | rfl | (subst_vars; rfl) | (exfalso; omega) | simp_all)
theorem qE_V145 (u : MS) (v143 : Int32) (v144 : Int32) (v145 : Int32) (v146 : Int32) (x : Int32) : mV (qE u v143 v144 v145 v146) 145 x = qE u v143 v144 x v146 := by
  refine Prod.ext ?_ rfl; funext k; simp only [qE, mV, upd]; all_goals ((repeat' split) <;> first | rfl | (subst_vars; rfl) | (exfalso; omega) | simp_all)
theorem qE_V146 (u : MS) (v143 : Int32) (v144 : Int32) (v145 : Int32) (v146 : Int32) (x : Int32) : mV (qE u v143 v144 v145 v146) 146 x = qE u v143 v144 v145 x := by
  refine Prod.ext ?_ rfl; funext k; simp only [qE, mV, upd]; all_goals ((repeat' split) <;> first | rfl | (subst_vars; rfl) | (exfalso; omega) | simp_all)
theorem qE_g1 (u : MS) (v143 : Int32) (v144 : Int32) (v145 : Int32) (v146 : Int32) : (qE u v143 v144 v145 v146).2.1 1 = (u.2.1 1) := rfl
theorem qE_g6 (u : MS) (v143 : Int32) (v144 : Int32) (v145 : Int32) (v146 : Int32) : (qE u v143 v144 v145 v146).2.1 6 = (u.2.1 6) := rfl
theorem qE_f8 (u : MS) (v143 : Int32) (v144 : Int32) (v145 : Int32) (v146 : Int32) : (qE u v143 v144 v145 v146).1 8 = (u.1 8) := rfl
theorem qE_f9 (u : MS) (v143 : Int32) (v144 : Int32) (v145 : Int32) (v146 : Int32) : (qE u v143 v144 v145 v146).1 9 = (u.1 9) := rfl
theorem qE_g14 (u : MS) (v143 : Int32) (v144 : Int32) (v145 : Int32) (v146 : Int32) : (qE u v143 v144 v145 v146).2.1 14 = (u.2.1 14) := rfl
theorem qE_g16 (u : MS) (v143 : Int32) (v144 : Int32) (v145 : Int32) (v146 : Int32) : (qE u v143 v144 v145 v146).2.1 16 = (u.2.1 16) := rfl
theorem qE_g17 (u : MS) (v143 : Int32) (v144 : Int32) (v145 : Int32) (v146 : Int32) : (qE u v143 v144 v145 v146).2.1 17 = (u.2.1 17) := rfl
theorem qE_f18 (u : MS) (v143 : Int32) (v144 : Int32) (v145 : Int32) (v146 : Int32) : (qE u v143 v144 v145 v146).1 18 = (u.1 18) := rfl
theorem qE_g20 (u : MS) (v143 : Int32) (v144 : Int32) (v145 : Int32) (v146 : Int32) : (qE u v143 v144 v145 v146).2.1 20 = (u.2.1 20) := rfl
theorem qE_g21 (u : MS) (v143 : Int32) (v144 : Int32) (v145 : Int32) (v146 : Int32) : (qE u v143 v144 v145 v146).2.1 21 = (u.2.1 21) := rfl
theorem qE_g22 (u : MS) (v143 : Int32) (v144 : Int32) (v145 : Int32) (v146 : Int32) : (qE u v143 v144 v145 v146).2.1 22 = (u.2.1 22) := rfl
theorem qE_g23 (u : MS) (v143 : Int32) (v144 : Int32) (v145 : Int32) (v146 : Int32) : (qE u v143 v144 v145 v146).2.1 23 = (u.2.1 23) := rfl
theorem qE_f24 (u : MS) (v143 : Int32) (v144 : Int32) (v145 : Int32) (v146 : Int32) : (qE u v143 v144 v145 v146).1 24 = (u.1 24) := rfl
theorem qE_f25 (u : MS) (v143 : Int32) (v144 : Int32) (v145 : Int32) (v146 : Int32) : (qE u v143 v144 v145 v146).1 25 = (u.1 25) := rfl
theorem qE_f30 (u : MS) (v143 : Int32) (v144 : Int32) (v145 : Int32) (v146 : Int32) : (qE u v143 v144 v145 v146).1 30 = (u.1 30) := rfl
theorem qE_f31 (u : MS) (v143 : Int32) (v144 : Int32) (v145 : Int32) (v146 : Int32) : (qE u v143 v144 v145 v146).1 31 = (u.1 31) := rfl
theorem qE_f32 (u : MS) (v143 : Int32) (v144 : Int32) (v145 : Int32) (v146 : Int32) : (qE u v143 v144 v145 v146).1 32 = (u.1 32) := rfl
theorem qE_f33 (u : MS) (v143 : Int32) (v144 : Int32) (v145 : Int32) (v146 : Int32) : (qE u v143 v144 v145 v146).1 33 = (u.1 33) := rfl
theorem qE_f34 (u : MS) (v143 : Int32) (v144 : Int32) (v145 : Int32) (v146 : Int32) : (qE u v143 v144 v145 v146).1 34 = (u.1 34) := rfl
theorem qE_f35 (u : MS) (v143 : Int32) (v144 : Int32) (v145 : Int32) (v146 : Int32) : (qE u v143 v144 v145 v146).1 35 = (u.1 35) := rfl
theorem qE_f36 (u : MS) (v143 : Int32) (v144 : Int32) (v145 : Int32) (v146 : Int32) : (qE u v143 v144 v145 v146).1 36 = (u.1 36) := rfl
theorem qE_f37 (u : MS) (v143 : Int32) (v144 : Int32) (v145 : Int32) (v146 : Int32) : (qE u v143 v144 v145 v146).1 37 = (u.1 37) := rfl
theorem qE_f38 (u : MS) (v143 : Int32) (v144 : Int32) (v145 : Int32) (v146 : Int32) : (qE u v143 v144 v145 v146).1 38 = (u.1 38) := rfl
theorem qE_f39 (u : MS) (v143 : Int32) (v144 : Int32) (v145 : Int32) (v146 : Int32) : (qE u v143 v144 v145 v146).1 39 = (u.1 39) := rfl
theorem qE_g40 (u : MS) (v143 : Int32) (v144 : Int32) (v145 : Int32) (v146 : Int32) : (qE u v143 v144 v145 v146).2.1 40 = (u.2.1 40) := rfl
theorem qE_f41 (u : MS) (v143 : Int32) (v144 : Int32) (v145 : Int32) (v146 : Int32) : (qE u v143 v144 v145 v146).1 41 = (u.1 41) := rfl
theorem qE_f42 (u : MS) (v143 : Int32) (v144 : Int32) (v145 : Int32) (v146 : Int32) : (qE u v143 v144 v145 v146).1 42 = (u.1 42) := rfl
theorem qE_f43 (u : MS) (v143 : Int32) (v144 : Int32) (v145 : Int32) (v146 : Int32) : (qE u v143 v144 v145 v146).1 43 = (u.1 43) := rfl
theorem qE_f44 (u : MS) (v143 : Int32) (v144 : Int32) (v145 : Int32) (v146 : Int32) : (qE u v143 v144 v145 v146).1 44 = (u.1 44) := rfl
theorem qE_f45 (u : MS) (v143 : Int32) (v144 : Int32) (v145 : Int32) (v146 : Int32) : (qE u v143 v144 v145 v146).1 45 = (u.1 45) := rfl
theorem qE_f46 (u : MS) (v143 : Int32) (v144 : Int32) (v145 : Int32) (v146 : Int32) : (qE u v143 v144 v145 v146).1 46 = (u.1 46) := rfl
theorem qE_g50 (u : MS) (v143 : Int32) (v144 : Int32) (v145 : Int32) (v146 : Int32) : (qE u v143 v144 v145 v146).2.1 50 = (u.2.1 50) := rfl
theorem qE_f51 (u : MS) (v143 : Int32) (v144 : Int32) (v145 : Int32) (v146 : Int32) : (qE u v143 v144 v145 v146).1 51 = (u.1 51) := rfl
theorem qE_f52 (u : MS) (v143 : Int32) (v144 : Int32) (v145 : Int32) (v146 : Int32) : (qE u v143 v144 v145 v146).1 52 = (u.1 52) := rfl
theorem qE_f53 (u : MS) (v143 : Int32) (v144 : Int32) (v145 : Int32) (v146 : Int32) : (qE u v143 v144 v145 v146).1 53 = (u.1 53) := rfl
theorem qE_f54 (u : MS) (v143 : Int32) (v144 : Int32) (v145 : Int32) (v146 : Int32) : (qE u v143 v144 v145 v146).1 54 = (u.1 54) := rfl
theorem qE_f55 (u : MS) (v143 : Int32) (v144 : Int32) (v145 : Int32) (v146 : Int32) : (qE u v143 v144 v145 v146).1 55 = (u.1 55) := rfl
theorem qE_f56 (u : MS) (v143 : Int32) (v144 : Int32) (v145 : Int32) (v146 : Int32) : (qE u v143 v144 v145 v146).1 56 = (u.1 56) := rfl
theorem qE_g60 (u : MS) (v143 : Int32) (v144 : Int32) (v145 : Int32) (v146 : Int32) : (qE u v143 v144 v145 v146).2.1 60 = (u.2.1 60) := rfl
theorem qE_f61 (u : MS) (v143 : Int32) (v144 : Int32) (v145 : Int32) (v146 : Int32) : (qE u v143 v144 v145 v146).1 61 = (u.1 61) := rfl
theorem qE_f62 (u : MS) (v143 : Int32) (v144 : Int32) (v145 : Int32) (v146 : Int32) : (qE u v143 v144 v145 v146).1 62 = (u.1 62) := rfl
theorem qE_f63 (u : MS) (v143 : Int32) (v144 : Int32) (v145 : Int32) (v146 : Int32) : (qE u v143 v144 v145 v146).1 63 = (u.1 63) := rfl
theorem qE_f64 (u : MS) (v143 : Int32) (v144 : Int32) (v145 : Int32) (v146 : Int32) : (qE u v143 v144 v145 v146).1 64 = (u.1 64) := rfl
theorem qE_f65 (u : MS) (v143 : Int32) (v144 : Int32) (v145 : Int32) (v146 : Int32) : (qE u v143 v144 v145 v146).1 65 = (u.1 65) := rfl
theorem qE_f66 (u : MS) (v143 : Int32) (v144 : Int32) (v145 : Int32) (v146 : Int32) : (qE u v143 v144 v145 v146).1 66 = (u.1 66) := rfl
theorem qE_f101 (u : MS) (v143 : Int32) (v144 : Int32) (v145 : Int32) (v146 : Int32) : (qE u v143 v144 v145 v146).1 101 = (u.1 101) := rfl
theorem qE_f102 (u : MS) (v143 : Int32) (v144 : Int32) (v145 : Int32) (v146 : Int32) : (qE u v143 v144 v145 v146).1 102 = (u.1 102) := rfl
theorem qE_f103 (u : MS) (v143 : Int32) (v144 : Int32) (v145 : Int32) (v146 : Int32) : (qE u v143 v144 v145 v146).1 103 = (u.1 103) := rfl
theorem qE_f104 (u : MS) (v143 : Int32) (v144 : Int32) (v145 : Int32) (v146 : Int32) : (qE u v143 v144 v145 v146).1 104 = (u.1 104) := rfl
theorem qE_f107 (u : MS) (v143 : Int32) (v144 : Int32) (v145 : Int32) (v146 : Int32) : (qE u v143 v144 v145 v146).1 107 = (u.1 107) := rfl
theorem qE_g110 (u : MS) (v143 : Int32) (v144 : Int32) (v145 : Int32) (v146 : Int32) : (qE u v143 v144 v145 v146).2.1 110 = (u.2.1 110) := rfl
theorem qE_g111 (u : MS) (v143 : Int32) (v144 : Int32) (v145 : Int32) (v146 : Int32) : (qE u v143 v144 v145 v146).2.1 111 = (u.2.1 111) := rfl
theorem qE_g112 (u : MS) (v143 : Int32) (v144 : Int32) (v145 : Int32) (v146 : Int32) : (qE u v143 v144 v145 v146).2.1 112 = (u.2.1 112) := rfl
theorem qE_g113 (u : MS) (v143 : Int32) (v144 : Int32) (v145 : Int32) (v146 : Int32) : (qE u v143 v144 v145 v146).2.1 113 = (u.2.1 113) := rfl
theorem qE_f114 (u : MS) (v143 : Int32) (v144 : Int32) (v145 : Int32) (v146 : Int32) : (qE u v143 v144 v145 v146).1 114 = (u.1 114) := rfl
theorem qE_f115 (u : MS) (v143 : Int32) (v144 : Int32) (v145 : Int32) (v146 : Int32) : (qE u v143 v144 v145 v146).1 115 = (u.1 115) := rfl
theorem qE_f121 (u : MS) (v143 : Int32) (v144 : Int32) (v145 : Int32) (v146 : Int32) : (qE u v143 v144 v145 v146).1 121 = (u.1 121) := rfl
theorem qE_f122 (u : MS) (v143 : Int32) (v144 : Int32) (v145 : Int32) (v146 : Int32) : (qE u v143 v144 v145 v146).1 122 = (u.1 122) := rfl
theorem qE_f123 (u : MS) (v143 : Int32) (v144 : Int32) (v145 : Int32) (v146 : Int32) : (qE u v143 v144 v145 v146).1 123 = (u.1 123) := rfl
theorem qE_f124 (u : MS) (v143 : Int32) (v144 : Int32) (v145 : Int32) (v146 : Int32) : (qE u v143 v144 v145 v146).1 124 = (u.1 124) := rfl
theorem qE_g126 (u : MS) (v143 : Int32) (v144 : Int32) (v145 : Int32) (v146 : Int32) : (qE u v143 v144 v145 v146).2.1 126 = (u.2.1 126) := rfl
theorem qE_g127 (u : MS) (v143 : Int32) (v144 : Int32) (v145 : Int32) (v146 : Int32) : (qE u v143 v144 v145 v146).2.1 127 = (u.2.1 127) := rfl
theorem qE_f128 (u : MS) (v143 : Int32) (v144 : Int32) (v145 : Int32) (v146 : Int32) : (qE u v143 v144 v145 v146).1 128 = (u.1 128) := rfl
theorem qE_f129 (u : MS) (v143 : Int32) (v144 : Int32) (v145 : Int32) (v146 : Int32) : (qE u v143 v144 v145 v146).1 129 = (u.1 129) := rfl
theorem qE_f141 (u : MS) (v143 : Int32) (v144 : Int32) (v145 : Int32) (v146 : Int32) : (qE u v143 v144 v145 v146).1 141 = (u.1 141) := rfl
theorem qE_f143 (u : MS) (v143 : Int32) (v144 : Int32) (v145 : Int32) (v146 : Int32) : (qE u v143 v144 v145 v146).1 143 = v143 := rfl
theorem qE_f144 (u : MS) (v143 : Int32) (v144 : Int32) (v145 : Int32) (v146 : Int32) : (qE u v143 v144 v145 v146).1 144 = v144 := rfl
theorem qE_f145 (u : MS) (v143 : Int32) (v144 : Int32) (v145 : Int32) (v146 : Int32) : (qE u v143 v144 v145 v146).1 145 = v145 := rfl
theorem qE_f146 (u : MS) (v143 : Int32) (v144 : Int32) (v145 : Int32) (v146 : Int32) : (qE u v143 v144 v145 v146).1 146 = v146 := rfl

/-! what the class under test reads: 0 behind the end -/
def hzN (f : Nat → Int32) (n p : Nat) : Nat := if p < n then ocN f p else 0
theorem hzN_lt (f : Nat → Int32) (n p : Nat) : hzN f n p < 256 := by
  unfold hzN; split
  · exact ocN_lt f p
  · decide
theorem hzN_b (f : Nat → Int32) (n p : Nat) : hzN f n p < 2 ^ 31 := Nat.lt_trans (hzN_lt f n p) (by decide)
theorem hzN_t {f : Nat → Int32} {n p : Nat} (h : p < n) : hzN f n p = ocN f p := if_pos h
theorem hzN_f {f : Nat → Int32} {n p : Nat} (h : ¬ p < n) : hzN f n p = 0 := if_neg h
theorem hz_ck {f : Nat → Int32} {n p c : Nat} (h0 : 0 < c) (hc : c < 256) : hzN f n p = c ↔ ckN f n p = c := by
  by_cases h : p < n
  · rw [hzN_t h, ckN_t h]
  · rw [hzN_f h, ckN_f h]; omega
theorem hz_ne {f : Nat → Int32} {n p : Nat} (h : ¬ hzN f n p = 0) : p < n ∧ ckN f n p = hzN f n p := by
  by_cases q : p < n
  · rw [hzN_t q, ckN_t q]; exact ⟨q, rfl⟩
  · exact absurd (hzN_f q) h
theorem digB_hz (f : Nat → Int32) (n p : Nat) : digB f n p = (decide (48 ≤ hzN f n p) && decide (hzN f n p ≤ 57)) := by
  unfold digB
  by_cases h : p < n
  · rw [hzN_t h, ckN_t h]
  · rw [hzN_f h, ckN_f h]; rfl
theorem digB_hz2 {f : Nat → Int32} {n p : Nat} (h : digB f n p = true) : hzN f n p = ocN f p := hzN_t (digB_ck h).1
def nzPost (f : Nat → Int32) (n p : Nat) (r at9 ft pc pl0 : Int32) : Prop := match numL f n p with
  | .inl e => ft = nI e.1 ∧ pc = nI e.2 ∧ ∃ q, at9 = nI q ∧ q ≤ n
  | .inr v => r = nI v.1 ∧ at9 = nI v.2 ∧ ft = 0 ∧ pc = pl0
def nzI (f : Nat → Int32) (n p m q : Nat) (vi at9 ft pc pl0 : Int32) : Prop :=
  (at9 = nI q ∧ q ≤ n) ∧ ((ft = 0 ∧ pc = pl0 ∧ ∃ b v, m = b + 1 ∧ vi = nI v ∧ nmL f n b q v = numL f n p ∧ q + b = p + 5 ∧ (v + 1) * 10 ^ b ≤ 100000) ∨ (ft = 2 ∧ pc = nI (p + 5) ∧ numL f n p = .inl (2, p + 5)))
theorem nzP_l {f : Nat → Int32} {n p q : Nat} {e : Nat × Nat} {r at9 ft pc pl0 : Int32} (h : numL f n p = .inl e) (h1 : ft = nI e.1) (h2 : pc = nI e.2) (h3 : at9 = nI q) (h4 : q ≤ n) : nzPost f n p r at9 ft pc pl0 := by
  unfold nzPost; rw [h]; exact ⟨h1, h2, q, h3, h4⟩
theorem nzP_r {f : Nat → Int32} {n p : Nat} {v : Nat × Nat} {r at9 pl0 : Int32} (h : numL f n p = .inr v) (h1 : r = nI v.1) (h2 : at9 = nI v.2) : nzPost f n p r at9 0 pl0 pl0 := by
  unfold nzPost; rw [h]; exact ⟨h1, h2, rfl, rfl⟩
def isGB (x : Int32) : Bool := if x = 0 then true else false
