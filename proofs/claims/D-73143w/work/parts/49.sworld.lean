/-! the worlds of the class under test -/
set_option maxRecDepth 100000
theorem clX0 : vwCl[0]? = some (RX0, TX0, 20) := rfl
theorem clX1 : vwCl[1]? = some (RX1, TX1, 6) := rfl
theorem clX3 : vwCl[2]? = some (RX3, TX3, 10) := rfl
theorem clX4 : vwCl[3]? = some (RX4, TX4, 8) := rfl
theorem clX5 : vwCl[4]? = some (RX5, TX5, 4) := rfl
theorem clX6 : vwCl[5]? = some (RX6, TX6, 61) := rfl
theorem clX7 : vwCl[6]? = some (RX7, TX7, 7) := rfl
theorem clX9 : vwCl[7]? = some (RX9, TX9, 3) := rfl
theorem clX10 : vwCl[8]? = some (RX10, TX10, 1) := rfl
theorem clX11 : vwCl[9]? = some (RX11, TX11, 1) := rfl
theorem clX13 : vwCl[10]? = some (RX13, TX13, 3) := rfl
theorem clX14 : vwCl[11]? = some (RX14, TX14, 1) := rfl
theorem clX15 : vwCl[12]? = some (RX15, TX15, 3) := rfl
theorem clX17 : vwCl[13]? = some (RX17, TX17, 8) := rfl
theorem clX18 : vwCl[14]? = some (RX18, TX18, 10) := rfl
def fs_main (o : Nat) (R : Nat → Nat) (tx : Nat) (V : Nat → Int32) : List Value := [.ref (R 0), .ref (R 1), .ref (R 2), .ref (R 3), .ref (R 4), .ref (R 5), .ref (R 6), .ref tx, .int (V 8), .int (V 9), .ref (R 10), .ref (R 11), .ref (R 12), .ref (R 13), .ref (R 14), .ref (R 15), .ref (R 16), .ref (R 17), .int (V 18), .ref (R 19)]
theorem fD0 (o : Nat) (R : Nat → Nat) (tx : Nat) (V : Nat → Int32) : (fs_main o R tx V)[0]? = some (.ref (R 0)) := rfl
theorem fD1 (o : Nat) (R : Nat → Nat) (tx : Nat) (V : Nat → Int32) : (fs_main o R tx V)[1]? = some (.ref (R 1)) := rfl
theorem fD2 (o : Nat) (R : Nat → Nat) (tx : Nat) (V : Nat → Int32) : (fs_main o R tx V)[2]? = some (.ref (R 2)) := rfl
theorem fD3 (o : Nat) (R : Nat → Nat) (tx : Nat) (V : Nat → Int32) : (fs_main o R tx V)[3]? = some (.ref (R 3)) := rfl
theorem fD4 (o : Nat) (R : Nat → Nat) (tx : Nat) (V : Nat → Int32) : (fs_main o R tx V)[4]? = some (.ref (R 4)) := rfl
theorem fD5 (o : Nat) (R : Nat → Nat) (tx : Nat) (V : Nat → Int32) : (fs_main o R tx V)[5]? = some (.ref (R 5)) := rfl
theorem fD6 (o : Nat) (R : Nat → Nat) (tx : Nat) (V : Nat → Int32) : (fs_main o R tx V)[6]? = some (.ref (R 6)) := rfl
theorem fD7 (o : Nat) (R : Nat → Nat) (tx : Nat) (V : Nat → Int32) : (fs_main o R tx V)[7]? = some (.ref tx) := rfl
theorem fD8 (o : Nat) (R : Nat → Nat) (tx : Nat) (V : Nat → Int32) : (fs_main o R tx V)[8]? = some (.int (V 8)) := rfl
theorem fD9 (o : Nat) (R : Nat → Nat) (tx : Nat) (V : Nat → Int32) : (fs_main o R tx V)[9]? = some (.int (V 9)) := rfl
theorem fD10 (o : Nat) (R : Nat → Nat) (tx : Nat) (V : Nat → Int32) : (fs_main o R tx V)[10]? = some (.ref (R 10)) := rfl
theorem fD11 (o : Nat) (R : Nat → Nat) (tx : Nat) (V : Nat → Int32) : (fs_main o R tx V)[11]? = some (.ref (R 11)) := rfl
theorem fD12 (o : Nat) (R : Nat → Nat) (tx : Nat) (V : Nat → Int32) : (fs_main o R tx V)[12]? = some (.ref (R 12)) := rfl
theorem fD13 (o : Nat) (R : Nat → Nat) (tx : Nat) (V : Nat → Int32) : (fs_main o R tx V)[13]? = some (.ref (R 13)) := rfl
theorem fD14 (o : Nat) (R : Nat → Nat) (tx : Nat) (V : Nat → Int32) : (fs_main o R tx V)[14]? = some (.ref (R 14)) := rfl
theorem fD15 (o : Nat) (R : Nat → Nat) (tx : Nat) (V : Nat → Int32) : (fs_main o R tx V)[15]? = some (.ref (R 15)) := rfl
theorem fD16 (o : Nat) (R : Nat → Nat) (tx : Nat) (V : Nat → Int32) : (fs_main o R tx V)[16]? = some (.ref (R 16)) := rfl
theorem fD17 (o : Nat) (R : Nat → Nat) (tx : Nat) (V : Nat → Int32) : (fs_main o R tx V)[17]? = some (.ref (R 17)) := rfl
theorem fD18 (o : Nat) (R : Nat → Nat) (tx : Nat) (V : Nat → Int32) : (fs_main o R tx V)[18]? = some (.int (V 18)) := rfl
theorem fD19 (o : Nat) (R : Nat → Nat) (tx : Nat) (V : Nat → Int32) : (fs_main o R tx V)[19]? = some (.ref (R 19)) := rfl
def fs_plan (o : Nat) (R : Nat → Nat) (tx : Nat) (V : Nat → Int32) : List Value := [.ref (R 20), .ref (R 21), .ref (R 22), .ref (R 23), .int (V 24), .int (V 25)]
theorem fD20 (o : Nat) (R : Nat → Nat) (tx : Nat) (V : Nat → Int32) : (fs_plan o R tx V)[0]? = some (.ref (R 20)) := rfl
theorem fD21 (o : Nat) (R : Nat → Nat) (tx : Nat) (V : Nat → Int32) : (fs_plan o R tx V)[1]? = some (.ref (R 21)) := rfl
theorem fD22 (o : Nat) (R : Nat → Nat) (tx : Nat) (V : Nat → Int32) : (fs_plan o R tx V)[2]? = some (.ref (R 22)) := rfl
theorem fD23 (o : Nat) (R : Nat → Nat) (tx : Nat) (V : Nat → Int32) : (fs_plan o R tx V)[3]? = some (.ref (R 23)) := rfl
theorem fD24 (o : Nat) (R : Nat → Nat) (tx : Nat) (V : Nat → Int32) : (fs_plan o R tx V)[4]? = some (.int (V 24)) := rfl
theorem fD25 (o : Nat) (R : Nat → Nat) (tx : Nat) (V : Nat → Int32) : (fs_plan o R tx V)[5]? = some (.int (V 25)) := rfl
def fs_moment (o : Nat) (R : Nat → Nat) (tx : Nat) (V : Nat → Int32) : List Value := [.int (V 30), .int (V 31), .int (V 32), .int (V 33), .int (V 34), .int (V 35), .int (V 36), .int (V 37), .int (V 38), .int (V 39)]
theorem fD30 (o : Nat) (R : Nat → Nat) (tx : Nat) (V : Nat → Int32) : (fs_moment o R tx V)[0]? = some (.int (V 30)) := rfl
theorem fD31 (o : Nat) (R : Nat → Nat) (tx : Nat) (V : Nat → Int32) : (fs_moment o R tx V)[1]? = some (.int (V 31)) := rfl
theorem fD32 (o : Nat) (R : Nat → Nat) (tx : Nat) (V : Nat → Int32) : (fs_moment o R tx V)[2]? = some (.int (V 32)) := rfl
theorem fD33 (o : Nat) (R : Nat → Nat) (tx : Nat) (V : Nat → Int32) : (fs_moment o R tx V)[3]? = some (.int (V 33)) := rfl
theorem fD34 (o : Nat) (R : Nat → Nat) (tx : Nat) (V : Nat → Int32) : (fs_moment o R tx V)[4]? = some (.int (V 34)) := rfl
theorem fD35 (o : Nat) (R : Nat → Nat) (tx : Nat) (V : Nat → Int32) : (fs_moment o R tx V)[5]? = some (.int (V 35)) := rfl
theorem fD36 (o : Nat) (R : Nat → Nat) (tx : Nat) (V : Nat → Int32) : (fs_moment o R tx V)[6]? = some (.int (V 36)) := rfl
theorem fD37 (o : Nat) (R : Nat → Nat) (tx : Nat) (V : Nat → Int32) : (fs_moment o R tx V)[7]? = some (.int (V 37)) := rfl
theorem fD38 (o : Nat) (R : Nat → Nat) (tx : Nat) (V : Nat → Int32) : (fs_moment o R tx V)[8]? = some (.int (V 38)) := rfl
theorem fD39 (o : Nat) (R : Nat → Nat) (tx : Nat) (V : Nat → Int32) : (fs_moment o R tx V)[9]? = some (.int (V 39)) := rfl
def fs_street (o : Nat) (R : Nat → Nat) (tx : Nat) (V : Nat → Int32) : List Value := [.ref (R 40), .int (V 41), .int (V 42), .int (V 43), .int (V 44), .int (V 45), .int (V 46), .ref o]
theorem fD40 (o : Nat) (R : Nat → Nat) (tx : Nat) (V : Nat → Int32) : (fs_street o R tx V)[0]? = some (.ref (R 40)) := rfl
theorem fD41 (o : Nat) (R : Nat → Nat) (tx : Nat) (V : Nat → Int32) : (fs_street o R tx V)[1]? = some (.int (V 41)) := rfl
theorem fD42 (o : Nat) (R : Nat → Nat) (tx : Nat) (V : Nat → Int32) : (fs_street o R tx V)[2]? = some (.int (V 42)) := rfl
theorem fD43 (o : Nat) (R : Nat → Nat) (tx : Nat) (V : Nat → Int32) : (fs_street o R tx V)[3]? = some (.int (V 43)) := rfl
theorem fD44 (o : Nat) (R : Nat → Nat) (tx : Nat) (V : Nat → Int32) : (fs_street o R tx V)[4]? = some (.int (V 44)) := rfl
theorem fD45 (o : Nat) (R : Nat → Nat) (tx : Nat) (V : Nat → Int32) : (fs_street o R tx V)[5]? = some (.int (V 45)) := rfl
theorem fD46 (o : Nat) (R : Nat → Nat) (tx : Nat) (V : Nat → Int32) : (fs_street o R tx V)[6]? = some (.int (V 46)) := rfl
theorem fD47 (o : Nat) (R : Nat → Nat) (tx : Nat) (V : Nat → Int32) : (fs_street o R tx V)[7]? = some (.ref o) := rfl
def fs_then (o : Nat) (R : Nat → Nat) (tx : Nat) (V : Nat → Int32) : List Value := [.ref (R 50), .int (V 51), .int (V 52), .int (V 53), .int (V 54), .int (V 55), .int (V 56), .ref o]
theorem fD50 (o : Nat) (R : Nat → Nat) (tx : Nat) (V : Nat → Int32) : (fs_then o R tx V)[0]? = some (.ref (R 50)) := rfl
theorem fD51 (o : Nat) (R : Nat → Nat) (tx : Nat) (V : Nat → Int32) : (fs_then o R tx V)[1]? = some (.int (V 51)) := rfl
theorem fD52 (o : Nat) (R : Nat → Nat) (tx : Nat) (V : Nat → Int32) : (fs_then o R tx V)[2]? = some (.int (V 52)) := rfl
theorem fD53 (o : Nat) (R : Nat → Nat) (tx : Nat) (V : Nat → Int32) : (fs_then o R tx V)[3]? = some (.int (V 53)) := rfl
theorem fD54 (o : Nat) (R : Nat → Nat) (tx : Nat) (V : Nat → Int32) : (fs_then o R tx V)[4]? = some (.int (V 54)) := rfl
theorem fD55 (o : Nat) (R : Nat → Nat) (tx : Nat) (V : Nat → Int32) : (fs_then o R tx V)[5]? = some (.int (V 55)) := rfl
theorem fD56 (o : Nat) (R : Nat → Nat) (tx : Nat) (V : Nat → Int32) : (fs_then o R tx V)[6]? = some (.int (V 56)) := rfl
theorem fD57 (o : Nat) (R : Nat → Nat) (tx : Nat) (V : Nat → Int32) : (fs_then o R tx V)[7]? = some (.ref o) := rfl
def fs_kept (o : Nat) (R : Nat → Nat) (tx : Nat) (V : Nat → Int32) : List Value := [.ref (R 60), .int (V 61), .int (V 62), .int (V 63), .int (V 64), .int (V 65), .int (V 66), .ref o]
theorem fD60 (o : Nat) (R : Nat → Nat) (tx : Nat) (V : Nat → Int32) : (fs_kept o R tx V)[0]? = some (.ref (R 60)) := rfl
theorem fD61 (o : Nat) (R : Nat → Nat) (tx : Nat) (V : Nat → Int32) : (fs_kept o R tx V)[1]? = some (.int (V 61)) := rfl
theorem fD62 (o : Nat) (R : Nat → Nat) (tx : Nat) (V : Nat → Int32) : (fs_kept o R tx V)[2]? = some (.int (V 62)) := rfl
theorem fD63 (o : Nat) (R : Nat → Nat) (tx : Nat) (V : Nat → Int32) : (fs_kept o R tx V)[3]? = some (.int (V 63)) := rfl
theorem fD64 (o : Nat) (R : Nat → Nat) (tx : Nat) (V : Nat → Int32) : (fs_kept o R tx V)[4]? = some (.int (V 64)) := rfl
theorem fD65 (o : Nat) (R : Nat → Nat) (tx : Nat) (V : Nat → Int32) : (fs_kept o R tx V)[5]? = some (.int (V 65)) := rfl
theorem fD66 (o : Nat) (R : Nat → Nat) (tx : Nat) (V : Nat → Int32) : (fs_kept o R tx V)[6]? = some (.int (V 66)) := rfl
theorem fD67 (o : Nat) (R : Nat → Nat) (tx : Nat) (V : Nat → Int32) : (fs_kept o R tx V)[7]? = some (.ref o) := rfl
def celS (G : GG) (o : Nat) (R : Nat → Nat) (tx : Nat) (u : MS) : va_W := [(o, .inr (0, fs_main o R tx u.1)), (R 0, .inr (1, fs_plan o R tx u.1)), (R 2, .inr (2, fs_moment o R tx u.1)), (R 3, .inr (3, fs_street o R tx u.1)), (R 4, .inr (3, fs_then o R tx u.1)), (R 5, .inr (3, fs_kept o R tx u.1)), (R 1, .inl (G.2 0, 12, .inl (u.2.1 1))), (R 6, .inl (G.2 1, 260, .inl (u.2.1 6))), (R 14, .inl (G.2 0, 16, .inl (u.2.1 14))), (R 16, .inl (G.2 0, 8, .inl (u.2.1 16))), (R 17, .inl (G.2 0, 8, .inl (u.2.1 17))), (R 19, .inl (G.2 2, 14, .inr (.inl (u.2.2 19)))), (R 20, .inl (G.2 0, 16, .inl (u.2.1 20))), (R 21, .inl (G.2 0, 16, .inl (u.2.1 21))), (R 22, .inl (G.2 0, 16, .inl (u.2.1 22))), (R 23, .inl (G.2 0, 16, .inl (u.2.1 23))), (R 40, .inl (G.2 0, 16, .inl (u.2.1 40))), (R 50, .inl (G.2 0, 16, .inl (u.2.1 50))), (R 60, .inl (G.2 0, 16, .inl (u.2.1 60)))]
def PwS (G : GG) (o : Nat) (R : Nat → Nat) (tx : Nat) (u : MS) (H : Heap) : Prop := va_P G.1 vwCl (celS G o R tx u) H
def adrS : List Nat := [0, 2, 3, 4, 5, 1, 6, 14, 16, 17, 19, 20, 21, 22, 23, 40, 50, 60]
def AwS (o : Nat) (R : Nat → Nat) : Nat → Prop := fun q => q = o ∨ ∃ k ∈ adrS, q = R k
def DwS (o : Nat) (R : Nat → Nat) : Prop := ∀ (G : GG) (tx : Nat) (u : MS), va_D (AwS o R) (celS G o R tx u)
theorem oS_main (G : GG) (o : Nat) (R : Nat → Nat) (tx : Nat) (u : MS) : (celS G o R tx u)[0]? = some (o, .inr (0, fs_main o R tx u.1)) := rfl
theorem pS8 (G : GG) (o : Nat) (R : Nat → Nat) (tx : Nat) (u : MS) (x : Int32) : (celS G o R tx u).set 0 (o, .inr (0, (fs_main o R tx u.1).set 8 (.int x))) = celS G o R tx (mV u 8 x) := rfl
theorem pS9 (G : GG) (o : Nat) (R : Nat → Nat) (tx : Nat) (u : MS) (x : Int32) : (celS G o R tx u).set 0 (o, .inr (0, (fs_main o R tx u.1).set 9 (.int x))) = celS G o R tx (mV u 9 x) := rfl
theorem pS18 (G : GG) (o : Nat) (R : Nat → Nat) (tx : Nat) (u : MS) (x : Int32) : (celS G o R tx u).set 0 (o, .inr (0, (fs_main o R tx u.1).set 18 (.int x))) = celS G o R tx (mV u 18 x) := rfl
theorem oS_plan (G : GG) (o : Nat) (R : Nat → Nat) (tx : Nat) (u : MS) : (celS G o R tx u)[1]? = some ((R 0), .inr (1, fs_plan o R tx u.1)) := rfl
theorem pS24 (G : GG) (o : Nat) (R : Nat → Nat) (tx : Nat) (u : MS) (x : Int32) : (celS G o R tx u).set 1 ((R 0), .inr (1, (fs_plan o R tx u.1).set 4 (.int x))) = celS G o R tx (mV u 24 x) := rfl
theorem pS25 (G : GG) (o : Nat) (R : Nat → Nat) (tx : Nat) (u : MS) (x : Int32) : (celS G o R tx u).set 1 ((R 0), .inr (1, (fs_plan o R tx u.1).set 5 (.int x))) = celS G o R tx (mV u 25 x) := rfl
theorem oS_moment (G : GG) (o : Nat) (R : Nat → Nat) (tx : Nat) (u : MS) : (celS G o R tx u)[2]? = some ((R 2), .inr (2, fs_moment o R tx u.1)) := rfl
theorem pS30 (G : GG) (o : Nat) (R : Nat → Nat) (tx : Nat) (u : MS) (x : Int32) : (celS G o R tx u).set 2 ((R 2), .inr (2, (fs_moment o R tx u.1).set 0 (.int x))) = celS G o R tx (mV u 30 x) := rfl
theorem pS31 (G : GG) (o : Nat) (R : Nat → Nat) (tx : Nat) (u : MS) (x : Int32) : (celS G o R tx u).set 2 ((R 2), .inr (2, (fs_moment o R tx u.1).set 1 (.int x))) = celS G o R tx (mV u 31 x) := rfl
theorem pS32 (G : GG) (o : Nat) (R : Nat → Nat) (tx : Nat) (u : MS) (x : Int32) : (celS G o R tx u).set 2 ((R 2), .inr (2, (fs_moment o R tx u.1).set 2 (.int x))) = celS G o R tx (mV u 32 x) := rfl
theorem pS33 (G : GG) (o : Nat) (R : Nat → Nat) (tx : Nat) (u : MS) (x : Int32) : (celS G o R tx u).set 2 ((R 2), .inr (2, (fs_moment o R tx u.1).set 3 (.int x))) = celS G o R tx (mV u 33 x) := rfl
theorem pS34 (G : GG) (o : Nat) (R : Nat → Nat) (tx : Nat) (u : MS) (x : Int32) : (celS G o R tx u).set 2 ((R 2), .inr (2, (fs_moment o R tx u.1).set 4 (.int x))) = celS G o R tx (mV u 34 x) := rfl
theorem pS35 (G : GG) (o : Nat) (R : Nat → Nat) (tx : Nat) (u : MS) (x : Int32) : (celS G o R tx u).set 2 ((R 2), .inr (2, (fs_moment o R tx u.1).set 5 (.int x))) = celS G o R tx (mV u 35 x) := rfl
theorem pS36 (G : GG) (o : Nat) (R : Nat → Nat) (tx : Nat) (u : MS) (x : Int32) : (celS G o R tx u).set 2 ((R 2), .inr (2, (fs_moment o R tx u.1).set 6 (.int x))) = celS G o R tx (mV u 36 x) := rfl
theorem pS37 (G : GG) (o : Nat) (R : Nat → Nat) (tx : Nat) (u : MS) (x : Int32) : (celS G o R tx u).set 2 ((R 2), .inr (2, (fs_moment o R tx u.1).set 7 (.int x))) = celS G o R tx (mV u 37 x) := rfl
theorem pS38 (G : GG) (o : Nat) (R : Nat → Nat) (tx : Nat) (u : MS) (x : Int32) : (celS G o R tx u).set 2 ((R 2), .inr (2, (fs_moment o R tx u.1).set 8 (.int x))) = celS G o R tx (mV u 38 x) := rfl
theorem pS39 (G : GG) (o : Nat) (R : Nat → Nat) (tx : Nat) (u : MS) (x : Int32) : (celS G o R tx u).set 2 ((R 2), .inr (2, (fs_moment o R tx u.1).set 9 (.int x))) = celS G o R tx (mV u 39 x) := rfl
theorem oS_street (G : GG) (o : Nat) (R : Nat → Nat) (tx : Nat) (u : MS) : (celS G o R tx u)[3]? = some ((R 3), .inr (3, fs_street o R tx u.1)) := rfl
theorem pS41 (G : GG) (o : Nat) (R : Nat → Nat) (tx : Nat) (u : MS) (x : Int32) : (celS G o R tx u).set 3 ((R 3), .inr (3, (fs_street o R tx u.1).set 1 (.int x))) = celS G o R tx (mV u 41 x) := rfl
theorem pS42 (G : GG) (o : Nat) (R : Nat → Nat) (tx : Nat) (u : MS) (x : Int32) : (celS G o R tx u).set 3 ((R 3), .inr (3, (fs_street o R tx u.1).set 2 (.int x))) = celS G o R tx (mV u 42 x) := rfl
theorem pS43 (G : GG) (o : Nat) (R : Nat → Nat) (tx : Nat) (u : MS) (x : Int32) : (celS G o R tx u).set 3 ((R 3), .inr (3, (fs_street o R tx u.1).set 3 (.int x))) = celS G o R tx (mV u 43 x) := rfl
theorem pS44 (G : GG) (o : Nat) (R : Nat → Nat) (tx : Nat) (u : MS) (x : Int32) : (celS G o R tx u).set 3 ((R 3), .inr (3, (fs_street o R tx u.1).set 4 (.int x))) = celS G o R tx (mV u 44 x) := rfl
theorem pS45 (G : GG) (o : Nat) (R : Nat → Nat) (tx : Nat) (u : MS) (x : Int32) : (celS G o R tx u).set 3 ((R 3), .inr (3, (fs_street o R tx u.1).set 5 (.int x))) = celS G o R tx (mV u 45 x) := rfl
theorem pS46 (G : GG) (o : Nat) (R : Nat → Nat) (tx : Nat) (u : MS) (x : Int32) : (celS G o R tx u).set 3 ((R 3), .inr (3, (fs_street o R tx u.1).set 6 (.int x))) = celS G o R tx (mV u 46 x) := rfl
theorem oS_then (G : GG) (o : Nat) (R : Nat → Nat) (tx : Nat) (u : MS) : (celS G o R tx u)[4]? = some ((R 4), .inr (3, fs_then o R tx u.1)) := rfl
theorem pS51 (G : GG) (o : Nat) (R : Nat → Nat) (tx : Nat) (u : MS) (x : Int32) : (celS G o R tx u).set 4 ((R 4), .inr (3, (fs_then o R tx u.1).set 1 (.int x))) = celS G o R tx (mV u 51 x) := rfl
theorem pS52 (G : GG) (o : Nat) (R : Nat → Nat) (tx : Nat) (u : MS) (x : Int32) : (celS G o R tx u).set 4 ((R 4), .inr (3, (fs_then o R tx u.1).set 2 (.int x))) = celS G o R tx (mV u 52 x) := rfl
theorem pS53 (G : GG) (o : Nat) (R : Nat → Nat) (tx : Nat) (u : MS) (x : Int32) : (celS G o R tx u).set 4 ((R 4), .inr (3, (fs_then o R tx u.1).set 3 (.int x))) = celS G o R tx (mV u 53 x) := rfl
theorem pS54 (G : GG) (o : Nat) (R : Nat → Nat) (tx : Nat) (u : MS) (x : Int32) : (celS G o R tx u).set 4 ((R 4), .inr (3, (fs_then o R tx u.1).set 4 (.int x))) = celS G o R tx (mV u 54 x) := rfl
theorem pS55 (G : GG) (o : Nat) (R : Nat → Nat) (tx : Nat) (u : MS) (x : Int32) : (celS G o R tx u).set 4 ((R 4), .inr (3, (fs_then o R tx u.1).set 5 (.int x))) = celS G o R tx (mV u 55 x) := rfl
theorem pS56 (G : GG) (o : Nat) (R : Nat → Nat) (tx : Nat) (u : MS) (x : Int32) : (celS G o R tx u).set 4 ((R 4), .inr (3, (fs_then o R tx u.1).set 6 (.int x))) = celS G o R tx (mV u 56 x) := rfl
theorem oS_kept (G : GG) (o : Nat) (R : Nat → Nat) (tx : Nat) (u : MS) : (celS G o R tx u)[5]? = some ((R 5), .inr (3, fs_kept o R tx u.1)) := rfl
theorem pS61 (G : GG) (o : Nat) (R : Nat → Nat) (tx : Nat) (u : MS) (x : Int32) : (celS G o R tx u).set 5 ((R 5), .inr (3, (fs_kept o R tx u.1).set 1 (.int x))) = celS G o R tx (mV u 61 x) := rfl
theorem pS62 (G : GG) (o : Nat) (R : Nat → Nat) (tx : Nat) (u : MS) (x : Int32) : (celS G o R tx u).set 5 ((R 5), .inr (3, (fs_kept o R tx u.1).set 2 (.int x))) = celS G o R tx (mV u 62 x) := rfl
theorem pS63 (G : GG) (o : Nat) (R : Nat → Nat) (tx : Nat) (u : MS) (x : Int32) : (celS G o R tx u).set 5 ((R 5), .inr (3, (fs_kept o R tx u.1).set 3 (.int x))) = celS G o R tx (mV u 63 x) := rfl
theorem pS64 (G : GG) (o : Nat) (R : Nat → Nat) (tx : Nat) (u : MS) (x : Int32) : (celS G o R tx u).set 5 ((R 5), .inr (3, (fs_kept o R tx u.1).set 4 (.int x))) = celS G o R tx (mV u 64 x) := rfl
theorem pS65 (G : GG) (o : Nat) (R : Nat → Nat) (tx : Nat) (u : MS) (x : Int32) : (celS G o R tx u).set 5 ((R 5), .inr (3, (fs_kept o R tx u.1).set 5 (.int x))) = celS G o R tx (mV u 65 x) := rfl
theorem pS66 (G : GG) (o : Nat) (R : Nat → Nat) (tx : Nat) (u : MS) (x : Int32) : (celS G o R tx u).set 5 ((R 5), .inr (3, (fs_kept o R tx u.1).set 6 (.int x))) = celS G o R tx (mV u 66 x) := rfl
theorem aS1 (G : GG) (o : Nat) (R : Nat → Nat) (tx : Nat) (u : MS) : (celS G o R tx u)[6]? = some (R 1, .inl (G.2 0, 12, .inl (u.2.1 1))) := rfl
theorem bS1 (G : GG) (o : Nat) (R : Nat → Nat) (tx : Nat) (u : MS) (i : Nat) (x : Int32) : (celS G o R tx u).set 6 (R 1, .inl (G.2 0, 12, .inl (upd (u.2.1 1) i x))) = celS G o R tx (mA u 1 i x) := rfl
theorem aS6 (G : GG) (o : Nat) (R : Nat → Nat) (tx : Nat) (u : MS) : (celS G o R tx u)[7]? = some (R 6, .inl (G.2 1, 260, .inl (u.2.1 6))) := rfl
theorem bS6 (G : GG) (o : Nat) (R : Nat → Nat) (tx : Nat) (u : MS) (i : Nat) (x : Int32) : (celS G o R tx u).set 7 (R 6, .inl (G.2 1, 260, .inl (upd (u.2.1 6) i x))) = celS G o R tx (mA u 6 i x) := rfl
theorem aS14 (G : GG) (o : Nat) (R : Nat → Nat) (tx : Nat) (u : MS) : (celS G o R tx u)[8]? = some (R 14, .inl (G.2 0, 16, .inl (u.2.1 14))) := rfl
theorem bS14 (G : GG) (o : Nat) (R : Nat → Nat) (tx : Nat) (u : MS) (i : Nat) (x : Int32) : (celS G o R tx u).set 8 (R 14, .inl (G.2 0, 16, .inl (upd (u.2.1 14) i x))) = celS G o R tx (mA u 14 i x) := rfl
theorem aS16 (G : GG) (o : Nat) (R : Nat → Nat) (tx : Nat) (u : MS) : (celS G o R tx u)[9]? = some (R 16, .inl (G.2 0, 8, .inl (u.2.1 16))) := rfl
theorem bS16 (G : GG) (o : Nat) (R : Nat → Nat) (tx : Nat) (u : MS) (i : Nat) (x : Int32) : (celS G o R tx u).set 9 (R 16, .inl (G.2 0, 8, .inl (upd (u.2.1 16) i x))) = celS G o R tx (mA u 16 i x) := rfl
theorem aS17 (G : GG) (o : Nat) (R : Nat → Nat) (tx : Nat) (u : MS) : (celS G o R tx u)[10]? = some (R 17, .inl (G.2 0, 8, .inl (u.2.1 17))) := rfl
theorem bS17 (G : GG) (o : Nat) (R : Nat → Nat) (tx : Nat) (u : MS) (i : Nat) (x : Int32) : (celS G o R tx u).set 10 (R 17, .inl (G.2 0, 8, .inl (upd (u.2.1 17) i x))) = celS G o R tx (mA u 17 i x) := rfl
theorem aS19 (G : GG) (o : Nat) (R : Nat → Nat) (tx : Nat) (u : MS) : (celS G o R tx u)[11]? = some (R 19, .inl (G.2 2, 14, .inr (.inl (u.2.2 19)))) := rfl
theorem bS19 (G : GG) (o : Nat) (R : Nat → Nat) (tx : Nat) (u : MS) (i : Nat) (x : Int64) : (celS G o R tx u).set 11 (R 19, .inl (G.2 2, 14, .inr (.inl (vp_updL (u.2.2 19) i x)))) = celS G o R tx (mL u 19 i x) := rfl
theorem aS20 (G : GG) (o : Nat) (R : Nat → Nat) (tx : Nat) (u : MS) : (celS G o R tx u)[12]? = some (R 20, .inl (G.2 0, 16, .inl (u.2.1 20))) := rfl
theorem bS20 (G : GG) (o : Nat) (R : Nat → Nat) (tx : Nat) (u : MS) (i : Nat) (x : Int32) : (celS G o R tx u).set 12 (R 20, .inl (G.2 0, 16, .inl (upd (u.2.1 20) i x))) = celS G o R tx (mA u 20 i x) := rfl
theorem aS21 (G : GG) (o : Nat) (R : Nat → Nat) (tx : Nat) (u : MS) : (celS G o R tx u)[13]? = some (R 21, .inl (G.2 0, 16, .inl (u.2.1 21))) := rfl
theorem bS21 (G : GG) (o : Nat) (R : Nat → Nat) (tx : Nat) (u : MS) (i : Nat) (x : Int32) : (celS G o R tx u).set 13 (R 21, .inl (G.2 0, 16, .inl (upd (u.2.1 21) i x))) = celS G o R tx (mA u 21 i x) := rfl
theorem aS22 (G : GG) (o : Nat) (R : Nat → Nat) (tx : Nat) (u : MS) : (celS G o R tx u)[14]? = some (R 22, .inl (G.2 0, 16, .inl (u.2.1 22))) := rfl
theorem bS22 (G : GG) (o : Nat) (R : Nat → Nat) (tx : Nat) (u : MS) (i : Nat) (x : Int32) : (celS G o R tx u).set 14 (R 22, .inl (G.2 0, 16, .inl (upd (u.2.1 22) i x))) = celS G o R tx (mA u 22 i x) := rfl
theorem aS23 (G : GG) (o : Nat) (R : Nat → Nat) (tx : Nat) (u : MS) : (celS G o R tx u)[15]? = some (R 23, .inl (G.2 0, 16, .inl (u.2.1 23))) := rfl
theorem bS23 (G : GG) (o : Nat) (R : Nat → Nat) (tx : Nat) (u : MS) (i : Nat) (x : Int32) : (celS G o R tx u).set 15 (R 23, .inl (G.2 0, 16, .inl (upd (u.2.1 23) i x))) = celS G o R tx (mA u 23 i x) := rfl
theorem aS40 (G : GG) (o : Nat) (R : Nat → Nat) (tx : Nat) (u : MS) : (celS G o R tx u)[16]? = some (R 40, .inl (G.2 0, 16, .inl (u.2.1 40))) := rfl
theorem bS40 (G : GG) (o : Nat) (R : Nat → Nat) (tx : Nat) (u : MS) (i : Nat) (x : Int32) : (celS G o R tx u).set 16 (R 40, .inl (G.2 0, 16, .inl (upd (u.2.1 40) i x))) = celS G o R tx (mA u 40 i x) := rfl
theorem aS50 (G : GG) (o : Nat) (R : Nat → Nat) (tx : Nat) (u : MS) : (celS G o R tx u)[17]? = some (R 50, .inl (G.2 0, 16, .inl (u.2.1 50))) := rfl
theorem bS50 (G : GG) (o : Nat) (R : Nat → Nat) (tx : Nat) (u : MS) (i : Nat) (x : Int32) : (celS G o R tx u).set 17 (R 50, .inl (G.2 0, 16, .inl (upd (u.2.1 50) i x))) = celS G o R tx (mA u 50 i x) := rfl
theorem aS60 (G : GG) (o : Nat) (R : Nat → Nat) (tx : Nat) (u : MS) : (celS G o R tx u)[18]? = some (R 60, .inl (G.2 0, 16, .inl (u.2.1 60))) := rfl
theorem bS60 (G : GG) (o : Nat) (R : Nat → Nat) (tx : Nat) (u : MS) (i : Nat) (x : Int32) : (celS G o R tx u).set 18 (R 60, .inl (G.2 0, 16, .inl (upd (u.2.1 60) i x))) = celS G o R tx (mA u 60 i x) := rfl
