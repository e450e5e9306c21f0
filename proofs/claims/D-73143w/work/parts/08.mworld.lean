/-! the reference: its one object, its arrays; V: the ints by field, a: the int arrays by field, al: the long arrays -/
set_option maxRecDepth 100000
abbrev MS : Type := (Nat → Int32) × (Nat → Nat → Int32) × (Nat → Nat → Int64)
def upd2 (a : Nat → Nat → Int32) (k i : Nat) (x : Int32) : Nat → Nat → Int32 := fun j => if j = k then upd (a k) i x else a j
def upd2L (a : Nat → Nat → Int64) (k i : Nat) (x : Int64) : Nat → Nat → Int64 := fun j => if j = k then vp_updL (a k) i x else a j
def mV (u : MS) (k : Nat) (x : Int32) : MS := (upd u.1 k x, u.2.1, u.2.2)
def mA (u : MS) (k i : Nat) (x : Int32) : MS := (u.1, upd2 u.2.1 k i x, u.2.2)
def mL (u : MS) (k i : Nat) (x : Int64) : MS := (u.1, u.2.1, upd2L u.2.2 k i x)
theorem mV_1 (u : MS) (k j : Nat) (x : Int32) : (mV u k x).1 j = if j = k then x else u.1 j := rfl
theorem mV_2 (u : MS) (k : Nat) (x : Int32) : (mV u k x).2.1 = u.2.1 := rfl
theorem mV_3 (u : MS) (k : Nat) (x : Int32) : (mV u k x).2.2 = u.2.2 := rfl
theorem mA_1 (u : MS) (k i : Nat) (x : Int32) : (mA u k i x).1 = u.1 := rfl
theorem mA_2 (u : MS) (k i j t : Nat) (x : Int32) : (mA u k i x).2.1 j t = if j = k ∧ t = i then x else u.2.1 j t := by
  unfold mA upd2 upd
  by_cases h : j = k
  · subst h; by_cases h2 : t = i <;> simp [h2]
  · simp [h]
theorem mA_2f (u : MS) (k i j : Nat) (x : Int32) : (mA u k i x).2.1 j = if j = k then upd (u.2.1 k) i x else u.2.1 j := rfl
theorem mA_3 (u : MS) (k i : Nat) (x : Int32) : (mA u k i x).2.2 = u.2.2 := rfl
theorem mL_1 (u : MS) (k i : Nat) (x : Int64) : (mL u k i x).1 = u.1 := rfl
theorem mL_2 (u : MS) (k i : Nat) (x : Int64) : (mL u k i x).2.1 = u.2.1 := rfl
theorem mL_3 (u : MS) (k i j : Nat) (x : Int64) : (mL u k i x).2.2 j = if j = k then vp_updL (u.2.2 k) i x else u.2.2 j := rfl
def fsM (R : Nat → Nat) (V : Nat → Int32) : List Value := [.ref (R 0), .ref (R 1), .ref (R 2), .ref (R 3), .ref (R 4), .ref (R 5), .ref (R 6), .ref (R 7), .int (V 8), .int (V 9), .ref (R 10), .int (V 11), .int (V 12), .int (V 13), .int (V 14), .int (V 15), .int (V 16), .int (V 17), .int (V 18), .int (V 19), .int (V 20), .ref (R 21), .ref (R 22), .ref (R 23), .ref (R 24), .ref (R 25), .ref (R 26), .ref (R 27), .ref (R 28), .ref (R 29), .ref (R 30), .ref (R 31), .ref (R 32), .ref (R 33), .ref (R 34), .ref (R 35), .ref (R 36), .ref (R 37), .int (V 38), .int (V 39), .int (V 40), .ref (R 41), .ref (R 42), .ref (R 43), .ref (R 44), .ref (R 45), .int (V 46), .int (V 47), .int (V 48), .int (V 49), .int (V 50), .ref (R 51), .ref (R 52), .ref (R 53), .ref (R 54), .ref (R 55), .ref (R 56), .ref (R 57), .ref (R 58), .int (V 59), .int (V 60)]
def wsM (G : GG) (o : Nat) (R : Nat → Nat) (u : MS) : va_W := [(o, .inr (5, fsM R u.1)), (R 0, .inl (G.2 0, 21, .inl (u.2.1 0))), (R 1, .inl (G.2 0, 21, .inl (u.2.1 1))), (R 2, .inl (G.2 0, 21, .inl (u.2.1 2))), (R 3, .inl (G.2 0, 12, .inl (u.2.1 3))), (R 4, .inl (G.2 0, 16, .inl (u.2.1 4))), (R 5, .inl (G.2 0, 16, .inl (u.2.1 5))), (R 6, .inl (G.2 0, 16, .inl (u.2.1 6))), (R 7, .inl (G.2 0, 16, .inl (u.2.1 7))), (R 10, .inl (G.2 1, 260, .inl (u.2.1 10))), (R 21, .inl (G.2 0, 260, .inl (u.2.1 21))), (R 22, .inl (G.2 0, 260, .inl (u.2.1 22))), (R 23, .inl (G.2 0, 16, .inl (u.2.1 23))), (R 24, .inl (G.2 0, 16, .inl (u.2.1 24))), (R 25, .inl (G.2 0, 16, .inl (u.2.1 25))), (R 26, .inl (G.2 0, 16, .inl (u.2.1 26))), (R 27, .inl (G.2 0, 260, .inl (u.2.1 27))), (R 28, .inl (G.2 0, 16, .inl (u.2.1 28))), (R 29, .inl (G.2 0, 16, .inl (u.2.1 29))), (R 30, .inl (G.2 0, 16, .inl (u.2.1 30))), (R 31, .inl (G.2 0, 16, .inl (u.2.1 31))), (R 32, .inl (G.2 0, 260, .inl (u.2.1 32))), (R 33, .inl (G.2 0, 9, .inl (u.2.1 33))), (R 34, .inl (G.2 0, 16, .inl (u.2.1 34))), (R 35, .inl (G.2 0, 16, .inl (u.2.1 35))), (R 36, .inl (G.2 0, 16, .inl (u.2.1 36))), (R 37, .inl (G.2 0, 16, .inl (u.2.1 37))), (R 41, .inl (G.2 0, 12, .inl (u.2.1 41))), (R 42, .inl (G.2 0, 12, .inl (u.2.1 42))), (R 43, .inl (G.2 0, 2, .inl (u.2.1 43))), (R 44, .inl (G.2 0, 2, .inl (u.2.1 44))), (R 45, .inl (G.2 0, 2, .inl (u.2.1 45))), (R 51, .inl (G.2 0, 1088, .inl (u.2.1 51))), (R 52, .inl (G.2 0, 1088, .inl (u.2.1 52))), (R 53, .inl (G.2 0, 16, .inl (u.2.1 53))), (R 54, .inl (G.2 0, 65536, .inl (u.2.1 54))), (R 55, .inl (G.2 0, 144, .inl (u.2.1 55))), (R 56, .inl (G.2 0, 256, .inl (u.2.1 56))), (R 57, .inl (G.2 2, 13, .inr (.inl (u.2.2 57)))), (R 58, .inl (G.2 2, 13, .inr (.inl (u.2.2 58))))]
def PM (G : GG) (o : Nat) (R : Nat → Nat) (u : MS) (H : Heap) : Prop := va_P G.1 vwCl (wsM G o R u) H
def arM : List Nat := [0, 1, 2, 3, 4, 5, 6, 7, 10, 21, 22, 23, 24, 25, 26, 27, 28, 29, 30, 31, 32, 33, 34, 35, 36, 37, 41, 42, 43, 44, 45, 51, 52, 53, 54, 55, 56, 57, 58]
def AM (o : Nat) (R : Nat → Nat) : Nat → Prop := fun q => q = o ∨ ∃ k ∈ arM, q = R k
def DM (o : Nat) (R : Nat → Nat) : Prop := ∀ (G : GG) (u : MS), va_D (AM o R) (wsM G o R u)
theorem TX6_own : ∀ k, (TX6 k).1 = RX6 := by intro k; unfold TX6; split <;> rfl
theorem fM0 (R : Nat → Nat) (V : Nat → Int32) : (fsM R V)[0]? = some (.ref (R 0)) := rfl
theorem aM0 (G : GG) (o : Nat) (R : Nat → Nat) (u : MS) : (wsM G o R u)[1]? = some (R 0, .inl (G.2 0, 21, .inl (u.2.1 0))) := rfl
theorem bM0 (G : GG) (o : Nat) (R : Nat → Nat) (u : MS) (i : Nat) (x : Int32) : (wsM G o R u).set 1 (R 0, .inl (G.2 0, 21, .inl (upd (u.2.1 0) i x))) = wsM G o R (mA u 0 i x) := rfl
theorem fM1 (R : Nat → Nat) (V : Nat → Int32) : (fsM R V)[1]? = some (.ref (R 1)) := rfl
theorem aM1 (G : GG) (o : Nat) (R : Nat → Nat) (u : MS) : (wsM G o R u)[2]? = some (R 1, .inl (G.2 0, 21, .inl (u.2.1 1))) := rfl
theorem bM1 (G : GG) (o : Nat) (R : Nat → Nat) (u : MS) (i : Nat) (x : Int32) : (wsM G o R u).set 2 (R 1, .inl (G.2 0, 21, .inl (upd (u.2.1 1) i x))) = wsM G o R (mA u 1 i x) := rfl
theorem fM2 (R : Nat → Nat) (V : Nat → Int32) : (fsM R V)[2]? = some (.ref (R 2)) := rfl
theorem aM2 (G : GG) (o : Nat) (R : Nat → Nat) (u : MS) : (wsM G o R u)[3]? = some (R 2, .inl (G.2 0, 21, .inl (u.2.1 2))) := rfl
theorem bM2 (G : GG) (o : Nat) (R : Nat → Nat) (u : MS) (i : Nat) (x : Int32) : (wsM G o R u).set 3 (R 2, .inl (G.2 0, 21, .inl (upd (u.2.1 2) i x))) = wsM G o R (mA u 2 i x) := rfl
theorem fM3 (R : Nat → Nat) (V : Nat → Int32) : (fsM R V)[3]? = some (.ref (R 3)) := rfl
theorem aM3 (G : GG) (o : Nat) (R : Nat → Nat) (u : MS) : (wsM G o R u)[4]? = some (R 3, .inl (G.2 0, 12, .inl (u.2.1 3))) := rfl
theorem bM3 (G : GG) (o : Nat) (R : Nat → Nat) (u : MS) (i : Nat) (x : Int32) : (wsM G o R u).set 4 (R 3, .inl (G.2 0, 12, .inl (upd (u.2.1 3) i x))) = wsM G o R (mA u 3 i x) := rfl
theorem fM4 (R : Nat → Nat) (V : Nat → Int32) : (fsM R V)[4]? = some (.ref (R 4)) := rfl
theorem aM4 (G : GG) (o : Nat) (R : Nat → Nat) (u : MS) : (wsM G o R u)[5]? = some (R 4, .inl (G.2 0, 16, .inl (u.2.1 4))) := rfl
theorem bM4 (G : GG) (o : Nat) (R : Nat → Nat) (u : MS) (i : Nat) (x : Int32) : (wsM G o R u).set 5 (R 4, .inl (G.2 0, 16, .inl (upd (u.2.1 4) i x))) = wsM G o R (mA u 4 i x) := rfl
theorem fM5 (R : Nat → Nat) (V : Nat → Int32) : (fsM R V)[5]? = some (.ref (R 5)) := rfl
theorem aM5 (G : GG) (o : Nat) (R : Nat → Nat) (u : MS) : (wsM G o R u)[6]? = some (R 5, .inl (G.2 0, 16, .inl (u.2.1 5))) := rfl
theorem bM5 (G : GG) (o : Nat) (R : Nat → Nat) (u : MS) (i : Nat) (x : Int32) : (wsM G o R u).set 6 (R 5, .inl (G.2 0, 16, .inl (upd (u.2.1 5) i x))) = wsM G o R (mA u 5 i x) := rfl
theorem fM6 (R : Nat → Nat) (V : Nat → Int32) : (fsM R V)[6]? = some (.ref (R 6)) := rfl
theorem aM6 (G : GG) (o : Nat) (R : Nat → Nat) (u : MS) : (wsM G o R u)[7]? = some (R 6, .inl (G.2 0, 16, .inl (u.2.1 6))) := rfl
theorem bM6 (G : GG) (o : Nat) (R : Nat → Nat) (u : MS) (i : Nat) (x : Int32) : (wsM G o R u).set 7 (R 6, .inl (G.2 0, 16, .inl (upd (u.2.1 6) i x))) = wsM G o R (mA u 6 i x) := rfl
theorem fM7 (R : Nat → Nat) (V : Nat → Int32) : (fsM R V)[7]? = some (.ref (R 7)) := rfl
theorem aM7 (G : GG) (o : Nat) (R : Nat → Nat) (u : MS) : (wsM G o R u)[8]? = some (R 7, .inl (G.2 0, 16, .inl (u.2.1 7))) := rfl
theorem bM7 (G : GG) (o : Nat) (R : Nat → Nat) (u : MS) (i : Nat) (x : Int32) : (wsM G o R u).set 8 (R 7, .inl (G.2 0, 16, .inl (upd (u.2.1 7) i x))) = wsM G o R (mA u 7 i x) := rfl
theorem fM8 (R : Nat → Nat) (V : Nat → Int32) : (fsM R V)[8]? = some (.int (V 8)) := rfl
theorem sM8 (R : Nat → Nat) (V : Nat → Int32) (x : Int32) : (fsM R V).set 8 (.int x) = fsM R (upd V 8 x) := rfl
theorem fM9 (R : Nat → Nat) (V : Nat → Int32) : (fsM R V)[9]? = some (.int (V 9)) := rfl
theorem sM9 (R : Nat → Nat) (V : Nat → Int32) (x : Int32) : (fsM R V).set 9 (.int x) = fsM R (upd V 9 x) := rfl
theorem fM10 (R : Nat → Nat) (V : Nat → Int32) : (fsM R V)[10]? = some (.ref (R 10)) := rfl
theorem aM10 (G : GG) (o : Nat) (R : Nat → Nat) (u : MS) : (wsM G o R u)[9]? = some (R 10, .inl (G.2 1, 260, .inl (u.2.1 10))) := rfl
theorem bM10 (G : GG) (o : Nat) (R : Nat → Nat) (u : MS) (i : Nat) (x : Int32) : (wsM G o R u).set 9 (R 10, .inl (G.2 1, 260, .inl (upd (u.2.1 10) i x))) = wsM G o R (mA u 10 i x) := rfl
theorem fM11 (R : Nat → Nat) (V : Nat → Int32) : (fsM R V)[11]? = some (.int (V 11)) := rfl
theorem sM11 (R : Nat → Nat) (V : Nat → Int32) (x : Int32) : (fsM R V).set 11 (.int x) = fsM R (upd V 11 x) := rfl
theorem fM12 (R : Nat → Nat) (V : Nat → Int32) : (fsM R V)[12]? = some (.int (V 12)) := rfl
theorem sM12 (R : Nat → Nat) (V : Nat → Int32) (x : Int32) : (fsM R V).set 12 (.int x) = fsM R (upd V 12 x) := rfl
theorem fM13 (R : Nat → Nat) (V : Nat → Int32) : (fsM R V)[13]? = some (.int (V 13)) := rfl
theorem sM13 (R : Nat → Nat) (V : Nat → Int32) (x : Int32) : (fsM R V).set 13 (.int x) = fsM R (upd V 13 x) := rfl
theorem fM14 (R : Nat → Nat) (V : Nat → Int32) : (fsM R V)[14]? = some (.int (V 14)) := rfl
theorem sM14 (R : Nat → Nat) (V : Nat → Int32) (x : Int32) : (fsM R V).set 14 (.int x) = fsM R (upd V 14 x) := rfl
theorem fM15 (R : Nat → Nat) (V : Nat → Int32) : (fsM R V)[15]? = some (.int (V 15)) := rfl
theorem sM15 (R : Nat → Nat) (V : Nat → Int32) (x : Int32) : (fsM R V).set 15 (.int x) = fsM R (upd V 15 x) := rfl
theorem fM16 (R : Nat → Nat) (V : Nat → Int32) : (fsM R V)[16]? = some (.int (V 16)) := rfl
theorem sM16 (R : Nat → Nat) (V : Nat → Int32) (x : Int32) : (fsM R V).set 16 (.int x) = fsM R (upd V 16 x) := rfl
theorem fM17 (R : Nat → Nat) (V : Nat → Int32) : (fsM R V)[17]? = some (.int (V 17)) := rfl
theorem sM17 (R : Nat → Nat) (V : Nat → Int32) (x : Int32) : (fsM R V).set 17 (.int x) = fsM R (upd V 17 x) := rfl
theorem fM18 (R : Nat → Nat) (V : Nat → Int32) : (fsM R V)[18]? = some (.int (V 18)) := rfl
theorem sM18 (R : Nat → Nat) (V : Nat → Int32) (x : Int32) : (fsM R V).set 18 (.int x) = fsM R (upd V 18 x) := rfl
theorem fM19 (R : Nat → Nat) (V : Nat → Int32) : (fsM R V)[19]? = some (.int (V 19)) := rfl
theorem sM19 (R : Nat → Nat) (V : Nat → Int32) (x : Int32) : (fsM R V).set 19 (.int x) = fsM R (upd V 19 x) := rfl
theorem fM20 (R : Nat → Nat) (V : Nat → Int32) : (fsM R V)[20]? = some (.int (V 20)) := rfl
theorem sM20 (R : Nat → Nat) (V : Nat → Int32) (x : Int32) : (fsM R V).set 20 (.int x) = fsM R (upd V 20 x) := rfl
theorem fM21 (R : Nat → Nat) (V : Nat → Int32) : (fsM R V)[21]? = some (.ref (R 21)) := rfl
theorem aM21 (G : GG) (o : Nat) (R : Nat → Nat) (u : MS) : (wsM G o R u)[10]? = some (R 21, .inl (G.2 0, 260, .inl (u.2.1 21))) := rfl
theorem bM21 (G : GG) (o : Nat) (R : Nat → Nat) (u : MS) (i : Nat) (x : Int32) : (wsM G o R u).set 10 (R 21, .inl (G.2 0, 260, .inl (upd (u.2.1 21) i x))) = wsM G o R (mA u 21 i x) := rfl
theorem fM22 (R : Nat → Nat) (V : Nat → Int32) : (fsM R V)[22]? = some (.ref (R 22)) := rfl
theorem aM22 (G : GG) (o : Nat) (R : Nat → Nat) (u : MS) : (wsM G o R u)[11]? = some (R 22, .inl (G.2 0, 260, .inl (u.2.1 22))) := rfl
theorem bM22 (G : GG) (o : Nat) (R : Nat → Nat) (u : MS) (i : Nat) (x : Int32) : (wsM G o R u).set 11 (R 22, .inl (G.2 0, 260, .inl (upd (u.2.1 22) i x))) = wsM G o R (mA u 22 i x) := rfl
theorem fM23 (R : Nat → Nat) (V : Nat → Int32) : (fsM R V)[23]? = some (.ref (R 23)) := rfl
theorem aM23 (G : GG) (o : Nat) (R : Nat → Nat) (u : MS) : (wsM G o R u)[12]? = some (R 23, .inl (G.2 0, 16, .inl (u.2.1 23))) := rfl
theorem bM23 (G : GG) (o : Nat) (R : Nat → Nat) (u : MS) (i : Nat) (x : Int32) : (wsM G o R u).set 12 (R 23, .inl (G.2 0, 16, .inl (upd (u.2.1 23) i x))) = wsM G o R (mA u 23 i x) := rfl
theorem fM24 (R : Nat → Nat) (V : Nat → Int32) : (fsM R V)[24]? = some (.ref (R 24)) := rfl
theorem aM24 (G : GG) (o : Nat) (R : Nat → Nat) (u : MS) : (wsM G o R u)[13]? = some (R 24, .inl (G.2 0, 16, .inl (u.2.1 24))) := rfl
theorem bM24 (G : GG) (o : Nat) (R : Nat → Nat) (u : MS) (i : Nat) (x : Int32) : (wsM G o R u).set 13 (R 24, .inl (G.2 0, 16, .inl (upd (u.2.1 24) i x))) = wsM G o R (mA u 24 i x) := rfl
theorem fM25 (R : Nat → Nat) (V : Nat → Int32) : (fsM R V)[25]? = some (.ref (R 25)) := rfl
theorem aM25 (G : GG) (o : Nat) (R : Nat → Nat) (u : MS) : (wsM G o R u)[14]? = some (R 25, .inl (G.2 0, 16, .inl (u.2.1 25))) := rfl
theorem bM25 (G : GG) (o : Nat) (R : Nat → Nat) (u : MS) (i : Nat) (x : Int32) : (wsM G o R u).set 14 (R 25, .inl (G.2 0, 16, .inl (upd (u.2.1 25) i x))) = wsM G o R (mA u 25 i x) := rfl
theorem fM26 (R : Nat → Nat) (V : Nat → Int32) : (fsM R V)[26]? = some (.ref (R 26)) := rfl
theorem aM26 (G : GG) (o : Nat) (R : Nat → Nat) (u : MS) : (wsM G o R u)[15]? = some (R 26, .inl (G.2 0, 16, .inl (u.2.1 26))) := rfl
theorem bM26 (G : GG) (o : Nat) (R : Nat → Nat) (u : MS) (i : Nat) (x : Int32) : (wsM G o R u).set 15 (R 26, .inl (G.2 0, 16, .inl (upd (u.2.1 26) i x))) = wsM G o R (mA u 26 i x) := rfl
theorem fM27 (R : Nat → Nat) (V : Nat → Int32) : (fsM R V)[27]? = some (.ref (R 27)) := rfl
theorem aM27 (G : GG) (o : Nat) (R : Nat → Nat) (u : MS) : (wsM G o R u)[16]? = some (R 27, .inl (G.2 0, 260, .inl (u.2.1 27))) := rfl
theorem bM27 (G : GG) (o : Nat) (R : Nat → Nat) (u : MS) (i : Nat) (x : Int32) : (wsM G o R u).set 16 (R 27, .inl (G.2 0, 260, .inl (upd (u.2.1 27) i x))) = wsM G o R (mA u 27 i x) := rfl
theorem fM28 (R : Nat → Nat) (V : Nat → Int32) : (fsM R V)[28]? = some (.ref (R 28)) := rfl
theorem aM28 (G : GG) (o : Nat) (R : Nat → Nat) (u : MS) : (wsM G o R u)[17]? = some (R 28, .inl (G.2 0, 16, .inl (u.2.1 28))) := rfl
theorem bM28 (G : GG) (o : Nat) (R : Nat → Nat) (u : MS) (i : Nat) (x : Int32) : (wsM G o R u).set 17 (R 28, .inl (G.2 0, 16, .inl (upd (u.2.1 28) i x))) = wsM G o R (mA u 28 i x) := rfl
theorem fM29 (R : Nat → Nat) (V : Nat → Int32) : (fsM R V)[29]? = some (.ref (R 29)) := rfl
theorem aM29 (G : GG) (o : Nat) (R : Nat → Nat) (u : MS) : (wsM G o R u)[18]? = some (R 29, .inl (G.2 0, 16, .inl (u.2.1 29))) := rfl
theorem bM29 (G : GG) (o : Nat) (R : Nat → Nat) (u : MS) (i : Nat) (x : Int32) : (wsM G o R u).set 18 (R 29, .inl (G.2 0, 16, .inl (upd (u.2.1 29) i x))) = wsM G o R (mA u 29 i x) := rfl
theorem fM30 (R : Nat → Nat) (V : Nat → Int32) : (fsM R V)[30]? = some (.ref (R 30)) := rfl
theorem aM30 (G : GG) (o : Nat) (R : Nat → Nat) (u : MS) : (wsM G o R u)[19]? = some (R 30, .inl (G.2 0, 16, .inl (u.2.1 30))) := rfl
theorem bM30 (G : GG) (o : Nat) (R : Nat → Nat) (u : MS) (i : Nat) (x : Int32) : (wsM G o R u).set 19 (R 30, .inl (G.2 0, 16, .inl (upd (u.2.1 30) i x))) = wsM G o R (mA u 30 i x) := rfl
theorem fM31 (R : Nat → Nat) (V : Nat → Int32) : (fsM R V)[31]? = some (.ref (R 31)) := rfl
theorem aM31 (G : GG) (o : Nat) (R : Nat → Nat) (u : MS) : (wsM G o R u)[20]? = some (R 31, .inl (G.2 0, 16, .inl (u.2.1 31))) := rfl
theorem bM31 (G : GG) (o : Nat) (R : Nat → Nat) (u : MS) (i : Nat) (x : Int32) : (wsM G o R u).set 20 (R 31, .inl (G.2 0, 16, .inl (upd (u.2.1 31) i x))) = wsM G o R (mA u 31 i x) := rfl
theorem fM32 (R : Nat → Nat) (V : Nat → Int32) : (fsM R V)[32]? = some (.ref (R 32)) := rfl
theorem aM32 (G : GG) (o : Nat) (R : Nat → Nat) (u : MS) : (wsM G o R u)[21]? = some (R 32, .inl (G.2 0, 260, .inl (u.2.1 32))) := rfl
theorem bM32 (G : GG) (o : Nat) (R : Nat → Nat) (u : MS) (i : Nat) (x : Int32) : (wsM G o R u).set 21 (R 32, .inl (G.2 0, 260, .inl (upd (u.2.1 32) i x))) = wsM G o R (mA u 32 i x) := rfl
theorem fM33 (R : Nat → Nat) (V : Nat → Int32) : (fsM R V)[33]? = some (.ref (R 33)) := rfl
theorem aM33 (G : GG) (o : Nat) (R : Nat → Nat) (u : MS) : (wsM G o R u)[22]? = some (R 33, .inl (G.2 0, 9, .inl (u.2.1 33))) := rfl
theorem bM33 (G : GG) (o : Nat) (R : Nat → Nat) (u : MS) (i : Nat) (x : Int32) : (wsM G o R u).set 22 (R 33, .inl (G.2 0, 9, .inl (upd (u.2.1 33) i x))) = wsM G o R (mA u 33 i x) := rfl
theorem fM34 (R : Nat → Nat) (V : Nat → Int32) : (fsM R V)[34]? = some (.ref (R 34)) := rfl
theorem aM34 (G : GG) (o : Nat) (R : Nat → Nat) (u : MS) : (wsM G o R u)[23]? = some (R 34, .inl (G.2 0, 16, .inl (u.2.1 34))) := rfl
theorem bM34 (G : GG) (o : Nat) (R : Nat → Nat) (u : MS) (i : Nat) (x : Int32) : (wsM G o R u).set 23 (R 34, .inl (G.2 0, 16, .inl (upd (u.2.1 34) i x))) = wsM G o R (mA u 34 i x) := rfl
theorem fM35 (R : Nat → Nat) (V : Nat → Int32) : (fsM R V)[35]? = some (.ref (R 35)) := rfl
theorem aM35 (G : GG) (o : Nat) (R : Nat → Nat) (u : MS) : (wsM G o R u)[24]? = some (R 35, .inl (G.2 0, 16, .inl (u.2.1 35))) := rfl
theorem bM35 (G : GG) (o : Nat) (R : Nat → Nat) (u : MS) (i : Nat) (x : Int32) : (wsM G o R u).set 24 (R 35, .inl (G.2 0, 16, .inl (upd (u.2.1 35) i x))) = wsM G o R (mA u 35 i x) := rfl
theorem fM36 (R : Nat → Nat) (V : Nat → Int32) : (fsM R V)[36]? = some (.ref (R 36)) := rfl
theorem aM36 (G : GG) (o : Nat) (R : Nat → Nat) (u : MS) : (wsM G o R u)[25]? = some (R 36, .inl (G.2 0, 16, .inl (u.2.1 36))) := rfl
theorem bM36 (G : GG) (o : Nat) (R : Nat → Nat) (u : MS) (i : Nat) (x : Int32) : (wsM G o R u).set 25 (R 36, .inl (G.2 0, 16, .inl (upd (u.2.1 36) i x))) = wsM G o R (mA u 36 i x) := rfl
theorem fM37 (R : Nat → Nat) (V : Nat → Int32) : (fsM R V)[37]? = some (.ref (R 37)) := rfl
theorem aM37 (G : GG) (o : Nat) (R : Nat → Nat) (u : MS) : (wsM G o R u)[26]? = some (R 37, .inl (G.2 0, 16, .inl (u.2.1 37))) := rfl
theorem bM37 (G : GG) (o : Nat) (R : Nat → Nat) (u : MS) (i : Nat) (x : Int32) : (wsM G o R u).set 26 (R 37, .inl (G.2 0, 16, .inl (upd (u.2.1 37) i x))) = wsM G o R (mA u 37 i x) := rfl
theorem fM38 (R : Nat → Nat) (V : Nat → Int32) : (fsM R V)[38]? = some (.int (V 38)) := rfl
theorem sM38 (R : Nat → Nat) (V : Nat → Int32) (x : Int32) : (fsM R V).set 38 (.int x) = fsM R (upd V 38 x) := rfl
theorem fM39 (R : Nat → Nat) (V : Nat → Int32) : (fsM R V)[39]? = some (.int (V 39)) := rfl
theorem sM39 (R : Nat → Nat) (V : Nat → Int32) (x : Int32) : (fsM R V).set 39 (.int x) = fsM R (upd V 39 x) := rfl
theorem fM40 (R : Nat → Nat) (V : Nat → Int32) : (fsM R V)[40]? = some (.int (V 40)) := rfl
theorem sM40 (R : Nat → Nat) (V : Nat → Int32) (x : Int32) : (fsM R V).set 40 (.int x) = fsM R (upd V 40 x) := rfl
theorem fM41 (R : Nat → Nat) (V : Nat → Int32) : (fsM R V)[41]? = some (.ref (R 41)) := rfl
theorem aM41 (G : GG) (o : Nat) (R : Nat → Nat) (u : MS) : (wsM G o R u)[27]? = some (R 41, .inl (G.2 0, 12, .inl (u.2.1 41))) := rfl
theorem bM41 (G : GG) (o : Nat) (R : Nat → Nat) (u : MS) (i : Nat) (x : Int32) : (wsM G o R u).set 27 (R 41, .inl (G.2 0, 12, .inl (upd (u.2.1 41) i x))) = wsM G o R (mA u 41 i x) := rfl
theorem fM42 (R : Nat → Nat) (V : Nat → Int32) : (fsM R V)[42]? = some (.ref (R 42)) := rfl
theorem aM42 (G : GG) (o : Nat) (R : Nat → Nat) (u : MS) : (wsM G o R u)[28]? = some (R 42, .inl (G.2 0, 12, .inl (u.2.1 42))) := rfl
theorem bM42 (G : GG) (o : Nat) (R : Nat → Nat) (u : MS) (i : Nat) (x : Int32) : (wsM G o R u).set 28 (R 42, .inl (G.2 0, 12, .inl (upd (u.2.1 42) i x))) = wsM G o R (mA u 42 i x) := rfl
theorem fM43 (R : Nat → Nat) (V : Nat → Int32) : (fsM R V)[43]? = some (.ref (R 43)) := rfl
theorem aM43 (G : GG) (o : Nat) (R : Nat → Nat) (u : MS) : (wsM G o R u)[29]? = some (R 43, .inl (G.2 0, 2, .inl (u.2.1 43))) := rfl
theorem bM43 (G : GG) (o : Nat) (R : Nat → Nat) (u : MS) (i : Nat) (x : Int32) : (wsM G o R u).set 29 (R 43, .inl (G.2 0, 2, .inl (upd (u.2.1 43) i x))) = wsM G o R (mA u 43 i x) := rfl
theorem fM44 (R : Nat → Nat) (V : Nat → Int32) : (fsM R V)[44]? = some (.ref (R 44)) := rfl
theorem aM44 (G : GG) (o : Nat) (R : Nat → Nat) (u : MS) : (wsM G o R u)[30]? = some (R 44, .inl (G.2 0, 2, .inl (u.2.1 44))) := rfl
theorem bM44 (G : GG) (o : Nat) (R : Nat → Nat) (u : MS) (i : Nat) (x : Int32) : (wsM G o R u).set 30 (R 44, .inl (G.2 0, 2, .inl (upd (u.2.1 44) i x))) = wsM G o R (mA u 44 i x) := rfl
theorem fM45 (R : Nat → Nat) (V : Nat → Int32) : (fsM R V)[45]? = some (.ref (R 45)) := rfl
theorem aM45 (G : GG) (o : Nat) (R : Nat → Nat) (u : MS) : (wsM G o R u)[31]? = some (R 45, .inl (G.2 0, 2, .inl (u.2.1 45))) := rfl
theorem bM45 (G : GG) (o : Nat) (R : Nat → Nat) (u : MS) (i : Nat) (x : Int32) : (wsM G o R u).set 31 (R 45, .inl (G.2 0, 2, .inl (upd (u.2.1 45) i x))) = wsM G o R (mA u 45 i x) := rfl
theorem fM46 (R : Nat → Nat) (V : Nat → Int32) : (fsM R V)[46]? = some (.int (V 46)) := rfl
theorem sM46 (R : Nat → Nat) (V : Nat → Int32) (x : Int32) : (fsM R V).set 46 (.int x) = fsM R (upd V 46 x) := rfl
theorem fM47 (R : Nat → Nat) (V : Nat → Int32) : (fsM R V)[47]? = some (.int (V 47)) := rfl
theorem sM47 (R : Nat → Nat) (V : Nat → Int32) (x : Int32) : (fsM R V).set 47 (.int x) = fsM R (upd V 47 x) := rfl
theorem fM48 (R : Nat → Nat) (V : Nat → Int32) : (fsM R V)[48]? = some (.int (V 48)) := rfl
theorem sM48 (R : Nat → Nat) (V : Nat → Int32) (x : Int32) : (fsM R V).set 48 (.int x) = fsM R (upd V 48 x) := rfl
theorem fM49 (R : Nat → Nat) (V : Nat → Int32) : (fsM R V)[49]? = some (.int (V 49)) := rfl
theorem sM49 (R : Nat → Nat) (V : Nat → Int32) (x : Int32) : (fsM R V).set 49 (.int x) = fsM R (upd V 49 x) := rfl
theorem fM50 (R : Nat → Nat) (V : Nat → Int32) : (fsM R V)[50]? = some (.int (V 50)) := rfl
theorem sM50 (R : Nat → Nat) (V : Nat → Int32) (x : Int32) : (fsM R V).set 50 (.int x) = fsM R (upd V 50 x) := rfl
theorem fM51 (R : Nat → Nat) (V : Nat → Int32) : (fsM R V)[51]? = some (.ref (R 51)) := rfl
theorem aM51 (G : GG) (o : Nat) (R : Nat → Nat) (u : MS) : (wsM G o R u)[32]? = some (R 51, .inl (G.2 0, 1088, .inl (u.2.1 51))) := rfl
theorem bM51 (G : GG) (o : Nat) (R : Nat → Nat) (u : MS) (i : Nat) (x : Int32) : (wsM G o R u).set 32 (R 51, .inl (G.2 0, 1088, .inl (upd (u.2.1 51) i x))) = wsM G o R (mA u 51 i x) := rfl
theorem fM52 (R : Nat → Nat) (V : Nat → Int32) : (fsM R V)[52]? = some (.ref (R 52)) := rfl
theorem aM52 (G : GG) (o : Nat) (R : Nat → Nat) (u : MS) : (wsM G o R u)[33]? = some (R 52, .inl (G.2 0, 1088, .inl (u.2.1 52))) := rfl
theorem bM52 (G : GG) (o : Nat) (R : Nat → Nat) (u : MS) (i : Nat) (x : Int32) : (wsM G o R u).set 33 (R 52, .inl (G.2 0, 1088, .inl (upd (u.2.1 52) i x))) = wsM G o R (mA u 52 i x) := rfl
theorem fM53 (R : Nat → Nat) (V : Nat → Int32) : (fsM R V)[53]? = some (.ref (R 53)) := rfl
theorem aM53 (G : GG) (o : Nat) (R : Nat → Nat) (u : MS) : (wsM G o R u)[34]? = some (R 53, .inl (G.2 0, 16, .inl (u.2.1 53))) := rfl
theorem bM53 (G : GG) (o : Nat) (R : Nat → Nat) (u : MS) (i : Nat) (x : Int32) : (wsM G o R u).set 34 (R 53, .inl (G.2 0, 16, .inl (upd (u.2.1 53) i x))) = wsM G o R (mA u 53 i x) := rfl
theorem fM54 (R : Nat → Nat) (V : Nat → Int32) : (fsM R V)[54]? = some (.ref (R 54)) := rfl
theorem aM54 (G : GG) (o : Nat) (R : Nat → Nat) (u : MS) : (wsM G o R u)[35]? = some (R 54, .inl (G.2 0, 65536, .inl (u.2.1 54))) := rfl
theorem bM54 (G : GG) (o : Nat) (R : Nat → Nat) (u : MS) (i : Nat) (x : Int32) : (wsM G o R u).set 35 (R 54, .inl (G.2 0, 65536, .inl (upd (u.2.1 54) i x))) = wsM G o R (mA u 54 i x) := rfl
theorem fM55 (R : Nat → Nat) (V : Nat → Int32) : (fsM R V)[55]? = some (.ref (R 55)) := rfl
theorem aM55 (G : GG) (o : Nat) (R : Nat → Nat) (u : MS) : (wsM G o R u)[36]? = some (R 55, .inl (G.2 0, 144, .inl (u.2.1 55))) := rfl
theorem bM55 (G : GG) (o : Nat) (R : Nat → Nat) (u : MS) (i : Nat) (x : Int32) : (wsM G o R u).set 36 (R 55, .inl (G.2 0, 144, .inl (upd (u.2.1 55) i x))) = wsM G o R (mA u 55 i x) := rfl
theorem fM56 (R : Nat → Nat) (V : Nat → Int32) : (fsM R V)[56]? = some (.ref (R 56)) := rfl
theorem aM56 (G : GG) (o : Nat) (R : Nat → Nat) (u : MS) : (wsM G o R u)[37]? = some (R 56, .inl (G.2 0, 256, .inl (u.2.1 56))) := rfl
theorem bM56 (G : GG) (o : Nat) (R : Nat → Nat) (u : MS) (i : Nat) (x : Int32) : (wsM G o R u).set 37 (R 56, .inl (G.2 0, 256, .inl (upd (u.2.1 56) i x))) = wsM G o R (mA u 56 i x) := rfl
theorem fM57 (R : Nat → Nat) (V : Nat → Int32) : (fsM R V)[57]? = some (.ref (R 57)) := rfl
theorem aM57 (G : GG) (o : Nat) (R : Nat → Nat) (u : MS) : (wsM G o R u)[38]? = some (R 57, .inl (G.2 2, 13, .inr (.inl (u.2.2 57)))) := rfl
theorem bM57 (G : GG) (o : Nat) (R : Nat → Nat) (u : MS) (i : Nat) (x : Int64) : (wsM G o R u).set 38 (R 57, .inl (G.2 2, 13, .inr (.inl (vp_updL (u.2.2 57) i x)))) = wsM G o R (mL u 57 i x) := rfl
theorem fM58 (R : Nat → Nat) (V : Nat → Int32) : (fsM R V)[58]? = some (.ref (R 58)) := rfl
theorem aM58 (G : GG) (o : Nat) (R : Nat → Nat) (u : MS) : (wsM G o R u)[39]? = some (R 58, .inl (G.2 2, 13, .inr (.inl (u.2.2 58)))) := rfl
theorem bM58 (G : GG) (o : Nat) (R : Nat → Nat) (u : MS) (i : Nat) (x : Int64) : (wsM G o R u).set 39 (R 58, .inl (G.2 2, 13, .inr (.inl (vp_updL (u.2.2 58) i x)))) = wsM G o R (mL u 58 i x) := rfl
theorem fM59 (R : Nat → Nat) (V : Nat → Int32) : (fsM R V)[59]? = some (.int (V 59)) := rfl
theorem sM59 (R : Nat → Nat) (V : Nat → Int32) (x : Int32) : (fsM R V).set 59 (.int x) = fsM R (upd V 59 x) := rfl
theorem fM60 (R : Nat → Nat) (V : Nat → Int32) : (fsM R V)[60]? = some (.int (V 60)) := rfl
theorem sM60 (R : Nat → Nat) (V : Nat → Int32) (x : Int32) : (fsM R V).set 60 (.int x) = fsM R (upd V 60 x) := rfl
theorem wsM_put (G : GG) (o : Nat) (R : Nat → Nat) (u : MS) (k : Nat) (x : Int32) (h : (fsM R u.1).set k (.int x) = fsM R (upd u.1 k x)) : (wsM G o R u).set 0 (o, .inr (5, (fsM R u.1).set k (.int x))) = wsM G o R (mV u k x) := by rw [h]; rfl
/-- an answer int or boolean, the world may change -/
def CMi (G : GG) (l : Launch) (o : Nat) (R : Nat → Nat) (y : MethodName) (cc : ByteArray) (nL : Nat) (ret : FieldType) (fr lo : Nat) (as : List Value) (u : MS) (post : Int32 → MS → Prop) : Prop :=
  Met l y (ws_ y cc nL (some ret)) (rm_ fr lo 0 0) (va_Pc (.ref o :: as) (fun U => KK G U ∧ PM G o R u U.heap)) (va_Qi post (fun w t => PM G o R w t.heap) (AM o R)) 0 0 (AM o R)
/-- no answer, the world may change -/
def CMv (G : GG) (l : Launch) (o : Nat) (R : Nat → Nat) (y : MethodName) (cc : ByteArray) (nL : Nat) (fr lo : Nat) (as : List Value) (u : MS) (post : MS → Prop) : Prop :=
  Met l y (ws_ y cc nL none) (rm_ fr lo 0 0) (va_Pc (.ref o :: as) (fun U => KK G U ∧ PM G o R u U.heap)) (va_Qv post (fun w t => PM G o R w t.heap) (AM o R)) 0 0 (AM o R)
section MW
variable {G : GG} {p : Program} {l : Launch} {e : Env} {Rm : Room} {s : State} {m : MethodId} {args : Array Value} {below : List Frame} {meth : Method} {c : Code} {H : Heap} {locs : List Loc} {cells slots : Nat} {Q : State → Prop}
variable {cc bytes : ByteArray} {nL maxL index fr lo pc o : Nat} {R : Nat → Nat} {u : MS} {ret : FieldType} {y : MethodName} {ls : Array Slot} {As rest st : List Value} {lv : List (Nat × Value)}
theorem PM.recv (hK : KK G s) (hP : PM G o R u H) : Recv s H RX6 o := va_recv (ci := 5) (q0 := 0) hK hP rfl rfl
theorem M_get {v : Value} (hC : CallFix p m c cc nL s args lw_all RX6) (hK : KK G s) (hP : PM G o R u H) (k : Nat) (hk : k < 61) (hv : (fsM R u.1)[k]? = some v) (hl : Cond.fieldLink RX6 index RX6 (TX6 k).2.1 (TX6 k).2.2.1 ∈ lw_all) (hdg : decode cc pc = .ok (.getfield index, 3))
    (kk : W p l e Rm s m args below meth c H locs cells slots Q (F0 m (pc + 3) ls (v :: rest))) : W p l e Rm s m args below meth c H locs cells slots Q (F0 m pc ls (.ref o :: rest)) :=
  va_get hC.1 hC.2.1 hC.2.2.2.2 in_X6 hC.2.2.2.1 hK hP 0 rfl rfl k hk (hC.2.2.2.2 _ hl) (fun x h => by rw [TX6_own] at h; exact h) hv hdg kk
theorem M_put {x : Int32} (hC : CallFix p m c cc nL s args lw_all RX6) (hK : KK G s) (hD : DM o R) (hP : PM G o R u H) (hS : va_S (AM o R) s.heap H locs) (k : Nat) (hk : k < 61) (hset : (fsM R u.1).set k (.int x) = fsM R (upd u.1 k x)) (hl : Cond.fieldLink RX6 index RX6 (TX6 k).2.1 (TX6 k).2.2.1 ∈ lw_all) (hty : (TX6 k).2.2 = ("I", false)) (hdg : decode cc pc = .ok (.putfield index, 3))
    (kk : ∀ (H : Heap) (locs : List Loc), PM G o R (mV u k x) H → va_S (AM o R) s.heap H locs → W p l e Rm s m args below meth c H locs cells slots Q (F0 m (pc + 3) ls rest)) : W p l e Rm s m args below meth c H locs cells slots Q (F0 m pc ls (.int x :: .ref o :: rest)) := by
  refine va_put (ty := .int) hC.1 hC.2.1 hC.2.2.2.2 in_X6 tyX6 tyX6_ok nmX6 hC.2.2.2.1 hK hP (hD G u) hS 0 rfl rfl k hk (hC.2.2.2.2 _ hl) (fun x h => by rw [TX6_own] at h; exact h) (by rw [hty]) (by rw [hty]; rfl) rfl rfl hk hdg (fun H1 locs1 hP1 hD1 hS1 => ?_)
  rw [wsM_put G o R u k x hset] at hP1
  exact kk H1 locs1 hP1 hS1
theorem M_putz {x : Int32} (hC : CallFix p m c cc nL s args lw_all RX6) (hK : KK G s) (hD : DM o R) (hP : PM G o R u H) (hS : va_S (AM o R) s.heap H locs) (k : Nat) (hk : k < 61) (hset : (fsM R u.1).set k (.int x) = fsM R (upd u.1 k x)) (hl : Cond.fieldLink RX6 index RX6 (TX6 k).2.1 (TX6 k).2.2.1 ∈ lw_all) (hty : (TX6 k).2.2 = ("Z", false)) (hn : narrow .boolean (.int x) = .int x) (hf : fits .boolean (.int x) = true) (hdg : decode cc pc = .ok (.putfield index, 3))
    (kk : ∀ (H : Heap) (locs : List Loc), PM G o R (mV u k x) H → va_S (AM o R) s.heap H locs → W p l e Rm s m args below meth c H locs cells slots Q (F0 m (pc + 3) ls rest)) : W p l e Rm s m args below meth c H locs cells slots Q (F0 m pc ls (.int x :: .ref o :: rest)) := by
  refine va_put (ty := .boolean) hC.1 hC.2.1 hC.2.2.2.2 in_X6 tyX6 tyX6_ok nmX6 hC.2.2.2.1 hK hP (hD G u) hS 0 rfl rfl k hk (hC.2.2.2.2 _ hl) (fun x h => by rw [TX6_own] at h; exact h) (by rw [hty]) (by rw [hty]; rfl) hn hf hk hdg (fun H1 locs1 hP1 hD1 hS1 => ?_)
  rw [wsM_put G o R u k x hset] at hP1
  exact kk H1 locs1 hP1 hS1
theorem ix_nI {i : Int32} {j n : Nat} (hi : i = nI j) (hj : j < n) (hn : n < 2 ^ 31) : vp_in i n ∧ i.toNatClampNeg = j := by
  subst hi
  exact ⟨vp_in_nI hj hn, nI_clamp (by omega)⟩
/-- an int out of an array of the reference: its place j -/
theorem M_ald {i : Int32} (hC : CallFix p m c cc nL s args lw_all RX6) (hK : KK G s) (hP : PM G o R u H) (k pos n j : Nat) (ha : (wsM G o R u)[pos]? = some (R k, .inl (G.2 0, n, .inl (u.2.1 k)))) (hn : n < 2 ^ 31) (hi : i = nI j) (hj : j < n) (hdg : decode cc pc = .ok (.iaload, 1))
    (kk : W p l e Rm s m args below meth c H locs cells slots Q (F0 m (pc + 1) ls (.int (u.2.1 k j) :: rest))) : W p l e Rm s m args below meth c H locs cells slots Q (F0 m pc ls (.int i :: .ref (R k) :: rest)) := by
  obtain ⟨h1, h2⟩ := ix_nI hi hj hn
  refine va_iald hC.1 hC.2.1 hK hP pos 0 ha rfl h1 hdg ?_
  rw [h2]; exact kk
theorem M_bald {i : Int32} (hC : CallFix p m c cc nL s args lw_all RX6) (hK : KK G s) (hP : PM G o R u H) (k pos n j : Nat) (ha : (wsM G o R u)[pos]? = some (R k, .inl (G.2 1, n, .inl (u.2.1 k)))) (hn : n < 2 ^ 31) (hi : i = nI j) (hj : j < n) (hdg : decode cc pc = .ok (.baload, 1))
    (kk : W p l e Rm s m args below meth c H locs cells slots Q (F0 m (pc + 1) ls (.int (u.2.1 k j) :: rest))) : W p l e Rm s m args below meth c H locs cells slots Q (F0 m pc ls (.int i :: .ref (R k) :: rest)) := by
  obtain ⟨h1, h2⟩ := ix_nI hi hj hn
  refine va_bald hC.1 hC.2.1 hK hP pos 1 ha rfl h1 hdg ?_
  rw [h2]; exact kk
theorem M_lald {i : Int32} (hC : CallFix p m c cc nL s args lw_all RX6) (hK : KK G s) (hP : PM G o R u H) (k pos n j : Nat) (ha : (wsM G o R u)[pos]? = some (R k, .inl (G.2 2, n, .inr (.inl (u.2.2 k))))) (hn : n < 2 ^ 31) (hi : i = nI j) (hj : j < n) (hdg : decode cc pc = .ok (.laload, 1))
    (kk : W p l e Rm s m args below meth c H locs cells slots Q (F0 m (pc + 1) ls (.long (u.2.2 k j) :: rest))) : W p l e Rm s m args below meth c H locs cells slots Q (F0 m pc ls (.int i :: .ref (R k) :: rest)) := by
  obtain ⟨h1, h2⟩ := ix_nI hi hj hn
  refine va_lald hC.1 hC.2.1 hK hP pos 2 ha rfl h1 hdg ?_
  rw [h2]; exact kk
theorem M_ast {i x : Int32} (hC : CallFix p m c cc nL s args lw_all RX6) (hK : KK G s) (hD : DM o R) (hP : PM G o R u H) (hS : va_S (AM o R) s.heap H locs) (k pos n j : Nat) (ha : (wsM G o R u)[pos]? = some (R k, .inl (G.2 0, n, .inl (u.2.1 k)))) (hset : (wsM G o R u).set pos (R k, .inl (G.2 0, n, .inl (upd (u.2.1 k) j x))) = wsM G o R (mA u k j x)) (hn : n < 2 ^ 31) (hi : i = nI j) (hj : j < n) (hdg : decode cc pc = .ok (.iastore, 1))
    (kk : ∀ (H : Heap) (locs : List Loc), PM G o R (mA u k j x) H → va_S (AM o R) s.heap H locs → W p l e Rm s m args below meth c H locs cells slots Q (F0 m (pc + 1) ls rest)) : W p l e Rm s m args below meth c H locs cells slots Q (F0 m pc ls (.int x :: .int i :: .ref (R k) :: rest)) := by
  obtain ⟨h1, h2⟩ := ix_nI hi hj hn
  refine va_iast hC.1 hC.2.1 hK hP (hD G u) hS pos 0 ha rfl h1 hdg (fun H1 locs1 hP1 hD1 hS1 => ?_)
  rw [h2, hset] at hP1
  exact kk H1 locs1 hP1 hS1
theorem M_bast {i x : Int32} (hC : CallFix p m c cc nL s args lw_all RX6) (hK : KK G s) (hD : DM o R) (hP : PM G o R u H) (hS : va_S (AM o R) s.heap H locs) (k pos n j : Nat) (ha : (wsM G o R u)[pos]? = some (R k, .inl (G.2 1, n, .inl (u.2.1 k)))) (hset : (wsM G o R u).set pos (R k, .inl (G.2 1, n, .inl (upd (u.2.1 k) j (vp_nar .byte x)))) = wsM G o R (mA u k j (vp_nar .byte x))) (hn : n < 2 ^ 31) (hi : i = nI j) (hj : j < n) (hdg : decode cc pc = .ok (.bastore, 1))
    (kk : ∀ (H : Heap) (locs : List Loc), PM G o R (mA u k j (vp_nar .byte x)) H → va_S (AM o R) s.heap H locs → W p l e Rm s m args below meth c H locs cells slots Q (F0 m (pc + 1) ls rest)) : W p l e Rm s m args below meth c H locs cells slots Q (F0 m pc ls (.int x :: .int i :: .ref (R k) :: rest)) := by
  obtain ⟨h1, h2⟩ := ix_nI hi hj hn
  refine va_bast hC.1 hC.2.1 hK hP (hD G u) hS pos 1 ha rfl h1 hdg (fun H1 locs1 hP1 hD1 hS1 => ?_)
  rw [h2, hset] at hP1
  exact kk H1 locs1 hP1 hS1
theorem M_last {i : Int32} {x : Int64} (hC : CallFix p m c cc nL s args lw_all RX6) (hK : KK G s) (hD : DM o R) (hP : PM G o R u H) (hS : va_S (AM o R) s.heap H locs) (k pos n j : Nat) (ha : (wsM G o R u)[pos]? = some (R k, .inl (G.2 2, n, .inr (.inl (u.2.2 k))))) (hset : (wsM G o R u).set pos (R k, .inl (G.2 2, n, .inr (.inl (vp_updL (u.2.2 k) j x)))) = wsM G o R (mL u k j x)) (hn : n < 2 ^ 31) (hi : i = nI j) (hj : j < n) (hdg : decode cc pc = .ok (.lastore, 1))
    (kk : ∀ (H : Heap) (locs : List Loc), PM G o R (mL u k j x) H → va_S (AM o R) s.heap H locs → W p l e Rm s m args below meth c H locs cells slots Q (F0 m (pc + 1) ls rest)) : W p l e Rm s m args below meth c H locs cells slots Q (F0 m pc ls (.long x :: .int i :: .ref (R k) :: rest)) := by
  obtain ⟨h1, h2⟩ := ix_nI hi hj hn
  refine va_last hC.1 hC.2.1 hK hP (hD G u) hS pos 2 ha rfl h1 hdg (fun H1 locs1 hP1 hD1 hS1 => ?_)
  rw [h2, hset] at hP1
  exact kk H1 locs1 hP1 hS1
theorem CM.blind (as : List Value) : FrameBlind (va_Pc (.ref o :: as) (fun U => KK G U ∧ PM G o R u U.heap)) := fun a U g mk q => ⟨q.1, KK.moved (u := U) (U := U.calling g mk a) (Vm.Alike.refl U.vm) q.2.1, q.2.2⟩
theorem CMi.mk {as : List Value} {post : Int32 → MS → Prop} (hy : plainName y.cls = true) (hown : y.cls = RX6) (hn : (lg_sl (.ref o :: as)).length ≤ nL)
    (body : ∀ (p : Program) (e : Env) (Rm : Room) (s : State) (m : MethodId) (args : Array Value) (below : List Frame) (meth : Method) (c : Code) (Q : State → Prop) (ls : Array Slot), CallFix p m c cc nL s args lw_all RX6 → Rm = rm_ fr lo 0 0 → KK G s → PM G o R u s.heap → va_S (AM o R) s.heap s.heap [] → lv_has ls nL (lv_args 0 (.ref o :: as)) →
      (∀ (pc : Nat) (ls : Array Slot) (v : Int32) (w : MS) (H : Heap) (locs : List Loc), decode cc pc = .ok (.ireturn, 1) → PM G o R w H → va_S (AM o R) s.heap H locs → narrow ret (.int v) = .int v → post v w → W p l e Rm s m args below meth c H locs 0 0 Q (F0 m pc ls [.int v])) → W p l e Rm s m args below meth c s.heap [] 0 0 Q (F0 m 0 ls [])) : CMi G l o R y cc nL ret fr lo as u post := by
  refine Met.ofW (cc := cc) (maxL := nL) (ret := some ret) hy rfl ?_
  intro p e s m args below meth c s₁ B hml hv
  obtain ⟨rfl, hK, hX⟩ := hv
  have hx := B.exec
  have hb := B.bytes
  have hr := B.returns
  have hts := atoms_spec (ws := ws_ y cc nL (some ret)) B.pre
  have hts : ∀ w ∈ lw_all, w.before _ s = true := fun w h => hts w (List.mem_cons_of_mem _ h)
  have ho : s.vm.findClass RX6 = some m.cls := by rw [← hown]; exact findClass_of_methodNamed B.named
  have hlocks := B.notSynchronized
  have hl := lv_entry (.ref o :: as) (n := nL) hn
  rw [lg_entry_eq]
  refine body p e _ s m _ below meth c _ _ ⟨hx, hb, hml, ho, hts⟩ rfl hK hX va_S.rf hl ?_
  intro pc ls v w H locs hd hP hS hnar hv
  exact W.zret hx hb hr hnar (fun t ht hW => ⟨⟨v, w, rfl, hv, by show PM G o R w t.heap; rw [ht]; exact hP⟩, hS.F ht⟩) hS.2.2 hd
theorem CMv.mk {as : List Value} {post : MS → Prop} (hy : plainName y.cls = true) (hown : y.cls = RX6) (hn : (lg_sl (.ref o :: as)).length ≤ nL)
    (body : ∀ (p : Program) (e : Env) (Rm : Room) (s : State) (m : MethodId) (args : Array Value) (below : List Frame) (meth : Method) (c : Code) (Q : State → Prop) (ls : Array Slot), CallFix p m c cc nL s args lw_all RX6 → Rm = rm_ fr lo 0 0 → KK G s → PM G o R u s.heap → va_S (AM o R) s.heap s.heap [] → lv_has ls nL (lv_args 0 (.ref o :: as)) →
      (∀ (pc : Nat) (ls : Array Slot) (w : MS) (H : Heap) (locs : List Loc), decode cc pc = .ok (.return_, 1) → PM G o R w H → va_S (AM o R) s.heap H locs → post w → W p l e Rm s m args below meth c H locs 0 0 Q (F0 m pc ls [])) → W p l e Rm s m args below meth c s.heap [] 0 0 Q (F0 m 0 ls [])) : CMv G l o R y cc nL fr lo as u post := by
  refine Met.ofW (cc := cc) (maxL := nL) (ret := none) hy rfl ?_
  intro p e s m args below meth c s₁ B hml hv
  obtain ⟨rfl, hK, hX⟩ := hv
  have hx := B.exec
  have hb := B.bytes
  have hr := B.returns
  have hts := atoms_spec (ws := ws_ y cc nL none) B.pre
  have hts : ∀ w ∈ lw_all, w.before _ s = true := fun w h => hts w (List.mem_cons_of_mem _ h)
  have ho : s.vm.findClass RX6 = some m.cls := by rw [← hown]; exact findClass_of_methodNamed B.named
  have hlocks := B.notSynchronized
  have hl := lv_entry (.ref o :: as) (n := nL) hn
  rw [lg_entry_eq]
  refine body p e _ s m _ below meth c _ _ ⟨hx, hb, hml, ho, hts⟩ rfl hK hX va_S.rf hl ?_
  intro pc ls w H locs hd hP hS hv
  exact W.vret hx hb hr (fun t ht hW => ⟨⟨w, rfl, hv, by show PM G o R w t.heap; rw [ht]; exact hP⟩, hS.F ht⟩) hS.2.2 hd
theorem CMi.call {A0 : Nat → Prop} {H0 : Heap} {own : String} {post : Int32 → MS → Prop} (hC : CallFix p m c cc nL s args lw_all own) (hK : KK G s) (hS : va_S A0 H0 H locs) (hA : ∀ q, AM o R q → A0 q) (hl : lv_has ls nL lv) (hM : CMi G l o R y bytes maxL ret fr lo As u post) (hP : PM G o R u H) (hyc : y.cls = RX6) (h1 : Cond.methodLink own index y ∈ lw_all) (h2 : Cond.instanceMethod y ∈ lw_all) (h3 : Cond.selects y.cls y y ∈ lw_all) (h4 : Cond.initialized y.cls ∈ lw_all) (h5 : Cond.code y bytes maxL (some ret) ∈ lw_all) (hd : MD y As.length) (hR : (fr + 1 ≤ Rm.frames ∧ 19 + maxL + lo ≤ Rm.locals) ∧ cells ≤ Rm.cells ∧ slots ≤ Rm.slots) (hst : st = As.reverse ++ .ref o :: rest) (hcat : Nat.ble (rest.map fun v => v.category).sum 8 = true) (hdg : decode cc pc = .ok (.invokevirtual index, 3))
    (kk : ∀ (r : Int32) (w : MS) (H1 : Heap) (locs : List Loc), post r w → PM G o R w H1 → H.size ≤ H1.size → (∀ q : Nat, q < H.size → ¬ AM o R q → H1[q]? = H[q]?) → va_S A0 H0 H1 locs → W p l e Rm s m args below meth c H1 locs cells slots Q (F0 m (pc + 3) ls (.int r :: rest))) : W p l e Rm s m args below meth c H locs cells slots Q (F0 m pc ls st) := by
  refine va_calli (va_runV (As := As) (rest := rest) hC hM (cwV As.length hC.2.2.2.2 (lw_V h1 h2 h3 h4 h5) rfl rfl rfl ⟨rfl, hd⟩ ⟨hR.1.1, by have := hR.1.2; show 8 + (maxL + 11) + lo ≤ _; omega⟩) ⟨CM.blind As, by rw [hyc]; exact hP.recv hK, fun U hU hW => ⟨rfl, KK.moved hW.alike hK, by rw [hU]; exact hP⟩⟩ rfl rfl hl.1 hst (lv_room (Nat.le_of_ble_eq_true hcat)) hdg hR.2) hS (fun q _ h => hA q h) hA (fun r w t H1 locs1 ht hvm hpo hB hz hk hS1 => ?_)
  have hB : PM G o R w t.heap := hB
  rw [ht] at hB
  exact kk r w H1 locs1 hpo hB hz hk hS1
theorem CMv.call {A0 : Nat → Prop} {H0 : Heap} {own : String} {post : MS → Prop} (hC : CallFix p m c cc nL s args lw_all own) (hK : KK G s) (hS : va_S A0 H0 H locs) (hA : ∀ q, AM o R q → A0 q) (hl : lv_has ls nL lv) (hM : CMv G l o R y bytes maxL fr lo As u post) (hP : PM G o R u H) (hyc : y.cls = RX6) (h1 : Cond.methodLink own index y ∈ lw_all) (h2 : Cond.instanceMethod y ∈ lw_all) (h3 : Cond.selects y.cls y y ∈ lw_all) (h4 : Cond.initialized y.cls ∈ lw_all) (h5 : Cond.code y bytes maxL none ∈ lw_all) (hd : MD y As.length) (hR : (fr + 1 ≤ Rm.frames ∧ 19 + maxL + lo ≤ Rm.locals) ∧ cells ≤ Rm.cells ∧ slots ≤ Rm.slots) (hst : st = As.reverse ++ .ref o :: rest) (hcat : Nat.ble (rest.map fun v => v.category).sum 8 = true) (hdg : decode cc pc = .ok (.invokevirtual index, 3))
    (kk : ∀ (w : MS) (H1 : Heap) (locs : List Loc), post w → PM G o R w H1 → H.size ≤ H1.size → (∀ q : Nat, q < H.size → ¬ AM o R q → H1[q]? = H[q]?) → va_S A0 H0 H1 locs → W p l e Rm s m args below meth c H1 locs cells slots Q (F0 m (pc + 3) ls rest)) : W p l e Rm s m args below meth c H locs cells slots Q (F0 m pc ls st) := by
  refine va_callv (va_runV (As := As) (rest := rest) hC hM (cwV As.length hC.2.2.2.2 (lw_V h1 h2 h3 h4 h5) rfl rfl rfl ⟨rfl, hd⟩ ⟨hR.1.1, by have := hR.1.2; show 8 + (maxL + 11) + lo ≤ _; omega⟩) ⟨CM.blind As, by rw [hyc]; exact hP.recv hK, fun U hU hW => ⟨rfl, KK.moved hW.alike hK, by rw [hU]; exact hP⟩⟩ rfl rfl hl.1 hst (lv_room (Nat.le_of_ble_eq_true hcat)) hdg hR.2) hS (fun q _ h => hA q h) hA (fun w t H1 locs1 ht hvm hpo hB hz hk hS1 => ?_)
  have hB : PM G o R w t.heap := hB
  rw [ht] at hB
  exact kk w H1 locs1 hpo hB hz hk hS1
end MW

