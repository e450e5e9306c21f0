set_option maxRecDepth 100000
theorem hvN_1 (f : Nat → Int32) (a : Nat) : hvN f 1 a = ocN f a := by
  show smN f a 1 - min 0 0 = _
  show 0 + ocN f (a + 0) - min 0 0 = _
  simp
