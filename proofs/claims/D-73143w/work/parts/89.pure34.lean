set_option maxRecDepth 100000
/-! the law's text: conditions, by descent: 0 a piece, 1 what follows one among pieces, 2 what follows pieces in a condition, 3 a condition. b: where the codes begin -/
abbrev CA : Type := List Nat × CDn
abbrev CR : Type := (Nat × Nat) ⊕ (CA × Nat)
def cmpN (c : Nat) : Option Nat := if c = 60 then some 7 else if c = 62 then some 8 else if c = 61 then some 9 else none
def rdC (f : Nat → Int32) (n : Nat) : Nat → Nat → Nat → Nat → Nat → CA → CR
  | 0, _, _, _, _, _ => .inl (0, 0)
  | k + 1, 0, op, p, b, a =>
    if ckN f n p = 33 then (if op = 6 then .inl (5, p) else bW (rdC f n k 0 (op + 1) (p + 1) b a) fun r => .inr ((r.1.1 ++ [UN * 10], fun F => (r.1.2 F).map (fun v => !v)), r.2))
    else if ckN f n p = 40 then rdC f n k 3 op p b a
    else bW (sumE f n op p) fun x => match cmpN (ckN f n x.2) with
      | some s => bW (sumE f n op (x.2 + 1)) fun y => .inr ((x.1.1 ++ y.1.1 ++ [UN * s], fun F => cmpS (nI (ckN f n x.2)) (x.1.2 F) (y.1.2 F)), y.2)
      | none => .inl (1, x.2)
  | k + 1, 1, op, p, b, a => if ckN f n p = 38 then bW (rdC f n k 0 op (p + 1) (b + a.1.length + 1) a) fun r => rdC f n k 1 op r.2 b (a.1 ++ [UN * 11 + (b + a.1.length + 1 + r.1.1.length)] ++ r.1.1, fun F => somS false (a.2 F) (r.1.2 F)) else .inr (a, p)
  | k + 1, 2, op, p, b, a => if ckN f n p = 124 then bW (rdC f n k 0 op (p + 1) (b + a.1.length + 1) a) fun r => bW (rdC f n k 1 op r.2 (b + a.1.length + 1) r.1) fun r2 => rdC f n k 2 op r2.2 b (a.1 ++ [UN * 12 + (b + a.1.length + 1 + r2.1.1.length)] ++ r2.1.1, fun F => somS true (a.2 F) (r2.1.2 F)) else .inr (a, p)
  | k + 1, _ + 3, op, p, b, a => if op = 6 then .inl (5, p) else bW (rdC f n k 0 (op + 1) (p + 1) b a) fun r => bW (rdC f n k 1 (op + 1) r.2 b r.1) fun r1 => bW (rdC f n k 2 (op + 1) r1.2 b r1.1) fun r2 => if ckN f n r2.2 = 41 then .inr (r2.1, r2.2 + 1) else .inl (1, r2.2)
