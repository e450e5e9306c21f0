set_option maxRecDepth 100000
/-! the law's text: clauses. A clause: its letter, its sum, its condition (codes and what they come to) -/
abbrev RL : Type := Nat × SA × CA
def isRuC (c : Nat) : Bool := decide (c = 99) || (decide (c = 106) || decide (c = 120))
def halfE (f : Nat → Int32) (n p : Nat) : SR := if ckN f n p = 120 then .inr (([], fun _ => none), p + 1) else sumE f n 0 (p + 1)
def ruleE (f : Nat → Int32) (n m p b : Nat) : (Nat × Nat) ⊕ (RL × Nat) :=
  if isRuC (ckN f n p) = true then
    (if m = 16 then .inl (4, p)
     else bW (halfE f n p) fun s => bW (conW f n s.2 (b + s.1.1.length)) fun r => .inr ((ckN f n p, s.1, r.1), r.2))
  else .inl (1, p)
def lenR (r : RL) : Nat := r.2.1.1.length + r.2.2.1.length
def rulesE (f : Nat → Int32) (n : Nat) : Nat → List RL → Nat → Nat → (Nat × Nat) ⊕ List RL
  | 0, _, _, _ => .inl (0, 0)
  | k + 1, rs, b, p => bW (ruleE f n rs.length p b) fun r => if r.2 < n then (if ckN f n r.2 = 59 then rulesE f n k (rs ++ [r.1]) (b + lenR r.1) (r.2 + 1) else .inl (1, r.2)) else .inr (rs ++ [r.1])
def lawE (f : Nat → Int32) (n : Nat) : (Nat × Nat) ⊕ List RL := rulesE f n (n + 1) [] 0 0
def lwG (tp n : Int32) : Bool := inB n 1 240 && !decide (tp < n)
def lwR (f : Nat → Int32) (tp n : Int32) : Option ((Nat × Nat) ⊕ List RL) := if lwG tp n = true then some (lawE f (ix n)) else none
def lwV (r : Option ((Nat × Nat) ⊕ List RL)) : Int32 := match r with
  | none => -1
  | some (.inl e) => wrI e.1 e.2
  | some (.inr l) => nI l.length
def rl0 : RL := (0, ([], fun _ => none), ([], fun _ => none))
def nthR (l : List RL) (q : Nat) : RL := l[q]?.getD rl0
/-- the law that clauses are -/
def lwL (l : List RL) : LW := (l.length, fun q => nI (nthR l q).1, fun q F => ((nthR l q).2.1.2 F).getD 0, fun q F => decide ((nthR l q).2.2.2 F = some true))
def lwNew (r : Option ((Nat × Nat) ⊕ List RL)) (Lw : LW) : LW := match r with
  | some (.inr l) => lwL l
  | _ => Lw
theorem halfE_b {f : Nat → Int32} {n p : Nat} {r : SA × Nat} (hp : p < n) (h : halfE f n p = .inr r) : p < r.2 ∧ r.2 ≤ n ∧ p + 1 + r.1.1.length ≤ r.2 ∧ (ckN f n p = 120 ∨ SegL r.1.1 r.1.2) := by
  unfold halfE at h
  by_cases hc : ckN f n p = 120
  · rw [if_pos hc] at h; cases h
    exact ⟨Nat.lt_succ_self p, hp, by show p + 1 + 0 ≤ p + 1; omega, Or.inl hc⟩
  · rw [if_neg hc] at h
    obtain ⟨⟨s0, s1⟩, s2, s3, -⟩ := sumE_seg (show p + 1 ≤ n by omega) h
    exact ⟨by omega, s3, by omega, Or.inr s0⟩
theorem conW_b {f : Nat → Int32} {n p b : Nat} {r : CA × Nat} (h : conW f n p b = .inr r) : p < r.2 ∧ r.2 ≤ n ∧ 1 ≤ r.1.1.length ∧ p + r.1.1.length ≤ r.2 := by
  unfold conW at h
  by_cases hc : ckN f n p = 40
  · rw [if_pos hc] at h; exact conE_b (ckN_lt hc (by decide)) h
  · rw [if_neg hc] at h; cases h
theorem isRu_lt {f : Nat → Int32} {n p : Nat} (h : isRuC (ckN f n p) = true) : p < n := Nat.not_le.mp fun q => by
  rw [ckN_f (by omega)] at h; exact absurd h (by decide)
theorem ruleE_b {f : Nat → Int32} {n m p b : Nat} {r : RL × Nat} (h : ruleE f n m p b = .inr r) : p < r.2 ∧ r.2 ≤ n ∧ p + 1 + lenR r.1 ≤ r.2 := by
  unfold ruleE at h
  by_cases hc : isRuC (ckN f n p) = true
  · rw [if_pos hc] at h
    have hp := isRu_lt hc
    by_cases hm : m = 16
    · rw [if_pos hm] at h; cases h
    · rw [if_neg hm] at h
      obtain ⟨s, q1, q2⟩ := bW_r h
      obtain ⟨r1, q3, q4⟩ := bW_r q2
      have h1 := halfE_b hp q1
      have h2 := conW_b q3
      cases q4
      show p < r1.2 ∧ r1.2 ≤ n ∧ p + 1 + (s.1.1.length + r1.1.1.length) ≤ r1.2
      omega
  · rw [if_neg hc] at h; cases h
/-- what the codes of read clauses are -/
def rlC (fr : Nat) (r : RL) : Prop := (r.1 = 120 ∨ SegL r.2.1.1 r.2.1.2) ∧ SegC r.2.2.1 (fr + r.2.1.1.length) r.2.2.2 ∧ (∀ x ∈ r.2.1.1, x < 2 ^ 31) ∧ nineD r.2.1.2
theorem ruleE_seg {f : Nat → Int32} {n m p b : Nat} {r : RL × Nat} (hn : n ≤ 240) (hb : b ≤ p) (h : ruleE f n m p b = .inr r) : r.1.1 = ckN f n p ∧ isRuC r.1.1 = true ∧ rlC b r.1 := by
  unfold ruleE at h
  by_cases hc : isRuC (ckN f n p) = true
  · rw [if_pos hc] at h
    have hp := isRu_lt hc
    by_cases hm : m = 16
    · rw [if_pos hm] at h; cases h
    · rw [if_neg hm] at h
      obtain ⟨s, q1, q2⟩ := bW_r h
      obtain ⟨r1, q3, q4⟩ := bW_r q2
      have h1 := halfE_b hp q1
      cases q4
      refine ⟨rfl, hc, h1.2.2.2, ?_, ?_⟩
      · show SegC r1.1.1 (b + s.1.1.length) r1.1.2
        unfold conW at q3
        by_cases h40 : ckN f n s.2 = 40
        · rw [if_pos h40] at q3
          exact conE_seg hn (ckN_lt h40 (by decide)) (by omega) q3
        · rw [if_neg h40] at q3; cases q3
      · show (∀ x ∈ s.1.1, x < 2 ^ 31) ∧ nineD s.1.2
        unfold halfE at q1
        by_cases h120 : ckN f n p = 120
        · rw [if_pos h120] at q1; cases q1
          exact ⟨fun x hx => (by cases hx), fun _ _ _ => rfl⟩
        · rw [if_neg h120] at q1
          obtain ⟨⟨s0, -⟩, -⟩ := sumE_seg (show p + 1 ≤ n by omega) q1
          exact s0.2.2
  · rw [if_neg hc] at h; cases h
/-- all codes, in order; where each clause's begin -/
def codR : List RL → List Nat
  | [] => []
  | r :: l => r.2.1.1 ++ r.2.2.1 ++ codR l
theorem codR_app (l : List RL) (r : RL) : codR (l ++ [r]) = codR l ++ (r.2.1.1 ++ r.2.2.1) := by
  induction l with
  | nil => show r.2.1.1 ++ r.2.2.1 ++ [] = [] ++ _; rw [List.append_nil]; rfl
  | cons x l ih => show x.2.1.1 ++ x.2.2.1 ++ codR (l ++ [r]) = x.2.1.1 ++ x.2.2.1 ++ codR l ++ _; rw [ih]; simp only [List.append_assoc]
theorem codR_len (l : List RL) (r : RL) : (codR (l ++ [r])).length = (codR l).length + lenR r := by
  rw [codR_app, List.length_append, List.length_append]; rfl
def frR (l : List RL) (q : Nat) : Nat := (codR (l.take q)).length
/-- the clauses' own arrays -/
def arR (l : List RL) (L A B C : Nat → Int32) : Prop := ∀ q, q < l.length → L q = nI (nthR l q).1 ∧ A q = nI (frR l q) ∧ B q = nI (frR l q + (nthR l q).2.1.1.length) ∧ C q = nI (frR l q + lenR (nthR l q))
theorem nthR_lt {l : List RL} {r : RL} {q : Nat} (h : q < l.length) : nthR (l ++ [r]) q = nthR l q := by
  unfold nthR; rw [List.getElem?_append_left h]
theorem nthR_e (l : List RL) (r : RL) : nthR (l ++ [r]) l.length = r := by
  unfold nthR; rw [List.getElem?_append_right (Nat.le_refl _), Nat.sub_self]; rfl
theorem frR_lt {l : List RL} {r : RL} {q : Nat} (h : q ≤ l.length) : frR (l ++ [r]) q = frR l q := by
  unfold frR; rw [List.take_append_of_le_length h]
theorem frR_e (l : List RL) : frR l l.length = (codR l).length := by unfold frR; rw [List.take_length]
theorem arR_push {l : List RL} {r : RL} {L A B C : Nat → Int32} {x y z w : Int32} (h : arR l L A B C) (hx : x = nI r.1) (hy : y = nI (codR l).length) (hz : z = nI ((codR l).length + r.2.1.1.length)) (hw : w = nI ((codR l).length + lenR r)) : arR (l ++ [r]) (upd L l.length x) (upd A l.length y) (upd B l.length z) (upd C l.length w) := fun q hq => by
  rw [List.length_append, List.length_singleton] at hq
  by_cases e : q = l.length
  · subst e
    rw [upd_s, upd_s, upd_s, upd_s, nthR_e, frR_lt (Nat.le_refl _), frR_e]
    exact ⟨hx, hy, hz, hw⟩
  · rw [upd_n _ e, upd_n _ e, upd_n _ e, upd_n _ e, nthR_lt (by omega), frR_lt (by omega)]
    exact h q (by omega)
/-- every clause that is read has its codes -/
def okR (l : List RL) : Prop := ∀ q, q < l.length → isRuC (nthR l q).1 = true ∧ rlC (frR l q) (nthR l q)
theorem okR_push {l : List RL} {r : RL} (h : okR l) (h1 : isRuC r.1 = true) (h2 : rlC (codR l).length r) : okR (l ++ [r]) := fun q hq => by
  rw [List.length_append, List.length_singleton] at hq
  by_cases e : q = l.length
  · subst e; rw [nthR_e, frR_lt (Nat.le_refl _), frR_e]; exact ⟨h1, h2⟩
  · rw [nthR_lt (by omega), frR_lt (by omega)]; exact h q (by omega)
theorem rulesE_ok {f : Nat → Int32} {n : Nat} (hn : n ≤ 240) : ∀ k rs b p l, b = (codR rs).length → b ≤ p → okR rs → rulesE f n k rs b p = .inr l → okR l ∧ (codR l).length ≤ n := by
  intro k
  induction k with
  | zero => intro rs b p l _ _ _ h; cases h
  | succ k ih =>
    intro rs b p l hb hbp ho h
    obtain ⟨r, q1, q2⟩ := bW_r h
    have hr := ruleE_b q1
    obtain ⟨-, hr1, hr2⟩ := ruleE_seg hn hbp q1
    have ho2 := okR_push (r := r.1) ho hr1 (by rw [← hb]; exact hr2)
    have hl2 := codR_len rs r.1
    by_cases hc : r.2 < n
    · rw [if_pos hc] at q2
      by_cases hs : ckN f n r.2 = 59
      · rw [if_pos hs] at q2
        exact ih (rs ++ [r.1]) (b + lenR r.1) (r.2 + 1) l (by rw [hl2, hb]) (by omega) ho2 q2
      · rw [if_neg hs] at q2; cases q2
    · rw [if_neg hc] at q2; cases q2
      exact ⟨ho2, by rw [hl2]; omega⟩
theorem nine_lwL {l : List RL} (h : okR l) : nineW (lwL l) := fun q F F' hq hF => by
  have hq : q < l.length := hq
  have h1 := (h q hq).2
  refine ⟨?_, ?_⟩
  · show ((nthR l q).2.1.2 F).getD 0 = ((nthR l q).2.1.2 F').getD 0
    rw [h1.2.2.2 F F' hF]
  · show decide ((nthR l q).2.2.2 F = some true) = decide ((nthR l q).2.2.2 F' = some true)
    rw [h1.2.1.2.2.2 F F' hF]
/-- codes lie in the array -/
theorem CS_of {cd : Nat → Nat} : ∀ (l : List Nat) b, (∀ i x, l[i]? = some x → cd (b + i) = x) → CS cd b l := by
  intro l
  induction l with
  | nil => intro _ _; trivial
  | cons x l ih =>
    intro b h
    refine ⟨h 0 x rfl, ih (b + 1) (fun i y hy => ?_)⟩
    have := h (i + 1) y hy
    rwa [show b + 1 + i = b + (i + 1) by omega]
theorem codR_get {l : List RL} {q : Nat} (hq : q < l.length) {i x : Nat} : ((nthR l q).2.1.1 ++ (nthR l q).2.2.1)[i]? = some x → (codR l)[frR l q + i]? = some x := by
  induction l generalizing q with
  | nil => exact absurd hq (Nat.not_lt_zero _)
  | cons r l ih =>
    intro h
    cases q with
    | zero =>
      have e : frR (r :: l) 0 = 0 := rfl
      rw [e, Nat.zero_add]
      show (r.2.1.1 ++ r.2.2.1 ++ codR l)[i]? = some x
      have h : (r.2.1.1 ++ r.2.2.1)[i]? = some x := h
      rw [List.getElem?_append_left (List.getElem?_eq_some_iff.mp h).1]; exact h
    | succ q =>
      have hq : q + 1 < l.length + 1 := hq
      have e : frR (r :: l) (q + 1) = (r.2.1.1 ++ r.2.2.1).length + frR l q := by
        show (r.2.1.1 ++ r.2.2.1 ++ codR (l.take q)).length = _
        rw [List.length_append]; rfl
      show (r.2.1.1 ++ r.2.2.1 ++ codR l)[frR (r :: l) (q + 1) + i]? = some x
      rw [e, List.getElem?_append_right (by omega), show (r.2.1.1 ++ r.2.2.1).length + frR l q + i - (r.2.1.1 ++ r.2.2.1).length = frR l q + i by omega]
      exact ih (by omega) h
theorem frR_le {l : List RL} {q : Nat} (hq : q < l.length) : frR l q + lenR (nthR l q) ≤ (codR l).length := by
  induction l generalizing q with
  | nil => exact absurd hq (Nat.not_lt_zero _)
  | cons r l ih =>
    have e0 : (codR (r :: l)).length = lenR r + (codR l).length := by
      show (r.2.1.1 ++ r.2.2.1 ++ codR l).length = _
      rw [List.length_append, List.length_append]; rfl
    cases q with
    | zero => rw [e0]; show 0 + lenR r ≤ _; omega
    | succ q =>
      have hq : q + 1 < l.length + 1 := hq
      have e : frR (r :: l) (q + 1) = lenR r + frR l q := by
        show (r.2.1.1 ++ r.2.2.1 ++ codR (l.take q)).length = _
        rw [List.length_append, List.length_append]; rfl
      have := ih (q := q) (by omega)
      rw [e0, e]
      show lenR r + frR l q + lenR (nthR l q) ≤ _
      omega
/-- the five arrays and the number of clauses -/
def codesA (cl : Int32) (co L A B C : Nat → Int32) (W : LW) : Prop := cl = nI W.1 ∧ W.1 ≤ 16 ∧ ∃ cd : Nat → Nat, ∃ fr hf to : Nat → Nat, (∀ k, k < 260 → co k = nI (cd k) ∧ cd k < 2 ^ 31) ∧ ∀ q, q < W.1 → L q = W.2.1 q ∧ A q = nI (fr q) ∧ B q = nI (hf q) ∧ C q = nI (to q) ∧ fr q ≤ 240 ∧ hf q ≤ 240 ∧ to q ≤ 240 ∧
  (∀ F g, ∃ fu r, rkS cd F (to q) fu (hf q) 0 g = some r ∧ W.2.2.2 q F = decide (r = 1)) ∧ (¬ W.2.1 q = 120 → ∀ F g, ∃ fu, rkS cd F (hf q) fu (fr q) 0 g = some (W.2.2.1 q F))
theorem codesA_iff (u : MS) (W : LW) : codesOK u W ↔ codesA (u.1 20) (u.2.1 27) (u.2.1 28) (u.2.1 29) (u.2.1 30) (u.2.1 31) W := Iff.rfl
theorem rk_stop {cd : Nat → Nat} {F : Nat → Int32} {e n : Nat} {g : Nat → Int32} : rkS cd F e 1 e n g = some (g 0) := by
  unfold rkS; rw [if_pos (Nat.le_refl _)]
theorem Seg_run {cd : Nat → Nat} {a e : Nat} {den : SDn} (h : Seg cd a e den) (hl : e - a ≤ 260) (F : FF) (g : Nat → Int32) : ∃ fu, rkS cd F e fu a 0 g = some ((den F).getD 0) := by
  refine h F e 0 g _ (Nat.le_refl _) (by omega) ?_
  cases hd : den F with
  | none => rfl
  | some x =>
    intro g' _ hx
    exact ⟨1, by rw [rk_stop, hx]; rfl⟩
theorem codesA_law {l : List RL} {Lw : LW} {cl0 : Int32} {co0 L0 A0 B0 C0 : Nat → Int32} {co x L A B C : Nat → Int32} (h0 : codesA cl0 co0 L0 A0 B0 C0 Lw) (hl : l.length ≤ 16) (ho : okR l) (hn : (codR l).length ≤ 240) (hx : csA (codR l) x) (hco : ∀ k, co k = if k < (codR l).length then x k else co0 k) (ha : arR l L A B C) : codesA (nI l.length) co L A B C (lwL l) := by
  obtain ⟨-, -, cd0, -, -, -, hc0, -⟩ := h0
  let cd : Nat → Nat := fun k => if k < (codR l).length then (codR l)[k]?.getD 0 else cd0 k
  have hcd : ∀ k y, (codR l)[k]? = some y → cd k = y := fun k y hy => by
    show (if k < (codR l).length then (codR l)[k]?.getD 0 else cd0 k) = y
    rw [if_pos (List.getElem?_eq_some_iff.mp hy).1, hy]; rfl
  have hmem : ∀ y ∈ codR l, y < 2 ^ 31 := by
    have key : ∀ (l : List RL), (∀ q, q < l.length → (∀ x ∈ (nthR l q).2.1.1, x < 2 ^ 31) ∧ ∀ x ∈ (nthR l q).2.2.1, x < 2 ^ 31) → ∀ y ∈ codR l, y < 2 ^ 31 := by
      intro l
      induction l with
      | nil => intro _ y hy; cases hy
      | cons r l ih =>
        intro h y hy
        have hy : y ∈ r.2.1.1 ++ r.2.2.1 ++ codR l := hy
        rcases List.mem_append.mp hy with hy | hy
        · rcases List.mem_append.mp hy with hy | hy
          · exact (h 0 (Nat.succ_pos _)).1 y hy
          · exact (h 0 (Nat.succ_pos _)).2 y hy
        · exact ih (fun q hq => h (q + 1) (by show q + 1 < l.length + 1; omega)) y hy
    exact key l (fun q hq => ⟨(ho q hq).2.2.2.1, (ho q hq).2.2.1.2.2.1⟩)
  have hCS : ∀ q, q < l.length → CS cd (frR l q) ((nthR l q).2.1.1 ++ (nthR l q).2.2.1) := fun q hq => CS_of _ _ (fun i y hy => hcd _ _ (codR_get hq hy))
  refine ⟨rfl, hl, cd, fun q => frR l q, fun q => frR l q + (nthR l q).2.1.1.length, fun q => frR l q + lenR (nthR l q), fun k hk => ?_, fun q hq => ?_⟩
  · rw [hco]
    by_cases hkl : k < (codR l).length
    · obtain ⟨y, hy⟩ : ∃ y, (codR l)[k]? = some y := ⟨_, List.getElem?_eq_getElem hkl⟩
      rw [if_pos hkl, hcd k y hy]
      exact ⟨hx k y hy, hmem y (List.mem_of_getElem? hy)⟩
    · rw [if_neg hkl]
      have e : cd k = cd0 k := if_neg hkl
      rw [e]; exact hc0 k hk
  · have hq : q < l.length := hq
    obtain ⟨a1, a2, a3, a4⟩ := ha q hq
    have hle := frR_le hq
    have hlr : lenR (nthR l q) = (nthR l q).2.1.1.length + (nthR l q).2.2.1.length := rfl
    have hcs := hCS q hq
    rw [CS_app] at hcs
    refine ⟨a1, a2, a3, a4, by show frR l q ≤ 240; omega, by show frR l q + (nthR l q).2.1.1.length ≤ 240; omega, by show frR l q + lenR (nthR l q) ≤ 240; omega, fun F g => ?_, fun h120 F g => ?_⟩
    · have hS := (ho q hq).2.2.1.1 cd hcs.2
      obtain ⟨fu, hfu⟩ := Seg_run hS (by omega) F g
      refine ⟨fu, _, by show rkS cd F (frR l q + lenR (nthR l q)) fu (frR l q + (nthR l q).2.1.1.length) 0 g = _; rw [hlr, ← Nat.add_assoc]; exact hfu, ?_⟩
      show decide ((nthR l q).2.2.2 F = some true) = _
      unfold bD
      cases (nthR l q).2.2.2 F with
      | none => rfl
      | some v => cases v <;> rfl
    · have hS : SegL (nthR l q).2.1.1 (nthR l q).2.1.2 := by
        rcases (ho q hq).2.1 with e | e
        · exact absurd (show nI (nthR l q).1 = 120 by rw [e]; rfl) h120
        · exact e
      obtain ⟨fu, hfu⟩ := Seg_run (hS.1 cd _ hcs.1) (by omega) F g
      exact ⟨fu, hfu⟩
