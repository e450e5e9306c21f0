set_option maxRecDepth 100000
/-! what the codes of a sum come to -/
theorem rdE_b {f : Nat → Int32} {n k op p : Nat} {a : SA} {r : SA × Nat} (hp : p ≤ n) : (rdE f n k 0 op p a = .inr r → p < r.2 ∧ r.2 ≤ n) ∧ (rdE f n k 1 op p a = .inr r → p ≤ r.2 ∧ r.2 ≤ n) ∧ (mulC (ckN f n p) = false → rdE f n k 2 op p a = .inr r → p ≤ r.2 ∧ r.2 ≤ n) ∧ (rdE f n k 3 op p a = .inr r → p < r.2 ∧ r.2 ≤ n ∧ sgnN (ckN f n r.2) = none) := by
  obtain ⟨h0, h1, h2, h3⟩ := mR_sim (f := f) (n := n) (base := 0) k
  have ht : ∀ al, topF al [] := fun al x t e => by cases e
  refine ⟨fun h => ?_, fun h => ?_, fun hm h => ?_, fun h => ?_⟩
  · have := (h0 op p a [] [] _ hp (Nat.le_refl _) (Nat.zero_le _)).2 r h; exact ⟨this.1, this.2.1⟩
  · have := (h1 op p a [] [] _ hp (Nat.le_refl _) (Nat.zero_le _) (ht _)).2 r h; exact ⟨this.1, this.2.1⟩
  · have := (h2 op p a [] [] _ hp (Nat.le_refl _) (Nat.zero_le _) (ht _) hm).2 r h; exact ⟨this.1, this.2.1⟩
  · have := (h3 op p a [] [] _ hp (Nat.le_refl _) (Nat.zero_le _) (ht _)).2 r h; exact ⟨this.1, this.2.1, this.2.2.1⟩
theorem rdE_m {f : Nat → Int32} {n k op p : Nat} {a : SA} {r : SA × Nat} (hp : p ≤ n) (h : rdE f n k 1 op p a = .inr r) : mulC (ckN f n r.2) = false := by
  obtain ⟨h0, h1, h2, h3⟩ := mR_sim (f := f) (n := n) (base := 0) k
  exact ((h1 op p a [] [] _ hp (Nat.le_refl _) (Nat.zero_le _) (fun x t e => by cases e)).2 r h).2.2.1
theorem nmL_f {f : Nat → Int32} {n : Nat} : ∀ b p v e, nmL f n b p v = .inl e → e.1 = 2 := by
  intro b
  induction b with
  | zero =>
    intro p v e h
    unfold nmL at h
    split at h
    · cases h; rfl
    · cases h
  | succ b ih =>
    intro p v e h
    unfold nmL at h
    split at h
    · exact ih _ _ _ h
    · cases h
/-- the fuel is enough -/
theorem rdE_ok {f : Nat → Int32} {n : Nat} : ∀ k, (∀ op p a e, p ≤ n → 2 * (n + 1 - p) + 1 ≤ k → rdE f n k 0 op p a = .inl e → e.1 ≠ 0) ∧ (∀ op p a e, p ≤ n → 2 * (n + 1 - p) + 2 ≤ k → rdE f n k 1 op p a = .inl e → e.1 ≠ 0) ∧ (∀ op p a e, p ≤ n → 2 * (n + 1 - p) + 2 ≤ k → rdE f n k 2 op p a = .inl e → e.1 ≠ 0) ∧ (∀ op p a e, p ≤ n → 2 * (n + 1 - p) + 2 ≤ k → rdE f n k 3 op p a = .inl e → e.1 ≠ 0) := by
  intro k
  induction k with
  | zero => exact ⟨fun _ _ _ _ _ h => by omega, fun _ _ _ _ _ h => by omega, fun _ _ _ _ _ h => by omega, fun _ _ _ _ _ h => by omega⟩
  | succ k ih =>
    obtain ⟨i0, i1, i2, i3⟩ := ih
    refine ⟨fun op p a e hp hk h => ?_, fun op p a e hp hk h => ?_, fun op p a e hp hk h => ?_, fun op p a e hp hk h => ?_⟩
    · unfold rdE at h
      split at h
      · rename_i h91
        have hpn := ckN_in (by decide) h91
        split at h
        · cases h; exact Nat.succ_ne_zero _
        · cases hq : rdE f n k 3 (op + 1) (p + 1) a with
          | inl e1 => rw [hq] at h; cases h; exact i3 _ _ _ _ (by omega) (by omega) hq
          | inr r => rw [hq] at h; dsimp only [bW] at h; split at h <;> cases h; exact Nat.succ_ne_zero _
      · split at h
        · cases hv : numL f n p with
          | inl e1 => rw [hv] at h; cases h; rw [nmL_f _ _ _ _ hv]; decide
          | inr v => rw [hv] at h; cases h
        · split at h
          · cases h
          · cases h; exact Nat.succ_ne_zero _
    · unfold rdE at h
      split at h
      · rename_i hm
        have hpn : p < n := Nat.not_le.mp fun q => by rw [ckN_f (by omega)] at hm; exact absurd hm (by decide)
        cases hq : rdE f n k 0 op (p + 1) a with
        | inl e1 => rw [hq] at h; cases h; exact i0 _ _ _ _ (by omega) (by omega) hq
        | inr r =>
          rw [hq] at h
          have hb := (rdE_b (f := f) (k := k) (op := op) (a := a) (r := r) (show p + 1 ≤ n by omega)).1 hq
          exact i1 _ _ _ _ hb.2 (by omega) h
      · cases h
    · unfold rdE at h
      split at h
      · rename_i hm
        have hpn : p < n := Nat.not_le.mp fun q => by rw [ckN_f (by omega)] at hm; exact absurd hm (by decide)
        cases hq : rdE f n k 0 op (p + 1) a with
        | inl e1 => rw [hq] at h; cases h; exact i0 _ _ _ _ (by omega) (by omega) hq
        | inr r =>
          rw [hq] at h
          have hb := (rdE_b (f := f) (k := k) (op := op) (a := a) (r := r) (show p + 1 ≤ n by omega)).1 hq
          change bW (rdE f n k 1 op r.2 r.1) _ = _ at h
          cases hq2 : rdE f n k 1 op r.2 r.1 with
          | inl e1 => rw [hq2] at h; cases h; exact i1 _ _ _ _ hb.2 (by omega) hq2
          | inr r2 =>
            rw [hq2] at h
            have hb2 := (rdE_b (f := f) (k := k) (op := op) (a := r.1) (r := r2) hb.2).2.1 hq2
            exact i2 _ _ _ _ hb2.2 (by omega) h
      · cases h
    · unfold rdE at h
      cases hq : rdE f n k 0 op p a with
      | inl e1 => rw [hq] at h; cases h; exact i0 _ _ _ _ hp (by omega) hq
      | inr r =>
        rw [hq] at h
        have hb := (rdE_b (f := f) (k := k) (op := op) (a := a) (r := r) hp).1 hq
        change bW (rdE f n k 1 op r.2 r.1) _ = _ at h
        cases hq2 : rdE f n k 1 op r.2 r.1 with
        | inl e1 => rw [hq2] at h; cases h; exact i1 _ _ _ _ hb.2 (by omega) hq2
        | inr r2 =>
          rw [hq2] at h
          have hb2 := (rdE_b (f := f) (k := k) (op := op) (a := r.1) (r := r2) hb.2).2.1 hq2
          exact i2 _ _ _ _ hb2.2 (by omega) h
/-- the codes of a list lie from a place on -/
def CS (cd : Nat → Nat) : Nat → List Nat → Prop
  | _, [] => True
  | b, x :: l => cd b = x ∧ CS cd (b + 1) l
theorem CS_app {cd : Nat → Nat} : ∀ l1 b l2, CS cd b (l1 ++ l2) ↔ CS cd b l1 ∧ CS cd (b + l1.length) l2 := by
  intro l1
  induction l1 with
  | nil => intro b l2; exact ⟨fun h => ⟨trivial, h⟩, fun h => h.2⟩
  | cons x l ih =>
    intro b l2
    show (cd b = x ∧ CS cd (b + 1) (l ++ l2)) ↔ (cd b = x ∧ CS cd (b + 1) l) ∧ CS cd (b + (l.length + 1)) l2
    rw [ih, show b + 1 + l.length = b + (l.length + 1) by omega]
    exact and_assoc.symm
/-- codes from a to e leave what den says on the stack, or the whole comes to nothing -/
def Seg (cd : Nat → Nat) (a e : Nat) (den : SDn) : Prop := ∀ (F : FF) (to n : Nat) (g : Nat → Int32) (r : Int32), e ≤ to → n + (e - a) ≤ 260 →
  (match den F with | none => r = 0 | some x => ∀ g' : Nat → Int32, (∀ i, i < n → g' i = g i) → g' n = x → ∃ fu, rkS cd F to fu e (n + 1) g' = some r) → ∃ fu, rkS cd F to fu a n g = some r
theorem Seg_num {cd : Nat → Nat} {a v : Nat} (h : cd a = v) (hv : v < UN) : Seg cd a (a + 1) (fun _ => some (nI v)) := fun F to n g r he hn hk => by
  obtain ⟨fu, hfu⟩ := hk (upd g n (nI v)) (fun i hi => upd_n _ (by omega)) (upd_s _ _ _)
  refine ⟨fu + 1, ?_⟩
  unfold rkS
  rw [if_neg (by omega), h, if_pos (Nat.div_eq_of_lt hv), if_pos (by omega), Nat.mod_eq_of_lt hv]; exact hfu
theorem Seg_let {cd : Nat → Nat} {a i : Nat} (h : cd a = UN + i) (hi : i < 9) : Seg cd a (a + 1) (fun F => some (F i)) := fun F to n g r he hn hk => by
  have e1 : (UN + i) / 1048576 = 1 := by show (1048576 + i) / 1048576 = 1; omega
  have e2 : (UN + i) % 1048576 = i := by show (1048576 + i) % 1048576 = i; omega
  obtain ⟨fu, hfu⟩ := hk (upd g n (F i)) (fun j hj => upd_n _ (by omega)) (upd_s _ _ _)
  refine ⟨fu + 1, ?_⟩
  unfold rkS
  rw [if_neg (by omega), h, e1, e2, if_neg (by decide), if_pos rfl, if_pos (by omega)]; exact hfu
theorem work_reck {c : Nat} (h : mulC c = true ∨ addC c = true) (x y : Int32) : workS (nI c) x y = if (sgC c = 5 ∨ sgC c = 6) ∧ y = 0 then none else some (reckS (nI (sgC c)) x y) := by
  have hc : c = 42 ∨ c = 47 ∨ c = 37 ∨ c = 43 ∨ c = 45 := by
    unfold mulC addC at h
    simp only [Bool.or_eq_true, decide_eq_true_eq] at h
    omega
  rcases hc with rfl | rfl | rfl | rfl | rfl
  · rfl
  · have e : workS (nI 47) x y = if y = 0 then none else some (x / y) := rfl
    rw [e, show sgC 47 = 5 from rfl]
    by_cases q : y = 0
    · rw [if_pos q, if_pos ⟨Or.inl rfl, q⟩]
    · rw [if_neg q, if_neg (fun z => q z.2)]; rfl
  · have e : workS (nI 37) x y = if y = 0 then none else some (remI x y) := rfl
    rw [e, show sgC 37 = 6 from rfl]
    by_cases q : y = 0
    · rw [if_pos q, if_pos ⟨Or.inr rfl, q⟩]
    · rw [if_neg q, if_neg (fun z => q z.2)]; rfl
  · rfl
  · rfl
theorem Seg_bin {cd : Nat → Nat} {a b c ch : Nat} {d1 d2 : SDn} (h1 : Seg cd a b d1) (h2 : Seg cd b c d2) (hab : a < b) (hbc : b < c) (hs : mulC ch = true ∨ addC ch = true) (hc : cd c = UN * sgC ch) : Seg cd a (c + 1) (sgD ch d1 d2) := fun F to n g r he hn hk => by
  have hsb : 2 ≤ sgC ch ∧ sgC ch ≤ 6 := by
    rcases hs with q | q
    · have := sgn_mul q; omega
    · have := sgn_add q; omega
  have e1 : (UN * sgC ch) / 1048576 = sgC ch := un_div _
  refine h1 F to n g r (by omega) (by omega) ?_
  cases hd1 : d1 F with
  | none => simp only [sgD, hd1, Option.bind_none] at hk; exact hk
  | some v =>
    intro g1 hg1 hv1
    refine h2 F to (n + 1) g1 r (by omega) (by omega) ?_
    cases hd2 : d2 F with
    | none => simp only [sgD, hd1, hd2, Option.bind_none, Option.bind_some] at hk; exact hk
    | some w =>
      intro g2 hg2 hv2
      simp only [sgD, hd1, hd2, Option.bind_some, work_reck hs] at hk
      have ev : g2 n = v := by rw [hg2 n (by omega)]; exact hv1
      by_cases q : (sgC ch = 5 ∨ sgC ch = 6) ∧ w = 0
      · rw [if_pos q] at hk
        refine ⟨1, ?_⟩
        unfold rkS
        rw [if_neg (by omega), hc, e1, if_neg (by omega), if_neg (by omega), if_neg (by omega), if_neg (by omega), if_pos (by omega), show n + 1 + 1 - 1 = n + 1 by omega, hv2, if_pos q, hk]
      · rw [if_neg q] at hk
        obtain ⟨fu, hfu⟩ := hk (upd g2 n (reckS (nI (sgC ch)) v w)) (fun i hi => by rw [upd_n _ (by omega), hg2 i (by omega), hg1 i hi]) (upd_s _ _ _)
        refine ⟨fu + 1, ?_⟩
        unfold rkS
        rw [if_neg (by omega), hc, e1, if_neg (by omega), if_neg (by omega), if_neg (by omega), if_neg (by omega), if_pos (by omega), show n + 1 + 1 - 1 = n + 1 by omega, hv2, if_neg q, show n + 1 + 1 - 2 = n by omega, ev]; exact hfu
/-- it looks at the nine facts alone -/
def nineD {α : Type} (d : FF → Option α) : Prop := ∀ F F', (∀ i, i < 9 → F i = F' i) → d F = d F'
theorem nineD_sg {c : Nat} {x y : SDn} (hx : nineD x) (hy : nineD y) : nineD (sgD c x y) := fun F F' h => by
  unfold sgD; rw [hx F F' h, hy F F' h]
/-- the list's codes are the sum: wherever they lie they come to it; small, short, by the nine facts -/
def SegL (l : List Nat) (d : SDn) : Prop := (∀ cd b, CS cd b l → Seg cd b (b + l.length) d) ∧ 1 ≤ l.length ∧ (∀ x ∈ l, x < 2 ^ 31) ∧ nineD d
theorem SegL_bin {l1 l2 : List Nat} {d1 d2 : SDn} {ch : Nat} (h1 : SegL l1 d1) (h2 : SegL l2 d2) (hs : mulC ch = true ∨ addC ch = true) : SegL (l1 ++ l2 ++ [UN * sgC ch]) (sgD ch d1 d2) := by
  have hsb : 2 ≤ sgC ch ∧ sgC ch ≤ 6 := by
    rcases hs with q | q
    · have := sgn_mul q; omega
    · have := sgn_add q; omega
  refine ⟨fun cd b h => ?_, by rw [List.length_append, List.length_singleton]; omega, fun x hx => ?_, nineD_sg h1.2.2.2 h2.2.2.2⟩
  · rw [List.append_assoc, CS_app, CS_app] at h
    have e : b + (l1 ++ l2 ++ [UN * sgC ch]).length = b + l1.length + l2.length + 1 := by simp only [List.length_append, List.length_singleton]; omega
    rw [e]
    have := h1.2.1; have := h2.2.1
    exact Seg_bin (h1.1 cd b h.1) (h2.1 cd _ h.2.1) (by omega) (by omega) hs h.2.2.1
  · rcases List.mem_append.mp hx with hx | hx
    · rcases List.mem_append.mp hx with hx | hx
      · exact h1.2.2.1 x hx
      · exact h2.2.2.1 x hx
    · rw [List.mem_singleton.mp hx]
      have : UN * sgC ch ≤ 1048576 * 6 := Nat.mul_le_mul_left _ hsb.2
      omega
theorem rdE_seg {f : Nat → Int32} {n : Nat} : ∀ k,
    (∀ op p a r, p ≤ n → rdE f n k 0 op p a = .inr r → SegL r.1.1 r.1.2 ∧ r.1.1.length ≤ r.2 - p) ∧
    (∀ op p a r, p ≤ n → SegL a.1 a.2 → rdE f n k 1 op p a = .inr r → SegL r.1.1 r.1.2 ∧ r.1.1.length ≤ a.1.length + (r.2 - p)) ∧
    (∀ op p a r, p ≤ n → SegL a.1 a.2 → mulC (ckN f n p) = false → rdE f n k 2 op p a = .inr r → SegL r.1.1 r.1.2 ∧ r.1.1.length ≤ a.1.length + (r.2 - p)) ∧
    (∀ op p a r, p ≤ n → rdE f n k 3 op p a = .inr r → SegL r.1.1 r.1.2 ∧ r.1.1.length ≤ r.2 - p) := by
  intro k
  induction k with
  | zero => exact ⟨fun _ _ _ _ _ h => (by cases h), fun _ _ _ _ _ _ h => (by cases h), fun _ _ _ _ _ _ _ h => (by cases h), fun _ _ _ _ _ h => (by cases h)⟩
  | succ k ih =>
    obtain ⟨i0, i1, i2, i3⟩ := ih
    refine ⟨fun op p a r hp h => ?_, fun op p a r hp ha h => ?_, fun op p a r hp ha hmu h => ?_, fun op p a r hp h => ?_⟩
    · unfold rdE at h
      split at h
      · rename_i h91
        have hpn := ckN_in (by decide) h91
        split at h
        · cases h
        · cases hq : rdE f n k 3 (op + 1) (p + 1) a with
          | inl e1 => rw [hq] at h; cases h
          | inr r1 =>
            rw [hq] at h; dsimp only [bW] at h
            split at h
            · cases h
              have h1 := i3 (op + 1) (p + 1) a r1 (by omega) hq
              exact ⟨h1.1, by show r1.1.1.length ≤ r1.2 + 1 - p; omega⟩
            · cases h
      · split at h
        · rename_i hd
          cases hv : numL f n p with
          | inl e1 => rw [hv] at h; cases h
          | inr v =>
            rw [hv] at h; cases h
            have hb := numL_b hd hv
            refine ⟨⟨fun cd b hc => Seg_num hc.1 (by show v.1 < 1048576; omega), Nat.le_refl _, fun x hx => ?_, fun _ _ _ => rfl⟩, by show 1 ≤ v.2 - p; omega⟩
            rw [List.mem_singleton.mp hx]; omega
        · split at h
          · rename_i i hl
            cases h
            have hi := (letN_lt hl).1
            refine ⟨⟨fun cd b hc => Seg_let hc.1 hi, Nat.le_refl _, fun x hx => ?_, fun F F' hF => by show some (F i) = some (F' i); rw [hF i hi]⟩, by show 1 ≤ p + 1 - p; omega⟩
            rw [List.mem_singleton.mp hx]; show 1048576 + i < _; omega
          · cases h
    · unfold rdE at h
      split at h
      · rename_i hm
        have hpn : p < n := Nat.not_le.mp fun q => by rw [ckN_f (by omega)] at hm; exact absurd hm (by decide)
        cases hq : rdE f n k 0 op (p + 1) a with
        | inl e1 => rw [hq] at h; cases h
        | inr r1 =>
          rw [hq] at h
          have hb := (rdE_b (f := f) (k := k) (op := op) (a := a) (r := r1) (show p + 1 ≤ n by omega)).1 hq
          have h1 := i0 op (p + 1) a r1 (by omega) hq
          have hb2 := (rdE_b (f := f) (k := k) (op := op) (a := (a.1 ++ r1.1.1 ++ [UN * sgC (ckN f n p)], sgD (ckN f n p) a.2 r1.1.2)) (r := r) hb.2).2.1 h
          have h2 := i1 op r1.2 _ r hb.2 (SegL_bin ha h1.1 (Or.inl hm)) h
          simp only [List.length_append, List.length_singleton] at h2
          exact ⟨h2.1, by omega⟩
      · cases h; exact ⟨ha, by show a.1.length ≤ a.1.length + (p - p); omega⟩
    · unfold rdE at h
      split at h
      · rename_i hm
        have hpn : p < n := Nat.not_le.mp fun q => by rw [ckN_f (by omega)] at hm; exact absurd hm (by decide)
        cases hq : rdE f n k 0 op (p + 1) a with
        | inl e1 => rw [hq] at h; cases h
        | inr r1 =>
          rw [hq] at h
          have hb := (rdE_b (f := f) (k := k) (op := op) (a := a) (r := r1) (show p + 1 ≤ n by omega)).1 hq
          have h1 := i0 op (p + 1) a r1 (by omega) hq
          change bW (rdE f n k 1 op r1.2 r1.1) _ = _ at h
          cases hq2 : rdE f n k 1 op r1.2 r1.1 with
          | inl e1 => rw [hq2] at h; cases h
          | inr r2 =>
            rw [hq2] at h
            have hb2 := (rdE_b (f := f) (k := k) (op := op) (a := r1.1) (r := r2) hb.2).2.1 hq2
            have hm2 := rdE_m hb.2 hq2
            have h2 := i1 op r1.2 r1.1 r2 hb.2 h1.1 hq2
            have hb3 := (rdE_b (f := f) (k := k) (op := op) (a := (a.1 ++ r2.1.1 ++ [UN * sgC (ckN f n p)], sgD (ckN f n p) a.2 r2.1.2)) (r := r) hb2.2).2.2.1 hm2 h
            have h3 := i2 op r2.2 _ r hb2.2 (SegL_bin ha h2.1 (Or.inr hm)) hm2 h
            simp only [List.length_append, List.length_singleton] at h3
            exact ⟨h3.1, by omega⟩
      · cases h; exact ⟨ha, by show a.1.length ≤ a.1.length + (p - p); omega⟩
    · unfold rdE at h
      cases hq : rdE f n k 0 op p a with
      | inl e1 => rw [hq] at h; cases h
      | inr r1 =>
        rw [hq] at h
        have hb := (rdE_b (f := f) (k := k) (op := op) (a := a) (r := r1) hp).1 hq
        have h1 := i0 op p a r1 hp hq
        change bW (rdE f n k 1 op r1.2 r1.1) _ = _ at h
        cases hq2 : rdE f n k 1 op r1.2 r1.1 with
        | inl e1 => rw [hq2] at h; cases h
        | inr r2 =>
          rw [hq2] at h
          have hb2 := (rdE_b (f := f) (k := k) (op := op) (a := r1.1) (r := r2) hb.2).2.1 hq2
          have hm2 := rdE_m hb.2 hq2
          have h2 := i1 op r1.2 r1.1 r2 hb.2 h1.1 hq2
          have hb3 := (rdE_b (f := f) (k := k) (op := op) (a := r2.1) (r := r) hb2.2).2.2.1 hm2 h
          have h3 := i2 op r2.2 _ r hb2.2 h2.1 hm2 h
          exact ⟨h3.1, by omega⟩
