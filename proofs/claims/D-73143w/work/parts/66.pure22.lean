set_option maxRecDepth 100000
/-! S: sales -/
def cmpF (f : Nat → Int32) (n : Nat) : Nat → Nat → Nat → (Nat → Int32) → Nat → Int32
  | 0, _, _, tk, t => tk t
  | m + 1, p, s, tk, t => cmpF f n m (p + 1) (s ||| 2 ^ pickN f n p s n 0) (upd tk (pickN f n p s n 0) (nI p)) t
def sellP (f : Nat → Int32) (n p s sm b : Nat) (tk0 so0 tk so : Nat → Int32) (mw : Int32) : Prop :=
  (∀ t, s.testBit t = true → tk t = tk0 t) ∧ ((sm + slF f n s < b ∧ mw = nI b - 1 ∧ so = so0) ∨ (b ≤ sm + slF f n s ∧ mw = nI (sm + slF f n s) ∧ ∀ t, t < n → so t = cmpF f n (n - p) p s tk0 t))
theorem full_bit {n s : Nat} (hn : n ≤ 16) (hs : s < 2 ^ n) (h : cntN s = n) : ∀ t, t < n → s.testBit t = true := by
  intro t ht
  cases e : s.testBit t with
  | true => rfl
  | false => have := cntN_miss hn hs ht e; omega
theorem slI_full {f : Nat → Int32} {n s : Nat} {g : Nat → Nat} : ∀ t, (∀ j, j < t → s.testBit j = true) → slI f n g s t = 0 := by
  intro t
  induction t with
  | zero => intro _; rfl
  | succ t ih => intro h; rw [slI_u (h t (by omega))]; exact ih (fun j hj => h j (by omega))
theorem slF_full {f : Nat → Int32} {n s : Nat} (hn : n ≤ 16) (hs : s < 2 ^ n) (h : cntN s = n) : slF f n s = 0 := by
  rw [slF_eq hs]; exact slI_full n (full_bit hn hs h)
abbrev valN (f : Nat → Int32) (n p s t : Nat) : Nat := worN f n p t + slF f n (s ||| 2 ^ t)
theorem slI_le2 {f : Nat → Int32} {n s M : Nat} : ∀ t, (∀ j, j < t → s.testBit j = false → valN f n (cntN s) s j ≤ M) → slI f n (slF f n) s t ≤ M := by
  intro t
  induction t with
  | zero => intro _; exact Nat.zero_le _
  | succ t ih =>
    intro h
    cases e : s.testBit t with
    | true => rw [slI_u e]; exact ih (fun j hj => h j (by omega))
    | false => rw [slI_p e]; exact Nat.max_le.mpr ⟨ih (fun j hj => h j (by omega)), h t (by omega) e⟩
theorem slI_ge2 {f : Nat → Int32} {n s j : Nat} (hj : s.testBit j = false) : ∀ t, j < t → valN f n (cntN s) s j ≤ slI f n (slF f n) s t := by
  intro t
  induction t with
  | zero => intro h; omega
  | succ t ih =>
    intro h
    cases e : s.testBit t with
    | true =>
      rw [slI_u e]
      by_cases q : j = t
      · subst q; rw [hj] at e; cases e
      · exact ih (by omega)
    | false =>
      rw [slI_p e]
      by_cases q : j = t
      · subst q; exact Nat.le_max_right _ _
      · exact Nat.le_trans (ih (by omega)) (Nat.le_max_left _ _)
theorem pick_free {f : Nat → Int32} {n p s : Nat} (hn : n ≤ 8) (hs : s < 2 ^ n) (hc : cntN s = p) (hp : p < n) : s.testBit (pickN f n p s n 0) = false ∧ valN f n p s (pickN f n p s n 0) = slF f n s ∧ pickN f n p s n 0 < n ∧ ∀ j, j < pickN f n p s n 0 → s.testBit j = false → valN f n p s j ≠ slF f n s := by
  obtain ⟨t, a, b⟩ := some_free (by omega) hs (by omega)
  have hg := slI_get (f := f) (n := n) (g := slF f n) n ⟨t, a, b⟩
  rw [← slF_eq hs, hc] at hg
  obtain ⟨j, j1, j2, j3⟩ := hg
  obtain ⟨⟨q1, q2⟩, q3, q4, q5⟩ := pickN_spec (f := f) (n := n) (p := p) (s := s) n 0 ⟨j, by omega, by omega, j2, j3⟩
  refine ⟨q1, q2, by omega, fun i hi hb hv => ?_⟩
  rcases q5 i (Nat.zero_le _) hi with z | z
  · rw [hb] at z; cases z
  · exact z hv
theorem cmp_gone {f : Nat → Int32} {n : Nat} (hn : n ≤ 8) : ∀ m p s (tk : Nat → Int32) t, s < 2 ^ n → cntN s = p → p + m = n → s.testBit t = true → cmpF f n m p s tk t = tk t := by
  intro m
  induction m with
  | zero => intro p s tk t _ _ _ _; rfl
  | succ m ih =>
    intro p s tk t hs hc hp ht
    obtain ⟨h1, _, h3, _⟩ := pick_free (f := f) hn hs hc (by omega)
    show cmpF f n m (p + 1) _ _ t = tk t
    rw [ih (p + 1) _ _ t (or_lt hs h3) (by rw [cntN_or h1 (by omega), hc]) (by omega) (by rw [Nat.testBit_or, ht]; rfl)]
    refine upd_n _ (fun e => ?_)
    rw [e, h1] at ht; cases ht
theorem cmp_congr {f : Nat → Int32} {n : Nat} (hn : n ≤ 8) : ∀ m p s (tk tk' : Nat → Int32), s < 2 ^ n → cntN s = p → p + m = n → (∀ t, s.testBit t = true → tk t = tk' t) → ∀ t, t < n → cmpF f n m p s tk t = cmpF f n m p s tk' t := by
  intro m
  induction m with
  | zero => intro p s tk tk' hs hc hp h t ht; exact h t (full_bit (by omega) hs (by omega) t ht)
  | succ m ih =>
    intro p s tk tk' hs hc hp h t ht
    obtain ⟨h1, _, h3, _⟩ := pick_free (f := f) hn hs hc (by omega)
    refine ih (p + 1) _ _ _ (or_lt hs h3) (by rw [cntN_or h1 (by omega), hc]) (by omega) (fun i hi => ?_) t ht
    unfold upd
    split
    · rfl
    · next hne =>
      rw [Nat.testBit_or] at hi
      refine h i ?_
      cases e : s.testBit i with
      | true => rfl
      | false =>
        rw [e, Bool.false_or, Nat.testBit_two_pow] at hi
        exact absurd (of_decide_eq_true hi).symm hne
/-- turns below t tried -/
def tryP (f : Nat → Int32) (n p s sm b t : Nat) (tk0 so0 so : Nat → Int32) (mw : Int32) (bc : Nat) : Prop :=
  mw = nI bc - 1 ∧ bc ≤ 70001 ∧ (((∀ j, j < t → s.testBit j = false → sm + valN f n p s j < b) ∧ bc = b ∧ so = so0) ∨ (∃ j0, j0 < t ∧ s.testBit j0 = false ∧ valN f n p s j0 = slI f n (slF f n) s t ∧ (∀ j, j < j0 → s.testBit j = false → valN f n p s j < slI f n (slF f n) s t) ∧ b ≤ sm + slI f n (slF f n) s t ∧ bc = sm + slI f n (slF f n) s t + 1 ∧ ∀ i, i < n → so i = cmpF f n (n - (p + 1)) (p + 1) (s ||| 2 ^ j0) (upd tk0 j0 (nI p)) i))
theorem try_u {f : Nat → Int32} {n p s sm b t bc : Nat} {tk0 so0 so : Nat → Int32} {mw : Int32} (h : tryP f n p s sm b t tk0 so0 so mw bc) (ht : s.testBit t = true) : tryP f n p s sm b (t + 1) tk0 so0 so mw bc := by
  obtain ⟨h1, h2, h3⟩ := h
  refine ⟨h1, h2, ?_⟩
  rcases h3 with ⟨h3, h4, h5⟩ | ⟨j0, h3, h4, h5, h6, h7, h8, h9⟩
  · refine Or.inl ⟨fun j hj hb => ?_, h4, h5⟩
    by_cases e : j = t
    · subst e; rw [ht] at hb; cases hb
    · exact h3 j (by omega) hb
  · rw [← slI_u (f := f) (n := n) (g := slF f n) ht] at h5 h6 h7 h8
    exact Or.inr ⟨j0, by omega, h4, h5, h6, h7, h8, h9⟩
theorem try_p {f : Nat → Int32} {n p s sm b t bc : Nat} {tk0 so0 so tk tk1 so1 : Nat → Int32} {mw mw1 : Int32} (hn : n ≤ 8) (hs : s < 2 ^ n) (hc : cntN s = p) (htn : t < n) (htk : ∀ i, s.testBit i = true → tk i = tk0 i) (h : tryP f n p s sm b t tk0 so0 so mw bc) (ht : s.testBit t = false) (hsm : sm + valN f n p s t ≤ 70000)
    (hq : sellP f n (p + 1) (s ||| 2 ^ t) (sm + worN f n p t) bc (upd tk t (nI p)) so tk1 so1 mw1) : ∃ bc1, tryP f n p s sm b (t + 1) tk0 so0 so1 mw1 bc1 := by
  obtain ⟨h1, h2, h3⟩ := h
  obtain ⟨_, hq⟩ := hq
  have hv : sm + worN f n p t + slF f n (s ||| 2 ^ t) = sm + valN f n p s t := by unfold valN; omega
  rw [hv] at hq
  have hI : slI f n (slF f n) s (t + 1) = max (slI f n (slF f n) s t) (valN f n p s t) := by rw [slI_p ht, hc]
  have hcm : ∀ i, i < n → cmpF f n (n - (p + 1)) (p + 1) (s ||| 2 ^ t) (upd tk t (nI p)) i = cmpF f n (n - (p + 1)) (p + 1) (s ||| 2 ^ t) (upd tk0 t (nI p)) i := by
    have hpn : p < n := by rw [← hc]; exact cntN_miss (by omega) hs htn ht
    refine cmp_congr hn _ _ _ _ _ (or_lt hs htn) (by rw [cntN_or ht (by omega), hc]) (by omega) (fun i hi => ?_)
    unfold upd
    split
    · rfl
    · next hne =>
      rw [Nat.testBit_or] at hi
      refine htk i ?_
      cases e : s.testBit i with
      | true => rfl
      | false =>
        rw [e, Bool.false_or, Nat.testBit_two_pow] at hi
        exact absurd (of_decide_eq_true hi).symm hne
  rcases hq with ⟨q1, q2, q3⟩ | ⟨q1, q2, q3⟩
  · refine ⟨bc, q2, h2, ?_⟩
    rcases h3 with ⟨h3, h4, h5⟩ | ⟨j0, h3, h4, h5, h6, h7, h8, h9⟩
    · refine Or.inl ⟨fun j hj hb => ?_, h4, q3.trans h5⟩
      by_cases e : j = t
      · subst e; omega
      · exact h3 j (by omega) hb
    · have e : slI f n (slF f n) s (t + 1) = slI f n (slF f n) s t := by rw [hI]; omega
      refine Or.inr ⟨j0, by omega, h4, ?_⟩
      rw [e, q3]
      exact ⟨h5, h6, h7, h8, h9⟩
  · have hlow : slI f n (slF f n) s t < valN f n p s t ∨ (∀ j, j < t → s.testBit j = false → valN f n p s j < valN f n p s t) := by
      rcases h3 with ⟨h3, h4, h5⟩ | ⟨j0, h3, h4, h5, h6, h7, h8, h9⟩
      · exact Or.inr (fun j hj hb => by have := h3 j hj hb; omega)
      · exact Or.inl (by omega)
    have hl2 : ∀ j, j < t → s.testBit j = false → valN f n p s j < valN f n p s t := by
      rcases hlow with z | z
      · intro j hj hb
        have := slI_ge2 (f := f) (n := n) hb t hj
        rw [hc] at this; omega
      · exact z
    have hl3 : slI f n (slF f n) s t ≤ valN f n p s t := slI_le2 t (fun j hj hb => by rw [hc]; exact Nat.le_of_lt (hl2 j hj hb))
    have e : slI f n (slF f n) s (t + 1) = valN f n p s t := by rw [hI]; omega
    refine ⟨sm + valN f n p s t + 1, ?_, by omega, Or.inr ⟨t, by omega, ht, e.symm, ?_, ?_, by rw [e], ?_⟩⟩
    · rw [q2, show nI (sm + valN f n p s t + 1) = nI (sm + valN f n p s t) + 1 from (nI_add _ 1).symm]; exact (Int32.add_sub_cancel _ _).symm
    · rw [e]; exact hl2
    · rw [e]
      rcases h3 with ⟨h3, h4, h5⟩ | ⟨j0, h3, h4, h5, h6, h7, h8, h9⟩
      · omega
      · omega
    · intro i hi
      rw [q3 i hi]; exact hcm i hi
theorem try_e {f : Nat → Int32} {n p s sm b bc : Nat} {tk0 so0 so tk : Nat → Int32} {mw : Int32} (hn : n ≤ 8) (hs : s < 2 ^ n) (hc : cntN s = p) (hp : p < n) (htk : ∀ i, s.testBit i = true → tk i = tk0 i) (h : tryP f n p s sm b n tk0 so0 so mw bc) : sellP f n p s sm b tk0 so0 tk so mw := by
  obtain ⟨h1, h2, h3⟩ := h
  refine ⟨htk, ?_⟩
  obtain ⟨p1, p2, p3, p4⟩ := pick_free (f := f) hn hs hc hp
  have e := slF_eq (f := f) hs
  rcases h3 with ⟨h3, h4, h5⟩ | ⟨j0, h3, h4, h5, h6, h7, h8, h9⟩
  · have := h3 _ p3 p1
    rw [p2] at this
    exact Or.inl ⟨this, by rw [h1, h4], h5⟩
  · rw [← e] at h5 h6 h7 h8
    refine Or.inr ⟨h7, ?_, ?_⟩
    · rw [h1, h8, ← nI_add]; exact Int32.add_sub_cancel _ _
    · have hj : pickN f n p s n 0 = j0 := by
        rcases Nat.lt_trichotomy (pickN f n p s n 0) j0 with q | q | q
        · have := h6 _ q p1; omega
        · exact q
        · exact absurd h5 (p4 j0 q h4)
      intro t ht
      rw [h9 t ht, show n - p = (n - (p + 1)) + 1 by omega]
      show _ = cmpF f n (n - (p + 1)) (p + 1) (s ||| 2 ^ pickN f n p s n 0) (upd tk0 (pickN f n p s n 0) (nI p)) t
      rw [hj]
theorem cmp_who {f : Nat → Int32} {n : Nat} (hn : n ≤ 8) {k : Nat} (hk : k < n) : ∀ m p (tk : Nat → Int32), p + m = n → (picksN f n p).testBit k = false → cmpF f n m p (picksN f n p) tk k = whoN f n (nI k) m p := by
  intro m
  induction m with
  | zero =>
    intro p tk hp hb
    obtain ⟨h1, h2⟩ := picks_ok (f := f) hn p (by omega)
    have := full_bit (by omega) h1 (by omega) k hk
    rw [hb] at this; cases this
  | succ m ih =>
    intro p tk hp hb
    obtain ⟨h1, h2⟩ := picks_ok (f := f) hn p (by omega)
    obtain ⟨p1, p2, p3, p4⟩ := pick_free (f := f) hn h1 h2 (by omega)
    show cmpF f n m (p + 1) (picksN f n (p + 1)) (upd tk (pickN f n p (picksN f n p) n 0) (nI p)) k = if nI (pickN f n p (picksN f n p) n 0) = nI k then nI p else whoN f n (nI k) m (p + 1)
    by_cases e : pickN f n p (picksN f n p) n 0 = k
    · rw [if_pos (by rw [e])]
      obtain ⟨h3, h4⟩ := picks_ok (f := f) hn (p + 1) (by omega)
      rw [cmp_gone hn m (p + 1) _ _ k h3 h4 (by omega) (by
        show (picksN f n p ||| 2 ^ pickN f n p (picksN f n p) n 0).testBit k = true
        rw [e, Nat.testBit_or, Nat.testBit_two_pow]; simp), e, upd_s]
    · rw [if_neg (fun h => e ((nI_eq (by omega) (by omega)).mp h))]
      exact ih (p + 1) _ (by omega) (by
        show (picksN f n p ||| 2 ^ pickN f n p (picksN f n p) n 0).testBit k = false
        rw [Nat.testBit_or, hb, Nat.testBit_two_pow]; simp [e])
theorem lt_pred {b m : Nat} (hb : b ≤ 70001) (hm : m ≤ 70000) : nI b - 1 < nI m ↔ b ≤ m := by
  rw [Int32.lt_iff_toInt_lt, show (1 : Int32) = nI 1 from rfl, pk_sub_toInt (by omega) (by omega), nI_toInt (by omega)]
  omega
theorem n_pred {n : Nat} (h0 : 1 ≤ n) (h : n ≤ 8) : (nI n).toInt = (nI n - 1).toInt + 1 := by
  rw [show (1 : Int32) = nI 1 from rfl, pk_sub_toInt (by omega) (by omega), nI_toInt (by omega)]; omega
theorem in_n {k : Int32} {n : Nat} (h0 : 1 ≤ n) (hn : n ≤ 8) (h : inB k 0 (nI n - 1) = true) : k = nI (ix k) ∧ ix k < n := by
  rw [show (1 : Int32) = nI 1 from rfl, pk_sub h0] at h
  obtain ⟨j, hj, e⟩ := inB_nI (n - 1) (m := nI (n - 1)) (nI_toInt (by omega)) h
  rw [e, ixn (by omega)]; exact ⟨rfl, by omega⟩
theorem sale_v {f : Nat → Int32} {n : Nat} {tk0 so0 tk so : Nat → Int32} {mw : Int32} (h : sellP f n 0 0 0 0 tk0 so0 tk so mw) : mw = nI (slF f n 0) := by
  rcases h.2 with z | z
  · exact absurd z.1 (Nat.not_lt_zero _)
  · rw [z.2.1, Nat.zero_add]
theorem sale_w {f : Nat → Int32} {n : Nat} {tk0 so0 tk so : Nat → Int32} {mw k : Int32} (hn : n ≤ 8) (h : sellP f n 0 0 0 0 tk0 so0 tk so mw) (hk : k = nI (ix k) ∧ ix k < n) : so (ix k) = whoN f n k n 0 := by
  rcases h.2 with z | z
  · exact absurd z.1 (Nat.not_lt_zero _)
  · rw [z.2.2 _ hk.2]
    have := cmp_who (f := f) hn hk.2 n 0 tk0 (by omega) (Nat.zero_testBit _)
    rw [← hk.1] at this
    exact this
def sE (u : MS) (v18 : Int32) (a16 : Nat → Int32) (a17 : Nat → Int32) : MS := (fun k => if k = 18 then v18 else u.1 k, fun k => if k = 16 then a16 else if k = 17 then a17 else u.2.1 k, u.2.2)
theorem sE_self (u : MS) : sE u (u.1 18) (u.2.1 16) (u.2.1 17) = u := by
  refine Prod.ext ?_ (Prod.ext ?_ rfl) <;> (funext k; simp only [sE]; all_goals ((repeat' split) <;> first | rfl | (subst_vars; rfl) | (rw [Nat.add_sub_cancel' (by omega)]; done) | (exfalso; omega) | simp_all))
theorem sE_again (u : MS) (v18 : Int32) (a16 : Nat → Int32) (a17 : Nat → Int32) (xv18 : Int32) (xa16 : Nat → Int32) (xa17 : Nat → Int32) : sE (sE u v18 a16 a17) xv18 xa16 xa17 = sE u xv18 xa16 xa17 := by
  refine Prod.ext ?_ (Prod.ext ?_ rfl) <;> (funext k; simp only [sE]; all_goals ((repeat' split) <;> first | rfl | (subst_vars; rfl) | (exfalso; omega) | simp_all))
theorem sE_V18 (u : MS) (v18 : Int32) (a16 : Nat → Int32) (a17 : Nat → Int32) (x : Int32) : mV (sE u v18 a16 a17) 18 x = sE u x a16 a17 := by
  refine Prod.ext ?_ rfl; funext k; simp only [sE, mV, upd]; all_goals ((repeat' split) <;> first | rfl | (subst_vars; rfl) | (exfalso; omega) | simp_all)
theorem sE_A16 (u : MS) (v18 : Int32) (a16 : Nat → Int32) (a17 : Nat → Int32) (i : Nat) (x : Int32) : mA (sE u v18 a16 a17) 16 i x = sE u v18 (upd a16 i x) a17 := by
  refine Prod.ext rfl (Prod.ext ?_ rfl); funext k; simp only [sE, mA, upd2]; all_goals ((repeat' split) <;> first | rfl | (subst_vars; rfl) | (exfalso; omega) | simp_all)
theorem sE_S16 (u : MS) (v18 : Int32) (a16 : Nat → Int32) (a17 : Nat → Int32) (x : Nat → Int32) : mS (sE u v18 a16 a17) 16 x = sE u v18 x a17 := by
  refine Prod.ext rfl (Prod.ext ?_ rfl); funext k; simp only [sE, mS]; all_goals ((repeat' split) <;> first | rfl | (subst_vars; rfl) | (exfalso; omega) | simp_all)
theorem sE_A17 (u : MS) (v18 : Int32) (a16 : Nat → Int32) (a17 : Nat → Int32) (i : Nat) (x : Int32) : mA (sE u v18 a16 a17) 17 i x = sE u v18 a16 (upd a17 i x) := by
  refine Prod.ext rfl (Prod.ext ?_ rfl); funext k; simp only [sE, mA, upd2]; all_goals ((repeat' split) <;> first | rfl | (subst_vars; rfl) | (exfalso; omega) | simp_all)
theorem sE_S17 (u : MS) (v18 : Int32) (a16 : Nat → Int32) (a17 : Nat → Int32) (x : Nat → Int32) : mS (sE u v18 a16 a17) 17 x = sE u v18 a16 x := by
  refine Prod.ext rfl (Prod.ext ?_ rfl); funext k; simp only [sE, mS]; all_goals ((repeat' split) <;> first | rfl | (subst_vars; rfl) | (exfalso; omega) | simp_all)
theorem sE_g1 (u : MS) (v18 : Int32) (a16 : Nat → Int32) (a17 : Nat → Int32) : (sE u v18 a16 a17).2.1 1 = (u.2.1 1) := rfl
theorem sE_g6 (u : MS) (v18 : Int32) (a16 : Nat → Int32) (a17 : Nat → Int32) : (sE u v18 a16 a17).2.1 6 = (u.2.1 6) := rfl
theorem sE_f8 (u : MS) (v18 : Int32) (a16 : Nat → Int32) (a17 : Nat → Int32) : (sE u v18 a16 a17).1 8 = (u.1 8) := rfl
theorem sE_f9 (u : MS) (v18 : Int32) (a16 : Nat → Int32) (a17 : Nat → Int32) : (sE u v18 a16 a17).1 9 = (u.1 9) := rfl
theorem sE_g14 (u : MS) (v18 : Int32) (a16 : Nat → Int32) (a17 : Nat → Int32) : (sE u v18 a16 a17).2.1 14 = (u.2.1 14) := rfl
theorem sE_g16 (u : MS) (v18 : Int32) (a16 : Nat → Int32) (a17 : Nat → Int32) : (sE u v18 a16 a17).2.1 16 = a16 := rfl
theorem sE_g17 (u : MS) (v18 : Int32) (a16 : Nat → Int32) (a17 : Nat → Int32) : (sE u v18 a16 a17).2.1 17 = a17 := rfl
theorem sE_f18 (u : MS) (v18 : Int32) (a16 : Nat → Int32) (a17 : Nat → Int32) : (sE u v18 a16 a17).1 18 = v18 := rfl
theorem sE_g20 (u : MS) (v18 : Int32) (a16 : Nat → Int32) (a17 : Nat → Int32) : (sE u v18 a16 a17).2.1 20 = (u.2.1 20) := rfl
theorem sE_g21 (u : MS) (v18 : Int32) (a16 : Nat → Int32) (a17 : Nat → Int32) : (sE u v18 a16 a17).2.1 21 = (u.2.1 21) := rfl
theorem sE_g22 (u : MS) (v18 : Int32) (a16 : Nat → Int32) (a17 : Nat → Int32) : (sE u v18 a16 a17).2.1 22 = (u.2.1 22) := rfl
theorem sE_g23 (u : MS) (v18 : Int32) (a16 : Nat → Int32) (a17 : Nat → Int32) : (sE u v18 a16 a17).2.1 23 = (u.2.1 23) := rfl
theorem sE_f24 (u : MS) (v18 : Int32) (a16 : Nat → Int32) (a17 : Nat → Int32) : (sE u v18 a16 a17).1 24 = (u.1 24) := rfl
theorem sE_f25 (u : MS) (v18 : Int32) (a16 : Nat → Int32) (a17 : Nat → Int32) : (sE u v18 a16 a17).1 25 = (u.1 25) := rfl
theorem sE_f30 (u : MS) (v18 : Int32) (a16 : Nat → Int32) (a17 : Nat → Int32) : (sE u v18 a16 a17).1 30 = (u.1 30) := rfl
theorem sE_f31 (u : MS) (v18 : Int32) (a16 : Nat → Int32) (a17 : Nat → Int32) : (sE u v18 a16 a17).1 31 = (u.1 31) := rfl
theorem sE_f32 (u : MS) (v18 : Int32) (a16 : Nat → Int32) (a17 : Nat → Int32) : (sE u v18 a16 a17).1 32 = (u.1 32) := rfl
theorem sE_f33 (u : MS) (v18 : Int32) (a16 : Nat → Int32) (a17 : Nat → Int32) : (sE u v18 a16 a17).1 33 = (u.1 33) := rfl
theorem sE_f34 (u : MS) (v18 : Int32) (a16 : Nat → Int32) (a17 : Nat → Int32) : (sE u v18 a16 a17).1 34 = (u.1 34) := rfl
theorem sE_f35 (u : MS) (v18 : Int32) (a16 : Nat → Int32) (a17 : Nat → Int32) : (sE u v18 a16 a17).1 35 = (u.1 35) := rfl
theorem sE_f36 (u : MS) (v18 : Int32) (a16 : Nat → Int32) (a17 : Nat → Int32) : (sE u v18 a16 a17).1 36 = (u.1 36) := rfl
theorem sE_f37 (u : MS) (v18 : Int32) (a16 : Nat → Int32) (a17 : Nat → Int32) : (sE u v18 a16 a17).1 37 = (u.1 37) := rfl
theorem sE_f38 (u : MS) (v18 : Int32) (a16 : Nat → Int32) (a17 : Nat → Int32) : (sE u v18 a16 a17).1 38 = (u.1 38) := rfl
theorem sE_f39 (u : MS) (v18 : Int32) (a16 : Nat → Int32) (a17 : Nat → Int32) : (sE u v18 a16 a17).1 39 = (u.1 39) := rfl
theorem sE_g40 (u : MS) (v18 : Int32) (a16 : Nat → Int32) (a17 : Nat → Int32) : (sE u v18 a16 a17).2.1 40 = (u.2.1 40) := rfl
theorem sE_f41 (u : MS) (v18 : Int32) (a16 : Nat → Int32) (a17 : Nat → Int32) : (sE u v18 a16 a17).1 41 = (u.1 41) := rfl
theorem sE_f42 (u : MS) (v18 : Int32) (a16 : Nat → Int32) (a17 : Nat → Int32) : (sE u v18 a16 a17).1 42 = (u.1 42) := rfl
theorem sE_f43 (u : MS) (v18 : Int32) (a16 : Nat → Int32) (a17 : Nat → Int32) : (sE u v18 a16 a17).1 43 = (u.1 43) := rfl
theorem sE_f44 (u : MS) (v18 : Int32) (a16 : Nat → Int32) (a17 : Nat → Int32) : (sE u v18 a16 a17).1 44 = (u.1 44) := rfl
theorem sE_f45 (u : MS) (v18 : Int32) (a16 : Nat → Int32) (a17 : Nat → Int32) : (sE u v18 a16 a17).1 45 = (u.1 45) := rfl
theorem sE_f46 (u : MS) (v18 : Int32) (a16 : Nat → Int32) (a17 : Nat → Int32) : (sE u v18 a16 a17).1 46 = (u.1 46) := rfl
theorem sE_g50 (u : MS) (v18 : Int32) (a16 : Nat → Int32) (a17 : Nat → Int32) : (sE u v18 a16 a17).2.1 50 = (u.2.1 50) := rfl
theorem sE_f51 (u : MS) (v18 : Int32) (a16 : Nat → Int32) (a17 : Nat → Int32) : (sE u v18 a16 a17).1 51 = (u.1 51) := rfl
theorem sE_f52 (u : MS) (v18 : Int32) (a16 : Nat → Int32) (a17 : Nat → Int32) : (sE u v18 a16 a17).1 52 = (u.1 52) := rfl
theorem sE_f53 (u : MS) (v18 : Int32) (a16 : Nat → Int32) (a17 : Nat → Int32) : (sE u v18 a16 a17).1 53 = (u.1 53) := rfl
theorem sE_f54 (u : MS) (v18 : Int32) (a16 : Nat → Int32) (a17 : Nat → Int32) : (sE u v18 a16 a17).1 54 = (u.1 54) := rfl
theorem sE_f55 (u : MS) (v18 : Int32) (a16 : Nat → Int32) (a17 : Nat → Int32) : (sE u v18 a16 a17).1 55 = (u.1 55) := rfl
theorem sE_f56 (u : MS) (v18 : Int32) (a16 : Nat → Int32) (a17 : Nat → Int32) : (sE u v18 a16 a17).1 56 = (u.1 56) := rfl
theorem sE_g60 (u : MS) (v18 : Int32) (a16 : Nat → Int32) (a17 : Nat → Int32) : (sE u v18 a16 a17).2.1 60 = (u.2.1 60) := rfl
theorem sE_f61 (u : MS) (v18 : Int32) (a16 : Nat → Int32) (a17 : Nat → Int32) : (sE u v18 a16 a17).1 61 = (u.1 61) := rfl
theorem sE_f62 (u : MS) (v18 : Int32) (a16 : Nat → Int32) (a17 : Nat → Int32) : (sE u v18 a16 a17).1 62 = (u.1 62) := rfl
theorem sE_f63 (u : MS) (v18 : Int32) (a16 : Nat → Int32) (a17 : Nat → Int32) : (sE u v18 a16 a17).1 63 = (u.1 63) := rfl
theorem sE_f64 (u : MS) (v18 : Int32) (a16 : Nat → Int32) (a17 : Nat → Int32) : (sE u v18 a16 a17).1 64 = (u.1 64) := rfl
theorem sE_f65 (u : MS) (v18 : Int32) (a16 : Nat → Int32) (a17 : Nat → Int32) : (sE u v18 a16 a17).1 65 = (u.1 65) := rfl
theorem sE_f66 (u : MS) (v18 : Int32) (a16 : Nat → Int32) (a17 : Nat → Int32) : (sE u v18 a16 a17).1 66 = (u.1 66) := rfl
