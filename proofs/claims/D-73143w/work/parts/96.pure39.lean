set_option maxRecDepth 100000
/-! for the walks of clauses and of the law -/
theorem hereI_ckn {f : Nat → Int32} {n p : Nat} (h : p < n) : hereI f n p = nI (ckN f n p) := by rw [hereI_t h, ckN_t h]
theorem isRu_i {f : Nat → Int32} {n p : Nat} (h : hereI f n p = 99 ∨ hereI f n p = 106 ∨ hereI f n p = 120) : isRuC (ckN f n p) = true := by
  unfold isRuC
  rcases h with h | h | h
  · rw [(hereI_eq (f := f) (n := n) (p := p) (c := 99) (by decide)).mp h]; rfl
  · rw [(hereI_eq (f := f) (n := n) (p := p) (c := 106) (by decide)).mp h]; rfl
  · rw [(hereI_eq (f := f) (n := n) (p := p) (c := 120) (by decide)).mp h]; rfl
theorem isRu_n {f : Nat → Int32} {n p : Nat} (h1 : ¬ hereI f n p = 99) (h2 : ¬ hereI f n p = 106) (h3 : ¬ hereI f n p = 120) : ¬ isRuC (ckN f n p) = true := by
  have k1 : ¬ ckN f n p = 99 := mt (hereI_eq (c := 99) (by decide)).mpr h1
  have k2 : ¬ ckN f n p = 106 := mt (hereI_eq (c := 106) (by decide)).mpr h2
  have k3 : ¬ ckN f n p = 120 := mt (hereI_eq (c := 120) (by decide)).mpr h3
  unfold isRuC
  rw [decide_eq_false k1, decide_eq_false k2, decide_eq_false k3]; decide
def ruPost (f : Nat → Int32) (n m p : Nat) (cs : List Nat) (ok : Bool) (pl fa cm sm : Int32) (x L A B C L0 A0 B0 C0 : Nat → Int32) : Prop := match ruleE f n m p cs.length with
  | .inl e => ok = false ∧ fa = wrI e.1 e.2
  | .inr r => ok = true ∧ pl = nI r.2 ∧ sm = nI (m + 1) ∧ cm = nI (cs ++ (r.1.2.1.1 ++ r.1.2.2.1)).length ∧ csA (cs ++ (r.1.2.1.1 ++ r.1.2.2.1)) x ∧ L = upd L0 m (nI r.1.1) ∧ A = upd A0 m (nI cs.length) ∧ B = upd B0 m (nI (cs.length + r.1.2.1.1.length)) ∧ C = upd C0 m (nI (cs.length + lenR r.1))
section RUP
variable {f : Nat → Int32} {n m p : Nat} {cs : List Nat} {ok : Bool} {pl fa cm sm : Int32} {x L A B C L0 A0 B0 C0 : Nat → Int32}
theorem ruP_1 (h : ¬ isRuC (ckN f n p) = true) (hf : fa = wrI 1 p) : ruPost f n m p cs false pl fa cm sm x L A B C L0 A0 B0 C0 := by
  unfold ruPost ruleE; rw [if_neg h]; exact ⟨rfl, hf⟩
theorem ruP_4 (h : isRuC (ckN f n p) = true) (hm : m = 16) (hf : fa = wrI 4 p) : ruPost f n m p cs false pl fa cm sm x L A B C L0 A0 B0 C0 := by
  unfold ruPost ruleE; rw [if_pos h, if_pos hm]; exact ⟨rfl, hf⟩
theorem ruP_h {e : Nat × Nat} (h : isRuC (ckN f n p) = true) (hm : ¬ m = 16) (hh : halfE f n p = .inl e) (hf : fa = wrI e.1 e.2) : ruPost f n m p cs false pl fa cm sm x L A B C L0 A0 B0 C0 := by
  unfold ruPost ruleE; rw [if_pos h, if_neg hm, hh]; exact ⟨rfl, hf⟩
theorem ruP_c {e : Nat × Nat} {s : SA × Nat} (h : isRuC (ckN f n p) = true) (hm : ¬ m = 16) (hh : halfE f n p = .inr s) (hc : conW f n s.2 (cs.length + s.1.1.length) = .inl e) (hf : fa = wrI e.1 e.2) : ruPost f n m p cs false pl fa cm sm x L A B C L0 A0 B0 C0 := by
  unfold ruPost ruleE; rw [if_pos h, if_neg hm, hh]; dsimp only [bW]; rw [hc]; exact ⟨rfl, hf⟩
theorem ruP_ok {s : SA × Nat} {r : CA × Nat} {cs1 cs' : List Nat} (h : isRuC (ckN f n p) = true) (hp : p < n) (hm : ¬ m = 16) (hh : halfE f n p = .inr s) (hc : conW f n s.2 (cs.length + s.1.1.length) = .inr r) (e1 : cs' = cs ++ (s.1.1 ++ r.1.1)) (e2 : cs1.length = cs.length + s.1.1.length) (hpl : pl = nI r.2) (hsm : sm = nI (m + 1)) (hcm : cm = nI cs'.length) (hx : csA cs' x) (hL : L = upd L0 m (hereI f n p)) (hA : A = upd A0 m (nI cs.length)) (hB : B = upd B0 m (nI cs1.length)) (hC : C = upd C0 m (nI cs'.length)) : ruPost f n m p cs true pl fa cm sm x L A B C L0 A0 B0 C0 := by
  unfold ruPost ruleE; rw [if_pos h, if_neg hm, hh]; dsimp only [bW]; rw [hc]; dsimp only
  subst e1
  refine ⟨rfl, hpl, hsm, hcm, hx, by rw [hL, hereI_ckn hp], hA, by rw [hB, e2], ?_⟩
  rw [hC, List.length_append, List.length_append]; rfl
theorem ruP_f (h : ruPost f n m p cs ok pl fa cm sm x L A B C L0 A0 B0 C0) (hk : ok = false) : ∃ e, ruleE f n m p cs.length = .inl e ∧ fa = wrI e.1 e.2 := by
  unfold ruPost at h
  split at h
  · rename_i e he; exact ⟨e, he, h.2⟩
  · rw [h.1] at hk; exact Bool.noConfusion hk
theorem ruP_t (h : ruPost f n m p cs ok pl fa cm sm x L A B C L0 A0 B0 C0) (hk : ok = true) : ∃ r, ruleE f n m p cs.length = .inr r ∧ pl = nI r.2 ∧ sm = nI (m + 1) ∧ cm = nI (cs ++ (r.1.2.1.1 ++ r.1.2.2.1)).length ∧ csA (cs ++ (r.1.2.1.1 ++ r.1.2.2.1)) x ∧ L = upd L0 m (nI r.1.1) ∧ A = upd A0 m (nI cs.length) ∧ B = upd B0 m (nI (cs.length + r.1.2.1.1.length)) ∧ C = upd C0 m (nI (cs.length + lenR r.1)) := by
  unfold ruPost at h
  split at h
  · rw [h.1] at hk; exact Bool.noConfusion hk
  · rename_i r hr; exact ⟨r, hr, h.2⟩
end RUP
/-- what is left of the law behind a clause -/
def restE (f : Nat → Int32) (n k : Nat) (rs : List RL) (p : Nat) : (Nat × Nat) ⊕ List RL := if p < n then (if ckN f n p = 59 then rulesE f n k rs (codR rs).length (p + 1) else .inl (1, p)) else .inr rs
theorem rulesE_f {f : Nat → Int32} {n k p : Nat} {rs : List RL} {e : Nat × Nat} (h : ruleE f n rs.length p (codR rs).length = .inl e) : rulesE f n (k + 1) rs (codR rs).length p = .inl e := by
  show bW (ruleE f n rs.length p (codR rs).length) _ = _; rw [h]; rfl
theorem rulesE_t {f : Nat → Int32} {n k p : Nat} {rs : List RL} {r : RL × Nat} (h : ruleE f n rs.length p (codR rs).length = .inr r) : rulesE f n (k + 1) rs (codR rs).length p = restE f n k (rs ++ [r.1]) r.2 := by
  show bW (ruleE f n rs.length p (codR rs).length) _ = _; rw [h]
  unfold restE
  rw [codR_len]; rfl
/-- the reference's state between clauses -/
def lwP (f : Nat → Int32) (n bb : Nat) (good : Bool) (pl fa cm sm : Int32) (x L A B C : Nat → Int32) : Prop :=
  if good = true then ∃ k rs p, lawE f n = restE f n k rs p ∧ n ≤ p + k ∧ n ≤ p + bb ∧ (p ≤ n ∧ rs.length ≤ 16 ∧ (codR rs).length ≤ p) ∧ (pl = nI p ∧ sm = nI rs.length ∧ cm = nI (codR rs).length) ∧ csA (codR rs) x ∧ arR rs L A B C ∧ okR rs
  else ∃ e, lawE f n = .inl e ∧ fa = wrI e.1 e.2
section LWP
variable {f : Nat → Int32} {n bb : Nat} {good : Bool} {pl fa cm sm : Int32} {x L A B C : Nat → Int32}
theorem lwP_f (h : lwP f n bb good pl fa cm sm x L A B C) (hk : good = false) : ∃ e, lawE f n = .inl e ∧ fa = wrI e.1 e.2 := by
  unfold lwP at h; rw [if_neg (by rw [hk]; decide)] at h; exact h
theorem lwP_t (h : lwP f n bb good pl fa cm sm x L A B C) (hk : good = true) : ∃ k rs p, lawE f n = restE f n k rs p ∧ n ≤ p + k ∧ n ≤ p + bb ∧ (p ≤ n ∧ rs.length ≤ 16 ∧ (codR rs).length ≤ p) ∧ (pl = nI p ∧ sm = nI rs.length ∧ cm = nI (codR rs).length) ∧ csA (codR rs) x ∧ arR rs L A B C ∧ okR rs := by
  unfold lwP at h; rw [if_pos hk] at h; exact h
theorem lwP_bad {e : Nat × Nat} (h : lawE f n = .inl e) (hf : fa = wrI e.1 e.2) : lwP f n bb false pl fa cm sm x L A B C := by
  unfold lwP; rw [if_neg (by decide)]; exact ⟨e, h, hf⟩
/-- a clause more -/
theorem lwP_ru {k p : Nat} {rs : List RL} {ok : Bool} {L0 A0 B0 C0 : Nat → Int32} (hn : n ≤ 240) (hL : lawE f n = rulesE f n (k + 1) rs (codR rs).length p) (hk : n ≤ p + k) (hb : n ≤ p + bb + 1) (hm : rs.length ≤ 16) (hcl : (codR rs).length ≤ p) (ha : arR rs L0 A0 B0 C0) (ho : okR rs) (h : ruPost f n rs.length p (codR rs) ok pl fa cm sm x L A B C L0 A0 B0 C0) : lwP f n bb ok pl fa cm sm x L A B C := by
  cases ok with
  | false =>
    obtain ⟨e, h1, h2⟩ := ruP_f h rfl
    exact lwP_bad (hL.trans (rulesE_f h1)) h2
  | true =>
    obtain ⟨r, h1, h2, h3, h4, h5, rfl, rfl, rfl, rfl⟩ := ruP_t h rfl
    have hr := ruleE_b h1
    obtain ⟨_, hr1, hr2⟩ := ruleE_seg hn hcl h1
    have hm16 : ¬ rs.length = 16 := fun q => by
      unfold ruleE at h1
      by_cases hc : isRuC (ckN f n p) = true
      · rw [if_pos hc, if_pos q] at h1; cases h1
      · rw [if_neg hc] at h1; cases h1
    have hle : (codR (rs ++ [r.1])).length = (codR rs).length + lenR r.1 := codR_len rs r.1
    have ea := codR_app rs r.1
    unfold lwP; rw [if_pos rfl]
    refine ⟨k, rs ++ [r.1], r.2, hL.trans (rulesE_t h1), by omega, by omega, ⟨hr.2.1, by rw [List.length_append, List.length_singleton]; omega, by omega⟩, ⟨h2, by rw [List.length_append]; exact h3, by rw [ea]; exact h4⟩, by rw [ea]; exact h5, arR_push ha rfl rfl rfl rfl, okR_push ho hr1 hr2⟩
end LWP
def cpA (k : Nat) (x a : Nat → Int32) (y : Nat → Int32) : Prop := ∀ j, y j = if j < k then x j else a j
theorem cpA_0 (x a : Nat → Int32) : cpA 0 x a a := fun j => by rw [if_neg (Nat.not_lt_zero j)]
theorem cpA_s {k : Nat} {x a y : Nat → Int32} (h : cpA k x a y) : cpA (k + 1) x a (upd y k (x k)) := fun j => by
  by_cases e : j = k
  · subst e; rw [upd_s, if_pos (Nat.lt_succ_self _)]
  · rw [upd_n _ e, h j]
    by_cases q : j < k
    · rw [if_pos q, if_pos (by omega)]
    · rw [if_neg q, if_neg (by omega)]
theorem arR_cp {l : List RL} {L A B C L0 A0 B0 C0 y1 y2 y3 y4 : Nat → Int32} (h : arR l L A B C) (h1 : cpA l.length L L0 y1) (h2 : cpA l.length A A0 y2) (h3 : cpA l.length B B0 y3) (h4 : cpA l.length C C0 y4) : arR l y1 y2 y3 y4 := fun q hq => by
  rw [h1 q, h2 q, h3 q, h4 q, if_pos hq, if_pos hq, if_pos hq, if_pos hq]; exact h q hq
theorem tkL_t {f : Nat → Int32} {n p c0 : Nat} {ok : Bool} {pl fa : Int32} (h : if ckN f n p = c0 then ok = true ∧ pl = nI (p + 1) else ok = false ∧ fa = wrI 1 p) (hk : ok = true) : ckN f n p = c0 ∧ pl = nI (p + 1) := by
  split at h
  · rename_i q; exact ⟨q, h.2⟩
  · rw [h.1] at hk; exact Bool.noConfusion hk
theorem tkL_f {f : Nat → Int32} {n p c0 : Nat} {ok : Bool} {pl fa : Int32} (h : if ckN f n p = c0 then ok = true ∧ pl = nI (p + 1) else ok = false ∧ fa = wrI 1 p) (hk : ok = false) : ¬ ckN f n p = c0 ∧ fa = wrI 1 p := by
  split at h
  · rw [h.1] at hk; exact Bool.noConfusion hk
  · rename_i q; exact ⟨q, h.2⟩
