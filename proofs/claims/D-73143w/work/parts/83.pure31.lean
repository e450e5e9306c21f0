set_option maxRecDepth 100000
theorem clsB_t {al : Bool} {x : Nat} (h : (4 ≤ x / 1048576 ∧ x / 1048576 ≤ 6) ∨ (al = true ∧ (x / 1048576 = 2 ∨ x / 1048576 = 3))) : clsB al x = true := by
  show ((decide (4 ≤ x / 1048576) && decide (x / 1048576 ≤ 6)) || (al && (decide (x / 1048576 = 2) || decide (x / 1048576 = 3)))) = true
  rcases h with ⟨h1, h2⟩ | ⟨h1, h2 | h2⟩
  · rw [decide_eq_true h1, decide_eq_true h2]; rfl
  · rw [h1, decide_eq_true h2]; simp
  · rw [h1, decide_eq_true h2]; simp
theorem clsB_f {al : Bool} {x : Nat} (h : ¬ (4 ≤ x / 1048576 ∧ x / 1048576 ≤ 6)) (h2 : al = false ∨ (¬ x / 1048576 = 2 ∧ ¬ x / 1048576 = 3)) : clsB al x = false := by
  show ((decide (4 ≤ x / 1048576) && decide (x / 1048576 ≤ 6)) || (al && (decide (x / 1048576 = 2) || decide (x / 1048576 = 3)))) = false
  have e1 : (decide (4 ≤ x / 1048576) && decide (x / 1048576 ≤ 6)) = false := by
    by_cases q : 4 ≤ x / 1048576
    · rw [decide_eq_false (fun z => h ⟨q, z⟩), Bool.and_false]
    · rw [decide_eq_false q, Bool.false_and]
  rw [e1]
  rcases h2 with h2 | h2
  · rw [h2]; rfl
  · rw [decide_eq_false h2.1, decide_eq_false h2.2]; simp
theorem clsB_sg {al : Bool} {x : Nat} (h : clsB al x = true) : 2 ≤ x / UN ∧ x / UN ≤ 6 := by
  unfold clsB at h
  simp only [Bool.or_eq_true, Bool.and_eq_true, decide_eq_true_eq] at h
  omega
/-- above the base lie signs of sums and open brackets alone -/
def stG (base : Nat) (ws : List Nat) : Prop := ∀ k, base ≤ k → k < ws.length → (2 ≤ idx ws k / UN ∧ idx ws k / UN ≤ 6) ∨ idx ws k / UN = 14
/-- how many are open -/
def cntO : List Nat → Nat
  | [] => 0
  | x :: ws => (if x / UN = 14 ∨ x / UN = 13 ∨ x / UN = 10 then 1 else 0) + cntO ws
theorem stG_tl {base x : Nat} {ws : List Nat} (h : stG base (x :: ws)) : stG base ws := fun k h1 h2 => by
  have := h k h1 (by show k < ws.length + 1; omega)
  have e : idx (x :: ws) k = idx ws k := by show (if k = ws.length then x else idx ws k) = _; rw [if_neg (by omega)]
  rwa [e] at this
theorem stG_push {base x : Nat} {ws : List Nat} (h : stG base ws) (hx : (2 ≤ x / UN ∧ x / UN ≤ 6) ∨ x / UN = 14) : stG base (x :: ws) := fun k h1 h2 => by
  show (2 ≤ (if k = ws.length then x else idx ws k) / UN ∧ _) ∨ _
  by_cases e : k = ws.length
  · simp only [idx, if_pos e]; exact hx
  · simp only [idx, if_neg e]; exact h k h1 (by have h2 : k < ws.length + 1 := h2; omega)
theorem clS_spec {al : Bool} : ∀ ws cs, cntO (clS al cs ws).2 = cntO ws ∧ (clS al cs ws).1.length + (clS al cs ws).2.length = cs.length + ws.length ∧ (clS al cs ws).2.length ≤ ws.length ∧ (∀ a, stA ws a → stA (clS al cs ws).2 a) ∧ (∀ base, stG base ws → stG base (clS al cs ws).2) ∧ (∀ base, opnB base (clS al cs ws).2 = opnB base ws) ∧ topF al (clS al cs ws).2 ∧ (∀ x ∈ (clS al cs ws).1, x ∈ cs ∨ x ≤ UN * 6) := by
  intro ws
  induction ws with
  | nil => intro cs; exact ⟨rfl, rfl, Nat.le_refl _, fun _ h => h, fun _ h => h, fun _ => rfl, (fun x t e => by cases e), fun x h => Or.inl h⟩
  | cons x ws ih =>
    intro cs
    by_cases h : clsB al x = true
    · rw [clS_t h]
      have hs := clsB_sg h
      obtain ⟨h1, h2, h3, h4, h5, h6, h7, h8⟩ := ih (cs ++ [UN * (x / UN)])
      refine ⟨?_, ?_, ?_, fun a z => h4 a z.2, fun base z => h5 base (stG_tl z), fun base => ?_, h7, fun y hy => ?_⟩
      · rw [h1]; show _ = (if _ then 1 else 0) + cntO ws; rw [if_neg (by omega), Nat.zero_add]
      · rw [h2, List.length_append, List.length_singleton, List.length_cons]; omega
      · rw [List.length_cons]; omega
      · rw [h6, opnB_skip (by omega)]
      · rcases h8 y hy with q | q
        · rcases List.mem_append.mp q with q | q
          · exact Or.inl q
          · rw [List.mem_singleton.mp q]; exact Or.inr (Nat.mul_le_mul_left _ hs.2)
        · exact Or.inr q
    · rw [clS_f (by simpa using h)]
      exact ⟨rfl, rfl, Nat.le_refl _, fun _ h => h, fun _ h => h, fun _ => rfl, (fun y t e => by cases e; simpa using h), fun x h => Or.inl h⟩
theorem opnB_cnt {base : Nat} : ∀ ws, opnB base ws = true → 1 ≤ cntO ws := by
  intro ws
  induction ws with
  | nil => intro h; cases h
  | cons x ws ih =>
    intro h
    show 1 ≤ (if x / UN = 14 ∨ x / UN = 13 ∨ x / UN = 10 then 1 else 0) + cntO ws
    have h : ((decide (base ≤ ws.length) && decide (x / UN = 14)) || opnB base ws) = true := h
    rw [Bool.or_eq_true, Bool.and_eq_true, decide_eq_true_eq, decide_eq_true_eq] at h
    rcases h with h | h
    · rw [if_pos (Or.inl h.2)]; omega
    · have := ih h; omega
/-- at a closing bracket the top is an open one -/
theorem clS_pop {base : Nat} {cs ws : List Nat} (hG : stG base ws) (ho : opnB base ws = true) : ∃ x t, (clS true cs ws).2 = x :: t ∧ x / UN = 14 := by
  obtain ⟨h1, h2, h3, h4, h5, h6, h7, h8⟩ := clS_spec (al := true) ws cs
  have ho2 := (h6 base).trans ho
  have hG2 := h5 base hG
  cases hl : (clS true cs ws).2 with
  | nil => rw [hl] at ho2; cases ho2
  | cons x t =>
    refine ⟨x, t, rfl, ?_⟩
    rw [hl] at ho2 hG2
    have ht := h7 x t hl
    obtain ⟨k, k1, k2, k3⟩ := (opnB_iff (x :: t)).mp ho2
    have k1 : k < t.length + 1 := k1
    have := hG2 t.length (by omega) (by show t.length < t.length + 1; omega)
    have e : idx (x :: t) t.length = x := by show (if t.length = t.length then x else _) = x; rw [if_pos rfl]
    rw [e] at this
    rcases this with q | q
    · exfalso
      have hc : clsB true x = true := clsB_t (by
        have q1 : 2 ≤ x / 1048576 := q.1
        have q2 : x / 1048576 ≤ 6 := q.2
        by_cases z : 4 ≤ x / 1048576
        · exact Or.inl ⟨z, q2⟩
        · exact Or.inr ⟨rfl, by omega⟩)
      rw [hc] at ht; cases ht
    · exact q
/-- how many of the waiting become codes when they close -/
def cntS : List Nat → Nat
  | [] => 0
  | x :: ws => (if 2 ≤ x / UN ∧ x / UN ≤ 10 then 1 else 0) + cntS ws
theorem cntS_sg {x : Nat} {ws : List Nat} (h : 2 ≤ x / 1048576 ∧ x / 1048576 ≤ 10) : cntS (x :: ws) = cntS ws + 1 := by
  show (if 2 ≤ x / 1048576 ∧ x / 1048576 ≤ 10 then 1 else 0) + cntS ws = _
  rw [if_pos h]; omega
theorem cntS_no {x : Nat} {ws : List Nat} (h : 10 < x / 1048576) : cntS (x :: ws) = cntS ws := by
  show (if 2 ≤ x / 1048576 ∧ x / 1048576 ≤ 10 then 1 else 0) + cntS ws = _
  rw [if_neg (by omega)]; omega
theorem clS_cnt {al : Bool} : ∀ ws cs, (clS al cs ws).1.length + cntS (clS al cs ws).2 = cs.length + cntS ws := by
  intro ws
  induction ws with
  | nil => intro cs; rfl
  | cons x ws ih =>
    intro cs
    by_cases h : clsB al x = true
    · have hs := clsB_sg h
      have e := cntS_sg (x := x) (ws := ws) ⟨hs.1, Nat.le_trans hs.2 (by decide)⟩
      rw [clS_t h, ih, List.length_append, List.length_singleton, e]; omega
    · rw [clS_f (by simpa using h)]
/-- the reference's state while it reads a law -/
def lwI (n base p o1 : Nat) (cs ws : List Nat) (pl op cm wa : Int32) (x y : Nat → Int32) : Prop :=
  (pl = nI p ∧ op = nI o1 ∧ cm = nI cs.length ∧ wa = nI ws.length) ∧ (csA cs x ∧ stA ws y) ∧ (cs.length + cntS ws ≤ p ∧ ws.length ≤ p ∧ p ≤ n ∧ cntO ws ≤ o1 ∧ o1 ≤ 6) ∧ stG base ws
def fcPost (RR : MR) (f : Nat → Int32) (n base b : Nat) (ok : Bool) (pl fa op cm wa : Int32) (x y : Nat → Int32) : Prop :=
  if ok = true then ∃ p o1 cs ws fu, RR = mR f n base fu false cs ws o1 p ∧ 2 * (n + 1 - p) + 2 ≤ fu ∧ n + 1 ≤ p + b ∧ lwI n base p o1 cs ws pl op cm wa x y else ∃ e, RR = .inl e ∧ fa = wrI e.1 e.2
theorem fcP_f {RR : MR} {f : Nat → Int32} {n base b : Nat} {ok : Bool} {pl fa op cm wa : Int32} {x y : Nat → Int32} (h : fcPost RR f n base b ok pl fa op cm wa x y) (hk : ok = false) : ∃ e, RR = .inl e ∧ fa = wrI e.1 e.2 := by
  unfold fcPost at h; rw [if_neg (by rw [hk]; decide)] at h; exact h
theorem fcP_t {RR : MR} {f : Nat → Int32} {n base b : Nat} {ok : Bool} {pl fa op cm wa : Int32} {x y : Nat → Int32} (h : fcPost RR f n base b ok pl fa op cm wa x y) (hk : ok = true) : ∃ p o1 cs ws fu, RR = mR f n base fu false cs ws o1 p ∧ 2 * (n + 1 - p) + 2 ≤ fu ∧ n + 1 ≤ p + b ∧ lwI n base p o1 cs ws pl op cm wa x y := by
  unfold fcPost at h; rw [if_pos hk] at h; exact h
theorem fcP_bad {RR : MR} {f : Nat → Int32} {n base b i j : Nat} {pl op cm wa : Int32} {x y : Nat → Int32} (h : RR = .inl (i, j)) : fcPost RR f n base b false pl (wrI i j) op cm wa x y := by
  unfold fcPost; rw [if_neg (by decide)]; exact ⟨(i, j), h, rfl⟩
section MRS
variable {f : Nat → Int32} {n base fu op p : Nat} {cs ws : List Nat}
theorem mR_open (hf : 1 ≤ fu) (h : ckN f n p = 91) (h6 : ¬ op = 6) : mR f n base fu true cs ws op p = mR f n base (fu - 1) true cs (UN * 14 :: ws) (op + 1) (p + 1) := by
  obtain ⟨k, rfl⟩ : ∃ k, fu = k + 1 := ⟨fu - 1, by omega⟩
  show (if _ then _ else _) = _
  rw [if_pos h, if_neg h6]; rfl
theorem mR_5 (hf : 1 ≤ fu) (h : ckN f n p = 91) (h6 : op = 6) : mR f n base fu true cs ws op p = .inl (5, p) := by
  obtain ⟨k, rfl⟩ : ∃ k, fu = k + 1 := ⟨fu - 1, by omega⟩
  show (if _ then _ else _) = _
  rw [if_pos h, if_pos h6]
theorem mR_numf {e : Nat × Nat} (hf : 1 ≤ fu) (h : ¬ ckN f n p = 91) (hd : digB f n p = true) (hv : numL f n p = .inl e) : mR f n base fu true cs ws op p = .inl e := by
  obtain ⟨k, rfl⟩ : ∃ k, fu = k + 1 := ⟨fu - 1, by omega⟩
  show (if _ then _ else _) = _
  rw [if_neg h, if_pos hd, hv]; rfl
theorem mR_num {v : Nat × Nat} (hf : 1 ≤ fu) (h : ¬ ckN f n p = 91) (hd : digB f n p = true) (hv : numL f n p = .inr v) : mR f n base fu true cs ws op p = mR f n base (fu - 1) false (cs ++ [v.1]) ws op v.2 := by
  obtain ⟨k, rfl⟩ : ∃ k, fu = k + 1 := ⟨fu - 1, by omega⟩
  show (if _ then _ else _) = _
  rw [if_neg h, if_pos hd, hv]; rfl
theorem mR_let {i : Nat} (hf : 1 ≤ fu) (h : ¬ ckN f n p = 91) (hd : digB f n p = false) (hl : letN (ckN f n p) = some i) : mR f n base fu true cs ws op p = mR f n base (fu - 1) false (cs ++ [UN + i]) ws op (p + 1) := by
  obtain ⟨k, rfl⟩ : ∃ k, fu = k + 1 := ⟨fu - 1, by omega⟩
  show (if _ then _ else _) = _
  rw [if_neg h, if_neg (by rw [hd]; decide), hl]; rfl
theorem mR_1 (hf : 1 ≤ fu) (h : ¬ ckN f n p = 91) (hd : digB f n p = false) (hl : letN (ckN f n p) = none) : mR f n base fu true cs ws op p = .inl (1, p) := by
  obtain ⟨k, rfl⟩ : ∃ k, fu = k + 1 := ⟨fu - 1, by omega⟩
  show (if _ then _ else _) = _
  rw [if_neg h, if_neg (by rw [hd]; decide), hl]
theorem mR_sg {s : Nat} (hf : 1 ≤ fu) (h : sgnN (ckN f n p) = some s) : mR f n base fu false cs ws op p = mR f n base (fu - 1) true (clS (decide (s < 4)) cs ws).1 (UN * s :: (clS (decide (s < 4)) cs ws).2) op (p + 1) := by
  obtain ⟨k, rfl⟩ : ∃ k, fu = k + 1 := ⟨fu - 1, by omega⟩
  rw [mR_S, h]; rfl
theorem mR_cl (hf : 1 ≤ fu) (h : sgnN (ckN f n p) = none) (h93 : ckN f n p = 93) (ho : opnB base ws = true) : mR f n base fu false cs ws op p = mR f n base (fu - 1) false (clS true cs ws).1 (clS true cs ws).2.tail (op - 1) (p + 1) := by
  obtain ⟨k, rfl⟩ : ∃ k, fu = k + 1 := ⟨fu - 1, by omega⟩
  rw [mR_S, h]; dsimp only; rw [if_pos ⟨h93, ho⟩]; rfl
theorem mR_bad (hf : 1 ≤ fu) (h : sgnN (ckN f n p) = none) (h93 : ¬ ckN f n p = 93) (ho : opnB base ws = true) : mR f n base fu false cs ws op p = .inl (1, p) := by
  obtain ⟨k, rfl⟩ : ∃ k, fu = k + 1 := ⟨fu - 1, by omega⟩
  rw [mR_S, h]; dsimp only; rw [if_neg (fun z => h93 z.1), if_pos ho]
theorem mR_end (hf : 1 ≤ fu) (h : sgnN (ckN f n p) = none) (ho : opnB base ws = false) : mR f n base fu false cs ws op p = .inr ((clS true cs ws).1, (clS true cs ws).2, op, p) := by
  obtain ⟨k, rfl⟩ : ∃ k, fu = k + 1 := ⟨fu - 1, by omega⟩
  rw [mR_S, h]; dsimp only; rw [if_neg (fun z => by rw [ho] at z; cases z.2), if_neg (by rw [ho]; decide)]
end MRS
theorem opP_f {o1 w0 p what : Nat} {ok : Bool} {fa op wa pl : Int32} {x y : Nat → Int32} (h : if o1 = 6 then ok = false ∧ fa = wrI 5 p else ok = true ∧ op = nI (o1 + 1) ∧ x = upd y w0 (nI (1048576 * what)) ∧ wa = nI (w0 + 1) ∧ pl = nI (p + 1)) (hk : ok = false) : o1 = 6 ∧ fa = wrI 5 p := by
  split at h
  · rename_i q; exact ⟨q, h.2⟩
  · rw [h.1] at hk; exact Bool.noConfusion hk
theorem opP_t {o1 w0 p what : Nat} {ok : Bool} {fa op wa pl : Int32} {x y : Nat → Int32} (h : if o1 = 6 then ok = false ∧ fa = wrI 5 p else ok = true ∧ op = nI (o1 + 1) ∧ x = upd y w0 (nI (1048576 * what)) ∧ wa = nI (w0 + 1) ∧ pl = nI (p + 1)) (hk : ok = true) : ¬ o1 = 6 ∧ op = nI (o1 + 1) ∧ x = upd y w0 (nI (1048576 * what)) ∧ wa = nI (w0 + 1) ∧ pl = nI (p + 1) := by
  split at h
  · rw [h.1] at hk; exact Bool.noConfusion hk
  · rename_i q; exact ⟨q, h.2⟩
theorem lwI_open {n base p o1 what : Nat} {cs ws : List Nat} {x y : Nat → Int32} (hcs : csA cs x) (hst : stA ws y) (h1 : cs.length + cntS ws ≤ p) (h2 : ws.length ≤ p) (hp : p < n) (hc : cntO ws ≤ o1) (h6 : o1 ≤ 6) (h7 : ¬ o1 = 6) (hG : stG base ws) (hw : what = 14) :
    lwI n base (p + 1) (o1 + 1) cs (UN * what :: ws) (nI (p + 1)) (nI (o1 + 1)) (nI cs.length) (nI (ws.length + 1)) x (upd y ws.length (nI (1048576 * what))) := by
  subst hw
  have e : UN * 14 / UN = 14 := un_div 14
  refine ⟨⟨rfl, rfl, rfl, rfl⟩, ⟨hcs, stA_push hst (by decide)⟩, ⟨?_, by show ws.length + 1 ≤ p + 1; omega, hp, ?_, by omega⟩, stG_push hG (Or.inr e)⟩
  · have e2 : cntS (UN * 14 :: ws) = cntS ws := cntS_no (by show 10 < 1048576 * 14 / 1048576; omega)
    rw [e2]; omega
  · show (if _ then 1 else 0) + cntO ws ≤ _; rw [if_pos (Or.inl e)]; omega
theorem fcP_ok {RR : MR} {f : Nat → Int32} {n base b p o1 fu v : Nat} {cs ws : List Nat} {fa cm : Int32} {x y z : Nat → Int32} (hR : RR = mR f n base fu false (cs ++ [v]) ws o1 p) (hf : 2 * (n + 1 - p) + 2 ≤ fu) (hb : n + 1 ≤ p + b) (hcs : csA cs x) (hst : stA ws y) (h1 : cs.length + cntS ws + 1 ≤ p) (h2 : ws.length ≤ p) (hp : p ≤ n) (hc : cntO ws ≤ o1) (h6 : o1 ≤ 6) (hG : stG base ws) (hz : z = upd x cs.length (nI v)) (hcm : cm = nI (cs.length + 1)) :
    fcPost RR f n base b true (nI p) fa (nI o1) cm (nI ws.length) z y := by
  subst hz hcm
  unfold fcPost
  rw [if_pos rfl]
  exact ⟨p, o1, cs ++ [v], ws, fu, hR, hf, hb, ⟨rfl, rfl, by rw [List.length_append, List.length_singleton], rfl⟩, ⟨csA_push hcs, hst⟩, ⟨by rw [List.length_append, List.length_singleton]; omega, h2, hp, hc, h6⟩, hG⟩
