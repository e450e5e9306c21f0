set_option maxRecDepth 100000
/-! for the walks of conditions -/
def hdI (k : Nat) (t : List Nat) : Prop := ∃ y u, t = y :: u ∧ y / 1048576 = k
/-- how what waits lies: nots, open brackets, at most one jump of either kind above a bracket -/
def wfW : List Nat → Prop
  | [] => True
  | x :: t => ((x / 1048576 = 10 ∧ ¬ t = []) ∨ x / 1048576 = 13 ∨ (x / 1048576 = 12 ∧ hdI 13 t) ∨ (x / 1048576 = 11 ∧ (hdI 13 t ∨ hdI 12 t))) ∧ wfW t
/-- the jumps that wait lie among the codes -/
def jmW (cs ws : List Nat) : Prop := ∀ x, x ∈ ws → (x / 1048576 = 11 ∨ x / 1048576 = 12) → ∃ v, cs[x % 1048576]? = some v ∧ v < 13631488
theorem jm_app {cs ws l : List Nat} (h : jmW cs ws) : jmW (cs ++ l) ws := fun x hx hq => by
  obtain ⟨v, h1, h2⟩ := h x hx hq
  refine ⟨v, ?_, h2⟩
  have hl : x % 1048576 < cs.length := by
    obtain ⟨q, _⟩ := List.getElem?_eq_some_iff.mp h1
    exact q
  rw [List.getElem?_append_left hl]; exact h1
theorem jm_tl {cs ws : List Nat} {x : Nat} (h : jmW cs (x :: ws)) : jmW cs ws := fun y hy => h y (List.mem_cons_of_mem _ hy)
theorem jm_no {cs ws : List Nat} {x : Nat} (h : jmW cs ws) (hx : ¬ x / 1048576 = 11 ∧ ¬ x / 1048576 = 12) : jmW cs (x :: ws) := fun y hy hq => by
  rcases List.mem_cons.mp hy with e | e
  · subst e; omega
  · exact h y e hq
theorem lnS_len (cs : List Nat) (x : Nat) : (lnS cs x).length = cs.length := List.length_set
theorem jm_set {cs ws : List Nat} {x : Nat} (h : jmW cs ws) (hl : cs.length < 1048576) {v : Nat} (hv : cs[x % 1048576]? = some v) (hv2 : v < 13631488) : jmW (lnS cs x) ws := fun y hy hq => by
  obtain ⟨w, h1, h2⟩ := h y hy hq
  unfold lnS
  by_cases e : x % UN = y % 1048576
  · refine ⟨UN * (cs[x % UN]?.getD 0 / UN) + cs.length, ?_, ?_⟩
    · have hlt : y % 1048576 < cs.length := by
        obtain ⟨q, _⟩ := List.getElem?_eq_some_iff.mp h1
        exact q
      rw [e, List.getElem?_set_self hlt]
    · have hv' : cs[x % UN]? = some v := hv
      rw [hv']
      show 1048576 * (v / 1048576) + cs.length < 13631488
      omega
  · exact ⟨w, by rw [List.getElem?_set_ne e]; exact h1, h2⟩
theorem csA_set {cs : List Nat} {a : Nat → Int32} {j w : Nat} (h : csA cs a) : csA (cs.set j w) (upd a j (nI w)) := fun i x hx => by
  by_cases e : j = i
  · subst e
    by_cases q : j < cs.length
    · rw [List.getElem?_set_self q] at hx; cases hx; exact upd_s _ _ _
    · rw [List.getElem?_eq_none (by rw [List.length_set]; omega)] at hx; cases hx
  · rw [List.getElem?_set_ne e] at hx
    rw [upd_n _ (fun z => e z.symm)]; exact h i x hx
theorem lnS_csA {cs : List Nat} {a : Nat → Int32} {x v m : Nat} (h : csA cs a) (hv : cs[x % 1048576]? = some v) (hl : cs.length = m) : csA (lnS cs x) (upd a (x % 1048576) (nI (1048576 * (v / 1048576) + m))) := by
  subst hl
  have e : lnS cs x = cs.set (x % 1048576) (1048576 * (v / 1048576) + cs.length) := by
    unfold lnS
    have hv' : cs[x % UN]? = some v := hv
    rw [hv']; rfl
  rw [e]; exact csA_set h
theorem lnB_t {al : Bool} {x : Nat} (h : x / 1048576 = 11 ∨ (al = true ∧ x / 1048576 = 12)) : lnB al x = true := lnB_i.mpr h
theorem lnd_e {al : Bool} {x : Nat} {cs ws : List Nat} (h1 : ¬ x / 1048576 = 11) (h2 : al = false ∨ ¬ x / 1048576 = 12) : lnd al cs (x :: ws) = (cs, x :: ws) := if_neg (fun z => by
  rcases lnB_i.mp z with q | q
  · exact h1 q
  · rcases h2 with h | h
    · rw [h] at q; exact Bool.noConfusion q.1
    · exact h q.2)
theorem cntO_y {x : Nat} {ws : List Nat} (h : x / 1048576 = 14 ∨ x / 1048576 = 13 ∨ x / 1048576 = 10) : cntO (x :: ws) = 1 + cntO ws := by
  show (if x / 1048576 = 14 ∨ x / 1048576 = 13 ∨ x / 1048576 = 10 then 1 else 0) + cntO ws = _
  rw [if_pos h]
theorem cntO_n {x : Nat} {ws : List Nat} (h : ¬ (x / 1048576 = 14 ∨ x / 1048576 = 13 ∨ x / 1048576 = 10)) : cntO (x :: ws) = cntO ws := by
  show (if x / 1048576 = 14 ∨ x / 1048576 = 13 ∨ x / 1048576 = 10 then 1 else 0) + cntO ws = _
  rw [if_neg h, Nat.zero_add]
/-- the ends of a piece -/
theorem enP_spec : ∀ ws cs op, cntO ws ≤ op → op ≤ 6 → (enP cs ws op).1.length + cntS (enP cs ws op).2.1 = cs.length + cntS ws ∧ (enP cs ws op).2.1.length ≤ ws.length ∧ (∀ a, stA ws a → stA (enP cs ws op).2.1 a) ∧ cntO (enP cs ws op).2.1 ≤ (enP cs ws op).2.2 ∧ (enP cs ws op).2.2 ≤ 6 ∧ (jmW cs ws → jmW (enP cs ws op).1 (enP cs ws op).2.1) ∧ (wfW ws → ¬ ws = [] → wfW (enP cs ws op).2.1 ∧ ¬ (enP cs ws op).2.1 = [] ∧ hdQ (fun i => ¬ i = 10) (enP cs ws op).2.1) := by
  intro ws
  induction ws with
  | nil => intro cs op h h6; exact ⟨rfl, Nat.le_refl _, fun _ h => h, h, h6, fun h => h, fun _ h => absurd rfl h⟩
  | cons x ws ih =>
    intro cs op h h6
    by_cases e : x / UN = 10
    · have e' : x / 1048576 = 10 := e
      rw [cntO_y (Or.inr (Or.inr e'))] at h
      rw [enP_10 e]
      obtain ⟨h1, h2, h3, h4, h5, h7, h8⟩ := ih (cs ++ [UN * 10]) (op - 1) (by omega) (by omega)
      refine ⟨?_, by rw [List.length_cons]; omega, fun a z => h3 a z.2, h4, h5, fun z => h7 (jm_app (jm_tl z)), fun z _ => h8 z.2 ?_⟩
      · rw [h1, cntS_sg ⟨by omega, by omega⟩, List.length_append, List.length_singleton]; omega
      · rcases z.1 with q | q | q | q
        · exact q.2
        · omega
        · omega
        · omega
    · have en : enP cs (x :: ws) op = (cs, x :: ws, op) := if_neg e
      rw [en]
      exact ⟨rfl, Nat.le_refl _, fun _ h => h, h, h6, fun h => h, fun hw hn => ⟨hw, hn, hdQ_c e⟩⟩
/-- what lands -/
theorem lnd_spec {al : Bool} : ∀ ws cs, cs.length < 1048576 → (lnd al cs ws).1.length = cs.length ∧ cntS (lnd al cs ws).2 = cntS ws ∧ cntO (lnd al cs ws).2 = cntO ws ∧ (lnd al cs ws).2.length ≤ ws.length ∧ (∀ a, stA ws a → stA (lnd al cs ws).2 a) ∧ (jmW cs ws → jmW (lnd al cs ws).1 (lnd al cs ws).2) ∧ (wfW ws → wfW (lnd al cs ws).2) := by
  intro ws
  induction ws with
  | nil => intro cs _; exact ⟨rfl, rfl, rfl, Nat.le_refl _, fun _ h => h, fun h => h, fun h => h⟩
  | cons x ws ih =>
    intro cs hl
    by_cases e : lnB al x = true
    · have hx : x / 1048576 = 11 ∨ x / 1048576 = 12 := by
        rcases lnB_i.mp e with q | q
        · exact Or.inl q
        · exact Or.inr q.2
      rw [lnd_y e]
      obtain ⟨h1, h2, h3, h4, h5, h6, h7⟩ := ih (lnS cs x) (by rw [lnS_len]; exact hl)
      refine ⟨by rw [h1, lnS_len], by rw [h2, cntS_no (by omega)], by rw [h3, cntO_n (by omega)], by rw [List.length_cons]; omega, fun a z => h5 a z.2, fun z => ?_, fun z => h7 z.2⟩
      obtain ⟨v, hv1, hv2⟩ := z x (List.mem_cons_self ..) hx
      exact h6 (jm_set (jm_tl z) hl hv1 hv2)
    · have en : lnd al cs (x :: ws) = (cs, x :: ws) := if_neg e
      rw [en]
      exact ⟨rfl, rfl, rfl, Nat.le_refl _, fun _ h => h, fun h => h, fun h => h⟩
theorem lnd_cons {al : Bool} {x : Nat} {cs ws : List Nat} : lnd al cs (x :: ws) = if lnB al x = true then lnd al (lnS cs x) ws else (cs, x :: ws) := rfl
/-- behind them lies a bracket, or a jump of the other kind -/
theorem lnd_hd {al : Bool} : ∀ ws cs, wfW ws → ¬ ws = [] → hdQ (fun i => ¬ i = 10) ws → ∃ y u, (lnd al cs ws).2 = y :: u ∧ (y / 1048576 = 13 ∨ (al = false ∧ y / 1048576 = 12)) := by
  intro ws
  induction ws with
  | nil => intro cs _ h; exact absurd rfl h
  | cons x ws ih =>
    intro cs hw _ hd
    have h10 : ¬ x / 1048576 = 10 := hd x ws rfl
    have goOn : (x / 1048576 = 11 ∨ (al = true ∧ x / 1048576 = 12)) → ¬ ws = [] → hdQ (fun i => ¬ i = 10) ws → ∃ y u, (lnd al cs (x :: ws)).2 = y :: u ∧ (y / 1048576 = 13 ∨ (al = false ∧ y / 1048576 = 12)) := fun hb h1 h2 => by
      rw [lnd_y (lnB_t hb)]; exact ih _ hw.2 h1 h2
    rcases hw.1 with q | q | ⟨q, y, u, e, hy⟩ | ⟨q, q2⟩
    · exact absurd q.1 h10
    · rw [lnd_e (by omega) (Or.inr (by omega))]; exact ⟨x, ws, rfl, Or.inl q⟩
    · cases hal : al with
      | true => rw [← hal]; exact goOn (Or.inr ⟨hal, q⟩) (by rw [e]; intro z; cases z) (by rw [e]; exact hdQ_c (by have : y / UN = 13 := hy; omega))
      | false => rw [lnd_e (by omega) (Or.inl rfl)]; exact ⟨x, ws, rfl, Or.inr ⟨rfl, q⟩⟩
    · rcases q2 with ⟨y, u, e, hy⟩ | ⟨y, u, e, hy⟩
      · exact goOn (Or.inl q) (by rw [e]; intro z; cases z) (by rw [e]; exact hdQ_c (by have : y / UN = 13 := hy; omega))
      · exact goOn (Or.inl q) (by rw [e]; intro z; cases z) (by rw [e]; exact hdQ_c (by have : y / UN = 12 := hy; omega))
/-- nothing of sums waits -/
theorem wf_top {ws : List Nat} (h : wfW ws) : topF true ws := fun x t e => by
  subst e
  have h1 := h.1
  refine clsB_f (by omega) (Or.inr (by omega))
theorem stG_self (ws : List Nat) : stG ws.length ws := fun k h1 h2 => by omega
theorem lwI_re {n base p o1 : Nat} {cs ws : List Nat} {pl op cm wa : Int32} {x y : Nat → Int32} (h : lwI n base p o1 cs ws pl op cm wa x y) : lwI n ws.length p o1 cs ws pl op cm wa x y := ⟨h.1, h.2.1, h.2.2.1, stG_self ws⟩
theorem lwI_adv {n base p o1 : Nat} {cs ws : List Nat} {x y : Nat → Int32} {op cm wa : Int32} (h : lwI n base p o1 cs ws (nI p) op cm wa x y) (hp : p < n) : lwI n base (p + 1) o1 cs ws (nI (p + 1)) op cm wa x y := by
  obtain ⟨⟨_, h1, h2, h3⟩, h4, ⟨h5, h6, h7, h8, h9⟩, h10⟩ := h
  exact ⟨⟨rfl, h1, h2, h3⟩, h4, ⟨by omega, by omega, hp, h8, h9⟩, h10⟩
theorem lwI_opn {n p o1 what : Nat} {cs ws : List Nat} {x y : Nat → Int32} (h : lwI n ws.length p o1 cs ws (nI p) (nI o1) (nI cs.length) (nI ws.length) x y) (hp : p < n) (h7 : ¬ o1 = 6) (hw : what = 10 ∨ what = 13) :
    lwI n (UN * what :: ws).length (p + 1) (o1 + 1) cs (UN * what :: ws) (nI (p + 1)) (nI (o1 + 1)) (nI cs.length) (nI (ws.length + 1)) x (upd y ws.length (nI (1048576 * what))) := by
  obtain ⟨_, ⟨hcs, hst⟩, ⟨h1, h2, h3, h4, h5⟩, _⟩ := h
  have e : UN * what / 1048576 = what := un_div what
  refine ⟨⟨rfl, rfl, rfl, rfl⟩, ⟨hcs, stA_push hst (by show 1048576 * what < _; omega)⟩, ⟨?_, by show ws.length + 1 ≤ p + 1; omega, hp, ?_, by omega⟩, stG_self _⟩
  · rcases hw with q | q
    · rw [cntS_sg (by omega)]; omega
    · rw [cntS_no (by omega)]; omega
  · rw [cntO_y (by omega)]; omega
theorem lwI_en {n base p o1 : Nat} {cs ws : List Nat} {x x' y : Nat → Int32} {pl op cm wa : Int32} (h : lwI n base p o1 cs ws pl op cm wa x y) (hx : csA (enP cs ws o1).1 x') : lwI n (enP cs ws o1).2.1.length p (enP cs ws o1).2.2 (enP cs ws o1).1 (enP cs ws o1).2.1 (nI p) (nI (enP cs ws o1).2.2) (nI (enP cs ws o1).1.length) (nI (enP cs ws o1).2.1.length) x' y := by
  obtain ⟨_, ⟨hcs, hst⟩, ⟨h1, h2, h3, h4, h5⟩, _⟩ := h
  obtain ⟨a1, a2, a3, a4, a5, _, _⟩ := enP_spec ws cs o1 h4 h5
  exact ⟨⟨rfl, rfl, rfl, rfl⟩, ⟨hx, a3 y hst⟩, ⟨by omega, by omega, h3, a4, a5⟩, stG_self _⟩
/-- a code more, where there is room for it -/
theorem lwI_code {n base p o1 v : Nat} {cs ws : List Nat} {x y : Nat → Int32} {op wa : Int32} (h : lwI n base p o1 cs ws (nI p) op (nI cs.length) wa x y) (hl : cs.length + cntS ws + 1 ≤ p) : lwI n base p o1 (cs ++ [v]) ws (nI p) op (nI (cs.length + 1)) wa (upd x cs.length (nI v)) y := by
  obtain ⟨⟨_, h1, _, h3⟩, ⟨hcs, hst⟩, ⟨h5, h6, h7, h8, h9⟩, h10⟩ := h
  exact ⟨⟨rfl, h1, by rw [List.length_append]; rfl, h3⟩, ⟨csA_push hcs, hst⟩, ⟨by rw [List.length_append, List.length_singleton]; omega, h6, h7, h8, h9⟩, h10⟩
section SMF
variable {f : Nat → Int32} {n fu p0 o0 : Nat} {cs0 ws0 : List Nat} {ok : Bool} {pl fa op cm wa : Int32} {x y : Nat → Int32}
theorem smP_f2 (h : smPost (mR f n ws0.length fu true cs0 ws0 o0 p0) n ws0.length ok pl fa op cm wa x y) (hk : ok = false) (hp : p0 ≤ n) (hf : 2 * (n + 1 - p0) + 1 ≤ fu) (ht : topF true ws0) : ∃ e, sumE f n o0 p0 = .inl e ∧ fa = wrI e.1 e.2 := by
  obtain ⟨e, h1, h2⟩ := smP_f h hk
  obtain ⟨a1, a2⟩ := mR_sum (f := f) (n := n) (fu := fu) (op := o0) (p := p0) (cs := cs0) (ws := ws0) hp hf ht
  cases hs : sumE f n o0 p0 with
  | inl e' => rw [a1 e' hs] at h1; cases h1; exact ⟨_, rfl, h2⟩
  | inr r => rw [a2 r hs] at h1; cases h1
theorem smP_t2 (h : smPost (mR f n ws0.length fu true cs0 ws0 o0 p0) n ws0.length ok pl fa op cm wa x y) (hk : ok = true) (hp : p0 ≤ n) (hf : 2 * (n + 1 - p0) + 1 ≤ fu) (ht : topF true ws0) : ∃ r, sumE f n o0 p0 = .inr r ∧ (pl = nI r.2 ∧ op = nI o0 ∧ cm = nI (cs0 ++ r.1.1).length ∧ wa = nI ws0.length) ∧ lwI n ws0.length r.2 o0 (cs0 ++ r.1.1) ws0 (nI r.2) (nI o0) (nI (cs0 ++ r.1.1).length) (nI ws0.length) x y := by
  obtain ⟨p, o1, cs, ws, h1, h2⟩ := smP_t h hk
  obtain ⟨a1, a2⟩ := mR_sum (f := f) (n := n) (fu := fu) (op := o0) (p := p0) (cs := cs0) (ws := ws0) hp hf ht
  cases hs : sumE f n o0 p0 with
  | inl e' => rw [a1 e' hs] at h1; cases h1
  | inr r =>
    rw [a2 r hs] at h1; cases h1
    exact ⟨r, rfl, h2.1, ⟨rfl, rfl, rfl, rfl⟩, h2.2⟩
end SMF
def cmpI (x : Int32) : Int32 := if x = 60 then 7 else if x = 62 then 8 else if x = 61 then 9 else -1
theorem cmpI_ck (f : Nat → Int32) (n p : Nat) : cmpI (hereI f n p) = optI (cmpN (ckN f n p)) := by
  by_cases h : p < n
  · have hb := ocN_lt f p
    rw [hereI_t h, ckN_t h]
    have key : ∀ c, c < 256 → cmpI (nI c) = optI (cmpN c) := by decide +kernel
    exact key _ hb
  · rw [hereI_f h, ckN_f h]; rfl
def cpPost (RR : MR) (n : Nat) (ok : Bool) (pl fa op cm wa : Int32) (x y : Nat → Int32) : Prop :=
  if ok = true then ∃ p o1 cs ws, RR = .inr (cs, ws, o1, p) ∧ lwI n ws.length p o1 cs ws pl op cm wa x y else ∃ e, RR = .inl e ∧ fa = wrI e.1 e.2
theorem cpP_bad {RR : MR} {n : Nat} {e : Nat × Nat} {pl fa op cm wa : Int32} {x y : Nat → Int32} (h : RR = .inl e) (hf : fa = wrI e.1 e.2) : cpPost RR n false pl fa op cm wa x y := by
  unfold cpPost; rw [if_neg (by decide)]; exact ⟨e, h, hf⟩
theorem cpP_ok {RR : MR} {n p o1 : Nat} {cs ws : List Nat} {pl fa op cm wa : Int32} {x y : Nat → Int32} (h : RR = .inr (cs, ws, o1, p)) (hI : lwI n ws.length p o1 cs ws pl op cm wa x y) : cpPost RR n true pl fa op cm wa x y := by
  unfold cpPost; rw [if_pos rfl]; exact ⟨p, o1, cs, ws, h, hI⟩
theorem cpP_f {RR : MR} {n : Nat} {ok : Bool} {pl fa op cm wa : Int32} {x y : Nat → Int32} (h : cpPost RR n ok pl fa op cm wa x y) (hk : ok = false) : ∃ e, RR = .inl e ∧ fa = wrI e.1 e.2 := by
  unfold cpPost at h; rw [if_neg (by rw [hk]; decide)] at h; exact h
theorem cpP_t {RR : MR} {n : Nat} {ok : Bool} {pl fa op cm wa : Int32} {x y : Nat → Int32} (h : cpPost RR n ok pl fa op cm wa x y) (hk : ok = true) : ∃ p o1 cs ws, RR = .inr (cs, ws, o1, p) ∧ lwI n ws.length p o1 cs ws pl op cm wa x y := by
  unfold cpPost at h; rw [if_pos hk] at h; exact h
section CMPW
variable {f : Nat → Int32} {n op p : Nat} {cs ws : List Nat}
theorem cmpW_1 {e : Nat × Nat} (h : sumE f n op p = .inl e) : cmpW f n cs ws op p = .inl e := by unfold cmpW; rw [h]; rfl
theorem cmpW_n {r : SA × Nat} (h : sumE f n op p = .inr r) (hc : cmpN (ckN f n r.2) = none) : cmpW f n cs ws op p = .inl (1, r.2) := by
  unfold cmpW; rw [h]; show (match cmpN (ckN f n r.2) with | some s => _ | none => _) = _; rw [hc]
theorem cmpW_2 {r : SA × Nat} {s : Nat} {e : Nat × Nat} (h : sumE f n op p = .inr r) (hc : cmpN (ckN f n r.2) = some s) (h2 : sumE f n op (r.2 + 1) = .inl e) : cmpW f n cs ws op p = .inl e := by
  unfold cmpW; rw [h]; show (match cmpN (ckN f n r.2) with | some s => _ | none => _) = _; rw [hc]; dsimp only; rw [h2]; rfl
theorem cmpW_3 {r r2 : SA × Nat} {s : Nat} {cs' : List Nat} (h : sumE f n op p = .inr r) (hc : cmpN (ckN f n r.2) = some s) (h2 : sumE f n op (r.2 + 1) = .inr r2) (e : cs' = cs ++ (r.1.1 ++ r2.1.1 ++ [UN * s])) : cmpW f n cs ws op p = .inr ((enP cs' ws op).1, (enP cs' ws op).2.1, (enP cs' ws op).2.2, r2.2) := by
  subst e
  unfold cmpW; rw [h]; show (match cmpN (ckN f n r.2) with | some s => _ | none => _) = _; rw [hc]; dsimp only; rw [h2]; rfl
theorem cmpW_i {s : List Nat × List Nat × Nat × Nat} (hp : p ≤ n) (h : cmpW f n cs ws op p = .inr s) : ∃ l : List Nat, s.1 = (enP (cs ++ l) ws op).1 ∧ s.2.1 = (enP (cs ++ l) ws op).2.1 ∧ s.2.2.1 = (enP (cs ++ l) ws op).2.2 ∧ p < s.2.2.2 ∧ s.2.2.2 ≤ n := by
  unfold cmpW at h
  obtain ⟨x, q1, q2⟩ := bW_r h
  obtain ⟨-, s2, s3, -⟩ := sumE_seg hp q1
  cases hc : cmpN (ckN f n x.2) with
  | none => rw [hc] at q2; cases q2
  | some s =>
    rw [hc] at q2
    have hxn := ckN_lt rfl (cmpN_lt hc).2
    obtain ⟨y, q3, q4⟩ := bW_r q2
    obtain ⟨-, t2, t3, -⟩ := sumE_seg (by omega) q3
    cases q4
    exact ⟨_, rfl, rfl, rfl, by show p < y.2; omega, t3⟩
end CMPW
section MCS
variable {f : Nat → Int32} {n fu op p : Nat} {cs ws : List Nat}
theorem mK_op {what : Nat} (hf : 1 ≤ fu) (h : (ckN f n p = 33 ∧ what = 10) ∨ (ckN f n p = 40 ∧ what = 13)) (h6 : ¬ op = 6) : mK f n fu true cs ws op p = mK f n (fu - 1) true cs (UN * what :: ws) (op + 1) (p + 1) := by
  obtain ⟨k, rfl⟩ : ∃ k, fu = k + 1 := ⟨fu - 1, by omega⟩
  have hw : opW f n p = what := by
    rcases h with ⟨h1, h2⟩ | ⟨h1, h2⟩
    · rw [h2]; exact if_pos h1
    · rw [h2]; exact if_neg (by omega)
  rw [mK_T, if_pos (by rcases h with h | h; exact Or.inl h.1; exact Or.inr h.1), if_neg h6, hw]; rfl
theorem mK_5 (hf : 1 ≤ fu) (h : ckN f n p = 33 ∨ ckN f n p = 40) (h6 : op = 6) : mK f n fu true cs ws op p = .inl (5, p) := by
  obtain ⟨k, rfl⟩ : ∃ k, fu = k + 1 := ⟨fu - 1, by omega⟩
  rw [mK_T, if_pos h, if_pos h6]
theorem mK_cf {e : Nat × Nat} (hf : 1 ≤ fu) (h1 : ¬ ckN f n p = 33) (h2 : ¬ ckN f n p = 40) (hc : cmpW f n cs ws op p = .inl e) : mK f n fu true cs ws op p = .inl e := by
  obtain ⟨k, rfl⟩ : ∃ k, fu = k + 1 := ⟨fu - 1, by omega⟩
  rw [mK_T, if_neg (fun z => z.elim h1 h2), hc]; rfl
theorem mK_ct {s : List Nat × List Nat × Nat × Nat} (hf : 1 ≤ fu) (h1 : ¬ ckN f n p = 33) (h2 : ¬ ckN f n p = 40) (hc : cmpW f n cs ws op p = .inr s) : mK f n fu true cs ws op p = mK f n (fu - 1) false s.1 s.2.1 s.2.2.1 s.2.2.2 := by
  obtain ⟨k, rfl⟩ : ∃ k, fu = k + 1 := ⟨fu - 1, by omega⟩
  rw [mK_T, if_neg (fun z => z.elim h1 h2), hc]; rfl
theorem mK_end {x0 : Nat} {c5 : List Nat} (hf : 1 ≤ fu) (h : ckN f n p = 41) (h1 : (lnd true cs ws).1 = c5) (h2 : (lnd true cs ws).2 = [x0]) : mK f n fu false cs ws op p = .inr (c5, [], op - 1, p + 1) := by
  obtain ⟨k, rfl⟩ : ∃ k, fu = k + 1 := ⟨fu - 1, by omega⟩
  rw [mK_F, if_pos h, h2, h1]; exact if_pos rfl
theorem mK_cl {x0 : Nat} {c5 t0 : List Nat} (hf : 1 ≤ fu) (h : ckN f n p = 41) (h1 : (lnd true cs ws).1 = c5) (h2 : (lnd true cs ws).2 = x0 :: t0) (h3 : ¬ t0 = []) : mK f n fu false cs ws op p = mK f n (fu - 1) false (enP c5 t0 (op - 1)).1 (enP c5 t0 (op - 1)).2.1 (enP c5 t0 (op - 1)).2.2 (p + 1) := by
  obtain ⟨k, rfl⟩ : ∃ k, fu = k + 1 := ⟨fu - 1, by omega⟩
  rw [mK_F, if_pos h, h2, h1]; exact if_neg h3
theorem mK_11 {c5 w5 : List Nat} (hf : 1 ≤ fu) (h : ckN f n p = 38) (h1 : (lnd false cs ws).1 = c5) (h2 : (lnd false cs ws).2 = w5) : mK f n fu false cs ws op p = mK f n (fu - 1) true (c5 ++ [UN * 11]) ((UN * 11 + c5.length) :: w5) op (p + 1) := by
  obtain ⟨k, rfl⟩ : ∃ k, fu = k + 1 := ⟨fu - 1, by omega⟩
  rw [mK_F, if_neg (by omega), if_pos h, h2, h1]; rfl
theorem mK_12 {c5 w5 : List Nat} (hf : 1 ≤ fu) (h : ckN f n p = 124) (h1 : (lnd true cs ws).1 = c5) (h2 : (lnd true cs ws).2 = w5) : mK f n fu false cs ws op p = mK f n (fu - 1) true (c5 ++ [UN * 12]) ((UN * 12 + c5.length) :: w5) op (p + 1) := by
  obtain ⟨k, rfl⟩ : ∃ k, fu = k + 1 := ⟨fu - 1, by omega⟩
  rw [mK_F, if_neg (by omega), if_neg (by omega), if_pos h, h2, h1]; rfl
theorem mK_bad (hf : 1 ≤ fu) (h : ¬ ckN f n p = 41) (h2 : ¬ ckN f n p = 38) (h3 : ¬ ckN f n p = 124) : mK f n fu false cs ws op p = .inl (1, p) := by
  obtain ⟨k, rfl⟩ : ∃ k, fu = k + 1 := ⟨fu - 1, by omega⟩
  rw [mK_F, if_neg h, if_neg h2, if_neg h3]
end MCS
/-- the shape that the walk keeps -/
def shW (cs ws : List Nat) : Prop := wfW ws ∧ ¬ ws = [] ∧ jmW cs ws
theorem shW_opn {cs ws : List Nat} {what : Nat} (h : shW cs ws) (hw : what = 10 ∨ what = 13) : shW cs (UN * what :: ws) := by
  have e : UN * what / 1048576 = what := un_div what
  refine ⟨⟨?_, h.1⟩, (by intro z; cases z), jm_no h.2.2 (by omega)⟩
  rcases hw with q | q
  · exact Or.inl ⟨by omega, h.2.1⟩
  · exact Or.inr (Or.inl (by omega))
theorem shW_en {cs ws l : List Nat} {op : Nat} (h : shW cs ws) (h1 : cntO ws ≤ op) (h2 : op ≤ 6) : shW (enP (cs ++ l) ws op).1 (enP (cs ++ l) ws op).2.1 ∧ hdQ (fun i => ¬ i = 10) (enP (cs ++ l) ws op).2.1 := by
  obtain ⟨_, _, _, _, _, a6, a7⟩ := enP_spec ws (cs ++ l) op h1 h2
  obtain ⟨b1, b2, b3⟩ := a7 h.1 h.2.1
  exact ⟨⟨b1, b2, a6 (jm_app h.2.2)⟩, b3⟩
theorem lwI_ln {n base p o1 : Nat} {al : Bool} {cs ws : List Nat} {x x' y : Nat → Int32} {pl op cm wa : Int32} (h : lwI n base p o1 cs ws pl op cm wa x y) (hn : n ≤ 240) (hx : csA (lnd al cs ws).1 x') : lwI n (lnd al cs ws).2.length p o1 (lnd al cs ws).1 (lnd al cs ws).2 (nI p) (nI o1) (nI (lnd al cs ws).1.length) (nI (lnd al cs ws).2.length) x' y := by
  obtain ⟨_, ⟨hcs, hst⟩, ⟨h1, h2, h3, h4, h5⟩, _⟩ := h
  obtain ⟨a1, a2, a3, a4, a5, _, _⟩ := lnd_spec (al := al) ws cs (by omega)
  exact ⟨⟨rfl, rfl, rfl, rfl⟩, ⟨hx, a5 y hst⟩, ⟨by omega, by omega, h3, by omega, h5⟩, stG_self _⟩
theorem shW_ln {al : Bool} {cs ws : List Nat} (h : shW cs ws) (hl : cs.length < 1048576) (hd : hdQ (fun i => ¬ i = 10) ws) : shW (lnd al cs ws).1 (lnd al cs ws).2 ∧ ∃ y u, (lnd al cs ws).2 = y :: u ∧ (y / 1048576 = 13 ∨ (al = false ∧ y / 1048576 = 12)) := by
  obtain ⟨_, _, _, _, _, a6, a7⟩ := lnd_spec (al := al) ws cs hl
  obtain ⟨y, u, e, hy⟩ := lnd_hd (al := al) ws cs h.1 h.2.1 hd
  exact ⟨⟨a7 h.1, (by rw [e]; intro z; cases z), a6 h.2.2⟩, y, u, e, hy⟩
/-- a jump waits: its code is noted -/
theorem shW_jmp {s : Nat} {cs ws : List Nat} (h : shW cs ws) (hl : cs.length < 1048576) (hy : ∃ y u, ws = y :: u ∧ (y / 1048576 = 13 ∨ (s = 11 ∧ y / 1048576 = 12))) (hs : s = 11 ∨ s = 12) : shW (cs ++ [UN * s]) ((UN * s + cs.length) :: ws) := by
  have e : (UN * s + cs.length) / 1048576 = s := un_da hl
  have e2 : (UN * s + cs.length) % 1048576 = cs.length := un_ma hl
  obtain ⟨y, u, e3, hy⟩ := hy
  refine ⟨⟨?_, h.1⟩, (by intro z; cases z), fun x hx hq => ?_⟩
  · rcases hs with q | q
    · refine Or.inr (Or.inr (Or.inr ⟨by omega, ?_⟩))
      rcases hy with hy | hy
      · exact Or.inl ⟨y, u, e3, hy⟩
      · exact Or.inr ⟨y, u, e3, hy.2⟩
    · refine Or.inr (Or.inr (Or.inl ⟨by omega, ?_⟩))
      rcases hy with hy | hy
      · exact ⟨y, u, e3, hy⟩
      · omega
  · rcases List.mem_cons.mp hx with q | q
    · subst q
      refine ⟨UN * s, ?_, ?_⟩
      · rw [e2]; exact get_mid _ [] cs
      · show 1048576 * s < 13631488; omega
    · exact jm_app h.2.2 x q hq
theorem lwI_jmp {n base p o1 s : Nat} {cs ws : List Nat} {x y : Nat → Int32} (h : lwI n base p o1 cs ws (nI p) (nI o1) (nI cs.length) (nI ws.length) x y) (hn : n ≤ 240) (hp : p < n) (hs : s = 11 ∨ s = 12) : lwI n ((UN * s + cs.length) :: ws).length (p + 1) o1 (cs ++ [UN * s]) ((UN * s + cs.length) :: ws) (nI (p + 1)) (nI o1) (nI (cs.length + 1)) (nI (ws.length + 1)) (upd x cs.length (nI (1048576 * s + 0))) (upd y ws.length (nI (1048576 * s + cs.length))) := by
  obtain ⟨_, ⟨hcs, hst⟩, ⟨h1, h2, h3, h4, h5⟩, _⟩ := h
  have hl : cs.length < 1048576 := by omega
  have e : (UN * s + cs.length) / 1048576 = s := un_da hl
  refine ⟨⟨rfl, rfl, by rw [List.length_append]; rfl, rfl⟩, ⟨csA_push hcs, stA_push hst (by show 1048576 * s + cs.length < _; omega)⟩, ⟨?_, by show ws.length + 1 ≤ p + 1; omega, hp, ?_, h5⟩, stG_self _⟩
  · rw [cntS_no (by omega), List.length_append, List.length_singleton]; omega
  · rw [cntO_n (by omega)]; exact h4
theorem lwI_pp {n base p o1 x0 : Nat} {cs ws : List Nat} {x y : Nat → Int32} {pl op cm wa : Int32} (h : lwI n base p o1 cs (x0 :: ws) pl op cm wa x y) (hx : x0 / 1048576 = 13) (hp : p < n) : lwI n ws.length (p + 1) (o1 - 1) cs ws (nI (p + 1)) (nI (o1 - 1)) (nI cs.length) (nI ws.length) x y := by
  obtain ⟨_, ⟨hcs, hst⟩, ⟨h1, h2, h3, h4, h5⟩, _⟩ := h
  rw [cntS_no (by omega)] at h1
  rw [cntO_y (by omega)] at h4
  have e3 : (x0 :: ws).length = ws.length + 1 := rfl
  exact ⟨⟨rfl, rfl, rfl, rfl⟩, ⟨hcs, hst.2⟩, ⟨by omega, by omega, hp, by omega, by omega⟩, stG_self _⟩
/-- a condition, as the reference reads it -/
def conW (f : Nat → Int32) (n p b : Nat) : CR := if ckN f n p = 40 then conE f n p b else .inl (1, p)
def cdPost (f : Nat → Int32) (n p0 : Nat) (cs0 : List Nat) (ok : Bool) (pl fa cm : Int32) (x : Nat → Int32) : Prop := match conW f n p0 cs0.length with
  | .inl e => ok = false ∧ fa = wrI e.1 e.2
  | .inr r => ok = true ∧ pl = nI r.2 ∧ cm = nI (cs0 ++ r.1.1).length ∧ csA (cs0 ++ r.1.1) x
section CDP
variable {f : Nat → Int32} {n p0 fu : Nat} {cs0 : List Nat} {ok : Bool} {pl fa cm : Int32} {x : Nat → Int32}
theorem cdP_no (h : ¬ ckN f n p0 = 40) : cdPost f n p0 cs0 false pl (wrI 1 p0) cm x := by
  unfold cdPost conW; rw [if_neg h]; exact ⟨rfl, rfl⟩
theorem cdP_bad {e : Nat × Nat} (h : ckN f n p0 = 40) (hn : n ≤ 240) (hf : n + 1 - p0 ≤ fu) (hb : cs0.length ≤ p0) (hR : mK f n fu true cs0 [] 0 p0 = .inl e) (hfa : fa = wrI e.1 e.2) : cdPost f n p0 cs0 false pl fa cm x := by
  obtain ⟨a1, a2⟩ := mK_con (f := f) (n := n) (fu := fu) (p := p0) (cs := cs0) hn h hf hb
  unfold cdPost conW; rw [if_pos h]
  cases hs : conE f n p0 cs0.length with
  | inl e' => rw [a1 e' hs] at hR; cases hR; exact ⟨rfl, hfa⟩
  | inr r => rw [a2 r hs] at hR; cases hR
theorem cdP_ok {c5 : List Nat} {o1 p : Nat} (h : ckN f n p0 = 40) (hn : n ≤ 240) (hf : n + 1 - p0 ≤ fu) (hb : cs0.length ≤ p0) (hR : mK f n fu true cs0 [] 0 p0 = .inr (c5, [], o1, p)) (hp : pl = nI p) (hc : cm = nI c5.length) (hx : csA c5 x) : cdPost f n p0 cs0 true pl fa cm x := by
  obtain ⟨a1, a2⟩ := mK_con (f := f) (n := n) (fu := fu) (p := p0) (cs := cs0) hn h hf hb
  unfold cdPost conW; rw [if_pos h]
  cases hs : conE f n p0 cs0.length with
  | inl e' => rw [a1 e' hs] at hR; cases hR
  | inr r => rw [a2 r hs] at hR; cases hR; exact ⟨rfl, hp, hc, hx⟩
theorem cdP_f (h : cdPost f n p0 cs0 ok pl fa cm x) (hk : ok = false) : ∃ e, conW f n p0 cs0.length = .inl e ∧ fa = wrI e.1 e.2 := by
  unfold cdPost at h
  split at h
  · rename_i e he; exact ⟨e, he, h.2⟩
  · rw [h.1] at hk; exact Bool.noConfusion hk
theorem cdP_t (h : cdPost f n p0 cs0 ok pl fa cm x) (hk : ok = true) : ∃ r, conW f n p0 cs0.length = .inr r ∧ pl = nI r.2 ∧ cm = nI (cs0 ++ r.1.1).length ∧ csA (cs0 ++ r.1.1) x := by
  unfold cdPost at h
  split at h
  · rw [h.1] at hk; exact Bool.noConfusion hk
  · rename_i r hr; exact ⟨r, hr, h.2⟩
end CDP
