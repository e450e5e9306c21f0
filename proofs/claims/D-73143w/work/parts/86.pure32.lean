set_option maxRecDepth 100000
theorem sgnN_lt {c s : Nat} (h : sgnN c = some s) : 2 ≤ s ∧ s ≤ 6 ∧ c < 256 := by
  unfold sgnN at h
  repeat (split at h; (rename_i e; cases h; omega))
  cases h
def smPost (RR : MR) (n base : Nat) (ok : Bool) (pl fa op cm wa : Int32) (x y : Nat → Int32) : Prop :=
  if ok = true then ∃ p o1 cs ws, RR = .inr (cs, ws, o1, p) ∧ lwI n base p o1 cs ws pl op cm wa x y else ∃ e, RR = .inl e ∧ fa = wrI e.1 e.2
theorem smP_bad {RR : MR} {n base : Nat} {e : Nat × Nat} {pl fa op cm wa : Int32} {x y : Nat → Int32} (h : RR = .inl e) (hf : fa = wrI e.1 e.2) : smPost RR n base false pl fa op cm wa x y := by
  unfold smPost; rw [if_neg (by decide)]; exact ⟨e, h, hf⟩
theorem smP_ok {RR : MR} {n base p o1 : Nat} {cs ws : List Nat} {pl fa op cm wa : Int32} {x y : Nat → Int32} (h : RR = .inr (cs, ws, o1, p)) (hI : lwI n base p o1 cs ws pl op cm wa x y) : smPost RR n base true pl fa op cm wa x y := by
  unfold smPost; rw [if_pos rfl]; exact ⟨p, o1, cs, ws, h, hI⟩
theorem smP_f {RR : MR} {n base : Nat} {ok : Bool} {pl fa op cm wa : Int32} {x y : Nat → Int32} (h : smPost RR n base ok pl fa op cm wa x y) (hk : ok = false) : ∃ e, RR = .inl e ∧ fa = wrI e.1 e.2 := by
  unfold smPost at h; rw [if_neg (by rw [hk]; decide)] at h; exact h
theorem smP_t {RR : MR} {n base : Nat} {ok : Bool} {pl fa op cm wa : Int32} {x y : Nat → Int32} (h : smPost RR n base ok pl fa op cm wa x y) (hk : ok = true) : ∃ p o1 cs ws, RR = .inr (cs, ws, o1, p) ∧ lwI n base p o1 cs ws pl op cm wa x y := by
  unfold smPost at h; rw [if_pos hk] at h; exact h
/-- after the closing of signs -/
theorem lwI_cl {n base p o1 : Nat} {al : Bool} {cs ws : List Nat} {x' y : Nat → Int32} (hx : csA (clS al cs ws).1 x') (hst : stA ws y) (h1 : cs.length + cntS ws ≤ p) (h2 : ws.length ≤ p) (hp : p ≤ n) (hc : cntO ws ≤ o1) (h6 : o1 ≤ 6) (hG : stG base ws) :
    lwI n base p o1 (clS al cs ws).1 (clS al cs ws).2 (nI p) (nI o1) (nI (clS al cs ws).1.length) (nI (clS al cs ws).2.length) x' y := by
  obtain ⟨a1, a2, a3, a4, a5, a6, a7, a8⟩ := clS_spec (al := al) ws cs
  have a9 := clS_cnt (al := al) ws cs
  exact ⟨⟨rfl, rfl, rfl, rfl⟩, ⟨hx, a4 y hst⟩, ⟨by omega, by omega, hp, by omega, h6⟩, a5 base hG⟩
theorem lwI_sg {n base p o1 s : Nat} {cs ws : List Nat} {x y : Nat → Int32} (h : lwI n base p o1 cs ws (nI p) (nI o1) (nI cs.length) (nI ws.length) x y) (hs : 2 ≤ s ∧ s ≤ 6) (hp : p < n) :
    lwI n base (p + 1) o1 cs (UN * s :: ws) (nI (p + 1)) (nI o1) (nI cs.length) (nI (ws.length + 1)) x (upd y ws.length (nI (1048576 * s))) := by
  obtain ⟨_, ⟨hcs, hst⟩, ⟨h1, h2, h3, h4, h5⟩, hG⟩ := h
  have e := un_div s
  have hb : UN * s ≤ 1048576 * 6 := Nat.mul_le_mul_left _ hs.2
  refine ⟨⟨rfl, rfl, rfl, rfl⟩, ⟨hcs, stA_push hst (by omega)⟩, ⟨?_, by show ws.length + 1 ≤ p + 1; omega, hp, ?_, h5⟩, stG_push hG (Or.inl (by rw [e]; exact hs))⟩
  · have e2 : cntS (UN * s :: ws) = cntS ws + 1 := cntS_sg (by have e : UN * s / 1048576 = s := e; omega)
    rw [e2]; omega
  · show (if _ then 1 else 0) + cntO ws ≤ _; rw [if_neg (by rw [e]; omega)]; omega
theorem lwI_pop {n base p o1 x0 : Nat} {cs ws : List Nat} {x y : Nat → Int32} (h : lwI n base p o1 cs (x0 :: ws) (nI p) (nI o1) (nI cs.length) (nI (x0 :: ws).length) x y) (hx : x0 / UN = 14) (hp : p < n) :
    lwI n base (p + 1) (o1 - 1) cs ws (nI (p + 1)) (nI (o1 - 1)) (nI cs.length) (nI ws.length) x y := by
  obtain ⟨_, ⟨hcs, hst⟩, ⟨h1, h2, h3, h4, h5⟩, hG⟩ := h
  have e1 : cntS (x0 :: ws) = cntS ws := cntS_no (by have : x0 / 1048576 = 14 := hx; omega)
  have e2 : cntO (x0 :: ws) = 1 + cntO ws := by show (if _ then 1 else 0) + cntO ws = _; rw [if_pos (Or.inl hx)]
  have e3 : (x0 :: ws).length = ws.length + 1 := rfl
  rw [e1] at h1; rw [e2] at h4; rw [e3] at h2
  exact ⟨⟨rfl, rfl, rfl, rfl⟩, ⟨hcs, hst.2⟩, ⟨by omega, by omega, hp, by omega, by omega⟩, stG_tl hG⟩
