set_option maxRecDepth 100000
theorem sums_all (G : GG) (l : Launch) : ∀ d, SumC G l d := by
  intro d
  induction d with
  | zero => exact sum_ok G l 0 (pro_ok G l 0 (fac_ok G l 0 (fun d' h => by omega)))
  | succ d ih => exact sum_ok G l (d + 1) (pro_ok G l (d + 1) (fac_ok G l (d + 1) (fun d' h => by
      have e : d' = d := by omega
      subst e; exact ih)))
theorem somS_as (b : Bool) (x y z : Option Bool) : somS b (somS b x y) z = somS b x (somS b y z) := by
  cases x with
  | none => rfl
  | some v =>
    by_cases h : v = b
    · subst h; simp [somS]
    · simp [somS, h]
theorem somS_end (b : Bool) (x : Option Bool) : somS b x (some (!b)) = x := by
  cases x with
  | none => rfl
  | some v => cases v <;> cases b <;> rfl
/-- what the chain of pieces from 'last' on makes of the first -/
def KC (G : GG) (A : Nat → Prop) (lo : Nat) (H : Heap) (first last : Nat) (b : Bool) (pp D DD : Nat) (acc : CDn) : Prop := ∀ (H' : Heap) (r : Option Nat) (dr : CDn), Fr (fun q => A q ∨ q = last) H H' → va_P G.1 vwCl [(last, .inr (10, [.ref pp, .int (bI b), va_rf r]))] H' → (CT G (fun x => x < lo) H' D).2 r b dr → (CT G (fun x => x < lo) H' DD).1 first (fun F => somS b (acc F) (dr F))
theorem KC.first {G : GG} {A : Nat → Prop} {lo : Nat} {H : Heap} {a pp D dep : Nat} {b : Bool} {dp : CDn} (hA : ∀ q, A q → q < lo) (hl : lo ≤ a) (hpt : (CT G (fun x => x < a + 1) H dep).1 pp dp) (hd : dep ≤ D) : KC G A lo H a a b pp D (D + 1) dp := fun H' r dr hf hrow hch => by
  refine ⟨by omega, Or.inr (Or.inr ⟨pp, b, r, dp, dr, hrow, ?_, hch, fun F => rfl⟩)⟩
  refine (CT.anti (fun q (z : q < lo) => (by omega : q < a + 1)) D).1 _ _ ((CT.upto hd).1 _ _ (CT.fr hpt hf (fun q z => ?_)))
  rcases z with z | z
  · have := hA q z; omega
  · omega
theorem KC.step {G : GG} {A : Nat → Prop} {lo : Nat} {H Hn : Heap} {first last a1 pp pp' D D' D1 DD dep : Nat} {b : Bool} {acc dp : CDn} (hK : KC G A lo H first last b pp D DD acc) (hA : ∀ q, A q → q < lo) (hll : lo ≤ last) (hla : last < H.size) (ha : H.size ≤ a1) (hf : Fr (fun q => A q ∨ q = last) H Hn) (hlast : va_P G.1 vwCl [(last, .inr (10, [.ref pp, .int (bI b), .ref a1]))] Hn) (hpt : (CT G (fun x => x < a1 + 1) Hn dep).1 pp' dp) (hd : dep ≤ D1) (hd' : D' ≤ D1) (hDD : D1 + 1 ≤ D) : KC G A lo Hn first a1 b pp' D' DD (fun F => somS b (acc F) (dp F)) := fun H' r dr hfr hrow hch => by
  have hf2 : Fr (fun q => A q ∨ q = last) H H' := ⟨Nat.le_trans hf.1 hfr.1, fun q h1 h2 => (hfr.2 q (Nat.lt_of_lt_of_le h1 hf.1) (fun z => z.elim (fun z => h2 (Or.inl z)) (fun z => by omega))).trans (hf.2 q h1 h2)⟩
  have hlast2 := hlast.fr1 hfr (fun z => z.elim (fun z => by have := hA _ z; omega) (fun z => by omega))
  have h1 := hK H' (some a1) (fun F => somS b (dp F) (dr F)) hf2 hlast2 ((CT.upto hDD).2 _ _ _ (Or.inr ⟨a1, pp', bI b, r, dp, dr, rfl, (by omega), hrow, ?_, (CT.upto hd').2 _ _ _ hch, fun _ => rfl⟩))
  · have e : (fun F => somS b (acc F) (somS b (dp F) (dr F))) = fun F => somS b (somS b (acc F) (dp F)) (dr F) := by
      funext F; exact (somS_as _ _ _ _).symm
    rw [← e]; exact h1
  · refine (CT.anti (fun q (z : q < lo) => (by omega : q < a1 + 1)) D1).1 _ _ ((CT.upto hd).1 _ _ (CT.fr hpt hfr (fun q z => ?_)))
    rcases z with z | z
    · have := hA q z; omega
    · omega
theorem KC.done {G : GG} {A : Nat → Prop} {lo : Nat} {H : Heap} {first last pp D DD : Nat} {b : Bool} {acc : CDn} (hK : KC G A lo H first last b pp D DD acc) (hlast : va_P G.1 vwCl [(last, .inr (10, [.ref pp, .int (bI b), .null]))] H) : (CT G (fun x => x < lo) H DD).1 first acc := by
  have h := hK H none (fun _ => some (!b)) (Fr.rf _ _) hlast (CT.nil _ _ _ _ _)
  have e : (fun F => somS b (acc F) (some (!b))) = acc := by funext F; exact somS_end _ _
  rw [e] at h; exact h
theorem KC.mono {G : GG} {A : Nat → Prop} {lo : Nat} {H : Heap} {first last pp D D' DD : Nat} {b : Bool} {acc : CDn} (hK : KC G A lo H first last b pp D DD acc) (h : D' ≤ D) : KC G A lo H first last b pp D' DD acc := fun H' r dr h1 h2 h3 => hK H' r dr h1 h2 ((CT.upto h).2 _ _ _ h3)
/-- what a method of conditions answers -/
def CPost (G : GG) (u : MS) (n p : Nat) (H0 : Heap) (dep gg gb : Nat) (x : CR) (r : Option Nat) (w : MS × Nat × (Heap → Prop)) : Prop := match x with
  | .inr a => w.1 = qE u (nI a.2) (u.1 144) 0 (u.1 146) ∧ w.2.1 + gg ≤ 3 * (a.2 - p) ∧ ∃ b, r = some b ∧ ∀ H, w.2.2 H → (CT G (fun q => q < H0.size) H dep).1 b a.1.2
  | .inl e => (∃ q, q ≤ n + 2 ∧ w.1 = qE u (nI q) (u.1 144) (nI e.1) (nI e.2)) ∧ fOK e.1 ∧ w.2.1 ≤ 3 * (n + 1 - p) + gb
section CPOST
variable {G : GG} {u : MS} {n p dep gg gb : Nat} {H0 : Heap} {x : CR} {r : Option Nat} {w : MS} {g : Nat} {X : Heap → Prop}
theorem CP_l {e : Nat × Nat} {q : Nat} (h : x = .inl e) (hq : q ≤ n + 2) (hw : w = qE u (nI q) (u.1 144) (nI e.1) (nI e.2)) (he : fOK e.1) (hg : g ≤ 3 * (n + 1 - p) + gb) : CPost G u n p H0 dep gg gb x r (w, g, X) := by
  subst h; exact ⟨⟨q, hq, hw⟩, he, hg⟩
theorem CP_r {a : CA × Nat} {b : Nat} (h : x = .inr a) (hw : w = qE u (nI a.2) (u.1 144) 0 (u.1 146)) (hg : g + gg ≤ 3 * (a.2 - p)) (hb : ∀ H, X H → (CT G (fun q => q < H0.size) H dep).1 b a.1.2) : CPost G u n p H0 dep gg gb x (some b) (w, g, X) := by
  subst h; exact ⟨hw, hg, b, rfl, hb⟩
theorem CP_c (h : CPost G u n p H0 dep gg gb x r (w, g, X)) : (∃ a b, x = .inr a ∧ w = qE u (nI a.2) (u.1 144) 0 (u.1 146) ∧ g + gg ≤ 3 * (a.2 - p) ∧ r = some b ∧ ∀ H, X H → (CT G (fun q => q < H0.size) H dep).1 b a.1.2) ∨ ∃ e q, x = .inl e ∧ q ≤ n + 2 ∧ w = qE u (nI q) (u.1 144) (nI e.1) (nI e.2) ∧ fOK e.1 ∧ g ≤ 3 * (n + 1 - p) + gb := by
  cases x with
  | inl e => obtain ⟨⟨q, h1, h2⟩, h3, h4⟩ := h; exact Or.inr ⟨e, q, rfl, h1, h2, h3, h4⟩
  | inr a => obtain ⟨h1, h2, b, h3, h4⟩ := h; exact Or.inl ⟨a, b, rfl, h1, h2, h3, h4⟩
end CPOST
def pieS (f : Nat → Int32) (n k op p b : Nat) (a : CA) : CR := bW (rdC f n k 0 op p b a) fun r => rdC f n k 1 op r.2 b r.1
theorem rdC_22 {f : Nat → Int32} {n k op p b : Nat} {a : CA} : rdC f n (k + 1) 2 op p b a = if ckN f n p = 124 then bW (rdC f n k 0 op (p + 1) (b + a.1.length + 1) a) (fun r => bW (rdC f n k 1 op r.2 (b + a.1.length + 1) r.1) fun r2 => rdC f n k 2 op r2.2 b (a.1 ++ [UN * 12 + (b + a.1.length + 1 + r2.1.1.length)] ++ r2.1.1, fun F => somS true (a.2 F) (r2.1.2 F))) else .inr (a, p) := rfl
theorem rdC_2p {f : Nat → Int32} {n k op p b : Nat} {a : CA} : rdC f n (k + 1) 2 op p b a = if ckN f n p = 124 then bW (pieS f n k op (p + 1) (b + a.1.length + 1) a) (fun r2 => rdC f n k 2 op r2.2 b (a.1 ++ [UN * 12 + (b + a.1.length + 1 + r2.1.1.length)] ++ r2.1.1, fun F => somS true (a.2 F) (r2.1.2 F))) else .inr (a, p) := by
  unfold pieS; rw [bW_as]; exact rdC_2
theorem rdC_3p {f : Nat → Int32} {n k op p b : Nat} {a : CA} : rdC f n (k + 1) 3 op p b a = if op = 6 then .inl (5, p) else bW (pieS f n k (op + 1) (p + 1) b a) (fun r1 => bW (rdC f n k 2 (op + 1) r1.2 b r1.1) fun r2 => if ckN f n r2.2 = 41 then .inr (r2.1, r2.2 + 1) else .inl (1, r2.2)) := by
  unfold pieS; rw [bW_as]; exact rdC_3
theorem pieS_b {f : Nat → Int32} {n k op p b : Nat} {a : CA} {r : CA × Nat} (hp : p ≤ n) (h : pieS f n k op p b a = .inr r) : p < r.2 ∧ r.2 ≤ n ∧ ¬ ckN f n r.2 = 38 := by
  unfold pieS at h
  obtain ⟨r1, h1, h2⟩ := bW_r h
  obtain ⟨i0, i1, _, _⟩ := rdC_b (f := f) (n := n) k
  have b1 := i0 _ _ _ _ _ hp h1
  have b2 := i1 _ _ _ _ _ b1.2.1 h2
  exact ⟨by omega, b2.2.1, b2.2.2.2.2⟩
theorem CT.cmp {G : GG} {H : Heap} {lo a D x y : Nat} {sn : Int32} {dx dy : SDn} (hl : lo ≤ a) (h : va_P G.1 vwCl [(a, .inr (12, [.ref x, .ref y, .int sn]))] H) (hx : (TT G (fun q => q < lo) H D).1 x dx) (hy : (TT G (fun q => q < lo) H D).1 y dy) : (CT G (fun q => q < lo) H (D + 1)).1 a (fun F => cmpS sn (dx F) (dy F)) := ⟨by omega, Or.inl ⟨x, y, sn, dx, dy, h, hx, hy, fun _ => rfl⟩⟩
theorem CT.not {G : GG} {H : Heap} {lo a D x : Nat} {dx : CDn} (hl : lo ≤ a) (h : va_P G.1 vwCl [(a, .inr (11, [.ref x]))] H) (hx : (CT G (fun q => q < lo) H D).1 x dx) : (CT G (fun q => q < lo) H (D + 1)).1 a (fun F => (dx F).map (fun b => !b)) := ⟨by omega, Or.inr (Or.inl ⟨x, dx, h, hx, fun _ => rfl⟩)⟩
theorem cmp_hz {f : Nat → Int32} {n p : Nat} (h : hzN f n p = 60 ∨ hzN f n p = 62 ∨ hzN f n p = 61) : (∃ s, cmpN (ckN f n p) = some s) ∧ p < n ∧ nI (hzN f n p) = nI (ckN f n p) := by
  have h0 : ¬ hzN f n p = 0 := by omega
  obtain ⟨h1, h2⟩ := hz_ne h0
  refine ⟨?_, h1, by rw [h2]⟩
  rw [h2]
  rcases h with h | h | h <;> rw [h] <;> exact ⟨_, rfl⟩
theorem cmp_hzn {f : Nat → Int32} {n p : Nat} (h1 : ¬ hzN f n p = 60) (h2 : ¬ hzN f n p = 62) (h3 : ¬ hzN f n p = 61) : cmpN (ckN f n p) = none := by
  have k1 := mt (hz_ck (f := f) (n := n) (p := p) (c := 60) (by decide) (by decide)).mpr h1
  have k2 := mt (hz_ck (f := f) (n := n) (p := p) (c := 62) (by decide) (by decide)).mpr h2
  have k3 := mt (hz_ck (f := f) (n := n) (p := p) (c := 61) (by decide) (by decide)).mpr h3
  unfold cmpN
  rw [if_neg k1, if_neg k2, if_neg k3]
def PieC (G : GG) (l : Launch) (d : Nat) : Prop := ∀ (σ : SD) (o : Nat) (R : Nat → Nat) (tx : Nat) (u : MS) (n p op k b : Nat) (a : CA) (H0 : Heap), DwQ o R → (∀ q, AwQ o R q → σ.1 ≤ q ∧ q < H0.size) → u.1 143 = nI p → u.1 141 = nI n → u.1 144 = nI op → u.1 145 = 0 → n ≤ 240 → p ≤ n → op + d = 6 → 2 * (n + 1 - p) + 2 ≤ k → CRq G l σ (PrQ G o R tx H0) (A0 o R H0.size) yX7_piece cX7_piece 4 (.object "SharedWindow$Condition") (12 + 3 * d) (300 + 90 * d) (3 * (n + 1 - p) + 3) (9 * (n + 1 - p) + 9) [.ref (R 140)] (fun H => PwQ G o R tx u H ∧ H = H0) (CPost G u n p H0 (n - p + 4 * d + 3) 2 3 (rdC (u.2.1 6) n k 0 op p b a))
def PisC (G : GG) (l : Launch) (d : Nat) : Prop := ∀ (σ : SD) (o : Nat) (R : Nat → Nat) (tx : Nat) (u : MS) (n p op k b : Nat) (a : CA) (H0 : Heap), DwQ o R → (∀ q, AwQ o R q → σ.1 ≤ q ∧ q < H0.size) → u.1 143 = nI p → u.1 141 = nI n → u.1 144 = nI op → u.1 145 = 0 → n ≤ 240 → p ≤ n → op + d = 6 → 2 * (n + 1 - p) + 2 ≤ k → CRq G l σ (PrQ G o R tx H0) (A0 o R H0.size) yX7_pieces cX7_pieces 3 (.object "SharedWindow$Condition") (13 + 3 * d) (330 + 90 * d) (3 * (n + 1 - p) + 4) (9 * (n + 1 - p) + 12) [.ref (R 140)] (fun H => PwQ G o R tx u H ∧ H = H0) (CPost G u n p H0 (n - p + 4 * d + 4) 1 4 (pieS (u.2.1 6) n k op p b a))
def ConC (G : GG) (l : Launch) (d : Nat) : Prop := ∀ (σ : SD) (o : Nat) (R : Nat → Nat) (tx : Nat) (u : MS) (n p op k b : Nat) (a : CA) (H0 : Heap), DwQ o R → (∀ q, AwQ o R q → σ.1 ≤ q ∧ q < H0.size) → u.1 143 = nI p → u.1 141 = nI n → u.1 144 = nI op → u.1 145 = 0 → n ≤ 240 → p < n → op + d = 6 → 2 * (n + 1 - p) + 1 ≤ k → CRq G l σ (PrQ G o R tx H0) (A0 o R H0.size) yX7_condition cX7_condition 3 (.object "SharedWindow$Condition") (11 + 3 * d) (270 + 90 * d) (3 * (n + 1 - p) + 2) (9 * (n + 1 - p) + 6) [.ref (R 140)] (fun H => PwQ G o R tx u H ∧ H = H0) (fun r w => CPost G u n p H0 (n - p + 4 * d + 2) 2 2 (rdC (u.2.1 6) n k 3 op p b a) r w ∧ KPost 10 G H0 r w)
