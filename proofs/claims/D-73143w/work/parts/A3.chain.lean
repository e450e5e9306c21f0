set_option maxRecDepth 100000
/-! for the walks of the reader: what is carried along; chains of rows -/
theorem Fr.tr1 {A : Nat → Prop} {H H1 H2 : Heap} {a : Nat} (h : Fr A H H1) (k : Fr (fun q => q = a) H1 H2) (ha : H.size ≤ a) : Fr A H H2 := ⟨Nat.le_trans h.1 k.1, fun q h1 h2 => (k.2 q (Nat.lt_of_lt_of_le h1 h.1) (fun z => by have z : q = a := z; omega)).trans (h.2 q h1 h2)⟩
theorem nAw {o : Nat} {R : Nat → Nat} {h0 a : Nat} (hA : ∀ q, AwQ o R q → q < h0) (h : h0 ≤ a) : ¬ AwQ o R a := fun z => by have := hA a z; omega
theorem PwQ.frA {G : GG} {o : Nat} {R : Nat → Nat} {tx h0 a : Nat} {u : MS} {H H1 : Heap} (h : PwQ G o R tx u H) (hf : Fr (fun q => q = a) H H1) (hD : DwQ o R) (hA : ∀ q, AwQ o R q → q < h0) (ha : h0 ≤ a) : PwQ G o R tx u H1 := va_P.fr h hf (fun k q hq z => by
  have z : q.1 = a := z
  have := hA _ ((hD G tx u).2 k q hq)
  omega)
theorem stK {σ : SD} {s : State} {A : Nat → Prop} {H : Heap} {locs : List Loc} (hT : ST σ s s.heap) (hS : va_S A s.heap H locs) (hA : ∀ q, A q → kpA σ q) : ST σ s H := hT.kept (fun q h1 h2 => hS.2.1 q h1 (fun z => h2 (hA q z)))
theorem TT.nil (G : GG) (A : Nat → Prop) (H : Heap) (D : Nat) : (TT G A H D).2 none (fun _ v => some v) := by
  cases D with
  | zero => exact ⟨rfl, fun _ _ => rfl⟩
  | succ D => exact Or.inl ⟨rfl, fun _ _ => rfl⟩
theorem CT.nil (G : GG) (A : Nat → Prop) (H : Heap) (D : Nat) (b : Bool) : (CT G A H D).2 none b (fun _ => some (!b)) := by
  cases D with
  | zero => exact ⟨rfl, fun _ => rfl⟩
  | succ D => exact Or.inl ⟨rfl, fun _ => rfl⟩
/-- what the chain from 'last' on makes of the first row -/
def KT (G : GG) (A : Nat → Prop) (lo : Nat) (H : Heap) (first last : Nat) (sn : Int32) (pp D DD : Nat) (acc : SDn) : Prop := ∀ (H' : Heap) (r : Option Nat) (dr : FF → Int32 → Option Int32), Fr (fun q => A q ∨ q = last) H H' → va_P G.1 vwCl [(last, .inr (7, [.int sn, .ref pp, va_rf r]))] H' → (TT G (fun x => x < lo) H' D).2 r dr → (TT G (fun x => x < lo) H' DD).1 first (fun F => (acc F).bind (dr F))
theorem KT.first {G : GG} {A : Nat → Prop} {lo : Nat} {H : Heap} {a pp D dep : Nat} {sn : Int32} {dp : SDn} (hA : ∀ q, A q → q < lo) (hl : lo ≤ a) (hpt : (TT G (fun x => x < a + 1) H dep).1 pp dp) (hd : dep ≤ D) : KT G A lo H a a sn pp D (D + 1) dp := fun H' r dr hf hrow hch => by
  refine ⟨by omega, Or.inr (Or.inr ⟨sn, pp, r, dp, dr, hrow, ?_, hch, fun F => rfl⟩)⟩
  refine (TT.anti (fun q (z : q < lo) => (by omega : q < a + 1)) D).1 _ _ ((TT.upto hd).1 _ _ (TT.fr hpt hf (fun q z => ?_)))
  rcases z with z | z
  · have := hA q z; omega
  · omega
theorem KT.step {G : GG} {A : Nat → Prop} {lo : Nat} {H Hn : Heap} {first last a1 pp pp' D D' D1 DD dep ch : Nat} {sn sn' : Int32} {acc dp : SDn} (hK : KT G A lo H first last sn pp D DD acc) (hA : ∀ q, A q → q < lo) (hll : lo ≤ last) (hla : last < H.size) (ha : H.size ≤ a1) (hf : Fr (fun q => A q ∨ q = last) H Hn) (hlast : va_P G.1 vwCl [(last, .inr (7, [.int sn, .ref pp, .ref a1]))] Hn) (hpt : (TT G (fun x => x < a1 + 1) Hn dep).1 pp' dp) (hsn : sn' = nI ch) (hd : dep ≤ D1) (hd' : D' ≤ D1) (hDD : D1 + 1 ≤ D) : KT G A lo Hn first a1 sn' pp' D' DD (sgD ch acc dp) := fun H' r dr hfr hrow hch => by
  have hf2 : Fr (fun q => A q ∨ q = last) H H' := ⟨Nat.le_trans hf.1 hfr.1, fun q h1 h2 => (hfr.2 q (Nat.lt_of_lt_of_le h1 hf.1) (fun z => z.elim (fun z => h2 (Or.inl z)) (fun z => by omega))).trans (hf.2 q h1 h2)⟩
  have hlast2 := hlast.fr1 hfr (fun z => z.elim (fun z => by have := hA _ z; omega) (fun z => by omega))
  have h1 := hK H' (some a1) (fun F v => (dp F).bind fun y => (workS sn' v y).bind (dr F)) hf2 hlast2 ((TT.upto hDD).2 _ _ (Or.inr ⟨a1, sn', pp', r, dp, dr, rfl, (by omega), hrow, ?_, (TT.upto hd').2 _ _ hch, fun _ _ => rfl⟩))
  · have e : (fun F => (acc F).bind fun v => (dp F).bind fun y => (workS sn' v y).bind (dr F)) = fun F => ((sgD ch acc dp) F).bind (dr F) := by
      funext F
      subst hsn
      unfold sgD
      cases acc F with
      | none => rfl
      | some v =>
        simp only [Option.bind_some]
        cases dp F with
        | none => rfl
        | some w => rfl
    rw [← e]; exact h1
  · refine (TT.anti (fun q (z : q < lo) => (by omega : q < a1 + 1)) D1).1 _ _ ((TT.upto hd).1 _ _ (TT.fr hpt hfr (fun q z => ?_)))
    rcases z with z | z
    · have := hA q z; omega
    · omega
theorem KT.done {G : GG} {A : Nat → Prop} {lo : Nat} {H : Heap} {first last pp D DD : Nat} {sn : Int32} {acc : SDn} (hK : KT G A lo H first last sn pp D DD acc) (hlast : va_P G.1 vwCl [(last, .inr (7, [.int sn, .ref pp, .null]))] H) : (TT G (fun x => x < lo) H DD).1 first acc := by
  have h := hK H none (fun _ v => some v) (Fr.rf _ _) hlast (TT.nil _ _ _ _)
  have e : (fun F => (acc F).bind fun v => some v) = acc := by funext F; cases acc F <;> rfl
  rw [e] at h; exact h
/-- a fault that is one -/
def fOK (e : Nat) : Prop := isGB (nI e) = false ∧ (0 : Int32) < nI e
theorem isGB_n {e : Nat} (h : e = 1 ∨ e = 2 ∨ e = 3 ∨ e = 4 ∨ e = 5 ∨ e = 6 ∨ e = 7) : isGB (nI e) = false := by
  rcases h with rfl | rfl | rfl | rfl | rfl | rfl | rfl <;> decide
theorem numL_e {f : Nat → Int32} {n p : Nat} {e : Nat × Nat} (h : numL f n p = .inl e) : fOK e.1 := by
  rw [nmL_f _ _ _ _ h]; exact ⟨by decide, by decide⟩
theorem letC_ck {c i : Nat} (h : letN c = some i) : nI c = letC i := by
  unfold letN at h
  repeat (split at h; (rename_i e; cases h; rw [e]; rfl))
  cases h
/-- what a method of sums answers -/
def FPost (G : GG) (u : MS) (n p : Nat) (H0 : Heap) (dep gg gb : Nat) (x : SR) (r : Option Nat) (w : MS × Nat × (Heap → Prop)) : Prop := match x with
  | .inr a => w.1 = qE u (nI a.2) (u.1 144) 0 (u.1 146) ∧ w.2.1 + gg ≤ 3 * (a.2 - p) ∧ ∃ b, r = some b ∧ ∀ H, w.2.2 H → (TT G (fun q => q < H0.size) H dep).1 b a.1.2
  | .inl e => (∃ q, q ≤ n + 1 ∧ w.1 = qE u (nI q) (u.1 144) (nI e.1) (nI e.2)) ∧ fOK e.1 ∧ w.2.1 ≤ 3 * (n + 1 - p) + gb
section FPOST
variable {G : GG} {u : MS} {n p dep gg gb : Nat} {H0 : Heap} {x : SR} {r : Option Nat} {w : MS} {g : Nat} {X : Heap → Prop}
theorem FP_l {e : Nat × Nat} {q : Nat} (h : x = .inl e) (hq : q ≤ n + 1) (hw : w = qE u (nI q) (u.1 144) (nI e.1) (nI e.2)) (he : fOK e.1) (hg : g ≤ 3 * (n + 1 - p) + gb) : FPost G u n p H0 dep gg gb x r (w, g, X) := by
  subst h; exact ⟨⟨q, hq, hw⟩, he, hg⟩
theorem FP_r {a : SA × Nat} {b : Nat} (h : x = .inr a) (hw : w = qE u (nI a.2) (u.1 144) 0 (u.1 146)) (hg : g + gg ≤ 3 * (a.2 - p)) (hb : ∀ H, X H → (TT G (fun q => q < H0.size) H dep).1 b a.1.2) : FPost G u n p H0 dep gg gb x (some b) (w, g, X) := by
  subst h; exact ⟨hw, hg, b, rfl, hb⟩
theorem FP_c (h : FPost G u n p H0 dep gg gb x r (w, g, X)) : (∃ a b, x = .inr a ∧ w = qE u (nI a.2) (u.1 144) 0 (u.1 146) ∧ g + gg ≤ 3 * (a.2 - p) ∧ r = some b ∧ ∀ H, X H → (TT G (fun q => q < H0.size) H dep).1 b a.1.2) ∨ ∃ e q, x = .inl e ∧ q ≤ n + 1 ∧ w = qE u (nI q) (u.1 144) (nI e.1) (nI e.2) ∧ fOK e.1 ∧ g ≤ 3 * (n + 1 - p) + gb := by
  cases x with
  | inl e => obtain ⟨⟨q, h1, h2⟩, h3, h4⟩ := h; exact Or.inr ⟨e, q, rfl, h1, h2, h3, h4⟩
  | inr a => obtain ⟨h1, h2, b, h3, h4⟩ := h; exact Or.inl ⟨a, b, rfl, h1, h2, h3, h4⟩
end FPOST
def prodS (f : Nat → Int32) (n k op p : Nat) (a : SA) : SR := bW (rdE f n k 0 op p a) fun r => rdE f n k 1 op r.2 r.1
theorem bW_as {α β γ : Type} (x : (Nat × Nat) ⊕ α) (k : α → (Nat × Nat) ⊕ β) (j : β → (Nat × Nat) ⊕ γ) : bW (bW x k) j = bW x (fun a => bW (k a) j) := by cases x <;> rfl
section PQ
variable {G : GG} {p : Program} {l : Launch} {e : Env} {Rm : Room} {s : State} {m : MethodId} {args : Array Value} {below : List Frame} {meth : Method} {c : Code} {H : Heap} {locs : List Loc} {cells slots k : Nat} {Q : State → Prop}
variable {cc : ByteArray} {nL index pc : Nat} {own C : String} {ls : Array Slot} {rest : List Value} {A : Nat → Prop}
theorem F_newA {T : u_T} {N ci : Nat} {fs : List Value} (ty : Nat → FieldType) (hC : CallFix p m c cc nL s args lw_all own) (hK : KS G s) (hS : va_S A s.heap H locs) (hin : ∀ w ∈ u_ws C T N, w ∈ lw_all) (hty : ∀ k, k < N → parseFieldDescriptor (T k).2.2.1 = some (ty k)) (hcl : Cond.classLink own index C ∈ lw_all) (hinst : Cond.instantiable C N ∈ lw_all) (hini : Cond.initialized C ∈ lw_all) (hc : vwCl[ci]? = some (C, T, N)) (hfs : ∀ j, j < N → defaultValue (ty j) = vp_V fs j) (hN : N ≤ 3) (hcells : k + 1 ≤ Rm.cells) (hslots : 3 * k + 3 ≤ Rm.slots) (hdg : decode cc pc = .ok (.new index, 3))
    (kk : ∀ (a : Nat) (H1 : Heap), a = H.size → va_P G.1 vwCl [(a, .inr (ci, fs))] H1 → H1.size = a + 1 → Fr (fun _ => False) H H1 → va_S A s.heap H1 locs → W p l e Rm s m args below meth c H1 locs (k + 1) (3 * (k + 1)) Q (F0 m (pc + 3) ls (.ref a :: rest))) : W p l e Rm s m args below meth c H locs k (3 * k) Q (F0 m pc ls rest) :=
  F_new ty hC hK hS hin hty hcl hinst hini hc hfs hN hcells hslots hdg (fun H1 h1 h2 h3 h4 => kk H.size H1 rfl h1 h2 h3 h4)
end PQ
