set_option maxRecDepth 100000
/-! the reader's conditions, closed; the law's text as it is written -/
theorem conds_all (G : GG) (l : Launch) : ∀ d, PieC G l d ∧ ConC G l d ∧ PisC G l d := by
  intro d
  induction d with
  | zero =>
    have c := con_ok G l 0 (fun d' h => by omega)
    have p := pie_ok G l 0 (fun d' h => by omega) c
    exact ⟨p, c, pis_ok G l 0 p⟩
  | succ d ih =>
    have c := con_ok G l (d + 1) (fun d' h => by
      have e : d' = d := by omega
      subst e; exact ih.2.2)
    have p := pie_ok G l (d + 1) (fun d' h => by
      have e : d' = d := by omega
      subst e; exact ih.1) c
    exact ⟨p, c, pis_ok G l (d + 1) p⟩
theorem SK.cast {z : Nat} {E : String} {G : GG} {s : State} {H : Heap} {b : Nat} (hz : z = 7 ∧ E = "SharedWindow$Sum" ∨ z = 10 ∧ E = "SharedWindow$Condition") (hK : KS G s) (h : SK z G b H) : ∃ ci fs r, va_P G.1 vwCl [(b, .inr (ci, fs))] H ∧ vwCl[ci]? = some r ∧ va_Nw (.castable r.1 E) s := by
  obtain ⟨ci, fs, h1, h2⟩ := h
  rcases hz with ⟨rfl, rfl⟩ | ⟨rfl, rfl⟩
  · rcases h1 with rfl | rfl | rfl
    · exact ⟨_, fs, _, h2, clX9, hK.2.2.2.1 _ nq1832⟩
    · exact ⟨_, fs, _, h2, clX10, hK.2.2.2.1 _ nq1833⟩
    · exact ⟨_, fs, _, h2, clX11, hK.2.2.2.1 _ nq1834⟩
  · rcases h1 with rfl | rfl | rfl
    · exact ⟨_, fs, _, h2, clX13, hK.2.2.2.1 _ nq1835⟩
    · exact ⟨_, fs, _, h2, clX14, hK.2.2.2.1 _ nq1836⟩
    · exact ⟨_, fs, _, h2, clX15, hK.2.2.2.1 _ nq1837⟩
section TEXT
variable {G : GG} {p : Program} {l : Launch} {e : Env} {Rm : Room} {s : State} {m : MethodId} {args : Array Value} {below : List Frame} {meth : Method} {c : Code} {H H0 : Heap} {locs : List Loc} {cells slots k : Nat} {Q : State → Prop} {A : Nat → Prop}
variable {cc : ByteArray} {nL pc mc ms : Nat} {own : String} {ls : Array Slot} {rest st : List Value}
theorem F_ast {i x : Int32} {a q0 n j : Nat} {f : Nat → Int32} {ws ws' : va_W} (hC : CallFix p m c cc nL s args lw_all own) (hK : KS G s) (hP : va_P G.1 vwCl ws H) (hD : va_D A ws) (hS : va_S A H0 H locs) (ha : ws[q0]? = some (a, .inl (G.2 0, n, .inl f))) (hset : ws.set q0 (a, .inl (G.2 0, n, .inl (upd f j x))) = ws') (hn : n < 2 ^ 31) (hi : i = nI j) (hj : j < n) (hdg : decode cc pc = .ok (.iastore, 1))
    (kk : ∀ (H1 : Heap) (locs : List Loc), va_P G.1 vwCl ws' H1 → va_S A H0 H1 locs → Fr (fun q => q = a) H H1 → W p l e Rm s m args below meth c H1 locs cells slots Q (F0 m (pc + 1) ls rest)) : W p l e Rm s m args below meth c H locs cells slots Q (F0 m pc ls (.int x :: .int i :: .ref a :: rest)) := by
  obtain ⟨h1, h2⟩ := ix_nI hi hj hn
  refine W.iast hC.1 hC.2.1 (hP q0 _ ha) ((hK.1.2 0 _ rfl).1 n (fun j => .int (f j))) (fun q => by cases q) (by show ¬ (i < 0 ∨ (arrV _ _ _).slots.size ≤ _); rw [arrV_size]; exact h1) rfl rfl hdg fun H1 e z oq => ?_
  refine kk H1 _ ?_ (hS.put z oq (hD.2 q0 _ ha)) ⟨by rw [z]; exact Nat.le_refl _, fun q _ hq => oq q hq⟩
  rw [← hset, ← h2]
  refine hP.set hD ha ?_ oq
  show H1[a]? = some (vp_cell _ _)
  rw [e, vp_cell_i, vp_cell_i, arrV_store]
  congr 2
  funext q
  by_cases hq : q = i.toNatClampNeg
  · subst hq; simp [updV, upd]
  · simp [updV, upd, hq]
theorem F_astq {i : Int32} {v : Option Nat} {a q0 t0 n j : Nat} {E : String} {f : Nat → Option Nat} {ws ws' : va_W} (hC : CallFix p m c cc nL s args lw_all own) (hK : KS G s) (hP : va_P G.1 vwCl ws H) (hD : va_D A ws) (hS : va_S A H0 H locs) (ha : ws[q0]? = some (a, .inl (G.2 t0, n, .inr (.inr (.inr (.inr f)))))) (hset : ws.set q0 (a, .inl (G.2 t0, n, .inr (.inr (.inr (.inr (va_up f j v)))))) = ws') (ht : (tysG G)[t0]? = some (G.2 t0, .object E)) (hv : ∀ b, v = some b → ∃ ci fs r, va_P G.1 vwCl [(b, .inr (ci, fs))] H ∧ vwCl[ci]? = some r ∧ va_Nw (.castable r.1 E) s) (hn : n < 2 ^ 31) (hi : i = nI j) (hj : j < n) (hdg : decode cc pc = .ok (.aastore, 1))
    (kk : ∀ (H1 : Heap) (locs : List Loc), va_P G.1 vwCl ws' H1 → va_S A H0 H1 locs → Fr (fun q => q = a) H H1 → W p l e Rm s m args below meth c H1 locs cells slots Q (F0 m (pc + 1) ls rest)) : W p l e Rm s m args below meth c H locs cells slots Q (F0 m pc ls (va_rf v :: .int i :: .ref a :: rest)) := by
  obtain ⟨h1, h2⟩ := ix_nI hi hj hn
  have hend : ∀ (H1 : Heap), H1[a]? = some (vp_cell (G.2 t0) (n, .inr (.inr (.inr (.inr (va_up f i.toNatClampNeg v)))))) → H1.size = H.size → (∀ q : Nat, q ≠ a → H1[q]? = H[q]?) → ∀ locs1, va_S A H0 H1 locs1 → W p l e Rm s m args below meth c H1 locs1 cells slots Q (F0 m (pc + 1) ls rest) := fun H1 e z oq locs1 hS1 => by
    refine kk H1 _ ?_ hS1 ⟨by rw [z]; exact Nat.le_refl _, fun q _ hq => oq q hq⟩
    rw [← hset, ← h2]
    exact hP.set hD ha e oq
  cases v with
  | none =>
    refine va_WaastN (C := E) hC.1 hC.2.1 (hP q0 _ ha) ((hK.1.2 t0 _ ht).1 n (fun j => va_rf (f j))) (fun h => by cases h) (by show ¬ (i < 0 ∨ (arrV _ _ _).slots.size ≤ _); rw [arrV_size]; exact h1) rfl rfl hdg fun H1 e z oq => ?_
    refine hend H1 ?_ z oq _ (hS.put z oq (hD.2 q0 _ ha))
    rw [e, vp_cell_q, vp_cell_q, arrV_store]
    congr 2
    funext q
    by_cases hq : q = i.toNatClampNeg
    · subst hq; simp [updV, va_up, va_rf]
    · simp [updV, va_up, hq]
  | some b =>
    obtain ⟨ci, fs, r, hb, hc, hca⟩ := hv b rfl
    have hlt : i.toNatClampNeg < n := Nat.not_le.mp fun q => h1 (Or.inr q)
    have h0 : ¬ i < 0 := fun q => h1 (Or.inl q)
    obtain ⟨r', hr', cellV, g1, g2, g3, -⟩ := hb 0 _ rfl
    have hcls := (hK.1.1 ci r hc).2
    obtain ⟨kA, comp, k1, k2, k3, -⟩ := (hK.1.2 t0 _ ht).2
    obtain ⟨kC, hkC, -⟩ := hcls.2
    obtain ⟨kE, hkE, -⟩ := Vm.findClass_spec k3
    refine W.aast hC.1 hC.2.1 (hP q0 _ ha) (fun q h => by cases h) (fun h => by cases h) k1 k2 rfl hkE ⟨h0, by show _ < (arrV _ _ _).slots.size; rw [arrV_size]; exact hlt⟩ g1 (fun q h => by rw [g3] at h; cases h) (by rw [g2]; exact hkC) (by rw [g2]; exact vb_asgC hca _ _ k3 hcls.1) rfl rfl hdg fun H1 e z oq => ?_
    refine hend H1 ?_ z oq _ (hS.put z oq (hD.2 q0 _ ha))
    rw [e, vp_cell_q, vp_cell_q, arrV_store]
    congr 2
    funext q
    by_cases hq : q = i.toNatClampNeg
    · subst hq; simp [updV, va_up, va_rf]
    · simp [updV, va_up, hq]
/-- a call of the reader from a method that may write more -/
theorem CRq.goG {o : Nat} {R : Nat → Nat} {tx : Nat} {post : Option Nat → (MS × Nat × (Heap → Prop)) → Prop} {av : Array Value} (hr : va_Run p l e Rm s m args below meth c H locs k (3 * k) mc ms (F0 m pc ls st) rest (va_Qq post (fun w t => PrQ G o R tx H w t.heap) (A0 o R H.size) av) (A0 o R H.size)) (hS : va_S A s.heap H locs) (hup : ∀ q, A0 o R H.size q → A q) (hA : ∀ q, AwQ o R q → q < s.heap.size)
    (kk : ∀ (r : Option Nat) (w : MS) (g : Nat) (X : Heap → Prop) (H1 : Heap) (locs1 : List Loc), post r (w, g, X) → PwQ G o R tx w H1 → X H1 → Fr (AwQ o R) H H1 → va_S A s.heap H1 locs1 → W p l e Rm s m args below meth c H1 locs1 (k + g) (3 * (k + g)) Q (F0 m (pc + 3) ls (va_rf r :: rest))) : W p l e Rm s m args below meth c H locs k (3 * k) Q (F0 m pc ls st) := by
  refine W_size (fun hz hw => ?_)
  have hHs := hS.1
  refine va_callq hr hS (fun q _ h => hup q h) hup (fun r w t H1 locs1 ht hvm hpo hB hz1 hk hS1 => ?_)
  obtain ⟨w, g, X⟩ := w
  have hB : PrQ G o R tx H (w, g, X) t.heap := hB
  rw [ht] at hB
  obtain ⟨hP, ⟨hg1, hg2⟩, hX⟩ := hB
  have hf : Fr (AwQ o R) H H1 := ⟨hz1, fun q h1 h2 => hk q h1 (fun z => z.elim h2 (fun z => by omega))⟩
  have hg1 : H1.size ≤ H.size + g := hg1
  refine W_fit (by omega) ?_ (kk r w g X H1 locs1 hpo hP hX hf hS1)
  rw [nw_add hHs (fun q h1 h2 => hf.2 q h2 (fun z => by have := hA q z; omega))]
  have hg2 : nw H.size H1 ≤ 3 * g := hg2
  omega
end TEXT
abbrev ClS : Type := Nat × (Nat → Int32) × (Nat → Option Nat) × (Nat → Option Nat)
def cT (G : GG) (t r0 r1 r2 : Nat) (w : ClS) : va_W := celT G t r0 r1 r2 w.1 w.2.1 w.2.2.1 w.2.2.2
def AT (t r0 r1 r2 : Nat) : Nat → Prop := fun q => q = t ∨ q = r0 ∨ q = r1 ∨ q = r2
def AcQ (o : Nat) (R : Nat → Nat) (r0 r1 r2 h : Nat) : Nat → Prop := fun q => AwQ o R q ∨ AT (R 142) r0 r1 r2 q ∨ h ≤ q
def dT (t r0 r1 r2 : Nat) : Prop := t ≠ r0 ∧ t ≠ r1 ∧ t ≠ r2 ∧ r0 ≠ r1 ∧ r0 ≠ r2 ∧ r1 ≠ r2
theorem dT.D {G : GG} {A : Nat → Prop} {t r0 r1 r2 : Nat} (h : dT t r0 r1 r2) (hA : ∀ q, AT t r0 r1 r2 q → A q) (w : ClS) : va_D A (cT G t r0 r1 r2 w) := by
  obtain ⟨h1, h2, h3, h4, h5, h6⟩ := h
  refine ⟨fun i j p q hi hj hpq => ?_, fun k q hq => ?_⟩
  · match i, j, hi, hj with
    | 0, 0, _, _ => rfl
    | 1, 1, _, _ => rfl
    | 2, 2, _, _ => rfl
    | 3, 3, _, _ => rfl
    | 0, 1, hi, hj => cases hi; cases hj; exact absurd hpq h1
    | 0, 2, hi, hj => cases hi; cases hj; exact absurd hpq h2
    | 0, 3, hi, hj => cases hi; cases hj; exact absurd hpq h3
    | 1, 0, hi, hj => cases hi; cases hj; exact absurd hpq.symm h1
    | 2, 0, hi, hj => cases hi; cases hj; exact absurd hpq.symm h2
    | 3, 0, hi, hj => cases hi; cases hj; exact absurd hpq.symm h3
    | 1, 2, hi, hj => cases hi; cases hj; exact absurd hpq h4
    | 1, 3, hi, hj => cases hi; cases hj; exact absurd hpq h5
    | 2, 1, hi, hj => cases hi; cases hj; exact absurd hpq.symm h4
    | 3, 1, hi, hj => cases hi; cases hj; exact absurd hpq.symm h5
    | 2, 3, hi, hj => cases hi; cases hj; exact absurd hpq h6
    | 3, 2, hi, hj => cases hi; cases hj; exact absurd hpq.symm h6
  · match k, hq with
    | 0, hq => cases hq; exact hA _ (Or.inl rfl)
    | 1, hq => cases hq; exact hA _ (Or.inr (Or.inl rfl))
    | 2, hq => cases hq; exact hA _ (Or.inr (Or.inr (Or.inl rfl)))
    | 3, hq => cases hq; exact hA _ (Or.inr (Or.inr (Or.inr rfl)))
theorem cT_fr {G : GG} {A : Nat → Prop} {t r0 r1 r2 : Nat} {w : ClS} {H H1 : Heap} (h : va_P G.1 vwCl (cT G t r0 r1 r2 w) H) (hf : Fr A H H1) (hA : ∀ q, AT t r0 r1 r2 q → ¬ A q) : va_P G.1 vwCl (cT G t r0 r1 r2 w) H1 :=
  celT_keep h ⟨hA _ (Or.inl rfl), hA _ (Or.inr (Or.inl rfl)), hA _ (Or.inr (Or.inr (Or.inl rfl))), hA _ (Or.inr (Or.inr (Or.inr rfl)))⟩ hf.2
theorem PwQ.frT {G : GG} {o : Nat} {R : Nat → Nat} {tx : Nat} {u : MS} {A : Nat → Prop} {H H1 : Heap} (h : PwQ G o R tx u H) (hf : Fr A H H1) (hD : DwQ o R) (hA : ∀ q, AwQ o R q → ¬ A q) : PwQ G o R tx u H1 := va_P.fr h hf (fun k q hq => hA _ ((hD G tx u).2 k q hq))
def PrC (G : GG) (o : Nat) (R : Nat → Nat) (tx r0 r1 r2 : Nat) (H0 : Heap) (w : MS × ClS × Nat × (Heap → Prop)) (H : Heap) : Prop := PwQ G o R tx w.1 H ∧ va_P G.1 vwCl (cT G (R 142) r0 r1 r2 w.2.1) H ∧ (H.size ≤ H0.size + w.2.2.1 ∧ nw H0.size H ≤ 3 * w.2.2.1) ∧ w.2.2.2 H
/-- what a clause comes to -/
def ClPost (G : GG) (u : MS) (n p : Nat) (H0 : Heap) (w0 : ClS) (x : (Nat × Nat) ⊕ (RL × Nat)) (w : MS × ClS × Nat × (Heap → Prop)) : Prop := match x with
  | .inr r => w.1 = qE u (nI r.2) 0 0 (u.1 146) ∧ w.2.2.1 ≤ 3 * (r.2 - p) ∧ ∃ sb cb, w.2.1 = (w0.1 + 1, upd w0.2.1 w0.1 (nI r.1.1), va_up w0.2.2.1 w0.1 sb, va_up w0.2.2.2 w0.1 (some cb)) ∧ ∀ H, w.2.2.2 H → (CT G (fun q => q < H0.size) H DEP).1 cb r.1.2.2.2 ∧ (¬ r.1.1 = 120 → ∃ a, sb = some a ∧ (TT G (fun q => q < H0.size) H DEP).1 a r.1.2.1.2)
  | .inl e => (∃ q op, q ≤ n + 2 ∧ w.1 = qE u (nI q) op (nI e.1) (nI e.2)) ∧ fOK e.1 ∧ w.2.2.1 ≤ 3 * (n + 1 - p) + 2
theorem ClP_l {G : GG} {u w : MS} {n p g q : Nat} {op : Int32} {H0 : Heap} {w0 w1 : ClS} {x : (Nat × Nat) ⊕ (RL × Nat)} {X : Heap → Prop} {e : Nat × Nat} (h : x = .inl e) (hq : q ≤ n + 2) (hw : w = qE u (nI q) op (nI e.1) (nI e.2)) (he : fOK e.1) (hg : g ≤ 3 * (n + 1 - p) + 2) : ClPost G u n p H0 w0 x (w, w1, g, X) := by
  subst h; exact ⟨⟨q, op, hq, hw⟩, he, hg⟩
theorem ClP_r {G : GG} {u w : MS} {n p g : Nat} {H0 : Heap} {w0 w1 : ClS} {x : (Nat × Nat) ⊕ (RL × Nat)} {X : Heap → Prop} {r : RL × Nat} (h : x = .inr r) (hw : w = qE u (nI r.2) 0 0 (u.1 146)) (hg : g ≤ 3 * (r.2 - p)) (sb : Option Nat) (cb : Nat) (hw1 : w1 = (w0.1 + 1, upd w0.2.1 w0.1 (nI r.1.1), va_up w0.2.2.1 w0.1 sb, va_up w0.2.2.2 w0.1 (some cb))) (hX : ∀ H, X H → (CT G (fun q => q < H0.size) H DEP).1 cb r.1.2.2.2 ∧ (¬ r.1.1 = 120 → ∃ a, sb = some a ∧ (TT G (fun q => q < H0.size) H DEP).1 a r.1.2.1.2)) : ClPost G u n p H0 w0 x (w, w1, g, X) := by
  subst h; exact ⟨hw, hg, sb, cb, hw1, hX⟩
