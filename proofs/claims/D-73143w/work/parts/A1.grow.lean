set_option maxRecDepth 100000
/-! heaps that grow: frames, what is counted; rows that say them -/
def Fr (A : Nat → Prop) (H H1 : Heap) : Prop := H.size ≤ H1.size ∧ ∀ q : Nat, q < H.size → ¬ A q → H1[q]? = H[q]?
theorem Fr.tr {A : Nat → Prop} {H H1 H2 : Heap} (h : Fr A H H1) (k : Fr A H1 H2) : Fr A H H2 := ⟨Nat.le_trans h.1 k.1, fun q h1 h2 => (k.2 q (Nat.lt_of_lt_of_le h1 h.1) h2).trans (h.2 q h1 h2)⟩
theorem Fr.rf (A : Nat → Prop) (H : Heap) : Fr A H H := ⟨Nat.le_refl _, fun _ _ _ => rfl⟩
theorem Fr.up {A B : Nat → Prop} {H H1 : Heap} (h : Fr A H H1) (hAB : ∀ q, A q → B q) : Fr B H H1 := ⟨h.1, fun q h1 h2 => h.2 q h1 (fun z => h2 (hAB q z))⟩
theorem va_P.fr {D : va_G} {cl : List vw_C} {ws : va_W} {A : Nat → Prop} {H H1 : Heap} (h : va_P D cl ws H) (hf : Fr A H H1) (hA : ∀ (k : Nat) (q : Nat × va_E), ws[k]? = some q → ¬ A q.1) : va_P D cl ws H1 := h.kept (fun k q hq => hf.2 _ ((h k q hq).lt) (hA k q hq))
theorem va_P.fr1 {D : va_G} {cl : List vw_C} {a : Nat} {e : va_E} {A : Nat → Prop} {H H1 : Heap} (h : va_P D cl [(a, e)] H) (hf : Fr A H H1) (hA : ¬ A a) : va_P D cl [(a, e)] H1 := one_keep h hA hf.2
theorem TT.fr {G : GG} {A B : Nat → Prop} {H H1 : Heap} {d a : Nat} {den : SDn} (h : (TT G A H d).1 a den) (hf : Fr B H H1) (hAB : ∀ q, B q → A q) : (TT G A H1 d).1 a den := (TT.keep (fun q h1 h2 => hf.2 q h1 (fun z => h2 (hAB q z))) d).1 _ _ h
theorem CT.fr {G : GG} {A B : Nat → Prop} {H H1 : Heap} {d a : Nat} {den : CDn} (h : (CT G A H d).1 a den) (hf : Fr B H H1) (hAB : ∀ q, B q → A q) : (CT G A H1 d).1 a den := (CT.keep (fun q h1 h2 => hf.2 q h1 (fun z => h2 (hAB q z))) d).1 _ _ h
theorem TT.anti {G : GG} {A B : Nat → Prop} {H : Heap} (hAB : ∀ q, B q → A q) : ∀ d, (∀ a den, (TT G A H d).1 a den → (TT G B H d).1 a den) ∧ (∀ r dr, (TT G A H d).2 r dr → (TT G B H d).2 r dr) := by
  intro d
  induction d with
  | zero => exact ⟨fun _ _ h => h, fun _ _ h => h⟩
  | succ d ih =>
    refine ⟨fun a den h => ?_, fun r dr h => ?_⟩
    · obtain ⟨hA, h⟩ := h
      refine ⟨fun z => hA (hAB _ z), ?_⟩
      rcases h with h | h | ⟨sg, p, r, dp, dr, h1, h2, h3, h4⟩
      · exact Or.inl h
      · exact Or.inr (Or.inl h)
      · exact Or.inr (Or.inr ⟨sg, p, r, dp, dr, h1, ih.1 _ _ h2, ih.2 _ _ h3, h4⟩)
    · rcases h with h | ⟨a, sg, p, r', dp, dr', h0, hA, h1, h2, h3, h4⟩
      · exact Or.inl h
      · exact Or.inr ⟨a, sg, p, r', dp, dr', h0, fun z => hA (hAB _ z), h1, ih.1 _ _ h2, ih.2 _ _ h3, h4⟩
theorem CT.anti {G : GG} {A B : Nat → Prop} {H : Heap} (hAB : ∀ q, B q → A q) : ∀ d, (∀ a den, (CT G A H d).1 a den → (CT G B H d).1 a den) ∧ (∀ r b dr, (CT G A H d).2 r b dr → (CT G B H d).2 r b dr) := by
  intro d
  induction d with
  | zero => exact ⟨fun _ _ h => h, fun _ _ _ h => h⟩
  | succ d ih =>
    have ht := TT.anti (G := G) (H := H) hAB d
    refine ⟨fun a den h => ?_, fun r b dr h => ?_⟩
    · obtain ⟨hA, h⟩ := h
      refine ⟨fun z => hA (hAB _ z), ?_⟩
      rcases h with ⟨x, y, sg, dx, dy, h1, h2, h3, h4⟩ | ⟨x, dx, h1, h2, h3⟩ | ⟨p, b, r, dp, dr, h1, h2, h3, h4⟩
      · exact Or.inl ⟨x, y, sg, dx, dy, h1, ht.1 _ _ h2, ht.1 _ _ h3, h4⟩
      · exact Or.inr (Or.inl ⟨x, dx, h1, ih.1 _ _ h2, h3⟩)
      · exact Or.inr (Or.inr ⟨p, b, r, dp, dr, h1, ih.1 _ _ h2, ih.2 _ _ _ h3, h4⟩)
    · rcases h with h | ⟨a, p, e, r', dp, dr', h0, hA, h1, h2, h3, h4⟩
      · exact Or.inl h
      · exact Or.inr ⟨a, p, e, r', dp, dr', h0, fun z => hA (hAB _ z), h1, ih.1 _ _ h2, ih.2 _ _ _ h3, h4⟩
/-- slots of the cells from k on -/
def nw (k : Nat) (H : Heap) : Nat := ((H.toList.drop k).map (·.slots.size)).sum
theorem nw_add {k : Nat} {H H1 : Heap} (hk : k ≤ H.size) (h : ∀ q : Nat, k ≤ q → q < H.size → H1[q]? = H[q]?) : nw k H1 = nw k H + nw H.size H1 := by
  have e : H1.toList.drop k = H.toList.drop k ++ H1.toList.drop H.size := by
    apply List.ext_getElem?
    intro i
    rw [List.getElem?_drop]
    by_cases hi : i < H.size - k
    · rw [List.getElem?_append_left (by rw [List.length_drop, Array.length_toList]; exact hi), List.getElem?_drop, Array.getElem?_toList, Array.getElem?_toList]; exact h _ (by omega) (by omega)
    · rw [List.getElem?_append_right (by rw [List.length_drop, Array.length_toList]; omega), List.length_drop, Array.length_toList, List.getElem?_drop, show H.size + (i - (H.size - k)) = k + i by omega]
  unfold nw
  rw [e, List.map_append, List.sum_append]
abbrev A0 (o : Nat) (R : Nat → Nat) (h0 : Nat) : Nat → Prop := fun q => AwQ o R q ∨ h0 ≤ q
section GROW
variable {G : GG} {p : Program} {l : Launch} {e : Env} {Rm : Room} {s : State} {m : MethodId} {args : Array Value} {below : List Frame} {meth : Method} {c : Code} {H : Heap} {locs : List Loc} {cells slots k : Nat} {Q : State → Prop}
variable {cc : ByteArray} {nL index mc ms pc : Nat} {own C : String} {ls : Array Slot} {rest st : List Value} {A : Nat → Prop} {H0 : Heap} {g : JFrame}
theorem W_size (kk : H.size ≤ s.heap.size + cells → nw s.heap.size H ≤ slots → W p l e Rm s m args below meth c H locs cells slots Q g) : W p l e Rm s m args below meth c H locs cells slots Q g := fun T hT X => by
  obtain ⟨h1, h2, h3, h4, h5, h6⟩ := X.same
  have e : (T.setVm s.vm).heap = H := hT
  rw [e] at h3 h5
  exact kk h3 h5 T hT X
theorem W_fit {cells' slots' : Nat} (hc : H.size ≤ s.heap.size + cells') (hs : nw s.heap.size H ≤ slots') (kk : W p l e Rm s m args below meth c H locs cells' slots' Q g) : W p l e Rm s m args below meth c H locs cells slots Q g := fun T hT X => by
  have e : (T.setVm s.vm).heap = H := hT
  refine kk T hT { X with same := ⟨X.same.1, X.same.2.1, ?_, X.same.2.2.2.1, ?_, X.same.2.2.2.2.2⟩ }
  · rw [e]; exact hc
  · rw [e]; exact hs
theorem W_c0 (kk : W p l e Rm s m args below meth c H locs 0 (3 * 0) Q g) : W p l e Rm s m args below meth c H locs 0 0 Q g := kk
theorem F_put {v : Value} {T : u_T} {N ci q0 a : Nat} {fs : List Value} {ws ws' : va_W} {ty0 : Nat → FieldType} {ty : FieldType} (hC : CallFix p m c cc nL s args lw_all own) (hK : KS G s) (hP : va_P G.1 vwCl ws H) (hD : va_D A ws) (hS : va_S A H0 H locs) (he : ws[q0]? = some (a, .inr (ci, fs))) (hc : vwCl[ci]? = some (C, T, N)) (hin : ∀ w ∈ u_ws C T N, w ∈ lw_all) (hty : ∀ k, k < N → parseFieldDescriptor (T k).2.2.1 = some (ty0 k)) (hnm : ∀ a, a < N → ∀ b, b < N → a ≠ b → (T a).2.1 ≠ (T b).2.1) (k : Nat) (hk : k < N) (hset : ws.set q0 (a, .inr (ci, fs.set k v)) = ws') (hl : Cond.fieldLink own index (T k).1 (T k).2.1 (T k).2.2.1 ∈ lw_all) (hfin : (T k).2.2.2 = false) (hd : parseFieldDescriptor (T k).2.2.1 = some ty) (hn : narrow ty v = v) (hfit : fits ty v = true) (hlen : k < fs.length) (hdg : decode cc pc = .ok (.putfield index, 3))
    (kk : ∀ (H1 : Heap) (locs1 : List Loc), va_P G.1 vwCl ws' H1 → va_S A H0 H1 locs1 → Fr (fun q => q = a) H H1 → W p l e Rm s m args below meth c H1 locs1 cells slots Q (F0 m (pc + 3) ls rest)) : W p l e Rm s m args below meth c H locs cells slots Q (F0 m pc ls (v :: .ref a :: rest)) := by
  have hts := hC.2.2.2.2
  have hap := va_apart (own := own) hts hin ty0 hty hnm hK.1 hc
  obtain ⟨r, h1, cell, q1, q2, q3, q4⟩ := hP q0 _ he
  have hr : r = (C, T, N) := Option.some.inj (h1.symm.trans hc)
  subst hr
  obtain ⟨hSl, hfc, kC, hkC, hkind⟩ := hK.1.1 ci _ hc
  obtain ⟨cf, kf, fi, f, hi, hsl⟩ := hSl k hk
  have hlay := hts _ (hin _ (u_in_lay hk))
  unfold u_lay at hlay
  rw [if_neg (by rw [hfin]; decide)] at hlay
  have hst := (u_facts hfc hkC (u_lays hts hin hk) hi).1
  have h6 := u_store hfc hkC hkind hlay hi hd hn hfit
  refine W.putK hC.1 hC.2.1 (f := f) ⟨hC.2.2.2.1, hts _ hl, ⟨_, _, _, hi⟩, hst⟩ (by rw [q2]; exact h6) q1 q3 (by rw [hsl]; exact k2_hasslot (q4 k hk)) rfl rfl hdg fun H' e1 e2 e3 => ?_
  rw [hsl] at e1 ⊢
  refine kk H' _ ?_ (hS.put e2 e3 (hD.2 q0 _ he)) ⟨by rw [e2]; exact Nat.le_refl _, fun q _ hq => e3 q hq⟩
  rw [← hset]
  exact hP.set hD he ⟨_, hc, t_OB.to (V := updV (vp_V fs) k v) ⟨_, e1, q2, q3, t_set q4 hap hk v⟩ (fun j _ => vp_updV_set hlen v j)⟩ e3
theorem F_putN {v : Value} {T : u_T} {N ci q0 a : Nat} {fs : List Value} {ws ws' : va_W} {ty0 : Nat → FieldType} {ty : FieldType} {host : String} (hC : CallFix p m c cc nL s args lw_all own) (hK : KS G s) (hP : va_P G.1 vwCl ws H) (hD : va_D A ws) (hS : va_S A H0 H locs) (he : ws[q0]? = some (a, .inr (ci, fs))) (hc : vwCl[ci]? = some (C, T, N)) (hin : ∀ w ∈ u_ws C T N, w ∈ lw_all) (hty : ∀ k, k < N → parseFieldDescriptor (T k).2.2.1 = some (ty0 k)) (hnm : ∀ a, a < N → ∀ b, b < N → a ≠ b → (T a).2.1 ≠ (T b).2.1) (k : Nat) (hk : k < N) (hset : ws.set q0 (a, .inr (ci, fs.set k v)) = ws') (hl : (own, index, (T k).1, (T k).2.1, (T k).2.2.1, host) ∈ nestF) (hfin : (T k).2.2.2 = false) (hd : parseFieldDescriptor (T k).2.2.1 = some ty) (hn : narrow ty v = v) (hfit : fits ty v = true) (hlen : k < fs.length) (hdg : decode cc pc = .ok (.putfield index, 3))
    (kk : ∀ (H1 : Heap) (locs1 : List Loc), va_P G.1 vwCl ws' H1 → va_S A H0 H1 locs1 → Fr (fun q => q = a) H H1 → W p l e Rm s m args below meth c H1 locs1 cells slots Q (F0 m (pc + 3) ls rest)) : W p l e Rm s m args below meth c H locs cells slots Q (F0 m pc ls (v :: .ref a :: rest)) := by
  have hts := hC.2.2.2.2
  have hap := va_apart (own := own) hts hin ty0 hty hnm hK.1 hc
  obtain ⟨r, h1, cell, q1, q2, q3, q4⟩ := hP q0 _ he
  have hr : r = (C, T, N) := Option.some.inj (h1.symm.trans hc)
  subst hr
  obtain ⟨hSl, hfc, kC, hkC, hkind⟩ := hK.1.1 ci _ hc
  obtain ⟨cf, kf, fi, f, hi, hsl⟩ := hSl k hk
  have hlay := hts _ (hin _ (u_in_lay hk))
  unfold u_lay at hlay
  rw [if_neg (by rw [hfin]; decide)] at hlay
  have hst := (u_facts hfc hkC (u_lays hts hin hk) hi).1
  have h6 := u_store hfc hkC hkind hlay hi hd hn hfit
  refine va_WputK hC.1 hC.2.1 (f := f) hC.2.2.2.1 (va_Nw.use rfl (hK.2.1 _ hl)) hi hst (by rw [q2]; exact h6) q1 q3 (by rw [hsl]; exact k2_hasslot (q4 k hk)) rfl rfl hdg fun H' e1 e2 e3 => ?_
  rw [hsl] at e1 ⊢
  refine kk H' _ ?_ (hS.put e2 e3 (hD.2 q0 _ he)) ⟨by rw [e2]; exact Nat.le_refl _, fun q _ hq => e3 q hq⟩
  rw [← hset]
  exact hP.set hD he ⟨_, hc, t_OB.to (V := updV (vp_V fs) k v) ⟨_, e1, q2, q3, t_set q4 hap hk v⟩ (fun j _ => vp_updV_set hlen v j)⟩ e3
theorem S_putF {v : Value} {T : u_T} {N ci q0 a : Nat} {fs : List Value} {ws ws' : va_W} {ty0 : Nat → FieldType} {ty : FieldType} (hC : CallFix p m c cc nL s args lw_all own) (hmn : meth.name = "<init>") (hK : KS G s) (hP : va_P G.1 vwCl ws H) (hD : va_D A ws) (hS : va_S A H0 H locs) (he : ws[q0]? = some (a, .inr (ci, fs))) (hc : vwCl[ci]? = some (C, T, N)) (hin : ∀ w ∈ u_ws C T N, w ∈ lw_all) (hty : ∀ k, k < N → parseFieldDescriptor (T k).2.2.1 = some (ty0 k)) (hnm : ∀ a, a < N → ∀ b, b < N → a ≠ b → (T a).2.1 ≠ (T b).2.1) (k : Nat) (hk : k < N) (hset : ws.set q0 (a, .inr (ci, fs.set k v)) = ws') (hl : Cond.fieldLink own index (T k).1 (T k).2.1 (T k).2.2.1 ∈ lw_all) (hfin : (T k).2.2.2 = true) (hdecl : (T k).1 = own) (hd : parseFieldDescriptor (T k).2.2.1 = some ty) (hn : narrow ty v = v) (hfit : fits ty v = true) (hlen : k < fs.length) (hdg : decode cc pc = .ok (.putfield index, 3))
    (kk : ∀ (H1 : Heap) (locs1 : List Loc), va_P G.1 vwCl ws' H1 → va_D A ws' → va_S A H0 H1 locs1 → W p l e Rm s m args below meth c H1 locs1 cells slots Q (F0 m (pc + 3) ls rest)) : W p l e Rm s m args below meth c H locs cells slots Q (F0 m pc ls (v :: .ref a :: rest)) := by
  refine va_putF (ty := ty) hC.1 hC.2.1 hC.2.2.2.2 hin ty0 hty hnm hC.2.2.2.1 hK.1 hP hD hS q0 he hc k hk (hC.2.2.2.2 _ hl) (fun _ h => h) hfin hmn hdecl hd hn hfit hlen hdg (fun H1 locs1 hP1 hD1 hS1 => ?_)
  rw [hset] at hP1 hD1
  exact kk H1 locs1 hP1 hD1 hS1
theorem F_new {T : u_T} {N ci : Nat} {fs : List Value} (ty : Nat → FieldType) (hC : CallFix p m c cc nL s args lw_all own) (hK : KS G s) (hS : va_S A s.heap H locs) (hin : ∀ w ∈ u_ws C T N, w ∈ lw_all) (hty : ∀ k, k < N → parseFieldDescriptor (T k).2.2.1 = some (ty k)) (hcl : Cond.classLink own index C ∈ lw_all) (hinst : Cond.instantiable C N ∈ lw_all) (hini : Cond.initialized C ∈ lw_all) (hc : vwCl[ci]? = some (C, T, N)) (hfs : ∀ j, j < N → defaultValue (ty j) = vp_V fs j) (hN : N ≤ 3) (hcells : k + 1 ≤ Rm.cells) (hslots : 3 * k + 3 ≤ Rm.slots) (hdg : decode cc pc = .ok (.new index, 3))
    (kk : ∀ (H1 : Heap), va_P G.1 vwCl [(H.size, .inr (ci, fs))] H1 → H1.size = H.size + 1 → Fr (fun _ => False) H H1 → va_S A s.heap H1 locs → W p l e Rm s m args below meth c H1 locs (k + 1) (3 * (k + 1)) Q (F0 m (pc + 3) ls (.ref H.size :: rest))) : W p l e Rm s m args below meth c H locs k (3 * k) Q (F0 m pc ls rest) := by
  have hts := hC.2.2.2.2
  have hKn := hK.1.1 ci _ hc
  refine W.newcK hC.1 hC.2.1 hC.2.2.2.1 (hts _ hcl) (hts _ hinst) (hts _ hini) rfl hdg hcells (by omega) hKn.2.1 rfl fun H1 kC hkC e1 z1 o1 => ?_
  refine W_size (fun hz hw => ?_)
  refine W_fit hz (slots' := 3 * (k + 1)) (by omega) (kk H1 (fun i x hx => ?_) z1 ⟨by omega, fun q h _ => o1 q h⟩ ⟨Nat.le_trans hS.1 (by omega), fun x h1 h2 => (o1 x (Nat.lt_of_lt_of_le h1 hS.1)).trans (hS.2.1 x h1 h2), hS.2.2⟩)
  have hz : i < 1 := (List.getElem?_eq_some_iff.mp hx).1
  rw [show i = 0 by omega] at hx
  cases hx
  exact ⟨_, hc, (u_born ty hts hin hKn hkC e1 hty).to hfs⟩
/-- the reader's world, what is new counted, and what is said of it -/
def PrQ (G : GG) (o : Nat) (R : Nat → Nat) (tx : Nat) (H0 : Heap) (w : MS × Nat × (Heap → Prop)) (H : Heap) : Prop := PwQ G o R tx w.1 H ∧ (H.size ≤ H0.size + w.2.1 ∧ nw H0.size H ≤ 3 * w.2.1) ∧ w.2.2 H
theorem CRq.goF {o : Nat} {R : Nat → Nat} {tx : Nat} {post : Option Nat → (MS × Nat × (Heap → Prop)) → Prop} {av : Array Value} (hr : va_Run p l e Rm s m args below meth c H locs k (3 * k) mc ms (F0 m pc ls st) rest (va_Qq post (fun w t => PrQ G o R tx H w t.heap) (A0 o R H.size) av) (A0 o R H.size)) (hS : va_S (A0 o R s.heap.size) s.heap H locs) (hA : ∀ q, AwQ o R q → q < s.heap.size)
    (kk : ∀ (r : Option Nat) (w : MS) (g : Nat) (X : Heap → Prop) (H1 : Heap) (locs1 : List Loc), post r (w, g, X) → PwQ G o R tx w H1 → X H1 → Fr (AwQ o R) H H1 → va_S (A0 o R s.heap.size) s.heap H1 locs1 → W p l e Rm s m args below meth c H1 locs1 (k + g) (3 * (k + g)) Q (F0 m (pc + 3) ls (va_rf r :: rest))) : W p l e Rm s m args below meth c H locs k (3 * k) Q (F0 m pc ls st) := by
  refine W_size (fun hz hw => ?_)
  have hHs := hS.1
  have hup : ∀ q, A0 o R H.size q → A0 o R s.heap.size q := fun q h => h.elim Or.inl (fun z => Or.inr (Nat.le_trans hHs z))
  refine va_callq hr hS (fun q _ h => hup q h) hup (fun r w t H1 locs1 ht hvm hpo hB hz1 hk hS1 => ?_)
  obtain ⟨w, g, X⟩ := w
  have hB : PrQ G o R tx H (w, g, X) t.heap := hB
  rw [ht] at hB
  obtain ⟨hP, ⟨hg1, hg2⟩, hX⟩ := hB
  have hf : Fr (AwQ o R) H H1 := ⟨hz1, fun q h1 h2 => hk q h1 (fun z => z.elim h2 (fun z => by omega))⟩
  have hg1 : H1.size ≤ H.size + g := hg1
  refine W_fit (by omega) ?_ (kk r w g X H1 locs1 hpo hP hX hf hS1)
  rw [nw_add hHs (fun q h1 h2 => hf.2 q h2 (fun z => by have := hA q z; omega))]
  have hg2 : nw H.size H1 ≤ 3 * g := hg2
  omega
theorem room_v {fr0 lo0 mc0 ms0 fr lo maxL : Nat} (h : Rm = rm_ fr0 lo0 mc0 ms0) (h1 : fr + 1 ≤ fr0) (h2 : 19 + maxL + lo ≤ lo0) (h3 : cells + mc ≤ mc0) (h4 : slots + ms ≤ ms0) : rmS fr lo mc ms maxL cells slots Rm := by
  subst h; exact ⟨⟨h1, h2⟩, h3, h4⟩
end GROW
theorem va_D.up {A B : Nat → Prop} {ws : va_W} (h : va_D A ws) (hAB : ∀ q, A q → B q) : va_D B ws := ⟨h.1, fun k q hq => hAB _ (h.2 k q hq)⟩
theorem va_D.one {A : Nat → Prop} {a : Nat} {e : va_E} (h : A a) : va_D A [(a, e)] := ⟨fun i j p q hi hj _ => by
  have h1 : i < 1 := (List.getElem?_eq_some_iff.mp hi).1
  have h2 : j < 1 := (List.getElem?_eq_some_iff.mp hj).1
  omega, fun k q hq => by
  have h1 : k < 1 := (List.getElem?_eq_some_iff.mp hq).1
  rw [show k = 0 by omega] at hq
  cases hq; exact h⟩
theorem CXv.mkI {G : GG} {l : Launch} {y : MethodName} {cc : ByteArray} {nL : Nat} {fr lo mc ms : Nat} {av : List Value} {X : Heap → Prop} {A : Nat → Prop} {S : Type} {P : S → Heap → Prop} {post : S → Prop} (own : String) (hy : plainName y.cls = true) (hown : y.cls = own) (hyn : y.name = "<init>") (hn : (lg_sl av).length ≤ nL)
    (body : ∀ (p : Program) (e : Env) (Rm : Room) (s : State) (m : MethodId) (args : Array Value) (below : List Frame) (meth : Method) (c : Code) (Q : State → Prop) (ls : Array Slot), CallFix p m c cc nL s args lw_all own → meth.name = "<init>" → Rm = rm_ fr lo mc ms → KS G s → X s.heap → va_S A s.heap s.heap [] → lv_has ls nL (lv_args 0 av) →
      (∀ (pc : Nat) (ls : Array Slot) (w : S) (H : Heap) (locs : List Loc) (cells slots : Nat), decode cc pc = .ok (.return_, 1) → P w H → va_S A s.heap H locs → post w → cells ≤ mc → slots ≤ ms → W p l e Rm s m args below meth c H locs cells slots Q (F0 m pc ls [])) → W p l e Rm s m args below meth c s.heap [] 0 0 Q (F0 m 0 ls [])) : CXv G l P A y cc nL fr lo mc ms av X post := by
  refine Met.ofW (cc := cc) (maxL := nL) (ret := none) hy rfl ?_
  intro p e s m args below meth c s₁ B hml hv
  obtain ⟨rfl, hK, hX⟩ := hv
  have hx := B.exec
  have hb := B.bytes
  have hr := B.returns
  have hts := atoms_spec (ws := ws_ y cc nL none) B.pre
  have hts : ∀ w ∈ lw_all, w.before _ s = true := fun w h => hts w (List.mem_cons_of_mem _ h)
  have ho : s.vm.findClass own = some m.cls := by rw [← hown]; exact findClass_of_methodNamed B.named
  have hmn : meth.name = "<init>" := ((name_of_methodNamed B.named B.method).1).trans hyn
  have hlocks := B.notSynchronized
  have hl := lv_entry av (n := nL) hn
  rw [lg_entry_eq]
  refine body p e _ s m _ below meth c _ _ ⟨hx, hb, hml, ho, hts⟩ hmn rfl hK hX va_S.rf hl ?_
  intro pc ls w H locs cells slots hd hP hS hv hc hs
  exact W.widen hc hs (W.vret hx hb hr (fun t ht hW => ⟨⟨w, rfl, hv, by show P w t.heap; rw [ht]; exact hP⟩, hS.F ht⟩) hS.2.2 hd)
