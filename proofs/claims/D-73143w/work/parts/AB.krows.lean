set_option maxRecDepth 100000
/-! rows at the level of single cells: what is made lies at the heap's end; for constructors -/
section KROWS
variable {G : GG} {p : Program} {l : Launch} {e : Env} {Rm : Room} {s : State} {m : MethodId} {args : Array Value} {below : List Frame} {meth : Method} {c : Code} {H H0 : Heap} {locs : List Loc} {cells slots k j0 a : Nat} {Q : State → Prop} {A : Nat → Prop}
variable {cc : ByteArray} {nL pc index : Nat} {own C : String} {ls : Array Slot} {rest : List Value}
theorem K_put {v : Value} {T : u_T} {N ci : Nat} {fs fs' : List Value} {ty0 : Nat → FieldType} {ty : FieldType} (hC : CallFix p m c cc nL s args lw_all own) (hK : KS G s) (hP : va_P G.1 vwCl [(a, .inr (ci, fs))] H) (hA : A a) (hS : va_S A H0 H locs) (hc : vwCl[ci]? = some (C, T, N)) (hin : ∀ w ∈ u_ws C T N, w ∈ lw_all) (hty : ∀ k, k < N → parseFieldDescriptor (T k).2.2.1 = some (ty0 k)) (hnm : ∀ a, a < N → ∀ b, b < N → a ≠ b → (T a).2.1 ≠ (T b).2.1) (k : Nat) (hk : k < N) (hset : fs.set k v = fs') (hl : Cond.fieldLink own index (T k).1 (T k).2.1 (T k).2.2.1 ∈ lw_all) (hfin : (T k).2.2.2 = false) (hd : parseFieldDescriptor (T k).2.2.1 = some ty) (hn : narrow ty v = v) (hfit : fits ty v = true) (hlen : k < fs.length) (hdg : decode cc pc = .ok (.putfield index, 3))
    (kk : ∀ (H1 : Heap) (locs1 : List Loc), va_P G.1 vwCl [(a, .inr (ci, fs'))] H1 → va_S A H0 H1 locs1 → H1.size = H.size → Fr (fun q => q = a) H H1 → W p l e Rm s m args below meth c H1 locs1 cells slots Q (F0 m (pc + 3) ls rest)) : W p l e Rm s m args below meth c H locs cells slots Q (F0 m pc ls (v :: .ref a :: rest)) := by
  have hts := hC.2.2.2.2
  have hap := va_apart (own := own) hts hin ty0 hty hnm hK.1 hc
  have hD : va_D A [(a, .inr (ci, fs))] := va_D.one hA
  obtain ⟨r, h1, cell, q1, q2, q3, q4⟩ := hP 0 _ rfl
  have hr : r = (C, T, N) := Option.some.inj (h1.symm.trans hc)
  subst hr
  obtain ⟨hSl, hfc, kC, hkC, hkind⟩ := hK.1.1 ci _ hc
  obtain ⟨cf, kf, fi, f, hi, hsl⟩ := hSl k hk
  have hlay := hts _ (hin _ (u_in_lay hk))
  unfold u_lay at hlay
  rw [if_neg (by rw [hfin]; decide)] at hlay
  have hst := (u_facts hfc hkC (u_lays hts hin hk) hi).1
  have h6 := u_store hfc hkC hkind hlay hi hd hn hfit
  refine W.putK hC.1 hC.2.1 (f := f) ⟨hC.2.2.2.1, hts _ hl, ⟨_, _, _, hi⟩, hst⟩ (by rw [q2]; exact h6) q1 q3 (by rw [hsl]; exact k2_hasslot (q4 k hk)) rfl rfl hdg fun H' e1 e2 e3 => ?_
  rw [hsl] at e1 ⊢
  refine kk H' _ ?_ (hS.put e2 e3 hA) e2 ⟨by rw [e2]; exact Nat.le_refl _, fun q _ hq => e3 q hq⟩
  rw [← hset]
  show va_P G.1 vwCl ([(a, .inr (ci, fs))].set 0 (a, .inr (ci, fs.set k v))) H'
  exact hP.set hD (show [(a, (.inr (ci, fs) : va_E))][0]? = some (a, .inr (ci, fs)) from rfl) ⟨_, hc, t_OB.to (V := updV (vp_V fs) k v) ⟨_, e1, q2, q3, t_set q4 hap hk v⟩ (fun j _ => vp_updV_set hlen v j)⟩ e3
theorem K_putF {v : Value} {T : u_T} {N ci : Nat} {fs fs' : List Value} {ty0 : Nat → FieldType} {ty : FieldType} (hC : CallFix p m c cc nL s args lw_all own) (hmn : meth.name = "<init>") (hK : KS G s) (hP : va_P G.1 vwCl [(a, .inr (ci, fs))] H) (hA : A a) (hS : va_S A H0 H locs) (hc : vwCl[ci]? = some (C, T, N)) (hin : ∀ w ∈ u_ws C T N, w ∈ lw_all) (hty : ∀ k, k < N → parseFieldDescriptor (T k).2.2.1 = some (ty0 k)) (hnm : ∀ a, a < N → ∀ b, b < N → a ≠ b → (T a).2.1 ≠ (T b).2.1) (k : Nat) (hk : k < N) (hset : fs.set k v = fs') (hl : Cond.fieldLink own index (T k).1 (T k).2.1 (T k).2.2.1 ∈ lw_all) (hfin : (T k).2.2.2 = true) (hdecl : (T k).1 = own) (hd : parseFieldDescriptor (T k).2.2.1 = some ty) (hn : narrow ty v = v) (hfit : fits ty v = true) (hlen : k < fs.length) (hdg : decode cc pc = .ok (.putfield index, 3))
    (kk : ∀ (H1 : Heap) (locs1 : List Loc), va_P G.1 vwCl [(a, .inr (ci, fs'))] H1 → va_S A H0 H1 locs1 → H1.size = H.size → Fr (fun q => q = a) H H1 → W p l e Rm s m args below meth c H1 locs1 cells slots Q (F0 m (pc + 3) ls rest)) : W p l e Rm s m args below meth c H locs cells slots Q (F0 m pc ls (v :: .ref a :: rest)) := by
  have hts := hC.2.2.2.2
  have hap := va_apart (own := own) hts hin ty0 hty hnm hK.1 hc
  have hD : va_D A [(a, .inr (ci, fs))] := va_D.one hA
  obtain ⟨r, h1, cell, q1, q2, q3, q4⟩ := hP 0 _ rfl
  have hr : r = (C, T, N) := Option.some.inj (h1.symm.trans hc)
  subst hr
  obtain ⟨hSl, hfc, kC, hkC, hkind⟩ := hK.1.1 ci _ hc
  obtain ⟨cf, kf, fi, f, hi, hsl⟩ := hSl k hk
  have hlay := hts _ (hin _ (u_in_lay hk))
  unfold u_lay at hlay
  rw [if_pos hfin] at hlay
  have hst := (u_facts hfc hkC (u_lays hts hin hk) hi).1
  have hcf : m.cls = cf := by
    obtain ⟨_, _, c', _, _, _, -, -, hf', -, -, -, hown2, -⟩ := Cond.laysFinal_spec hlay
    have e1 : c' = cf := by have := hi.symm.trans hf'; simp at this; exact this.1.symm
    rw [hdecl] at hown2
    rw [← e1]; exact Option.some.inj (hC.2.2.2.1.symm.trans hown2)
  have h6 := u_fits hfc hkC hkind (Or.inr hlay) hi hd hn hfit
  refine W.putFinK hC.1 hC.2.1 hC.2.2.2.1 (hts _ hl) hi hst hcf hmn (by rw [q2]; exact h6) q1 q3 (by rw [hsl]; exact k2_hasslot (q4 k hk)) rfl rfl hdg fun H' e1 e2 e3 => ?_
  rw [hsl] at e1 ⊢
  refine kk H' _ ?_ (hS.put e2 e3 hA) e2 ⟨by rw [e2]; exact Nat.le_refl _, fun q _ hq => e3 q hq⟩
  rw [← hset]
  show va_P G.1 vwCl ([(a, .inr (ci, fs))].set 0 (a, .inr (ci, fs.set k v))) H'
  exact hP.set hD (show [(a, (.inr (ci, fs) : va_E))][0]? = some (a, .inr (ci, fs)) from rfl) ⟨_, hc, t_OB.to (V := updV (vp_V fs) k v) ⟨_, e1, q2, q3, t_set q4 hap hk v⟩ (fun j _ => vp_updV_set hlen v j)⟩ e3
theorem K_new {T : u_T} {N ci : Nat} {fs : List Value} (ty : Nat → FieldType) (hC : CallFix p m c cc nL s args lw_all own) (hK : KS G s) (hS : va_S A H0 H locs) (hin : ∀ w ∈ u_ws C T N, w ∈ lw_all) (hty : ∀ k, k < N → parseFieldDescriptor (T k).2.2.1 = some (ty k)) (hcl : Cond.classLink own index C ∈ lw_all) (hinst : Cond.instantiable C N ∈ lw_all) (hini : Cond.initialized C ∈ lw_all) (hc : vwCl[ci]? = some (C, T, N)) (hfs : ∀ j, j < N → defaultValue (ty j) = vp_V fs j) (hz : H.size = a) (hcells : cells + 1 ≤ Rm.cells) (hslots : slots + N ≤ Rm.slots) (hdg : decode cc pc = .ok (.new index, 3))
    (kk : ∀ (H1 : Heap), va_P G.1 vwCl [(a, .inr (ci, fs))] H1 → H1.size = a + 1 → Fr (fun _ => False) H H1 → va_S A H0 H1 locs → W p l e Rm s m args below meth c H1 locs (cells + 1) (slots + N) Q (F0 m (pc + 3) ls (.ref a :: rest))) : W p l e Rm s m args below meth c H locs cells slots Q (F0 m pc ls rest) := by
  have hts := hC.2.2.2.2
  have hKn := hK.1.1 ci _ hc
  subst hz
  refine W.newcK hC.1 hC.2.1 hC.2.2.2.1 (hts _ hcl) (hts _ hinst) (hts _ hini) rfl hdg hcells hslots hKn.2.1 rfl fun H1 kC hkC e1 z1 o1 => ?_
  refine kk H1 (fun i x hx => ?_) z1 ⟨by omega, fun q h _ => o1 q h⟩ ⟨Nat.le_trans hS.1 (by omega), fun x h1 h2 => (o1 x (Nat.lt_of_lt_of_le h1 hS.1)).trans (hS.2.1 x h1 h2), hS.2.2⟩
  have hz : i < 1 := (List.getElem?_eq_some_iff.mp hx).1
  rw [show i = 0 by omega] at hx
  cases hx
  exact ⟨_, hc, (u_born ty hts hin hKn hkC e1 hty).to hfs⟩
theorem K_newa {atype : ArrayType} {t0 N' : Nat} {n : Int32} {a0 : vp_A} (hC : CallFix p m c cc nL s args lw_all own) (hK : KS G s) (hS : va_S A H0 H locs) (harr : Cond.arrayClass (newarray.typeOf atype) ∈ lw_all) (ht : (tysG G)[t0]? = some (G.2 t0, newarray.typeOf atype)) (ha : ∀ cA : ClassId, vp_cell cA a0 = arrV cA N' (fun _ => defaultValue (newarray.typeOf atype))) (hn : ¬ n < 0) (hN : n.toNatClampNeg = N') (hbytes : N' * componentBytes (newarray.typeOf atype) ≤ 536870912) (hz : H.size = a) (hcells : cells + 1 ≤ Rm.cells) (hslots : slots + N' ≤ Rm.slots) (hdg : decode cc pc = .ok (.newarray atype, 2))
    (kk : ∀ (H1 : Heap), va_P G.1 vwCl [(a, .inl (G.2 t0, a0))] H1 → H1.size = a + 1 → Fr (fun _ => False) H H1 → va_S A H0 H1 locs → W p l e Rm s m args below meth c H1 locs (cells + 1) (slots + N') Q (F0 m (pc + 2) ls (.ref a :: rest))) : W p l e Rm s m args below meth c H locs cells slots Q (F0 m pc ls (.int n :: rest)) := by
  refine va_newaK hC.1 hC.2.1 (hC.2.2.2.2 _ harr) rfl hdg rfl hn hN hbytes hcells hslots hz fun H1 cA e1 z1 o1 hAr hNm => ?_
  have hz2 : s.vm.findClass ("[" ++ (newarray.typeOf atype).toString) = some (G.2 t0) := by
    have h := (hK.1.2 t0 _ ht).2
    cases atype <;> exact h
  have hcA : cA = G.2 t0 := Option.some.inj (hNm.symm.trans hz2)
  subst hcA
  subst hz
  refine kk H1 (fun i x hx => ?_) z1 ⟨by omega, fun q h _ => o1 q h⟩ ⟨Nat.le_trans hS.1 (by omega), fun x h1 h2 => (o1 x (Nat.lt_of_lt_of_le h1 hS.1)).trans (hS.2.1 x h1 h2), hS.2.2⟩
  have hz : i < 1 := (List.getElem?_eq_some_iff.mp hx).1
  rw [show i = 0 by omega] at hx
  cases hx
  show H1[H.size]? = some (vp_cell _ _)
  rw [ha]; exact e1
theorem K_newq {t0 N' : Nat} {n : Int32} (hC : CallFix p m c cc nL s args lw_all own) (hK : KS G s) (hS : va_S A H0 H locs) (hcl : Cond.classLink own index C ∈ lw_all) (hover : va_AO C s) (ht : (tysG G)[t0]? = some (G.2 t0, .object C)) (hn : ¬ n < 0) (hN : n.toNatClampNeg = N') (hbytes : N' * 4 ≤ 536870912) (hz : H.size = a) (hcells : cells + 1 ≤ Rm.cells) (hslots : slots + N' ≤ Rm.slots) (hdg : decode cc pc = .ok (.anewarray index, 3))
    (kk : ∀ (H1 : Heap), va_P G.1 vwCl [(a, .inl (G.2 t0, N', .inr (.inr (.inr (.inr (fun _ => none))))))] H1 → H1.size = a + 1 → Fr (fun _ => False) H H1 → va_S A H0 H1 locs → W p l e Rm s m args below meth c H1 locs (cells + 1) (slots + N') Q (F0 m (pc + 3) ls (.ref a :: rest))) : W p l e Rm s m args below meth c H locs cells slots Q (F0 m pc ls (.int n :: rest)) := by
  subst hN
  refine W.anew hC.1 hC.2.1 hC.2.2.2.1 (hC.2.2.2.2 _ hcl) (va_AO.use hover) rfl hdg rfl hn hbytes hcells hslots fun cA kA comp f1 f2 f3 f4 => ?_
  obtain ⟨kA2, comp2, -, -, -, f5⟩ := (hK.1.2 t0 _ ht).2
  have hcA : cA = G.2 t0 := Option.some.inj (f1.symm.trans f5)
  subst hcA
  subst hz
  generalize hH1 : H.push ({ cls := G.2 t0, slots := Array.replicate n.toNatClampNeg .null, vm := .none } : Cell) = H1
  have z1 : H1.size = H.size + 1 := by rw [← hH1, Array.size_push]
  have e1 : H1[H.size]? = some (arrV (G.2 t0) n.toNatClampNeg (fun _ => .null)) := by rw [← hH1, Array.getElem?_push_size, ← arrV_new]
  have o1 : ∀ q : Nat, q < H.size → H1[q]? = H[q]? := fun q hq => by rw [← hH1, Array.getElem?_push, if_neg (Nat.ne_of_lt hq)]
  refine kk H1 (fun i x hx => ?_) z1 ⟨by omega, fun q h _ => o1 q h⟩ ⟨Nat.le_trans hS.1 (by omega), fun x h1 h2 => (o1 x (Nat.lt_of_lt_of_le h1 hS.1)).trans (hS.2.1 x h1 h2), hS.2.2⟩
  have hz : i < 1 := (List.getElem?_eq_some_iff.mp hx).1
  rw [show i = 0 by omega] at hx
  cases hx
  show H1[H.size]? = some (vp_cell _ _)
  rw [vp_cell_q]
  exact e1
end KROWS
