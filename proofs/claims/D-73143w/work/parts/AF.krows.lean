set_option maxRecDepth 100000
/-! puts where two fields bear one name (this$0 of a class and of the class that it extends) -/
theorem t_set1 {cell : Cell} {N : Nat} {iS : Nat → Nat} {V : Nat → Value} (h : ∀ k, k < N → cell.slots[iS k]? = some (V k)) {k : Nat} (hk : k < N) (hap : ∀ j, j < N → j ≠ k → iS k ≠ iS j) (v : Value) :
    ∀ j, j < N → (cell.setSlot (iS k) v).slots[iS j]? = some (updV V k v j) := by
  intro j hj
  by_cases hjk : j = k
  · subst hjk
    rw [Cell.slots_setSlot_self _ (k2_hasslot (h j hj))]
    simp [updV]
  · rw [slot_ne _ _ (hap j hj hjk), h j hj]
    simp [updV, hjk]
theorem va_apart2 {D : va_G} {cl : List vw_C} {tys : List (ClassId × FieldType)} {args : Array Value} {s : State} {C : String} {T : u_T} {N ci k t : Nat} {Ts : List Cond} {ty : Nat → FieldType} (hts : ∀ w ∈ Ts, w.before args s = true) (hin : ∀ w ∈ u_ws C T N, w ∈ Ts) (hty : ∀ k, k < N → parseFieldDescriptor (T k).2.2.1 = some (ty k)) (hK : va_K D cl tys s) (hc : cl[ci]? = some (C, T, N)) (hk : k < N) (hnm : ∀ b, b < N → b ≠ k → b ≠ t → (T b).2.1 ≠ (T k).2.1) : ∀ y, y < N → y ≠ k → y ≠ t → (D.2 ci) k ≠ (D.2 ci) y := by
  intro y hy hne hnt
  obtain ⟨hS, -⟩ := hK.1 ci _ hc
  obtain ⟨_, _, _, fa, hia, ea⟩ := hS k hk
  obtain ⟨_, _, _, fb, hib, eb⟩ := hS y hy
  rw [← ea, ← eb]
  refine u_apart (u_lays hts hin hk) (u_lays hts hin hy) hia hib ?_
  rw [(State.fieldFound?_type hia (hty k hk)).1, (State.fieldFound?_type hib (hty y hy)).1]
  exact (hnm y hy hne hnt).symm
theorem va_apart1 {D : va_G} {cl : List vw_C} {tys : List (ClassId × FieldType)} {args : Array Value} {s : State} {C : String} {T : u_T} {N ci k : Nat} {Ts : List Cond} {ty : Nat → FieldType} (hts : ∀ w ∈ Ts, w.before args s = true) (hin : ∀ w ∈ u_ws C T N, w ∈ Ts) (hty : ∀ k, k < N → parseFieldDescriptor (T k).2.2.1 = some (ty k)) (hK : va_K D cl tys s) (hc : cl[ci]? = some (C, T, N)) (hk : k < N) (hnm : ∀ b, b < N → b ≠ k → (T b).2.1 ≠ (T k).2.1) : ∀ y, y < N → y ≠ k → (D.2 ci) k ≠ (D.2 ci) y := fun y hy hne => va_apart2 (t := k) hts hin hty hK hc hk (fun b h1 h2 _ => hnm b h1 h2) y hy hne hne
theorem vp_V_at {fs : List Value} {k : Nat} (h : k < fs.length) : vp_V fs k = fs[k] := by
  unfold vp_V; simp [List.getD, h]
theorem vp_V_ne {fs : List Value} {k j : Nat} {v : Value} (h : j ≠ k) : vp_V (fs.set k v) j = vp_V fs j := by
  unfold vp_V; simp [List.getD, List.getElem?_set_ne (Ne.symm h)]
section KROWS1
variable {G : GG} {p : Program} {l : Launch} {e : Env} {Rm : Room} {s : State} {m : MethodId} {args : Array Value} {below : List Frame} {meth : Method} {c : Code} {H H0 : Heap} {locs : List Loc} {cells slots k j0 a : Nat} {Q : State → Prop} {A : Nat → Prop}
variable {cc : ByteArray} {nL pc index : Nat} {own C : String} {ls : Array Slot} {rest : List Value}
theorem K_put1 {v : Value} {T : u_T} {N ci : Nat} {fs fs' : List Value} {ty0 : Nat → FieldType} {ty : FieldType} (hC : CallFix p m c cc nL s args lw_all own) (hK : KS G s) (hP : va_P G.1 vwCl [(a, .inr (ci, fs))] H) (hA : A a) (hS : va_S A H0 H locs) (hc : vwCl[ci]? = some (C, T, N)) (hin : ∀ w ∈ u_ws C T N, w ∈ lw_all) (hty : ∀ k, k < N → parseFieldDescriptor (T k).2.2.1 = some (ty0 k)) (k : Nat) (hnm : ∀ b, b < N → b ≠ k → (T b).2.1 ≠ (T k).2.1) (hk : k < N) (hset : fs.set k v = fs') (hl : Cond.fieldLink own index (T k).1 (T k).2.1 (T k).2.2.1 ∈ lw_all) (hfin : (T k).2.2.2 = false) (hd : parseFieldDescriptor (T k).2.2.1 = some ty) (hn : narrow ty v = v) (hfit : fits ty v = true) (hlen : k < fs.length) (hdg : decode cc pc = .ok (.putfield index, 3))
    (kk : ∀ (H1 : Heap) (locs1 : List Loc), va_P G.1 vwCl [(a, .inr (ci, fs'))] H1 → va_S A H0 H1 locs1 → H1.size = H.size → Fr (fun q => q = a) H H1 → W p l e Rm s m args below meth c H1 locs1 cells slots Q (F0 m (pc + 3) ls rest)) : W p l e Rm s m args below meth c H locs cells slots Q (F0 m pc ls (v :: .ref a :: rest)) := by
  have hts := hC.2.2.2.2
  have hap := va_apart1 hts hin hty hK.1 hc hk hnm
  have hD : va_D A [(a, .inr (ci, fs))] := va_D.one hA
  obtain ⟨r, h1, cell, q1, q2, q3, q4⟩ := hP 0 _ rfl
  have hr : r = (C, T, N) := Option.some.inj (h1.symm.trans hc)
  subst hr
  obtain ⟨hSl, hfc, kC, hkC, hkind⟩ := hK.1.1 ci _ hc
  obtain ⟨cf, kf, fi, f, hi, hsl⟩ := hSl k hk
  have hlay := hts _ (hin _ (u_in_lay hk))
  unfold u_lay at hlay
  rw [if_neg (by rw [hfin]; decide)] at hlay
  have hst := (u_facts hfc hkC (u_lays hts hin hk) hi).1
  have h6 := u_store hfc hkC hkind hlay hi hd hn hfit
  refine W.putK hC.1 hC.2.1 (f := f) ⟨hC.2.2.2.1, hts _ hl, ⟨_, _, _, hi⟩, hst⟩ (by rw [q2]; exact h6) q1 q3 (by rw [hsl]; exact k2_hasslot (q4 k hk)) rfl rfl hdg fun H' e1 e2 e3 => ?_
  rw [hsl] at e1 ⊢
  refine kk H' _ ?_ (hS.put e2 e3 hA) e2 ⟨by rw [e2]; exact Nat.le_refl _, fun q _ hq => e3 q hq⟩
  rw [← hset]
  show va_P G.1 vwCl ([(a, .inr (ci, fs))].set 0 (a, .inr (ci, fs.set k v))) H'
  exact hP.set hD (show [(a, (.inr (ci, fs) : va_E))][0]? = some (a, .inr (ci, fs)) from rfl) ⟨_, hc, t_OB.to (V := updV (vp_V fs) k v) ⟨_, e1, q2, q3, t_set1 q4 hk hap v⟩ (fun j _ => vp_updV_set hlen v j)⟩ e3
theorem K_put1F {v : Value} {T : u_T} {N ci : Nat} {fs fs' : List Value} {ty0 : Nat → FieldType} {ty : FieldType} (hC : CallFix p m c cc nL s args lw_all own) (hmn : meth.name = "<init>") (hK : KS G s) (hP : va_P G.1 vwCl [(a, .inr (ci, fs))] H) (hA : A a) (hS : va_S A H0 H locs) (hc : vwCl[ci]? = some (C, T, N)) (hin : ∀ w ∈ u_ws C T N, w ∈ lw_all) (hty : ∀ k, k < N → parseFieldDescriptor (T k).2.2.1 = some (ty0 k)) (k : Nat) (hnm : ∀ b, b < N → b ≠ k → (T b).2.1 ≠ (T k).2.1) (hk : k < N) (hset : fs.set k v = fs') (hl : Cond.fieldLink own index (T k).1 (T k).2.1 (T k).2.2.1 ∈ lw_all) (hfin : (T k).2.2.2 = true) (hdecl : (T k).1 = own) (hd : parseFieldDescriptor (T k).2.2.1 = some ty) (hn : narrow ty v = v) (hfit : fits ty v = true) (hlen : k < fs.length) (hdg : decode cc pc = .ok (.putfield index, 3))
    (kk : ∀ (H1 : Heap) (locs1 : List Loc), va_P G.1 vwCl [(a, .inr (ci, fs'))] H1 → va_S A H0 H1 locs1 → H1.size = H.size → Fr (fun q => q = a) H H1 → W p l e Rm s m args below meth c H1 locs1 cells slots Q (F0 m (pc + 3) ls rest)) : W p l e Rm s m args below meth c H locs cells slots Q (F0 m pc ls (v :: .ref a :: rest)) := by
  have hts := hC.2.2.2.2
  have hap := va_apart1 hts hin hty hK.1 hc hk hnm
  have hD : va_D A [(a, .inr (ci, fs))] := va_D.one hA
  obtain ⟨r, h1, cell, q1, q2, q3, q4⟩ := hP 0 _ rfl
  have hr : r = (C, T, N) := Option.some.inj (h1.symm.trans hc)
  subst hr
  obtain ⟨hSl, hfc, kC, hkC, hkind⟩ := hK.1.1 ci _ hc
  obtain ⟨cf, kf, fi, f, hi, hsl⟩ := hSl k hk
  have hlay := hts _ (hin _ (u_in_lay hk))
  unfold u_lay at hlay
  rw [if_pos hfin] at hlay
  have hst := (u_facts hfc hkC (u_lays hts hin hk) hi).1
  have hcf : m.cls = cf := by
    obtain ⟨_, _, c', _, _, _, -, -, hf', -, -, -, hown2, -⟩ := Cond.laysFinal_spec hlay
    have e1 : c' = cf := by have := hi.symm.trans hf'; simp at this; exact this.1.symm
    rw [hdecl] at hown2
    rw [← e1]; exact Option.some.inj (hC.2.2.2.1.symm.trans hown2)
  have h6 := u_fits hfc hkC hkind (Or.inr hlay) hi hd hn hfit
  refine W.putFinK hC.1 hC.2.1 hC.2.2.2.1 (hts _ hl) hi hst hcf hmn (by rw [q2]; exact h6) q1 q3 (by rw [hsl]; exact k2_hasslot (q4 k hk)) rfl rfl hdg fun H' e1 e2 e3 => ?_
  rw [hsl] at e1 ⊢
  refine kk H' _ ?_ (hS.put e2 e3 hA) e2 ⟨by rw [e2]; exact Nat.le_refl _, fun q _ hq => e3 q hq⟩
  rw [← hset]
  show va_P G.1 vwCl ([(a, .inr (ci, fs))].set 0 (a, .inr (ci, fs.set k v))) H'
  exact hP.set hD (show [(a, (.inr (ci, fs) : va_E))][0]? = some (a, .inr (ci, fs)) from rfl) ⟨_, hc, t_OB.to (V := updV (vp_V fs) k v) ⟨_, e1, q2, q3, t_set1 q4 hk hap v⟩ (fun j _ => vp_updV_set hlen v j)⟩ e3
theorem K_putFT {v : Value} {T : u_T} {N ci : Nat} {fs : List Value} {ty0 : Nat → FieldType} {ty : FieldType} (hC : CallFix p m c cc nL s args lw_all own) (hmn : meth.name = "<init>") (hK : KS G s) (hP : va_P G.1 vwCl [(a, .inr (ci, fs))] H) (hA : A a) (hS : va_S A H0 H locs) (hc : vwCl[ci]? = some (C, T, N)) (hin : ∀ w ∈ u_ws C T N, w ∈ lw_all) (hty : ∀ k, k < N → parseFieldDescriptor (T k).2.2.1 = some (ty0 k)) (k t : Nat) (hnm : ∀ b, b < N → b ≠ k → b ≠ t → (T b).2.1 ≠ (T k).2.1) (hk : k < N) (hkt : t ≠ k) (ht : t < N) {w0 : Value} (hw0 : fs[t]? = some w0) (hl : Cond.fieldLink own index (T k).1 (T k).2.1 (T k).2.2.1 ∈ lw_all) (hfin : (T k).2.2.2 = true) (hdecl : (T k).1 = own) (hd : parseFieldDescriptor (T k).2.2.1 = some ty) (hn : narrow ty v = v) (hfit : fits ty v = true) (hlen : k < fs.length) (hdg : decode cc pc = .ok (.putfield index, 3))
    (kk : ∀ (H1 : Heap) (locs1 : List Loc) (x : Value), (x = v ∨ x = w0) → va_P G.1 vwCl [(a, .inr (ci, (fs.set k v).set t x))] H1 → va_S A H0 H1 locs1 → H1.size = H.size → Fr (fun q => q = a) H H1 → W p l e Rm s m args below meth c H1 locs1 cells slots Q (F0 m (pc + 3) ls rest)) : W p l e Rm s m args below meth c H locs cells slots Q (F0 m pc ls (v :: .ref a :: rest)) := by
  have hts := hC.2.2.2.2
  have hap := va_apart2 hts hin hty hK.1 hc hk hnm
  have hD : va_D A [(a, .inr (ci, fs))] := va_D.one hA
  obtain ⟨r, h1, cell, q1, q2, q3, q4⟩ := hP 0 _ rfl
  have hr : r = (C, T, N) := Option.some.inj (h1.symm.trans hc)
  subst hr
  obtain ⟨hSl, hfc, kC, hkC, hkind⟩ := hK.1.1 ci _ hc
  obtain ⟨cf, kf, fi, f, hi, hsl⟩ := hSl k hk
  have hlay := hts _ (hin _ (u_in_lay hk))
  unfold u_lay at hlay
  rw [if_pos hfin] at hlay
  have hst := (u_facts hfc hkC (u_lays hts hin hk) hi).1
  have hcf : m.cls = cf := by
    obtain ⟨_, _, c', _, _, _, -, -, hf', -, -, -, hown2, -⟩ := Cond.laysFinal_spec hlay
    have e1 : c' = cf := by have := hi.symm.trans hf'; simp at this; exact this.1.symm
    rw [hdecl] at hown2
    rw [← e1]; exact Option.some.inj (hC.2.2.2.1.symm.trans hown2)
  have h6 := u_fits hfc hkC hkind (Or.inr hlay) hi hd hn hfit
  refine W.putFinK hC.1 hC.2.1 hC.2.2.2.1 (hts _ hl) hi hst hcf hmn (by rw [q2]; exact h6) q1 q3 (by rw [hsl]; exact k2_hasslot (q4 k hk)) rfl rfl hdg fun H' e1 e2 e3 => ?_
  rw [hsl] at e1 ⊢
  have htl : t < fs.length := (List.getElem?_eq_some_iff.mp hw0).1
  have hgo : ∀ x : Value, (x = v ∨ x = w0) → (cell.setSlot (G.1.2 ci k) v).slots[G.1.2 ci t]? = some x → W p l e Rm s m args below meth c H' (locs ++ [⟨a, G.1.2 ci k⟩]) cells slots Q (F0 m (pc + 3) ls rest) := fun x hx hsx => by
    refine kk H' _ x hx ?_ (hS.put e2 e3 hA) e2 ⟨by rw [e2]; exact Nat.le_refl _, fun q _ hq => e3 q hq⟩
    show va_P G.1 vwCl ([(a, .inr (ci, fs))].set 0 (a, .inr (ci, (fs.set k v).set t x))) H'
    refine hP.set hD (show [(a, (.inr (ci, fs) : va_E))][0]? = some (a, .inr (ci, fs)) from rfl) ⟨_, hc, ⟨_, e1, q2, q3, fun j hj => ?_⟩⟩ e3
    by_cases h1 : j = t
    · subst h1
      rw [hsx]
      show some x = some (vp_V ((fs.set k v).set j x) j)
      rw [vp_V_at (by simp; exact htl)]
      simp [htl]
    · rw [vp_V_ne h1]
      by_cases h2 : j = k
      · subst h2
        rw [Cell.slots_setSlot_self _ (k2_hasslot (q4 j hj))]
        rw [vp_V_at (by simp; exact hlen)]
        simp [hlen]
      · rw [slot_ne _ _ (hap j hj h2 h1), q4 j hj, vp_V_ne h2]
  by_cases hst2 : G.1.2 ci t = G.1.2 ci k
  · exact hgo v (Or.inl rfl) (by rw [hst2]; exact Cell.slots_setSlot_self _ (k2_hasslot (q4 k hk)))
  · exact hgo w0 (Or.inr rfl) (by rw [slot_ne _ _ (Ne.symm hst2), q4 t ht, vp_V_at htl]; rw [List.getElem?_eq_getElem htl] at hw0; exact hw0)
end KROWS1
