/-! my layer over the kit: one list of classes, one list of array classes, contracts in short -/
set_option maxRecDepth 100000
def vwCl : List vw_C := [(RX0, TX0, 20), (RX1, TX1, 6), (RX3, TX3, 10), (RX4, TX4, 8), (RX5, TX5, 4), (RX6, TX6, 61), (RX7, TX7, 7), (RX9, TX9, 3), (RX10, TX10, 1), (RX11, TX11, 1), (RX13, TX13, 3), (RX14, TX14, 1), (RX15, TX15, 3), (RX17, TX17, 8), (RX18, TX18, 10)]
abbrev GG : Type := va_G × (Nat → ClassId)
def tysG (G : GG) : List (ClassId × FieldType) := [(G.2 0, .int), (G.2 1, .byte), (G.2 2, .long), (G.2 3, .array .int), (G.2 4, .object "SharedWindow$Sum"), (G.2 5, .object "SharedWindow$Condition")]
def KK (G : GG) (U : State) : Prop := va_K G.1 vwCl (tysG G) U
theorem KK.moved {G : GG} {u U : State} (hvm : u.vm.Alike U.vm) (h : KK G u) : KK G U := va_K.moved hvm h
abbrev rm_ (fr lo mc ms : Nat) : Room := { frames := fr, cells := mc, slots := ms, locals := lo }
/-- a method that only answers: an int, no cell changes -/
def CI (G : GG) (l : Launch) (y : MethodName) (cc : ByteArray) (nL : Nat) (ret : FieldType) (fr lo : Nat) (av : List Value) (X : Heap → Prop) (val : Int32) : Prop :=
  Met l y (ws_ y cc nL (some ret)) (rm_ fr lo 0 0) (va_Pc av (fun U => KK G U ∧ X U.heap)) (vp_Si (fun r => r = val)) 0 0 (fun _ => False)
def MD (y : MethodName) (n : Nat) : Prop := y.cls ≠ "java/lang/invoke/MethodHandle" ∧ y.cls ≠ "java/lang/invoke/VarHandle" ∧ (parseMethodDescriptor y.desc).map (fun d => d.parameters.length) = some n
def Recv (s : State) (H : Heap) (C : String) (b : Addr) : Prop := ∃ cellB : Cell, H[b]? = some cellB ∧ cellB.vm.isStatics = false ∧ s.vm.findClass C = some cellB.cls
theorem CI.mk {G : GG} {l : Launch} {y : MethodName} {cc : ByteArray} {nL : Nat} {ret : FieldType} {fr lo : Nat} {av : List Value} {X : Heap → Prop} {val : Int32} (own : String) (hy : plainName y.cls = true) (hown : y.cls = own) (hnar : narrow ret (.int val) = .int val) (hn : (lg_sl av).length ≤ nL)
    (body : ∀ (p : Program) (e : Env) (R : Room) (s : State) (m : MethodId) (args : Array Value) (below : List Frame) (meth : Method) (c : Code) (Q : State → Prop) (ls : Array Slot), CallFix p m c cc nL s args lw_all own → R = rm_ fr lo 0 0 → KK G s → X s.heap → lv_has ls nL (lv_args 0 av) →
      (∀ (pc : Nat) (ls : Array Slot) (v : Int32), decode cc pc = .ok (.ireturn, 1) → v = val → W p l e R s m args below meth c s.heap [] 0 0 Q (F0 m pc ls [.int v])) → W p l e R s m args below meth c s.heap [] 0 0 Q (F0 m 0 ls [])) : CI G l y cc nL ret fr lo av X val := by
  refine Met.ofW (cc := cc) (maxL := nL) (ret := some ret) hy rfl ?_
  intro p e s m args below meth c s₁ B hml hv
  obtain ⟨rfl, hK, hX⟩ := hv
  have hx := B.exec
  have hb := B.bytes
  have hr := B.returns
  have hts := atoms_spec (ws := ws_ y cc nL (some ret)) B.pre
  have hts : ∀ w ∈ lw_all, w.before _ s = true := fun w h => hts w (List.mem_cons_of_mem _ h)
  have ho : s.vm.findClass own = some m.cls := by rw [← hown]; exact findClass_of_methodNamed B.named
  have hlocks := B.notSynchronized
  have hl := lv_entry av (n := nL) hn
  rw [lg_entry_eq]
  refine body p e _ s m _ below meth c _ _ ⟨hx, hb, hml, ho, hts⟩ rfl hK hX hl ?_
  intro pc ls v hd hv
  subst hv
  exact W.zret hx hb hr hnar (fun t ht hW => ⟨_, rfl, rfl, ht⟩) (fun q h => by cases h) hd
section CALLS
variable {G : GG} {p : Program} {l : Launch} {e : Env} {R : Room} {s : State} {m : MethodId} {args : Array Value} {below : List Frame} {meth : Method} {c : Code} {H : Heap} {locs : List Loc} {cells slots : Nat} {Q : State → Prop}
variable {cc bytes : ByteArray} {nL maxL index n fr lo pc : Nat} {ret : FieldType} {own C : String} {y : MethodName} {ls : Array Slot} {As rest st : List Value} {X : Heap → Prop} {val : Int32} {b : Addr} {lv : List (Nat × Value)}
theorem CI.blind (av : List Value) : FrameBlind (va_Pc av (fun U => KK G U ∧ X U.heap)) := fun a U g mk q => ⟨q.1, KK.moved (u := U) (U := U.calling g mk a) (Vm.Alike.refl U.vm) q.2.1, q.2.2⟩
theorem CI.callS (hC : CallFix p m c cc nL s args lw_all own) (hK : KK G s) (hl : lv_has ls nL lv) (hM : CI G l y bytes maxL ret fr lo As X val) (hX : X H) (h1 : Cond.methodLink own index y ∈ lw_all) (h2 : Cond.static y ∈ lw_all) (h3 : Cond.initialized y.cls ∈ lw_all) (h4 : Cond.code y bytes maxL (some ret) ∈ lw_all) (hd : MD y As.length) (hR : (fr + 1 ≤ R.frames ∧ 19 + maxL + lo ≤ R.locals) ∧ cells ≤ R.cells ∧ slots ≤ R.slots) (hst : st = As.reverse ++ rest) (hcat : Nat.ble (rest.map fun v => v.category).sum 8 = true) (hdg : decode cc pc = .ok (.invokestatic index, 3))
    (kk : W p l e R s m args below meth c H locs cells slots Q (F0 m (pc + 3) ls (.int val :: rest))) : W p l e R s m args below meth c H locs cells slots Q (F0 m pc ls st) := by
  refine vp_callSi (va_runS (As := As) (rest := rest) hC hM (va_cwS As.length hC.2.2.2.2 (lw_S h1 h2 h3 h4) rfl rfl rfl hd ⟨hR.1.1, by have := hR.1.2; show 8 + (maxL + 11) + lo ≤ _; omega⟩) ⟨CI.blind As, fun U hU hW => ⟨rfl, KK.moved hW.alike hK, by rw [hU]; exact hX⟩⟩ rfl rfl hl.1 hst (lv_room (Nat.le_of_ble_eq_true hcat)) hdg hR.2).run (fun r hr => ?_)
  subst hr
  exact kk
theorem CI.callV (hC : CallFix p m c cc nL s args lw_all own) (hK : KK G s) (hl : lv_has ls nL lv) (hM : CI G l y bytes maxL ret fr lo (.ref b :: As) X val) (hX : X H) (hrecv : Recv s H y.cls b) (h1 : Cond.methodLink own index y ∈ lw_all) (h2 : Cond.instanceMethod y ∈ lw_all) (h3 : Cond.selects y.cls y y ∈ lw_all) (h4 : Cond.initialized y.cls ∈ lw_all) (h5 : Cond.code y bytes maxL (some ret) ∈ lw_all) (hd : MD y As.length) (hR : (fr + 1 ≤ R.frames ∧ 19 + maxL + lo ≤ R.locals) ∧ cells ≤ R.cells ∧ slots ≤ R.slots) (hst : st = As.reverse ++ .ref b :: rest) (hcat : Nat.ble (rest.map fun v => v.category).sum 8 = true) (hdg : decode cc pc = .ok (.invokevirtual index, 3))
    (kk : W p l e R s m args below meth c H locs cells slots Q (F0 m (pc + 3) ls (.int val :: rest))) : W p l e R s m args below meth c H locs cells slots Q (F0 m pc ls st) := by
  refine vp_callSi (va_runV (As := As) (rest := rest) hC hM (cwV As.length hC.2.2.2.2 (lw_V h1 h2 h3 h4 h5) rfl rfl rfl ⟨rfl, hd⟩ ⟨hR.1.1, by have := hR.1.2; show 8 + (maxL + 11) + lo ≤ _; omega⟩) ⟨CI.blind (.ref b :: As), hrecv, fun U hU hW => ⟨rfl, KK.moved hW.alike hK, by rw [hU]; exact hX⟩⟩ rfl rfl hl.1 hst (lv_room (Nat.le_of_ble_eq_true hcat)) hdg hR.2).run (fun r hr => ?_)
  subst hr
  exact kk
theorem W_top {x y : Int32} (h : x = y) (k : W p l e R s m args below meth c H locs cells slots Q (F0 m pc ls (.int y :: rest))) : W p l e R s m args below meth c H locs cells slots Q (F0 m pc ls (.int x :: rest)) := by
  rw [h]; exact k
end CALLS
