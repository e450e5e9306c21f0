set_option maxRecDepth 100000
/-! the two texts of letters that the reader asks, below all that is made; contracts that know them -/
abbrev SD : Type := Nat × (Nat → Nat) × (Nat → Nat)
def scB : List (List Int32) := [[104, 103, 115, 100, 110, 98, 107, 116, 119], [99, 106, 120]]
def scL : List Nat := [9, 3]
abbrev kpA (σ : SD) : Nat → Prop := fun q => σ.1 ≤ q
def ST (σ : SD) (U : State) (H : Heap) : Prop := (vk_R RX7 75 "hgsdnbktw" (σ.2.1 0) U ∧ vk_R RX7 129 "cjx" (σ.2.1 1) U) ∧ va_Z "java/lang/String" "COMPACT_STRINGS" "Z" (.int 1) (kpA σ) U H ∧ vk_S 2 scL scB σ.2.1 σ.2.2 (kpA σ) U H
theorem ST.warm {σ : SD} {s U : State} {H : Heap} (hW : s.WarmedH U.vm) (h : ST σ s H) : ST σ U H := ⟨⟨vk_R.warm hW h.1.1, vk_R.warm hW h.1.2⟩, va_Z.moved hW.alike h.2.1, vk_S.moved hW.alike h.2.2⟩
theorem ST.kept {σ : SD} {U : State} {H H1 : Heap} (h : ST σ U H) (hq : ∀ a : Nat, a < H.size → ¬ kpA σ a → H1[a]? = H[a]?) : ST σ U H1 := ⟨h.1, h.2.1.kept hq, h.2.2.kept hq⟩
def XR (G : GG) (σ : SD) (av : List Value) (X : Heap → Prop) : Array Value → State → Prop := va_Pc av (fun U => KS G U ∧ ST σ U U.heap ∧ X U.heap)
theorem XR.blind {G : GG} {σ : SD} (av : List Value) {X : Heap → Prop} : FrameBlind (XR G σ av X) := fun a U g mk q => ⟨q.1, ⟨KK.moved (u := U) (U := U.calling g mk a) (Vm.Alike.refl U.vm) q.2.1.1, KN.same (s := U) (U := U.calling g mk a) rfl q.2.1.2⟩, ⟨⟨vk_R.same (u := U) (U := U.calling g mk a) rfl q.2.2.1.1.1, vk_R.same (u := U) (U := U.calling g mk a) rfl q.2.2.1.1.2⟩, va_Z.moved (u := U) (U := U.calling g mk a) (Vm.Alike.refl U.vm) q.2.2.1.2.1, vk_S.moved (u := U) (U := U.calling g mk a) (Vm.Alike.refl U.vm) q.2.2.1.2.2⟩, q.2.2.2⟩
theorem XR.give {G : GG} {σ : SD} {av : List Value} {X : Heap → Prop} {s : State} {H : Heap} (hK : KS G s) (hT : ST σ s H) (hX : X H) : ∀ U : State, U.heap = H → s.WarmedH U.vm → XR G σ av X av.toArray U := fun U hU hW => ⟨rfl, KS.warm hW hK, by rw [hU]; exact hT.warm hW, by rw [hU]; exact hX⟩
def CRs (G : GG) (l : Launch) (σ : SD) (y : MethodName) (cc : ByteArray) (nL : Nat) (ret : FieldType) (fr lo : Nat) (av : List Value) (X : Heap → Prop) (val : Int32) : Prop :=
  Met l y (ws_ y cc nL (some ret)) (rm_ fr lo 0 0) (XR G σ av X) (vp_Si (fun r => r = val)) 0 0 (fun _ => False)
def CRq (G : GG) (l : Launch) (σ : SD) {S : Type} (P : S → Heap → Prop) (A : Nat → Prop) (y : MethodName) (cc : ByteArray) (nL : Nat) (ret : FieldType) (fr lo mc ms : Nat) (av : List Value) (X : Heap → Prop) (post : Option Nat → S → Prop) : Prop :=
  Met l y (ws_ y cc nL (some ret)) (rm_ fr lo mc ms) (XR G σ av X) (va_Qq post (fun w t => P w t.heap) A) mc ms A
def CRi (G : GG) (l : Launch) (σ : SD) {S : Type} (P : S → Heap → Prop) (A : Nat → Prop) (y : MethodName) (cc : ByteArray) (nL : Nat) (ret : FieldType) (fr lo mc ms : Nat) (av : List Value) (X : Heap → Prop) (post : Int32 → S → Prop) : Prop :=
  Met l y (ws_ y cc nL (some ret)) (rm_ fr lo mc ms) (XR G σ av X) (va_Qi post (fun w t => P w t.heap) A) mc ms A
def CRv (G : GG) (l : Launch) (σ : SD) {S : Type} (P : S → Heap → Prop) (A : Nat → Prop) (y : MethodName) (cc : ByteArray) (nL : Nat) (fr lo mc ms : Nat) (av : List Value) (X : Heap → Prop) (post : S → Prop) : Prop :=
  Met l y (ws_ y cc nL none) (rm_ fr lo mc ms) (XR G σ av X) (va_Qv post (fun w t => P w t.heap) A) mc ms A
section RCALL
variable {G : GG} {σ : SD} {p : Program} {l : Launch} {e : Env} {Rm : Room} {s : State} {m : MethodId} {args : Array Value} {below : List Frame} {meth : Method} {c : Code} {H : Heap} {locs : List Loc} {cells slots : Nat} {Q : State → Prop}
variable {cc bytes : ByteArray} {nL maxL index fr lo mc ms pc : Nat} {reto : Option FieldType} {own C : String} {y : MethodName} {ls : Array Slot} {As rest st : List Value} {X : Heap → Prop} {b : Addr} {lv : List (Nat × Value)} {Qc : Array Value → State → Outcome → State → Prop} {free : Addr → Prop}
theorem rrS (hC : CallFix p m c cc nL s args lw_all own) (hl : lv_has ls nL lv) (hM : Met l y (ws_ y bytes maxL reto) (rm_ fr lo mc ms) (XR G σ As X) Qc mc ms free) (hK : KS G s) (hT : ST σ s H) (hX : X H) (h1 : Cond.methodLink own index y ∈ lw_all) (h2 : Cond.static y ∈ lw_all) (h3 : Cond.initialized y.cls ∈ lw_all) (h4 : Cond.code y bytes maxL reto ∈ lw_all) (hd : MD y As.length) (hR : rmS fr lo mc ms maxL cells slots Rm) (hst : st = As.reverse ++ rest) (hcat : Nat.ble (rest.map fun v => v.category).sum 8 = true) (hdg : decode cc pc = .ok (.invokestatic index, 3)) : va_Run p l e Rm s m args below meth c H locs cells slots mc ms (F0 m pc ls st) rest (Qc As.toArray) free :=
  va_runS (As := As) (rest := rest) hC hM (va_cwS As.length hC.2.2.2.2 (lw_S h1 h2 h3 h4) rfl rfl rfl hd ⟨hR.1.1, by have := hR.1.2; show 8 + (maxL + 11) + lo ≤ _; omega⟩) ⟨XR.blind As, XR.give hK hT hX⟩ rfl rfl hl.1 hst (lv_room (Nat.le_of_ble_eq_true hcat)) hdg hR.2
theorem rrV (hC : CallFix p m c cc nL s args lw_all own) (hl : lv_has ls nL lv) (hM : Met l y (ws_ y bytes maxL reto) (rm_ fr lo mc ms) (XR G σ (.ref b :: As) X) Qc mc ms free) (hK : KS G s) (hT : ST σ s H) (hX : X H) (hrecv : Recv s H y.cls b) (h1 : Cond.methodLink own index y ∈ lw_all) (h2 : Cond.instanceMethod y ∈ lw_all) (h3 : Cond.selects y.cls y y ∈ lw_all) (h4 : Cond.initialized y.cls ∈ lw_all) (h5 : Cond.code y bytes maxL reto ∈ lw_all) (hd : MD y As.length) (hR : rmS fr lo mc ms maxL cells slots Rm) (hst : st = As.reverse ++ .ref b :: rest) (hcat : Nat.ble (rest.map fun v => v.category).sum 8 = true) (hdg : decode cc pc = .ok (.invokevirtual index, 3)) : va_Run p l e Rm s m args below meth c H locs cells slots mc ms (F0 m pc ls st) rest (Qc (Value.ref b :: As).toArray) free :=
  va_runV (As := As) (rest := rest) hC hM (cwV As.length hC.2.2.2.2 (lw_V h1 h2 h3 h4 h5) rfl rfl rfl ⟨rfl, hd⟩ ⟨hR.1.1, by have := hR.1.2; show 8 + (maxL + 11) + lo ≤ _; omega⟩) ⟨XR.blind _, hrecv, XR.give hK hT hX⟩ rfl rfl hl.1 hst (lv_room (Nat.le_of_ble_eq_true hcat)) hdg hR.2
end RCALL
section RMK
variable {G : GG} {l : Launch} {σ : SD} {y : MethodName} {cc : ByteArray} {nL : Nat} {ret : FieldType} {fr lo mc ms : Nat} {av : List Value} {X : Heap → Prop} {val : Int32} {A : Nat → Prop}
theorem CRs.mk (own : String) (hy : plainName y.cls = true) (hown : y.cls = own) (hnar : narrow ret (.int val) = .int val) (hn : (lg_sl av).length ≤ nL)
    (body : ∀ (p : Program) (e : Env) (R : Room) (s : State) (m : MethodId) (args : Array Value) (below : List Frame) (meth : Method) (c : Code) (Q : State → Prop) (ls : Array Slot), CallFix p m c cc nL s args lw_all own → R = rm_ fr lo 0 0 → KS G s → ST σ s s.heap → X s.heap → lv_has ls nL (lv_args 0 av) →
      (∀ (pc : Nat) (ls : Array Slot) (v : Int32), decode cc pc = .ok (.ireturn, 1) → v = val → W p l e R s m args below meth c s.heap [] 0 0 Q (F0 m pc ls [.int v])) → W p l e R s m args below meth c s.heap [] 0 0 Q (F0 m 0 ls [])) : CRs G l σ y cc nL ret fr lo av X val := by
  refine Met.ofW (cc := cc) (maxL := nL) (ret := some ret) hy rfl ?_
  intro p e s m args below meth c s₁ B hml hv
  obtain ⟨rfl, hK, hT, hX⟩ := hv
  have hx := B.exec
  have hb := B.bytes
  have hr := B.returns
  have hts := atoms_spec (ws := ws_ y cc nL (some ret)) B.pre
  have hts : ∀ w ∈ lw_all, w.before _ s = true := fun w h => hts w (List.mem_cons_of_mem _ h)
  have ho : s.vm.findClass own = some m.cls := by rw [← hown]; exact findClass_of_methodNamed B.named
  have hlocks := B.notSynchronized
  have hl := lv_entry av (n := nL) hn
  rw [lg_entry_eq]
  refine body p e _ s m _ below meth c _ _ ⟨hx, hb, hml, ho, hts⟩ rfl hK hT hX hl ?_
  intro pc ls v hd hv
  subst hv
  exact W.zret hx hb hr hnar (fun t ht hW => ⟨_, rfl, rfl, ht⟩) (fun q h => by cases h) hd
theorem CRi.mk {S : Type} {P : S → Heap → Prop} {post : Int32 → S → Prop} (own : String) (hy : plainName y.cls = true) (hown : y.cls = own) (hn : (lg_sl av).length ≤ nL)
    (body : ∀ (p : Program) (e : Env) (Rm : Room) (s : State) (m : MethodId) (args : Array Value) (below : List Frame) (meth : Method) (c : Code) (Q : State → Prop) (ls : Array Slot), CallFix p m c cc nL s args lw_all own → Rm = rm_ fr lo mc ms → KS G s → ST σ s s.heap → X s.heap → va_S A s.heap s.heap [] → lv_has ls nL (lv_args 0 av) →
      (∀ (pc : Nat) (ls : Array Slot) (v : Int32) (w : S) (H : Heap) (locs : List Loc) (cells slots : Nat), decode cc pc = .ok (.ireturn, 1) → P w H → va_S A s.heap H locs → narrow ret (.int v) = .int v → post v w → cells ≤ mc → slots ≤ ms → W p l e Rm s m args below meth c H locs cells slots Q (F0 m pc ls [.int v])) → W p l e Rm s m args below meth c s.heap [] 0 0 Q (F0 m 0 ls [])) : CRi G l σ P A y cc nL ret fr lo mc ms av X post := by
  refine Met.ofW (cc := cc) (maxL := nL) (ret := some ret) hy rfl ?_
  intro p e s m args below meth c s₁ B hml hv
  obtain ⟨rfl, hK, hT, hX⟩ := hv
  have hx := B.exec
  have hb := B.bytes
  have hr := B.returns
  have hts := atoms_spec (ws := ws_ y cc nL (some ret)) B.pre
  have hts : ∀ w ∈ lw_all, w.before _ s = true := fun w h => hts w (List.mem_cons_of_mem _ h)
  have ho : s.vm.findClass own = some m.cls := by rw [← hown]; exact findClass_of_methodNamed B.named
  have hlocks := B.notSynchronized
  have hl := lv_entry av (n := nL) hn
  rw [lg_entry_eq]
  refine body p e _ s m _ below meth c _ _ ⟨hx, hb, hml, ho, hts⟩ rfl hK hT hX va_S.rf hl ?_
  intro pc ls v w H locs cells slots hd hP hS hnar hv hc hs
  exact W.widen hc hs (W.zret hx hb hr hnar (fun t ht hW => ⟨⟨v, w, rfl, hv, by show P w t.heap; rw [ht]; exact hP⟩, hS.F ht⟩) hS.2.2 hd)
theorem CRv.mk {S : Type} {P : S → Heap → Prop} {post : S → Prop} (own : String) (hy : plainName y.cls = true) (hown : y.cls = own) (hn : (lg_sl av).length ≤ nL)
    (body : ∀ (p : Program) (e : Env) (Rm : Room) (s : State) (m : MethodId) (args : Array Value) (below : List Frame) (meth : Method) (c : Code) (Q : State → Prop) (ls : Array Slot), CallFix p m c cc nL s args lw_all own → Rm = rm_ fr lo mc ms → KS G s → ST σ s s.heap → X s.heap → va_S A s.heap s.heap [] → lv_has ls nL (lv_args 0 av) →
      (∀ (pc : Nat) (ls : Array Slot) (w : S) (H : Heap) (locs : List Loc) (cells slots : Nat), decode cc pc = .ok (.return_, 1) → P w H → va_S A s.heap H locs → post w → cells ≤ mc → slots ≤ ms → W p l e Rm s m args below meth c H locs cells slots Q (F0 m pc ls [])) → W p l e Rm s m args below meth c s.heap [] 0 0 Q (F0 m 0 ls [])) : CRv G l σ P A y cc nL fr lo mc ms av X post := by
  refine Met.ofW (cc := cc) (maxL := nL) (ret := none) hy rfl ?_
  intro p e s m args below meth c s₁ B hml hv
  obtain ⟨rfl, hK, hT, hX⟩ := hv
  have hx := B.exec
  have hb := B.bytes
  have hr := B.returns
  have hts := atoms_spec (ws := ws_ y cc nL none) B.pre
  have hts : ∀ w ∈ lw_all, w.before _ s = true := fun w h => hts w (List.mem_cons_of_mem _ h)
  have ho : s.vm.findClass own = some m.cls := by rw [← hown]; exact findClass_of_methodNamed B.named
  have hlocks := B.notSynchronized
  have hl := lv_entry av (n := nL) hn
  rw [lg_entry_eq]
  refine body p e _ s m _ below meth c _ _ ⟨hx, hb, hml, ho, hts⟩ rfl hK hT hX va_S.rf hl ?_
  intro pc ls w H locs cells slots hd hP hS hv hc hs
  exact W.widen hc hs (W.vret hx hb hr (fun t ht hW => ⟨⟨w, rfl, hv, by show P w t.heap; rw [ht]; exact hP⟩, hS.F ht⟩) hS.2.2 hd)
theorem CRq.mk {S : Type} {P : S → Heap → Prop} {post : Option Nat → S → Prop} (own : String) (hrt : (∃ n, ret = .object n) ∨ ∃ t, ret = .array t) (hy : plainName y.cls = true) (hown : y.cls = own) (hn : (lg_sl av).length ≤ nL)
    (body : ∀ (p : Program) (e : Env) (Rm : Room) (s : State) (m : MethodId) (args : Array Value) (below : List Frame) (meth : Method) (c : Code) (Q : State → Prop) (ls : Array Slot), CallFix p m c cc nL s args lw_all own → Rm = rm_ fr lo mc ms → KS G s → ST σ s s.heap → X s.heap → va_S A s.heap s.heap [] → lv_has ls nL (lv_args 0 av) →
      (∀ (pc : Nat) (ls : Array Slot) (v : Option Nat) (w : S) (H : Heap) (locs : List Loc) (cells slots : Nat), decode cc pc = .ok (.areturn, 1) → P w H → va_S A s.heap H locs → post v w → cells ≤ mc → slots ≤ ms → W p l e Rm s m args below meth c H locs cells slots Q (F0 m pc ls [va_rf v])) → W p l e Rm s m args below meth c s.heap [] 0 0 Q (F0 m 0 ls [])) : CRq G l σ P A y cc nL ret fr lo mc ms av X post := by
  refine Met.ofW (cc := cc) (maxL := nL) (ret := some ret) hy rfl ?_
  intro p e s m args below meth c s₁ B hml hv
  obtain ⟨rfl, hK, hT, hX⟩ := hv
  have hx := B.exec
  have hb := B.bytes
  have hr := B.returns
  have hts := atoms_spec (ws := ws_ y cc nL (some ret)) B.pre
  have hts : ∀ w ∈ lw_all, w.before _ s = true := fun w h => hts w (List.mem_cons_of_mem _ h)
  have ho : s.vm.findClass own = some m.cls := by rw [← hown]; exact findClass_of_methodNamed B.named
  have hlocks := B.notSynchronized
  have hl := lv_entry av (n := nL) hn
  rw [lg_entry_eq]
  refine body p e _ s m _ below meth c _ _ ⟨hx, hb, hml, ho, hts⟩ rfl hK hT hX va_S.rf hl ?_
  intro pc ls v w H locs cells slots hd hP hS hv hc hs
  exact W.widen hc hs (W.aret hx hb hr hrt (rf_val v) (fun t ht hW => ⟨⟨v, w, rfl, hv, by show P w t.heap; rw [ht]; exact hP⟩, hS.F ht⟩) hS.2.2 hd)
end RMK
/-! String.indexOf(int) on one of the two texts -/
def ixK (b : Nat → Int32) (c : Int32) : Nat → Nat → Int32
  | 0, _ => -1
  | m + 1, k => if b k = c then nI k else ixK b c m (k + 1)
def txB (i j : Nat) : Int32 := (scB.getD i []).getD j 0
def ixJ (i n : Nat) : Int32 := ixK (txB i) (nI n).toInt8.toInt32 (scL.getD i 0) 0
theorem scL_b {i : Nat} (hi : i < 2) : 1 ≤ scL.getD i 0 ∧ scL.getD i 0 ≤ 9 := by
  rcases (show i = 0 ∨ i = 1 by omega) with rfl | rfl <;> decide
theorem ixJ_0 : ∀ n, n < 256 → (decide (0 ≤ ixJ 0 n) = (letN n).isSome) := by decide +kernel
theorem ixJ_1 : ∀ n, n < 256 → (decide (0 ≤ ixJ 1 n) = isRuC n) := by decide +kernel
theorem c_J0_coder (G : GG) (l : Launch) (σ : SD) (i : Nat) (hi : i < 2) : CRs G l σ yJ0_coder cJ0_coder 1 .byte 2 24 [.ref (σ.2.1 i)] (fun _ => True) 0 := by
  refine CRs.mk RJ0 pnJ0 rfl rfl (Nat.le_of_ble_eq_true rfl) (fun pg en Rm sg mm ar bw mth cd QQ ls hC hRm hK hT hX hl hq => ?_)
  have hx := hC.1; have hb := hC.2.1; have ho := hC.2.2.2.1; have hts := hC.2.2.2.2
  have hl : lv_has ls 1 [(0, .ref (σ.2.1 i))] := hl
  refine va_gets hx hb hT.2.1 va_S.rf ho (hts _ q448) (fun _ h => h) dJ0_coder_0 ?_
  refine lv_if_eq (tgt := 13) hx hb dJ0_coder_3 (by decide) (fun c => absurd c (by decide)) (fun c => ?_)
  refine lv_aload_n hx hb dJ0_coder_6 rfl (lv_at hl 0 rfl) ?_
  refine vk_getf hx hb (hT.2.2.1 i hi).2.1 va_S.rf ho (hts _ q1838) (fun _ h => h) dJ0_coder_7 ?_
  refine lv_goto (tgt := 14) hx hb dJ0_coder_10 (by decide) ?_
  exact hq _ _ _ dJ0_coder_14 rfl
theorem c_J0_isLatin1 (G : GG) (l : Launch) (σ : SD) (i : Nat) (hi : i < 2) : CRs G l σ yJ0_isLatin1 cJ0_isLatin1 1 .boolean 2 24 [.ref (σ.2.1 i)] (fun _ => True) 1 := by
  refine CRs.mk RJ0 pnJ0 rfl rfl (Nat.le_of_ble_eq_true rfl) (fun pg en Rm sg mm ar bw mth cd QQ ls hC hRm hK hT hX hl hq => ?_)
  have hx := hC.1; have hb := hC.2.1; have ho := hC.2.2.2.1; have hts := hC.2.2.2.2
  have hl : lv_has ls 1 [(0, .ref (σ.2.1 i))] := hl
  refine va_gets hx hb hT.2.1 va_S.rf ho (hts _ q448) (fun _ h => h) dJ0_isLatin1_0 ?_
  refine lv_if_eq (tgt := 17) hx hb dJ0_isLatin1_3 (by decide) (fun c => absurd c (by decide)) (fun c => ?_)
  refine lv_aload_n hx hb dJ0_isLatin1_6 rfl (lv_at hl 0 rfl) ?_
  refine vk_getf hx hb (hT.2.2.1 i hi).2.1 va_S.rf ho (hts _ q1838) (fun _ h => h) dJ0_isLatin1_7 ?_
  refine lv_if_ne (tgt := 17) hx hb dJ0_isLatin1_10 (by decide) (fun c => absurd rfl c) (fun c => ?_)
  refine lv_iconst (v := 1) hx hb dJ0_isLatin1_13 (by decide) ?_
  refine lv_goto (tgt := 18) hx hb dJ0_isLatin1_14 (by decide) ?_
  exact hq _ _ _ dJ0_isLatin1_18 rfl
theorem c_J0_length (G : GG) (l : Launch) (σ : SD) (i : Nat) (hi : i < 2) : CRs G l σ yJ0_length cJ0_length 1 .int 3 48 [.ref (σ.2.1 i)] (fun _ => True) (nI (scL.getD i 0)) := by
  refine CRs.mk RJ0 pnJ0 rfl rfl (Nat.le_of_ble_eq_true rfl) (fun pg en Rm sg mm ar bw mth cd QQ ls hC hRm hK hT hX hl hq => ?_)
  have hx := hC.1; have hb := hC.2.1; have ho := hC.2.2.2.1; have hts := hC.2.2.2.2
  have hl : lv_has ls 1 [(0, .ref (σ.2.1 i))] := hl
  refine lv_aload_n hx hb dJ0_length_0 rfl (lv_at hl 0 rfl) ?_
  refine vk_getf hx hb (hT.2.2.1 i hi).2.2.1 va_S.rf ho (hts _ q1839) (fun _ h => h) dJ0_length_1 ?_
  refine va_tlen (v := nI (scL.getD i 0)) hx hb (hT.2.2.1 i hi).2.2.2 va_S.rf rfl dJ0_length_4 ?_
  refine lv_aload_n hx hb dJ0_length_5 rfl (lv_at hl 0 rfl) ?_
  refine CIs.go (rrV (As := []) hC hl (c_J0_coder G l σ i hi) hK hT trivial (vk_recv hT.2.2 hi va_S.rf) q454 q455 q456 q118 q457 mdJ0_coder (room_s hRm rfl) rfl rfl dJ0_length_6) ?_
  refine lv_ishr hx hb dJ0_length_9 ?_
  refine W_top (y := nI (scL.getD i 0)) (by rcases (show i = 0 ∨ i = 1 by omega) with rfl | rfl <;> decide) ?_
  exact hq _ _ _ dJ0_length_10 rfl
theorem c_J1_canEncode (G : GG) (l : Launch) (n : Nat) (hn : n < 256) : CIs G l yJ1_canEncode cJ1_canEncode 1 .boolean 2 24 [.int (nI n)] (fun _ => True) 1 := by
  refine CIs.mk RJ1 pnJ1 rfl rfl (Nat.le_of_ble_eq_true rfl) (fun pg en Rm sg mm ar bw mth cd QQ ls hC hRm hK hX hl hq => ?_)
  have hx := hC.1; have hb := hC.2.1
  have hl : lv_has ls 1 [(0, .int (nI n))] := hl
  refine lv_iload_n hx hb dJ1_canEncode_0 rfl (lv_at hl 0 rfl) ?_
  refine lv_if_lt (tgt := 15) hx hb dJ1_canEncode_1 (by decide) (fun c => absurd c (nI_pos (by omega))) (fun c => ?_)
  refine lv_iload_n hx hb dJ1_canEncode_4 rfl (lv_at hl 0 rfl) ?_
  refine lv_sipush (v := 255) hx hb dJ1_canEncode_5 (by decide) ?_
  refine lv_icmp_gt (tgt := 15) hx hb dJ1_canEncode_8 (by decide) (fun c => ?_) (fun c => ?_)
  · exact absurd ((nI_ltI (a := 255) (b := n) (by omega) (by omega)).mp c) (by omega)
  · refine lv_iconst (v := 1) hx hb dJ1_canEncode_11 (by decide) ?_
    refine lv_goto (tgt := 16) hx hb dJ1_canEncode_12 (by decide) ?_
    exact hq _ _ _ dJ1_canEncode_16 rfl
theorem c_J1_indexOfChar (G : GG) (l : Launch) (σ : SD) (i n : Nat) (hi : i < 2) : CRs G l σ yJ1_indexOfChar cJ1_indexOfChar 6 .int 2 24 [.ref (σ.2.2 i), .int (nI n), .int 0, .int (nI (scL.getD i 0))] (fun _ => True) (ixJ i n) := by
  refine CRs.mk RJ1 pnJ1 rfl rfl (Nat.le_of_ble_eq_true rfl) (fun pg en Rm sg mm ar bw mth cd QQ ls hC hRm hK hT hX hl hq => ?_)
  have hx := hC.1; have hb := hC.2.1
  have hLb := scL_b hi
  have hl : lv_has ls 6 [(0, .ref (σ.2.2 i)), (1, .int (nI n)), (2, .int 0), (3, .int (nI (scL.getD i 0)))] := hl
  have LP : ∀ (fu k : Nat) (ls : Array Slot), scL.getD i 0 - k < fu → k ≤ scL.getD i 0 → ixK (txB i) (nI n).toInt8.toInt32 (scL.getD i 0 - k) k = ixJ i n → lv_has ls 6 [(5, .int (nI k)), (4, .int (nI n).toInt8.toInt32), (0, .ref (σ.2.2 i)), (3, .int (nI (scL.getD i 0)))] → W pg l en Rm sg mm ar bw mth cd sg.heap [] 0 0 QQ (F0 mm 7 ls []) := by
    intro fu
    induction fu with
    | zero => intro k ls hm; exact absurd hm (Nat.not_lt_zero _)
    | succ fu ih =>
      intro k ls hm hk hI hl
      refine lv_iload hx hb dJ1_indexOfChar_7 (lv_at hl 0 rfl) ?_
      refine lv_iload_n hx hb dJ1_indexOfChar_9 rfl (lv_at hl 3 rfl) ?_
      refine lv_icmp_ge (tgt := 31) hx hb dJ1_indexOfChar_10 (by decide) (fun c => ?_) (fun c => ?_)
      · have c := (nI_leI (a := scL.getD i 0) (b := k) (by omega) (by omega)).mp c
        refine lv_iconst (v := (-1)) hx hb dJ1_indexOfChar_31 (by decide) ?_
        refine hq _ _ _ dJ1_indexOfChar_32 ?_
        rw [← hI, show scL.getD i 0 - k = 0 by omega]; rfl
      · have c := mt (nI_leI (a := scL.getD i 0) (b := k) (by omega) (by omega)).mpr c
        obtain ⟨j, hj⟩ : ∃ j, scL.getD i 0 - k = j + 1 := ⟨scL.getD i 0 - k - 1, by omega⟩
        have hj2 : scL.getD i 0 - (k + 1) = j := by omega
        obtain ⟨x1, x2⟩ := ix_nI (i := nI k) (j := k) (n := scL.getD i 0) rfl (by omega) (by omega)
        refine lv_aload_n hx hb dJ1_indexOfChar_13 rfl (lv_at hl 2 rfl) ?_
        refine lv_iload hx hb dJ1_indexOfChar_14 (lv_at hl 0 rfl) ?_
        refine va_tb (v := .int (txB i k)) hx hb (hT.2.2.1 i hi).2.2.2 va_S.rf x1 (by rw [x2]; rfl) dJ1_indexOfChar_16 ?_
        refine lv_iload hx hb dJ1_indexOfChar_17 (lv_at hl 1 rfl) ?_
        rw [hj] at hI
        refine lv_icmp_ne (tgt := 25) hx hb dJ1_indexOfChar_19 (by decide) (fun c2 => ?_) (fun c2 => ?_)
        · refine lv_iinc (v := nI (k + 1)) (lv' := [(5, .int (nI (k + 1))), (4, .int (nI n).toInt8.toInt32), (0, .ref (σ.2.2 i)), (3, .int (nI (scL.getD i 0)))]) hx hb dJ1_indexOfChar_25 hl (k := 0) rfl (nI_inc k) (by decide) rfl (fun ls hl => ?_)
          refine lv_goto (tgt := 7) hx hb dJ1_indexOfChar_28 (by decide) ?_
          refine ih (k + 1) ls (by omega) (by omega) ?_ hl
          rw [hj2, ← hI]; exact (if_neg c2).symm
        · refine lv_iload hx hb dJ1_indexOfChar_22 (lv_at hl 0 rfl) ?_
          refine hq _ _ _ dJ1_indexOfChar_24 ?_
          rw [← hI]; exact (if_pos c2).symm
  refine lv_iload_n hx hb dJ1_indexOfChar_0 rfl (lv_at hl 1 rfl) ?_
  refine lv_i2b (v := (nI n).toInt8.toInt32) hx hb dJ1_indexOfChar_1 rfl ?_
  refine lv_istore (lv' := [(4, .int (nI n).toInt8.toInt32), (0, .ref (σ.2.2 i)), (1, .int (nI n)), (2, .int 0), (3, .int (nI (scL.getD i 0)))]) hx hb dJ1_indexOfChar_2 hl (by decide) rfl (fun ls hl => ?_)
  refine lv_iload_n hx hb dJ1_indexOfChar_4 rfl (lv_at hl 3 rfl) ?_
  refine lv_istore (lv' := [(5, .int 0), (4, .int (nI n).toInt8.toInt32), (0, .ref (σ.2.2 i)), (1, .int (nI n)), (2, .int 0), (3, .int (nI (scL.getD i 0)))]) hx hb dJ1_indexOfChar_5 hl (by decide) rfl (fun ls hl => ?_)
  exact LP _ 0 ls (Nat.lt_succ_self _) (Nat.zero_le _) (by rw [Nat.sub_zero]; rfl) (lv_sub hl [0, 1, 2, 5] rfl)
theorem c_J1_indexOf (G : GG) (l : Launch) (σ : SD) (i n : Nat) (hi : i < 2) (hn : n < 256) : CRs G l σ yJ1_indexOf cJ1_indexOf 4 .int 3 56 [.ref (σ.2.2 i), .int (nI n), .int 0, .int (nI (scL.getD i 0))] (fun _ => True) (ixJ i n) := by
  refine CRs.mk RJ1 pnJ1 rfl rfl (Nat.le_of_ble_eq_true rfl) (fun pg en Rm sg mm ar bw mth cd QQ ls hC hRm hK hT hX hl hq => ?_)
  have hx := hC.1; have hb := hC.2.1; have ho := hC.2.2.2.1; have hts := hC.2.2.2.2
  have hLb := scL_b hi
  have hl : lv_has ls 4 [(0, .ref (σ.2.2 i)), (1, .int (nI n)), (2, .int 0), (3, .int (nI (scL.getD i 0)))] := hl
  refine lv_iload_n hx hb dJ1_indexOf_0 rfl (lv_at hl 1 rfl) ?_
  refine CIs.go (rcS (As := [.int (nI n)]) hC hl (c_J1_canEncode G l n hn) hK trivial q461 q462 q119 q463 mdJ1_canEncode (room_s hRm rfl) rfl rfl dJ1_indexOf_1) ?_
  refine lv_if_ne (tgt := 9) hx hb dJ1_indexOf_4 (by decide) (fun c => ?_) (fun c => absurd c (by decide))
  refine lv_iload_n hx hb dJ1_indexOf_9 rfl (lv_at hl 2 rfl) ?_
  refine lv_iconst (v := 0) hx hb dJ1_indexOf_10 (by decide) ?_
  refine S_max hC hl q464 q465 q120 q466 (room_m hRm rfl) rfl dJ1_indexOf_11 ?_
  refine W_top (y := 0) (by decide) ?_
  refine lv_istore_n (lv' := [(2, .int 0), (0, .ref (σ.2.2 i)), (1, .int (nI n)), (3, .int (nI (scL.getD i 0)))]) hx hb dJ1_indexOf_14 rfl hl (by decide) rfl (fun ls hl => ?_)
  refine lv_iload_n hx hb dJ1_indexOf_15 rfl (lv_at hl 3 rfl) ?_
  refine lv_aload_n hx hb dJ1_indexOf_16 rfl (lv_at hl 1 rfl) ?_
  refine va_tlen (v := nI (scL.getD i 0)) hx hb (hT.2.2.1 i hi).2.2.2 va_S.rf rfl dJ1_indexOf_17 ?_
  refine S_min hC hl q467 q468 q120 q469 (room_m hRm rfl) rfl dJ1_indexOf_18 ?_
  refine W_top (y := nI (scL.getD i 0)) (by rcases (show i = 0 ∨ i = 1 by omega) with rfl | rfl <;> decide) ?_
  refine lv_istore_n (lv' := [(3, .int (nI (scL.getD i 0))), (2, .int 0), (0, .ref (σ.2.2 i)), (1, .int (nI n))]) hx hb dJ1_indexOf_21 rfl hl (by decide) rfl (fun ls hl => ?_)
  refine lv_iload_n hx hb dJ1_indexOf_22 rfl (lv_at hl 1 rfl) ?_
  refine lv_iload_n hx hb dJ1_indexOf_23 rfl (lv_at hl 0 rfl) ?_
  refine lv_icmp_lt (tgt := 29) hx hb dJ1_indexOf_24 (by decide) (fun c => ?_) (fun c => absurd ((nI_ltI (a := 0) (b := scL.getD i 0) (by omega) (by omega)).mpr (by omega)) c)
  refine lv_aload_n hx hb dJ1_indexOf_29 rfl (lv_at hl 2 rfl) ?_
  refine lv_iload_n hx hb dJ1_indexOf_30 rfl (lv_at hl 3 rfl) ?_
  refine lv_iload_n hx hb dJ1_indexOf_31 rfl (lv_at hl 1 rfl) ?_
  refine lv_iload_n hx hb dJ1_indexOf_32 rfl (lv_at hl 0 rfl) ?_
  refine CIs.go (rrS (As := [.ref (σ.2.2 i), .int (nI n), .int 0, .int (nI (scL.getD i 0))]) hC hl (c_J1_indexOfChar G l σ i n hi) hK hT trivial q470 q471 q119 q472 mdJ1_indexOfChar (room_s hRm rfl) rfl rfl dJ1_indexOf_33) ?_
  exact hq _ _ _ dJ1_indexOf_36 rfl
theorem c_J0_indexOf_2 (G : GG) (l : Launch) (σ : SD) (i n : Nat) (hi : i < 2) (hn : n < 256) : CRs G l σ yJ0_indexOf_2 cJ0_indexOf_2 3 .int 4 80 [.ref (σ.2.1 i), .int (nI n), .int 0] (fun _ => True) (ixJ i n) := by
  refine CRs.mk RJ0 pnJ0 rfl rfl (Nat.le_of_ble_eq_true rfl) (fun pg en Rm sg mm ar bw mth cd QQ ls hC hRm hK hT hX hl hq => ?_)
  have hx := hC.1; have hb := hC.2.1; have ho := hC.2.2.2.1; have hts := hC.2.2.2.2
  have hl : lv_has ls 3 [(0, .ref (σ.2.1 i)), (1, .int (nI n)), (2, .int 0)] := hl
  refine lv_aload_n hx hb dJ0_indexOf_2_0 rfl (lv_at hl 0 rfl) ?_
  refine CIs.go (rrV (As := []) hC hl (c_J0_isLatin1 G l σ i hi) hK hT trivial (vk_recv hT.2.2 hi va_S.rf) q444 q445 q446 q118 q447 mdJ0_isLatin1 (room_s hRm rfl) rfl rfl dJ0_indexOf_2_1) ?_
  refine lv_if_eq (tgt := 23) hx hb dJ0_indexOf_2_4 (by decide) (fun c => absurd c (by decide)) (fun c => ?_)
  refine lv_aload_n hx hb dJ0_indexOf_2_7 rfl (lv_at hl 0 rfl) ?_
  refine vk_getf hx hb (hT.2.2.1 i hi).2.2.1 va_S.rf ho (hts _ q1839) (fun _ h => h) dJ0_indexOf_2_8 ?_
  refine lv_iload_n hx hb dJ0_indexOf_2_11 rfl (lv_at hl 1 rfl) ?_
  refine lv_iload_n hx hb dJ0_indexOf_2_12 rfl (lv_at hl 2 rfl) ?_
  refine lv_aload_n hx hb dJ0_indexOf_2_13 rfl (lv_at hl 0 rfl) ?_
  refine CIs.go (rrV (As := []) hC hl (c_J0_length G l σ i hi) hK hT trivial (vk_recv hT.2.2 hi va_S.rf) q450 q451 q452 q118 q453 mdJ0_length (room_s hRm rfl) rfl rfl dJ0_indexOf_2_14) ?_
  refine CIs.go (rrS (As := [.ref (σ.2.2 i), .int (nI n), .int 0, .int (nI (scL.getD i 0))]) hC hl (c_J1_indexOf G l σ i n hi hn) hK hT trivial q458 q459 q119 q460 mdJ1_indexOf (room_s hRm rfl) rfl rfl dJ0_indexOf_2_17) ?_
  refine lv_goto (tgt := 36) hx hb dJ0_indexOf_2_20 (by decide) ?_
  exact hq _ _ _ dJ0_indexOf_2_36 rfl
theorem c_J0_indexOf (G : GG) (l : Launch) (σ : SD) (i n : Nat) (hi : i < 2) (hn : n < 256) : CRs G l σ yJ0_indexOf cJ0_indexOf 2 .int 5 104 [.ref (σ.2.1 i), .int (nI n)] (fun _ => True) (ixJ i n) := by
  refine CRs.mk RJ0 pnJ0 rfl rfl (Nat.le_of_ble_eq_true rfl) (fun pg en Rm sg mm ar bw mth cd QQ ls hC hRm hK hT hX hl hq => ?_)
  have hx := hC.1; have hb := hC.2.1; have ho := hC.2.2.2.1; have hts := hC.2.2.2.2
  have hl : lv_has ls 2 [(0, .ref (σ.2.1 i)), (1, .int (nI n))] := hl
  refine lv_aload_n hx hb dJ0_indexOf_0 rfl (lv_at hl 0 rfl) ?_
  refine lv_iload_n hx hb dJ0_indexOf_1 rfl (lv_at hl 1 rfl) ?_
  refine lv_iconst (v := 0) hx hb dJ0_indexOf_2 (by decide) ?_
  refine CIs.go (rrV (As := [.int (nI n), .int 0]) hC hl (c_J0_indexOf_2 G l σ i n hi hn) hK hT trivial (vk_recv hT.2.2 hi va_S.rf) q440 q441 q442 q118 q443 mdJ0_indexOf_2 (room_s hRm rfl) rfl rfl dJ0_indexOf_3) ?_
  exact hq _ _ _ dJ0_indexOf_6 rfl
