set_option maxRecDepth 100000
/-- a static method of the reference that changes its world (it gets arrays) -/
def CSv (G : GG) (l : Launch) (o : Nat) (R : Nat → Nat) (y : MethodName) (cc : ByteArray) (nL : Nat) (fr lo : Nat) (as : List Value) (u : MS) (post : MS → Prop) : Prop :=
  Met l y (ws_ y cc nL none) (rm_ fr lo 0 0) (va_Pc as (fun U => KK G U ∧ PM G o R u U.heap)) (va_Qv post (fun w t => PM G o R w t.heap) (AM o R)) 0 0 (AM o R)
section CSV
variable {G : GG} {p : Program} {l : Launch} {e : Env} {Rm : Room} {s : State} {m : MethodId} {args : Array Value} {below : List Frame} {meth : Method} {c : Code} {H : Heap} {locs : List Loc} {cells slots : Nat} {Q : State → Prop}
variable {cc bytes : ByteArray} {nL maxL index fr lo pc o : Nat} {R : Nat → Nat} {u : MS} {ret : FieldType} {y : MethodName} {ls : Array Slot} {As rest st : List Value} {lv : List (Nat × Value)}
theorem CSv.mk {as : List Value} {post : MS → Prop} (hy : plainName y.cls = true) (hown : y.cls = RX6) (hn : (lg_sl as).length ≤ nL)
    (body : ∀ (p : Program) (e : Env) (Rm : Room) (s : State) (m : MethodId) (args : Array Value) (below : List Frame) (meth : Method) (c : Code) (Q : State → Prop) (ls : Array Slot), CallFix p m c cc nL s args lw_all RX6 → Rm = rm_ fr lo 0 0 → KK G s → PM G o R u s.heap → va_S (AM o R) s.heap s.heap [] → lv_has ls nL (lv_args 0 as) →
      (∀ (pc : Nat) (ls : Array Slot) (w : MS) (H : Heap) (locs : List Loc), decode cc pc = .ok (.return_, 1) → PM G o R w H → va_S (AM o R) s.heap H locs → post w → W p l e Rm s m args below meth c H locs 0 0 Q (F0 m pc ls [])) → W p l e Rm s m args below meth c s.heap [] 0 0 Q (F0 m 0 ls [])) : CSv G l o R y cc nL fr lo as u post := by
  refine Met.ofW (cc := cc) (maxL := nL) (ret := none) hy rfl ?_
  intro p e s m args below meth c s₁ B hml hv
  obtain ⟨rfl, hK, hX⟩ := hv
  have hx := B.exec
  have hb := B.bytes
  have hr := B.returns
  have hts := atoms_spec (ws := ws_ y cc nL none) B.pre
  have hts : ∀ w ∈ lw_all, w.before _ s = true := fun w h => hts w (List.mem_cons_of_mem _ h)
  have ho : s.vm.findClass RX6 = some m.cls := by rw [← hown]; exact findClass_of_methodNamed B.named
  have hlocks := B.notSynchronized
  have hl := lv_entry as (n := nL) hn
  rw [lg_entry_eq]
  refine body p e _ s m _ below meth c _ _ ⟨hx, hb, hml, ho, hts⟩ rfl hK hX va_S.rf hl ?_
  intro pc ls w H locs hd hP hS hv
  exact W.vret hx hb hr (fun t ht hW => ⟨⟨w, rfl, hv, by show PM G o R w t.heap; rw [ht]; exact hP⟩, hS.F ht⟩) hS.2.2 hd
theorem CSv.call {A0 : Nat → Prop} {H0 : Heap} {own : String} {post : MS → Prop} (hC : CallFix p m c cc nL s args lw_all own) (hK : KK G s) (hS : va_S A0 H0 H locs) (hA : ∀ q, AM o R q → A0 q) (hl : lv_has ls nL lv) (hM : CSv G l o R y bytes maxL fr lo As u post) (hP : PM G o R u H) (h1 : Cond.methodLink own index y ∈ lw_all) (h2 : Cond.static y ∈ lw_all) (h3 : Cond.initialized y.cls ∈ lw_all) (h4 : Cond.code y bytes maxL none ∈ lw_all) (hd : MD y As.length) (hR : (fr + 1 ≤ Rm.frames ∧ 19 + maxL + lo ≤ Rm.locals) ∧ cells ≤ Rm.cells ∧ slots ≤ Rm.slots) (hst : st = As.reverse ++ rest) (hcat : Nat.ble (rest.map fun v => v.category).sum 8 = true) (hdg : decode cc pc = .ok (.invokestatic index, 3))
    (kk : ∀ (w : MS) (H1 : Heap) (locs : List Loc), post w → PM G o R w H1 → H.size ≤ H1.size → (∀ q : Nat, q < H.size → ¬ AM o R q → H1[q]? = H[q]?) → va_S A0 H0 H1 locs → W p l e Rm s m args below meth c H1 locs cells slots Q (F0 m (pc + 3) ls rest)) : W p l e Rm s m args below meth c H locs cells slots Q (F0 m pc ls st) := by
  refine va_callv (va_runS (As := As) (rest := rest) hC hM (va_cwS As.length hC.2.2.2.2 (lw_S h1 h2 h3 h4) rfl rfl rfl hd ⟨hR.1.1, by have := hR.1.2; show 8 + (maxL + 11) + lo ≤ _; omega⟩) ⟨fun a U g mk q => ⟨q.1, KK.moved (u := U) (U := U.calling g mk a) (Vm.Alike.refl U.vm) q.2.1, q.2.2⟩, fun U hU hW => ⟨rfl, KK.moved hW.alike hK, by rw [hU]; exact hP⟩⟩ rfl rfl hl.1 hst (lv_room (Nat.le_of_ble_eq_true hcat)) hdg hR.2) hS (fun q _ h => hA q h) hA (fun w t H1 locs1 ht hvm hpo hB hz hk hS1 => ?_)
  have hB : PM G o R w t.heap := hB
  rw [ht] at hB
  exact kk w H1 locs1 hpo hB hz hk hS1
end CSV
/-- the first n ints of the array a of the reference, copied to its array b -/
def mC (u : MS) (a b n : Nat) : MS := (u.1, fun k => if k = b then (fun t => if t < n then u.2.1 a t else u.2.1 b t) else u.2.1 k, u.2.2)
theorem mC_0 (u : MS) (a b : Nat) : mC u a b 0 = u := by
  unfold mC
  have : (fun k => if k = b then (fun t => if t < 0 then u.2.1 a t else u.2.1 b t) else u.2.1 k) = u.2.1 := by
    funext k
    by_cases h : k = b
    · subst h; simp
    · simp [h]
  rw [this]
theorem mC_s (u : MS) {a b : Nat} (hab : a ≠ b) (n : Nat) : mA (mC u a b n) b n ((mC u a b n).2.1 a n) = mC u a b (n + 1) := by
  unfold mC mA upd2 upd
  simp only [Prod.mk.injEq, true_and, and_true]
  funext k
  by_cases h : k = b
  · subst h
    funext t
    simp only [if_true, if_neg hab]
    by_cases e : t = n
    · subst e; simp
    · have : (t < n + 1) = (t < n) := by simp; omega
      simp [e, this]
  · simp [h]
theorem mC_1 (u : MS) (a b n : Nat) : (mC u a b n).1 = u.1 := rfl
theorem mC_3 (u : MS) (a b n : Nat) : (mC u a b n).2.2 = u.2.2 := rfl
theorem mC_2 (u : MS) (a b n k : Nat) : (mC u a b n).2.1 k = if k = b then (fun t => if t < n then u.2.1 a t else u.2.1 b t) else u.2.1 k := rfl
/-- one int array of the reference set anew -/
def mS (u : MS) (k : Nat) (f : Nat → Int32) : MS := (u.1, fun j => if j = k then f else u.2.1 j, u.2.2)
theorem mS_1 (u : MS) (k : Nat) (f : Nat → Int32) : (mS u k f).1 = u.1 := rfl
theorem mS_2 (u : MS) (k j : Nat) (f : Nat → Int32) : (mS u k f).2.1 j = if j = k then f else u.2.1 j := rfl
theorem mS_3 (u : MS) (k : Nat) (f : Nat → Int32) : (mS u k f).2.2 = u.2.2 := rfl
theorem mS_A (u : MS) (k i : Nat) (f : Nat → Int32) (x : Int32) : mA (mS u k f) k i x = mS u k (upd f i x) := by
  unfold mA mS upd2
  simp only [Prod.mk.injEq, true_and, and_true]
  funext j
  by_cases h : j = k
  · subst h; simp
  · simp [h]
theorem mS_self (u : MS) (k : Nat) : mS u k (u.2.1 k) = u := by
  unfold mS
  have : (fun j => if j = k then u.2.1 k else u.2.1 j) = u.2.1 := by
    funext j
    by_cases h : j = k
    · subst h; simp
    · simp [h]
  rw [this]
def byB (v : Int32) (k : Int32) : Int32 := vp_nar .byte (v >>> (k &&& 31)).toInt8.toInt32
def joyAll (hs : Int32) (joy : Nat → Int32) : Nat → Int32
  | 0 => 0
  | k + 1 => if isHouseB hs (nI k) = true then joyAll hs joy k + joy k else joyAll hs joy k
theorem xorAll (x : Int32) : x + 0 = x := by simp
/-- the first place below n where c fails -/
def missS (c : Nat → Bool) : Nat → Nat → Int32
  | 0, _ => -1
  | n + 1, k => if c k = true then missS c n (k + 1) else nI k
theorem missS_f {c : Nat → Bool} {k m : Nat} (hk : k < m) (h : ¬ c k = true) : missS c (m - k) k = nI k := by
  obtain ⟨n, hn⟩ : ∃ n, m - k = n + 1 := ⟨m - k - 1, by omega⟩
  rw [hn]; show (if c k = true then _ else nI k) = _; rw [if_neg h]
theorem missS_t {c : Nat → Bool} {k m : Nat} (hk : k < m) (h : c k = true) : missS c (m - k) k = missS c (m - (k + 1)) (k + 1) := by
  obtain ⟨n, hn⟩ : ∃ n, m - k = n + 1 := ⟨m - k - 1, by omega⟩
  rw [hn]; show (if c k = true then _ else nI k) = _; rw [if_pos h]; congr 1; omega
theorem missS_e {c : Nat → Bool} {k m : Nat} (hk : m ≤ k) : missS c (m - k) k = -1 := by rw [Nat.sub_eq_zero_of_le hk]; rfl
def chkC (hs : Int32) (joy oc : Nat → Int32) (k : Nat) : Bool := decide (oc k = if isHouseB hs (nI k) = true then remI (joy k) 256 else 255)
def chkG (tp n : Int32) : Bool := inB n 0 16 && !decide (tp < n)
theorem inB_nI2 {x : Int32} (m n : Nat) {a b : Int32} (ha : a.toInt = m) (hb : b.toInt = n) (h : inB x a b = true) : ∃ j : Nat, m ≤ j ∧ j ≤ n ∧ x = nI j ∧ ix x = j := by
  simp only [inB, Bool.and_eq_true, decide_eq_true_eq] at h
  have h1 := Int32.le_iff_toInt_le.mp h.1
  have h2 := Int32.le_iff_toInt_le.mp h.2
  have hlt : x.toInt < 2 ^ 31 := Int32.toInt_lt x
  obtain ⟨j, hj, e⟩ := nI_of (x := x) (by intro q; have := Int32.lt_iff_toInt_lt.mp q; simp at this; omega)
  subst e
  rw [nI_toInt hj] at h1 h2
  exact ⟨j, by omega, by omega, rfl, ixn hj⟩
def turnG (hs t h : Int32) : Bool := isTurnB t && (decide (h = -1) || isHouseB hs h)
