set_option maxRecDepth 100000
/-! crack, swaps, panes, what is kept: the reference's own forms -/
theorem nI_tn {s : Nat} (h : s < 2 ^ 32) : (nI s).toBitVec.toNat = s := pk_tn h
theorem bt_nI {s k : Nat} (hk : k < 32) : bt (nI s) k = s.testBit k := by
  unfold bt
  show (BitVec.ofNat 32 s).getLsbD k = _
  rw [BitVec.getLsbD_ofNat]
  simp [hk]
theorem hasB_nI (s : Nat) {k : Nat} (hk : k < 32) : hasB (nI s) (nI k) = s.testBit k := by rw [hasB_bt _ hk, bt_nI hk]
theorem mxI_nI {a b : Nat} (ha : a < 2 ^ 31) (hb : b < 2 ^ 31) : mxI (nI a) (nI b) = nI (max a b) := by
  unfold mxI
  by_cases h : b < a
  · rw [if_pos (nI_lt h ha), Nat.max_eq_left (by omega)]
  · rw [if_neg (nI_nlt (by omega) hb), Nat.max_eq_right (by omega)]
theorem mnI_nI {a b : Nat} (ha : a < 2 ^ 31) (hb : b < 2 ^ 31) : mnI (nI a) (nI b) = nI (min a b) := by
  unfold mnI
  by_cases h : a < b
  · rw [if_pos (nI_lt h hb), Nat.min_eq_left (by omega)]
  · rw [if_neg (nI_nlt (by omega) ha), Nat.min_eq_right (by omega)]
def allC (c : Nat → Bool) : Nat → Bool
  | 0 => true
  | k + 1 => allC c k && c k
theorem allC_f {c : Nat → Bool} {k n : Nat} (hk : k < n) (h : c k = false) : allC c n = false := by
  induction n with
  | zero => omega
  | succ n ih =>
    show (allC c n && c n) = false
    by_cases e : k = n
    · subst e; rw [h]; simp
    · rw [ih (by omega)]; simp
theorem allC_iff {c : Nat → Bool} {n : Nat} : allC c n = true ↔ ∀ k, k < n → c k = true := by
  induction n with
  | zero => simp [allC]
  | succ n ih =>
    show (allC c n && c n) = true ↔ _
    rw [Bool.and_eq_true, ih]
    constructor
    · intro h k hk
      by_cases e : k = n
      · subst e; exact h.2
      · exact h.1 k (by omega)
    · intro h; exact ⟨fun k hk => h k (by omega), h n (by omega)⟩
def fitC (f : Nat → Int32) (came k : Nat) : Bool := decide ((if came ≤ ocN f (2 * k) then 1 else 0) = ocN f (2 * k + 1))
def saysC (f : Nat → Int32) (k : Nat) : Bool := !decide (12 ≤ ocN f (2 * k)) && !decide (1 < ocN f (2 * k + 1))
def crackG (tp n k : Int32) : Bool := inB n 1 12 && (inB k 0 1 && !decide (tp < 2 * n))
def whoS (w : Nat → Int32) (c : Nat → Bool) : Nat → Int32
  | 0 => 0
  | q + 1 => if c q = true ∧ q < 12 ∧ ¬ w q = -1 then whoS w c q ||| bitI (ix (w q)) else whoS w c q
def crackV (w f : Nat → Int32) (n : Nat) (k : Int32) : Int32 :=
  if allC (saysC f) n = true then (if k = 0 then orN (fun q => allC (fitC f q) n) 13 else whoS w (fun q => allC (fitC f q) n) 13) else -3
def crackI (w f : Nat → Int32) (tp n k : Int32) : Int32 := if crackG tp n k = true then crackV w f (ix n) k else -1
def worN (f : Nat → Int32) (n p t : Nat) : Nat := ocN f (n * p + t)
def bothB (f : Nat → Int32) (n a b : Nat) : Bool := decide (worN f n a a < worN f n a b) && decide (worN f n b b < worN f n b a)
def twR (c : Nat → Nat → Bool) (a : Nat) (acc : Int32) : Nat → Int32
  | 0 => acc
  | b + 1 => if c a b = true then twR c a acc b + 1 else twR c a acc b
def twC (c : Nat → Nat → Bool) : Nat → Int32
  | 0 => 0
  | a + 1 => twR c a (twC c a) a
def clearR (v a b : Nat) : Bool := allC (fun i => !v.testBit (a + i)) (b + 1 - a)
def runS (c : Nat → Bool) : Nat → Nat → Nat
  | 0, _ => 0
  | m + 1, r => if c r = true then runS c m (r + 1) + 1 else 0
theorem runS_le (c : Nat → Bool) : ∀ m r, runS c m r ≤ m := by
  intro m
  induction m with
  | zero => intro r; exact Nat.le_refl _
  | succ m ih => intro r; unfold runS; split
                 · have := ih (r + 1); omega
                 · omega
theorem runS_t {c : Nat → Bool} {n r : Nat} (hr : r < n) (h : c r = true) : runS c (n - r) r = runS c (n - (r + 1)) (r + 1) + 1 := by
  obtain ⟨m, hm⟩ : ∃ m, n - r = m + 1 := ⟨n - r - 1, by omega⟩
  have h2 : n - (r + 1) = m := by omega
  rw [hm, h2]; show (if c r = true then _ else _) = _; rw [if_pos h]
theorem runS_f {c : Nat → Bool} {n r : Nat} (hr : r < n) (h : ¬ c r = true) : runS c (n - r) r = 0 := by
  obtain ⟨m, hm⟩ : ∃ m, n - r = m + 1 := ⟨n - r - 1, by omega⟩
  rw [hm]; show (if c r = true then _ else _) = _; rw [if_neg h]
def tallN (f : Nat → Int32) (n a b r : Nat) : Nat := runS (fun y => clearR (ocN f y) a b) (n - r) r
theorem tallN_le (f : Nat → Int32) (n a b r : Nat) : tallN f n a b r ≤ n := Nat.le_trans (runS_le _ _ _) (Nat.sub_le _ _)
def pnR (f : Nat → Int32) (n a b acc : Nat) : Nat → Nat
  | 0 => acc
  | r + 1 => max (pnR f n a b acc r) (tallN f n a b r * (b - a + 1))
def pnC (f : Nat → Int32) (n wd : Nat) : Nat → Nat
  | 0 => 0
  | c + 1 => if c / wd ≤ c % wd then pnR f n (c / wd) (c % wd) (pnC f n wd c) n else pnC f n wd c
theorem pnR_le {f : Nat → Int32} {n a b acc r M : Nat} (h1 : acc ≤ M) (h2 : n * (b - a + 1) ≤ M) : pnR f n a b acc r ≤ M := by
  induction r with
  | zero => exact h1
  | succ r ih => exact Nat.max_le.mpr ⟨ih, Nat.le_trans (Nat.mul_le_mul_right _ (tallN_le f n a b r)) h2⟩
theorem pnC_le {f : Nat → Int32} {n wd c : Nat} (hn : n ≤ 6) (hw : wd ≤ 6) (h0 : 0 < wd) : pnC f n wd c ≤ 36 := by
  induction c with
  | zero => exact Nat.zero_le _
  | succ c ih =>
    unfold pnC
    split
    · refine pnR_le ih ?_
      have h : c % wd < wd := Nat.mod_lt _ h0
      have h2 : c % wd - c / wd ≤ c % wd := Nat.sub_le _ _
      have : n * (c % wd - c / wd + 1) ≤ 6 * 6 := Nat.mul_le_mul hn (by omega)
      omega
    · exact ih
def panesG (tp n wd : Int32) : Bool := inB n 1 6 && (inB wd 1 6 && !decide (tp < n))
def panesI (f : Nat → Int32) (tp n wd : Int32) : Int32 := if panesG tp n wd = true then nI (pnC f (ix n) (ix wd) (ix wd * ix wd)) else -1
def mxPre (f : Nat → Int32) : Nat → Int32
  | 0 => -1
  | d + 1 => mxI (mxPre f d) (nI (ocN f d))
def hbC (f : Nat → Int32) (k d : Nat) : Bool := decide (k ≤ d) && decide (mxPre f d < nI (ocN f d))
def hbS (f : Nat → Int32) (n k : Nat) : Nat → Nat → Nat
  | 0, _ => ocN f (n - 1)
  | m + 1, d => if hbC f k d = true then ocN f d else hbS f n k m (d + 1)
def hbN (f : Nat → Int32) (n k : Nat) : Nat := hbS f n k n 0
theorem hbS_t {f : Nat → Int32} {n k d : Nat} (hd : d < n) (h : hbC f k d = true) : hbS f n k (n - d) d = ocN f d := by
  obtain ⟨m, hm⟩ : ∃ m, n - d = m + 1 := ⟨n - d - 1, by omega⟩
  rw [hm]; show (if hbC f k d = true then _ else _) = _; rw [if_pos h]
theorem hbS_f {f : Nat → Int32} {n k d : Nat} (hd : d < n) (h : ¬ hbC f k d = true) : hbS f n k (n - d) d = hbS f n k (n - (d + 1)) (d + 1) := by
  obtain ⟨m, hm⟩ : ∃ m, n - d = m + 1 := ⟨n - d - 1, by omega⟩
  have h2 : n - (d + 1) = m := by omega
  rw [hm, h2]; show (if hbC f k d = true then _ else _) = _; rw [if_neg h]
theorem hbS_lt (f : Nat → Int32) (n k : Nat) : ∀ m d, hbS f n k m d < 256 := by
  intro m
  induction m with
  | zero => intro d; exact ocN_lt _ _
  | succ m ih => intro d; unfold hbS; split
                 · exact ocN_lt _ _
                 · exact ih _
theorem hbN_b (f : Nat → Int32) (n k : Nat) : hbN f n k < 2 ^ 31 := by have := hbS_lt f n k n 0; unfold hbN; omega
def clN (g : Nat → Nat) : Nat → Nat
  | 0 => 0
  | k + 1 => if g (clN g k) < g (k + 1) then k + 1 else clN g k
theorem clN_le (g : Nat → Nat) : ∀ k, clN g k ≤ k := by
  intro k
  induction k with
  | zero => exact Nat.le_refl _
  | succ k ih => unfold clN; split <;> omega
def keepG (tp n k : Int32) : Bool := inB n 1 20 && (inB k (-1) (n - 1) && !decide (tp < n))
def keepItI (f : Nat → Int32) (tp n k : Int32) : Int32 := if keepG tp n k = true then (if k = -1 then nI (clN (hbN f (ix n)) (ix n - 1)) else nI (hbN f (ix n) (ix k))) else -1
theorem inB_m1 {k : Int32} {n : Nat} (hn : n < 2 ^ 30) (h : inB k (-1) (nI n - 1) = true) (hk : ¬ k = -1) : ∃ j : Nat, j < n ∧ k = nI j ∧ ix k = j := by
  simp only [inB, Bool.and_eq_true, decide_eq_true_eq] at h
  have h1 := Int32.le_iff_toInt_le.mp h.1
  have h2 := Int32.le_iff_toInt_le.mp h.2
  rw [show nI n - 1 = nI n - nI 1 from rfl, pk_sub_toInt hn (by omega)] at h2
  have h3 : k.toInt ≠ -1 := fun e => hk (Int32.toInt_inj.mp (by rw [e]; rfl))
  rw [show (-1 : Int32).toInt = -1 from rfl] at h1
  obtain ⟨j, hj, e⟩ := nI_of (x := k) (by intro q; have := Int32.lt_iff_toInt_lt.mp q; rw [show (0 : Int32).toInt = 0 from rfl] at this; omega)
  subst e
  rw [nI_toInt hj] at h2
  exact ⟨j, by omega, rfl, ixn hj⟩
def swapsG (tp n k : Int32) : Bool := inB n 2 8 && (inB k 0 1 && !decide (tp < n * n))
def ryS (k : Nat) : Nat → Nat → Int64
  | 0, v => if v = 1 then (nI k).toInt64 else 0
  | t + 1, v => if v = 0 then 0 else ryS k t v * (nI v - 1).toInt64 + ryS k t (v - 1) * (nI k - nI v + 1).toInt64
def rotasI (k : Int32) : Int64 := if inB k 1 12 = true then ryS (ix k) 11 (ix k) else -1
/-- an answer long, the world may change -/
def CMl (G : GG) (l : Launch) (o : Nat) (R : Nat → Nat) (y : MethodName) (cc : ByteArray) (nL : Nat) (fr lo : Nat) (as : List Value) (u : MS) (post : Int64 → MS → Prop) : Prop :=
  Met l y (ws_ y cc nL (some .long)) (rm_ fr lo 0 0) (va_Pc (.ref o :: as) (fun U => KK G U ∧ PM G o R u U.heap)) (va_Ql post (fun w t => PM G o R w t.heap) (AM o R)) 0 0 (AM o R)
theorem CMl.mk {G : GG} {l : Launch} {cc : ByteArray} {nL fr lo o : Nat} {R : Nat → Nat} {u : MS} {y : MethodName} {as : List Value} {post : Int64 → MS → Prop} (hy : plainName y.cls = true) (hown : y.cls = RX6) (hn : (lg_sl (.ref o :: as)).length ≤ nL)
    (body : ∀ (p : Program) (e : Env) (Rm : Room) (s : State) (m : MethodId) (args : Array Value) (below : List Frame) (meth : Method) (c : Code) (Q : State → Prop) (ls : Array Slot), CallFix p m c cc nL s args lw_all RX6 → Rm = rm_ fr lo 0 0 → KK G s → PM G o R u s.heap → va_S (AM o R) s.heap s.heap [] → lv_has ls nL (lv_args 0 (.ref o :: as)) →
      (∀ (pc : Nat) (ls : Array Slot) (v : Int64) (w : MS) (H : Heap) (locs : List Loc), decode cc pc = .ok (.lreturn, 1) → PM G o R w H → va_S (AM o R) s.heap H locs → True → post v w → W p l e Rm s m args below meth c H locs 0 0 Q (F0 m pc ls [.long v])) → W p l e Rm s m args below meth c s.heap [] 0 0 Q (F0 m 0 ls [])) : CMl G l o R y cc nL fr lo as u post := by
  refine Met.ofW (cc := cc) (maxL := nL) (ret := some .long) hy rfl ?_
  intro p e s m args below meth c s₁ B hml hv
  obtain ⟨rfl, hK, hX⟩ := hv
  have hx := B.exec
  have hb := B.bytes
  have hr := B.returns
  have hts := atoms_spec (ws := ws_ y cc nL (some .long)) B.pre
  have hts : ∀ w ∈ lw_all, w.before _ s = true := fun w h => hts w (List.mem_cons_of_mem _ h)
  have ho : s.vm.findClass RX6 = some m.cls := by rw [← hown]; exact findClass_of_methodNamed B.named
  have hlocks := B.notSynchronized
  have hl := lv_entry (.ref o :: as) (n := nL) hn
  rw [lg_entry_eq]
  refine body p e _ s m _ below meth c _ _ ⟨hx, hb, hml, ho, hts⟩ rfl hK hX va_S.rf hl ?_
  intro pc ls v w H locs hd hP hS _ hv
  exact W.lret hx hb hr (fun t ht hW => ⟨⟨v, w, rfl, hv, by show PM G o R w t.heap; rw [ht]; exact hP⟩, hS.F ht⟩) hS.2.2 hd
def mG (u : MS) (al : Nat → Nat → Int64) : MS := (u.1, u.2.1, al)
theorem mG_L (u : MS) (al : Nat → Nat → Int64) (k i : Nat) (x : Int64) : mL (mG u al) k i x = mG u (upd2L al k i x) := rfl
theorem mV_G (u : MS) (al : Nat → Nat → Int64) : (mG u al).1 = u.1 := rfl
