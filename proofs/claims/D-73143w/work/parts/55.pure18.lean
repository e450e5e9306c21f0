set_option maxRecDepth 100000
/-! sums and conditions: objects in the heap, and what they come to by the facts -/
abbrev FF : Type := Nat → Int32
abbrev SDn : Type := FF → Option Int32
abbrev CDn : Type := FF → Option Bool
def letC (i : Nat) : Int32 := if i = 0 then 104 else if i = 1 then 103 else if i = 2 then 115 else if i = 3 then 100 else if i = 4 then 110 else if i = 5 then 98 else if i = 6 then 107 else if i = 7 then 116 else 119
def valS (u : MS) (c : Int32) : Int32 := if c = 104 then u.1 31 else if c = 103 then u.1 32 else if c = 115 then u.1 33 else if c = 100 then u.1 34 else if c = 110 then u.1 35 else if c = 98 then u.1 36 else if c = 107 then u.1 37 else if c = 116 then u.1 38 else u.1 39
theorem valS_let (u : MS) {i : Nat} (hi : i < 9) : valS u (letC i) = u.1 (31 + i) := by
  have : i = 0 ∨ i = 1 ∨ i = 2 ∨ i = 3 ∨ i = 4 ∨ i = 5 ∨ i = 6 ∨ i = 7 ∨ i = 8 := by omega
  rcases this with rfl | rfl | rfl | rfl | rfl | rfl | rfl | rfl | rfl <;> rfl
def workS (sg x y : Int32) : Option Int32 := if sg = 43 then some (x + y) else if sg = 45 then some (x - y) else if sg = 42 then some (x * y) else if y = 0 then none else if sg = 47 then some (x / y) else some (remI x y)
def cmpS (sg : Int32) (x y : Option Int32) : Option Bool := match x, y with
  | some v, some w => some (if sg = 60 then decide (v < w) else if sg = 62 then decide (w < v) else decide (v = w))
  | _, _ => none
def somS (b : Bool) (v rest : Option Bool) : Option Bool := match v with
  | none => none
  | some x => if x = b then some x else rest
/-- sums by depth; chains of rows -/
def TT (G : GG) (A : Nat → Prop) (H : Heap) : Nat → (Nat → SDn → Prop) × (Option Nat → (FF → Int32 → Option Int32) → Prop)
  | 0 => (fun _ _ => False, fun r dr => r = none ∧ ∀ F v, dr F v = some v)
  | d + 1 => (fun a den => ¬ A a ∧ (
      (∃ n : Int32, va_P G.1 vwCl [(a, .inr (8, [.int n]))] H ∧ ∀ F, den F = some n) ∨
      (∃ i : Nat, i < 9 ∧ va_P G.1 vwCl [(a, .inr (9, [.int (letC i)]))] H ∧ ∀ F, den F = some (F i)) ∨
      (∃ (sg : Int32) (p : Nat) (r : Option Nat) (dp : SDn) (dr : FF → Int32 → Option Int32), va_P G.1 vwCl [(a, .inr (7, [.int sg, .ref p, va_rf r]))] H ∧ (TT G A H d).1 p dp ∧ (TT G A H d).2 r dr ∧ ∀ F, den F = (dp F).bind (dr F))),
    fun r dr => (r = none ∧ ∀ F v, dr F v = some v) ∨ ∃ (a : Nat) (sg : Int32) (p : Nat) (r' : Option Nat) (dp : SDn) (dr' : FF → Int32 → Option Int32), r = some a ∧ ¬ A a ∧ va_P G.1 vwCl [(a, .inr (7, [.int sg, .ref p, va_rf r']))] H ∧ (TT G A H d).1 p dp ∧ (TT G A H d).2 r' dr' ∧ ∀ F v, dr F v = (dp F).bind (fun y => (workS sg v y).bind (dr' F)))
theorem one_keep {D : va_G} {cl : List vw_C} {A : Nat → Prop} {H H1 : Heap} {a : Nat} {e : va_E} (h : va_P D cl [(a, e)] H) (ha : ¬ A a) (hk : ∀ q : Nat, q < H.size → ¬ A q → H1[q]? = H[q]?) : va_P D cl [(a, e)] H1 :=
  h.kept (fun k q hq => by
    match k, hq with
    | 0, hq => cases hq; exact hk a ((h 0 _ rfl).lt) ha)
theorem TT.keep {G : GG} {A : Nat → Prop} {H H1 : Heap} (hk : ∀ q : Nat, q < H.size → ¬ A q → H1[q]? = H[q]?) : ∀ d, (∀ a den, (TT G A H d).1 a den → (TT G A H1 d).1 a den) ∧ (∀ r dr, (TT G A H d).2 r dr → (TT G A H1 d).2 r dr) := by
  intro d
  induction d with
  | zero => exact ⟨fun _ _ h => h, fun _ _ h => h⟩
  | succ d ih =>
    refine ⟨fun a den h => ?_, fun r dr h => ?_⟩
    · obtain ⟨hA, h⟩ := h
      refine ⟨hA, ?_⟩
      rcases h with ⟨n, h1, h2⟩ | ⟨i, hi, h1, h2⟩ | ⟨sg, p, r, dp, dr, h1, h2, h3, h4⟩
      · exact Or.inl ⟨n, one_keep h1 hA hk, h2⟩
      · exact Or.inr (Or.inl ⟨i, hi, one_keep h1 hA hk, h2⟩)
      · exact Or.inr (Or.inr ⟨sg, p, r, dp, dr, one_keep h1 hA hk, ih.1 _ _ h2, ih.2 _ _ h3, h4⟩)
    · rcases h with h | ⟨a, sg, p, r', dp, dr', h0, hA, h1, h2, h3, h4⟩
      · exact Or.inl h
      · exact Or.inr ⟨a, sg, p, r', dp, dr', h0, hA, one_keep h1 hA hk, ih.1 _ _ h2, ih.2 _ _ h3, h4⟩
theorem TT.up {G : GG} {A : Nat → Prop} {H : Heap} : ∀ d, (∀ a den, (TT G A H d).1 a den → (TT G A H (d + 1)).1 a den) ∧ (∀ r dr, (TT G A H d).2 r dr → (TT G A H (d + 1)).2 r dr) := by
  intro d
  induction d with
  | zero => exact ⟨fun _ _ h => h.elim, fun _ _ h => Or.inl h⟩
  | succ d ih =>
    refine ⟨fun a den h => ?_, fun r dr h => ?_⟩
    · obtain ⟨hA, h⟩ := h
      refine ⟨hA, ?_⟩
      rcases h with h | h | ⟨sg, p, r, dp, dr, h1, h2, h3, h4⟩
      · exact Or.inl h
      · exact Or.inr (Or.inl h)
      · exact Or.inr (Or.inr ⟨sg, p, r, dp, dr, h1, ih.1 _ _ h2, ih.2 _ _ h3, h4⟩)
    · rcases h with h | ⟨a, sg, p, r', dp, dr', h0, hA, h1, h2, h3, h4⟩
      · exact Or.inl h
      · exact Or.inr ⟨a, sg, p, r', dp, dr', h0, hA, h1, ih.1 _ _ h2, ih.2 _ _ h3, h4⟩
theorem TT.upto {G : GG} {A : Nat → Prop} {H : Heap} {d e : Nat} (h : d ≤ e) : (∀ a den, (TT G A H d).1 a den → (TT G A H e).1 a den) ∧ (∀ r dr, (TT G A H d).2 r dr → (TT G A H e).2 r dr) := by
  induction e with
  | zero => have : d = 0 := by omega
            subst this; exact ⟨fun _ _ h => h, fun _ _ h => h⟩
  | succ e ih =>
    by_cases q : d = e + 1
    · subst q; exact ⟨fun _ _ h => h, fun _ _ h => h⟩
    · have ih := ih (by omega)
      exact ⟨fun a den h => (TT.up e).1 _ _ (ih.1 _ _ h), fun r dr h => (TT.up e).2 _ _ (ih.2 _ _ h)⟩
/-- conditions by depth; chains of pieces -/
def CT (G : GG) (A : Nat → Prop) (H : Heap) : Nat → (Nat → CDn → Prop) × (Option Nat → Bool → CDn → Prop)
  | 0 => (fun _ _ => False, fun r b den => r = none ∧ ∀ F, den F = some (!b))
  | d + 1 => (fun a den => ¬ A a ∧ (
      (∃ (x y : Nat) (sg : Int32) (dx dy : SDn), va_P G.1 vwCl [(a, .inr (12, [.ref x, .ref y, .int sg]))] H ∧ (TT G A H d).1 x dx ∧ (TT G A H d).1 y dy ∧ ∀ F, den F = cmpS sg (dx F) (dy F)) ∨
      (∃ (x : Nat) (dx : CDn), va_P G.1 vwCl [(a, .inr (11, [.ref x]))] H ∧ (CT G A H d).1 x dx ∧ ∀ F, den F = (dx F).map (fun b => !b)) ∨
      (∃ (p : Nat) (b : Bool) (r : Option Nat) (dp dr : CDn), va_P G.1 vwCl [(a, .inr (10, [.ref p, .int (bI b), va_rf r]))] H ∧ (CT G A H d).1 p dp ∧ (CT G A H d).2 r b dr ∧ ∀ F, den F = somS b (dp F) (dr F))),
    fun r b den => (r = none ∧ ∀ F, den F = some (!b)) ∨ ∃ (a p : Nat) (e : Int32) (r' : Option Nat) (dp dr : CDn), r = some a ∧ ¬ A a ∧ va_P G.1 vwCl [(a, .inr (10, [.ref p, .int e, va_rf r']))] H ∧ (CT G A H d).1 p dp ∧ (CT G A H d).2 r' b dr ∧ ∀ F, den F = somS b (dp F) (dr F))
theorem CT.keep {G : GG} {A : Nat → Prop} {H H1 : Heap} (hk : ∀ q : Nat, q < H.size → ¬ A q → H1[q]? = H[q]?) : ∀ d, (∀ a den, (CT G A H d).1 a den → (CT G A H1 d).1 a den) ∧ (∀ r b dr, (CT G A H d).2 r b dr → (CT G A H1 d).2 r b dr) := by
  intro d
  induction d with
  | zero => exact ⟨fun _ _ h => h, fun _ _ _ h => h⟩
  | succ d ih =>
    have ht := TT.keep (G := G) hk d
    refine ⟨fun a den h => ?_, fun r b dr h => ?_⟩
    · obtain ⟨hA, h⟩ := h
      refine ⟨hA, ?_⟩
      rcases h with ⟨x, y, sg, dx, dy, h1, h2, h3, h4⟩ | ⟨x, dx, h1, h2, h3⟩ | ⟨p, b, r, dp, dr, h1, h2, h3, h4⟩
      · exact Or.inl ⟨x, y, sg, dx, dy, one_keep h1 hA hk, ht.1 _ _ h2, ht.1 _ _ h3, h4⟩
      · exact Or.inr (Or.inl ⟨x, dx, one_keep h1 hA hk, ih.1 _ _ h2, h3⟩)
      · exact Or.inr (Or.inr ⟨p, b, r, dp, dr, one_keep h1 hA hk, ih.1 _ _ h2, ih.2 _ _ _ h3, h4⟩)
    · rcases h with h | ⟨a, p, e, r', dp, dr, h0, hA, h1, h2, h3, h4⟩
      · exact Or.inl h
      · exact Or.inr ⟨a, p, e, r', dp, dr, h0, hA, one_keep h1 hA hk, ih.1 _ _ h2, ih.2 _ _ _ h3, h4⟩
theorem CT.up {G : GG} {A : Nat → Prop} {H : Heap} : ∀ d, (∀ a den, (CT G A H d).1 a den → (CT G A H (d + 1)).1 a den) ∧ (∀ r b dr, (CT G A H d).2 r b dr → (CT G A H (d + 1)).2 r b dr) := by
  intro d
  induction d with
  | zero => exact ⟨fun _ _ h => h.elim, fun _ _ _ h => Or.inl h⟩
  | succ d ih =>
    have ht := TT.up (G := G) (A := A) (H := H) d
    refine ⟨fun a den h => ?_, fun r b dr h => ?_⟩
    · obtain ⟨hA, h⟩ := h
      refine ⟨hA, ?_⟩
      rcases h with ⟨x, y, sg, dx, dy, h1, h2, h3, h4⟩ | ⟨x, dx, h1, h2, h3⟩ | ⟨p, b, r, dp, dr, h1, h2, h3, h4⟩
      · exact Or.inl ⟨x, y, sg, dx, dy, h1, ht.1 _ _ h2, ht.1 _ _ h3, h4⟩
      · exact Or.inr (Or.inl ⟨x, dx, h1, ih.1 _ _ h2, h3⟩)
      · exact Or.inr (Or.inr ⟨p, b, r, dp, dr, h1, ih.1 _ _ h2, ih.2 _ _ _ h3, h4⟩)
    · rcases h with h | ⟨a, p, e, r', dp, dr, h0, hA, h1, h2, h3, h4⟩
      · exact Or.inl h
      · exact Or.inr ⟨a, p, e, r', dp, dr, h0, hA, h1, ih.1 _ _ h2, ih.2 _ _ _ h3, h4⟩
theorem CT.upto {G : GG} {A : Nat → Prop} {H : Heap} {d e : Nat} (h : d ≤ e) : (∀ a den, (CT G A H d).1 a den → (CT G A H e).1 a den) ∧ (∀ r b dr, (CT G A H d).2 r b dr → (CT G A H e).2 r b dr) := by
  induction e with
  | zero => have : d = 0 := by omega
            subst this; exact ⟨fun _ _ h => h, fun _ _ _ h => h⟩
  | succ e ih =>
    by_cases q : d = e + 1
    · subst q; exact ⟨fun _ _ h => h, fun _ _ _ h => h⟩
    · have ih := ih (by omega)
      exact ⟨fun a den h => (CT.up e).1 _ _ (ih.1 _ _ h), fun r b dr h => (CT.up e).2 _ _ _ (ih.2 _ _ _ h)⟩
/-- the facts that the moment holds -/
def fcU (u : MS) : FF := fun i => u.1 (31 + i)
theorem fcU_z (u : MS) (z : Int32) : fcU (mV u 30 z) = fcU u := by
  funext i; unfold fcU; rw [mV_1, if_neg (by omega)]
theorem mV_V (u : MS) (k : Nat) (x y : Int32) : mV (mV u k x) k y = mV u k y := by
  refine Prod.ext ?_ rfl; funext j; simp only [mV, upd]; split <;> rfl
def WPost (u : MS) (v : Option Int32) (r : Int32) (w : MS) : Prop := match v with
  | some x => r = x ∧ w = u
  | none => w = mV u 30 1
def WPost0 (u : MS) (v : Option Int32) (r : Int32) (w : MS) : Prop := match v with
  | some x => r = x ∧ w = u
  | none => r = 0 ∧ w = mV u 30 1
def cI (v : Option Bool) : Int32 := match v with
  | some b => bI b
  | none => 2
def frD (d : Nat) : Nat := d + 3
def loD (d : Nat) : Nat := 40 * (d + 3)
section QREF
variable {p : Program} {l : Launch} {e : Env} {R : Room} {s : State} {m : MethodId} {args : Array Value} {below : List Frame} {meth : Method} {c : Code} {H : Heap} {locs : List Loc} {cells slots : Nat} {Q : State → Prop}
variable {cc : ByteArray} {pc : Nat} {ls : Array Slot} {rest : List Value}
theorem q_astore_n (hexec : p.tables.exec = Jvm.exec) (hb : c.code = cc) {r : Option Nat} {k : Fin 4} {i nL : Nat} {lv lv' : List (Nat × Value)} (hdg : decode cc pc = .ok (.astore_n k, 1)) (hi : (k : Nat) = i) (h : lv_has ls nL lv) (hn : i < nL) (hl : (i, va_rf r) :: lv.filter (fun q => !(q.1 == i) && !(q.1 + 1 == i && q.2.category == 2)) = lv')
    (kk : ∀ ls' : Array Slot, lv_has ls' nL lv' → W p l e R s m args below meth c H locs cells slots Q (F0 m (pc + 1) ls' rest)) : W p l e R s m args below meth c H locs cells slots Q (F0 m pc ls (va_rf r :: rest)) := by
  cases r with
  | none => exact lv_astore_nN hexec hb hdg hi h hn hl kk
  | some a => exact lv_astore_n hexec hb hdg hi h hn hl kk
end QREF
