set_option maxRecDepth 100000
/-! conditions -/
def cmpB (sg v w : Int32) : Bool := if sg = 60 then decide (v < w) else if sg = 62 then decide (w < v) else decide (v = w)
theorem cmp2 {u w1 w2 : MS} {v v2 sg : Int32} {dx dy : Option Int32} (h1 : WPost (mV u 30 0) dx v w1) (h2 : WPost w1 dy v2 w2) : (w2 = mV u 30 0 ∧ cmpS sg dx dy = some (cmpB sg v v2)) ∨ (w2 = mV u 30 1 ∧ cmpS sg dx dy = none) := by
  cases dx with
  | none =>
    have h1 : w1 = mV (mV u 30 0) 30 1 := h1
    rw [mV_V] at h1
    subst h1
    have e : cmpS sg none dy = none := by cases dy <;> rfl
    cases dy with
    | none => exact Or.inr ⟨Eq.trans (show w2 = mV (mV u 30 1) 30 1 from h2) (mV_V _ _ _ _), e⟩
    | some y => exact Or.inr ⟨h2.2, e⟩
  | some x =>
    obtain ⟨rfl, rfl⟩ := h1
    cases dy with
    | none => exact Or.inr ⟨Eq.trans (show w2 = mV (mV u 30 0) 30 1 from h2) (mV_V _ _ _ _), rfl⟩
    | some y => obtain ⟨rfl, rfl⟩ := h2; exact Or.inl ⟨rfl, rfl⟩
def HPost (u : MS) (v : Option Bool) (r : Int32) (w : MS) : Prop := r = cI v ∧ ∃ z, w = mV u 30 z
theorem mV_at (u : MS) (k : Nat) (x : Int32) : (mV u k x).1 k = x := by rw [mV_1, if_pos rfl]
set_option maxHeartbeats 4000000 in
theorem c_X15_holds (G : GG) (l : Launch) (d o : Nat) (R : Nat → Nat) (tx : Nat) (u : MS) (hD : DwS o R) (a x y : Nat) (si : Int32) (dx dy : SDn) : CXi G l (PwS G o R tx) (AwS o R) yX15_holds cX15_holds 5 .int (frD d) (loD d) 0 0 [.ref a, .ref (R 2)] (fun H => PwS G o R tx u H ∧ va_P G.1 vwCl [(a, .inr (12, [.ref x, .ref y, .int si]))] H ∧ ¬ AwS o R a ∧ (TT G (AwS o R) H d).1 x dx ∧ (TT G (AwS o R) H d).1 y dy) (HPost u (cmpS si (dx (fcU u)) (dy (fcU u)))) := by
  refine CXi.mk RX15 pnX15 rfl (Nat.le_of_ble_eq_true rfl) (fun pg en Rm sg mm ar bw mth cd QQ ls hC hRm hK hX hS hl hq => ?_)
  obtain ⟨hP, h1, hA, hdx, hdy⟩ := hX
  have hx := hC.1; have hb := hC.2.1
  have hl : lv_has ls 5 [(0, .ref a), (1, .ref (R 2))] := hl
  have hRR : rmD d 0 0 Rm := by subst hRm; exact ⟨Nat.le_refl _, Nat.le_refl _, Nat.le_refl _, Nat.le_refl _⟩
  refine lv_aload_n hx hb dX15_holds_0 rfl (lv_at hl 1 rfl) ?_
  refine lv_iconst (v := 0) hx hb dX15_holds_1 (by decide) ?_
  refine S_putN hC hK hP (hD _ _ _) hS (oS_moment _ _ _ _ _) clX3 in_X3 tyX3_ok nmX3 0 (by decide) (pS30 _ _ _ _ _ _) nq197 rfl rfl rfl rfl (Nat.le_of_ble_eq_true rfl) dX15_holds_2 (fun H locs hP hS => ?_)
  refine lv_aload_n hx hb dX15_holds_5 rfl (lv_at hl 0 rfl) ?_
  refine S_get (v := .ref x) hC hK (one_keep h1 hA hS.2.1) (q0 := 0) rfl clX15 in_X15 0 (by decide) rfl q628 dX15_holds_6 ?_
  refine lv_aload_n hx hb dX15_holds_9 rfl (lv_at hl 1 rfl) ?_
  refine callWorth (d := d) (fun e _ => row_ok G l e) hD hC hK hl hP hS (fun q h => h) ((TT.keep hS.2.1 d).1 _ _ hdx) q932 hRR rfl dX15_holds_10 (fun v w1 H1 locs1 hpo1 hP1 hk1 hS1 => ?_)
  refine lv_istore_n (lv' := [(2, .int v), (0, .ref a), (1, .ref (R 2))]) hx hb dX15_holds_13 rfl hl (by decide) rfl (fun ls hl => ?_)
  refine lv_aload_n hx hb dX15_holds_14 rfl (lv_at hl 1 rfl) ?_
  refine S_get (v := .ref y) hC hK (one_keep h1 hA hS1.2.1) (q0 := 0) rfl clX15 in_X15 1 (by decide) rfl q629 dX15_holds_15 ?_
  refine lv_aload_n hx hb dX15_holds_18 rfl (lv_at hl 2 rfl) ?_
  refine callWorth (d := d) (fun e _ => row_ok G l e) hD hC hK hl hP1 hS1 (fun q h => h) ((TT.keep hS1.2.1 d).1 _ _ hdy) q932 hRR rfl dX15_holds_19 (fun v2 w2 H2 locs2 hpo2 hP2 hk2 hS2 => ?_)
  refine lv_istore_n (lv' := [(3, .int v2), (2, .int v), (0, .ref a), (1, .ref (R 2))]) hx hb dX15_holds_22 rfl hl (by decide) rfl (fun ls hl => ?_)
  rw [fcU_z] at hpo1
  have hf : fcU w1 = fcU u := by
    cases hh : dx (fcU u) with
    | some x0 => rw [hh] at hpo1; rw [hpo1.2]; exact fcU_z _ _
    | none => rw [hh] at hpo1; rw [show w1 = mV (mV u 30 0) 30 1 from hpo1, fcU_z]; exact fcU_z _ _
  rw [hf] at hpo2
  have hc2 := cmp2 (sg := si) hpo1 hpo2
  have JN77 : ∀ (ls : Array Slot), lv_has ls 5 [(3, .int v2), (2, .int v), (0, .ref a), (1, .ref (R 2))] → W pg l en Rm sg mm ar bw mth cd H2 locs2 0 0 QQ (F0 mm 77 ls [.int (bI (cmpB si v v2))]) := by
    intro ls hl
    refine lv_istore (lv' := [(4, .int (bI (cmpB si v v2))), (3, .int v2), (2, .int v), (0, .ref a), (1, .ref (R 2))]) hx hb dX15_holds_77 hl (by decide) rfl (fun ls hl => ?_)
    refine lv_aload_n hx hb dX15_holds_79 rfl (lv_at hl 4 rfl) ?_
    refine S_getN (v := .int (w2.1 30)) hC hK hP2 (oS_moment _ _ _ _ _) clX3 in_X3 0 (by decide) (fD30 _ _ _ _) nq197 dX15_holds_80 ?_
    refine lv_if_eq (tgt := 90) hx hb dX15_holds_83 (by decide) (fun c83 => ?_) (fun c83 => ?_)
    · have hc2 : w2 = mV u 30 0 ∧ cmpS si (dx (fcU u)) (dy (fcU u)) = some (cmpB si v v2) := by
        rcases hc2 with h | h
        · exact h
        · rw [h.1, mV_at] at c83; exact absurd c83 (by decide)
      refine lv_iload hx hb dX15_holds_90 (lv_at hl 0 rfl) ?_
      refine lv_if_eq (tgt := 99) hx hb dX15_holds_92 (by decide) (fun c92 => ?_) (fun c92 => ?_)
      · refine lv_iconst (v := 0) hx hb dX15_holds_99 (by decide) ?_
        refine hq _ _ _ _ _ _ _ _ dX15_holds_100 hP2 hS2 rfl ?_ (Nat.le_refl _) (Nat.le_refl _)
        rw [hc2.2]; exact ⟨c92.symm, 0, hc2.1⟩
      · refine lv_iconst (v := 1) hx hb dX15_holds_95 (by decide) ?_
        refine lv_goto (tgt := 100) hx hb dX15_holds_96 (by decide) ?_
        refine hq _ _ _ _ _ _ _ _ dX15_holds_100 hP2 hS2 rfl ?_ (Nat.le_refl _) (Nat.le_refl _)
        rw [hc2.2, bI_1.mp c92]; exact ⟨rfl, 0, hc2.1⟩
    · have hc2 : w2 = mV u 30 1 ∧ cmpS si (dx (fcU u)) (dy (fcU u)) = none := by
        rcases hc2 with h | h
        · rw [h.1, mV_at] at c83; exact absurd rfl c83
        · exact h
      refine lv_iconst (v := 2) hx hb dX15_holds_86 (by decide) ?_
      refine lv_goto (tgt := 100) hx hb dX15_holds_87 (by decide) ?_
      refine hq _ _ _ _ _ _ _ _ dX15_holds_100 hP2 hS2 rfl ?_ (Nat.le_refl _) (Nat.le_refl _)
      rw [hc2.2]; exact ⟨rfl, 1, hc2.1⟩
  have hS3 := one_keep h1 hA hS2.2.1
  refine lv_aload_n hx hb dX15_holds_23 rfl (lv_at hl 2 rfl) ?_
  refine S_get (v := .int si) hC hK hS3 (q0 := 0) rfl clX15 in_X15 2 (by decide) rfl q630 dX15_holds_24 ?_
  refine lv_bipush (v := 60) hx hb dX15_holds_27 (by decide) ?_
  refine lv_icmp_ne (tgt := 45) hx hb dX15_holds_29 (by decide) (fun c29 => ?_) (fun c29 => ?_)
  · refine lv_aload_n hx hb dX15_holds_45 rfl (lv_at hl 2 rfl) ?_
    refine S_get (v := .int si) hC hK hS3 (q0 := 0) rfl clX15 in_X15 2 (by decide) rfl q630 dX15_holds_46 ?_
    refine lv_bipush (v := 62) hx hb dX15_holds_49 (by decide) ?_
    refine lv_icmp_ne (tgt := 67) hx hb dX15_holds_51 (by decide) (fun c51 => ?_) (fun c51 => ?_)
    · refine lv_iload_n hx hb dX15_holds_67 rfl (lv_at hl 1 rfl) ?_
      refine lv_iload_n hx hb dX15_holds_68 rfl (lv_at hl 0 rfl) ?_
      refine lv_icmp_ne (tgt := 76) hx hb dX15_holds_69 (by decide) (fun c69 => ?_) (fun c69 => ?_)
      · refine lv_iconst (v := 0) hx hb dX15_holds_76 (by decide) ?_
        refine W_top (y := bI (cmpB si v v2)) (by simp [cmpB, bI, *]) ?_
        exact JN77 ls hl
      · refine lv_iconst (v := 1) hx hb dX15_holds_72 (by decide) ?_
        refine lv_goto (tgt := 77) hx hb dX15_holds_73 (by decide) ?_
        refine W_top (y := bI (cmpB si v v2)) (by simp_all [cmpB, bI]) ?_
        exact JN77 ls hl
    · refine lv_iload_n hx hb dX15_holds_54 rfl (lv_at hl 1 rfl) ?_
      refine lv_iload_n hx hb dX15_holds_55 rfl (lv_at hl 0 rfl) ?_
      refine lv_icmp_le (tgt := 63) hx hb dX15_holds_56 (by decide) (fun c56 => ?_) (fun c56 => ?_)
      · refine lv_iconst (v := 0) hx hb dX15_holds_63 (by decide) ?_
        refine lv_goto (tgt := 77) hx hb dX15_holds_64 (by decide) ?_
        refine W_top (y := bI (cmpB si v v2)) (by have c56 := Int32.not_lt.mpr c56; simp_all [cmpB, bI]) ?_
        exact JN77 ls hl
      · refine lv_iconst (v := 1) hx hb dX15_holds_59 (by decide) ?_
        refine lv_goto (tgt := 77) hx hb dX15_holds_60 (by decide) ?_
        refine W_top (y := bI (cmpB si v v2)) (by have c56 := Int32.not_le.mp c56; simp_all [cmpB, bI]) ?_
        exact JN77 ls hl
  · refine lv_iload_n hx hb dX15_holds_32 rfl (lv_at hl 1 rfl) ?_
    refine lv_iload_n hx hb dX15_holds_33 rfl (lv_at hl 0 rfl) ?_
    refine lv_icmp_ge (tgt := 41) hx hb dX15_holds_34 (by decide) (fun c34 => ?_) (fun c34 => ?_)
    · refine lv_iconst (v := 0) hx hb dX15_holds_41 (by decide) ?_
      refine lv_goto (tgt := 77) hx hb dX15_holds_42 (by decide) ?_
      refine W_top (y := bI (cmpB si v v2)) (by have c34 := Int32.not_lt.mpr c34; simp_all [cmpB, bI]) ?_
      exact JN77 ls hl
    · refine lv_iconst (v := 1) hx hb dX15_holds_37 (by decide) ?_
      refine lv_goto (tgt := 77) hx hb dX15_holds_38 (by decide) ?_
      refine W_top (y := bI (cmpB si v v2)) (by have c34 := Int32.not_le.mp c34; simp_all [cmpB, bI]) ?_
      exact JN77 ls hl
def NOK (G : GG) (l : Launch) (d : Nat) : Prop := ∀ (o : Nat) (R : Nat → Nat) (tx : Nat) (u : MS), DwS o R → ∀ (a x : Nat) (dx : CDn), CXi G l (PwS G o R tx) (AwS o R) yX14_holds cX14_holds 3 .int (frD d) (loD d) 0 0 [.ref a, .ref (R 2)] (fun H => PwS G o R tx u H ∧ va_P G.1 vwCl [(a, .inr (11, [.ref x]))] H ∧ ¬ AwS o R a ∧ (CT G (AwS o R) H d).1 x dx) (HPost u ((dx (fcU u)).map (fun b => !b)))
def SOK (G : GG) (l : Launch) (d : Nat) : Prop := ∀ (o : Nat) (R : Nat → Nat) (tx : Nat) (u : MS), DwS o R → ∀ (a p : Nat) (b : Bool) (r : Option Nat) (dp dr : CDn), CXi G l (PwS G o R tx) (AwS o R) yX13_holds cX13_holds 4 .int (frD d) (loD d) 0 0 [.ref a, .ref (R 2)] (fun H => PwS G o R tx u H ∧ va_P G.1 vwCl [(a, .inr (10, [.ref p, .int (bI b), va_rf r]))] H ∧ ¬ AwS o R a ∧ (CT G (AwS o R) H d).1 p dp ∧ (CT G (AwS o R) H d).2 r b dr) (HPost u (somS b (dp (fcU u)) (dr (fcU u))))
section CALLH
variable {G : GG} {p : Program} {l : Launch} {e : Env} {Rm : Room} {s : State} {m : MethodId} {args : Array Value} {below : List Frame} {meth : Method} {c : Code} {H : Heap} {locs : List Loc} {cells slots : Nat} {Q : State → Prop}
variable {cc : ByteArray} {nL index pc : Nat} {own : String} {ls : Array Slot} {rest : List Value} {lv : List (Nat × Value)} {H0 : Heap} {A0 : Nat → Prop} {o : Nat} {R : Nat → Nat} {tx : Nat} {u : MS} {a d : Nat}
theorem callHolds {den : CDn} (ih : ∀ d', d' < d → NOK G l d' ∧ SOK G l d') (hD : DwS o R) (hC : CallFix p m c cc nL s args lw_all own) (hK : KS G s) (hl : lv_has ls nL lv) (hP : PwS G o R tx u H) (hS : va_S A0 H0 H locs) (hA : ∀ q, AwS o R q → A0 q) (hT : (CT G (AwS o R) H d).1 a den) (h1 : Cond.methodLink own index xHolds ∈ lw_all) (hR : rmD d cells slots Rm) (hcat : Nat.ble (rest.map fun v => v.category).sum 8 = true) (hdg : decode cc pc = .ok (.invokevirtual index, 3))
    (kk : ∀ (r : Int32) (w : MS) (H1 : Heap) (locs : List Loc), HPost u (den (fcU u)) r w → PwS G o R tx w H1 → (∀ q : Nat, q < H.size → ¬ AwS o R q → H1[q]? = H[q]?) → va_S A0 H0 H1 locs → W p l e Rm s m args below meth c H1 locs cells slots Q (F0 m (pc + 3) ls (.int r :: rest))) : W p l e Rm s m args below meth c H locs cells slots Q (F0 m pc ls (.ref (R 2) :: .ref a :: rest)) := by
  cases d with
  | zero => exact hT.elim
  | succ d =>
    obtain ⟨hA', hT⟩ := hT
    have q1 := hR.1; have q2 := hR.2.1
    have hr : ∀ k, k ≤ 5 → (frD d + 1 ≤ Rm.frames ∧ 19 + k + loD d ≤ Rm.locals) ∧ cells + 0 ≤ Rm.cells ∧ slots + 0 ≤ Rm.slots := fun k hk => by
      unfold frD at q1; unfold loD at q2
      exact ⟨⟨by unfold frD; omega, by unfold loD; omega⟩, hR.2.2.1, hR.2.2.2⟩
    rcases hT with ⟨x, y, sg, dx, dy, hn, h2, h3, h4⟩ | ⟨x, dx, hn, h2, h3⟩ | ⟨pp, b, r, dp, dr, hn, h2, h3, h4⟩
    · refine CXi.go (rcU (As := [.ref (R 2)]) (x := xHolds) (C := RX15) hC hl (c_X15_holds G l d o R tx u hD a x y sg dx dy) hK ⟨hP, hn, hA', h2, h3⟩ (va_recv (q0 := 0) hK.1 hn clX15 rfl) nq927 h1 q928 q929 q930 q131 q931 dHolds (hr 5 (by decide)) rfl hcat hdg) hS hA (fun r w H1 locs1 hpo hP1 _ hk hS1 => ?_)
      exact kk r w H1 locs1 (by rw [h4]; exact hpo) hP1 hk hS1
    · refine CXi.go (rcU (As := [.ref (R 2)]) (x := xHolds) (C := RX14) hC hl ((ih d (Nat.lt_succ_self d)).1 o R tx u hD a x dx) hK ⟨hP, hn, hA', h2⟩ (va_recv (q0 := 0) hK.1 hn clX14 rfl) nq927 h1 q928 q954 q955 q130 q956 dHolds (hr 3 (by decide)) rfl hcat hdg) hS hA (fun r w H1 locs1 hpo hP1 _ hk hS1 => ?_)
      exact kk r w H1 locs1 (by rw [h3]; exact hpo) hP1 hk hS1
    · refine CXi.go (rcU (As := [.ref (R 2)]) (x := xHolds) (C := RX13) hC hl ((ih d (Nat.lt_succ_self d)).2 o R tx u hD a pp b r dp dr) hK ⟨hP, hn, hA', h2, h3⟩ (va_recv (q0 := 0) hK.1 hn clX13 rfl) nq927 h1 q928 q961 q958 q129 q959 dHolds (hr 4 (by decide)) rfl hcat hdg) hS hA (fun r w H1 locs1 hpo hP1 _ hk hS1 => ?_)
      exact kk r w H1 locs1 (by rw [h4]; exact hpo) hP1 hk hS1
theorem callToldX {den : SDn} {fr lo : Nat} (hD : DwS o R) (hC : CallFix p m c cc nL s args lw_all own) (hK : KS G s) (hl : lv_has ls nL lv) (hP : PwS G o R tx u H) (hS : va_S A0 H0 H locs) (hA : ∀ q, AwS o R q → A0 q) (hT : (TT G (AwS o R) H d).1 a den) (h1 : Cond.methodLink own index yX8_told ∈ lw_all)
    (hM : CXi G l (PwS G o R tx) (AwS o R) yX8_told cX8_told 3 .int fr lo 0 0 [.ref a, .ref (R 2)] (fun H => PwS G o R tx u H ∧ (TT G (AwS o R) H d).1 a den) (fun r w => r = (den (fcU u)).getD 0 ∧ ∃ z, w = mV u 30 z))
    (hR : rmS fr lo 0 0 3 cells slots Rm) (hcat : Nat.ble (rest.map fun v => v.category).sum 8 = true) (hdg : decode cc pc = .ok (.invokevirtual index, 3))
    (kk : ∀ (r : Int32) (w : MS) (H1 : Heap) (locs : List Loc), (r = (den (fcU u)).getD 0 ∧ ∃ z, w = mV u 30 z) → PwS G o R tx w H1 → (∀ q : Nat, q < H.size → ¬ AwS o R q → H1[q]? = H[q]?) → va_S A0 H0 H1 locs → W p l e Rm s m args below meth c H1 locs cells slots Q (F0 m (pc + 3) ls (.int r :: rest))) : W p l e Rm s m args below meth c H locs cells slots Q (F0 m pc ls (.ref (R 2) :: .ref a :: rest)) := by
  have gg : ∀ (C : String), Recv s H C a → Cond.selects C yX8_told yX8_told ∈ lw_all → W p l e Rm s m args below meth c H locs cells slots Q (F0 m pc ls (.ref (R 2) :: .ref a :: rest)) := by
    intro C hrc hsel
    refine CXi.go (va_runU (x := yX8_told) (owner := "SharedWindow$Sum") (C := C) (As := [.ref (R 2)]) (rest := rest) hC hM (va_cwU 1 hC.2.2.2.2 (inU h1 q968 hsel q967 q124 q972) rfl rfl rfl rfl ⟨by decide, by decide, by decide +kernel⟩ ⟨hR.1.1, by have := hR.1.2; show 8 + (3 + 11) + lo ≤ _; omega⟩) ⟨XP.blind _, hrc, XP.give hK ⟨hP, hT⟩⟩ rfl rfl hl.1 rfl (lv_room (Nat.le_of_ble_eq_true hcat)) hdg hR.2) hS hA (fun r w H1 locs1 hpo hP1 _ hk hS1 => kk r w H1 locs1 hpo hP1 hk hS1)
  cases d with
  | zero => exact hT.elim
  | succ d =>
    rcases hT.2 with ⟨n, hn, hd⟩ | ⟨i, hi, hn, hd⟩ | ⟨sg, pp, r, dp, dr, hn, h2, h3, h4⟩
    · exact gg RX10 (va_recv (q0 := 0) hK.1 hn clX10 rfl) q970
    · exact gg RX11 (va_recv (q0 := 0) hK.1 hn clX11 rfl) q969
    · exact gg RX9 (va_recv (q0 := 0) hK.1 hn clX9 rfl) q971
end CALLH
theorem not_ok {G : GG} {l : Launch} {d : Nat} (ih : ∀ d', d' < d → NOK G l d' ∧ SOK G l d') : NOK G l d := by
  intro o R tx u hD a x dx
  refine CXi.mk RX14 pnX14 rfl (Nat.le_of_ble_eq_true rfl) (fun pg en Rm sg mm ar bw mth cd QQ ls hC hRm hK hX hS hl hq => ?_)
  obtain ⟨hP, h1, hA, hdx⟩ := hX
  have hx := hC.1; have hb := hC.2.1
  have hl : lv_has ls 3 [(0, .ref a), (1, .ref (R 2))] := hl
  have hRR : rmD d 0 0 Rm := by subst hRm; exact ⟨Nat.le_refl _, Nat.le_refl _, Nat.le_refl _, Nat.le_refl _⟩
  refine lv_aload_n hx hb dX14_holds_0 rfl (lv_at hl 0 rfl) ?_
  refine S_get (v := .ref x) hC hK h1 (q0 := 0) rfl clX14 in_X14 0 (by decide) rfl q618 dX14_holds_1 ?_
  refine lv_aload_n hx hb dX14_holds_4 rfl (lv_at hl 1 rfl) ?_
  refine callHolds (d := d) ih hD hC hK hl hP hS (fun q h => h) hdx q957 hRR rfl dX14_holds_5 (fun v w1 H1 locs1 hpo hP1 hk1 hS1 => ?_)
  refine lv_istore_n (lv' := [(2, .int v), (0, .ref a), (1, .ref (R 2))]) hx hb dX14_holds_8 rfl hl (by decide) rfl (fun ls hl => ?_)
  refine lv_iload_n hx hb dX14_holds_9 rfl (lv_at hl 0 rfl) ?_
  refine lv_iconst (v := 2) hx hb dX14_holds_10 (by decide) ?_
  refine lv_icmp_ne (tgt := 18) hx hb dX14_holds_11 (by decide) (fun c11 => ?_) (fun c11 => ?_)
  · refine lv_iconst (v := 1) hx hb dX14_holds_18 (by decide) ?_
    refine lv_iload_n hx hb dX14_holds_19 rfl (lv_at hl 0 rfl) ?_
    refine lv_isub hx hb dX14_holds_20 ?_
    refine hq _ _ _ _ _ _ _ _ dX14_holds_21 hP1 hS1 rfl ?_ (Nat.le_refl _) (Nat.le_refl _)
    refine ⟨?_, hpo.2⟩
    have hv := hpo.1
    cases hd : dx (fcU u) with
    | none => rw [hd] at hv; exact absurd hv c11
    | some b => rw [hd] at hv; rw [hv]; cases b <;> rfl
  · refine lv_iconst (v := 2) hx hb dX14_holds_14 (by decide) ?_
    refine lv_goto (tgt := 21) hx hb dX14_holds_15 (by decide) ?_
    refine hq _ _ _ _ _ _ _ _ dX14_holds_21 hP1 hS1 rfl ?_ (Nat.le_refl _) (Nat.le_refl _)
    refine ⟨?_, hpo.2⟩
    have hv := hpo.1
    have c11 : v = 2 := by first | exact c11 | exact Classical.not_not.mp c11
    cases hd : dx (fcU u) with
    | none => rfl
    | some b => rw [hd, c11] at hv; exact absurd hv (by cases b <;> decide)
theorem cI_2 {v : Option Bool} : cI v = 2 ↔ v = none := by
  cases v with
  | none => exact ⟨fun _ => rfl, fun _ => rfl⟩
  | some b => cases b <;> exact ⟨fun h => absurd h (by decide), fun h => by cases h⟩
theorem cI_b {v : Option Bool} {b : Bool} : cI v = bI b ↔ v = some b := by
  cases v with
  | none => cases b <;> exact ⟨fun h => absurd h (by decide), fun h => by cases h⟩
  | some c => cases b <;> cases c <;> simp [cI, bI]
theorem some_ok {G : GG} {l : Launch} {d : Nat} (ih : ∀ d', d' < d → NOK G l d' ∧ SOK G l d') : SOK G l d := by
  intro o R tx u hD a p b r0 dp dr0
  refine CXi.mk RX13 pnX13 rfl (Nat.le_of_ble_eq_true rfl) (fun pg en Rm sg mm ar bw mth cd QQ ls hC hRm hK hX hS hl hq => ?_)
  obtain ⟨hP, h1, hA, hdp, hdr⟩ := hX
  have hx := hC.1; have hb := hC.2.1
  have hl : lv_has ls 4 [(0, .ref a), (1, .ref (R 2))] := hl
  have hRR : rmD d 0 0 Rm := by subst hRm; exact ⟨Nat.le_refl _, Nat.le_refl _, Nat.le_refl _, Nat.le_refl _⟩
  have EX : ∀ (z : Int32) (H : Heap) (locs : List Loc) (ls : Array Slot), somS b (dp (fcU u)) (dr0 (fcU u)) = some (!b) → PwS G o R tx (mV u 30 z) H → va_S (AwS o R) sg.heap H locs → lv_has ls 4 [(2, .null), (0, .ref a), (1, .ref (R 2))] → W pg l en Rm sg mm ar bw mth cd H locs 0 0 QQ (F0 mm 2 ls []) := by
    intro z H locs ls he hP hS hl
    refine lv_aload_nN hx hb dX13_holds_2 rfl (lv_at hl 0 rfl) ?_
    refine lv_ifnullN (tgt := 38) hx hb dX13_holds_3 (by decide) ?_
    refine lv_iconst (v := 1) hx hb dX13_holds_38 (by decide) ?_
    refine lv_aload_n hx hb dX13_holds_39 rfl (lv_at hl 1 rfl) ?_
    refine S_get (v := .int (bI b)) hC hK (one_keep h1 hA hS.2.1) (q0 := 0) rfl clX13 in_X13 1 (by decide) rfl q643 dX13_holds_40 ?_
    refine lv_isub hx hb dX13_holds_43 ?_
    refine hq _ _ _ _ _ _ _ _ dX13_holds_44 hP hS rfl ?_ (Nat.le_refl _) (Nat.le_refl _)
    rw [he]
    exact ⟨by cases b <;> rfl, z, rfl⟩
  -- one piece, whoever has it, at the loop's head
  have ST : ∀ (a1 p1 : Nat) (e1 : Int32) (r1 : Option Nat) (dp1 dr1 : CDn) (d' : Nat) (z : Int32) (H : Heap) (locs : List Loc) (ls : Array Slot), d' ≤ d → va_P G.1 vwCl [(a1, .inr (10, [.ref p1, .int e1, va_rf r1]))] sg.heap → ¬ AwS o R a1 → (CT G (AwS o R) sg.heap d').1 p1 dp1 → somS b (dp (fcU u)) (dr0 (fcU u)) = somS b (dp1 (fcU u)) (dr1 (fcU u)) →
      (∀ (z : Int32) (H : Heap) (locs : List Loc) (ls : Array Slot), somS b (dp (fcU u)) (dr0 (fcU u)) = dr1 (fcU u) → PwS G o R tx (mV u 30 z) H → va_S (AwS o R) sg.heap H locs → lv_has ls 4 [(2, va_rf r1), (0, .ref a), (1, .ref (R 2))] → W pg l en Rm sg mm ar bw mth cd H locs 0 0 QQ (F0 mm 2 ls [])) →
      PwS G o R tx (mV u 30 z) H → va_S (AwS o R) sg.heap H locs → lv_has ls 4 [(2, .ref a1), (0, .ref a), (1, .ref (R 2))] → W pg l en Rm sg mm ar bw mth cd H locs 0 0 QQ (F0 mm 2 ls []) := by
    intro a1 p1 e1 r1 dp1 dr1 d' z H locs ls hd hc1 hA1 hp1 he kk hP hS hl
    refine lv_aload_n hx hb dX13_holds_2 rfl (lv_at hl 0 rfl) ?_
    refine lv_ifnull hx hb dX13_holds_3 ?_
    refine lv_aload_n hx hb dX13_holds_6 rfl (lv_at hl 0 rfl) ?_
    refine S_get (v := .ref p1) hC hK (one_keep hc1 hA1 hS.2.1) (q0 := 0) rfl clX13 in_X13 0 (by decide) rfl q642 dX13_holds_7 ?_
    refine lv_aload_n hx hb dX13_holds_10 rfl (lv_at hl 2 rfl) ?_
    refine callHolds (d := d') (fun e he => ih e (by omega)) hD hC hK hl hP hS (fun q h => h) ((CT.keep hS.2.1 d').1 _ _ hp1) q960 ⟨by have := hRR.1; unfold frD at *; omega, by have := hRR.2.1; unfold loD at *; omega, hRR.2.2⟩ rfl dX13_holds_11 (fun v w1 H1 locs1 hpo hP1 hk1 hS1 => ?_)
    rw [fcU_z] at hpo
    obtain ⟨hv, z1, hw⟩ := hpo
    rw [hw, mV_V] at hP1
    refine lv_istore_n (lv' := [(3, .int v), (2, .ref a1), (0, .ref a), (1, .ref (R 2))]) hx hb dX13_holds_14 rfl hl (by decide) rfl (fun ls hl => ?_)
    refine lv_iload_n hx hb dX13_holds_15 rfl (lv_at hl 0 rfl) ?_
    refine lv_iconst (v := 2) hx hb dX13_holds_16 (by decide) ?_
    have EN : ∀ (ls : Array Slot), lv_has ls 4 [(3, .int v), (2, .ref a1), (0, .ref a), (1, .ref (R 2))] → somS b (dp1 (fcU u)) (dr1 (fcU u)) = dp1 (fcU u) → W pg l en Rm sg mm ar bw mth cd H1 locs1 0 0 QQ (F0 mm 28 ls []) := by
      intro ls hl hs
      refine lv_iload_n hx hb dX13_holds_28 rfl (lv_at hl 0 rfl) ?_
      refine hq _ _ _ _ _ _ _ _ dX13_holds_29 hP1 hS1 rfl ?_ (Nat.le_refl _) (Nat.le_refl _)
      rw [he, hs]; exact ⟨hv, z1, rfl⟩
    refine lv_icmp_eq (tgt := 28) hx hb dX13_holds_17 (by decide) (fun c17 => ?_) (fun c17 => ?_)
    · refine EN ls hl ?_
      rw [hv] at c17
      rw [cI_2.mp c17]; rfl
    · refine lv_iload_n hx hb dX13_holds_20 rfl (lv_at hl 0 rfl) ?_
      refine lv_aload_n hx hb dX13_holds_21 rfl (lv_at hl 2 rfl) ?_
      refine S_get (v := .int (bI b)) hC hK (one_keep h1 hA hS1.2.1) (q0 := 0) rfl clX13 in_X13 1 (by decide) rfl q643 dX13_holds_22 ?_
      refine lv_icmp_ne (tgt := 30) hx hb dX13_holds_25 (by decide) (fun c25 => ?_) (fun c25 => ?_)
      · refine lv_aload_n hx hb dX13_holds_30 rfl (lv_at hl 1 rfl) ?_
        refine S_get (v := va_rf r1) hC hK (one_keep hc1 hA1 hS1.2.1) (q0 := 0) rfl clX13 in_X13 2 (by decide) rfl q644 dX13_holds_31 ?_
        refine q_astore_n (lv' := [(2, va_rf r1), (3, .int v), (0, .ref a), (1, .ref (R 2))]) hx hb dX13_holds_34 rfl hl (by decide) rfl (fun ls hl => ?_)
        refine lv_goto (tgt := 2) hx hb dX13_holds_35 (by decide) ?_
        refine kk z1 H1 locs1 ls ?_ hP1 hS1 (lv_sub hl [0, 2, 3] rfl)
        rw [he]
        rw [hv] at c17 c25
        cases hd1 : dp1 (fcU u) with
        | none => rw [hd1] at c17; exact absurd rfl c17
        | some x => rw [hd1] at c25; exact if_neg (fun hh => c25 (by rw [hh]; rfl))
      · refine EN ls hl ?_
        have c25 : v = bI b := by first | exact c25 | exact Classical.not_not.mp c25
        rw [hv] at c25
        rw [cI_b.mp c25]; exact if_pos rfl
  have LP : ∀ (d' : Nat), d' ≤ d → ∀ (r : Option Nat) (dr : CDn) (z : Int32) (H : Heap) (locs : List Loc) (ls : Array Slot), (CT G (AwS o R) sg.heap d').2 r b dr → somS b (dp (fcU u)) (dr0 (fcU u)) = dr (fcU u) → PwS G o R tx (mV u 30 z) H → va_S (AwS o R) sg.heap H locs → lv_has ls 4 [(2, va_rf r), (0, .ref a), (1, .ref (R 2))] → W pg l en Rm sg mm ar bw mth cd H locs 0 0 QQ (F0 mm 2 ls []) := by
    intro d'
    induction d' with
    | zero =>
      intro hd r dr z H locs ls hT he hP hS hl
      obtain ⟨rfl, hh⟩ := hT
      exact EX z H locs ls (by rw [he, hh]) hP hS hl
    | succ d' ihd =>
      intro hd r dr z H locs ls hT he hP hS hl
      rcases hT with ⟨rfl, hh⟩ | ⟨a1, p1, e1, r1, dp1, dr1, rfl, hA1, hc1, hp1, hr1, hh⟩
      · exact EX z H locs ls (by rw [he, hh]) hP hS hl
      · exact ST a1 p1 e1 r1 dp1 dr1 d' z H locs ls (by omega) hc1 hA1 hp1 (by rw [he, hh]) (fun z H locs ls he hP hS hl => ihd (by omega) r1 dr1 z H locs ls hr1 he hP hS hl) hP hS hl
  refine lv_aload_n hx hb dX13_holds_0 rfl (lv_at hl 0 rfl) ?_
  refine lv_astore_n (lv' := [(2, .ref a), (0, .ref a), (1, .ref (R 2))]) hx hb dX13_holds_1 rfl hl (by decide) rfl (fun ls hl => ?_)
  refine ST a p (bI b) r0 dp dr0 d (u.1 30) sg.heap [] ls (Nat.le_refl _) h1 hA hdp rfl (fun z H locs ls he hP hS hl => LP d (Nat.le_refl _) r0 dr0 z H locs ls hdr he hP hS hl) ?_ hS hl
  rw [show mV u 30 (u.1 30) = u from ?_]
  · exact hP
  · refine Prod.ext ?_ rfl
    funext j; simp only [mV, upd]; split
    · next h => rw [h]
    · rfl
theorem cond_ok (G : GG) (l : Launch) : ∀ d, NOK G l d ∧ SOK G l d := by
  intro d
  induction d using Nat.strongRecOn with
  | ind d ih => exact ⟨not_ok ih, some_ok ih⟩
theorem c_X8_told (G : GG) (l : Launch) (d o : Nat) (R : Nat → Nat) (tx : Nat) (u : MS) (hD : DwS o R) (a : Nat) (den : SDn) : CXi G l (PwS G o R tx) (AwS o R) yX8_told cX8_told 3 .int (frD d) (loD d) 0 0 [.ref a, .ref (R 2)] (fun H => PwS G o R tx u H ∧ (TT G (AwS o R) H d).1 a den) (fun r w => r = (den (fcU u)).getD 0 ∧ ∃ z, w = mV u 30 z) := by
  refine CXi.mk RX8 pnX8 rfl (Nat.le_of_ble_eq_true rfl) (fun pg en Rm sg mm ar bw mth cd QQ ls hC hRm hK hX hS hl hq => ?_)
  obtain ⟨hP, hT⟩ := hX
  have hx := hC.1; have hb := hC.2.1
  have hl : lv_has ls 3 [(0, .ref a), (1, .ref (R 2))] := hl
  have hRR : rmD d 0 0 Rm := by subst hRm; exact ⟨Nat.le_refl _, Nat.le_refl _, Nat.le_refl _, Nat.le_refl _⟩
  refine lv_aload_n hx hb dX8_told_0 rfl (lv_at hl 1 rfl) ?_
  refine lv_iconst (v := 0) hx hb dX8_told_1 (by decide) ?_
  refine S_putN hC hK hP (hD _ _ _) hS (oS_moment _ _ _ _ _) clX3 in_X3 tyX3_ok nmX3 0 (by decide) (pS30 _ _ _ _ _ _) nq199 rfl rfl rfl rfl (Nat.le_of_ble_eq_true rfl) dX8_told_2 (fun H locs hP hS => ?_)
  refine lv_aload_n hx hb dX8_told_5 rfl (lv_at hl 0 rfl) ?_
  refine lv_aload_n hx hb dX8_told_6 rfl (lv_at hl 1 rfl) ?_
  refine callWorth (d := d) (fun e _ => row_ok G l e) hD hC hK hl hP hS (fun q h => h) ((TT.keep hS.2.1 d).1 _ _ hT) q973 hRR rfl dX8_told_7 (fun v w1 H1 locs1 hpo hP1 hk1 hS1 => ?_)
  rw [fcU_z] at hpo
  refine lv_istore_n (lv' := [(2, .int v), (0, .ref a), (1, .ref (R 2))]) hx hb dX8_told_10 rfl hl (by decide) rfl (fun ls hl => ?_)
  refine lv_aload_n hx hb dX8_told_11 rfl (lv_at hl 2 rfl) ?_
  refine S_getN (v := .int (w1.1 30)) hC hK hP1 (oS_moment _ _ _ _ _) clX3 in_X3 0 (by decide) (fD30 _ _ _ _) nq199 dX8_told_12 ?_
  refine lv_if_eq (tgt := 22) hx hb dX8_told_15 (by decide) (fun c15 => ?_) (fun c15 => ?_)
  · refine lv_iload_n hx hb dX8_told_22 rfl (lv_at hl 0 rfl) ?_
    refine hq _ _ _ _ _ _ _ _ dX8_told_23 hP1 hS1 rfl ?_ (Nat.le_refl _) (Nat.le_refl _)
    cases hd : den (fcU u) with
    | none => rw [hd] at hpo; rw [show w1 = mV (mV u 30 0) 30 1 from hpo, mV_at] at c15; exact absurd c15 (by decide)
    | some x => rw [hd] at hpo; exact ⟨hpo.1, 0, hpo.2⟩
  · refine lv_iconst (v := 0) hx hb dX8_told_18 (by decide) ?_
    refine lv_goto (tgt := 23) hx hb dX8_told_19 (by decide) ?_
    refine hq _ _ _ _ _ _ _ _ dX8_told_23 hP1 hS1 rfl ?_ (Nat.le_refl _) (Nat.le_refl _)
    cases hd : den (fcU u) with
    | none => rw [hd] at hpo; exact ⟨rfl, 1, Eq.trans (show w1 = mV (mV u 30 0) 30 1 from hpo) (mV_V _ _ _ _)⟩
    | some x => rw [hd] at hpo; rw [hpo.2, mV_at] at c15; exact absurd rfl c15
