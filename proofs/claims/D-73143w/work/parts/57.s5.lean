set_option maxRecDepth 100000
/-! what sums and conditions answer: Sum.worth, Condition.holds, Sum.told, Text.tells, Text.says -/
abbrev xWorth : MethodName := ⟨"SharedWindow$Sum", "worth", "(LSharedWindow$Asked;)I"⟩
abbrev xHolds : MethodName := ⟨"SharedWindow$Condition", "holds", "(LSharedWindow$Asked;)I"⟩
abbrev xValue : MethodName := ⟨"SharedWindow$Asked", "value", "(I)I"⟩
theorem dWorth : "SharedWindow$Sum" ≠ "java/lang/invoke/MethodHandle" ∧ "SharedWindow$Sum" ≠ "java/lang/invoke/VarHandle" ∧ (parseMethodDescriptor xWorth.desc).map (fun d => d.parameters.length) = some 1 := by decide +kernel
theorem dHolds : "SharedWindow$Condition" ≠ "java/lang/invoke/MethodHandle" ∧ "SharedWindow$Condition" ≠ "java/lang/invoke/VarHandle" ∧ (parseMethodDescriptor xHolds.desc).map (fun d => d.parameters.length) = some 1 := by decide +kernel
theorem dValue : "SharedWindow$Asked" ≠ "java/lang/invoke/MethodHandle" ∧ "SharedWindow$Asked" ≠ "java/lang/invoke/VarHandle" ∧ (parseMethodDescriptor xValue.desc).map (fun d => d.parameters.length) = some 1 := by decide +kernel
theorem c_X10_worth (G : GG) (l : Launch) (a m0 : Nat) (n : Int32) : CIs G l yX10_worth cX10_worth 2 .int 2 24 [.ref a, .ref m0] (va_P G.1 vwCl [(a, .inr (8, [.int n]))]) n := by
  refine CIs.mk RX10 pnX10 rfl rfl (Nat.le_of_ble_eq_true rfl) (fun pg en Rm sg mm ar bw mth cd QQ ls hC hRm hK hX hl hq => ?_)
  have hx := hC.1; have hb := hC.2.1
  have hl : lv_has ls 2 [(0, .ref a), (1, .ref m0)] := hl
  refine lv_aload_n hx hb dX10_worth_0 rfl (lv_at hl 0 rfl) ?_
  refine S_get (v := .int n) hC hK hX (q0 := 0) rfl clX10 in_X10 0 (by decide) rfl q565 dX10_worth_1 ?_
  exact hq _ _ _ dX10_worth_4 rfl
theorem c_X11_worth (G : GG) (l : Launch) (o : Nat) (R : Nat → Nat) (tx : Nat) (u : MS) (a i : Nat) (hi : i < 9) : CIs G l yX11_worth cX11_worth 2 .int 3 50 [.ref a, .ref (R 2)] (fun H => PwS G o R tx u H ∧ va_P G.1 vwCl [(a, .inr (9, [.int (letC i)]))] H) (u.1 (31 + i)) := by
  refine CIs.mk RX11 pnX11 rfl rfl (Nat.le_of_ble_eq_true rfl) (fun pg en Rm sg mm ar bw mth cd QQ ls hC hRm hK hX hl hq => ?_)
  obtain ⟨hP, hn⟩ := hX
  have hx := hC.1; have hb := hC.2.1
  have hl : lv_has ls 2 [(0, .ref a), (1, .ref (R 2))] := hl
  refine lv_aload_n hx hb dX11_worth_0 rfl (lv_at hl 1 rfl) ?_
  refine lv_aload_n hx hb dX11_worth_1 rfl (lv_at hl 0 rfl) ?_
  refine S_get (v := .int (letC i)) hC hK hn (q0 := 0) rfl clX11 in_X11 0 (by decide) rfl q576 dX11_worth_2 ?_
  refine CIs.go (rcU (As := [.int (letC i)]) (x := xValue) (C := RX3) hC hl (c_X3_value G l o R tx u i hi) hK hP (va_recv hK.1 hP clX3 (oS_moment _ _ _ _ _)) nq939 q938 q940 q941 q942 q113 q943 dValue (room_s hRm rfl) rfl rfl dX11_worth_5) ?_
  exact hq _ _ _ dX11_worth_8 rfl
def WOK1 (G : GG) (l : Launch) (d : Nat) : Prop := ∀ (o : Nat) (R : Nat → Nat) (tx : Nat) (u : MS), DwS o R → ∀ (a : Nat) (sg : Int32) (p : Nat) (r : Option Nat) (dp : SDn) (dr : FF → Int32 → Option Int32), CXi G l (PwS G o R tx) (AwS o R) yX9_worth cX9_worth 4 .int (frD d) (loD d) 0 0 [.ref a, .ref (R 2)] (fun H => PwS G o R tx u H ∧ va_P G.1 vwCl [(a, .inr (7, [.int sg, .ref p, va_rf r]))] H ∧ ¬ AwS o R a ∧ (TT G (AwS o R) H d).1 p dp ∧ (TT G (AwS o R) H d).2 r dr) (WPost u ((dp (fcU u)).bind (dr (fcU u))))
abbrev rmD (d cells slots : Nat) (Rm : Room) : Prop := frD d ≤ Rm.frames ∧ loD d ≤ Rm.locals ∧ cells ≤ Rm.cells ∧ slots ≤ Rm.slots
section CALLW
variable {G : GG} {p : Program} {l : Launch} {e : Env} {Rm : Room} {s : State} {m : MethodId} {args : Array Value} {below : List Frame} {meth : Method} {c : Code} {H : Heap} {locs : List Loc} {cells slots : Nat} {Q : State → Prop}
variable {cc : ByteArray} {nL index pc : Nat} {own : String} {ls : Array Slot} {rest : List Value} {lv : List (Nat × Value)} {H0 : Heap} {A0 : Nat → Prop} {o : Nat} {R : Nat → Nat} {tx : Nat} {u : MS} {a d : Nat}
theorem callWorth {den : SDn} (ih : ∀ d', d' < d → WOK1 G l d') (hD : DwS o R) (hC : CallFix p m c cc nL s args lw_all own) (hK : KS G s) (hl : lv_has ls nL lv) (hP : PwS G o R tx u H) (hS : va_S A0 H0 H locs) (hA : ∀ q, AwS o R q → A0 q) (hT : (TT G (AwS o R) H d).1 a den) (h1 : Cond.methodLink own index xWorth ∈ lw_all) (hR : rmD d cells slots Rm) (hcat : Nat.ble (rest.map fun v => v.category).sum 8 = true) (hdg : decode cc pc = .ok (.invokevirtual index, 3))
    (kk : ∀ (r : Int32) (w : MS) (H1 : Heap) (locs : List Loc), WPost u (den (fcU u)) r w → PwS G o R tx w H1 → (∀ q : Nat, q < H.size → ¬ AwS o R q → H1[q]? = H[q]?) → va_S A0 H0 H1 locs → W p l e Rm s m args below meth c H1 locs cells slots Q (F0 m (pc + 3) ls (.int r :: rest))) : W p l e Rm s m args below meth c H locs cells slots Q (F0 m pc ls (.ref (R 2) :: .ref a :: rest)) := by
  cases d with
  | zero => exact hT.elim
  | succ d =>
    obtain ⟨hA', hT⟩ := hT
    have q1 := hR.1; have q2 := hR.2.1
    unfold frD at q1; unfold loD at q2
    rcases hT with ⟨n, hn, hd⟩ | ⟨i, hi, hn, hd⟩ | ⟨sg, pp, r, dp, dr, hn, h2, h3, h4⟩
    · refine CIs.go (rcU (As := [.ref (R 2)]) (x := xWorth) (C := RX10) hC hl (c_X10_worth G l a (R 2) n) hK hn (va_recv (q0 := 0) hK.1 hn clX10 rfl) nq933 h1 q934 q944 q945 q126 q946 dWorth ⟨⟨by omega, by omega⟩, hR.2.2.1, hR.2.2.2⟩ rfl hcat hdg) ?_
      exact kk n u H locs (by rw [hd]; exact ⟨rfl, rfl⟩) hP (fun _ _ _ => rfl) hS
    · refine CIs.go (rcU (As := [.ref (R 2)]) (x := xWorth) (C := RX11) hC hl (c_X11_worth G l o R tx u a i hi) hK ⟨hP, hn⟩ (va_recv (q0 := 0) hK.1 hn clX11 rfl) nq933 h1 q934 q935 q936 q127 q937 dWorth ⟨⟨by omega, by omega⟩, hR.2.2.1, hR.2.2.2⟩ rfl hcat hdg) ?_
      exact kk _ u H locs (by rw [hd]; exact ⟨rfl, rfl⟩) hP (fun _ _ _ => rfl) hS
    · refine CXi.go (rcU (As := [.ref (R 2)]) (x := xWorth) (C := RX9) hC hl (ih d (Nat.lt_succ_self d) o R tx u hD a sg pp r dp dr) hK ⟨hP, hn, hA', h2, h3⟩ (va_recv (q0 := 0) hK.1 hn clX9 rfl) nq933 h1 q934 q947 q948 q125 q949 dWorth ⟨⟨by unfold frD; omega, by unfold loD; omega⟩, hR.2.2.1, hR.2.2.2⟩ rfl hcat hdg) hS hA (fun r w H1 locs1 hpo hP1 _ hk hS1 => ?_)
      exact kk r w H1 locs1 (by rw [h4]; exact hpo) hP1 hk hS1
end CALLW
theorem wstep {u w w1 w2 : MS} {tot dp1 : Option Int32} {sg v y z : Int32} {k : Int32 → Option Int32} (hc : (w = u ∧ tot = dp1.bind (fun y => (workS sg v y).bind k)) ∨ (w = mV u 30 1 ∧ tot = none)) (h1 : WPost w dp1 y w1) (h2 : WPost0 w1 (workS sg v y) z w2) : (w2 = u ∧ tot = k z) ∨ (w2 = mV u 30 1 ∧ tot = none) := by
  rcases hc with ⟨rfl, ht⟩ | ⟨rfl, ht⟩
  · cases dp1 with
    | some y0 =>
      obtain ⟨rfl, rfl⟩ := h1
      simp only [Option.bind_some] at ht
      cases hw : workS sg v y with
      | some z0 =>
        rw [hw] at h2 ht
        obtain ⟨rfl, rfl⟩ := h2
        exact Or.inl ⟨rfl, ht⟩
      | none =>
        rw [hw] at h2 ht
        exact Or.inr ⟨h2.2, ht⟩
    | none =>
      have h1 : w1 = mV w 30 1 := h1
      subst h1
      cases hw : workS sg v y with
      | some z0 => rw [hw] at h2; exact Or.inr ⟨h2.2, ht⟩
      | none => rw [hw] at h2; exact Or.inr ⟨h2.2.trans (mV_V _ _ _ _), ht⟩
  · have h1' : w1 = mV u 30 1 := by
      cases dp1 with
      | some y0 => exact h1.2
      | none => exact Eq.trans (show w1 = mV (mV u 30 1) 30 1 from h1) (mV_V _ _ _ _)
    subst h1'
    cases hw : workS sg v y with
    | some z0 => rw [hw] at h2; exact Or.inr ⟨h2.2, ht⟩
    | none => rw [hw] at h2; exact Or.inr ⟨h2.2.trans (mV_V _ _ _ _), ht⟩
theorem fc_of {u w : MS} {P : Prop} {Q : Prop} (h : (w = u ∧ P) ∨ (w = mV u 30 1 ∧ Q)) : fcU w = fcU u := by
  rcases h with ⟨rfl, _⟩ | ⟨rfl, _⟩
  · rfl
  · exact fcU_z _ _
set_option maxHeartbeats 4000000 in
theorem row_ok (G : GG) (l : Launch) : ∀ d, WOK1 G l d := by
  intro d
  induction d using Nat.strongRecOn with
  | ind d ih =>
  intro o R tx u hD a sg pp r0 dp dr0
  refine CXi.mk RX9 pnX9 rfl (Nat.le_of_ble_eq_true rfl) (fun pg en Rm s0 mm ar bw mth cd QQ ls hC hRm hK hX hS hl hq => ?_)
  obtain ⟨hP, h1, hA, hp, hr⟩ := hX
  have hx := hC.1; have hb := hC.2.1
  have hl : lv_has ls 4 [(0, .ref a), (1, .ref (R 2))] := hl
  have hRR : rmD d 0 0 Rm := by subst hRm; exact ⟨Nat.le_refl _, Nat.le_refl _, Nat.le_refl _, Nat.le_refl _⟩
  have EX : ∀ (v : Int32) (w : MS) (H : Heap) (locs : List Loc) (ls : Array Slot), ((w = u ∧ (dp (fcU u)).bind (dr0 (fcU u)) = some v) ∨ (w = mV u 30 1 ∧ (dp (fcU u)).bind (dr0 (fcU u)) = none)) → PwS G o R tx w H → va_S (AwS o R) s0.heap H locs → lv_has ls 4 [(3, .null), (2, .int v), (0, .ref a), (1, .ref (R 2))] → W pg l en Rm s0 mm ar bw mth cd H locs 0 0 QQ (F0 mm 14 ls []) := by
    intro v w H locs ls hc hP hS hl
    refine lv_aload_nN hx hb dX9_worth_14 rfl (lv_at hl 0 rfl) ?_
    refine lv_ifnullN (tgt := 44) hx hb dX9_worth_15 (by decide) ?_
    refine lv_iload_n hx hb dX9_worth_44 rfl (lv_at hl 1 rfl) ?_
    refine hq _ _ _ _ _ _ _ _ dX9_worth_45 hP hS rfl ?_ (Nat.le_refl _) (Nat.le_refl _)
    rcases hc with ⟨h1, h2⟩ | ⟨h1, h2⟩
    · rw [h2]; exact ⟨rfl, h1⟩
    · rw [h2]; exact h1
  have LP : ∀ (d' : Nat), d' ≤ d → ∀ (r : Option Nat) (dr : FF → Int32 → Option Int32) (v : Int32) (w : MS) (H : Heap) (locs : List Loc) (ls : Array Slot), (TT G (AwS o R) s0.heap d').2 r dr → ((w = u ∧ (dp (fcU u)).bind (dr0 (fcU u)) = dr (fcU u) v) ∨ (w = mV u 30 1 ∧ (dp (fcU u)).bind (dr0 (fcU u)) = none)) → PwS G o R tx w H → va_S (AwS o R) s0.heap H locs → lv_has ls 4 [(3, va_rf r), (2, .int v), (0, .ref a), (1, .ref (R 2))] → W pg l en Rm s0 mm ar bw mth cd H locs 0 0 QQ (F0 mm 14 ls []) := by
    intro d'
    induction d' with
    | zero =>
      intro hd r dr v w H locs ls hT hc hP hS hl
      obtain ⟨rfl, he⟩ := hT
      exact EX v w H locs ls (by rw [he] at hc; exact hc) hP hS hl
    | succ d' ihd =>
      intro hd r dr v w H locs ls hT hc hP hS hl
      rcases hT with ⟨rfl, he⟩ | ⟨a1, sg1, p1, r1, dp1, dr1, rfl, hA1, hc1, hp1, hr1, he⟩
      · exact EX v w H locs ls (by rw [he] at hc; exact hc) hP hS hl
      · have hl : lv_has ls 4 [(3, .ref a1), (2, .int v), (0, .ref a), (1, .ref (R 2))] := hl
        have hf := fc_of hc
        have hc1' := one_keep hc1 hA1 hS.2.1
        refine lv_aload_n hx hb dX9_worth_14 rfl (lv_at hl 0 rfl) ?_
        refine lv_ifnull hx hb dX9_worth_15 ?_
        refine lv_aload_n hx hb dX9_worth_18 rfl (lv_at hl 0 rfl) ?_
        refine S_get (v := .int sg1) hC hK hc1' (q0 := 0) rfl clX9 in_X9 0 (by decide) rfl q584 dX9_worth_19 ?_
        refine lv_iload_n hx hb dX9_worth_22 rfl (lv_at hl 1 rfl) ?_
        refine lv_aload_n hx hb dX9_worth_23 rfl (lv_at hl 0 rfl) ?_
        refine S_get (v := .ref p1) hC hK hc1' (q0 := 0) rfl clX9 in_X9 1 (by decide) rfl q585 dX9_worth_24 ?_
        refine lv_aload_n hx hb dX9_worth_27 rfl (lv_at hl 3 rfl) ?_
        refine callWorth (d := d') (fun e he => ih e (by omega)) hD hC hK hl hP hS (fun q h => h) ((TT.keep hS.2.1 d').1 _ _ hp1) q950 ⟨by have := hRR.1; unfold frD at *; omega, by have := hRR.2.1; unfold loD at *; omega, hRR.2.2⟩ rfl dX9_worth_28 (fun y w1 H1 locs1 hpo hP1 hk1 hS1 => ?_)
        refine lv_aload_n hx hb dX9_worth_31 rfl (lv_at hl 3 rfl) ?_
        refine CXi.go (rcS (As := [.int sg1, .int v, .int y, .ref (R 2)]) hC hl (c_X9_worked_moment G l o R tx w1 sg1 v y hD) hK hP1 q951 q952 q125 q953 mdX9_worked ⟨⟨by have := hRR.1; unfold frD at *; omega, by have := hRR.2.1; unfold loD at *; omega⟩, hRR.2.2.1, hRR.2.2.2⟩ rfl rfl dX9_worth_32) hS1 (fun q h => h) (fun z w2 H2 locs2 hpo2 hP2 _ hk2 hS2 => ?_)
        refine lv_istore_n (lv' := [(2, .int z), (3, .ref a1), (0, .ref a), (1, .ref (R 2))]) hx hb dX9_worth_35 rfl hl (by decide) rfl (fun ls hl => ?_)
        refine lv_aload_n hx hb dX9_worth_36 rfl (lv_at hl 1 rfl) ?_
        refine S_get (v := va_rf r1) hC hK (one_keep hc1 hA1 hS2.2.1) (q0 := 0) rfl clX9 in_X9 2 (by decide) rfl q586 dX9_worth_37 ?_
        refine q_astore_n (lv' := [(3, va_rf r1), (2, .int z), (0, .ref a), (1, .ref (R 2))]) hx hb dX9_worth_40 rfl hl (by decide) rfl (fun ls hl => ?_)
        refine lv_goto (tgt := 14) hx hb dX9_worth_41 (by decide) ?_
        refine ihd (by omega) r1 dr1 z w2 H2 locs2 ls hr1 ?_ hP2 hS2 hl
        rw [he] at hc
        rw [hf] at hpo
        exact wstep hc hpo hpo2
  refine lv_aload_n hx hb dX9_worth_0 rfl (lv_at hl 0 rfl) ?_
  refine S_get (v := .ref pp) hC hK h1 (q0 := 0) rfl clX9 in_X9 1 (by decide) rfl q585 dX9_worth_1 ?_
  refine lv_aload_n hx hb dX9_worth_4 rfl (lv_at hl 1 rfl) ?_
  refine callWorth (d := d) ih hD hC hK hl hP hS (fun q h => h) hp q950 hRR rfl dX9_worth_5 (fun v w1 H1 locs1 hpo hP1 hk1 hS1 => ?_)
  refine lv_istore_n (lv' := [(2, .int v), (0, .ref a), (1, .ref (R 2))]) hx hb dX9_worth_8 rfl hl (by decide) rfl (fun ls hl => ?_)
  refine lv_aload_n hx hb dX9_worth_9 rfl (lv_at hl 1 rfl) ?_
  refine S_get (v := va_rf r0) hC hK (one_keep h1 hA hS1.2.1) (q0 := 0) rfl clX9 in_X9 2 (by decide) rfl q586 dX9_worth_10 ?_
  refine q_astore_n (lv' := [(3, va_rf r0), (2, .int v), (0, .ref a), (1, .ref (R 2))]) hx hb dX9_worth_13 rfl hl (by decide) rfl (fun ls hl => ?_)
  refine LP d (Nat.le_refl _) r0 dr0 v w1 H1 locs1 ls hr ?_ hP1 hS1 hl
  cases hdp : dp (fcU u) with
  | some v0 => rw [hdp] at hpo; obtain ⟨rfl, rfl⟩ := hpo; exact Or.inl ⟨rfl, rfl⟩
  | none => rw [hdp] at hpo; exact Or.inr ⟨hpo, rfl⟩
