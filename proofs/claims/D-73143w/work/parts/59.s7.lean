set_option maxRecDepth 100000
/-! the law's text in the heap -/
def celT (G : GG) (tx r0 r1 r2 n : Nat) (le : Nat → Int32) (sm cd : Nat → Option Nat) : va_W := [(tx, .inr (4, [.ref r0, .ref r1, .ref r2, .int (nI n)])), (r0, .inl (G.2 0, 16, .inl le)), (r1, .inl (G.2 4, 16, .inr (.inr (.inr (.inr sm))))), (r2, .inl (G.2 5, 16, .inr (.inr (.inr (.inr cd)))))]
abbrev DEP : Nat := 300
/-- a clause: its letter, its condition, its sum -/
def ClT (G : GG) (A : Nat → Prop) (H : Heap) (Lw : LW) (q : Nat) (le : Nat → Int32) (sm cd : Nat → Option Nat) : Prop :=
  le q = Lw.2.1 q ∧ (∃ (a : Nat) (den : CDn), cd q = some a ∧ (CT G A H DEP).1 a den ∧ ∀ F, Lw.2.2.2 q F = decide (den F = some true)) ∧ (¬ Lw.2.1 q = 120 → ∃ (a : Nat) (den : SDn), sm q = some a ∧ (TT G A H DEP).1 a den ∧ ∀ F, Lw.2.2.1 q F = (den F).getD 0)
def TxW (G : GG) (A : Nat → Prop) (tx : Nat) (Lw : LW) (H : Heap) : Prop := ∃ (r0 r1 r2 : Nat) (le : Nat → Int32) (sm cd : Nat → Option Nat), va_P G.1 vwCl (celT G tx r0 r1 r2 Lw.1 le sm cd) H ∧ (¬ A tx ∧ ¬ A r0 ∧ ¬ A r1 ∧ ¬ A r2) ∧ Lw.1 ≤ 16 ∧ ∀ q, q < Lw.1 → ClT G A H Lw q le sm cd
theorem celT_keep {G : GG} {A : Nat → Prop} {tx r0 r1 r2 n : Nat} {le : Nat → Int32} {sm cd : Nat → Option Nat} {H H1 : Heap} (h : va_P G.1 vwCl (celT G tx r0 r1 r2 n le sm cd) H) (hA : ¬ A tx ∧ ¬ A r0 ∧ ¬ A r1 ∧ ¬ A r2) (hk : ∀ q : Nat, q < H.size → ¬ A q → H1[q]? = H[q]?) : va_P G.1 vwCl (celT G tx r0 r1 r2 n le sm cd) H1 :=
  h.kept (fun k q hq => by
    have hl := (h k q hq).lt
    match k, hq with
    | 0, hq => cases hq; exact hk _ hl hA.1
    | 1, hq => cases hq; exact hk _ hl hA.2.1
    | 2, hq => cases hq; exact hk _ hl hA.2.2.1
    | 3, hq => cases hq; exact hk _ hl hA.2.2.2)
theorem ClT.keep {G : GG} {A : Nat → Prop} {H H1 : Heap} {Lw : LW} {q : Nat} {le : Nat → Int32} {sm cd : Nat → Option Nat} (hk : ∀ q : Nat, q < H.size → ¬ A q → H1[q]? = H[q]?) (h : ClT G A H Lw q le sm cd) : ClT G A H1 Lw q le sm cd := by
  obtain ⟨h1, ⟨a, den, h2, h3, h4⟩, h5⟩ := h
  refine ⟨h1, ⟨a, den, h2, (CT.keep hk _).1 _ _ h3, h4⟩, fun hn => ?_⟩
  obtain ⟨a, den, h6, h7, h8⟩ := h5 hn
  exact ⟨a, den, h6, (TT.keep hk _).1 _ _ h7, h8⟩
theorem TxW.keep {G : GG} {A : Nat → Prop} {tx : Nat} {Lw : LW} {H H1 : Heap} (hk : ∀ q : Nat, q < H.size → ¬ A q → H1[q]? = H[q]?) (h : TxW G A tx Lw H) : TxW G A tx Lw H1 := by
  obtain ⟨r0, r1, r2, le, sm, cd, h1, h2, h3, h4⟩ := h
  exact ⟨r0, r1, r2, le, sm, cd, celT_keep h1 h2 hk, h2, h3, fun q hq => (h4 q hq).keep hk⟩
section SALDQ
variable {G : GG} {p : Program} {l : Launch} {e : Env} {Rm : Room} {s : State} {m : MethodId} {args : Array Value} {below : List Frame} {meth : Method} {c : Code} {H : Heap} {locs : List Loc} {cells slots : Nat} {Q : State → Prop}
variable {cc : ByteArray} {nL pc : Nat} {own : String} {ls : Array Slot} {rest : List Value}
theorem S_aldq {i : Int32} {a q0 t0 n j : Nat} {C : String} {f : Nat → Option Nat} {ws : va_W} (hC : CallFix p m c cc nL s args lw_all own) (hK : KS G s) (hP : va_P G.1 vwCl ws H) (ha : ws[q0]? = some (a, .inl (G.2 t0, n, .inr (.inr (.inr (.inr f)))))) (ht : (tysG G)[t0]? = some (G.2 t0, .object C)) (hn : n < 2 ^ 31) (hi : i = nI j) (hj : j < n) (hdg : decode cc pc = .ok (.aaload, 1))
    (kk : W p l e Rm s m args below meth c H locs cells slots Q (F0 m (pc + 1) ls (va_rf (f j) :: rest))) : W p l e Rm s m args below meth c H locs cells slots Q (F0 m pc ls (.int i :: .ref a :: rest)) := by
  obtain ⟨h1, h2⟩ := ix_nI hi hj hn
  refine va_aldq hC.1 hC.2.1 hK.1 hP q0 t0 ha ht h1 hdg ?_
  rw [h2]; exact kk
end SALDQ
/-- what the first clause of a letter that holds tells -/
def tellS (Lw : LW) (c no : Int32) (F : FF) : Int32 := match findW Lw c F Lw.1 0 with
  | none => no
  | some q => Lw.2.2.1 q F
def lo300 : Nat := loD DEP + 40
def fr300 : Nat := frD DEP + 2
theorem mV_own (u : MS) (k : Nat) : mV u k (u.1 k) = u := by
  refine Prod.ext ?_ rfl
  funext j; simp only [mV, upd]; split
  · next h => rw [h]
  · rfl
theorem c_X5_tells (G : GG) (l : Launch) (o : Nat) (R : Nat → Nat) (tx : Nat) (u : MS) (Lw : LW) (c no : Int32) (hc : ¬ c = 120) (hD : DwS o R) : CXi G l (PwS G o R tx) (AwS o R) yX5_tells cX5_tells 5 .int fr300 lo300 0 0 [.ref tx, .int c, .int no, .ref (R 2)] (fun H => PwS G o R tx u H ∧ TxW G (AwS o R) tx Lw H) (fun r w => ∃ z : Int32, r = tellS Lw c no (fcU u) ∧ w = mV u 30 z) := by
  refine CXi.mk RX5 pnX5 rfl (Nat.le_of_ble_eq_true rfl) (fun pg en Rm sg mm ar bw mth cd QQ ls hC hRm hK hX hS hl hq => ?_)
  obtain ⟨hP, r0, r1, r2, le, sm, cdd, h1, hA, hW, hcl⟩ := hX
  have hx := hC.1; have hb := hC.2.1
  have hl : lv_has ls 5 [(0, .ref tx), (1, .int c), (2, .int no), (3, .ref (R 2))] := hl
  have hRR : rmD DEP 0 0 Rm := by subst hRm; exact ⟨by show frD DEP ≤ fr300; unfold fr300; omega, by show loD DEP ≤ lo300; unfold lo300; omega, Nat.le_refl _, Nat.le_refl _⟩
  have LP : ∀ (fu k : Nat) (z : Int32) (H : Heap) (locs : List Loc) (ls : Array Slot), Lw.1 - k < fu → k ≤ Lw.1 → findW Lw c (fcU u) Lw.1 0 = findW Lw c (fcU u) (Lw.1 - k) k → PwS G o R tx (mV u 30 z) H → va_S (AwS o R) sg.heap H locs → lv_has ls 5 [(4, .int (nI k)), (0, .ref tx), (1, .int c), (2, .int no), (3, .ref (R 2))] → W pg l en Rm sg mm ar bw mth cd H locs 0 0 QQ (F0 mm 3 ls []) := by
    intro fu
    induction fu with
    | zero => intro k z H locs ls hm; exact absurd hm (Nat.not_lt_zero _)
    | succ fu ih =>
      intro k z H locs ls hm hk hf hP hS hl
      have hT := celT_keep h1 hA hS.2.1
      refine lv_iload hx hb dX5_tells_3 (lv_at hl 0 rfl) ?_
      refine lv_aload_n hx hb dX5_tells_5 rfl (lv_at hl 1 rfl) ?_
      refine S_get (v := .int (nI Lw.1)) hC hK hT (q0 := 0) rfl clX5 in_X5 3 (by decide) rfl q275 dX5_tells_6 ?_
      refine lv_icmp_ge (tgt := 56) hx hb dX5_tells_9 (by decide) (fun c9 => ?_) (fun c9 => ?_)
      · have c9 := (nI_leI (a := Lw.1) (b := k) (by omega) (by omega)).mp c9
        refine lv_iload_n hx hb dX5_tells_56 rfl (lv_at hl 3 rfl) ?_
        refine hq _ _ _ _ _ _ _ _ dX5_tells_57 hP hS rfl ⟨z, ?_, rfl⟩ (Nat.le_refl _) (Nat.le_refl _)
        unfold tellS
        rw [hf, findW_e c9]
      · have c9 : k < Lw.1 := by have := mt (nI_leI (a := Lw.1) (b := k) (by omega) (by omega)).mpr c9; omega
        obtain ⟨q1, ⟨a, den, q2, q3, q4⟩, q5⟩ := hcl k c9
        refine lv_aload_n hx hb dX5_tells_12 rfl (lv_at hl 1 rfl) ?_
        refine S_get (v := .ref r0) hC hK hT (q0 := 0) rfl clX5 in_X5 0 (by decide) rfl q269 dX5_tells_13 ?_
        refine lv_iload hx hb dX5_tells_16 (lv_at hl 0 rfl) ?_
        refine S_ald hC hK hT (q0 := 1) rfl (j := k) (by decide) rfl (by omega) dX5_tells_18 ?_
        refine lv_iload_n hx hb dX5_tells_19 rfl (lv_at hl 2 rfl) ?_
        have NX : ∀ (z : Int32) (H : Heap) (locs : List Loc) (ls : Array Slot), ¬ (Lw.2.1 k = c ∧ Lw.2.2.2 k (fcU u) = true) → PwS G o R tx (mV u 30 z) H → va_S (AwS o R) sg.heap H locs → lv_has ls 5 [(4, .int (nI k)), (0, .ref tx), (1, .int c), (2, .int no), (3, .ref (R 2))] → W pg l en Rm sg mm ar bw mth cd H locs 0 0 QQ (F0 mm 50 ls []) := by
          intro z H locs ls hn hP hS hl
          refine lv_iinc (v := (nI (k + 1))) (lv' := [(4, .int (nI (k + 1))), (0, .ref tx), (1, .int c), (2, .int no), (3, .ref (R 2))]) hx hb dX5_tells_50 hl (k := 0) rfl (nI_inc k) (by decide) rfl (fun ls hl => ?_)
          refine lv_goto (tgt := 3) hx hb dX5_tells_53 (by decide) ?_
          exact ih (k + 1) z H locs ls (by omega) (by omega) (by rw [hf, findW_f c9 hn]) hP hS hl
        refine lv_icmp_ne (tgt := 50) hx hb dX5_tells_20 (by decide) (fun c20 => ?_) (fun c20 => ?_)
        · exact NX z H locs ls (fun hh => c20 (by rw [q1]; exact hh.1)) hP hS hl
        · have c20 : Lw.2.1 k = c := by first | exact q1.symm.trans c20 | exact q1.symm.trans (Classical.not_not.mp c20)
          refine lv_aload_n hx hb dX5_tells_23 rfl (lv_at hl 1 rfl) ?_
          refine S_get (v := .ref r2) hC hK hT (q0 := 0) rfl clX5 in_X5 2 (by decide) rfl q273 dX5_tells_24 ?_
          refine lv_iload hx hb dX5_tells_27 (lv_at hl 0 rfl) ?_
          refine S_aldq hC hK hT (q0 := 3) (t0 := 5) rfl rfl (j := k) (by decide) rfl (by omega) dX5_tells_29 ?_
          rw [q2]
          refine lv_aload_n hx hb dX5_tells_30 rfl (lv_at hl 4 rfl) ?_
          refine callHolds (d := DEP) (fun e _ => cond_ok G l e) hD hC hK hl hP hS (fun q h => h) ((CT.keep hS.2.1 _).1 _ _ q3) q926 hRR rfl dX5_tells_31 (fun v w1 H1 locs1 hpo hP1 hk1 hS1 => ?_)
          rw [fcU_z] at hpo
          obtain ⟨hv, z1, hw⟩ := hpo
          rw [hw, mV_V] at hP1
          refine lv_iconst (v := 1) hx hb dX5_tells_34 (by decide) ?_
          refine lv_icmp_ne (tgt := 50) hx hb dX5_tells_35 (by decide) (fun c35 => ?_) (fun c35 => ?_)
          · refine NX z1 H1 locs1 ls (fun hh => c35 ?_) hP1 hS1 hl
            have hh := hh.2
            rw [q4] at hh
            rw [hv, of_decide_eq_true hh]; rfl
          · have c35 : v = bI true := by first | exact c35 | exact Classical.not_not.mp c35
            rw [hv] at c35
            have hden := cI_b.mp c35
            obtain ⟨a2, den2, q6, q7, q8⟩ := q5 (by rw [c20]; exact hc)
            refine lv_aload_n hx hb dX5_tells_38 rfl (lv_at hl 1 rfl) ?_
            have hT1 := celT_keep h1 hA hS1.2.1
            refine S_get (v := .ref r1) hC hK hT1 (q0 := 0) rfl clX5 in_X5 1 (by decide) rfl q271 dX5_tells_39 ?_
            refine lv_iload hx hb dX5_tells_42 (lv_at hl 0 rfl) ?_
            refine S_aldq hC hK hT1 (q0 := 2) (t0 := 4) rfl rfl (j := k) (by decide) rfl (by omega) dX5_tells_44 ?_
            rw [q6]
            refine lv_aload_n hx hb dX5_tells_45 rfl (lv_at hl 4 rfl) ?_
            refine callToldX hD hC hK hl hP1 hS1 (fun q h => h) ((TT.keep hS1.2.1 _).1 _ _ q7) q966 (c_X8_told G l DEP o R tx (mV u 30 z1) hD a2 den2) ⟨⟨by subst hRm; show frD DEP + 1 ≤ fr300; unfold fr300; omega, by subst hRm; show 19 + 3 + loD DEP ≤ lo300; unfold lo300; omega⟩, hRR.2.2.1, hRR.2.2.2⟩ rfl dX5_tells_46 (fun v2 w2 H2 locs2 hpo2 hP2 hk2 hS2 => ?_)
            rw [fcU_z] at hpo2
            obtain ⟨hv2, z2, hw2⟩ := hpo2
            rw [mV_V] at hw2
            refine hq _ _ _ _ _ _ _ _ dX5_tells_49 hP2 hS2 rfl ⟨z2, ?_, hw2⟩ (Nat.le_refl _) (Nat.le_refl _)
            unfold tellS
            rw [hf, findW_t c9 c20 (by rw [q4]; exact decide_eq_true hden)]
            exact hv2.trans (q8 _).symm
  refine lv_iconst (v := 0) hx hb dX5_tells_0 (by decide) ?_
  refine lv_istore (lv' := [(4, .int (nI 0)), (0, .ref tx), (1, .int c), (2, .int no), (3, .ref (R 2))]) hx hb dX5_tells_1 hl (by decide) rfl (fun ls hl => ?_)
  exact LP _ 0 (u.1 30) sg.heap [] ls (Nat.lt_succ_self _) (Nat.zero_le _) rfl (by rw [mV_own]; exact hP) hS hl
theorem TxW.recv {G : GG} {A : Nat → Prop} {tx : Nat} {Lw : LW} {s : State} {H : Heap} (hK : KS G s) (h : TxW G A tx Lw H) : Recv s H RX5 tx := by
  obtain ⟨r0, r1, r2, le, sm, cd, h1, -⟩ := h
  exact va_recv (q0 := 0) hK.1 h1 clX5 rfl
theorem c_X5_says (G : GG) (l : Launch) (o : Nat) (R : Nat → Nat) (tx : Nat) (u : MS) (Lw : LW) (c : Int32) (hD : DwS o R) : CXi G l (PwS G o R tx) (AwS o R) yX5_says cX5_says 4 .boolean fr300 lo300 0 0 [.ref tx, .int c, .ref (R 2)] (fun H => PwS G o R tx u H ∧ TxW G (AwS o R) tx Lw H) (fun r w => ∃ z : Int32, r = bI (anyS Lw c (fcU u)) ∧ w = mV u 30 z) := by
  refine CXi.mk RX5 pnX5 rfl (Nat.le_of_ble_eq_true rfl) (fun pg en Rm sg mm ar bw mth cd QQ ls hC hRm hK hX hS hl hq => ?_)
  obtain ⟨hP, r0, r1, r2, le, sm, cdd, h1, hA, hW, hcl⟩ := hX
  have hx := hC.1; have hb := hC.2.1
  have hl : lv_has ls 4 [(0, .ref tx), (1, .int c), (2, .ref (R 2))] := hl
  have hRR : rmD DEP 0 0 Rm := by subst hRm; exact ⟨by show frD DEP ≤ fr300; unfold fr300; omega, by show loD DEP ≤ lo300; unfold lo300; omega, Nat.le_refl _, Nat.le_refl _⟩
  have LP : ∀ (fu k : Nat) (z : Int32) (H : Heap) (locs : List Loc) (ls : Array Slot), Lw.1 - k < fu → k ≤ Lw.1 → findW Lw c (fcU u) Lw.1 0 = findW Lw c (fcU u) (Lw.1 - k) k → PwS G o R tx (mV u 30 z) H → va_S (AwS o R) sg.heap H locs → lv_has ls 4 [(3, .int (nI k)), (0, .ref tx), (1, .int c), (2, .ref (R 2))] → W pg l en Rm sg mm ar bw mth cd H locs 0 0 QQ (F0 mm 2 ls []) := by
    intro fu
    induction fu with
    | zero => intro k z H locs ls hm; exact absurd hm (Nat.not_lt_zero _)
    | succ fu ih =>
      intro k z H locs ls hm hk hf hP hS hl
      have hT := celT_keep h1 hA hS.2.1
      refine lv_iload_n hx hb dX5_says_2 rfl (lv_at hl 0 rfl) ?_
      refine lv_aload_n hx hb dX5_says_3 rfl (lv_at hl 1 rfl) ?_
      refine S_get (v := .int (nI Lw.1)) hC hK hT (q0 := 0) rfl clX5 in_X5 3 (by decide) rfl q275 dX5_says_4 ?_
      refine lv_icmp_ge (tgt := 42) hx hb dX5_says_7 (by decide) (fun c9 => ?_) (fun c9 => ?_)
      · have c9 := (nI_leI (a := Lw.1) (b := k) (by omega) (by omega)).mp c9
        refine lv_iconst (v := 0) hx hb dX5_says_42 (by decide) ?_
        refine hq _ _ _ _ _ _ _ _ dX5_says_43 hP hS rfl ⟨z, ?_, rfl⟩ (Nat.le_refl _) (Nat.le_refl _)
        unfold anyS
        rw [hf, findW_e c9]; rfl
      · have c9 : k < Lw.1 := by have := mt (nI_leI (a := Lw.1) (b := k) (by omega) (by omega)).mpr c9; omega
        obtain ⟨q1, ⟨a, den, q2, q3, q4⟩, q5⟩ := hcl k c9
        refine lv_aload_n hx hb dX5_says_10 rfl (lv_at hl 1 rfl) ?_
        refine S_get (v := .ref r0) hC hK hT (q0 := 0) rfl clX5 in_X5 0 (by decide) rfl q269 dX5_says_11 ?_
        refine lv_iload_n hx hb dX5_says_14 rfl (lv_at hl 0 rfl) ?_
        refine S_ald hC hK hT (q0 := 1) rfl (j := k) (by decide) rfl (by omega) dX5_says_15 ?_
        refine lv_iload_n hx hb dX5_says_16 rfl (lv_at hl 2 rfl) ?_
        have NX : ∀ (z : Int32) (H : Heap) (locs : List Loc) (ls : Array Slot), ¬ (Lw.2.1 k = c ∧ Lw.2.2.2 k (fcU u) = true) → PwS G o R tx (mV u 30 z) H → va_S (AwS o R) sg.heap H locs → lv_has ls 4 [(3, .int (nI k)), (0, .ref tx), (1, .int c), (2, .ref (R 2))] → W pg l en Rm sg mm ar bw mth cd H locs 0 0 QQ (F0 mm 36 ls []) := by
          intro z H locs ls hn hP hS hl
          refine lv_iinc (v := (nI (k + 1))) (lv' := [(3, .int (nI (k + 1))), (0, .ref tx), (1, .int c), (2, .ref (R 2))]) hx hb dX5_says_36 hl (k := 0) rfl (nI_inc k) (by decide) rfl (fun ls hl => ?_)
          refine lv_goto (tgt := 2) hx hb dX5_says_39 (by decide) ?_
          exact ih (k + 1) z H locs ls (by omega) (by omega) (by rw [hf, findW_f c9 hn]) hP hS hl
        refine lv_icmp_ne (tgt := 36) hx hb dX5_says_17 (by decide) (fun c20 => ?_) (fun c20 => ?_)
        · exact NX z H locs ls (fun hh => c20 (by rw [q1]; exact hh.1)) hP hS hl
        · have c20 : Lw.2.1 k = c := by first | exact q1.symm.trans c20 | exact q1.symm.trans (Classical.not_not.mp c20)
          refine lv_aload_n hx hb dX5_says_20 rfl (lv_at hl 1 rfl) ?_
          refine S_get (v := .ref r2) hC hK hT (q0 := 0) rfl clX5 in_X5 2 (by decide) rfl q273 dX5_says_21 ?_
          refine lv_iload_n hx hb dX5_says_24 rfl (lv_at hl 0 rfl) ?_
          refine S_aldq hC hK hT (q0 := 3) (t0 := 5) rfl rfl (j := k) (by decide) rfl (by omega) dX5_says_25 ?_
          rw [q2]
          refine lv_aload_n hx hb dX5_says_26 rfl (lv_at hl 3 rfl) ?_
          refine callHolds (d := DEP) (fun e _ => cond_ok G l e) hD hC hK hl hP hS (fun q h => h) ((CT.keep hS.2.1 _).1 _ _ q3) q926 hRR rfl dX5_says_27 (fun v w1 H1 locs1 hpo hP1 hk1 hS1 => ?_)
          rw [fcU_z] at hpo
          obtain ⟨hv, z1, hw⟩ := hpo
          rw [hw, mV_V] at hP1
          refine lv_iconst (v := 1) hx hb dX5_says_30 (by decide) ?_
          refine lv_icmp_ne (tgt := 36) hx hb dX5_says_31 (by decide) (fun c35 => ?_) (fun c35 => ?_)
          · refine NX z1 H1 locs1 ls (fun hh => c35 ?_) hP1 hS1 hl
            have hh := hh.2
            rw [q4] at hh
            rw [hv, of_decide_eq_true hh]; rfl
          · have c35 : v = bI true := by first | exact c35 | exact Classical.not_not.mp c35
            rw [hv] at c35
            have hden := cI_b.mp c35
            refine lv_iconst (v := 1) hx hb dX5_says_34 (by decide) ?_
            refine hq _ _ _ _ _ _ _ _ dX5_says_35 hP1 hS1 rfl ⟨z1, ?_, rfl⟩ (Nat.le_refl _) (Nat.le_refl _)
            unfold anyS
            rw [hf, findW_t c9 c20 (by rw [q4]; exact decide_eq_true hden)]; rfl
  refine lv_iconst (v := 0) hx hb dX5_says_0 (by decide) ?_
  refine lv_istore_n (lv' := [(3, .int (nI 0)), (0, .ref tx), (1, .int c), (2, .ref (R 2))]) hx hb dX5_says_1 rfl hl (by decide) rfl (fun ls hl => ?_)
  exact LP _ 0 (u.1 30) sg.heap [] ls (Nat.lt_succ_self _) (Nat.zero_le _) rfl (by rw [mV_own]; exact hP) hS hl
