set_option maxRecDepth 100000
set_option maxHeartbeats 4000000 in
theorem c_X6_isCarried (G : GG) (l : Launch) (o : Nat) (R : Nat → Nat) (u : MS) (h : Nat) (t : Int32) (d : Int32) (Lw : LW) (hh : h < 16) (hW : codesOK u Lw) (hN : nineW Lw) (hD : DM o R) : CMv G l o R yX6_isCarried cX6_isCarried 5 6 111 [.int (nI h), .int t, .int d] u (fun w => ∃ g : Nat → Int32, ∃ f : Nat → Int32, w = (dM u ((carS Lw (snS (u.1 9) (u.2.1 5) (u.2.1 6) (u.2.1 7) (u.2.1 4)) F00 h t d ((u.2.1 0), (u.1 50))).2) ((carS Lw (snS (u.1 9) (u.2.1 5) (u.2.1 6) (u.2.1 7) (u.2.1 4)) F00 h t d ((u.2.1 0), (u.1 50))).1) g f)) := by
  refine CMv.mk pnX6 rfl (Nat.le_of_ble_eq_true rfl) (fun pg en Rm sg mm ar bw mth cd QQ ls hC hRm hK hP hS hl hq => ?_)
  have hx := hC.1; have hb := hC.2.1; have ho := hC.2.2.2.1; have hts := hC.2.2.2.2
  have hl : lv_has ls 5 [(0, .ref o), (1, .int (nI h)), (2, .int t), (3, .int d)] := hl
  have hP : PM G o R (dM u (u.1 50) (u.2.1 0) (u.2.1 32) (u.2.1 33)) sg.heap := by rw [dM_self]; exact hP
  refine lv_aload_n hx hb dX6_isCarried_0 rfl (lv_at hl 0 rfl) ?_
  refine lv_iload_n hx hb dX6_isCarried_1 rfl (lv_at hl 1 rfl) ?_
  refine lv_iload_n hx hb dX6_isCarried_2 rfl (lv_at hl 2 rfl) ?_
  refine lv_iload_n hx hb dX6_isCarried_3 rfl (lv_at hl 3 rfl) ?_
  refine CMv.call hC hK hS (fun q h => h) hl (c_X6_feels G l o R (dM u (u.1 50) (u.2.1 0) (u.2.1 32) (u.2.1 33)) h t d (by first | assumption | omega | rfl | (simp_all; done)) hD) hP rfl q1573 q1575 qs81 q116 q1576 mdX6_feels (room_ok hRm rfl) rfl rfl dX6_isCarried_4 (fun w4 H locs hpo hP _ _ hS => ?_)
  have ew4 := hpo
  rw [ew4] at hP
  rw [dM_S33] at hP
  simp only [dM_f9, dM_g0, dM_g33, dM_g4, dM_g5, dM_g6, dM_g7] at hP
  refine lv_aload_n hx hb dX6_isCarried_7 rfl (lv_at hl 0 rfl) ?_
  refine lv_bipush (v := 120) hx hb dX6_isCarried_8 (by decide) ?_
  refine CMi.call hC hK hS (fun q h => h) hl (c_X6_holdsAny G l o R (dM u (u.1 50) (u.2.1 0) (u.2.1 32) (fctU (u.2.1 33) (nI h) t d ((u.2.1 0) 16) ((u.2.1 0) 17) ((u.2.1 0) 18) ((u.2.1 0) 19) ((snS (u.1 9) (u.2.1 5) (u.2.1 6) (u.2.1 7) (u.2.1 4)) h t))) 120 Lw (codesOK_dM hW) hD) hP rfl q1583 q1585 qs82 q116 q1586 mdX6_holdsAny (room_ok hRm rfl) rfl rfl dX6_isCarried_10 (fun r10 w10 H locs hpo hP _ _ hS => ?_)
  obtain ⟨g_1, er10, ew10⟩ := hpo
  rw [ew10] at hP
  simp only [dM_g33] at er10
  refine W_top (y := (bI (anyS Lw 120 (fctU (u.2.1 33) (nI h) t d ((u.2.1 0) 16) ((u.2.1 0) 17) ((u.2.1 0) 18) ((u.2.1 0) 19) ((snS (u.1 9) (u.2.1 5) (u.2.1 6) (u.2.1 7) (u.2.1 4)) h t))))) er10 ?_
  rw [dM_S32] at hP
  refine W_top (y := (bI (anyS Lw 120 (factS (snS (u.1 9) (u.2.1 5) (u.2.1 6) (u.2.1 7) (u.2.1 4)) F00 (u.2.1 0) h t d)))) (congrArg bI (anyS_nine hN (fun i hi => fctU_any hi))) ?_
  refine lv_if_ne (tgt := 27) hx hb dX6_isCarried_13 (by decide) (fun c13 => ?_) (fun c13 => ?_)
  · have c13 : (anyS Lw 120 (factS (snS (u.1 9) (u.2.1 5) (u.2.1 6) (u.2.1 7) (u.2.1 4)) F00 (u.2.1 0) h t d)) = true := bI_1.mp c13
    exact hq _ _ _ _ _ dX6_isCarried_27 hP hS (by have hst : staysB Lw (snS (u.1 9) (u.2.1 5) (u.2.1 6) (u.2.1 7) (u.2.1 4)) F00 (u.2.1 0) h t d = true := (by first | (simp [staysB, c13]; done) | (simp [staysB, c24]; done)); exact ⟨g_1, (fctU (u.2.1 33) (nI h) t d ((u.2.1 0) 16) ((u.2.1 0) 17) ((u.2.1 0) 18) ((u.2.1 0) 19) ((snS (u.1 9) (u.2.1 5) (u.2.1 6) (u.2.1 7) (u.2.1 4)) h t)), by rw [carS_t hst]⟩)
  · have c13 : (anyS Lw 120 (factS (snS (u.1 9) (u.2.1 5) (u.2.1 6) (u.2.1 7) (u.2.1 4)) F00 (u.2.1 0) h t d)) = false := bI_0.mp c13
    refine lv_aload_n hx hb dX6_isCarried_16 rfl (lv_at hl 0 rfl) ?_
    refine M_get hC hK hP 0 (by decide) (fM0 _ _) q1201 dX6_isCarried_17 ?_
    refine lv_bipush (v := 16) hx hb dX6_isCarried_20 (by decide) ?_
    refine M_ald hC hK hP 0 1 21 16 (aM0 _ _ _ _) (by decide) (by decide) (by omega) dX6_isCarried_22 ?_
    refine W_top (y := ((u.2.1 0) 16)) (by rw [dM_g0]) ?_
    refine lv_iload_n hx hb dX6_isCarried_23 rfl (lv_at hl 1 rfl) ?_
    refine lv_icmp_ne (tgt := 28) hx hb dX6_isCarried_24 (by decide) (fun c24 => ?_) (fun c24 => ?_)
    · refine lv_aload_n hx hb dX6_isCarried_28 rfl (lv_at hl 0 rfl) ?_
      refine lv_bipush (v := 99) hx hb dX6_isCarried_29 (by decide) ?_
      refine lv_bipush (v := 9) hx hb dX6_isCarried_31 (by decide) ?_
      refine lv_iconst (v := 0) hx hb dX6_isCarried_33 (by decide) ?_
      refine CMi.call hC hK hS (fun q h => h) hl (c_X6_byLaw G l o R (dM u (u.1 50) (u.2.1 0) g_1 (fctU (u.2.1 33) (nI h) t d ((u.2.1 0) 16) ((u.2.1 0) 17) ((u.2.1 0) 18) ((u.2.1 0) 19) ((snS (u.1 9) (u.2.1 5) (u.2.1 6) (u.2.1 7) (u.2.1 4)) h t))) 99 9 0 Lw (codesOK_dM hW) (by decide) hD) hP rfl q1594 q1596 qs84 q116 q1597 mdX6_byLaw (room_ok hRm rfl) rfl rfl dX6_isCarried_34 (fun r34 w34 H locs hpo hP _ _ hS => ?_)
      obtain ⟨g_2, er34, ew34⟩ := hpo
      rw [ew34] at hP
      simp only [dM_g33] at er34
      refine W_top (y := (byLawS Lw 99 9 0 (fctU (u.2.1 33) (nI h) t d ((u.2.1 0) 16) ((u.2.1 0) 17) ((u.2.1 0) 18) ((u.2.1 0) 19) ((snS (u.1 9) (u.2.1 5) (u.2.1 6) (u.2.1 7) (u.2.1 4)) h t)))) er34 ?_
      rw [dM_S32] at hP
      refine W_top (y := (byLawS Lw 99 9 0 (factS (snS (u.1 9) (u.2.1 5) (u.2.1 6) (u.2.1 7) (u.2.1 4)) F00 (u.2.1 0) h t d))) (byLawS_nine hN (fun i hi => fctU_any hi)) ?_
      refine lv_sipush (v := 9999) hx hb dX6_isCarried_37 (by decide) ?_
      refine lv_aload_n hx hb dX6_isCarried_40 rfl (lv_at hl 0 rfl) ?_
      refine M_get hC hK hP 0 (by decide) (fM0 _ _) q1201 dX6_isCarried_41 ?_
      refine lv_bipush (v := 18) hx hb dX6_isCarried_44 (by decide) ?_
      refine M_ald hC hK hP 0 1 21 18 (aM0 _ _ _ _) (by decide) (by decide) (by omega) dX6_isCarried_46 ?_
      refine W_top (y := ((u.2.1 0) 18)) (by rw [dM_g0]) ?_
      refine lv_isub hx hb dX6_isCarried_47 ?_
      refine CI.callS hC hK hl (c_X6_min G l (byLawS Lw 99 9 0 (factS (snS (u.1 9) (u.2.1 5) (u.2.1 6) (u.2.1 7) (u.2.1 4)) F00 (u.2.1 0) h t d)) (9999 - ((u.2.1 0) 18)) ) trivial q1598 q1599 q116 q1600 mdX6_min (room_ok hRm rfl) rfl rfl dX6_isCarried_48 ?_
      refine lv_istore (lv' := [(4, .int (mnI (byLawS Lw 99 9 0 (factS (snS (u.1 9) (u.2.1 5) (u.2.1 6) (u.2.1 7) (u.2.1 4)) F00 (u.2.1 0) h t d)) (9999 - ((u.2.1 0) 18)))), (0, .ref o), (1, .int (nI h)), (2, .int t), (3, .int d)]) hx hb dX6_isCarried_51 hl (by decide) rfl (fun ls hl => ?_)
      refine lv_aload_n hx hb dX6_isCarried_53 rfl (lv_at hl 1 rfl) ?_
      refine M_get hC hK hP 0 (by decide) (fM0 _ _) q1201 dX6_isCarried_54 ?_
      refine lv_bipush (v := 18) hx hb dX6_isCarried_57 (by decide) ?_
      refine lv_aload_n hx hb dX6_isCarried_59 rfl (lv_at hl 1 rfl) ?_
      refine M_get hC hK hP 0 (by decide) (fM0 _ _) q1201 dX6_isCarried_60 ?_
      refine lv_bipush (v := 18) hx hb dX6_isCarried_63 (by decide) ?_
      refine M_ald hC hK hP 0 1 21 18 (aM0 _ _ _ _) (by decide) (by decide) (by omega) dX6_isCarried_65 ?_
      refine W_top (y := ((u.2.1 0) 18)) (by rw [dM_g0]) ?_
      refine lv_iload hx hb dX6_isCarried_66 (lv_at hl 0 rfl) ?_
      refine lv_iadd hx hb dX6_isCarried_68 ?_
      refine M_ast hC hK hD hP hS 0 1 21 18 (aM0 _ _ _ _) (bM0 _ _ _ _ _ _) (by decide) (by decide) (by omega) dX6_isCarried_69 (fun H locs hP hS => ?_)
      rw [dM_A0] at hP
      refine lv_aload_n hx hb dX6_isCarried_70 rfl (lv_at hl 1 rfl) ?_
      refine lv_aload_n hx hb dX6_isCarried_71 rfl (lv_at hl 1 rfl) ?_
      refine M_get hC hK hP 50 (by decide) (fM50 _ _) q1251 dX6_isCarried_72 ?_
      refine W_top (y := (u.1 50)) (by rw [dM_f50]) ?_
      refine lv_iload hx hb dX6_isCarried_75 (lv_at hl 0 rfl) ?_
      refine lv_iadd hx hb dX6_isCarried_77 ?_
      refine M_put hC hK hD hP hS 50 (by decide) (sM50 _ _ _) q1251 rfl dX6_isCarried_78 (fun H locs hP hS => ?_)
      rw [dM_V50] at hP
      refine lv_aload_n hx hb dX6_isCarried_81 rfl (lv_at hl 1 rfl) ?_
      refine M_get hC hK hP 0 (by decide) (fM0 _ _) q1201 dX6_isCarried_82 ?_
      refine lv_bipush (v := 16) hx hb dX6_isCarried_85 (by decide) ?_
      refine lv_iload_n hx hb dX6_isCarried_87 rfl (lv_at hl 2 rfl) ?_
      refine M_ast hC hK hD hP hS 0 1 21 16 (aM0 _ _ _ _) (bM0 _ _ _ _ _ _) (by decide) (by decide) (by omega) dX6_isCarried_88 (fun H locs hP hS => ?_)
      rw [dM_A0] at hP
      exact hq _ _ _ _ _ dX6_isCarried_89 hP hS (by have hst : staysB Lw (snS (u.1 9) (u.2.1 5) (u.2.1 6) (u.2.1 7) (u.2.1 4)) F00 (u.2.1 0) h t d = false := (by simp [staysB, c13, c24]); exact ⟨g_2, (fctU (u.2.1 33) (nI h) t d ((u.2.1 0) 16) ((u.2.1 0) 17) ((u.2.1 0) 18) ((u.2.1 0) 19) ((snS (u.1 9) (u.2.1 5) (u.2.1 6) (u.2.1 7) (u.2.1 4)) h t)), by rw [carS_f hst]⟩)
    · exact hq _ _ _ _ _ dX6_isCarried_27 hP hS (by have hst : staysB Lw (snS (u.1 9) (u.2.1 5) (u.2.1 6) (u.2.1 7) (u.2.1 4)) F00 (u.2.1 0) h t d = true := (by first | (simp [staysB, c13]; done) | (simp [staysB, c24]; done)); exact ⟨g_1, (fctU (u.2.1 33) (nI h) t d ((u.2.1 0) 16) ((u.2.1 0) 17) ((u.2.1 0) 18) ((u.2.1 0) 19) ((snS (u.1 9) (u.2.1 5) (u.2.1 6) (u.2.1 7) (u.2.1 4)) h t)), by rw [carS_t hst]⟩)
