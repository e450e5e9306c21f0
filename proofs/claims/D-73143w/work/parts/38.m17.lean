set_option maxRecDepth 100000
set_option maxHeartbeats 4000000 in
theorem c_X6_turnGoes (G : GG) (l : Launch) (o : Nat) (R : Nat → Nat) (u : MS) (t : Nat) (Lw : LW) (ht : t < 12) (hw : WOK (u.2.1 3)) (hwt : ¬ (u.2.1 3) t = -1) (hat : atOK ((u.2.1 0) 16)) (hW : codesOK u Lw) (hN : nineW Lw) (hD : DM o R) : CMv G l o R yX6_turnGoes cX6_turnGoes 5 7 135 [.int (nI t)] u (fun w => ∃ g : Nat → Int32, ∃ f : Nat → Int32, w = (dM u ((goS Lw (snS (u.1 9) (u.2.1 5) (u.2.1 6) (u.2.1 7) (u.2.1 4)) F00 (u.2.1 3) t ((u.2.1 0), (u.1 50))).2) ((goS Lw (snS (u.1 9) (u.2.1 5) (u.2.1 6) (u.2.1 7) (u.2.1 4)) F00 (u.2.1 3) t ((u.2.1 0), (u.1 50))).1) g f)) := by
  refine CMv.mk pnX6 rfl (Nat.le_of_ble_eq_true rfl) (fun pg en Rm sg mm ar bw mth cd QQ ls hC hRm hK hP hS hl hq => ?_)
  have hx := hC.1; have hb := hC.2.1; have ho := hC.2.2.2.1; have hts := hC.2.2.2.2
  have hl : lv_has ls 5 [(0, .ref o), (1, .int (nI t))] := hl
  have hP : PM G o R (dM u (u.1 50) (u.2.1 0) (u.2.1 32) (u.2.1 33)) sg.heap := by rw [dM_self]; exact hP
  refine lv_aload_n hx hb dX6_turnGoes_0 rfl (lv_at hl 0 rfl) ?_
  refine M_get hC hK hP 0 (by decide) (fM0 _ _) q1201 dX6_turnGoes_1 ?_
  refine lv_bipush (v := 20) hx hb dX6_turnGoes_4 (by decide) ?_
  refine lv_sipush (v := 25173) hx hb dX6_turnGoes_6 (by decide) ?_
  refine lv_aload_n hx hb dX6_turnGoes_9 rfl (lv_at hl 0 rfl) ?_
  refine M_get hC hK hP 0 (by decide) (fM0 _ _) q1201 dX6_turnGoes_10 ?_
  refine lv_bipush (v := 20) hx hb dX6_turnGoes_13 (by decide) ?_
  refine M_ald hC hK hP 0 1 21 20 (aM0 _ _ _ _) (by decide) (by decide) (by omega) dX6_turnGoes_15 ?_
  refine W_top (y := ((u.2.1 0) 20)) (by rw [dM_g0]) ?_
  refine lv_imul hx hb dX6_turnGoes_16 ?_
  refine lv_sipush (v := 13849) hx hb dX6_turnGoes_17 (by decide) ?_
  refine lv_iadd hx hb dX6_turnGoes_20 ?_
  refine lv_ldc (own := RX6) (v := 65536) hx hb ho (hts _ q1200) dX6_turnGoes_21 ?_
  refine lv_irem hx hb dX6_turnGoes_23 (by decide) ?_
  refine M_ast hC hK hD hP hS 0 1 21 20 (aM0 _ _ _ _) (bM0 _ _ _ _ _ _) (by decide) (by decide) (by omega) dX6_turnGoes_24 (fun H locs hP hS => ?_)
  rw [dM_A0] at hP
  have elot : (upd (u.2.1 0) 20 (((25173 * ((u.2.1 0) 20)) + 13849) - ((25173 * ((u.2.1 0) 20)) + 13849) / 65536 * 65536)) = lotS (u.2.1 0) := by unfold lotS remI; rfl
  rw [elot] at hP
  refine lv_aload_n hx hb dX6_turnGoes_25 rfl (lv_at hl 0 rfl) ?_
  refine M_get hC hK hP 0 (by decide) (fM0 _ _) q1201 dX6_turnGoes_26 ?_
  refine lv_bipush (v := 20) hx hb dX6_turnGoes_29 (by decide) ?_
  refine M_ald hC hK hP 0 1 21 20 (aM0 _ _ _ _) (by decide) (by decide) (by omega) dX6_turnGoes_31 ?_
  refine W_top (y := ((lotS (u.2.1 0)) 20)) (by rw [dM_g0]) ?_
  refine lv_bipush (v := 10) hx hb dX6_turnGoes_32 (by decide) ?_
  refine lv_irem hx hb dX6_turnGoes_34 (by decide) ?_
  refine W_top (y := (remI (lotS (u.2.1 0) 20) 10)) (by rw [remI]) ?_
  refine lv_istore_n (lv' := [(2, .int (remI (lotS (u.2.1 0) 20) 10)), (0, .ref o), (1, .int (nI t))]) hx hb dX6_turnGoes_35 rfl hl (by decide) rfl (fun ls hl => ?_)
  refine lv_aload_n hx hb dX6_turnGoes_36 rfl (lv_at hl 1 rfl) ?_
  refine lv_aload_n hx hb dX6_turnGoes_37 rfl (lv_at hl 1 rfl) ?_
  refine M_get hC hK hP 3 (by decide) (fM3 _ _) q1204 dX6_turnGoes_38 ?_
  refine lv_iload_n hx hb dX6_turnGoes_41 rfl (lv_at hl 2 rfl) ?_
  refine M_ald hC hK hP 3 4 12 t (aM3 _ _ _ _) (by decide) (rfl) (by omega) dX6_turnGoes_42 ?_
  refine W_top (y := ((u.2.1 3) t)) (by rw [dM_g3]) ?_
  refine W_top (y := (nI (ix ((u.2.1 3) t)))) ((hw.ix ht hwt).1) ?_
  refine lv_iload_n hx hb dX6_turnGoes_43 rfl (lv_at hl 2 rfl) ?_
  refine lv_iload_n hx hb dX6_turnGoes_44 rfl (lv_at hl 0 rfl) ?_
  refine CMv.call hC hK hS (fun q h => h) hl (c_X6_isCarried G l o R (dM u (u.1 50) (lotS (u.2.1 0)) (u.2.1 32) (u.2.1 33)) (ix ((u.2.1 3) t)) (nI t) (remI (lotS (u.2.1 0) 20) 10) Lw ((hw.ix ht hwt).2) (codesOK_dM hW) (hN) hD) hP rfl q1569 q1571 qs80 q116 q1572 mdX6_isCarried (room_ok hRm rfl) rfl rfl dX6_turnGoes_45 (fun w45 H locs hpo hP _ _ hS => ?_)
  obtain ⟨g_1, f_2, ew45⟩ := hpo
  rw [ew45] at hP
  rw [dM_again] at hP
  simp only [dM_f50, dM_f9, dM_g0, dM_g4, dM_g5, dM_g6, dM_g7] at hP
  obtain ⟨q1, hq1⟩ : ∃ q1 : DS, carS Lw (snS (u.1 9) (u.2.1 5) (u.2.1 6) (u.2.1 7) (u.2.1 4)) F00 (ix ((u.2.1 3) t)) (nI t) (remI (lotS (u.2.1 0) 20) 10) ((lotS (u.2.1 0)), (u.1 50)) = q1 := ⟨_, rfl⟩
  rw [hq1] at hP
  have hcq : carQ Lw (snS (u.1 9) (u.2.1 5) (u.2.1 6) (u.2.1 7) (u.2.1 4)) F00 (u.2.1 3) t ((u.2.1 0), (u.1 50)) = q1 := by unfold carQ; exact hq1
  have hat1 : atOK (q1.1 16) := by rw [← hcq]; exact carQ_at (hw.ix ht hwt).2 hat
  refine lv_aload_n hx hb dX6_turnGoes_48 rfl (lv_at hl 1 rfl) ?_
  refine M_get hC hK hP 0 (by decide) (fM0 _ _) q1201 dX6_turnGoes_49 ?_
  refine lv_bipush (v := 16) hx hb dX6_turnGoes_52 (by decide) ?_
  refine M_ald hC hK hP 0 1 21 16 (aM0 _ _ _ _) (by decide) (by decide) (by omega) dX6_turnGoes_54 ?_
  refine W_top (y := (q1.1 16)) (by rw [dM_g0]) ?_
  refine lv_istore_n (lv' := [(3, .int (q1.1 16)), (2, .int (remI (lotS (u.2.1 0) 20) 10)), (0, .ref o), (1, .int (nI t))]) hx hb dX6_turnGoes_55 rfl hl (by decide) rfl (fun ls hl => ?_)
  refine lv_iload_n hx hb dX6_turnGoes_56 rfl (lv_at hl 0 rfl) ?_
  refine lv_iconst (v := (-1)) hx hb dX6_turnGoes_57 (by decide) ?_
  refine lv_icmp_ne (tgt := 62) hx hb dX6_turnGoes_58 (by decide) (fun c58 => ?_) (fun c58 => ?_)
  · obtain ⟨ej, hj⟩ := hat1.ix c58
    generalize hjj : ix (q1.1 16) = j at ej hj
    rw [ej] at hl
    have hl : lv_has ls 5 [(3, .int (nI j)), (2, .int (remI (lotS (u.2.1 0) 20) 10)), (0, .ref o), (1, .int (nI t))] := hl
    refine lv_aload_n hx hb dX6_turnGoes_62 rfl (lv_at hl 2 rfl) ?_
    refine lv_iload_n hx hb dX6_turnGoes_63 rfl (lv_at hl 0 rfl) ?_
    refine lv_iload_n hx hb dX6_turnGoes_64 rfl (lv_at hl 3 rfl) ?_
    refine lv_iload_n hx hb dX6_turnGoes_65 rfl (lv_at hl 1 rfl) ?_
    refine CMv.call hC hK hS (fun q h => h) hl (c_X6_feels G l o R (dM u q1.2 q1.1 g_1 f_2) j (nI t) (remI (lotS (u.2.1 0) 20) 10) (hj) hD) hP rfl q1573 q1575 qs81 q116 q1576 mdX6_feels (room_ok hRm rfl) rfl rfl dX6_turnGoes_66 (fun w66 H locs hpo hP _ _ hS => ?_)
    have ew66 := hpo
    rw [ew66] at hP
    rw [dM_S33] at hP
    simp only [dM_f9, dM_g0, dM_g33, dM_g4, dM_g5, dM_g6, dM_g7] at hP
    refine lv_aload_n hx hb dX6_turnGoes_69 rfl (lv_at hl 2 rfl) ?_
    refine lv_iload_n hx hb dX6_turnGoes_70 rfl (lv_at hl 0 rfl) ?_
    refine lv_iload_n hx hb dX6_turnGoes_71 rfl (lv_at hl 3 rfl) ?_
    refine CI.callV hC hK hl (c_X6_seenBy G l o R (dM u q1.2 q1.1 g_1 (fctU f_2 (nI j) (nI t) (remI (lotS (u.2.1 0) 20) 10) (q1.1 16) (q1.1 17) (q1.1 18) (q1.1 19) ((snS (u.1 9) (u.2.1 5) (u.2.1 6) (u.2.1 7) (u.2.1 4)) j (nI t)))) j (nI t) (hj)) hP (hP.recv hK) q1406 q1408 qs46 q116 q1409 mdX6_seenBy (room_ok hRm rfl) rfl rfl dX6_turnGoes_72 ?_
    refine W_top (y := (seenS (u.1 9) (u.2.1 5) (u.2.1 6) (u.2.1 7) ((u.2.1 4) j) (nI t))) (by simp only [dM_f9, dM_g4, dM_g5, dM_g6, dM_g7]) ?_
    refine W_top (y := ((snS (u.1 9) (u.2.1 5) (u.2.1 6) (u.2.1 7) (u.2.1 4)) j (nI t))) (by rw [snS]) ?_
    refine lv_istore (lv' := [(4, .int ((snS (u.1 9) (u.2.1 5) (u.2.1 6) (u.2.1 7) (u.2.1 4)) j (nI t))), (3, .int (nI j)), (2, .int (remI (lotS (u.2.1 0) 20) 10)), (0, .ref o), (1, .int (nI t))]) hx hb dX6_turnGoes_75 hl (by decide) rfl (fun ls hl => ?_)
    refine lv_aload_n hx hb dX6_turnGoes_77 rfl (lv_at hl 3 rfl) ?_
    refine M_get hC hK hP 0 (by decide) (fM0 _ _) q1201 dX6_turnGoes_78 ?_
    refine lv_iconst (v := 0) hx hb dX6_turnGoes_81 (by decide) ?_
    refine lv_iload_n hx hb dX6_turnGoes_82 rfl (lv_at hl 1 rfl) ?_
    refine lv_iadd hx hb dX6_turnGoes_83 ?_
    refine W_top (y := (nI j)) (Int32.zero_add _) ?_
    refine lv_ldcw (own := RX6) (v := 99999) hx hb ho (hts _ q1601) dX6_turnGoes_84 ?_
    refine lv_aload_n hx hb dX6_turnGoes_87 rfl (lv_at hl 3 rfl) ?_
    refine M_get hC hK hP 0 (by decide) (fM0 _ _) q1201 dX6_turnGoes_88 ?_
    refine lv_iconst (v := 0) hx hb dX6_turnGoes_91 (by decide) ?_
    refine lv_iload_n hx hb dX6_turnGoes_92 rfl (lv_at hl 1 rfl) ?_
    refine lv_iadd hx hb dX6_turnGoes_93 ?_
    refine W_top (y := (nI j)) (Int32.zero_add _) ?_
    refine M_ald hC hK hP 0 1 21 j (aM0 _ _ _ _) (by decide) (rfl) (by omega) dX6_turnGoes_94 ?_
    refine W_top (y := (q1.1 j)) (by rw [dM_g0]) ?_
    refine lv_aload_n hx hb dX6_turnGoes_95 rfl (lv_at hl 3 rfl) ?_
    refine lv_bipush (v := 106) hx hb dX6_turnGoes_96 (by decide) ?_
    refine lv_bipush (v := 99) hx hb dX6_turnGoes_98 (by decide) ?_
    refine lv_iload hx hb dX6_turnGoes_100 (lv_at hl 0 rfl) ?_
    refine CI.callS hC hK hl (c_X6_bits G l ((snS (u.1 9) (u.2.1 5) (u.2.1 6) (u.2.1 7) (u.2.1 4)) j (nI t)) ) trivial q1580 q1581 q116 q1582 mdX6_bits (room_ok hRm rfl) rfl rfl dX6_turnGoes_102 ?_
    refine lv_aload_n hx hb dX6_turnGoes_105 rfl (lv_at hl 3 rfl) ?_
    refine M_get hC hK hP 0 (by decide) (fM0 _ _) q1201 dX6_turnGoes_106 ?_
    refine lv_bipush (v := 17) hx hb dX6_turnGoes_109 (by decide) ?_
    refine M_ald hC hK hP 0 1 21 17 (aM0 _ _ _ _) (by decide) (by decide) (by omega) dX6_turnGoes_111 ?_
    refine W_top (y := (q1.1 17)) (by rw [dM_g0]) ?_
    refine CI.callS hC hK hl (c_X6_bits G l (q1.1 17) ) trivial q1580 q1581 q116 q1582 mdX6_bits (room_ok hRm rfl) rfl rfl dX6_turnGoes_112 ?_
    refine lv_iadd hx hb dX6_turnGoes_115 ?_
    refine CMi.call hC hK hS (fun q h => h) hl (c_X6_byLaw G l o R (dM u q1.2 q1.1 g_1 (fctU f_2 (nI j) (nI t) (remI (lotS (u.2.1 0) 20) 10) (q1.1 16) (q1.1 17) (q1.1 18) (q1.1 19) ((snS (u.1 9) (u.2.1 5) (u.2.1 6) (u.2.1 7) (u.2.1 4)) j (nI t)))) 106 99 ((bitsI ((snS (u.1 9) (u.2.1 5) (u.2.1 6) (u.2.1 7) (u.2.1 4)) j (nI t))) + (bitsI (q1.1 17))) Lw (codesOK_dM hW) (by decide) hD) hP rfl q1594 q1596 qs84 q116 q1597 mdX6_byLaw (room_ok hRm rfl) rfl rfl dX6_turnGoes_116 (fun r116 w116 H locs hpo hP _ _ hS => ?_)
    obtain ⟨g_3, er116, ew116⟩ := hpo
    rw [ew116] at hP
    simp only [dM_g33] at er116
    refine W_top (y := (byLawS Lw 106 99 ((bitsI ((snS (u.1 9) (u.2.1 5) (u.2.1 6) (u.2.1 7) (u.2.1 4)) j (nI t))) + (bitsI (q1.1 17))) (fctU f_2 (nI j) (nI t) (remI (lotS (u.2.1 0) 20) 10) (q1.1 16) (q1.1 17) (q1.1 18) (q1.1 19) ((snS (u.1 9) (u.2.1 5) (u.2.1 6) (u.2.1 7) (u.2.1 4)) j (nI t))))) er116 ?_
    rw [dM_S32] at hP
    refine W_top (y := (byLawS Lw 106 99 (bitsI ((snS (u.1 9) (u.2.1 5) (u.2.1 6) (u.2.1 7) (u.2.1 4)) j (nI t)) + bitsI (q1.1 17)) (factS (snS (u.1 9) (u.2.1 5) (u.2.1 6) (u.2.1 7) (u.2.1 4)) F00 q1.1 j (nI t) (remI (lotS (u.2.1 0) 20) 10)))) (byLawS_nine hN (fun i hi => fctU_any hi)) ?_
    refine lv_iadd hx hb dX6_turnGoes_119 ?_
    refine CI.callS hC hK hl (c_X6_min G l 99999 ((q1.1 j) + (byLawS Lw 106 99 (bitsI ((snS (u.1 9) (u.2.1 5) (u.2.1 6) (u.2.1 7) (u.2.1 4)) j (nI t)) + bitsI (q1.1 17)) (factS (snS (u.1 9) (u.2.1 5) (u.2.1 6) (u.2.1 7) (u.2.1 4)) F00 q1.1 j (nI t) (remI (lotS (u.2.1 0) 20) 10)))) ) trivial q1598 q1599 q116 q1600 mdX6_min (room_ok hRm rfl) rfl rfl dX6_turnGoes_120 ?_
    refine M_ast hC hK hD hP hS 0 1 21 j (aM0 _ _ _ _) (bM0 _ _ _ _ _ _) (by decide) (rfl) (by omega) dX6_turnGoes_123 (fun H locs hP hS => ?_)
    rw [dM_A0] at hP
    refine lv_iload hx hb dX6_turnGoes_124 (lv_at hl 0 rfl) ?_
    refine lv_if_eq (tgt := 138) hx hb dX6_turnGoes_126 (by decide) (fun c126 => ?_) (fun c126 => ?_)
    · exact hq _ _ _ _ _ dX6_turnGoes_138 hP hS (by first | exact ⟨g_3, (fctU f_2 (nI j) (nI t) (remI (lotS (u.2.1 0) 20) 10) (q1.1 16) (q1.1 17) (q1.1 18) (q1.1 19) ((snS (u.1 9) (u.2.1 5) (u.2.1 6) (u.2.1 7) (u.2.1 4)) j (nI t))), by unfold goS; rw [hcq, gladS_z c58 hjj c126]⟩ | exact ⟨g_3, (fctU f_2 (nI j) (nI t) (remI (lotS (u.2.1 0) 20) 10) (q1.1 16) (q1.1 17) (q1.1 18) (q1.1 19) ((snS (u.1 9) (u.2.1 5) (u.2.1 6) (u.2.1 7) (u.2.1 4)) j (nI t))), by unfold goS; rw [hcq, gladS_p c58 hjj c126]⟩)
    · refine lv_aload_n hx hb dX6_turnGoes_129 rfl (lv_at hl 3 rfl) ?_
      refine M_get hC hK hP 0 (by decide) (fM0 _ _) q1201 dX6_turnGoes_130 ?_
      refine lv_bipush (v := 17) hx hb dX6_turnGoes_133 (by decide) ?_
      refine lv_iload hx hb dX6_turnGoes_135 (lv_at hl 0 rfl) ?_
      refine M_ast hC hK hD hP hS 0 1 21 17 (aM0 _ _ _ _) (bM0 _ _ _ _ _ _) (by decide) (by decide) (by omega) dX6_turnGoes_137 (fun H locs hP hS => ?_)
      rw [dM_A0] at hP
      exact hq _ _ _ _ _ dX6_turnGoes_138 hP hS (by first | exact ⟨g_3, (fctU f_2 (nI j) (nI t) (remI (lotS (u.2.1 0) 20) 10) (q1.1 16) (q1.1 17) (q1.1 18) (q1.1 19) ((snS (u.1 9) (u.2.1 5) (u.2.1 6) (u.2.1 7) (u.2.1 4)) j (nI t))), by unfold goS; rw [hcq, gladS_z c58 hjj c126]⟩ | exact ⟨g_3, (fctU f_2 (nI j) (nI t) (remI (lotS (u.2.1 0) 20) 10) (q1.1 16) (q1.1 17) (q1.1 18) (q1.1 19) ((snS (u.1 9) (u.2.1 5) (u.2.1 6) (u.2.1 7) (u.2.1 4)) j (nI t))), by unfold goS; rw [hcq, gladS_p c58 hjj c126]⟩)
  · exact hq _ _ _ _ _ dX6_turnGoes_61 hP hS (by exact ⟨g_1, f_2, by unfold goS; rw [hcq, gladS_n c58]⟩)
