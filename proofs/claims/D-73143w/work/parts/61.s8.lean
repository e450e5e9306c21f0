set_option maxRecDepth 100000
theorem jo_z {f n2 : Nat → Int32} {j k : Nat} {x : Int32} (h : f k = n2 k) : upd f j x k = upd n2 j x k := by
  unfold upd; split
  · rfl
  · exact h
theorem jo_p {f n2 : Nat → Int32} {j k : Nat} {x y : Int32} (hk : k < 16) (h : f k = n2 k) : upd f j x k = upd (upd n2 j x) 17 y k := by
  rw [upd_n (g := upd n2 j x) y (by omega)]; exact jo_z h
theorem lotS_20 (nw : Nat → Int32) : lotS nw 20 = lot1 (nw 20) := by unfold lotS lot1; exact upd_s _ _ _
theorem carQ_lot {Lw : LW} {sn : Nat → Int32 → Int32} {F0 w nw : Nat → Int32} {t : Nat} {cn : Int32} : carQ Lw sn F0 w t (nw, cn) = carS Lw sn F0 (ix (w t)) (nI t) (remI (lot1 (nw 20)) 10) (lotS nw, cn) := by
  unfold carQ; rw [show (nw, cn).1 = nw from rfl, lotS_20]
theorem goS_lot {Lw : LW} {sn : Nat → Int32 → Int32} {F0 w nw : Nat → Int32} {t : Nat} {cn : Int32} : goS Lw sn F0 w t (nw, cn) = (gladS Lw sn F0 (nI t) (remI (lot1 (nw 20)) 10) (carS Lw sn F0 (ix (w t)) (nI t) (remI (lot1 (nw 20)) 10) (lotS nw, cn)).1, (carS Lw sn F0 (ix (w t)) (nI t) (remI (lot1 (nw 20)) 10) (lotS nw, cn)).2) := by
  unfold goS; rw [carQ_lot, show (nw, cn).1 = nw from rfl, lotS_20]
set_option maxHeartbeats 4000000 in
theorem c_X4_isCarried_street (G : GG) (l : Launch) (o : Nat) (R : Nat → Nat) (tx : Nat) (u : MS) (h : Nat) (t : Int32) (d : Int32) (Lw : LW) (nw : Nat → Int32) (hh : h < 16) (hrow : rowA u 40 nw) (hok : dOK nw) (hsd : PB (u.2.1 21)) (hfc : PB (u.2.1 20)) (hN : nineW Lw) (hD : DwS o R) : CXv G l (PwS G o R tx) (AwS o R) yX4_isCarried cX4_isCarried 6 306 12184 0 0 [.ref (R 3), .int (nI h), .int t, .int d] (fun H => PwS G o R tx u H ∧ TxW G (AwS o R) tx Lw H) (fun w => ∃ z : Int32, ∃ F : Nat → Int32, w = (dSa u z F ((carS Lw (snS (u.1 25) (u.2.1 21) (u.2.1 22) (u.2.1 23) (u.2.1 20)) F00 h t d (nw, (u.1 46))).1 16) (nw 17) ((carS Lw (snS (u.1 25) (u.2.1 21) (u.2.1 22) (u.2.1 23) (u.2.1 20)) F00 h t d (nw, (u.1 46))).1 18) (nw 19) (nw 20) ((carS Lw (snS (u.1 25) (u.2.1 21) (u.2.1 22) (u.2.1 23) (u.2.1 20)) F00 h t d (nw, (u.1 46))).2) (u.2.1 40))) := by
  refine CXv.mk RX4 pnX4 rfl (Nat.le_of_ble_eq_true rfl) (fun pg en Rm sg mm ar bw mth cd QQ ls hC hRm hK hX hS hl hq => ?_)
  have hx := hC.1; have hb := hC.2.1; have ho := hC.2.2.2.1; have hts := hC.2.2.2.2
  obtain ⟨hP, hX2⟩ := hX
  have hl : lv_has ls 6 [(0, .ref (R 3)), (1, .int (nI h)), (2, .int t), (3, .int d)] := hl
  have hP : PwS G o R tx (dSa u (u.1 30) (fcU u) (u.1 41) (u.1 42) (u.1 43) (u.1 44) (u.1 45) (u.1 46) (u.2.1 40)) sg.heap := by rw [dSa_self]; exact hP
  have hr1 : u.1 41 = nw 16 := hrow.1
  have hr2 : u.1 42 = nw 17 := hrow.2.1
  have hr3 : u.1 43 = nw 18 := hrow.2.2.1
  have hr4 : u.1 44 = nw 19 := hrow.2.2.2.1
  have hr5 : u.1 45 = nw 20 := hrow.2.2.2.2.1
  have hjo : ∀ k, k < 16 → u.2.1 40 k = nw k := hrow.2.2.2.2.2
  rw [hr1, hr2, hr3, hr4, hr5] at hP
  refine lv_aload_n hx hb dX4_isCarried_0 rfl (lv_at hl 0 rfl) ?_
  refine lv_iload_n hx hb dX4_isCarried_1 rfl (lv_at hl 1 rfl) ?_
  refine lv_iload_n hx hb dX4_isCarried_2 rfl (lv_at hl 2 rfl) ?_
  refine lv_iload_n hx hb dX4_isCarried_3 rfl (lv_at hl 3 rfl) ?_
  refine CXq.go (rcV hC hl (c_X4_asked_street G l o R tx (dSa u (u.1 30) (fcU u) (nw 16) (nw 17) (nw 18) (nw 19) (nw 20) (u.1 46) (u.2.1 40)) h t d (hh) (hok.2.1) (hsd) (hfc) hD) hK hP (va_recv hK.1 hP clX4 (oS_street _ _ _ _ _)) q889 q891 qs26 q114 q892 mdX4_asked (room_s hRm rfl) rfl rfl dX4_isCarried_4) hS (fun q h => h) (fun r4 w4 H locs hpo hP _ _ hS => ?_)
  obtain ⟨er4, ew4⟩ := hpo
  rw [ew4] at hP
  subst er4
  rw [dSa_mo] at hP
  simp only [dSa_f25, dSa_f41, dSa_f42, dSa_f43, dSa_f44, dSa_g20, dSa_g21, dSa_g22, dSa_g23] at hP
  refine lv_astore (lv' := [(4, .ref (R 2)), (0, .ref (R 3)), (1, .int (nI h)), (2, .int t), (3, .int d)]) hx hb dX4_isCarried_7 hl (by decide) rfl (fun ls hl => ?_)
  refine lv_aload_n hx hb dX4_isCarried_9 rfl (lv_at hl 1 rfl) ?_
  refine S_get hC hK hP (oS_street _ _ _ _ _) clX4 in_X4 7 (by decide) (fD47 _ _ _ _) q241 dX4_isCarried_10 ?_
  refine S_getN hC hK hP (oS_main _ _ _ _ _) clX0 in_X0 7 (by decide) (fD7 _ _ _ _) nq304 dX4_isCarried_13 ?_
  refine lv_bipush (v := 120) hx hb dX4_isCarried_16 (by decide) ?_
  refine lv_aload hx hb dX4_isCarried_18 (lv_at hl 0 rfl) ?_
  refine CXi.go (rcV hC hl (c_X5_says G l o R tx (dSa u (u.1 30) (fctU F00 (nI h) t d (nw 16) (nw 17) (nw 18) (nw 19) ((snS (u.1 25) (u.2.1 21) (u.2.1 22) (u.2.1 23) (u.2.1 20)) h t)) (nw 16) (nw 17) (nw 18) (nw 19) (nw 20) (u.1 46) (u.2.1 40)) Lw 120  hD) hK ⟨hP, (TxW.keep hS.2.1 hX2)⟩ (TxW.recv hK (TxW.keep hS.2.1 hX2)) q922 q923 q924 q115 q925 mdX5_says (room_s hRm rfl) rfl rfl dX4_isCarried_20) hS (fun q h => h) (fun r20 w20 H locs hpo hP _ _ hS => ?_)
  obtain ⟨z_1, er20, ew20⟩ := hpo
  rw [ew20] at hP
  refine W_top (y := (bI (anyS Lw 120 (fcU (dSa u (u.1 30) (fctU F00 (nI h) t d (nw 16) (nw 17) (nw 18) (nw 19) ((snS (u.1 25) (u.2.1 21) (u.2.1 22) (u.2.1 23) (u.2.1 20)) h t)) (nw 16) (nw 17) (nw 18) (nw 19) (nw 20) (u.1 46) (u.2.1 40)))))) er20 ?_
  rw [dSa_V30] at hP
  refine W_top (y := (bI (anyS Lw 120 (fctU F00 (nI h) t d (nw 16) (nw 17) (nw 18) (nw 19) ((snS (u.1 25) (u.2.1 21) (u.2.1 22) (u.2.1 23) (u.2.1 20)) h t))))) (congrArg bI (anyS_nine hN (dSa_fc _ _ _ _ _ _ _ _ _ _))) ?_
  refine lv_if_ne (tgt := 34) hx hb dX4_isCarried_23 (by decide) (fun c23 => ?_) (fun c23 => ?_)
  · have c23 : (anyS Lw 120 (fctU F00 (nI h) t d (nw 16) (nw 17) (nw 18) (nw 19) ((snS (u.1 25) (u.2.1 21) (u.2.1 22) (u.2.1 23) (u.2.1 20)) h t))) = true := bI_1.mp c23
    exact hq _ _ _ _ _ _ _ dX4_isCarried_34 hP hS (by have hst : staysB Lw (snS (u.1 25) (u.2.1 21) (u.2.1 22) (u.2.1 23) (u.2.1 20)) F00 nw h t d = true := (by unfold staysB factS; first | (rw [c23]; rfl) | (rw [show decide (nw 16 = nI h) = true from decide_eq_true (by first | exact c31 | exact Classical.not_not.mp c31)]; simp)); exact ⟨_, _, by rw [carS_t hst]⟩) (by decide) (by decide)
  · have c23 : (anyS Lw 120 (fctU F00 (nI h) t d (nw 16) (nw 17) (nw 18) (nw 19) ((snS (u.1 25) (u.2.1 21) (u.2.1 22) (u.2.1 23) (u.2.1 20)) h t))) = false := bI_0.mp c23
    refine lv_aload_n hx hb dX4_isCarried_26 rfl (lv_at hl 1 rfl) ?_
    refine S_get hC hK hP (oS_street _ _ _ _ _) clX4 in_X4 1 (by decide) (fD41 _ _ _ _) q229 dX4_isCarried_27 ?_
    refine W_top (y := (nw 16)) (by rw [dSa_f41]) ?_
    refine lv_iload_n hx hb dX4_isCarried_30 rfl (lv_at hl 2 rfl) ?_
    refine lv_icmp_ne (tgt := 35) hx hb dX4_isCarried_31 (by decide) (fun c31 => ?_) (fun c31 => ?_)
    · refine lv_aload_n hx hb dX4_isCarried_35 rfl (lv_at hl 1 rfl) ?_
      refine S_get hC hK hP (oS_street _ _ _ _ _) clX4 in_X4 7 (by decide) (fD47 _ _ _ _) q241 dX4_isCarried_36 ?_
      refine S_getN hC hK hP (oS_main _ _ _ _ _) clX0 in_X0 7 (by decide) (fD7 _ _ _ _) nq304 dX4_isCarried_39 ?_
      refine lv_bipush (v := 99) hx hb dX4_isCarried_42 (by decide) ?_
      refine lv_iconst (v := 0) hx hb dX4_isCarried_44 (by decide) ?_
      refine lv_aload hx hb dX4_isCarried_45 (lv_at hl 0 rfl) ?_
      refine CXi.go (rcV hC hl (c_X5_tells G l o R tx (dSa u z_1 (fctU F00 (nI h) t d (nw 16) (nw 17) (nw 18) (nw 19) ((snS (u.1 25) (u.2.1 21) (u.2.1 22) (u.2.1 23) (u.2.1 20)) h t)) (nw 16) (nw 17) (nw 18) (nw 19) (nw 20) (u.1 46) (u.2.1 40)) Lw 99 0 (by decide) hD) hK ⟨hP, (TxW.keep hS.2.1 hX2)⟩ (TxW.recv hK (TxW.keep hS.2.1 hX2)) q962 q963 q964 q115 q965 mdX5_tells (room_s hRm rfl) rfl rfl dX4_isCarried_47) hS (fun q h => h) (fun r47 w47 H locs hpo hP _ _ hS => ?_)
      obtain ⟨z_2, er47, ew47⟩ := hpo
      rw [ew47] at hP
      refine W_top (y := (tellS Lw 99 0 (fcU (dSa u z_1 (fctU F00 (nI h) t d (nw 16) (nw 17) (nw 18) (nw 19) ((snS (u.1 25) (u.2.1 21) (u.2.1 22) (u.2.1 23) (u.2.1 20)) h t)) (nw 16) (nw 17) (nw 18) (nw 19) (nw 20) (u.1 46) (u.2.1 40))))) er47 ?_
      rw [dSa_V30] at hP
      refine W_top (y := (tellS Lw 99 0 (fctU F00 (nI h) t d (nw 16) (nw 17) (nw 18) (nw 19) ((snS (u.1 25) (u.2.1 21) (u.2.1 22) (u.2.1 23) (u.2.1 20)) h t)))) (tellS_nine hN (dSa_fc _ _ _ _ _ _ _ _ _ _)) ?_
      refine lv_bipush (v := 9) hx hb dX4_isCarried_50 (by decide) ?_
      refine CIs.go (rcSN hC hl (c_X0_held G l (tellS Lw 99 0 (fctU F00 (nI h) t d (nw 16) (nw 17) (nw 18) (nw 19) ((snS (u.1 25) (u.2.1 21) (u.2.1 22) (u.2.1 23) (u.2.1 20)) h t))) 9 ) hK trivial nq974 q975 q110 q976 mdX0_held (room_s hRm rfl) rfl rfl dX4_isCarried_52) ?_
      refine W_top (y := (byLawS Lw 99 9 0 (fctU F00 (nI h) t d (nw 16) (nw 17) (nw 18) (nw 19) ((snS (u.1 25) (u.2.1 21) (u.2.1 22) (u.2.1 23) (u.2.1 20)) h t)))) (held_by (by decide) (by decide)) ?_
      refine lv_istore (lv' := [(5, .int (byLawS Lw 99 9 0 (fctU F00 (nI h) t d (nw 16) (nw 17) (nw 18) (nw 19) ((snS (u.1 25) (u.2.1 21) (u.2.1 22) (u.2.1 23) (u.2.1 20)) h t)))), (4, .ref (R 2)), (0, .ref (R 3)), (1, .int (nI h)), (2, .int t), (3, .int d)]) hx hb dX4_isCarried_55 hl (by decide) rfl (fun ls hl => ?_)
      refine lv_aload_n hx hb dX4_isCarried_57 rfl (lv_at hl 2 rfl) ?_
      refine lv_dup hx hb dX4_isCarried_58 rfl ?_
      refine S_get hC hK hP (oS_street _ _ _ _ _) clX4 in_X4 6 (by decide) (fD46 _ _ _ _) q239 dX4_isCarried_59 ?_
      refine W_top (y := (u.1 46)) (by rw [dSa_f46]) ?_
      refine lv_iload hx hb dX4_isCarried_62 (lv_at hl 0 rfl) ?_
      refine lv_sipush (v := 9999) hx hb dX4_isCarried_64 (by decide) ?_
      refine lv_aload_n hx hb dX4_isCarried_67 rfl (lv_at hl 2 rfl) ?_
      refine S_get hC hK hP (oS_street _ _ _ _ _) clX4 in_X4 3 (by decide) (fD43 _ _ _ _) q233 dX4_isCarried_68 ?_
      refine W_top (y := (nw 18)) (by rw [dSa_f43]) ?_
      refine lv_isub hx hb dX4_isCarried_71 ?_
      refine S_min hC hl q979 q468 q120 q469 (room_m hRm rfl) rfl dX4_isCarried_72 ?_
      refine lv_iadd hx hb dX4_isCarried_75 ?_
      refine S_put hC hK hP (hD _ _ _) hS (oS_street _ _ _ _ _) clX4 in_X4 tyX4_ok nmX4 6 (by decide) (pS46 _ _ _ _ _ _) q239 rfl rfl rfl rfl (Nat.le_of_ble_eq_true rfl) dX4_isCarried_76 (fun H locs hP hS => ?_)
      rw [dSa_V46] at hP
      refine lv_aload_n hx hb dX4_isCarried_79 rfl (lv_at hl 2 rfl) ?_
      refine lv_sipush (v := 9999) hx hb dX4_isCarried_80 (by decide) ?_
      refine lv_aload_n hx hb dX4_isCarried_83 rfl (lv_at hl 2 rfl) ?_
      refine S_get hC hK hP (oS_street _ _ _ _ _) clX4 in_X4 3 (by decide) (fD43 _ _ _ _) q233 dX4_isCarried_84 ?_
      refine W_top (y := (nw 18)) (by rw [dSa_f43]) ?_
      refine lv_iload hx hb dX4_isCarried_87 (lv_at hl 0 rfl) ?_
      refine lv_iadd hx hb dX4_isCarried_89 ?_
      refine S_min hC hl q979 q468 q120 q469 (room_m hRm rfl) rfl dX4_isCarried_90 ?_
      refine W_top (y := (nw 18 + mnI (byLawS Lw 99 9 0 (fctU F00 (nI h) t d (nw 16) (nw 17) (nw 18) (nw 19) ((snS (u.1 25) (u.2.1 21) (u.2.1 22) (u.2.1 23) (u.2.1 20)) h t))) (9999 - nw 18))) (crk_eq hok) ?_
      refine S_put hC hK hP (hD _ _ _) hS (oS_street _ _ _ _ _) clX4 in_X4 tyX4_ok nmX4 3 (by decide) (pS43 _ _ _ _ _ _) q233 rfl rfl rfl rfl (Nat.le_of_ble_eq_true rfl) dX4_isCarried_93 (fun H locs hP hS => ?_)
      rw [dSa_V43] at hP
      refine lv_aload_n hx hb dX4_isCarried_96 rfl (lv_at hl 2 rfl) ?_
      refine lv_iload_n hx hb dX4_isCarried_97 rfl (lv_at hl 3 rfl) ?_
      refine S_put hC hK hP (hD _ _ _) hS (oS_street _ _ _ _ _) clX4 in_X4 tyX4_ok nmX4 1 (by decide) (pS41 _ _ _ _ _ _) q229 rfl rfl rfl rfl (Nat.le_of_ble_eq_true rfl) dX4_isCarried_98 (fun H locs hP hS => ?_)
      rw [dSa_V41] at hP
      exact hq _ _ _ _ _ _ _ dX4_isCarried_101 hP hS (by have hst : staysB Lw (snS (u.1 25) (u.2.1 21) (u.2.1 22) (u.2.1 23) (u.2.1 20)) F00 nw h t d = false := (by unfold staysB factS; rw [c23, show decide (nw 16 = nI h) = false from decide_eq_false c31]; rfl); exact ⟨_, _, by rw [carS_f hst]; rfl⟩) (by decide) (by decide)
    · exact hq _ _ _ _ _ _ _ dX4_isCarried_34 hP hS (by have hst : staysB Lw (snS (u.1 25) (u.2.1 21) (u.2.1 22) (u.2.1 23) (u.2.1 20)) F00 nw h t d = true := (by unfold staysB factS; first | (rw [c23]; rfl) | (rw [show decide (nw 16 = nI h) = true from decide_eq_true (by first | exact c31 | exact Classical.not_not.mp c31)]; simp)); exact ⟨_, _, by rw [carS_t hst]⟩) (by decide) (by decide)
set_option maxHeartbeats 4000000 in
theorem c_X4_turnGoes_street (G : GG) (l : Launch) (o : Nat) (R : Nat → Nat) (tx : Nat) (u : MS) (t : Nat) (Lw : LW) (nw : Nat → Int32) (ht : t < 12) (hw : WOK (u.2.1 1)) (hwt : ¬ (u.2.1 1) t = -1) (hrow : rowA u 40 nw) (hok : dOK nw) (hsd : PB (u.2.1 21)) (hfc : PB (u.2.1 20)) (hN : nineW Lw) (hD : DwS o R) : CXv G l (PwS G o R tx) (AwS o R) yX4_turnGoes cX4_turnGoes 5 307 12209 0 0 [.ref (R 3), .int (nI t)] (fun H => PwS G o R tx u H ∧ TxW G (AwS o R) tx Lw H) (fun w => ∃ z : Int32, ∃ F : Nat → Int32, ∃ jo : Nat → Int32, (∀ k, k < 16 → jo k = (goS Lw (snS (u.1 25) (u.2.1 21) (u.2.1 22) (u.2.1 23) (u.2.1 20)) F00 (u.2.1 1) t (nw, (u.1 46))).1 k) ∧ w = (dSa u z F ((goS Lw (snS (u.1 25) (u.2.1 21) (u.2.1 22) (u.2.1 23) (u.2.1 20)) F00 (u.2.1 1) t (nw, (u.1 46))).1 16) ((goS Lw (snS (u.1 25) (u.2.1 21) (u.2.1 22) (u.2.1 23) (u.2.1 20)) F00 (u.2.1 1) t (nw, (u.1 46))).1 17) ((goS Lw (snS (u.1 25) (u.2.1 21) (u.2.1 22) (u.2.1 23) (u.2.1 20)) F00 (u.2.1 1) t (nw, (u.1 46))).1 18) ((goS Lw (snS (u.1 25) (u.2.1 21) (u.2.1 22) (u.2.1 23) (u.2.1 20)) F00 (u.2.1 1) t (nw, (u.1 46))).1 19) ((goS Lw (snS (u.1 25) (u.2.1 21) (u.2.1 22) (u.2.1 23) (u.2.1 20)) F00 (u.2.1 1) t (nw, (u.1 46))).1 20) ((goS Lw (snS (u.1 25) (u.2.1 21) (u.2.1 22) (u.2.1 23) (u.2.1 20)) F00 (u.2.1 1) t (nw, (u.1 46))).2) jo)) := by
  refine CXv.mk RX4 pnX4 rfl (Nat.le_of_ble_eq_true rfl) (fun pg en Rm sg mm ar bw mth cd QQ ls hC hRm hK hX hS hl hq => ?_)
  have hx := hC.1; have hb := hC.2.1; have ho := hC.2.2.2.1; have hts := hC.2.2.2.2
  obtain ⟨hP, hX2⟩ := hX
  have hl : lv_has ls 5 [(0, .ref (R 3)), (1, .int (nI t))] := hl
  have hP : PwS G o R tx (dSa u (u.1 30) (fcU u) (u.1 41) (u.1 42) (u.1 43) (u.1 44) (u.1 45) (u.1 46) (u.2.1 40)) sg.heap := by rw [dSa_self]; exact hP
  have hr1 : u.1 41 = nw 16 := hrow.1
  have hr2 : u.1 42 = nw 17 := hrow.2.1
  have hr3 : u.1 43 = nw 18 := hrow.2.2.1
  have hr4 : u.1 44 = nw 19 := hrow.2.2.2.1
  have hr5 : u.1 45 = nw 20 := hrow.2.2.2.2.1
  have hjo : ∀ k, k < 16 → u.2.1 40 k = nw k := hrow.2.2.2.2.2
  rw [hr1, hr2, hr3, hr4, hr5] at hP
  refine lv_aload_n hx hb dX4_turnGoes_0 rfl (lv_at hl 0 rfl) ?_
  refine CXi.go (rcV hC hl (c_X4_draw_street G l o R tx (dSa u (u.1 30) (fcU u) (nw 16) (nw 17) (nw 18) (nw 19) (nw 20) (u.1 46) (u.2.1 40))   hD) hK hP (va_recv hK.1 hP clX4 (oS_street _ _ _ _ _)) q880 q882 qs24 q114 q883 mdX4_draw (room_s hRm rfl) rfl rfl dX4_turnGoes_1) hS (fun q h => h) (fun r1 w1 H locs hpo hP _ _ hS => ?_)
  obtain ⟨er1, ew1⟩ := hpo
  rw [ew1] at hP
  simp only [dSa_f45] at er1
  refine W_top (y := (remI (lot1 (nw 20)) 10)) er1 ?_
  rw [dSa_V45] at hP
  simp only [dSa_f45] at hP
  refine lv_istore_n (lv' := [(2, .int (remI (lot1 (nw 20)) 10)), (0, .ref (R 3)), (1, .int (nI t))]) hx hb dX4_turnGoes_4 rfl hl (by decide) rfl (fun ls hl => ?_)
  refine lv_aload_n hx hb dX4_turnGoes_5 rfl (lv_at hl 1 rfl) ?_
  refine lv_aload_n hx hb dX4_turnGoes_6 rfl (lv_at hl 1 rfl) ?_
  refine S_get hC hK hP (oS_street _ _ _ _ _) clX4 in_X4 7 (by decide) (fD47 _ _ _ _) q241 dX4_turnGoes_7 ?_
  refine S_getN hC hK hP (oS_main _ _ _ _ _) clX0 in_X0 1 (by decide) (fD1 _ _ _ _) nq294 dX4_turnGoes_10 ?_
  refine lv_iload_n hx hb dX4_turnGoes_13 rfl (lv_at hl 2 rfl) ?_
  refine S_ald hC hK hP (aS1 _ _ _ _ _) (j := t) (by decide) (rfl) (by omega) dX4_turnGoes_14 ?_
  refine W_top (y := ((u.2.1 1) t)) (by rw [dSa_g1]) ?_
  refine W_top (y := (nI (ix ((u.2.1 1) t)))) ((hw.ix (t := t) ht hwt).1) ?_
  refine lv_iload_n hx hb dX4_turnGoes_15 rfl (lv_at hl 2 rfl) ?_
  refine lv_iload_n hx hb dX4_turnGoes_16 rfl (lv_at hl 0 rfl) ?_
  refine CXv.go (rcV hC hl (c_X4_isCarried_street G l o R tx (dSa u (u.1 30) (fcU u) (nw 16) (nw 17) (nw 18) (nw 19) (lot1 (nw 20)) (u.1 46) (u.2.1 40)) (ix ((u.2.1 1) t)) (nI t) (remI (lot1 (nw 20)) 10) Lw (lotS nw) ((hw.ix (t := t) ht hwt).2) (⟨rfl, rfl, rfl, rfl, (lotS_20 nw).symm, fun k hk => (hjo k hk).trans (upd_n (g := nw) _ (by omega)).symm⟩) (dOK_lot hok) (hsd) (hfc) (hN) hD) hK ⟨hP, (TxW.keep hS.2.1 hX2)⟩ (va_recv hK.1 hP clX4 (oS_street _ _ _ _ _)) q885 q887 qs25 q114 q888 mdX4_isCarried (room_s hRm rfl) rfl rfl dX4_turnGoes_17) hS (fun q h => h) (fun w17 H locs hpo hP _ _ hS => ?_)
  obtain ⟨z_1, F_2, ew17⟩ := hpo
  rw [ew17] at hP
  rw [dSa_again] at hP
  simp only [dSa_f25, dSa_f46, dSa_g20, dSa_g21, dSa_g22, dSa_g23, dSa_g40] at hP
  obtain ⟨⟨n2, c2⟩, hq2⟩ : ∃ q, carS Lw (snS (u.1 25) (u.2.1 21) (u.2.1 22) (u.2.1 23) (u.2.1 20)) F00 (ix (u.2.1 1 t)) (nI t) (remI (lot1 (nw 20)) 10) (lotS nw, u.1 46) = q := ⟨_, rfl⟩
  have hk2 : ∀ k, k ≠ 16 → k ≠ 18 → n2 k = lotS nw k := fun k h1 h2 => by have := carS_k (Lw := Lw) (sn := (snS (u.1 25) (u.2.1 21) (u.2.1 22) (u.2.1 23) (u.2.1 20))) (F0 := F00) (nw := lotS nw) (h := ix (u.2.1 1 t)) (t := nI t) (d := remI (lot1 (nw 20)) 10) (cn := u.1 46) h1 h2; rw [hq2] at this; exact this
  have ho2 : dOK n2 := by have := dOK_car (Lw := Lw) (sn := (snS (u.1 25) (u.2.1 21) (u.2.1 22) (u.2.1 23) (u.2.1 20))) (F0 := F00) (t := nI t) (d := remI (lot1 (nw 20)) 10) (cn := u.1 46) (hw.ix (t := t) ht hwt).2 (dOK_lot hok); rw [hq2] at this; exact this
  have hjo2 : ∀ k, k < 16 → u.2.1 40 k = n2 k := fun k hk => (hjo k hk).trans ((upd_n (g := nw) _ (by omega)).symm.trans (hk2 k (by omega) (by omega)).symm)
  have e17 : n2 17 = nw 17 := (hk2 17 (by decide) (by decide)).trans (upd_n _ (by decide))
  have e19 : n2 19 = nw 19 := (hk2 19 (by decide) (by decide)).trans (upd_n _ (by decide))
  have e20 : n2 20 = lot1 (nw 20) := (hk2 20 (by decide) (by decide)).trans (lotS_20 nw)
  have e16 : (carS Lw (snS (u.1 25) (u.2.1 21) (u.2.1 22) (u.2.1 23) (u.2.1 20)) F00 (ix (u.2.1 1 t)) (nI t) (remI (lot1 (nw 20)) 10) (lotS nw, u.1 46)).1 16 = n2 16 := by rw [hq2]
  have e18 : (carS Lw (snS (u.1 25) (u.2.1 21) (u.2.1 22) (u.2.1 23) (u.2.1 20)) F00 (ix (u.2.1 1 t)) (nI t) (remI (lot1 (nw 20)) 10) (lotS nw, u.1 46)).1 18 = n2 18 := by rw [hq2]
  have e2 : (carS Lw (snS (u.1 25) (u.2.1 21) (u.2.1 22) (u.2.1 23) (u.2.1 20)) F00 (ix (u.2.1 1 t)) (nI t) (remI (lot1 (nw 20)) 10) (lotS nw, u.1 46)).2 = c2 := by rw [hq2]
  have hP : PwS G o R tx (dSa u z_1 F_2 (n2 16) (n2 17) (n2 18) (n2 19) (n2 20) c2 (u.2.1 40)) H := by rw [← e16, ← e18, ← e2, e17, e19, e20]; exact hP
  refine lv_aload_n hx hb dX4_turnGoes_20 rfl (lv_at hl 1 rfl) ?_
  refine S_get hC hK hP (oS_street _ _ _ _ _) clX4 in_X4 1 (by decide) (fD41 _ _ _ _) q229 dX4_turnGoes_21 ?_
  refine W_top (y := (n2 16)) (by rw [dSa_f41]) ?_
  refine lv_iconst (v := (-1)) hx hb dX4_turnGoes_24 (by decide) ?_
  refine lv_icmp_ne (tgt := 29) hx hb dX4_turnGoes_25 (by decide) (fun c25 => ?_) (fun c25 => ?_)
  · have hj := (ho2.1.ix c25).1
    have hj16 := (ho2.1.ix c25).2
    refine lv_aload_n hx hb dX4_turnGoes_29 rfl (lv_at hl 1 rfl) ?_
    refine S_get hC hK hP (oS_street _ _ _ _ _) clX4 in_X4 7 (by decide) (fD47 _ _ _ _) q241 dX4_turnGoes_30 ?_
    refine S_getN hC hK hP (oS_main _ _ _ _ _) clX0 in_X0 0 (by decide) (fD0 _ _ _ _) nq290 dX4_turnGoes_33 ?_
    refine lv_aload_n hx hb dX4_turnGoes_36 rfl (lv_at hl 1 rfl) ?_
    refine S_get hC hK hP (oS_street _ _ _ _ _) clX4 in_X4 1 (by decide) (fD41 _ _ _ _) q229 dX4_turnGoes_37 ?_
    refine W_top (y := (n2 16)) (by rw [dSa_f41]) ?_
    refine W_top (y := (nI (ix (n2 16)))) (hj) ?_
    refine lv_iload_n hx hb dX4_turnGoes_40 rfl (lv_at hl 2 rfl) ?_
    refine CIs.go (rcV hC hl (c_X1_seen_plan G l o R tx (dSa u z_1 F_2 (n2 16) (n2 17) (n2 18) (n2 19) (n2 20) c2 (u.2.1 40)) (ix (n2 16)) (nI t) (hj16) (hsd) (hfc)) hK hP (va_recv hK.1 hP clX1 (oS_plan _ _ _ _ _)) q893 q894 q895 q111 q896 mdX1_seen (room_s hRm rfl) rfl rfl dX4_turnGoes_41) ?_
    refine W_top (y := (seenS (u.1 25) (u.2.1 21) (u.2.1 22) (u.2.1 23) ((u.2.1 20) (ix (n2 16))) (nI t))) (by simp only [dSa_f25, dSa_g20, dSa_g21, dSa_g22, dSa_g23]) ?_
    refine W_top (y := ((snS (u.1 25) (u.2.1 21) (u.2.1 22) (u.2.1 23) (u.2.1 20)) (ix (n2 16)) (nI t))) (rfl) ?_
    refine lv_istore_n (lv' := [(3, .int ((snS (u.1 25) (u.2.1 21) (u.2.1 22) (u.2.1 23) (u.2.1 20)) (ix (n2 16)) (nI t))), (2, .int (remI (lot1 (nw 20)) 10)), (0, .ref (R 3)), (1, .int (nI t))]) hx hb dX4_turnGoes_44 rfl hl (by decide) rfl (fun ls hl => ?_)
    refine lv_aload_n hx hb dX4_turnGoes_45 rfl (lv_at hl 2 rfl) ?_
    refine S_get hC hK hP (oS_street _ _ _ _ _) clX4 in_X4 7 (by decide) (fD47 _ _ _ _) q241 dX4_turnGoes_46 ?_
    refine S_getN hC hK hP (oS_main _ _ _ _ _) clX0 in_X0 7 (by decide) (fD7 _ _ _ _) nq304 dX4_turnGoes_49 ?_
    refine lv_bipush (v := 106) hx hb dX4_turnGoes_52 (by decide) ?_
    refine lv_iload_n hx hb dX4_turnGoes_54 rfl (lv_at hl 0 rfl) ?_
    refine CIs.go (rcS hC hl (c_J6_bitCount G l ((snS (u.1 25) (u.2.1 21) (u.2.1 22) (u.2.1 23) (u.2.1 20)) (ix (n2 16)) (nI t)) (sB_seenS _ _ _ _ _ _)) hK trivial q905 q906 q135 q907 mdJ6_bitCount (room_s hRm rfl) rfl rfl dX4_turnGoes_55) ?_
    refine lv_aload_n hx hb dX4_turnGoes_58 rfl (lv_at hl 2 rfl) ?_
    refine S_get hC hK hP (oS_street _ _ _ _ _) clX4 in_X4 2 (by decide) (fD42 _ _ _ _) q231 dX4_turnGoes_59 ?_
    refine W_top (y := (n2 17)) (by rw [dSa_f42]) ?_
    refine CIs.go (rcS hC hl (c_J6_bitCount G l (n2 17) (ho2.2.1)) hK trivial q905 q906 q135 q907 mdJ6_bitCount (room_s hRm rfl) rfl rfl dX4_turnGoes_62) ?_
    refine lv_iadd hx hb dX4_turnGoes_65 ?_
    refine lv_aload_n hx hb dX4_turnGoes_66 rfl (lv_at hl 2 rfl) ?_
    refine lv_aload_n hx hb dX4_turnGoes_67 rfl (lv_at hl 2 rfl) ?_
    refine S_get hC hK hP (oS_street _ _ _ _ _) clX4 in_X4 1 (by decide) (fD41 _ _ _ _) q229 dX4_turnGoes_68 ?_
    refine W_top (y := (n2 16)) (by rw [dSa_f41]) ?_
    refine W_top (y := (nI (ix (n2 16)))) (hj) ?_
    refine lv_iload_n hx hb dX4_turnGoes_71 rfl (lv_at hl 3 rfl) ?_
    refine lv_iload_n hx hb dX4_turnGoes_72 rfl (lv_at hl 1 rfl) ?_
    refine CXq.go (rcV hC hl (c_X4_asked_street G l o R tx (dSa u z_1 F_2 (n2 16) (n2 17) (n2 18) (n2 19) (n2 20) c2 (u.2.1 40)) (ix (n2 16)) (nI t) (remI (lot1 (nw 20)) 10) (hj16) (ho2.2.1) (hsd) (hfc) hD) hK hP (va_recv hK.1 hP clX4 (oS_street _ _ _ _ _)) q889 q891 qs26 q114 q892 mdX4_asked (room_s hRm rfl) rfl rfl dX4_turnGoes_73) hS (fun q h => h) (fun r73 w73 H locs hpo hP _ _ hS => ?_)
    obtain ⟨er73, ew73⟩ := hpo
    rw [ew73] at hP
    subst er73
    rw [dSa_mo] at hP
    simp only [dSa_f25, dSa_f41, dSa_f42, dSa_f43, dSa_f44, dSa_g20, dSa_g21, dSa_g22, dSa_g23] at hP
    refine CXi.go (rcV hC hl (c_X5_tells G l o R tx (dSa u z_1 (fctU F00 (nI (ix (n2 16))) (nI t) (remI (lot1 (nw 20)) 10) (n2 16) (n2 17) (n2 18) (n2 19) ((snS (u.1 25) (u.2.1 21) (u.2.1 22) (u.2.1 23) (u.2.1 20)) (ix (n2 16)) (nI t))) (n2 16) (n2 17) (n2 18) (n2 19) (n2 20) c2 (u.2.1 40)) Lw 106 ((bitsI ((snS (u.1 25) (u.2.1 21) (u.2.1 22) (u.2.1 23) (u.2.1 20)) (ix (n2 16)) (nI t))) + (bitsI (n2 17))) (by decide) hD) hK ⟨hP, (TxW.keep hS.2.1 hX2)⟩ (TxW.recv hK (TxW.keep hS.2.1 hX2)) q962 q963 q964 q115 q965 mdX5_tells (room_s hRm rfl) rfl rfl dX4_turnGoes_76) hS (fun q h => h) (fun r76 w76 H locs hpo hP _ _ hS => ?_)
    obtain ⟨z_3, er76, ew76⟩ := hpo
    rw [ew76] at hP
    refine W_top (y := (tellS Lw 106 ((bitsI ((snS (u.1 25) (u.2.1 21) (u.2.1 22) (u.2.1 23) (u.2.1 20)) (ix (n2 16)) (nI t))) + (bitsI (n2 17))) (fcU (dSa u z_1 (fctU F00 (nI (ix (n2 16))) (nI t) (remI (lot1 (nw 20)) 10) (n2 16) (n2 17) (n2 18) (n2 19) ((snS (u.1 25) (u.2.1 21) (u.2.1 22) (u.2.1 23) (u.2.1 20)) (ix (n2 16)) (nI t))) (n2 16) (n2 17) (n2 18) (n2 19) (n2 20) c2 (u.2.1 40))))) er76 ?_
    rw [dSa_V30] at hP
    refine W_top (y := (tellS Lw 106 (bitsI ((snS (u.1 25) (u.2.1 21) (u.2.1 22) (u.2.1 23) (u.2.1 20)) (ix (n2 16)) (nI t)) + bitsI (n2 17)) (fctU F00 (nI (ix (n2 16))) (nI t) (remI (lot1 (nw 20)) 10) (n2 16) (n2 17) (n2 18) (n2 19) ((snS (u.1 25) (u.2.1 21) (u.2.1 22) (u.2.1 23) (u.2.1 20)) (ix (n2 16)) (nI t))))) (tellS_nine hN (dSa_fc _ _ _ _ _ _ _ _ _ _)) ?_
    refine lv_bipush (v := 99) hx hb dX4_turnGoes_79 (by decide) ?_
    refine CIs.go (rcSN hC hl (c_X0_held G l (tellS Lw 106 (bitsI ((snS (u.1 25) (u.2.1 21) (u.2.1 22) (u.2.1 23) (u.2.1 20)) (ix (n2 16)) (nI t)) + bitsI (n2 17)) (fctU F00 (nI (ix (n2 16))) (nI t) (remI (lot1 (nw 20)) 10) (n2 16) (n2 17) (n2 18) (n2 19) ((snS (u.1 25) (u.2.1 21) (u.2.1 22) (u.2.1 23) (u.2.1 20)) (ix (n2 16)) (nI t)))) 99 ) hK trivial nq974 q975 q110 q976 mdX0_held (room_s hRm rfl) rfl rfl dX4_turnGoes_81) ?_
    refine W_top (y := (byLawS Lw 106 99 (bitsI ((snS (u.1 25) (u.2.1 21) (u.2.1 22) (u.2.1 23) (u.2.1 20)) (ix (n2 16)) (nI t)) + bitsI (n2 17)) (fctU F00 (nI (ix (n2 16))) (nI t) (remI (lot1 (nw 20)) 10) (n2 16) (n2 17) (n2 18) (n2 19) ((snS (u.1 25) (u.2.1 21) (u.2.1 22) (u.2.1 23) (u.2.1 20)) (ix (n2 16)) (nI t))))) (held_by bits2_b.1 bits2_b.2) ?_
    refine lv_istore (lv' := [(4, .int (byLawS Lw 106 99 (bitsI ((snS (u.1 25) (u.2.1 21) (u.2.1 22) (u.2.1 23) (u.2.1 20)) (ix (n2 16)) (nI t)) + bitsI (n2 17)) (fctU F00 (nI (ix (n2 16))) (nI t) (remI (lot1 (nw 20)) 10) (n2 16) (n2 17) (n2 18) (n2 19) ((snS (u.1 25) (u.2.1 21) (u.2.1 22) (u.2.1 23) (u.2.1 20)) (ix (n2 16)) (nI t))))), (3, .int ((snS (u.1 25) (u.2.1 21) (u.2.1 22) (u.2.1 23) (u.2.1 20)) (ix (n2 16)) (nI t))), (2, .int (remI (lot1 (nw 20)) 10)), (0, .ref (R 3)), (1, .int (nI t))]) hx hb dX4_turnGoes_84 hl (by decide) rfl (fun ls hl => ?_)
    refine lv_aload_n hx hb dX4_turnGoes_86 rfl (lv_at hl 3 rfl) ?_
    refine S_get hC hK hP (oS_street _ _ _ _ _) clX4 in_X4 0 (by decide) (fD40 _ _ _ _) q227 dX4_turnGoes_87 ?_
    refine lv_aload_n hx hb dX4_turnGoes_90 rfl (lv_at hl 3 rfl) ?_
    refine S_get hC hK hP (oS_street _ _ _ _ _) clX4 in_X4 1 (by decide) (fD41 _ _ _ _) q229 dX4_turnGoes_91 ?_
    refine W_top (y := (n2 16)) (by rw [dSa_f41]) ?_
    refine W_top (y := (nI (ix (n2 16)))) (hj) ?_
    refine lv_ldc (own := RX4) (v := 99999) hx hb ho (hts _ q980) dX4_turnGoes_94 ?_
    refine lv_aload_n hx hb dX4_turnGoes_96 rfl (lv_at hl 3 rfl) ?_
    refine S_get hC hK hP (oS_street _ _ _ _ _) clX4 in_X4 0 (by decide) (fD40 _ _ _ _) q227 dX4_turnGoes_97 ?_
    refine lv_aload_n hx hb dX4_turnGoes_100 rfl (lv_at hl 3 rfl) ?_
    refine S_get hC hK hP (oS_street _ _ _ _ _) clX4 in_X4 1 (by decide) (fD41 _ _ _ _) q229 dX4_turnGoes_101 ?_
    refine W_top (y := (n2 16)) (by rw [dSa_f41]) ?_
    refine W_top (y := (nI (ix (n2 16)))) (hj) ?_
    refine S_ald hC hK hP (aS40 _ _ _ _ _) (j := (ix (n2 16))) (by decide) (rfl) (by omega) dX4_turnGoes_104 ?_
    refine W_top (y := ((u.2.1 40) (ix (n2 16)))) (by rw [dSa_g40]) ?_
    refine W_top (y := (n2 (ix (n2 16)))) (hjo2 _ hj16) ?_
    refine lv_iload hx hb dX4_turnGoes_105 (lv_at hl 0 rfl) ?_
    refine lv_iadd hx hb dX4_turnGoes_107 ?_
    refine S_min hC hl q979 q468 q120 q469 (room_m hRm rfl) rfl dX4_turnGoes_108 ?_
    refine S_ast hC hK hP (hD _ _ _) hS (aS40 _ _ _ _ _) (bS40 _ _ _ _ _ _ _) (j := (ix (n2 16))) (by decide) (rfl) (by omega) dX4_turnGoes_111 (fun H locs hP hS => ?_)
    rw [dSa_A40] at hP
    refine lv_aload_n hx hb dX4_turnGoes_112 rfl (lv_at hl 3 rfl) ?_
    refine lv_iload_n hx hb dX4_turnGoes_113 rfl (lv_at hl 1 rfl) ?_
    refine lv_if_ne (tgt := 124) hx hb dX4_turnGoes_114 (by decide) (fun c114 => ?_) (fun c114 => ?_)
    · refine lv_iload_n hx hb dX4_turnGoes_124 rfl (lv_at hl 1 rfl) ?_
      refine S_put hC hK hP (hD _ _ _) hS (oS_street _ _ _ _ _) clX4 in_X4 tyX4_ok nmX4 2 (by decide) (pS42 _ _ _ _ _ _) q231 rfl rfl rfl rfl (Nat.le_of_ble_eq_true rfl) dX4_turnGoes_125 (fun H locs hP hS => ?_)
      rw [dSa_V42] at hP
      exact hq _ _ _ _ _ _ _ dX4_turnGoes_128 hP hS (by have ha2 : atOK (n2 16) := ho2.1; have hG : goS Lw (snS (u.1 25) (u.2.1 21) (u.2.1 22) (u.2.1 23) (u.2.1 20)) F00 (u.2.1 1) t (nw, (u.1 46)) = (gladS Lw (snS (u.1 25) (u.2.1 21) (u.2.1 22) (u.2.1 23) (u.2.1 20)) F00 (nI t) (remI (lot1 (nw 20)) 10) n2, c2) := (by rw [goS_lot, hq2]); first | (exact ⟨z_3, (fctU F00 (nI (ix (n2 16))) (nI t) (remI (lot1 (nw 20)) 10) (n2 16) (n2 17) (n2 18) (n2 19) ((snS (u.1 25) (u.2.1 21) (u.2.1 22) (u.2.1 23) (u.2.1 20)) (ix (n2 16)) (nI t))), (upd (u.2.1 40) (ix (n2 16)) (mnI 99999 ((n2 (ix (n2 16))) + (byLawS Lw 106 99 (bitsI ((snS (u.1 25) (u.2.1 21) (u.2.1 22) (u.2.1 23) (u.2.1 20)) (ix (n2 16)) (nI t)) + bitsI (n2 17)) (fctU F00 (nI (ix (n2 16))) (nI t) (remI (lot1 (nw 20)) 10) (n2 16) (n2 17) (n2 18) (n2 19) ((snS (u.1 25) (u.2.1 21) (u.2.1 22) (u.2.1 23) (u.2.1 20)) (ix (n2 16)) (nI t))))))), (fun k hk => by rw [hG]; rw [gladS_z c25 rfl (show (snS (u.1 25) (u.2.1 21) (u.2.1 22) (u.2.1 23) (u.2.1 20)) (ix (n2 16)) (nI t) = 0 from (by first | exact c114 | exact Classical.not_not.mp c114))]; exact jo_z (hjo2 k hk)), by rw [hG]; simp only [gladS_16 ha2, gladS_k (k := 18) (by decide) ha2, gladS_k (k := 19) (by decide) ha2, gladS_k (k := 20) (by decide) ha2, gladS_17z c25 ha2 (show (snS (u.1 25) (u.2.1 21) (u.2.1 22) (u.2.1 23) (u.2.1 20)) (ix (n2 16)) (nI t) = 0 from (by first | exact c114 | exact Classical.not_not.mp c114))]⟩) | (exact ⟨z_3, (fctU F00 (nI (ix (n2 16))) (nI t) (remI (lot1 (nw 20)) 10) (n2 16) (n2 17) (n2 18) (n2 19) ((snS (u.1 25) (u.2.1 21) (u.2.1 22) (u.2.1 23) (u.2.1 20)) (ix (n2 16)) (nI t))), (upd (u.2.1 40) (ix (n2 16)) (mnI 99999 ((n2 (ix (n2 16))) + (byLawS Lw 106 99 (bitsI ((snS (u.1 25) (u.2.1 21) (u.2.1 22) (u.2.1 23) (u.2.1 20)) (ix (n2 16)) (nI t)) + bitsI (n2 17)) (fctU F00 (nI (ix (n2 16))) (nI t) (remI (lot1 (nw 20)) 10) (n2 16) (n2 17) (n2 18) (n2 19) ((snS (u.1 25) (u.2.1 21) (u.2.1 22) (u.2.1 23) (u.2.1 20)) (ix (n2 16)) (nI t))))))), (fun k hk => by rw [hG]; rw [gladS_p c25 rfl (show ¬ (snS (u.1 25) (u.2.1 21) (u.2.1 22) (u.2.1 23) (u.2.1 20)) (ix (n2 16)) (nI t) = 0 from c114)]; exact jo_p hk (hjo2 k hk)), by rw [hG]; simp only [gladS_16 ha2, gladS_k (k := 18) (by decide) ha2, gladS_k (k := 19) (by decide) ha2, gladS_k (k := 20) (by decide) ha2, gladS_17p c25 (show ¬ (snS (u.1 25) (u.2.1 21) (u.2.1 22) (u.2.1 23) (u.2.1 20)) (ix (n2 16)) (nI t) = 0 from c114)]⟩)) (by decide) (by decide)
    · refine lv_aload_n hx hb dX4_turnGoes_117 rfl (lv_at hl 3 rfl) ?_
      refine S_get hC hK hP (oS_street _ _ _ _ _) clX4 in_X4 2 (by decide) (fD42 _ _ _ _) q231 dX4_turnGoes_118 ?_
      refine W_top (y := (n2 17)) (by rw [dSa_f42]) ?_
      refine lv_goto (tgt := 125) hx hb dX4_turnGoes_121 (by decide) ?_
      refine S_put hC hK hP (hD _ _ _) hS (oS_street _ _ _ _ _) clX4 in_X4 tyX4_ok nmX4 2 (by decide) (pS42 _ _ _ _ _ _) q231 rfl rfl rfl rfl (Nat.le_of_ble_eq_true rfl) dX4_turnGoes_125 (fun H locs hP hS => ?_)
      rw [dSa_V42] at hP
      exact hq _ _ _ _ _ _ _ dX4_turnGoes_128 hP hS (by have ha2 : atOK (n2 16) := ho2.1; have hG : goS Lw (snS (u.1 25) (u.2.1 21) (u.2.1 22) (u.2.1 23) (u.2.1 20)) F00 (u.2.1 1) t (nw, (u.1 46)) = (gladS Lw (snS (u.1 25) (u.2.1 21) (u.2.1 22) (u.2.1 23) (u.2.1 20)) F00 (nI t) (remI (lot1 (nw 20)) 10) n2, c2) := (by rw [goS_lot, hq2]); first | (exact ⟨z_3, (fctU F00 (nI (ix (n2 16))) (nI t) (remI (lot1 (nw 20)) 10) (n2 16) (n2 17) (n2 18) (n2 19) ((snS (u.1 25) (u.2.1 21) (u.2.1 22) (u.2.1 23) (u.2.1 20)) (ix (n2 16)) (nI t))), (upd (u.2.1 40) (ix (n2 16)) (mnI 99999 ((n2 (ix (n2 16))) + (byLawS Lw 106 99 (bitsI ((snS (u.1 25) (u.2.1 21) (u.2.1 22) (u.2.1 23) (u.2.1 20)) (ix (n2 16)) (nI t)) + bitsI (n2 17)) (fctU F00 (nI (ix (n2 16))) (nI t) (remI (lot1 (nw 20)) 10) (n2 16) (n2 17) (n2 18) (n2 19) ((snS (u.1 25) (u.2.1 21) (u.2.1 22) (u.2.1 23) (u.2.1 20)) (ix (n2 16)) (nI t))))))), (fun k hk => by rw [hG]; rw [gladS_z c25 rfl (show (snS (u.1 25) (u.2.1 21) (u.2.1 22) (u.2.1 23) (u.2.1 20)) (ix (n2 16)) (nI t) = 0 from (by first | exact c114 | exact Classical.not_not.mp c114))]; exact jo_z (hjo2 k hk)), by rw [hG]; simp only [gladS_16 ha2, gladS_k (k := 18) (by decide) ha2, gladS_k (k := 19) (by decide) ha2, gladS_k (k := 20) (by decide) ha2, gladS_17z c25 ha2 (show (snS (u.1 25) (u.2.1 21) (u.2.1 22) (u.2.1 23) (u.2.1 20)) (ix (n2 16)) (nI t) = 0 from (by first | exact c114 | exact Classical.not_not.mp c114))]⟩) | (exact ⟨z_3, (fctU F00 (nI (ix (n2 16))) (nI t) (remI (lot1 (nw 20)) 10) (n2 16) (n2 17) (n2 18) (n2 19) ((snS (u.1 25) (u.2.1 21) (u.2.1 22) (u.2.1 23) (u.2.1 20)) (ix (n2 16)) (nI t))), (upd (u.2.1 40) (ix (n2 16)) (mnI 99999 ((n2 (ix (n2 16))) + (byLawS Lw 106 99 (bitsI ((snS (u.1 25) (u.2.1 21) (u.2.1 22) (u.2.1 23) (u.2.1 20)) (ix (n2 16)) (nI t)) + bitsI (n2 17)) (fctU F00 (nI (ix (n2 16))) (nI t) (remI (lot1 (nw 20)) 10) (n2 16) (n2 17) (n2 18) (n2 19) ((snS (u.1 25) (u.2.1 21) (u.2.1 22) (u.2.1 23) (u.2.1 20)) (ix (n2 16)) (nI t))))))), (fun k hk => by rw [hG]; rw [gladS_p c25 rfl (show ¬ (snS (u.1 25) (u.2.1 21) (u.2.1 22) (u.2.1 23) (u.2.1 20)) (ix (n2 16)) (nI t) = 0 from c114)]; exact jo_p hk (hjo2 k hk)), by rw [hG]; simp only [gladS_16 ha2, gladS_k (k := 18) (by decide) ha2, gladS_k (k := 19) (by decide) ha2, gladS_k (k := 20) (by decide) ha2, gladS_17p c25 (show ¬ (snS (u.1 25) (u.2.1 21) (u.2.1 22) (u.2.1 23) (u.2.1 20)) (ix (n2 16)) (nI t) = 0 from c114)]⟩)) (by decide) (by decide)
  · exact hq _ _ _ _ _ _ _ dX4_turnGoes_28 hP hS (by have ha2 : atOK (n2 16) := ho2.1; have hG : goS Lw (snS (u.1 25) (u.2.1 21) (u.2.1 22) (u.2.1 23) (u.2.1 20)) F00 (u.2.1 1) t (nw, (u.1 46)) = (gladS Lw (snS (u.1 25) (u.2.1 21) (u.2.1 22) (u.2.1 23) (u.2.1 20)) F00 (nI t) (remI (lot1 (nw 20)) 10) n2, c2) := (by rw [goS_lot, hq2]); exact ⟨z_1, F_2, (u.2.1 40), (fun k hk => by rw [hG]; rw [gladS_n c25]; exact hjo2 k hk), by rw [hG]; simp only [gladS_16 ha2, gladS_k (k := 18) (by decide) ha2, gladS_k (k := 19) (by decide) ha2, gladS_k (k := 20) (by decide) ha2, gladS_n c25]⟩) (by decide) (by decide)
set_option maxHeartbeats 4000000 in
theorem c_X4_isCarried_then (G : GG) (l : Launch) (o : Nat) (R : Nat → Nat) (tx : Nat) (u : MS) (h : Nat) (t : Int32) (d : Int32) (Lw : LW) (nw : Nat → Int32) (hh : h < 16) (hrow : rowA u 50 nw) (hok : dOK nw) (hsd : PB (u.2.1 21)) (hfc : PB (u.2.1 20)) (hN : nineW Lw) (hD : DwS o R) : CXv G l (PwS G o R tx) (AwS o R) yX4_isCarried cX4_isCarried 6 306 12184 0 0 [.ref (R 4), .int (nI h), .int t, .int d] (fun H => PwS G o R tx u H ∧ TxW G (AwS o R) tx Lw H) (fun w => ∃ z : Int32, ∃ F : Nat → Int32, w = (dSb u z F ((carS Lw (snS (u.1 25) (u.2.1 21) (u.2.1 22) (u.2.1 23) (u.2.1 20)) F00 h t d (nw, (u.1 56))).1 16) (nw 17) ((carS Lw (snS (u.1 25) (u.2.1 21) (u.2.1 22) (u.2.1 23) (u.2.1 20)) F00 h t d (nw, (u.1 56))).1 18) (nw 19) (nw 20) ((carS Lw (snS (u.1 25) (u.2.1 21) (u.2.1 22) (u.2.1 23) (u.2.1 20)) F00 h t d (nw, (u.1 56))).2) (u.2.1 50))) := by
  refine CXv.mk RX4 pnX4 rfl (Nat.le_of_ble_eq_true rfl) (fun pg en Rm sg mm ar bw mth cd QQ ls hC hRm hK hX hS hl hq => ?_)
  have hx := hC.1; have hb := hC.2.1; have ho := hC.2.2.2.1; have hts := hC.2.2.2.2
  obtain ⟨hP, hX2⟩ := hX
  have hl : lv_has ls 6 [(0, .ref (R 4)), (1, .int (nI h)), (2, .int t), (3, .int d)] := hl
  have hP : PwS G o R tx (dSb u (u.1 30) (fcU u) (u.1 51) (u.1 52) (u.1 53) (u.1 54) (u.1 55) (u.1 56) (u.2.1 50)) sg.heap := by rw [dSb_self]; exact hP
  have hr1 : u.1 51 = nw 16 := hrow.1
  have hr2 : u.1 52 = nw 17 := hrow.2.1
  have hr3 : u.1 53 = nw 18 := hrow.2.2.1
  have hr4 : u.1 54 = nw 19 := hrow.2.2.2.1
  have hr5 : u.1 55 = nw 20 := hrow.2.2.2.2.1
  have hjo : ∀ k, k < 16 → u.2.1 50 k = nw k := hrow.2.2.2.2.2
  rw [hr1, hr2, hr3, hr4, hr5] at hP
  refine lv_aload_n hx hb dX4_isCarried_0 rfl (lv_at hl 0 rfl) ?_
  refine lv_iload_n hx hb dX4_isCarried_1 rfl (lv_at hl 1 rfl) ?_
  refine lv_iload_n hx hb dX4_isCarried_2 rfl (lv_at hl 2 rfl) ?_
  refine lv_iload_n hx hb dX4_isCarried_3 rfl (lv_at hl 3 rfl) ?_
  refine CXq.go (rcV hC hl (c_X4_asked_then G l o R tx (dSb u (u.1 30) (fcU u) (nw 16) (nw 17) (nw 18) (nw 19) (nw 20) (u.1 56) (u.2.1 50)) h t d (hh) (hok.2.1) (hsd) (hfc) hD) hK hP (va_recv hK.1 hP clX4 (oS_then _ _ _ _ _)) q889 q891 qs26 q114 q892 mdX4_asked (room_s hRm rfl) rfl rfl dX4_isCarried_4) hS (fun q h => h) (fun r4 w4 H locs hpo hP _ _ hS => ?_)
  obtain ⟨er4, ew4⟩ := hpo
  rw [ew4] at hP
  subst er4
  rw [dSb_mo] at hP
  simp only [dSb_f25, dSb_f51, dSb_f52, dSb_f53, dSb_f54, dSb_g20, dSb_g21, dSb_g22, dSb_g23] at hP
  refine lv_astore (lv' := [(4, .ref (R 2)), (0, .ref (R 4)), (1, .int (nI h)), (2, .int t), (3, .int d)]) hx hb dX4_isCarried_7 hl (by decide) rfl (fun ls hl => ?_)
  refine lv_aload_n hx hb dX4_isCarried_9 rfl (lv_at hl 1 rfl) ?_
  refine S_get hC hK hP (oS_then _ _ _ _ _) clX4 in_X4 7 (by decide) (fD57 _ _ _ _) q241 dX4_isCarried_10 ?_
  refine S_getN hC hK hP (oS_main _ _ _ _ _) clX0 in_X0 7 (by decide) (fD7 _ _ _ _) nq304 dX4_isCarried_13 ?_
  refine lv_bipush (v := 120) hx hb dX4_isCarried_16 (by decide) ?_
  refine lv_aload hx hb dX4_isCarried_18 (lv_at hl 0 rfl) ?_
  refine CXi.go (rcV hC hl (c_X5_says G l o R tx (dSb u (u.1 30) (fctU F00 (nI h) t d (nw 16) (nw 17) (nw 18) (nw 19) ((snS (u.1 25) (u.2.1 21) (u.2.1 22) (u.2.1 23) (u.2.1 20)) h t)) (nw 16) (nw 17) (nw 18) (nw 19) (nw 20) (u.1 56) (u.2.1 50)) Lw 120  hD) hK ⟨hP, (TxW.keep hS.2.1 hX2)⟩ (TxW.recv hK (TxW.keep hS.2.1 hX2)) q922 q923 q924 q115 q925 mdX5_says (room_s hRm rfl) rfl rfl dX4_isCarried_20) hS (fun q h => h) (fun r20 w20 H locs hpo hP _ _ hS => ?_)
  obtain ⟨z_1, er20, ew20⟩ := hpo
  rw [ew20] at hP
  refine W_top (y := (bI (anyS Lw 120 (fcU (dSb u (u.1 30) (fctU F00 (nI h) t d (nw 16) (nw 17) (nw 18) (nw 19) ((snS (u.1 25) (u.2.1 21) (u.2.1 22) (u.2.1 23) (u.2.1 20)) h t)) (nw 16) (nw 17) (nw 18) (nw 19) (nw 20) (u.1 56) (u.2.1 50)))))) er20 ?_
  rw [dSb_V30] at hP
  refine W_top (y := (bI (anyS Lw 120 (fctU F00 (nI h) t d (nw 16) (nw 17) (nw 18) (nw 19) ((snS (u.1 25) (u.2.1 21) (u.2.1 22) (u.2.1 23) (u.2.1 20)) h t))))) (congrArg bI (anyS_nine hN (dSb_fc _ _ _ _ _ _ _ _ _ _))) ?_
  refine lv_if_ne (tgt := 34) hx hb dX4_isCarried_23 (by decide) (fun c23 => ?_) (fun c23 => ?_)
  · have c23 : (anyS Lw 120 (fctU F00 (nI h) t d (nw 16) (nw 17) (nw 18) (nw 19) ((snS (u.1 25) (u.2.1 21) (u.2.1 22) (u.2.1 23) (u.2.1 20)) h t))) = true := bI_1.mp c23
    exact hq _ _ _ _ _ _ _ dX4_isCarried_34 hP hS (by have hst : staysB Lw (snS (u.1 25) (u.2.1 21) (u.2.1 22) (u.2.1 23) (u.2.1 20)) F00 nw h t d = true := (by unfold staysB factS; first | (rw [c23]; rfl) | (rw [show decide (nw 16 = nI h) = true from decide_eq_true (by first | exact c31 | exact Classical.not_not.mp c31)]; simp)); exact ⟨_, _, by rw [carS_t hst]⟩) (by decide) (by decide)
  · have c23 : (anyS Lw 120 (fctU F00 (nI h) t d (nw 16) (nw 17) (nw 18) (nw 19) ((snS (u.1 25) (u.2.1 21) (u.2.1 22) (u.2.1 23) (u.2.1 20)) h t))) = false := bI_0.mp c23
    refine lv_aload_n hx hb dX4_isCarried_26 rfl (lv_at hl 1 rfl) ?_
    refine S_get hC hK hP (oS_then _ _ _ _ _) clX4 in_X4 1 (by decide) (fD51 _ _ _ _) q229 dX4_isCarried_27 ?_
    refine W_top (y := (nw 16)) (by rw [dSb_f51]) ?_
    refine lv_iload_n hx hb dX4_isCarried_30 rfl (lv_at hl 2 rfl) ?_
    refine lv_icmp_ne (tgt := 35) hx hb dX4_isCarried_31 (by decide) (fun c31 => ?_) (fun c31 => ?_)
    · refine lv_aload_n hx hb dX4_isCarried_35 rfl (lv_at hl 1 rfl) ?_
      refine S_get hC hK hP (oS_then _ _ _ _ _) clX4 in_X4 7 (by decide) (fD57 _ _ _ _) q241 dX4_isCarried_36 ?_
      refine S_getN hC hK hP (oS_main _ _ _ _ _) clX0 in_X0 7 (by decide) (fD7 _ _ _ _) nq304 dX4_isCarried_39 ?_
      refine lv_bipush (v := 99) hx hb dX4_isCarried_42 (by decide) ?_
      refine lv_iconst (v := 0) hx hb dX4_isCarried_44 (by decide) ?_
      refine lv_aload hx hb dX4_isCarried_45 (lv_at hl 0 rfl) ?_
      refine CXi.go (rcV hC hl (c_X5_tells G l o R tx (dSb u z_1 (fctU F00 (nI h) t d (nw 16) (nw 17) (nw 18) (nw 19) ((snS (u.1 25) (u.2.1 21) (u.2.1 22) (u.2.1 23) (u.2.1 20)) h t)) (nw 16) (nw 17) (nw 18) (nw 19) (nw 20) (u.1 56) (u.2.1 50)) Lw 99 0 (by decide) hD) hK ⟨hP, (TxW.keep hS.2.1 hX2)⟩ (TxW.recv hK (TxW.keep hS.2.1 hX2)) q962 q963 q964 q115 q965 mdX5_tells (room_s hRm rfl) rfl rfl dX4_isCarried_47) hS (fun q h => h) (fun r47 w47 H locs hpo hP _ _ hS => ?_)
      obtain ⟨z_2, er47, ew47⟩ := hpo
      rw [ew47] at hP
      refine W_top (y := (tellS Lw 99 0 (fcU (dSb u z_1 (fctU F00 (nI h) t d (nw 16) (nw 17) (nw 18) (nw 19) ((snS (u.1 25) (u.2.1 21) (u.2.1 22) (u.2.1 23) (u.2.1 20)) h t)) (nw 16) (nw 17) (nw 18) (nw 19) (nw 20) (u.1 56) (u.2.1 50))))) er47 ?_
      rw [dSb_V30] at hP
      refine W_top (y := (tellS Lw 99 0 (fctU F00 (nI h) t d (nw 16) (nw 17) (nw 18) (nw 19) ((snS (u.1 25) (u.2.1 21) (u.2.1 22) (u.2.1 23) (u.2.1 20)) h t)))) (tellS_nine hN (dSb_fc _ _ _ _ _ _ _ _ _ _)) ?_
      refine lv_bipush (v := 9) hx hb dX4_isCarried_50 (by decide) ?_
      refine CIs.go (rcSN hC hl (c_X0_held G l (tellS Lw 99 0 (fctU F00 (nI h) t d (nw 16) (nw 17) (nw 18) (nw 19) ((snS (u.1 25) (u.2.1 21) (u.2.1 22) (u.2.1 23) (u.2.1 20)) h t))) 9 ) hK trivial nq974 q975 q110 q976 mdX0_held (room_s hRm rfl) rfl rfl dX4_isCarried_52) ?_
      refine W_top (y := (byLawS Lw 99 9 0 (fctU F00 (nI h) t d (nw 16) (nw 17) (nw 18) (nw 19) ((snS (u.1 25) (u.2.1 21) (u.2.1 22) (u.2.1 23) (u.2.1 20)) h t)))) (held_by (by decide) (by decide)) ?_
      refine lv_istore (lv' := [(5, .int (byLawS Lw 99 9 0 (fctU F00 (nI h) t d (nw 16) (nw 17) (nw 18) (nw 19) ((snS (u.1 25) (u.2.1 21) (u.2.1 22) (u.2.1 23) (u.2.1 20)) h t)))), (4, .ref (R 2)), (0, .ref (R 4)), (1, .int (nI h)), (2, .int t), (3, .int d)]) hx hb dX4_isCarried_55 hl (by decide) rfl (fun ls hl => ?_)
      refine lv_aload_n hx hb dX4_isCarried_57 rfl (lv_at hl 2 rfl) ?_
      refine lv_dup hx hb dX4_isCarried_58 rfl ?_
      refine S_get hC hK hP (oS_then _ _ _ _ _) clX4 in_X4 6 (by decide) (fD56 _ _ _ _) q239 dX4_isCarried_59 ?_
      refine W_top (y := (u.1 56)) (by rw [dSb_f56]) ?_
      refine lv_iload hx hb dX4_isCarried_62 (lv_at hl 0 rfl) ?_
      refine lv_sipush (v := 9999) hx hb dX4_isCarried_64 (by decide) ?_
      refine lv_aload_n hx hb dX4_isCarried_67 rfl (lv_at hl 2 rfl) ?_
      refine S_get hC hK hP (oS_then _ _ _ _ _) clX4 in_X4 3 (by decide) (fD53 _ _ _ _) q233 dX4_isCarried_68 ?_
      refine W_top (y := (nw 18)) (by rw [dSb_f53]) ?_
      refine lv_isub hx hb dX4_isCarried_71 ?_
      refine S_min hC hl q979 q468 q120 q469 (room_m hRm rfl) rfl dX4_isCarried_72 ?_
      refine lv_iadd hx hb dX4_isCarried_75 ?_
      refine S_put hC hK hP (hD _ _ _) hS (oS_then _ _ _ _ _) clX4 in_X4 tyX4_ok nmX4 6 (by decide) (pS56 _ _ _ _ _ _) q239 rfl rfl rfl rfl (Nat.le_of_ble_eq_true rfl) dX4_isCarried_76 (fun H locs hP hS => ?_)
      rw [dSb_V56] at hP
      refine lv_aload_n hx hb dX4_isCarried_79 rfl (lv_at hl 2 rfl) ?_
      refine lv_sipush (v := 9999) hx hb dX4_isCarried_80 (by decide) ?_
      refine lv_aload_n hx hb dX4_isCarried_83 rfl (lv_at hl 2 rfl) ?_
      refine S_get hC hK hP (oS_then _ _ _ _ _) clX4 in_X4 3 (by decide) (fD53 _ _ _ _) q233 dX4_isCarried_84 ?_
      refine W_top (y := (nw 18)) (by rw [dSb_f53]) ?_
      refine lv_iload hx hb dX4_isCarried_87 (lv_at hl 0 rfl) ?_
      refine lv_iadd hx hb dX4_isCarried_89 ?_
      refine S_min hC hl q979 q468 q120 q469 (room_m hRm rfl) rfl dX4_isCarried_90 ?_
      refine W_top (y := (nw 18 + mnI (byLawS Lw 99 9 0 (fctU F00 (nI h) t d (nw 16) (nw 17) (nw 18) (nw 19) ((snS (u.1 25) (u.2.1 21) (u.2.1 22) (u.2.1 23) (u.2.1 20)) h t))) (9999 - nw 18))) (crk_eq hok) ?_
      refine S_put hC hK hP (hD _ _ _) hS (oS_then _ _ _ _ _) clX4 in_X4 tyX4_ok nmX4 3 (by decide) (pS53 _ _ _ _ _ _) q233 rfl rfl rfl rfl (Nat.le_of_ble_eq_true rfl) dX4_isCarried_93 (fun H locs hP hS => ?_)
      rw [dSb_V53] at hP
      refine lv_aload_n hx hb dX4_isCarried_96 rfl (lv_at hl 2 rfl) ?_
      refine lv_iload_n hx hb dX4_isCarried_97 rfl (lv_at hl 3 rfl) ?_
      refine S_put hC hK hP (hD _ _ _) hS (oS_then _ _ _ _ _) clX4 in_X4 tyX4_ok nmX4 1 (by decide) (pS51 _ _ _ _ _ _) q229 rfl rfl rfl rfl (Nat.le_of_ble_eq_true rfl) dX4_isCarried_98 (fun H locs hP hS => ?_)
      rw [dSb_V51] at hP
      exact hq _ _ _ _ _ _ _ dX4_isCarried_101 hP hS (by have hst : staysB Lw (snS (u.1 25) (u.2.1 21) (u.2.1 22) (u.2.1 23) (u.2.1 20)) F00 nw h t d = false := (by unfold staysB factS; rw [c23, show decide (nw 16 = nI h) = false from decide_eq_false c31]; rfl); exact ⟨_, _, by rw [carS_f hst]; rfl⟩) (by decide) (by decide)
    · exact hq _ _ _ _ _ _ _ dX4_isCarried_34 hP hS (by have hst : staysB Lw (snS (u.1 25) (u.2.1 21) (u.2.1 22) (u.2.1 23) (u.2.1 20)) F00 nw h t d = true := (by unfold staysB factS; first | (rw [c23]; rfl) | (rw [show decide (nw 16 = nI h) = true from decide_eq_true (by first | exact c31 | exact Classical.not_not.mp c31)]; simp)); exact ⟨_, _, by rw [carS_t hst]⟩) (by decide) (by decide)
set_option maxHeartbeats 4000000 in
theorem c_X4_turnGoes_then (G : GG) (l : Launch) (o : Nat) (R : Nat → Nat) (tx : Nat) (u : MS) (t : Nat) (Lw : LW) (nw : Nat → Int32) (ht : t < 12) (hw : WOK (u.2.1 1)) (hwt : ¬ (u.2.1 1) t = -1) (hrow : rowA u 50 nw) (hok : dOK nw) (hsd : PB (u.2.1 21)) (hfc : PB (u.2.1 20)) (hN : nineW Lw) (hD : DwS o R) : CXv G l (PwS G o R tx) (AwS o R) yX4_turnGoes cX4_turnGoes 5 307 12209 0 0 [.ref (R 4), .int (nI t)] (fun H => PwS G o R tx u H ∧ TxW G (AwS o R) tx Lw H) (fun w => ∃ z : Int32, ∃ F : Nat → Int32, ∃ jo : Nat → Int32, (∀ k, k < 16 → jo k = (goS Lw (snS (u.1 25) (u.2.1 21) (u.2.1 22) (u.2.1 23) (u.2.1 20)) F00 (u.2.1 1) t (nw, (u.1 56))).1 k) ∧ w = (dSb u z F ((goS Lw (snS (u.1 25) (u.2.1 21) (u.2.1 22) (u.2.1 23) (u.2.1 20)) F00 (u.2.1 1) t (nw, (u.1 56))).1 16) ((goS Lw (snS (u.1 25) (u.2.1 21) (u.2.1 22) (u.2.1 23) (u.2.1 20)) F00 (u.2.1 1) t (nw, (u.1 56))).1 17) ((goS Lw (snS (u.1 25) (u.2.1 21) (u.2.1 22) (u.2.1 23) (u.2.1 20)) F00 (u.2.1 1) t (nw, (u.1 56))).1 18) ((goS Lw (snS (u.1 25) (u.2.1 21) (u.2.1 22) (u.2.1 23) (u.2.1 20)) F00 (u.2.1 1) t (nw, (u.1 56))).1 19) ((goS Lw (snS (u.1 25) (u.2.1 21) (u.2.1 22) (u.2.1 23) (u.2.1 20)) F00 (u.2.1 1) t (nw, (u.1 56))).1 20) ((goS Lw (snS (u.1 25) (u.2.1 21) (u.2.1 22) (u.2.1 23) (u.2.1 20)) F00 (u.2.1 1) t (nw, (u.1 56))).2) jo)) := by
  refine CXv.mk RX4 pnX4 rfl (Nat.le_of_ble_eq_true rfl) (fun pg en Rm sg mm ar bw mth cd QQ ls hC hRm hK hX hS hl hq => ?_)
  have hx := hC.1; have hb := hC.2.1; have ho := hC.2.2.2.1; have hts := hC.2.2.2.2
  obtain ⟨hP, hX2⟩ := hX
  have hl : lv_has ls 5 [(0, .ref (R 4)), (1, .int (nI t))] := hl
  have hP : PwS G o R tx (dSb u (u.1 30) (fcU u) (u.1 51) (u.1 52) (u.1 53) (u.1 54) (u.1 55) (u.1 56) (u.2.1 50)) sg.heap := by rw [dSb_self]; exact hP
  have hr1 : u.1 51 = nw 16 := hrow.1
  have hr2 : u.1 52 = nw 17 := hrow.2.1
  have hr3 : u.1 53 = nw 18 := hrow.2.2.1
  have hr4 : u.1 54 = nw 19 := hrow.2.2.2.1
  have hr5 : u.1 55 = nw 20 := hrow.2.2.2.2.1
  have hjo : ∀ k, k < 16 → u.2.1 50 k = nw k := hrow.2.2.2.2.2
  rw [hr1, hr2, hr3, hr4, hr5] at hP
  refine lv_aload_n hx hb dX4_turnGoes_0 rfl (lv_at hl 0 rfl) ?_
  refine CXi.go (rcV hC hl (c_X4_draw_then G l o R tx (dSb u (u.1 30) (fcU u) (nw 16) (nw 17) (nw 18) (nw 19) (nw 20) (u.1 56) (u.2.1 50))   hD) hK hP (va_recv hK.1 hP clX4 (oS_then _ _ _ _ _)) q880 q882 qs24 q114 q883 mdX4_draw (room_s hRm rfl) rfl rfl dX4_turnGoes_1) hS (fun q h => h) (fun r1 w1 H locs hpo hP _ _ hS => ?_)
  obtain ⟨er1, ew1⟩ := hpo
  rw [ew1] at hP
  simp only [dSb_f55] at er1
  refine W_top (y := (remI (lot1 (nw 20)) 10)) er1 ?_
  rw [dSb_V55] at hP
  simp only [dSb_f55] at hP
  refine lv_istore_n (lv' := [(2, .int (remI (lot1 (nw 20)) 10)), (0, .ref (R 4)), (1, .int (nI t))]) hx hb dX4_turnGoes_4 rfl hl (by decide) rfl (fun ls hl => ?_)
  refine lv_aload_n hx hb dX4_turnGoes_5 rfl (lv_at hl 1 rfl) ?_
  refine lv_aload_n hx hb dX4_turnGoes_6 rfl (lv_at hl 1 rfl) ?_
  refine S_get hC hK hP (oS_then _ _ _ _ _) clX4 in_X4 7 (by decide) (fD57 _ _ _ _) q241 dX4_turnGoes_7 ?_
  refine S_getN hC hK hP (oS_main _ _ _ _ _) clX0 in_X0 1 (by decide) (fD1 _ _ _ _) nq294 dX4_turnGoes_10 ?_
  refine lv_iload_n hx hb dX4_turnGoes_13 rfl (lv_at hl 2 rfl) ?_
  refine S_ald hC hK hP (aS1 _ _ _ _ _) (j := t) (by decide) (rfl) (by omega) dX4_turnGoes_14 ?_
  refine W_top (y := ((u.2.1 1) t)) (by rw [dSb_g1]) ?_
  refine W_top (y := (nI (ix ((u.2.1 1) t)))) ((hw.ix (t := t) ht hwt).1) ?_
  refine lv_iload_n hx hb dX4_turnGoes_15 rfl (lv_at hl 2 rfl) ?_
  refine lv_iload_n hx hb dX4_turnGoes_16 rfl (lv_at hl 0 rfl) ?_
  refine CXv.go (rcV hC hl (c_X4_isCarried_then G l o R tx (dSb u (u.1 30) (fcU u) (nw 16) (nw 17) (nw 18) (nw 19) (lot1 (nw 20)) (u.1 56) (u.2.1 50)) (ix ((u.2.1 1) t)) (nI t) (remI (lot1 (nw 20)) 10) Lw (lotS nw) ((hw.ix (t := t) ht hwt).2) (⟨rfl, rfl, rfl, rfl, (lotS_20 nw).symm, fun k hk => (hjo k hk).trans (upd_n (g := nw) _ (by omega)).symm⟩) (dOK_lot hok) (hsd) (hfc) (hN) hD) hK ⟨hP, (TxW.keep hS.2.1 hX2)⟩ (va_recv hK.1 hP clX4 (oS_then _ _ _ _ _)) q885 q887 qs25 q114 q888 mdX4_isCarried (room_s hRm rfl) rfl rfl dX4_turnGoes_17) hS (fun q h => h) (fun w17 H locs hpo hP _ _ hS => ?_)
  obtain ⟨z_1, F_2, ew17⟩ := hpo
  rw [ew17] at hP
  rw [dSb_again] at hP
  simp only [dSb_f25, dSb_f56, dSb_g20, dSb_g21, dSb_g22, dSb_g23, dSb_g50] at hP
  obtain ⟨⟨n2, c2⟩, hq2⟩ : ∃ q, carS Lw (snS (u.1 25) (u.2.1 21) (u.2.1 22) (u.2.1 23) (u.2.1 20)) F00 (ix (u.2.1 1 t)) (nI t) (remI (lot1 (nw 20)) 10) (lotS nw, u.1 56) = q := ⟨_, rfl⟩
  have hk2 : ∀ k, k ≠ 16 → k ≠ 18 → n2 k = lotS nw k := fun k h1 h2 => by have := carS_k (Lw := Lw) (sn := (snS (u.1 25) (u.2.1 21) (u.2.1 22) (u.2.1 23) (u.2.1 20))) (F0 := F00) (nw := lotS nw) (h := ix (u.2.1 1 t)) (t := nI t) (d := remI (lot1 (nw 20)) 10) (cn := u.1 56) h1 h2; rw [hq2] at this; exact this
  have ho2 : dOK n2 := by have := dOK_car (Lw := Lw) (sn := (snS (u.1 25) (u.2.1 21) (u.2.1 22) (u.2.1 23) (u.2.1 20))) (F0 := F00) (t := nI t) (d := remI (lot1 (nw 20)) 10) (cn := u.1 56) (hw.ix (t := t) ht hwt).2 (dOK_lot hok); rw [hq2] at this; exact this
  have hjo2 : ∀ k, k < 16 → u.2.1 50 k = n2 k := fun k hk => (hjo k hk).trans ((upd_n (g := nw) _ (by omega)).symm.trans (hk2 k (by omega) (by omega)).symm)
  have e17 : n2 17 = nw 17 := (hk2 17 (by decide) (by decide)).trans (upd_n _ (by decide))
  have e19 : n2 19 = nw 19 := (hk2 19 (by decide) (by decide)).trans (upd_n _ (by decide))
  have e20 : n2 20 = lot1 (nw 20) := (hk2 20 (by decide) (by decide)).trans (lotS_20 nw)
  have e16 : (carS Lw (snS (u.1 25) (u.2.1 21) (u.2.1 22) (u.2.1 23) (u.2.1 20)) F00 (ix (u.2.1 1 t)) (nI t) (remI (lot1 (nw 20)) 10) (lotS nw, u.1 56)).1 16 = n2 16 := by rw [hq2]
  have e18 : (carS Lw (snS (u.1 25) (u.2.1 21) (u.2.1 22) (u.2.1 23) (u.2.1 20)) F00 (ix (u.2.1 1 t)) (nI t) (remI (lot1 (nw 20)) 10) (lotS nw, u.1 56)).1 18 = n2 18 := by rw [hq2]
  have e2 : (carS Lw (snS (u.1 25) (u.2.1 21) (u.2.1 22) (u.2.1 23) (u.2.1 20)) F00 (ix (u.2.1 1 t)) (nI t) (remI (lot1 (nw 20)) 10) (lotS nw, u.1 56)).2 = c2 := by rw [hq2]
  have hP : PwS G o R tx (dSb u z_1 F_2 (n2 16) (n2 17) (n2 18) (n2 19) (n2 20) c2 (u.2.1 50)) H := by rw [← e16, ← e18, ← e2, e17, e19, e20]; exact hP
  refine lv_aload_n hx hb dX4_turnGoes_20 rfl (lv_at hl 1 rfl) ?_
  refine S_get hC hK hP (oS_then _ _ _ _ _) clX4 in_X4 1 (by decide) (fD51 _ _ _ _) q229 dX4_turnGoes_21 ?_
  refine W_top (y := (n2 16)) (by rw [dSb_f51]) ?_
  refine lv_iconst (v := (-1)) hx hb dX4_turnGoes_24 (by decide) ?_
  refine lv_icmp_ne (tgt := 29) hx hb dX4_turnGoes_25 (by decide) (fun c25 => ?_) (fun c25 => ?_)
  · have hj := (ho2.1.ix c25).1
    have hj16 := (ho2.1.ix c25).2
    refine lv_aload_n hx hb dX4_turnGoes_29 rfl (lv_at hl 1 rfl) ?_
    refine S_get hC hK hP (oS_then _ _ _ _ _) clX4 in_X4 7 (by decide) (fD57 _ _ _ _) q241 dX4_turnGoes_30 ?_
    refine S_getN hC hK hP (oS_main _ _ _ _ _) clX0 in_X0 0 (by decide) (fD0 _ _ _ _) nq290 dX4_turnGoes_33 ?_
    refine lv_aload_n hx hb dX4_turnGoes_36 rfl (lv_at hl 1 rfl) ?_
    refine S_get hC hK hP (oS_then _ _ _ _ _) clX4 in_X4 1 (by decide) (fD51 _ _ _ _) q229 dX4_turnGoes_37 ?_
    refine W_top (y := (n2 16)) (by rw [dSb_f51]) ?_
    refine W_top (y := (nI (ix (n2 16)))) (hj) ?_
    refine lv_iload_n hx hb dX4_turnGoes_40 rfl (lv_at hl 2 rfl) ?_
    refine CIs.go (rcV hC hl (c_X1_seen_plan G l o R tx (dSb u z_1 F_2 (n2 16) (n2 17) (n2 18) (n2 19) (n2 20) c2 (u.2.1 50)) (ix (n2 16)) (nI t) (hj16) (hsd) (hfc)) hK hP (va_recv hK.1 hP clX1 (oS_plan _ _ _ _ _)) q893 q894 q895 q111 q896 mdX1_seen (room_s hRm rfl) rfl rfl dX4_turnGoes_41) ?_
    refine W_top (y := (seenS (u.1 25) (u.2.1 21) (u.2.1 22) (u.2.1 23) ((u.2.1 20) (ix (n2 16))) (nI t))) (by simp only [dSb_f25, dSb_g20, dSb_g21, dSb_g22, dSb_g23]) ?_
    refine W_top (y := ((snS (u.1 25) (u.2.1 21) (u.2.1 22) (u.2.1 23) (u.2.1 20)) (ix (n2 16)) (nI t))) (rfl) ?_
    refine lv_istore_n (lv' := [(3, .int ((snS (u.1 25) (u.2.1 21) (u.2.1 22) (u.2.1 23) (u.2.1 20)) (ix (n2 16)) (nI t))), (2, .int (remI (lot1 (nw 20)) 10)), (0, .ref (R 4)), (1, .int (nI t))]) hx hb dX4_turnGoes_44 rfl hl (by decide) rfl (fun ls hl => ?_)
    refine lv_aload_n hx hb dX4_turnGoes_45 rfl (lv_at hl 2 rfl) ?_
    refine S_get hC hK hP (oS_then _ _ _ _ _) clX4 in_X4 7 (by decide) (fD57 _ _ _ _) q241 dX4_turnGoes_46 ?_
    refine S_getN hC hK hP (oS_main _ _ _ _ _) clX0 in_X0 7 (by decide) (fD7 _ _ _ _) nq304 dX4_turnGoes_49 ?_
    refine lv_bipush (v := 106) hx hb dX4_turnGoes_52 (by decide) ?_
    refine lv_iload_n hx hb dX4_turnGoes_54 rfl (lv_at hl 0 rfl) ?_
    refine CIs.go (rcS hC hl (c_J6_bitCount G l ((snS (u.1 25) (u.2.1 21) (u.2.1 22) (u.2.1 23) (u.2.1 20)) (ix (n2 16)) (nI t)) (sB_seenS _ _ _ _ _ _)) hK trivial q905 q906 q135 q907 mdJ6_bitCount (room_s hRm rfl) rfl rfl dX4_turnGoes_55) ?_
    refine lv_aload_n hx hb dX4_turnGoes_58 rfl (lv_at hl 2 rfl) ?_
    refine S_get hC hK hP (oS_then _ _ _ _ _) clX4 in_X4 2 (by decide) (fD52 _ _ _ _) q231 dX4_turnGoes_59 ?_
    refine W_top (y := (n2 17)) (by rw [dSb_f52]) ?_
    refine CIs.go (rcS hC hl (c_J6_bitCount G l (n2 17) (ho2.2.1)) hK trivial q905 q906 q135 q907 mdJ6_bitCount (room_s hRm rfl) rfl rfl dX4_turnGoes_62) ?_
    refine lv_iadd hx hb dX4_turnGoes_65 ?_
    refine lv_aload_n hx hb dX4_turnGoes_66 rfl (lv_at hl 2 rfl) ?_
    refine lv_aload_n hx hb dX4_turnGoes_67 rfl (lv_at hl 2 rfl) ?_
    refine S_get hC hK hP (oS_then _ _ _ _ _) clX4 in_X4 1 (by decide) (fD51 _ _ _ _) q229 dX4_turnGoes_68 ?_
    refine W_top (y := (n2 16)) (by rw [dSb_f51]) ?_
    refine W_top (y := (nI (ix (n2 16)))) (hj) ?_
    refine lv_iload_n hx hb dX4_turnGoes_71 rfl (lv_at hl 3 rfl) ?_
    refine lv_iload_n hx hb dX4_turnGoes_72 rfl (lv_at hl 1 rfl) ?_
    refine CXq.go (rcV hC hl (c_X4_asked_then G l o R tx (dSb u z_1 F_2 (n2 16) (n2 17) (n2 18) (n2 19) (n2 20) c2 (u.2.1 50)) (ix (n2 16)) (nI t) (remI (lot1 (nw 20)) 10) (hj16) (ho2.2.1) (hsd) (hfc) hD) hK hP (va_recv hK.1 hP clX4 (oS_then _ _ _ _ _)) q889 q891 qs26 q114 q892 mdX4_asked (room_s hRm rfl) rfl rfl dX4_turnGoes_73) hS (fun q h => h) (fun r73 w73 H locs hpo hP _ _ hS => ?_)
    obtain ⟨er73, ew73⟩ := hpo
    rw [ew73] at hP
    subst er73
    rw [dSb_mo] at hP
    simp only [dSb_f25, dSb_f51, dSb_f52, dSb_f53, dSb_f54, dSb_g20, dSb_g21, dSb_g22, dSb_g23] at hP
    refine CXi.go (rcV hC hl (c_X5_tells G l o R tx (dSb u z_1 (fctU F00 (nI (ix (n2 16))) (nI t) (remI (lot1 (nw 20)) 10) (n2 16) (n2 17) (n2 18) (n2 19) ((snS (u.1 25) (u.2.1 21) (u.2.1 22) (u.2.1 23) (u.2.1 20)) (ix (n2 16)) (nI t))) (n2 16) (n2 17) (n2 18) (n2 19) (n2 20) c2 (u.2.1 50)) Lw 106 ((bitsI ((snS (u.1 25) (u.2.1 21) (u.2.1 22) (u.2.1 23) (u.2.1 20)) (ix (n2 16)) (nI t))) + (bitsI (n2 17))) (by decide) hD) hK ⟨hP, (TxW.keep hS.2.1 hX2)⟩ (TxW.recv hK (TxW.keep hS.2.1 hX2)) q962 q963 q964 q115 q965 mdX5_tells (room_s hRm rfl) rfl rfl dX4_turnGoes_76) hS (fun q h => h) (fun r76 w76 H locs hpo hP _ _ hS => ?_)
    obtain ⟨z_3, er76, ew76⟩ := hpo
    rw [ew76] at hP
    refine W_top (y := (tellS Lw 106 ((bitsI ((snS (u.1 25) (u.2.1 21) (u.2.1 22) (u.2.1 23) (u.2.1 20)) (ix (n2 16)) (nI t))) + (bitsI (n2 17))) (fcU (dSb u z_1 (fctU F00 (nI (ix (n2 16))) (nI t) (remI (lot1 (nw 20)) 10) (n2 16) (n2 17) (n2 18) (n2 19) ((snS (u.1 25) (u.2.1 21) (u.2.1 22) (u.2.1 23) (u.2.1 20)) (ix (n2 16)) (nI t))) (n2 16) (n2 17) (n2 18) (n2 19) (n2 20) c2 (u.2.1 50))))) er76 ?_
    rw [dSb_V30] at hP
    refine W_top (y := (tellS Lw 106 (bitsI ((snS (u.1 25) (u.2.1 21) (u.2.1 22) (u.2.1 23) (u.2.1 20)) (ix (n2 16)) (nI t)) + bitsI (n2 17)) (fctU F00 (nI (ix (n2 16))) (nI t) (remI (lot1 (nw 20)) 10) (n2 16) (n2 17) (n2 18) (n2 19) ((snS (u.1 25) (u.2.1 21) (u.2.1 22) (u.2.1 23) (u.2.1 20)) (ix (n2 16)) (nI t))))) (tellS_nine hN (dSb_fc _ _ _ _ _ _ _ _ _ _)) ?_
    refine lv_bipush (v := 99) hx hb dX4_turnGoes_79 (by decide) ?_
    refine CIs.go (rcSN hC hl (c_X0_held G l (tellS Lw 106 (bitsI ((snS (u.1 25) (u.2.1 21) (u.2.1 22) (u.2.1 23) (u.2.1 20)) (ix (n2 16)) (nI t)) + bitsI (n2 17)) (fctU F00 (nI (ix (n2 16))) (nI t) (remI (lot1 (nw 20)) 10) (n2 16) (n2 17) (n2 18) (n2 19) ((snS (u.1 25) (u.2.1 21) (u.2.1 22) (u.2.1 23) (u.2.1 20)) (ix (n2 16)) (nI t)))) 99 ) hK trivial nq974 q975 q110 q976 mdX0_held (room_s hRm rfl) rfl rfl dX4_turnGoes_81) ?_
    refine W_top (y := (byLawS Lw 106 99 (bitsI ((snS (u.1 25) (u.2.1 21) (u.2.1 22) (u.2.1 23) (u.2.1 20)) (ix (n2 16)) (nI t)) + bitsI (n2 17)) (fctU F00 (nI (ix (n2 16))) (nI t) (remI (lot1 (nw 20)) 10) (n2 16) (n2 17) (n2 18) (n2 19) ((snS (u.1 25) (u.2.1 21) (u.2.1 22) (u.2.1 23) (u.2.1 20)) (ix (n2 16)) (nI t))))) (held_by bits2_b.1 bits2_b.2) ?_
    refine lv_istore (lv' := [(4, .int (byLawS Lw 106 99 (bitsI ((snS (u.1 25) (u.2.1 21) (u.2.1 22) (u.2.1 23) (u.2.1 20)) (ix (n2 16)) (nI t)) + bitsI (n2 17)) (fctU F00 (nI (ix (n2 16))) (nI t) (remI (lot1 (nw 20)) 10) (n2 16) (n2 17) (n2 18) (n2 19) ((snS (u.1 25) (u.2.1 21) (u.2.1 22) (u.2.1 23) (u.2.1 20)) (ix (n2 16)) (nI t))))), (3, .int ((snS (u.1 25) (u.2.1 21) (u.2.1 22) (u.2.1 23) (u.2.1 20)) (ix (n2 16)) (nI t))), (2, .int (remI (lot1 (nw 20)) 10)), (0, .ref (R 4)), (1, .int (nI t))]) hx hb dX4_turnGoes_84 hl (by decide) rfl (fun ls hl => ?_)
    refine lv_aload_n hx hb dX4_turnGoes_86 rfl (lv_at hl 3 rfl) ?_
    refine S_get hC hK hP (oS_then _ _ _ _ _) clX4 in_X4 0 (by decide) (fD50 _ _ _ _) q227 dX4_turnGoes_87 ?_
    refine lv_aload_n hx hb dX4_turnGoes_90 rfl (lv_at hl 3 rfl) ?_
    refine S_get hC hK hP (oS_then _ _ _ _ _) clX4 in_X4 1 (by decide) (fD51 _ _ _ _) q229 dX4_turnGoes_91 ?_
    refine W_top (y := (n2 16)) (by rw [dSb_f51]) ?_
    refine W_top (y := (nI (ix (n2 16)))) (hj) ?_
    refine lv_ldc (own := RX4) (v := 99999) hx hb ho (hts _ q980) dX4_turnGoes_94 ?_
    refine lv_aload_n hx hb dX4_turnGoes_96 rfl (lv_at hl 3 rfl) ?_
    refine S_get hC hK hP (oS_then _ _ _ _ _) clX4 in_X4 0 (by decide) (fD50 _ _ _ _) q227 dX4_turnGoes_97 ?_
    refine lv_aload_n hx hb dX4_turnGoes_100 rfl (lv_at hl 3 rfl) ?_
    refine S_get hC hK hP (oS_then _ _ _ _ _) clX4 in_X4 1 (by decide) (fD51 _ _ _ _) q229 dX4_turnGoes_101 ?_
    refine W_top (y := (n2 16)) (by rw [dSb_f51]) ?_
    refine W_top (y := (nI (ix (n2 16)))) (hj) ?_
    refine S_ald hC hK hP (aS50 _ _ _ _ _) (j := (ix (n2 16))) (by decide) (rfl) (by omega) dX4_turnGoes_104 ?_
    refine W_top (y := ((u.2.1 50) (ix (n2 16)))) (by rw [dSb_g50]) ?_
    refine W_top (y := (n2 (ix (n2 16)))) (hjo2 _ hj16) ?_
    refine lv_iload hx hb dX4_turnGoes_105 (lv_at hl 0 rfl) ?_
    refine lv_iadd hx hb dX4_turnGoes_107 ?_
    refine S_min hC hl q979 q468 q120 q469 (room_m hRm rfl) rfl dX4_turnGoes_108 ?_
    refine S_ast hC hK hP (hD _ _ _) hS (aS50 _ _ _ _ _) (bS50 _ _ _ _ _ _ _) (j := (ix (n2 16))) (by decide) (rfl) (by omega) dX4_turnGoes_111 (fun H locs hP hS => ?_)
    rw [dSb_A50] at hP
    refine lv_aload_n hx hb dX4_turnGoes_112 rfl (lv_at hl 3 rfl) ?_
    refine lv_iload_n hx hb dX4_turnGoes_113 rfl (lv_at hl 1 rfl) ?_
    refine lv_if_ne (tgt := 124) hx hb dX4_turnGoes_114 (by decide) (fun c114 => ?_) (fun c114 => ?_)
    · refine lv_iload_n hx hb dX4_turnGoes_124 rfl (lv_at hl 1 rfl) ?_
      refine S_put hC hK hP (hD _ _ _) hS (oS_then _ _ _ _ _) clX4 in_X4 tyX4_ok nmX4 2 (by decide) (pS52 _ _ _ _ _ _) q231 rfl rfl rfl rfl (Nat.le_of_ble_eq_true rfl) dX4_turnGoes_125 (fun H locs hP hS => ?_)
      rw [dSb_V52] at hP
      exact hq _ _ _ _ _ _ _ dX4_turnGoes_128 hP hS (by have ha2 : atOK (n2 16) := ho2.1; have hG : goS Lw (snS (u.1 25) (u.2.1 21) (u.2.1 22) (u.2.1 23) (u.2.1 20)) F00 (u.2.1 1) t (nw, (u.1 56)) = (gladS Lw (snS (u.1 25) (u.2.1 21) (u.2.1 22) (u.2.1 23) (u.2.1 20)) F00 (nI t) (remI (lot1 (nw 20)) 10) n2, c2) := (by rw [goS_lot, hq2]); first | (exact ⟨z_3, (fctU F00 (nI (ix (n2 16))) (nI t) (remI (lot1 (nw 20)) 10) (n2 16) (n2 17) (n2 18) (n2 19) ((snS (u.1 25) (u.2.1 21) (u.2.1 22) (u.2.1 23) (u.2.1 20)) (ix (n2 16)) (nI t))), (upd (u.2.1 50) (ix (n2 16)) (mnI 99999 ((n2 (ix (n2 16))) + (byLawS Lw 106 99 (bitsI ((snS (u.1 25) (u.2.1 21) (u.2.1 22) (u.2.1 23) (u.2.1 20)) (ix (n2 16)) (nI t)) + bitsI (n2 17)) (fctU F00 (nI (ix (n2 16))) (nI t) (remI (lot1 (nw 20)) 10) (n2 16) (n2 17) (n2 18) (n2 19) ((snS (u.1 25) (u.2.1 21) (u.2.1 22) (u.2.1 23) (u.2.1 20)) (ix (n2 16)) (nI t))))))), (fun k hk => by rw [hG]; rw [gladS_z c25 rfl (show (snS (u.1 25) (u.2.1 21) (u.2.1 22) (u.2.1 23) (u.2.1 20)) (ix (n2 16)) (nI t) = 0 from (by first | exact c114 | exact Classical.not_not.mp c114))]; exact jo_z (hjo2 k hk)), by rw [hG]; simp only [gladS_16 ha2, gladS_k (k := 18) (by decide) ha2, gladS_k (k := 19) (by decide) ha2, gladS_k (k := 20) (by decide) ha2, gladS_17z c25 ha2 (show (snS (u.1 25) (u.2.1 21) (u.2.1 22) (u.2.1 23) (u.2.1 20)) (ix (n2 16)) (nI t) = 0 from (by first | exact c114 | exact Classical.not_not.mp c114))]⟩) | (exact ⟨z_3, (fctU F00 (nI (ix (n2 16))) (nI t) (remI (lot1 (nw 20)) 10) (n2 16) (n2 17) (n2 18) (n2 19) ((snS (u.1 25) (u.2.1 21) (u.2.1 22) (u.2.1 23) (u.2.1 20)) (ix (n2 16)) (nI t))), (upd (u.2.1 50) (ix (n2 16)) (mnI 99999 ((n2 (ix (n2 16))) + (byLawS Lw 106 99 (bitsI ((snS (u.1 25) (u.2.1 21) (u.2.1 22) (u.2.1 23) (u.2.1 20)) (ix (n2 16)) (nI t)) + bitsI (n2 17)) (fctU F00 (nI (ix (n2 16))) (nI t) (remI (lot1 (nw 20)) 10) (n2 16) (n2 17) (n2 18) (n2 19) ((snS (u.1 25) (u.2.1 21) (u.2.1 22) (u.2.1 23) (u.2.1 20)) (ix (n2 16)) (nI t))))))), (fun k hk => by rw [hG]; rw [gladS_p c25 rfl (show ¬ (snS (u.1 25) (u.2.1 21) (u.2.1 22) (u.2.1 23) (u.2.1 20)) (ix (n2 16)) (nI t) = 0 from c114)]; exact jo_p hk (hjo2 k hk)), by rw [hG]; simp only [gladS_16 ha2, gladS_k (k := 18) (by decide) ha2, gladS_k (k := 19) (by decide) ha2, gladS_k (k := 20) (by decide) ha2, gladS_17p c25 (show ¬ (snS (u.1 25) (u.2.1 21) (u.2.1 22) (u.2.1 23) (u.2.1 20)) (ix (n2 16)) (nI t) = 0 from c114)]⟩)) (by decide) (by decide)
    · refine lv_aload_n hx hb dX4_turnGoes_117 rfl (lv_at hl 3 rfl) ?_
      refine S_get hC hK hP (oS_then _ _ _ _ _) clX4 in_X4 2 (by decide) (fD52 _ _ _ _) q231 dX4_turnGoes_118 ?_
      refine W_top (y := (n2 17)) (by rw [dSb_f52]) ?_
      refine lv_goto (tgt := 125) hx hb dX4_turnGoes_121 (by decide) ?_
      refine S_put hC hK hP (hD _ _ _) hS (oS_then _ _ _ _ _) clX4 in_X4 tyX4_ok nmX4 2 (by decide) (pS52 _ _ _ _ _ _) q231 rfl rfl rfl rfl (Nat.le_of_ble_eq_true rfl) dX4_turnGoes_125 (fun H locs hP hS => ?_)
      rw [dSb_V52] at hP
      exact hq _ _ _ _ _ _ _ dX4_turnGoes_128 hP hS (by have ha2 : atOK (n2 16) := ho2.1; have hG : goS Lw (snS (u.1 25) (u.2.1 21) (u.2.1 22) (u.2.1 23) (u.2.1 20)) F00 (u.2.1 1) t (nw, (u.1 56)) = (gladS Lw (snS (u.1 25) (u.2.1 21) (u.2.1 22) (u.2.1 23) (u.2.1 20)) F00 (nI t) (remI (lot1 (nw 20)) 10) n2, c2) := (by rw [goS_lot, hq2]); first | (exact ⟨z_3, (fctU F00 (nI (ix (n2 16))) (nI t) (remI (lot1 (nw 20)) 10) (n2 16) (n2 17) (n2 18) (n2 19) ((snS (u.1 25) (u.2.1 21) (u.2.1 22) (u.2.1 23) (u.2.1 20)) (ix (n2 16)) (nI t))), (upd (u.2.1 50) (ix (n2 16)) (mnI 99999 ((n2 (ix (n2 16))) + (byLawS Lw 106 99 (bitsI ((snS (u.1 25) (u.2.1 21) (u.2.1 22) (u.2.1 23) (u.2.1 20)) (ix (n2 16)) (nI t)) + bitsI (n2 17)) (fctU F00 (nI (ix (n2 16))) (nI t) (remI (lot1 (nw 20)) 10) (n2 16) (n2 17) (n2 18) (n2 19) ((snS (u.1 25) (u.2.1 21) (u.2.1 22) (u.2.1 23) (u.2.1 20)) (ix (n2 16)) (nI t))))))), (fun k hk => by rw [hG]; rw [gladS_z c25 rfl (show (snS (u.1 25) (u.2.1 21) (u.2.1 22) (u.2.1 23) (u.2.1 20)) (ix (n2 16)) (nI t) = 0 from (by first | exact c114 | exact Classical.not_not.mp c114))]; exact jo_z (hjo2 k hk)), by rw [hG]; simp only [gladS_16 ha2, gladS_k (k := 18) (by decide) ha2, gladS_k (k := 19) (by decide) ha2, gladS_k (k := 20) (by decide) ha2, gladS_17z c25 ha2 (show (snS (u.1 25) (u.2.1 21) (u.2.1 22) (u.2.1 23) (u.2.1 20)) (ix (n2 16)) (nI t) = 0 from (by first | exact c114 | exact Classical.not_not.mp c114))]⟩) | (exact ⟨z_3, (fctU F00 (nI (ix (n2 16))) (nI t) (remI (lot1 (nw 20)) 10) (n2 16) (n2 17) (n2 18) (n2 19) ((snS (u.1 25) (u.2.1 21) (u.2.1 22) (u.2.1 23) (u.2.1 20)) (ix (n2 16)) (nI t))), (upd (u.2.1 50) (ix (n2 16)) (mnI 99999 ((n2 (ix (n2 16))) + (byLawS Lw 106 99 (bitsI ((snS (u.1 25) (u.2.1 21) (u.2.1 22) (u.2.1 23) (u.2.1 20)) (ix (n2 16)) (nI t)) + bitsI (n2 17)) (fctU F00 (nI (ix (n2 16))) (nI t) (remI (lot1 (nw 20)) 10) (n2 16) (n2 17) (n2 18) (n2 19) ((snS (u.1 25) (u.2.1 21) (u.2.1 22) (u.2.1 23) (u.2.1 20)) (ix (n2 16)) (nI t))))))), (fun k hk => by rw [hG]; rw [gladS_p c25 rfl (show ¬ (snS (u.1 25) (u.2.1 21) (u.2.1 22) (u.2.1 23) (u.2.1 20)) (ix (n2 16)) (nI t) = 0 from c114)]; exact jo_p hk (hjo2 k hk)), by rw [hG]; simp only [gladS_16 ha2, gladS_k (k := 18) (by decide) ha2, gladS_k (k := 19) (by decide) ha2, gladS_k (k := 20) (by decide) ha2, gladS_17p c25 (show ¬ (snS (u.1 25) (u.2.1 21) (u.2.1 22) (u.2.1 23) (u.2.1 20)) (ix (n2 16)) (nI t) = 0 from c114)]⟩)) (by decide) (by decide)
  · exact hq _ _ _ _ _ _ _ dX4_turnGoes_28 hP hS (by have ha2 : atOK (n2 16) := ho2.1; have hG : goS Lw (snS (u.1 25) (u.2.1 21) (u.2.1 22) (u.2.1 23) (u.2.1 20)) F00 (u.2.1 1) t (nw, (u.1 56)) = (gladS Lw (snS (u.1 25) (u.2.1 21) (u.2.1 22) (u.2.1 23) (u.2.1 20)) F00 (nI t) (remI (lot1 (nw 20)) 10) n2, c2) := (by rw [goS_lot, hq2]); exact ⟨z_1, F_2, (u.2.1 50), (fun k hk => by rw [hG]; rw [gladS_n c25]; exact hjo2 k hk), by rw [hG]; simp only [gladS_16 ha2, gladS_k (k := 18) (by decide) ha2, gladS_k (k := 19) (by decide) ha2, gladS_k (k := 20) (by decide) ha2, gladS_n c25]⟩) (by decide) (by decide)
