set_option maxRecDepth 100000
set_option maxHeartbeats 4000000 in
theorem c_X6_readsTimes (G : GG) (l : Launch) (o : Nat) (R : Nat → Nat) (u : MS) (p : Nat) (n : Nat) (hp : (u.1 12) = nI p) (hn : (u.1 13) = nI n) (hn2 : n ≤ 240) (hp2 : p < 2 ^ 30) (hD : DM o R) : CMv G l o R yX6_readsTimes cX6_readsTimes 1 3 38 [] u (fun w => w = (rE u (nI (timesP (u.2.1 10) n p)) (u.1 14) (u.1 13) (u.1 17) (u.1 19) (u.1 11) (u.1 46) (u.1 47) (nI p) (nI (timesC (u.2.1 10) n p)) (u.2.1 41) (u.2.1 42) (u.2.1 43) (u.2.1 44) (u.2.1 45) (u.2.1 3))) := by
  refine CMv.mk pnX6 rfl (Nat.le_of_ble_eq_true rfl) (fun pg en Rm sg mm ar bw mth cd QQ ls hC hRm hK hP hS hl hq => ?_)
  have hx := hC.1; have hb := hC.2.1; have ho := hC.2.2.2.1; have hts := hC.2.2.2.2
  have hl : lv_has ls 1 [(0, .ref o)] := hl
  have hP : PM G o R (rE u (u.1 12) (u.1 14) (u.1 13) (u.1 17) (u.1 19) (u.1 11) (u.1 46) (u.1 47) (u.1 48) (u.1 49) (u.2.1 41) (u.2.1 42) (u.2.1 43) (u.2.1 44) (u.2.1 45) (u.2.1 3)) sg.heap := by rw [rE_self]; exact hP
  rw [hp] at hP
  refine lv_aload_n hx hb dX6_readsTimes_0 rfl (lv_at hl 0 rfl) ?_
  refine lv_aload_n hx hb dX6_readsTimes_1 rfl (lv_at hl 0 rfl) ?_
  refine M_get hC hK hP 12 (by decide) (fM12 _ _) q1213 dX6_readsTimes_2 ?_
  refine W_top (y := (nI p)) (by rw [rE_f12]) ?_
  refine M_put hC hK hD hP hS 48 (by decide) (sM48 _ _ _) q1249 rfl dX6_readsTimes_5 (fun H locs hP hS => ?_)
  rw [rE_V48] at hP
  refine lv_aload_n hx hb dX6_readsTimes_8 rfl (lv_at hl 0 rfl) ?_
  refine lv_iconst (v := 1) hx hb dX6_readsTimes_9 (by decide) ?_
  refine M_put hC hK hD hP hS 49 (by decide) (sM49 _ _ _) q1250 rfl dX6_readsTimes_10 (fun H locs hP hS => ?_)
  rw [rE_V49] at hP
  refine lv_aload_n hx hb dX6_readsTimes_13 rfl (lv_at hl 0 rfl) ?_
  refine CI.callV hC hK hl (c_X6_here G l o R (rE u (nI p) (u.1 14) (u.1 13) (u.1 17) (u.1 19) (u.1 11) (u.1 46) (u.1 47) (nI p) 1 (u.2.1 41) (u.2.1 42) (u.2.1 43) (u.2.1 44) (u.2.1 45) (u.2.1 3)) p n (rfl) (hn) (hn2) (hp2)) hP (hP.recv hK) q1438 q1440 qs52 q116 q1441 mdX6_here (room_ok hRm rfl) rfl rfl dX6_readsTimes_14 ?_
  refine W_top (y := (hereI (u.2.1 10) n p)) (by simp only [rE_g10]) ?_
  refine lv_bipush (v := 50) hx hb dX6_readsTimes_17 (by decide) ?_
  refine lv_bipush (v := 57) hx hb dX6_readsTimes_19 (by decide) ?_
  refine CI.callS hC hK hl (c_X6_in G l (hereI (u.2.1 10) n p) 50 57 ) trivial q1392 q1393 q116 q1394 mdX6_in (room_ok hRm rfl) rfl rfl dX6_readsTimes_21 ?_
  refine W_top (y := (bI (decide (50 ≤ ckN (u.2.1 10) n p ∧ ckN (u.2.1 10) n p ≤ 57)))) (congrArg bI inB_dig) ?_
  refine lv_if_ne (tgt := 28) hx hb dX6_readsTimes_24 (by decide) (fun c24 => ?_) (fun c24 => ?_)
  · have c24 : (decide (50 ≤ ckN (u.2.1 10) n p ∧ ckN (u.2.1 10) n p ≤ 57)) = true := bI_1.mp c24
    refine lv_aload_n hx hb dX6_readsTimes_28 rfl (lv_at hl 0 rfl) ?_
    refine lv_aload_n hx hb dX6_readsTimes_29 rfl (lv_at hl 0 rfl) ?_
    refine CI.callV hC hK hl (c_X6_here G l o R (rE u (nI p) (u.1 14) (u.1 13) (u.1 17) (u.1 19) (u.1 11) (u.1 46) (u.1 47) (nI p) 1 (u.2.1 41) (u.2.1 42) (u.2.1 43) (u.2.1 44) (u.2.1 45) (u.2.1 3)) p n (rfl) (hn) (hn2) (hp2)) hP (hP.recv hK) q1438 q1440 qs52 q116 q1441 mdX6_here (room_ok hRm rfl) rfl rfl dX6_readsTimes_30 ?_
    refine W_top (y := (hereI (u.2.1 10) n p)) (by simp only [rE_g10]) ?_
    refine W_top (y := (nI (ckN (u.2.1 10) n p))) (hereI_ck (by have := of_decide_eq_true c24; omega)) ?_
    refine lv_bipush (v := 48) hx hb dX6_readsTimes_33 (by decide) ?_
    refine lv_isub hx hb dX6_readsTimes_35 ?_
    refine W_top (y := (nI (ckN (u.2.1 10) n p - 48))) (pk_sub (b := 48) (by have := of_decide_eq_true c24; omega)) ?_
    refine M_put hC hK hD hP hS 49 (by decide) (sM49 _ _ _) q1250 rfl dX6_readsTimes_36 (fun H locs hP hS => ?_)
    rw [rE_V49] at hP
    refine lv_aload_n hx hb dX6_readsTimes_39 rfl (lv_at hl 0 rfl) ?_
    refine lv_aload_n hx hb dX6_readsTimes_40 rfl (lv_at hl 0 rfl) ?_
    refine M_get hC hK hP 12 (by decide) (fM12 _ _) q1213 dX6_readsTimes_41 ?_
    refine W_top (y := (nI p)) (by rw [rE_f12]) ?_
    refine lv_iconst (v := 1) hx hb dX6_readsTimes_44 (by decide) ?_
    refine lv_iadd hx hb dX6_readsTimes_45 ?_
    refine W_top (nI_add p 1) ?_
    refine M_put hC hK hD hP hS 12 (by decide) (sM12 _ _ _) q1213 rfl dX6_readsTimes_46 (fun H locs hP hS => ?_)
    rw [rE_V12] at hP
    exact hq _ _ _ _ _ dX6_readsTimes_49 hP hS (by rw [timesP, if_pos (of_decide_eq_true c24), timesC, if_pos (of_decide_eq_true c24)])
  · have c24 : (decide (50 ≤ ckN (u.2.1 10) n p ∧ ckN (u.2.1 10) n p ≤ 57)) = false := bI_0.mp c24
    exact hq _ _ _ _ _ dX6_readsTimes_27 hP hS (by rw [timesP, if_neg (of_decide_eq_false c24), timesC, if_neg (of_decide_eq_false c24)]; rfl)
set_option maxHeartbeats 4000000 in
theorem c_X6_repeats (G : GG) (l : Launch) (o : Nat) (R : Nat → Nat) (u : MS) (m : Nat) (a : Nat) (t : Nat) (wh : Nat) (row : Nat → Int32) (pls : Nat → Nat) (hm : (u.1 46) = nI m) (ham : a ≤ m) (hm12 : m ≤ 12) (ht1 : 1 ≤ t) (ht9 : t ≤ 9) (hrw : rowsR row pls m (u.2.1 41) (u.2.1 42)) (hD : DM o R) : CMi G l o R yX6_repeats cX6_repeats 6 .boolean 3 38 [.int (nI a), .int (nI t), .int (nI wh)] u (fun r w => ∃ ok : Bool, ∃ fa : Int32, ∃ tm : Int32, ∃ x : Nat → Int32, ∃ y : Nat → Int32, (repPost row pls m a t wh ok fa tm x y) ∧ r = (bI ok) ∧ w = (rE u (u.1 12) fa (u.1 13) (u.1 17) (u.1 19) (u.1 11) tm (u.1 47) (u.1 48) (u.1 49) x y (u.2.1 43) (u.2.1 44) (u.2.1 45) (u.2.1 3))) := by
  refine CMi.mk pnX6 rfl (Nat.le_of_ble_eq_true rfl) (fun pg en Rm sg mm ar bw mth cd QQ ls hC hRm hK hP hS hl hq => ?_)
  have hx := hC.1; have hb := hC.2.1; have ho := hC.2.2.2.1; have hts := hC.2.2.2.2
  have hl : lv_has ls 6 [(0, .ref o), (1, .int (nI a)), (2, .int (nI t)), (3, .int (nI wh))] := hl
  have hP : PM G o R (rE u (u.1 12) (u.1 14) (u.1 13) (u.1 17) (u.1 19) (u.1 11) (u.1 46) (u.1 47) (u.1 48) (u.1 49) (u.2.1 41) (u.2.1 42) (u.2.1 43) (u.2.1 44) (u.2.1 45) (u.2.1 3)) sg.heap := by rw [rE_self]; exact hP
  rw [hm] at hP
  have hb9 := Nat.mul_le_mul (show m - a ≤ 12 by omega) ht9
  have hb1 := Nat.le_mul_of_pos_right (m - a) ht1
  refine lv_aload_n hx hb dX6_repeats_0 rfl (lv_at hl 0 rfl) ?_
  refine M_get hC hK hP 46 (by decide) (fM46 _ _) q1247 dX6_repeats_1 ?_
  refine W_top (y := (nI m)) (by rw [rE_f46]) ?_
  refine lv_iload_n hx hb dX6_repeats_4 rfl (lv_at hl 1 rfl) ?_
  refine lv_isub hx hb dX6_repeats_5 ?_
  refine W_top (y := (nI (m - a))) (pk_sub ham) ?_
  refine lv_istore (lv' := [(4, .int (nI (m - a))), (0, .ref o), (1, .int (nI a)), (2, .int (nI t)), (3, .int (nI wh))]) hx hb dX6_repeats_6 hl (by decide) rfl (fun ls hl => ?_)
  refine lv_iload_n hx hb dX6_repeats_8 rfl (lv_at hl 2 rfl) ?_
  refine lv_iload hx hb dX6_repeats_9 (lv_at hl 0 rfl) ?_
  refine lv_iload_n hx hb dX6_repeats_11 rfl (lv_at hl 3 rfl) ?_
  refine lv_imul hx hb dX6_repeats_12 ?_
  refine W_top (pk_mul (m - a) t) ?_
  refine lv_iadd hx hb dX6_repeats_13 ?_
  refine W_top (nI_add a ((m - a) * t)) ?_
  refine lv_bipush (v := 12) hx hb dX6_repeats_14 (by decide) ?_
  refine lv_icmp_le (tgt := 27) hx hb dX6_repeats_16 (by decide) (fun c16 => ?_) (fun c16 => ?_)
  · have c16 : (a + ((m - a) * t)) ≤ 12 := (nI_leI (a := (a + ((m - a) * t))) (b := 12) (by omega) (by omega)).mp c16
    refine lv_iload_n hx hb dX6_repeats_27 rfl (lv_at hl 2 rfl) ?_
    refine lv_iload hx hb dX6_repeats_28 (lv_at hl 0 rfl) ?_
    refine lv_iadd hx hb dX6_repeats_30 ?_
    refine W_top (nI_add a (m - a)) ?_
    refine lv_istore (lv' := [(5, .int (nI (a + (m - a)))), (4, .int (nI (m - a))), (0, .ref o), (1, .int (nI a)), (2, .int (nI t)), (3, .int (nI wh))]) hx hb dX6_repeats_31 hl (by decide) rfl (fun ls hl => ?_)
    have LP33 : ∀ (fu33 : Nat) (k : Nat) (x : Nat → Int32) (y : Nat → Int32) (H : Heap) (locs : List Loc) (ls : Array Slot), a + (m - a) * t - k < fu33 → k ≤ a + (m - a) * t → a + (m - a) ≤ k → repI row pls a (m - a) t k x y → PM G o R (rE u (u.1 12) (u.1 14) (u.1 13) (u.1 17) (u.1 19) (u.1 11) (nI m) (u.1 47) (u.1 48) (u.1 49) x y (u.2.1 43) (u.2.1 44) (u.2.1 45) (u.2.1 3)) H → va_S (AM o R) sg.heap H locs → lv_has ls 6 [(0, .ref o), (1, .int (nI a)), (2, .int (nI t)), (3, .int (nI wh)), (4, .int (nI (m - a))), (5, .int (nI k))] → W pg l en Rm sg mm ar bw mth cd H locs 0 0 QQ (F0 mm 33 ls []) := by
      intro fu33
      induction fu33 with
      | zero => intro k x y H locs ls hm33 hk hk2 hI hP hS hl; exact absurd hm33 (Nat.not_lt_zero _)
      | succ fu33 ih33 =>
        intro k x y H locs ls hm33 hk hk2 hI hP hS hl
        refine lv_iload hx hb dX6_repeats_33 (lv_at hl 5 rfl) ?_
        refine lv_iload_n hx hb dX6_repeats_35 rfl (lv_at hl 1 rfl) ?_
        refine lv_iload hx hb dX6_repeats_36 (lv_at hl 4 rfl) ?_
        refine lv_iload_n hx hb dX6_repeats_38 rfl (lv_at hl 2 rfl) ?_
        refine lv_imul hx hb dX6_repeats_39 ?_
        refine W_top (pk_mul (m - a) t) ?_
        refine lv_iadd hx hb dX6_repeats_40 ?_
        refine W_top (nI_add a ((m - a) * t)) ?_
        refine lv_icmp_ge (tgt := 84) hx hb dX6_repeats_41 (by decide) (fun c41 => ?_) (fun c41 => ?_)
        · have c41 : (a + ((m - a) * t)) ≤ k := (nI_leI (a := (a + ((m - a) * t))) (b := k) (by omega) (by omega)).mp c41
          refine lv_aload_n hx hb dX6_repeats_84 rfl (lv_at hl 0 rfl) ?_
          refine lv_iload_n hx hb dX6_repeats_85 rfl (lv_at hl 1 rfl) ?_
          refine lv_iload hx hb dX6_repeats_86 (lv_at hl 4 rfl) ?_
          refine lv_iload_n hx hb dX6_repeats_88 rfl (lv_at hl 2 rfl) ?_
          refine lv_imul hx hb dX6_repeats_89 ?_
          refine W_top (pk_mul (m - a) t) ?_
          refine lv_iadd hx hb dX6_repeats_90 ?_
          refine W_top (nI_add a ((m - a) * t)) ?_
          refine M_put hC hK hD hP hS 46 (by decide) (sM46 _ _ _) q1247 rfl dX6_repeats_91 (fun H locs hP hS => ?_)
          rw [rE_V46] at hP
          refine lv_iconst (v := 1) hx hb dX6_repeats_94 (by decide) ?_
          exact hq _ _ _ _ _ _ dX6_repeats_95 hP hS (by first | rfl | exact bI_nar _) (by have hke : k = a + (m - a) * t := (by omega); subst hke; exact ⟨true, _, _, _, _, by rw [repPost, if_neg (by omega)]; exact ⟨rfl, rfl, hI⟩, rfl, rfl⟩)
        · have c41 : ¬ ((a + ((m - a) * t)) ≤ k) := mt (nI_leI (a := (a + ((m - a) * t))) (b := k) (by omega) (by omega)).mpr c41
          refine lv_aload_n hx hb dX6_repeats_44 rfl (lv_at hl 0 rfl) ?_
          refine M_get hC hK hP 41 (by decide) (fM41 _ _) q1242 dX6_repeats_45 ?_
          refine lv_iload hx hb dX6_repeats_48 (lv_at hl 5 rfl) ?_
          refine lv_aload_n hx hb dX6_repeats_50 rfl (lv_at hl 0 rfl) ?_
          refine M_get hC hK hP 41 (by decide) (fM41 _ _) q1242 dX6_repeats_51 ?_
          refine lv_iload hx hb dX6_repeats_54 (lv_at hl 5 rfl) ?_
          refine lv_iload hx hb dX6_repeats_56 (lv_at hl 4 rfl) ?_
          refine lv_isub hx hb dX6_repeats_58 ?_
          refine W_top (y := (nI (k - (m - a)))) (pk_sub (by omega)) ?_
          refine M_ald hC hK hP 41 27 12 (k - (m - a)) (aM41 _ _ _ _) (by decide) (rfl) (by omega) dX6_repeats_59 ?_
          refine W_top (y := (x (k - (m - a)))) (by rw [rE_g41]) ?_
          refine M_ast hC hK hD hP hS 41 27 12 k (aM41 _ _ _ _) (bM41 _ _ _ _ _ _) (by decide) (rfl) (by omega) dX6_repeats_60 (fun H locs hP hS => ?_)
          rw [rE_A41] at hP
          refine lv_aload_n hx hb dX6_repeats_61 rfl (lv_at hl 0 rfl) ?_
          refine M_get hC hK hP 42 (by decide) (fM42 _ _) q1243 dX6_repeats_62 ?_
          refine lv_iload hx hb dX6_repeats_65 (lv_at hl 5 rfl) ?_
          refine lv_aload_n hx hb dX6_repeats_67 rfl (lv_at hl 0 rfl) ?_
          refine M_get hC hK hP 42 (by decide) (fM42 _ _) q1243 dX6_repeats_68 ?_
          refine lv_iload hx hb dX6_repeats_71 (lv_at hl 5 rfl) ?_
          refine lv_iload hx hb dX6_repeats_73 (lv_at hl 4 rfl) ?_
          refine lv_isub hx hb dX6_repeats_75 ?_
          refine W_top (y := (nI (k - (m - a)))) (pk_sub (by omega)) ?_
          refine M_ald hC hK hP 42 28 12 (k - (m - a)) (aM42 _ _ _ _) (by decide) (rfl) (by omega) dX6_repeats_76 ?_
          refine W_top (y := (y (k - (m - a)))) (by rw [rE_g42]) ?_
          refine M_ast hC hK hD hP hS 42 28 12 k (aM42 _ _ _ _) (bM42 _ _ _ _ _ _) (by decide) (rfl) (by omega) dX6_repeats_77 (fun H locs hP hS => ?_)
          rw [rE_A42] at hP
          refine lv_iinc (v := (nI (k + 1))) (lv' := [(5, .int (nI (k + 1))), (0, .ref o), (1, .int (nI a)), (2, .int (nI t)), (3, .int (nI wh)), (4, .int (nI (m - a)))]) hx hb dX6_repeats_78 hl (k := 5) rfl (nI_inc k) (by decide) rfl (fun ls hl => ?_)
          refine lv_goto (tgt := 33) hx hb dX6_repeats_81 (by decide) ?_
          exact ih33 (k + 1) (upd x k (x (k - (m - a)))) (upd y k (y (k - (m - a)))) _ _ ls (by omega) (by first | omega | assumption | rfl | (simp_all; done) | grind) (by first | omega | assumption | rfl | (simp_all; done) | grind) (by rw [show upd x k (x (k - (m - a))) = upd x k (x (k - (m - a))) from rfl]; exact repI_s (by refine Nat.pos_of_ne_zero (fun z => ?_); have z2 : (m - a) * t = 0 := (by rw [z, Nat.zero_mul]); omega) hk2 (by omega) hI) hP hS (lv_sub hl [1, 2, 3, 4, 5, 0] rfl)
    exact LP33 _ (a + (m - a)) (u.2.1 41) (u.2.1 42) _ _ ls (Nat.lt_succ_self _) (by first | omega | assumption | rfl | (simp_all; done) | grind) (by first | omega | assumption | rfl | (simp_all; done) | grind) (repI_0 hrw (by omega)) hP hS (lv_sub hl [2, 3, 4, 5, 1, 0] rfl)
  · have c16 : ¬ ((a + ((m - a) * t)) ≤ 12) := mt (nI_leI (a := (a + ((m - a) * t))) (b := 12) (by omega) (by omega)).mpr c16
    refine lv_aload_n hx hb dX6_repeats_19 rfl (lv_at hl 1 rfl) ?_
    refine lv_bipush (v := 6) hx hb dX6_repeats_20 (by decide) ?_
    refine lv_iload_n hx hb dX6_repeats_22 rfl (lv_at hl 4 rfl) ?_
    refine CMi.call hC hK hS (fun q h => h) hl (c_X6_wrongAt G l o R (rE u (u.1 12) (u.1 14) (u.1 13) (u.1 17) (u.1 19) (u.1 11) (nI m) (u.1 47) (u.1 48) (u.1 49) (u.2.1 41) (u.2.1 42) (u.2.1 43) (u.2.1 44) (u.2.1 45) (u.2.1 3)) 6 wh  hD) hP rfl q1442 q1444 qs53 q116 q1445 mdX6_wrongAt (room_ok hRm rfl) rfl rfl dX6_repeats_23 (fun r23 w23 H locs hpo hP _ _ hS => ?_)
    obtain ⟨er23, ew23⟩ := hpo
    rw [ew23] at hP
    refine W_top (y := (bI false)) er23 ?_
    rw [rE_V14] at hP
    exact hq _ _ _ _ _ _ dX6_repeats_26 hP hS (by first | rfl | exact bI_nar _) (by exact ⟨false, _, _, _, _, by rw [repPost, if_pos (by omega)]; exact ⟨rfl, rfl⟩, rfl, rfl⟩)
set_option maxHeartbeats 4000000 in
theorem c_X6_readsTurn (G : GG) (l : Launch) (o : Nat) (R : Nat → Nat) (u : MS) (n : Nat) (p : Nat) (m : Nat) (fu : Nat) (row : Nat → Int32) (pls : Nat → Nat) (sk : List Rnd) (RR : ClR) (hp : (u.1 12) = nI p) (hn : (u.1 13) = nI n) (hn2 : n ≤ 60) (hpn : p ≤ n) (hm : (u.1 46) = nI m) (hm12 : m ≤ 12) (hrd : (u.1 47) = nI sk.length) (hrw : rowsR row pls m (u.2.1 41) (u.2.1 42)) (hsk : stkR sk (u.2.1 43) (u.2.1 44) (u.2.1 45)) (hG : stkG n m sk) (hR : RR = clk (u.2.1 10) n fu true p m row pls sk) (hfu : 2 * (n + 1 - p) + 1 ≤ fu) (hD : DM o R) : CMi G l o R yX6_readsTurn cX6_readsTurn 4 .boolean 4 63 [] u (fun r w => ∃ ok : Bool, ∃ pl : Int32, ∃ fa : Int32, ∃ tm : Int32, ∃ rd : Int32, ∃ i1 : Int32, ∃ i2 : Int32, ∃ x : Nat → Int32, ∃ y : Nat → Int32, ∃ F : Nat → Int32, ∃ A : Nat → Int32, ∃ T : Nat → Int32, (tnPost RR (u.2.1 10) n (n - p) ok pl fa tm rd x y F A T) ∧ r = (bI ok) ∧ w = (rE u pl fa (u.1 13) (u.1 17) (u.1 19) (u.1 11) tm rd i1 i2 x y F A T (u.2.1 3))) := by
  refine CMi.mk pnX6 rfl (Nat.le_of_ble_eq_true rfl) (fun pg en Rm sg mm ar bw mth cd QQ ls hC hRm hK hP hS hl hq => ?_)
  have hx := hC.1; have hb := hC.2.1; have ho := hC.2.2.2.1; have hts := hC.2.2.2.2
  have hl : lv_has ls 4 [(0, .ref o)] := hl
  have hP : PM G o R (rE u (u.1 12) (u.1 14) (u.1 13) (u.1 17) (u.1 19) (u.1 11) (u.1 46) (u.1 47) (u.1 48) (u.1 49) (u.2.1 41) (u.2.1 42) (u.2.1 43) (u.2.1 44) (u.2.1 45) (u.2.1 3)) sg.heap := by rw [rE_self]; exact hP
  obtain ⟨bb, hbb⟩ : ∃ b, b = n - p := ⟨_, rfl⟩
  rw [← hbb] at hq
  rw [hp] at hP
  rw [hm] at hP
  rw [hrd] at hP
  refine lv_aload_n hx hb dX6_readsTurn_0 rfl (lv_at hl 0 rfl) ?_
  refine CMv.call hC hK hS (fun q h => h) hl (c_X6_readsTimes G l o R (rE u (nI p) (u.1 14) (u.1 13) (u.1 17) (u.1 19) (u.1 11) (nI m) (nI sk.length) (u.1 48) (u.1 49) (u.2.1 41) (u.2.1 42) (u.2.1 43) (u.2.1 44) (u.2.1 45) (u.2.1 3)) p n (rfl) (hn) (by omega) (by omega) hD) hP rfl q1541 q1543 qs74 q116 q1544 mdX6_readsTimes (room_ok hRm rfl) rfl rfl dX6_readsTurn_1 (fun w1 H locs hpo hP _ _ hS => ?_)
  have ew1 := hpo
  rw [ew1] at hP
  rw [rE_again] at hP
  simp only [rE_f11, rE_f13, rE_f14, rE_f17, rE_f19, rE_f46, rE_f47, rE_g10, rE_g3, rE_g41, rE_g42, rE_g43, rE_g44, rE_g45] at hP
  have LP4 : ∀ (fu4 : Nat) (p : Nat) (fu : Nat) (sk : List Rnd) (pl : Int32) (rd : Int32) (i1 : Int32) (i2 : Int32) (F : Nat → Int32) (A : Nat → Int32) (T : Nat → Int32) (H : Heap) (locs : List Loc) (ls : Array Slot), n + 1 - p < fu4 → pl = nI (timesP (u.2.1 10) n p) → i1 = nI p → i2 = nI (timesC (u.2.1 10) n p) → rd = nI sk.length → p ≤ n → stkR sk F A T → stkG n m sk → RR = clk (u.2.1 10) n fu true p m row pls sk → 2 * (n + 1 - p) + 1 ≤ fu → n ≤ p + bb → PM G o R (rE u pl (u.1 14) (u.1 13) (u.1 17) (u.1 19) (u.1 11) (nI m) rd i1 i2 (u.2.1 41) (u.2.1 42) F A T (u.2.1 3)) H → va_S (AM o R) sg.heap H locs → lv_has ls 4 [(0, .ref o)] → W pg l en Rm sg mm ar bw mth cd H locs 0 0 QQ (F0 mm 4 ls []) := by
    intro fu4
    induction fu4 with
    | zero => intro p fu sk pl rd i1 i2 F A T H locs ls hm4 hpl hi1 hi2 hrd hpn hsk hG hR hfu hbp hP hS hl; exact absurd hm4 (Nat.not_lt_zero _)
    | succ fu4 ih4 =>
      intro p fu sk pl rd i1 i2 F A T H locs ls hm4 hpl hi1 hi2 hrd hpn hsk hG hR hfu hbp hP hS hl
      subst hpl hi1 hi2 hrd
      have htb := timesP_b (u.2.1 10) n p
      have htc := timesC_b (u.2.1 10) n p
      have hsl := hG.1
      refine lv_aload_n hx hb dX6_readsTurn_4 rfl (lv_at hl 0 rfl) ?_
      refine CI.callV hC hK hl (c_X6_here G l o R (rE u (nI (timesP (u.2.1 10) n p)) (u.1 14) (u.1 13) (u.1 17) (u.1 19) (u.1 11) (nI m) (nI sk.length) (nI p) (nI (timesC (u.2.1 10) n p)) (u.2.1 41) (u.2.1 42) F A T (u.2.1 3)) (timesP (u.2.1 10) n p) n (rfl) (hn) (by omega) (by omega)) hP (hP.recv hK) q1438 q1440 qs52 q116 q1441 mdX6_here (room_ok hRm rfl) rfl rfl dX6_readsTurn_5 ?_
      refine W_top (y := (hereI (u.2.1 10) n (timesP (u.2.1 10) n p))) (by simp only [rE_g10]) ?_
      refine lv_bipush (v := 40) hx hb dX6_readsTurn_8 (by decide) ?_
      refine lv_icmp_ne (tgt := 97) hx hb dX6_readsTurn_10 (by decide) (fun c10 => ?_) (fun c10 => ?_)
      · have c10x : ¬ ckN (u.2.1 10) n (timesP (u.2.1 10) n p) = 40 := mt (hereI_eq (c := 40) (by decide)).mpr c10
        refine lv_aload_n hx hb dX6_readsTurn_97 rfl (lv_at hl 0 rfl) ?_
        refine M_get hC hK hP 48 (by decide) (fM48 _ _) q1249 dX6_readsTurn_98 ?_
        refine W_top (y := (nI p)) (by rw [rE_f48]) ?_
        refine lv_istore_n (lv' := [(1, .int (nI p)), (0, .ref o)]) hx hb dX6_readsTurn_101 rfl hl (by decide) rfl (fun ls hl => ?_)
        refine lv_aload_n hx hb dX6_readsTurn_102 rfl (lv_at hl 1 rfl) ?_
        refine M_get hC hK hP 49 (by decide) (fM49 _ _) q1250 dX6_readsTurn_103 ?_
        refine W_top (y := (nI (timesC (u.2.1 10) n p))) (by rw [rE_f49]) ?_
        refine lv_istore_n (lv' := [(2, .int (nI (timesC (u.2.1 10) n p))), (1, .int (nI p)), (0, .ref o)]) hx hb dX6_readsTurn_106 rfl hl (by decide) rfl (fun ls hl => ?_)
        refine lv_aload_n hx hb dX6_readsTurn_107 rfl (lv_at hl 2 rfl) ?_
        refine CI.callV hC hK hl (c_X6_here G l o R (rE u (nI (timesP (u.2.1 10) n p)) (u.1 14) (u.1 13) (u.1 17) (u.1 19) (u.1 11) (nI m) (nI sk.length) (nI p) (nI (timesC (u.2.1 10) n p)) (u.2.1 41) (u.2.1 42) F A T (u.2.1 3)) (timesP (u.2.1 10) n p) n (rfl) (hn) (by omega) (by omega)) hP (hP.recv hK) q1438 q1440 qs52 q116 q1441 mdX6_here (room_ok hRm rfl) rfl rfl dX6_readsTurn_108 ?_
        refine W_top (y := (hereI (u.2.1 10) n (timesP (u.2.1 10) n p))) (by simp only [rE_g10]) ?_
        refine lv_bipush (v := 45) hx hb dX6_readsTurn_111 (by decide) ?_
        refine lv_icmp_ne (tgt := 120) hx hb dX6_readsTurn_113 (by decide) (fun c113 => ?_) (fun c113 => ?_)
        · refine lv_aload_n hx hb dX6_readsTurn_120 rfl (lv_at hl 2 rfl) ?_
          refine CI.callV hC hK hl (c_X6_here G l o R (rE u (nI (timesP (u.2.1 10) n p)) (u.1 14) (u.1 13) (u.1 17) (u.1 19) (u.1 11) (nI m) (nI sk.length) (nI p) (nI (timesC (u.2.1 10) n p)) (u.2.1 41) (u.2.1 42) F A T (u.2.1 3)) (timesP (u.2.1 10) n p) n (rfl) (hn) (by omega) (by omega)) hP (hP.recv hK) q1438 q1440 qs52 q116 q1441 mdX6_here (room_ok hRm rfl) rfl rfl dX6_readsTurn_121 ?_
          refine W_top (y := (hereI (u.2.1 10) n (timesP (u.2.1 10) n p))) (by simp only [rE_g10]) ?_
          refine lv_bipush (v := 97) hx hb dX6_readsTurn_124 (by decide) ?_
          refine lv_isub hx hb dX6_readsTurn_126 ?_
          refine lv_istore_n (lv' := [(3, .int ((hereI (u.2.1 10) n (timesP (u.2.1 10) n p)) - 97)), (2, .int (nI (timesC (u.2.1 10) n p))), (1, .int (nI p)), (0, .ref o)]) hx hb dX6_readsTurn_127 rfl hl (by decide) rfl (fun ls hl => ?_)
          refine lv_iload_n hx hb dX6_readsTurn_128 rfl (lv_at hl 0 rfl) ?_
          refine lv_iconst (v := (-1)) hx hb dX6_readsTurn_129 (by decide) ?_
          refine lv_bipush (v := 15) hx hb dX6_readsTurn_130 (by decide) ?_
          refine CI.callS hC hK hl (c_X6_in G l ((hereI (u.2.1 10) n (timesP (u.2.1 10) n p)) - 97) (-1) 15 ) trivial q1392 q1393 q116 q1394 mdX6_in (room_ok hRm rfl) rfl rfl dX6_readsTurn_132 ?_
          refine W_top (y := (bI (decide (96 ≤ ckN (u.2.1 10) n (timesP (u.2.1 10) n p) ∧ ckN (u.2.1 10) n (timesP (u.2.1 10) n p) < 113)))) (congrArg bI oneI_in) ?_
          refine lv_if_eq (tgt := 152) hx hb dX6_readsTurn_135 (by decide) (fun c135 => ?_) (fun c135 => ?_)
          · have c135 : (decide (96 ≤ ckN (u.2.1 10) n (timesP (u.2.1 10) n p) ∧ ckN (u.2.1 10) n (timesP (u.2.1 10) n p) < 113)) = false := bI_0.mp c135
            refine lv_aload_n hx hb dX6_readsTurn_152 rfl (lv_at hl 3 rfl) ?_
            refine lv_iconst (v := 1) hx hb dX6_readsTurn_153 (by decide) ?_
            refine lv_aload_n hx hb dX6_readsTurn_154 rfl (lv_at hl 3 rfl) ?_
            refine M_get hC hK hP 12 (by decide) (fM12 _ _) q1213 dX6_readsTurn_155 ?_
            refine W_top (y := (nI (timesP (u.2.1 10) n p))) (by rw [rE_f12]) ?_
            refine CMi.call hC hK hS (fun q h => h) hl (c_X6_wrongAt G l o R (rE u (nI (timesP (u.2.1 10) n p)) (u.1 14) (u.1 13) (u.1 17) (u.1 19) (u.1 11) (nI m) (nI sk.length) (nI p) (nI (timesC (u.2.1 10) n p)) (u.2.1 41) (u.2.1 42) F A T (u.2.1 3)) 1 (timesP (u.2.1 10) n p)  hD) hP rfl q1442 q1444 qs53 q116 q1445 mdX6_wrongAt (room_ok hRm rfl) rfl rfl dX6_readsTurn_158 (fun r158 w158 H locs hpo hP _ _ hS => ?_)
            obtain ⟨er158, ew158⟩ := hpo
            rw [ew158] at hP
            refine W_top (y := (bI false)) er158 ?_
            rw [rE_V14] at hP
            exact hq _ _ _ _ _ _ dX6_readsTurn_161 hP hS (by first | rfl | exact bI_nar _) (by exact ⟨false, _, _, _, _, _, _, _, _, _, _, _, tnP_bad (hR.trans (clk_1 (by omega) c10x (one_f1 (mt (hereI_eq (c := 45) (by decide)).mpr c113) (of_decide_eq_false c135)))), rfl, rfl⟩)
          · have c135 : (decide (96 ≤ ckN (u.2.1 10) n (timesP (u.2.1 10) n p) ∧ ckN (u.2.1 10) n (timesP (u.2.1 10) n p) < 113)) = true := bI_1.mp c135
            refine lv_iload_n hx hb dX6_readsTurn_138 rfl (lv_at hl 0 rfl) ?_
            refine lv_iconst (v := (-1)) hx hb dX6_readsTurn_139 (by decide) ?_
            refine lv_icmp_ne (tgt := 162) hx hb dX6_readsTurn_140 (by decide) (fun c140 => ?_) (fun c140 => ?_)
            · have hone97 : 97 ≤ ckN (u.2.1 10) n (timesP (u.2.1 10) n p) := one97 (of_decide_eq_true c135).1 (of_decide_eq_true c135).2 c140
              have hone : isOneC (ckN (u.2.1 10) n (timesP (u.2.1 10) n p)) = true := by exact one_t hone97 (of_decide_eq_true c135).2
              have hqn := isOne_in hone
              refine lv_aload_n hx hb dX6_readsTurn_162 rfl (lv_at hl 3 rfl) ?_
              refine M_get hC hK hP 46 (by decide) (fM46 _ _) q1247 dX6_readsTurn_163 ?_
              refine W_top (y := (nI m)) (by rw [rE_f46]) ?_
              refine lv_iload_n hx hb dX6_readsTurn_166 rfl (lv_at hl 1 rfl) ?_
              refine lv_iadd hx hb dX6_readsTurn_167 ?_
              refine W_top (nI_add m (timesC (u.2.1 10) n p)) ?_
              refine lv_bipush (v := 12) hx hb dX6_readsTurn_168 (by decide) ?_
              refine lv_icmp_le (tgt := 181) hx hb dX6_readsTurn_170 (by decide) (fun c170 => ?_) (fun c170 => ?_)
              · have c170 : (m + (timesC (u.2.1 10) n p)) ≤ 12 := (nI_leI (a := (m + (timesC (u.2.1 10) n p))) (b := 12) (by omega) (by omega)).mp c170
                refine lv_aload_n hx hb dX6_readsTurn_181 rfl (lv_at hl 3 rfl) ?_
                refine M_get hC hK hP 41 (by decide) (fM41 _ _) q1242 dX6_readsTurn_182 ?_
                refine lv_aload_n hx hb dX6_readsTurn_185 rfl (lv_at hl 3 rfl) ?_
                refine M_get hC hK hP 46 (by decide) (fM46 _ _) q1247 dX6_readsTurn_186 ?_
                refine W_top (y := (nI m)) (by rw [rE_f46]) ?_
                refine lv_iload_n hx hb dX6_readsTurn_189 rfl (lv_at hl 0 rfl) ?_
                refine W_top (y := (oneV (ckN (u.2.1 10) n (timesP (u.2.1 10) n p)))) (by have h1 := of_decide_eq_true c135; have h2 : ¬ ckN (u.2.1 10) n (timesP (u.2.1 10) n p) = 45 := (by omega); rw [oneV, if_neg h2, hereI_ck (by omega)]; exact pk_sub (b := 97) (hone97)) ?_
                refine M_ast hC hK hD hP hS 41 27 12 m (aM41 _ _ _ _) (bM41 _ _ _ _ _ _) (by decide) (rfl) (by omega) dX6_readsTurn_190 (fun H locs hP hS => ?_)
                rw [rE_A41] at hP
                refine lv_aload_n hx hb dX6_readsTurn_191 rfl (lv_at hl 3 rfl) ?_
                refine M_get hC hK hP 42 (by decide) (fM42 _ _) q1243 dX6_readsTurn_192 ?_
                refine lv_aload_n hx hb dX6_readsTurn_195 rfl (lv_at hl 3 rfl) ?_
                refine M_get hC hK hP 46 (by decide) (fM46 _ _) q1247 dX6_readsTurn_196 ?_
                refine W_top (y := (nI m)) (by rw [rE_f46]) ?_
                refine lv_aload_n hx hb dX6_readsTurn_199 rfl (lv_at hl 3 rfl) ?_
                refine M_get hC hK hP 12 (by decide) (fM12 _ _) q1213 dX6_readsTurn_200 ?_
                refine W_top (y := (nI (timesP (u.2.1 10) n p))) (by rw [rE_f12]) ?_
                refine M_ast hC hK hD hP hS 42 28 12 m (aM42 _ _ _ _) (bM42 _ _ _ _ _ _) (by decide) (rfl) (by omega) dX6_readsTurn_203 (fun H locs hP hS => ?_)
                rw [rE_A42] at hP
                refine lv_aload_n hx hb dX6_readsTurn_204 rfl (lv_at hl 3 rfl) ?_
                refine lv_aload_n hx hb dX6_readsTurn_205 rfl (lv_at hl 3 rfl) ?_
                refine M_get hC hK hP 12 (by decide) (fM12 _ _) q1213 dX6_readsTurn_206 ?_
                refine W_top (y := (nI (timesP (u.2.1 10) n p))) (by rw [rE_f12]) ?_
                refine lv_iconst (v := 1) hx hb dX6_readsTurn_209 (by decide) ?_
                refine lv_iadd hx hb dX6_readsTurn_210 ?_
                refine W_top (nI_add (timesP (u.2.1 10) n p) 1) ?_
                refine M_put hC hK hD hP hS 12 (by decide) (sM12 _ _ _) q1213 rfl dX6_readsTurn_211 (fun H locs hP hS => ?_)
                rw [rE_V12] at hP
                refine lv_aload_n hx hb dX6_readsTurn_214 rfl (lv_at hl 3 rfl) ?_
                refine lv_aload_n hx hb dX6_readsTurn_215 rfl (lv_at hl 3 rfl) ?_
                refine M_get hC hK hP 46 (by decide) (fM46 _ _) q1247 dX6_readsTurn_216 ?_
                refine W_top (y := (nI m)) (by rw [rE_f46]) ?_
                refine lv_iconst (v := 1) hx hb dX6_readsTurn_219 (by decide) ?_
                refine lv_iadd hx hb dX6_readsTurn_220 ?_
                refine W_top (nI_add m 1) ?_
                refine M_put hC hK hD hP hS 46 (by decide) (sM46 _ _ _) q1247 rfl dX6_readsTurn_221 (fun H locs hP hS => ?_)
                rw [rE_V46] at hP
                refine lv_aload_n hx hb dX6_readsTurn_224 rfl (lv_at hl 3 rfl) ?_
                refine lv_aload_n hx hb dX6_readsTurn_225 rfl (lv_at hl 3 rfl) ?_
                refine M_get hC hK hP 46 (by decide) (fM46 _ _) q1247 dX6_readsTurn_226 ?_
                refine W_top (y := (nI (m + 1))) (by rw [rE_f46]) ?_
                refine lv_iconst (v := 1) hx hb dX6_readsTurn_229 (by decide) ?_
                refine lv_isub hx hb dX6_readsTurn_230 ?_
                refine W_top (y := (nI m)) (pk_sub (a := m + 1) (b := 1) (by omega)) ?_
                refine lv_iload_n hx hb dX6_readsTurn_231 rfl (lv_at hl 1 rfl) ?_
                refine lv_iload_n hx hb dX6_readsTurn_232 rfl (lv_at hl 2 rfl) ?_
                refine CMi.call hC hK hS (fun q h => h) hl (c_X6_repeats G l o R (rE u (nI ((timesP (u.2.1 10) n p) + 1)) (u.1 14) (u.1 13) (u.1 17) (u.1 19) (u.1 11) (nI (m + 1)) (nI sk.length) (nI p) (nI (timesC (u.2.1 10) n p)) (upd (u.2.1 41) m (oneV (ckN (u.2.1 10) n (timesP (u.2.1 10) n p)))) (upd (u.2.1 42) m (nI (timesP (u.2.1 10) n p))) F A T (u.2.1 3)) (m + 1) m (timesC (u.2.1 10) n p) p (updG row m (oneV (ckN (u.2.1 10) n (timesP (u.2.1 10) n p)))) (updG pls m (timesP (u.2.1 10) n p)) (rfl) (by omega) (by omega) (htc.1) (htc.2) (rowsR_upd hrw) hD) hP rfl q1545 q1547 qs75 q116 q1548 mdX6_repeats (room_ok hRm rfl) rfl rfl dX6_readsTurn_233 (fun r233 w233 H locs hpo hP _ _ hS => ?_)
                obtain ⟨ok_1, fa_2, tm_3, x_4, y_5, f233_0, er233, ew233⟩ := hpo
                rw [ew233] at hP
                refine W_top (y := (bI ok_1)) er233 ?_
                rw [rE_again] at hP
                simp only [rE_f11, rE_f12, rE_f13, rE_f17, rE_f19, rE_f47, rE_f48, rE_f49, rE_g3, rE_g43, rE_g44, rE_g45] at hP
                refine lv_if_ne (tgt := 241) hx hb dX6_readsTurn_236 (by decide) (fun c236 => ?_) (fun c236 => ?_)
                · have c236 : ok_1 = true := bI_1.mp c236
                  obtain ⟨hq6, htm6, hrw6⟩ := repP_t f233_0 c236
                  rw [Nat.add_sub_cancel_left, Nat.one_mul] at hq6 htm6 hrw6
                  subst htm6
                  have LP241 : ∀ (fu241 : Nat) (p : Nat) (m : Nat) (fu : Nat) (row : Nat → Int32) (pls : Nat → Nat) (sk : List Rnd) (pl : Int32) (fa : Int32) (tm : Int32) (rd : Int32) (i1 : Int32) (i2 : Int32) (x : Nat → Int32) (y : Nat → Int32) (H : Heap) (locs : List Loc) (ls : Array Slot), n + 1 - p < fu241 → pl = nI p → tm = nI m → rd = nI sk.length → p ≤ n → m ≤ 12 → rowsR row pls m x y → stkR sk F A T → stkG n m sk → RR = clk (u.2.1 10) n fu false p m row pls sk → 2 * (n + 1 - p) + 2 ≤ fu → n + 1 ≤ p + bb → PM G o R (rE u pl fa (u.1 13) (u.1 17) (u.1 19) (u.1 11) tm rd i1 i2 x y F A T (u.2.1 3)) H → va_S (AM o R) sg.heap H locs → lv_has ls 4 [(0, .ref o)] → W pg l en Rm sg mm ar bw mth cd H locs 0 0 QQ (F0 mm 241 ls []) := by
                    intro fu241
                    induction fu241 with
                    | zero => intro p m fu row pls sk pl fa tm rd i1 i2 x y H locs ls hm241 hpl htm hrd hpn hm12 hrw hsk hG hR hfu hpb hP hS hl; exact absurd hm241 (Nat.not_lt_zero _)
                    | succ fu241 ih241 =>
                      intro p m fu row pls sk pl fa tm rd i1 i2 x y H locs ls hm241 hpl htm hrd hpn hm12 hrw hsk hG hR hfu hpb hP hS hl
                      subst hpl htm hrd
                      have hsl := hG.1
                      refine lv_aload_n hx hb dX6_readsTurn_241 rfl (lv_at hl 0 rfl) ?_
                      refine CI.callV hC hK hl (c_X6_here G l o R (rE u (nI p) fa (u.1 13) (u.1 17) (u.1 19) (u.1 11) (nI m) (nI sk.length) i1 i2 x y F A T (u.2.1 3)) p n (rfl) (hn) (by omega) (by omega)) hP (hP.recv hK) q1438 q1440 qs52 q116 q1441 mdX6_here (room_ok hRm rfl) rfl rfl dX6_readsTurn_242 ?_
                      refine W_top (y := (hereI (u.2.1 10) n p)) (by simp only [rE_g10]) ?_
                      refine lv_bipush (v := 41) hx hb dX6_readsTurn_245 (by decide) ?_
                      refine lv_icmp_ne (tgt := 313) hx hb dX6_readsTurn_247 (by decide) (fun c247 => ?_) (fun c247 => ?_)
                      · refine lv_iconst (v := 1) hx hb dX6_readsTurn_313 (by decide) ?_
                        exact hq _ _ _ _ _ _ dX6_readsTurn_314 hP hS (by first | rfl | exact bI_nar _) (by exact ⟨true, _, _, _, _, _, _, _, _, _, _, _, by rw [tnPost, if_pos rfl]; exact ⟨p, m, row, pls, sk, fu, hR, hfu, hpn, hm12, rfl, rfl, rfl, hrw, hsk, hG, fun z => c247 ((hereI_eq (c := 41) (by decide)).mpr z.1), hpb⟩, rfl, rfl⟩)
                      · refine lv_aload_n hx hb dX6_readsTurn_250 rfl (lv_at hl 0 rfl) ?_
                        refine M_get hC hK hP 47 (by decide) (fM47 _ _) q1248 dX6_readsTurn_251 ?_
                        refine W_top (y := (nI sk.length)) (by rw [rE_f47]) ?_
                        refine lv_if_le (tgt := 313) hx hb dX6_readsTurn_254 (by decide) (fun c254 => ?_) (fun c254 => ?_)
                        · have c254 : sk.length ≤ 0 := (nI_leI (a := sk.length) (b := 0) (by omega) (by omega)).mp c254
                          refine lv_iconst (v := 1) hx hb dX6_readsTurn_313 (by decide) ?_
                          exact hq _ _ _ _ _ _ dX6_readsTurn_314 hP hS (by first | rfl | exact bI_nar _) (by exact ⟨true, _, _, _, _, _, _, _, _, _, _, _, by rw [tnPost, if_pos rfl]; exact ⟨p, m, row, pls, sk, fu, hR, hfu, hpn, hm12, rfl, rfl, rfl, hrw, hsk, hG, fun z => z.2 (List.length_eq_zero_iff.mp (by omega)), hpb⟩, rfl, rfl⟩)
                        · have c254 : ¬ (sk.length ≤ 0) := mt (nI_leI (a := sk.length) (b := 0) (by omega) (by omega)).mpr c254
                          have hfu1 : 1 ≤ fu := by omega
                          obtain ⟨x0, sk1, rfl⟩ := cons_of (sg := sk) (by omega)
                          have hl : lv_has ls 4 [(0, .ref o)] := hl
                          obtain ⟨hsk1, hsF, hsA, hsT⟩ := stkR_pop hsk
                          have hx0 := hG.2 x0 (List.mem_cons_self ..)
                          have c247x : ckN (u.2.1 10) n p = 41 := (hereI_eq (c := 41) (by decide)).mp c247
                          have hpn1 := ckN_in (by decide) c247x
                          have hsl1 : sk1.length ≤ 1 := by have h9 := hsl; rw [List.length_cons] at h9; omega
                          refine lv_aload_n hx hb dX6_readsTurn_257 rfl (lv_at hl 0 rfl) ?_
                          refine lv_aload_n hx hb dX6_readsTurn_258 rfl (lv_at hl 0 rfl) ?_
                          refine M_get hC hK hP 12 (by decide) (fM12 _ _) q1213 dX6_readsTurn_259 ?_
                          refine W_top (y := (nI p)) (by rw [rE_f12]) ?_
                          refine lv_iconst (v := 1) hx hb dX6_readsTurn_262 (by decide) ?_
                          refine lv_iadd hx hb dX6_readsTurn_263 ?_
                          refine W_top (nI_add p 1) ?_
                          refine M_put hC hK hD hP hS 12 (by decide) (sM12 _ _ _) q1213 rfl dX6_readsTurn_264 (fun H locs hP hS => ?_)
                          rw [rE_V12] at hP
                          refine lv_aload_n hx hb dX6_readsTurn_267 rfl (lv_at hl 0 rfl) ?_
                          refine lv_aload_n hx hb dX6_readsTurn_268 rfl (lv_at hl 0 rfl) ?_
                          refine M_get hC hK hP 47 (by decide) (fM47 _ _) q1248 dX6_readsTurn_269 ?_
                          refine W_top (y := (nI (x0 :: sk1).length)) (by rw [rE_f47]) ?_
                          refine lv_iconst (v := 1) hx hb dX6_readsTurn_272 (by decide) ?_
                          refine lv_isub hx hb dX6_readsTurn_273 ?_
                          refine W_top (y := (nI sk1.length)) (pk_sub (a := sk1.length + 1) (b := 1) (by omega)) ?_
                          refine M_put hC hK hD hP hS 47 (by decide) (sM47 _ _ _) q1248 rfl dX6_readsTurn_274 (fun H locs hP hS => ?_)
                          rw [rE_V47] at hP
                          refine lv_aload_n hx hb dX6_readsTurn_277 rfl (lv_at hl 0 rfl) ?_
                          refine lv_aload_n hx hb dX6_readsTurn_278 rfl (lv_at hl 0 rfl) ?_
                          refine M_get hC hK hP 44 (by decide) (fM44 _ _) q1245 dX6_readsTurn_279 ?_
                          refine lv_aload_n hx hb dX6_readsTurn_282 rfl (lv_at hl 0 rfl) ?_
                          refine M_get hC hK hP 47 (by decide) (fM47 _ _) q1248 dX6_readsTurn_283 ?_
                          refine W_top (y := (nI sk1.length)) (by rw [rE_f47]) ?_
                          refine M_ald hC hK hP 44 30 2 sk1.length (aM44 _ _ _ _) (by decide) (rfl) (by omega) dX6_readsTurn_286 ?_
                          refine W_top (y := (A sk1.length)) (by rw [rE_g44]) ?_
                          refine W_top (y := (nI x0.2.1)) (hsA) ?_
                          refine lv_aload_n hx hb dX6_readsTurn_287 rfl (lv_at hl 0 rfl) ?_
                          refine M_get hC hK hP 45 (by decide) (fM45 _ _) q1246 dX6_readsTurn_288 ?_
                          refine lv_aload_n hx hb dX6_readsTurn_291 rfl (lv_at hl 0 rfl) ?_
                          refine M_get hC hK hP 47 (by decide) (fM47 _ _) q1248 dX6_readsTurn_292 ?_
                          refine W_top (y := (nI sk1.length)) (by rw [rE_f47]) ?_
                          refine M_ald hC hK hP 45 31 2 sk1.length (aM45 _ _ _ _) (by decide) (rfl) (by omega) dX6_readsTurn_295 ?_
                          refine W_top (y := (T sk1.length)) (by rw [rE_g45]) ?_
                          refine W_top (y := (nI x0.2.2)) (hsT) ?_
                          refine lv_aload_n hx hb dX6_readsTurn_296 rfl (lv_at hl 0 rfl) ?_
                          refine M_get hC hK hP 43 (by decide) (fM43 _ _) q1244 dX6_readsTurn_297 ?_
                          refine lv_aload_n hx hb dX6_readsTurn_300 rfl (lv_at hl 0 rfl) ?_
                          refine M_get hC hK hP 47 (by decide) (fM47 _ _) q1248 dX6_readsTurn_301 ?_
                          refine W_top (y := (nI sk1.length)) (by rw [rE_f47]) ?_
                          refine M_ald hC hK hP 43 29 2 sk1.length (aM43 _ _ _ _) (by decide) (rfl) (by omega) dX6_readsTurn_304 ?_
                          refine W_top (y := (F sk1.length)) (by rw [rE_g43]) ?_
                          refine W_top (y := (nI x0.1)) (hsF) ?_
                          refine CMi.call hC hK hS (fun q h => h) hl (c_X6_repeats G l o R (rE u (nI (p + 1)) fa (u.1 13) (u.1 17) (u.1 19) (u.1 11) (nI m) (nI sk1.length) i1 i2 x y F A T (u.2.1 3)) m x0.2.1 x0.2.2 x0.1 row pls (rfl) (hx0.2.1) (hm12) (hx0.2.2.1) (hx0.2.2.2) (hrw) hD) hP rfl q1545 q1547 qs75 q116 q1548 mdX6_repeats (room_ok hRm rfl) rfl rfl dX6_readsTurn_305 (fun r305 w305 H locs hpo hP _ _ hS => ?_)
                          obtain ⟨ok_6, fa_7, tm_8, x_9, y_10, f305_0, er305, ew305⟩ := hpo
                          rw [ew305] at hP
                          refine W_top (y := (bI ok_6)) er305 ?_
                          rw [rE_again] at hP
                          simp only [rE_f11, rE_f12, rE_f13, rE_f17, rE_f19, rE_f47, rE_f48, rE_f49, rE_g3, rE_g43, rE_g44, rE_g45] at hP
                          refine lv_if_ne (tgt := 241) hx hb dX6_readsTurn_308 (by decide) (fun c308 => ?_) (fun c308 => ?_)
                          · have c308 : ok_6 = true := bI_1.mp c308
                            obtain ⟨hq6, htm6, hrw6⟩ := repP_t f305_0 c308
                            subst htm6
                            exact ih241 (p + 1) (x0.2.1 + (m - x0.2.1) * x0.2.2) (fu - 1) (repF row x0.2.1 (m - x0.2.1) x0.2.2) (repF pls x0.2.1 (m - x0.2.1) x0.2.2) sk1 (nI (p + 1)) fa_7 (nI (x0.2.1 + (m - x0.2.1) * x0.2.2)) (nI sk1.length) i1 i2 x_9 y_10 _ _ ls (by omega) (rfl) (rfl) (rfl) (by omega) (by omega) (hrw6) (hsk1) (stkG_pop hG (by have h8 := Nat.le_mul_of_pos_right (m - x0.2.1) hx0.2.2.1; omega)) (hR.trans (clk_pop hfu1 c247x hq6)) (by omega) (by omega) hP hS (lv_sub hl [0] rfl)
                          · have c308 : ok_6 = false := bI_0.mp c308
                            obtain ⟨hq6, rfl⟩ := repP_f f305_0 c308
                            refine lv_iconst (v := 0) hx hb dX6_readsTurn_311 (by decide) ?_
                            exact hq _ _ _ _ _ _ dX6_readsTurn_312 hP hS (by first | rfl | exact bI_nar _) (by exact ⟨false, _, _, _, _, _, _, _, _, _, _, _, tnP_bad (hR.trans (clk_popf hfu1 c247x hq6)), rfl, rfl⟩)
                  exact LP241 _ ((timesP (u.2.1 10) n p) + 1) (m + (timesC (u.2.1 10) n p)) (fu - 1) (repF (updG row m (oneV (ckN (u.2.1 10) n (timesP (u.2.1 10) n p)))) m 1 (timesC (u.2.1 10) n p)) (repF (updG pls m (timesP (u.2.1 10) n p)) m 1 (timesC (u.2.1 10) n p)) sk (nI ((timesP (u.2.1 10) n p) + 1)) fa_2 (nI (m + (timesC (u.2.1 10) n p))) (nI sk.length) (nI p) (nI (timesC (u.2.1 10) n p)) x_4 y_5 _ _ ls (Nat.lt_succ_self _) (rfl) (rfl) (rfl) (by omega) (by omega) (hrw6) (hsk) (stkG_up hG (by omega)) (hR.trans (clk_one (by omega) c10x hone (by omega))) (by omega) (by omega) hP hS (lv_sub hl [3] rfl)
                · have c236 : ok_1 = false := bI_0.mp c236
                  exfalso; have h9 := (repP_f f233_0 c236).1; rw [Nat.add_sub_cancel_left, Nat.one_mul] at h9; omega
              · have c170 : ¬ ((m + (timesC (u.2.1 10) n p)) ≤ 12) := mt (nI_leI (a := (m + (timesC (u.2.1 10) n p))) (b := 12) (by omega) (by omega)).mpr c170
                refine lv_aload_n hx hb dX6_readsTurn_173 rfl (lv_at hl 3 rfl) ?_
                refine lv_bipush (v := 6) hx hb dX6_readsTurn_174 (by decide) ?_
                refine lv_iload_n hx hb dX6_readsTurn_176 rfl (lv_at hl 2 rfl) ?_
                refine CMi.call hC hK hS (fun q h => h) hl (c_X6_wrongAt G l o R (rE u (nI (timesP (u.2.1 10) n p)) (u.1 14) (u.1 13) (u.1 17) (u.1 19) (u.1 11) (nI m) (nI sk.length) (nI p) (nI (timesC (u.2.1 10) n p)) (u.2.1 41) (u.2.1 42) F A T (u.2.1 3)) 6 p  hD) hP rfl q1442 q1444 qs53 q116 q1445 mdX6_wrongAt (room_ok hRm rfl) rfl rfl dX6_readsTurn_177 (fun r177 w177 H locs hpo hP _ _ hS => ?_)
                obtain ⟨er177, ew177⟩ := hpo
                rw [ew177] at hP
                refine W_top (y := (bI false)) er177 ?_
                rw [rE_V14] at hP
                exact hq _ _ _ _ _ _ dX6_readsTurn_180 hP hS (by first | rfl | exact bI_nar _) (by exact ⟨false, _, _, _, _, _, _, _, _, _, _, _, tnP_bad (hR.trans (clk_6 (by omega) c10x hone (by omega))), rfl, rfl⟩)
            · have c113x : ckN (u.2.1 10) n (timesP (u.2.1 10) n p) = 96 := one96 (of_decide_eq_true c135).1 (of_decide_eq_true c135).2 (by first | exact c140 | exact Classical.not_not.mp c140)
              refine lv_aload_n hx hb dX6_readsTurn_143 rfl (lv_at hl 3 rfl) ?_
              refine CI.callV hC hK hl (c_X6_here G l o R (rE u (nI (timesP (u.2.1 10) n p)) (u.1 14) (u.1 13) (u.1 17) (u.1 19) (u.1 11) (nI m) (nI sk.length) (nI p) (nI (timesC (u.2.1 10) n p)) (u.2.1 41) (u.2.1 42) F A T (u.2.1 3)) (timesP (u.2.1 10) n p) n (rfl) (hn) (by omega) (by omega)) hP (hP.recv hK) q1438 q1440 qs52 q116 q1441 mdX6_here (room_ok hRm rfl) rfl rfl dX6_readsTurn_144 ?_
              refine W_top (y := (hereI (u.2.1 10) n (timesP (u.2.1 10) n p))) (by simp only [rE_g10]) ?_
              refine lv_bipush (v := 45) hx hb dX6_readsTurn_147 (by decide) ?_
              refine lv_icmp_eq (tgt := 162) hx hb dX6_readsTurn_149 (by decide) (fun c149 => ?_) (fun c149 => ?_)
              · exact absurd c149 c113
              · refine lv_aload_n hx hb dX6_readsTurn_152 rfl (lv_at hl 3 rfl) ?_
                refine lv_iconst (v := 1) hx hb dX6_readsTurn_153 (by decide) ?_
                refine lv_aload_n hx hb dX6_readsTurn_154 rfl (lv_at hl 3 rfl) ?_
                refine M_get hC hK hP 12 (by decide) (fM12 _ _) q1213 dX6_readsTurn_155 ?_
                refine W_top (y := (nI (timesP (u.2.1 10) n p))) (by rw [rE_f12]) ?_
                refine CMi.call hC hK hS (fun q h => h) hl (c_X6_wrongAt G l o R (rE u (nI (timesP (u.2.1 10) n p)) (u.1 14) (u.1 13) (u.1 17) (u.1 19) (u.1 11) (nI m) (nI sk.length) (nI p) (nI (timesC (u.2.1 10) n p)) (u.2.1 41) (u.2.1 42) F A T (u.2.1 3)) 1 (timesP (u.2.1 10) n p)  hD) hP rfl q1442 q1444 qs53 q116 q1445 mdX6_wrongAt (room_ok hRm rfl) rfl rfl dX6_readsTurn_158 (fun r158 w158 H locs hpo hP _ _ hS => ?_)
                obtain ⟨er158, ew158⟩ := hpo
                rw [ew158] at hP
                refine W_top (y := (bI false)) er158 ?_
                rw [rE_V14] at hP
                exact hq _ _ _ _ _ _ dX6_readsTurn_161 hP hS (by first | rfl | exact bI_nar _) (by exact ⟨false, _, _, _, _, _, _, _, _, _, _, _, tnP_bad (hR.trans (clk_1 (by omega) c10x (one_f2 c113x))), rfl, rfl⟩)
        · refine lv_iconst (v := (-1)) hx hb dX6_readsTurn_116 (by decide) ?_
          refine lv_goto (tgt := 127) hx hb dX6_readsTurn_117 (by decide) ?_
          refine lv_istore_n (lv' := [(3, .int (-1)), (2, .int (nI (timesC (u.2.1 10) n p))), (1, .int (nI p)), (0, .ref o)]) hx hb dX6_readsTurn_127 rfl hl (by decide) rfl (fun ls hl => ?_)
          refine lv_iload_n hx hb dX6_readsTurn_128 rfl (lv_at hl 0 rfl) ?_
          refine lv_iconst (v := (-1)) hx hb dX6_readsTurn_129 (by decide) ?_
          refine lv_bipush (v := 15) hx hb dX6_readsTurn_130 (by decide) ?_
          refine CI.callS hC hK hl (c_X6_in G l (-1) (-1) 15 ) trivial q1392 q1393 q116 q1394 mdX6_in (room_ok hRm rfl) rfl rfl dX6_readsTurn_132 ?_
          refine W_top (y := (bI true)) (rfl) ?_
          refine lv_if_eq (tgt := 152) hx hb dX6_readsTurn_135 (by decide) (fun c135 => ?_) (fun c135 => ?_)
          · have c135 : true = false := bI_0.mp c135
            exact absurd c135 (by decide)
          · have c135 : true = true := bI_1.mp c135
            refine lv_iload_n hx hb dX6_readsTurn_138 rfl (lv_at hl 0 rfl) ?_
            refine lv_iconst (v := (-1)) hx hb dX6_readsTurn_139 (by decide) ?_
            refine lv_icmp_ne (tgt := 162) hx hb dX6_readsTurn_140 (by decide) (fun c140 => ?_) (fun c140 => ?_)
            · exact absurd c140 (by decide)
            · refine lv_aload_n hx hb dX6_readsTurn_143 rfl (lv_at hl 3 rfl) ?_
              refine CI.callV hC hK hl (c_X6_here G l o R (rE u (nI (timesP (u.2.1 10) n p)) (u.1 14) (u.1 13) (u.1 17) (u.1 19) (u.1 11) (nI m) (nI sk.length) (nI p) (nI (timesC (u.2.1 10) n p)) (u.2.1 41) (u.2.1 42) F A T (u.2.1 3)) (timesP (u.2.1 10) n p) n (rfl) (hn) (by omega) (by omega)) hP (hP.recv hK) q1438 q1440 qs52 q116 q1441 mdX6_here (room_ok hRm rfl) rfl rfl dX6_readsTurn_144 ?_
              refine W_top (y := (hereI (u.2.1 10) n (timesP (u.2.1 10) n p))) (by simp only [rE_g10]) ?_
              refine lv_bipush (v := 45) hx hb dX6_readsTurn_147 (by decide) ?_
              refine lv_icmp_eq (tgt := 162) hx hb dX6_readsTurn_149 (by decide) (fun c149 => ?_) (fun c149 => ?_)
              · have hone : isOneC (ckN (u.2.1 10) n (timesP (u.2.1 10) n p)) = true := by rw [(hereI_eq (c := 45) (by decide)).mp c113]; rfl
                have hqn := isOne_in hone
                refine lv_aload_n hx hb dX6_readsTurn_162 rfl (lv_at hl 3 rfl) ?_
                refine M_get hC hK hP 46 (by decide) (fM46 _ _) q1247 dX6_readsTurn_163 ?_
                refine W_top (y := (nI m)) (by rw [rE_f46]) ?_
                refine lv_iload_n hx hb dX6_readsTurn_166 rfl (lv_at hl 1 rfl) ?_
                refine lv_iadd hx hb dX6_readsTurn_167 ?_
                refine W_top (nI_add m (timesC (u.2.1 10) n p)) ?_
                refine lv_bipush (v := 12) hx hb dX6_readsTurn_168 (by decide) ?_
                refine lv_icmp_le (tgt := 181) hx hb dX6_readsTurn_170 (by decide) (fun c170 => ?_) (fun c170 => ?_)
                · have c170 : (m + (timesC (u.2.1 10) n p)) ≤ 12 := (nI_leI (a := (m + (timesC (u.2.1 10) n p))) (b := 12) (by omega) (by omega)).mp c170
                  refine lv_aload_n hx hb dX6_readsTurn_181 rfl (lv_at hl 3 rfl) ?_
                  refine M_get hC hK hP 41 (by decide) (fM41 _ _) q1242 dX6_readsTurn_182 ?_
                  refine lv_aload_n hx hb dX6_readsTurn_185 rfl (lv_at hl 3 rfl) ?_
                  refine M_get hC hK hP 46 (by decide) (fM46 _ _) q1247 dX6_readsTurn_186 ?_
                  refine W_top (y := (nI m)) (by rw [rE_f46]) ?_
                  refine lv_iload_n hx hb dX6_readsTurn_189 rfl (lv_at hl 0 rfl) ?_
                  refine W_top (y := (oneV (ckN (u.2.1 10) n (timesP (u.2.1 10) n p)))) (by rw [(hereI_eq (c := 45) (by decide)).mp c113]; rfl) ?_
                  refine M_ast hC hK hD hP hS 41 27 12 m (aM41 _ _ _ _) (bM41 _ _ _ _ _ _) (by decide) (rfl) (by omega) dX6_readsTurn_190 (fun H locs hP hS => ?_)
                  rw [rE_A41] at hP
                  refine lv_aload_n hx hb dX6_readsTurn_191 rfl (lv_at hl 3 rfl) ?_
                  refine M_get hC hK hP 42 (by decide) (fM42 _ _) q1243 dX6_readsTurn_192 ?_
                  refine lv_aload_n hx hb dX6_readsTurn_195 rfl (lv_at hl 3 rfl) ?_
                  refine M_get hC hK hP 46 (by decide) (fM46 _ _) q1247 dX6_readsTurn_196 ?_
                  refine W_top (y := (nI m)) (by rw [rE_f46]) ?_
                  refine lv_aload_n hx hb dX6_readsTurn_199 rfl (lv_at hl 3 rfl) ?_
                  refine M_get hC hK hP 12 (by decide) (fM12 _ _) q1213 dX6_readsTurn_200 ?_
                  refine W_top (y := (nI (timesP (u.2.1 10) n p))) (by rw [rE_f12]) ?_
                  refine M_ast hC hK hD hP hS 42 28 12 m (aM42 _ _ _ _) (bM42 _ _ _ _ _ _) (by decide) (rfl) (by omega) dX6_readsTurn_203 (fun H locs hP hS => ?_)
                  rw [rE_A42] at hP
                  refine lv_aload_n hx hb dX6_readsTurn_204 rfl (lv_at hl 3 rfl) ?_
                  refine lv_aload_n hx hb dX6_readsTurn_205 rfl (lv_at hl 3 rfl) ?_
                  refine M_get hC hK hP 12 (by decide) (fM12 _ _) q1213 dX6_readsTurn_206 ?_
                  refine W_top (y := (nI (timesP (u.2.1 10) n p))) (by rw [rE_f12]) ?_
                  refine lv_iconst (v := 1) hx hb dX6_readsTurn_209 (by decide) ?_
                  refine lv_iadd hx hb dX6_readsTurn_210 ?_
                  refine W_top (nI_add (timesP (u.2.1 10) n p) 1) ?_
                  refine M_put hC hK hD hP hS 12 (by decide) (sM12 _ _ _) q1213 rfl dX6_readsTurn_211 (fun H locs hP hS => ?_)
                  rw [rE_V12] at hP
                  refine lv_aload_n hx hb dX6_readsTurn_214 rfl (lv_at hl 3 rfl) ?_
                  refine lv_aload_n hx hb dX6_readsTurn_215 rfl (lv_at hl 3 rfl) ?_
                  refine M_get hC hK hP 46 (by decide) (fM46 _ _) q1247 dX6_readsTurn_216 ?_
                  refine W_top (y := (nI m)) (by rw [rE_f46]) ?_
                  refine lv_iconst (v := 1) hx hb dX6_readsTurn_219 (by decide) ?_
                  refine lv_iadd hx hb dX6_readsTurn_220 ?_
                  refine W_top (nI_add m 1) ?_
                  refine M_put hC hK hD hP hS 46 (by decide) (sM46 _ _ _) q1247 rfl dX6_readsTurn_221 (fun H locs hP hS => ?_)
                  rw [rE_V46] at hP
                  refine lv_aload_n hx hb dX6_readsTurn_224 rfl (lv_at hl 3 rfl) ?_
                  refine lv_aload_n hx hb dX6_readsTurn_225 rfl (lv_at hl 3 rfl) ?_
                  refine M_get hC hK hP 46 (by decide) (fM46 _ _) q1247 dX6_readsTurn_226 ?_
                  refine W_top (y := (nI (m + 1))) (by rw [rE_f46]) ?_
                  refine lv_iconst (v := 1) hx hb dX6_readsTurn_229 (by decide) ?_
                  refine lv_isub hx hb dX6_readsTurn_230 ?_
                  refine W_top (y := (nI m)) (pk_sub (a := m + 1) (b := 1) (by omega)) ?_
                  refine lv_iload_n hx hb dX6_readsTurn_231 rfl (lv_at hl 1 rfl) ?_
                  refine lv_iload_n hx hb dX6_readsTurn_232 rfl (lv_at hl 2 rfl) ?_
                  refine CMi.call hC hK hS (fun q h => h) hl (c_X6_repeats G l o R (rE u (nI ((timesP (u.2.1 10) n p) + 1)) (u.1 14) (u.1 13) (u.1 17) (u.1 19) (u.1 11) (nI (m + 1)) (nI sk.length) (nI p) (nI (timesC (u.2.1 10) n p)) (upd (u.2.1 41) m (oneV (ckN (u.2.1 10) n (timesP (u.2.1 10) n p)))) (upd (u.2.1 42) m (nI (timesP (u.2.1 10) n p))) F A T (u.2.1 3)) (m + 1) m (timesC (u.2.1 10) n p) p (updG row m (oneV (ckN (u.2.1 10) n (timesP (u.2.1 10) n p)))) (updG pls m (timesP (u.2.1 10) n p)) (rfl) (by omega) (by omega) (htc.1) (htc.2) (rowsR_upd hrw) hD) hP rfl q1545 q1547 qs75 q116 q1548 mdX6_repeats (room_ok hRm rfl) rfl rfl dX6_readsTurn_233 (fun r233 w233 H locs hpo hP _ _ hS => ?_)
                  obtain ⟨ok_11, fa_12, tm_13, x_14, y_15, f233_0, er233, ew233⟩ := hpo
                  rw [ew233] at hP
                  refine W_top (y := (bI ok_11)) er233 ?_
                  rw [rE_again] at hP
                  simp only [rE_f11, rE_f12, rE_f13, rE_f17, rE_f19, rE_f47, rE_f48, rE_f49, rE_g3, rE_g43, rE_g44, rE_g45] at hP
                  refine lv_if_ne (tgt := 241) hx hb dX6_readsTurn_236 (by decide) (fun c236 => ?_) (fun c236 => ?_)
                  · have c236 : ok_11 = true := bI_1.mp c236
                    obtain ⟨hq6, htm6, hrw6⟩ := repP_t f233_0 c236
                    rw [Nat.add_sub_cancel_left, Nat.one_mul] at hq6 htm6 hrw6
                    subst htm6
                    have LP241 : ∀ (fu241 : Nat) (p : Nat) (m : Nat) (fu : Nat) (row : Nat → Int32) (pls : Nat → Nat) (sk : List Rnd) (pl : Int32) (fa : Int32) (tm : Int32) (rd : Int32) (i1 : Int32) (i2 : Int32) (x : Nat → Int32) (y : Nat → Int32) (H : Heap) (locs : List Loc) (ls : Array Slot), n + 1 - p < fu241 → pl = nI p → tm = nI m → rd = nI sk.length → p ≤ n → m ≤ 12 → rowsR row pls m x y → stkR sk F A T → stkG n m sk → RR = clk (u.2.1 10) n fu false p m row pls sk → 2 * (n + 1 - p) + 2 ≤ fu → n + 1 ≤ p + bb → PM G o R (rE u pl fa (u.1 13) (u.1 17) (u.1 19) (u.1 11) tm rd i1 i2 x y F A T (u.2.1 3)) H → va_S (AM o R) sg.heap H locs → lv_has ls 4 [(0, .ref o)] → W pg l en Rm sg mm ar bw mth cd H locs 0 0 QQ (F0 mm 241 ls []) := by
                      intro fu241
                      induction fu241 with
                      | zero => intro p m fu row pls sk pl fa tm rd i1 i2 x y H locs ls hm241 hpl htm hrd hpn hm12 hrw hsk hG hR hfu hpb hP hS hl; exact absurd hm241 (Nat.not_lt_zero _)
                      | succ fu241 ih241 =>
                        intro p m fu row pls sk pl fa tm rd i1 i2 x y H locs ls hm241 hpl htm hrd hpn hm12 hrw hsk hG hR hfu hpb hP hS hl
                        subst hpl htm hrd
                        have hsl := hG.1
                        refine lv_aload_n hx hb dX6_readsTurn_241 rfl (lv_at hl 0 rfl) ?_
                        refine CI.callV hC hK hl (c_X6_here G l o R (rE u (nI p) fa (u.1 13) (u.1 17) (u.1 19) (u.1 11) (nI m) (nI sk.length) i1 i2 x y F A T (u.2.1 3)) p n (rfl) (hn) (by omega) (by omega)) hP (hP.recv hK) q1438 q1440 qs52 q116 q1441 mdX6_here (room_ok hRm rfl) rfl rfl dX6_readsTurn_242 ?_
                        refine W_top (y := (hereI (u.2.1 10) n p)) (by simp only [rE_g10]) ?_
                        refine lv_bipush (v := 41) hx hb dX6_readsTurn_245 (by decide) ?_
                        refine lv_icmp_ne (tgt := 313) hx hb dX6_readsTurn_247 (by decide) (fun c247 => ?_) (fun c247 => ?_)
                        · refine lv_iconst (v := 1) hx hb dX6_readsTurn_313 (by decide) ?_
                          exact hq _ _ _ _ _ _ dX6_readsTurn_314 hP hS (by first | rfl | exact bI_nar _) (by exact ⟨true, _, _, _, _, _, _, _, _, _, _, _, by rw [tnPost, if_pos rfl]; exact ⟨p, m, row, pls, sk, fu, hR, hfu, hpn, hm12, rfl, rfl, rfl, hrw, hsk, hG, fun z => c247 ((hereI_eq (c := 41) (by decide)).mpr z.1), hpb⟩, rfl, rfl⟩)
                        · refine lv_aload_n hx hb dX6_readsTurn_250 rfl (lv_at hl 0 rfl) ?_
                          refine M_get hC hK hP 47 (by decide) (fM47 _ _) q1248 dX6_readsTurn_251 ?_
                          refine W_top (y := (nI sk.length)) (by rw [rE_f47]) ?_
                          refine lv_if_le (tgt := 313) hx hb dX6_readsTurn_254 (by decide) (fun c254 => ?_) (fun c254 => ?_)
                          · have c254 : sk.length ≤ 0 := (nI_leI (a := sk.length) (b := 0) (by omega) (by omega)).mp c254
                            refine lv_iconst (v := 1) hx hb dX6_readsTurn_313 (by decide) ?_
                            exact hq _ _ _ _ _ _ dX6_readsTurn_314 hP hS (by first | rfl | exact bI_nar _) (by exact ⟨true, _, _, _, _, _, _, _, _, _, _, _, by rw [tnPost, if_pos rfl]; exact ⟨p, m, row, pls, sk, fu, hR, hfu, hpn, hm12, rfl, rfl, rfl, hrw, hsk, hG, fun z => z.2 (List.length_eq_zero_iff.mp (by omega)), hpb⟩, rfl, rfl⟩)
                          · have c254 : ¬ (sk.length ≤ 0) := mt (nI_leI (a := sk.length) (b := 0) (by omega) (by omega)).mpr c254
                            have hfu1 : 1 ≤ fu := by omega
                            obtain ⟨x0, sk1, rfl⟩ := cons_of (sg := sk) (by omega)
                            have hl : lv_has ls 4 [(0, .ref o)] := hl
                            obtain ⟨hsk1, hsF, hsA, hsT⟩ := stkR_pop hsk
                            have hx0 := hG.2 x0 (List.mem_cons_self ..)
                            have c247x : ckN (u.2.1 10) n p = 41 := (hereI_eq (c := 41) (by decide)).mp c247
                            have hpn1 := ckN_in (by decide) c247x
                            have hsl1 : sk1.length ≤ 1 := by have h9 := hsl; rw [List.length_cons] at h9; omega
                            refine lv_aload_n hx hb dX6_readsTurn_257 rfl (lv_at hl 0 rfl) ?_
                            refine lv_aload_n hx hb dX6_readsTurn_258 rfl (lv_at hl 0 rfl) ?_
                            refine M_get hC hK hP 12 (by decide) (fM12 _ _) q1213 dX6_readsTurn_259 ?_
                            refine W_top (y := (nI p)) (by rw [rE_f12]) ?_
                            refine lv_iconst (v := 1) hx hb dX6_readsTurn_262 (by decide) ?_
                            refine lv_iadd hx hb dX6_readsTurn_263 ?_
                            refine W_top (nI_add p 1) ?_
                            refine M_put hC hK hD hP hS 12 (by decide) (sM12 _ _ _) q1213 rfl dX6_readsTurn_264 (fun H locs hP hS => ?_)
                            rw [rE_V12] at hP
                            refine lv_aload_n hx hb dX6_readsTurn_267 rfl (lv_at hl 0 rfl) ?_
                            refine lv_aload_n hx hb dX6_readsTurn_268 rfl (lv_at hl 0 rfl) ?_
                            refine M_get hC hK hP 47 (by decide) (fM47 _ _) q1248 dX6_readsTurn_269 ?_
                            refine W_top (y := (nI (x0 :: sk1).length)) (by rw [rE_f47]) ?_
                            refine lv_iconst (v := 1) hx hb dX6_readsTurn_272 (by decide) ?_
                            refine lv_isub hx hb dX6_readsTurn_273 ?_
                            refine W_top (y := (nI sk1.length)) (pk_sub (a := sk1.length + 1) (b := 1) (by omega)) ?_
                            refine M_put hC hK hD hP hS 47 (by decide) (sM47 _ _ _) q1248 rfl dX6_readsTurn_274 (fun H locs hP hS => ?_)
                            rw [rE_V47] at hP
                            refine lv_aload_n hx hb dX6_readsTurn_277 rfl (lv_at hl 0 rfl) ?_
                            refine lv_aload_n hx hb dX6_readsTurn_278 rfl (lv_at hl 0 rfl) ?_
                            refine M_get hC hK hP 44 (by decide) (fM44 _ _) q1245 dX6_readsTurn_279 ?_
                            refine lv_aload_n hx hb dX6_readsTurn_282 rfl (lv_at hl 0 rfl) ?_
                            refine M_get hC hK hP 47 (by decide) (fM47 _ _) q1248 dX6_readsTurn_283 ?_
                            refine W_top (y := (nI sk1.length)) (by rw [rE_f47]) ?_
                            refine M_ald hC hK hP 44 30 2 sk1.length (aM44 _ _ _ _) (by decide) (rfl) (by omega) dX6_readsTurn_286 ?_
                            refine W_top (y := (A sk1.length)) (by rw [rE_g44]) ?_
                            refine W_top (y := (nI x0.2.1)) (hsA) ?_
                            refine lv_aload_n hx hb dX6_readsTurn_287 rfl (lv_at hl 0 rfl) ?_
                            refine M_get hC hK hP 45 (by decide) (fM45 _ _) q1246 dX6_readsTurn_288 ?_
                            refine lv_aload_n hx hb dX6_readsTurn_291 rfl (lv_at hl 0 rfl) ?_
                            refine M_get hC hK hP 47 (by decide) (fM47 _ _) q1248 dX6_readsTurn_292 ?_
                            refine W_top (y := (nI sk1.length)) (by rw [rE_f47]) ?_
                            refine M_ald hC hK hP 45 31 2 sk1.length (aM45 _ _ _ _) (by decide) (rfl) (by omega) dX6_readsTurn_295 ?_
                            refine W_top (y := (T sk1.length)) (by rw [rE_g45]) ?_
                            refine W_top (y := (nI x0.2.2)) (hsT) ?_
                            refine lv_aload_n hx hb dX6_readsTurn_296 rfl (lv_at hl 0 rfl) ?_
                            refine M_get hC hK hP 43 (by decide) (fM43 _ _) q1244 dX6_readsTurn_297 ?_
                            refine lv_aload_n hx hb dX6_readsTurn_300 rfl (lv_at hl 0 rfl) ?_
                            refine M_get hC hK hP 47 (by decide) (fM47 _ _) q1248 dX6_readsTurn_301 ?_
                            refine W_top (y := (nI sk1.length)) (by rw [rE_f47]) ?_
                            refine M_ald hC hK hP 43 29 2 sk1.length (aM43 _ _ _ _) (by decide) (rfl) (by omega) dX6_readsTurn_304 ?_
                            refine W_top (y := (F sk1.length)) (by rw [rE_g43]) ?_
                            refine W_top (y := (nI x0.1)) (hsF) ?_
                            refine CMi.call hC hK hS (fun q h => h) hl (c_X6_repeats G l o R (rE u (nI (p + 1)) fa (u.1 13) (u.1 17) (u.1 19) (u.1 11) (nI m) (nI sk1.length) i1 i2 x y F A T (u.2.1 3)) m x0.2.1 x0.2.2 x0.1 row pls (rfl) (hx0.2.1) (hm12) (hx0.2.2.1) (hx0.2.2.2) (hrw) hD) hP rfl q1545 q1547 qs75 q116 q1548 mdX6_repeats (room_ok hRm rfl) rfl rfl dX6_readsTurn_305 (fun r305 w305 H locs hpo hP _ _ hS => ?_)
                            obtain ⟨ok_16, fa_17, tm_18, x_19, y_20, f305_0, er305, ew305⟩ := hpo
                            rw [ew305] at hP
                            refine W_top (y := (bI ok_16)) er305 ?_
                            rw [rE_again] at hP
                            simp only [rE_f11, rE_f12, rE_f13, rE_f17, rE_f19, rE_f47, rE_f48, rE_f49, rE_g3, rE_g43, rE_g44, rE_g45] at hP
                            refine lv_if_ne (tgt := 241) hx hb dX6_readsTurn_308 (by decide) (fun c308 => ?_) (fun c308 => ?_)
                            · have c308 : ok_16 = true := bI_1.mp c308
                              obtain ⟨hq6, htm6, hrw6⟩ := repP_t f305_0 c308
                              subst htm6
                              exact ih241 (p + 1) (x0.2.1 + (m - x0.2.1) * x0.2.2) (fu - 1) (repF row x0.2.1 (m - x0.2.1) x0.2.2) (repF pls x0.2.1 (m - x0.2.1) x0.2.2) sk1 (nI (p + 1)) fa_17 (nI (x0.2.1 + (m - x0.2.1) * x0.2.2)) (nI sk1.length) i1 i2 x_19 y_20 _ _ ls (by omega) (rfl) (rfl) (rfl) (by omega) (by omega) (hrw6) (hsk1) (stkG_pop hG (by have h8 := Nat.le_mul_of_pos_right (m - x0.2.1) hx0.2.2.1; omega)) (hR.trans (clk_pop hfu1 c247x hq6)) (by omega) (by omega) hP hS (lv_sub hl [0] rfl)
                            · have c308 : ok_16 = false := bI_0.mp c308
                              obtain ⟨hq6, rfl⟩ := repP_f f305_0 c308
                              refine lv_iconst (v := 0) hx hb dX6_readsTurn_311 (by decide) ?_
                              exact hq _ _ _ _ _ _ dX6_readsTurn_312 hP hS (by first | rfl | exact bI_nar _) (by exact ⟨false, _, _, _, _, _, _, _, _, _, _, _, tnP_bad (hR.trans (clk_popf hfu1 c247x hq6)), rfl, rfl⟩)
                    exact LP241 _ ((timesP (u.2.1 10) n p) + 1) (m + (timesC (u.2.1 10) n p)) (fu - 1) (repF (updG row m (oneV (ckN (u.2.1 10) n (timesP (u.2.1 10) n p)))) m 1 (timesC (u.2.1 10) n p)) (repF (updG pls m (timesP (u.2.1 10) n p)) m 1 (timesC (u.2.1 10) n p)) sk (nI ((timesP (u.2.1 10) n p) + 1)) fa_12 (nI (m + (timesC (u.2.1 10) n p))) (nI sk.length) (nI p) (nI (timesC (u.2.1 10) n p)) x_14 y_15 _ _ ls (Nat.lt_succ_self _) (rfl) (rfl) (rfl) (by omega) (by omega) (hrw6) (hsk) (stkG_up hG (by omega)) (hR.trans (clk_one (by omega) c10x hone (by omega))) (by omega) (by omega) hP hS (lv_sub hl [3] rfl)
                  · have c236 : ok_11 = false := bI_0.mp c236
                    exfalso; have h9 := (repP_f f233_0 c236).1; rw [Nat.add_sub_cancel_left, Nat.one_mul] at h9; omega
                · have c170 : ¬ ((m + (timesC (u.2.1 10) n p)) ≤ 12) := mt (nI_leI (a := (m + (timesC (u.2.1 10) n p))) (b := 12) (by omega) (by omega)).mpr c170
                  refine lv_aload_n hx hb dX6_readsTurn_173 rfl (lv_at hl 3 rfl) ?_
                  refine lv_bipush (v := 6) hx hb dX6_readsTurn_174 (by decide) ?_
                  refine lv_iload_n hx hb dX6_readsTurn_176 rfl (lv_at hl 2 rfl) ?_
                  refine CMi.call hC hK hS (fun q h => h) hl (c_X6_wrongAt G l o R (rE u (nI (timesP (u.2.1 10) n p)) (u.1 14) (u.1 13) (u.1 17) (u.1 19) (u.1 11) (nI m) (nI sk.length) (nI p) (nI (timesC (u.2.1 10) n p)) (u.2.1 41) (u.2.1 42) F A T (u.2.1 3)) 6 p  hD) hP rfl q1442 q1444 qs53 q116 q1445 mdX6_wrongAt (room_ok hRm rfl) rfl rfl dX6_readsTurn_177 (fun r177 w177 H locs hpo hP _ _ hS => ?_)
                  obtain ⟨er177, ew177⟩ := hpo
                  rw [ew177] at hP
                  refine W_top (y := (bI false)) er177 ?_
                  rw [rE_V14] at hP
                  exact hq _ _ _ _ _ _ dX6_readsTurn_180 hP hS (by first | rfl | exact bI_nar _) (by exact ⟨false, _, _, _, _, _, _, _, _, _, _, _, tnP_bad (hR.trans (clk_6 (by omega) c10x hone (by omega))), rfl, rfl⟩)
              · exact absurd c113 c149
      · refine lv_aload_n hx hb dX6_readsTurn_13 rfl (lv_at hl 0 rfl) ?_
        refine M_get hC hK hP 47 (by decide) (fM47 _ _) q1248 dX6_readsTurn_14 ?_
        refine W_top (y := (nI sk.length)) (by rw [rE_f47]) ?_
        refine lv_iconst (v := 2) hx hb dX6_readsTurn_17 (by decide) ?_
        refine lv_icmp_ne (tgt := 31) hx hb dX6_readsTurn_18 (by decide) (fun c18 => ?_) (fun c18 => ?_)
        · have c18 : ¬ (sk.length = 2) := mt (nI_eq (a := sk.length) (b := 2) (by omega) (by omega)).mpr c18
          refine lv_aload_n hx hb dX6_readsTurn_31 rfl (lv_at hl 0 rfl) ?_
          refine M_get hC hK hP 43 (by decide) (fM43 _ _) q1244 dX6_readsTurn_32 ?_
          refine lv_aload_n hx hb dX6_readsTurn_35 rfl (lv_at hl 0 rfl) ?_
          refine M_get hC hK hP 47 (by decide) (fM47 _ _) q1248 dX6_readsTurn_36 ?_
          refine W_top (y := (nI sk.length)) (by rw [rE_f47]) ?_
          refine lv_aload_n hx hb dX6_readsTurn_39 rfl (lv_at hl 0 rfl) ?_
          refine M_get hC hK hP 48 (by decide) (fM48 _ _) q1249 dX6_readsTurn_40 ?_
          refine W_top (y := (nI p)) (by rw [rE_f48]) ?_
          refine M_ast hC hK hD hP hS 43 29 2 sk.length (aM43 _ _ _ _) (bM43 _ _ _ _ _ _) (by decide) (rfl) (by omega) dX6_readsTurn_43 (fun H locs hP hS => ?_)
          rw [rE_A43] at hP
          refine lv_aload_n hx hb dX6_readsTurn_44 rfl (lv_at hl 0 rfl) ?_
          refine M_get hC hK hP 44 (by decide) (fM44 _ _) q1245 dX6_readsTurn_45 ?_
          refine lv_aload_n hx hb dX6_readsTurn_48 rfl (lv_at hl 0 rfl) ?_
          refine M_get hC hK hP 47 (by decide) (fM47 _ _) q1248 dX6_readsTurn_49 ?_
          refine W_top (y := (nI sk.length)) (by rw [rE_f47]) ?_
          refine lv_aload_n hx hb dX6_readsTurn_52 rfl (lv_at hl 0 rfl) ?_
          refine M_get hC hK hP 46 (by decide) (fM46 _ _) q1247 dX6_readsTurn_53 ?_
          refine W_top (y := (nI m)) (by rw [rE_f46]) ?_
          refine M_ast hC hK hD hP hS 44 30 2 sk.length (aM44 _ _ _ _) (bM44 _ _ _ _ _ _) (by decide) (rfl) (by omega) dX6_readsTurn_56 (fun H locs hP hS => ?_)
          rw [rE_A44] at hP
          refine lv_aload_n hx hb dX6_readsTurn_57 rfl (lv_at hl 0 rfl) ?_
          refine M_get hC hK hP 45 (by decide) (fM45 _ _) q1246 dX6_readsTurn_58 ?_
          refine lv_aload_n hx hb dX6_readsTurn_61 rfl (lv_at hl 0 rfl) ?_
          refine M_get hC hK hP 47 (by decide) (fM47 _ _) q1248 dX6_readsTurn_62 ?_
          refine W_top (y := (nI sk.length)) (by rw [rE_f47]) ?_
          refine lv_aload_n hx hb dX6_readsTurn_65 rfl (lv_at hl 0 rfl) ?_
          refine M_get hC hK hP 49 (by decide) (fM49 _ _) q1250 dX6_readsTurn_66 ?_
          refine W_top (y := (nI (timesC (u.2.1 10) n p))) (by rw [rE_f49]) ?_
          refine M_ast hC hK hD hP hS 45 31 2 sk.length (aM45 _ _ _ _) (bM45 _ _ _ _ _ _) (by decide) (rfl) (by omega) dX6_readsTurn_69 (fun H locs hP hS => ?_)
          rw [rE_A45] at hP
          refine lv_aload_n hx hb dX6_readsTurn_70 rfl (lv_at hl 0 rfl) ?_
          refine lv_aload_n hx hb dX6_readsTurn_71 rfl (lv_at hl 0 rfl) ?_
          refine M_get hC hK hP 47 (by decide) (fM47 _ _) q1248 dX6_readsTurn_72 ?_
          refine W_top (y := (nI sk.length)) (by rw [rE_f47]) ?_
          refine lv_iconst (v := 1) hx hb dX6_readsTurn_75 (by decide) ?_
          refine lv_iadd hx hb dX6_readsTurn_76 ?_
          refine W_top (nI_add sk.length 1) ?_
          refine M_put hC hK hD hP hS 47 (by decide) (sM47 _ _ _) q1248 rfl dX6_readsTurn_77 (fun H locs hP hS => ?_)
          rw [rE_V47] at hP
          refine lv_aload_n hx hb dX6_readsTurn_80 rfl (lv_at hl 0 rfl) ?_
          refine lv_aload_n hx hb dX6_readsTurn_81 rfl (lv_at hl 0 rfl) ?_
          refine M_get hC hK hP 12 (by decide) (fM12 _ _) q1213 dX6_readsTurn_82 ?_
          refine W_top (y := (nI (timesP (u.2.1 10) n p))) (by rw [rE_f12]) ?_
          refine lv_iconst (v := 1) hx hb dX6_readsTurn_85 (by decide) ?_
          refine lv_iadd hx hb dX6_readsTurn_86 ?_
          refine W_top (nI_add (timesP (u.2.1 10) n p) 1) ?_
          refine M_put hC hK hD hP hS 12 (by decide) (sM12 _ _ _) q1213 rfl dX6_readsTurn_87 (fun H locs hP hS => ?_)
          rw [rE_V12] at hP
          refine lv_aload_n hx hb dX6_readsTurn_90 rfl (lv_at hl 0 rfl) ?_
          refine CMv.call hC hK hS (fun q h => h) hl (c_X6_readsTimes G l o R (rE u (nI ((timesP (u.2.1 10) n p) + 1)) (u.1 14) (u.1 13) (u.1 17) (u.1 19) (u.1 11) (nI m) (nI (sk.length + 1)) (nI p) (nI (timesC (u.2.1 10) n p)) (u.2.1 41) (u.2.1 42) (upd F sk.length (nI p)) (upd A sk.length (nI m)) (upd T sk.length (nI (timesC (u.2.1 10) n p))) (u.2.1 3)) ((timesP (u.2.1 10) n p) + 1) n (rfl) (hn) (by omega) (by omega) hD) hP rfl q1541 q1543 qs74 q116 q1544 mdX6_readsTimes (room_ok hRm rfl) rfl rfl dX6_readsTurn_91 (fun w91 H locs hpo hP _ _ hS => ?_)
          have ew91 := hpo
          rw [ew91] at hP
          rw [rE_again] at hP
          simp only [rE_f11, rE_f13, rE_f14, rE_f17, rE_f19, rE_f46, rE_f47, rE_g10, rE_g3, rE_g41, rE_g42, rE_g43, rE_g44, rE_g45] at hP
          refine lv_goto (tgt := 4) hx hb dX6_readsTurn_94 (by decide) ?_
          have c10x : ckN (u.2.1 10) n (timesP (u.2.1 10) n p) = 40 := (hereI_eq (c := 40) (by decide)).mp (by first | exact c10 | exact Classical.not_not.mp c10)
          have hqn := ckN_in (by decide) c10x
          exact ih4 ((timesP (u.2.1 10) n p) + 1) (fu - 1) ((p, m, (timesC (u.2.1 10) n p)) :: sk) (nI (timesP (u.2.1 10) n ((timesP (u.2.1 10) n p) + 1))) (nI (sk.length + 1)) (nI ((timesP (u.2.1 10) n p) + 1)) (nI (timesC (u.2.1 10) n ((timesP (u.2.1 10) n p) + 1))) (upd F sk.length (nI p)) (upd A sk.length (nI m)) (upd T sk.length (nI (timesC (u.2.1 10) n p))) _ _ ls (by omega) (rfl) (rfl) (rfl) (rfl) (by omega) (stkR_push hsk (by omega)) (stkG_push hG (by omega) hpn htc) (hR.trans (clk_push (by omega) c10x c18)) (by omega) (by omega) hP hS (lv_sub hl [0] rfl)
        · have c18 : sk.length = 2 := (nI_eq (a := sk.length) (b := 2) (by omega) (by omega)).mp c18
          refine lv_aload_n hx hb dX6_readsTurn_21 rfl (lv_at hl 0 rfl) ?_
          refine lv_iconst (v := 5) hx hb dX6_readsTurn_22 (by decide) ?_
          refine lv_aload_n hx hb dX6_readsTurn_23 rfl (lv_at hl 0 rfl) ?_
          refine M_get hC hK hP 12 (by decide) (fM12 _ _) q1213 dX6_readsTurn_24 ?_
          refine W_top (y := (nI (timesP (u.2.1 10) n p))) (by rw [rE_f12]) ?_
          refine CMi.call hC hK hS (fun q h => h) hl (c_X6_wrongAt G l o R (rE u (nI (timesP (u.2.1 10) n p)) (u.1 14) (u.1 13) (u.1 17) (u.1 19) (u.1 11) (nI m) (nI sk.length) (nI p) (nI (timesC (u.2.1 10) n p)) (u.2.1 41) (u.2.1 42) F A T (u.2.1 3)) 5 (timesP (u.2.1 10) n p)  hD) hP rfl q1442 q1444 qs53 q116 q1445 mdX6_wrongAt (room_ok hRm rfl) rfl rfl dX6_readsTurn_27 (fun r27 w27 H locs hpo hP _ _ hS => ?_)
          obtain ⟨er27, ew27⟩ := hpo
          rw [ew27] at hP
          refine W_top (y := (bI false)) er27 ?_
          rw [rE_V14] at hP
          exact hq _ _ _ _ _ _ dX6_readsTurn_30 hP hS (by first | rfl | exact bI_nar _) (by exact ⟨false, _, _, _, _, _, _, _, _, _, _, _, tnP_bad (hR.trans (clk_5 (by omega) ((hereI_eq (c := 40) (by decide)).mp (by first | exact c10 | exact Classical.not_not.mp c10)) c18)), rfl, rfl⟩)
  exact LP4 _ p fu sk (nI (timesP (u.2.1 10) n p)) (nI sk.length) (nI p) (nI (timesC (u.2.1 10) n p)) (u.2.1 43) (u.2.1 44) (u.2.1 45) _ _ ls (Nat.lt_succ_self _) (rfl) (rfl) (rfl) (rfl) (hpn) (hsk) (hG) (hR) (hfu) (by omega) hP hS (lv_sub hl [0] rfl)
