set_option maxRecDepth 100000
set_option maxHeartbeats 4000000 in
theorem c_X6_readsWithin (G : GG) (l : Launch) (o : Nat) (R : Nat → Nat) (u : MS) (p : Nat) (n : Nat) (hp : (u.1 12) = nI p) (hn : (u.1 13) = nI n) (hn2 : n ≤ 240) (hp2 : p < 2 ^ 30) (hD : DM o R) : CMi G l o R yX6_readsWithin cX6_readsWithin 2 .boolean 4 56 [] u (fun r w => ∃ ok : Bool, ∃ pl : Int32, ∃ fa : Int32, ∃ nu : Int32, (numPost (u.2.1 10) n p ok pl fa nu) ∧ r = (bI ok) ∧ w = (pM u pl fa nu)) := by
  refine CMi.mk pnX6 rfl (Nat.le_of_ble_eq_true rfl) (fun pg en Rm sg mm ar bw mth cd QQ ls hC hRm hK hP hS hl hq => ?_)
  have hx := hC.1; have hb := hC.2.1; have ho := hC.2.2.2.1; have hts := hC.2.2.2.2
  have hl : lv_has ls 2 [(0, .ref o)] := hl
  have hP : PM G o R (pM u (u.1 12) (u.1 14) (u.1 15)) sg.heap := by rw [pM_self]; exact hP
  rw [hp] at hP
  refine lv_aload_n hx hb dX6_readsWithin_0 rfl (lv_at hl 0 rfl) ?_
  refine M_get hC hK hP 12 (by decide) (fM12 _ _) q1213 dX6_readsWithin_1 ?_
  refine W_top (y := (nI p)) (by rw [pM_f12]) ?_
  refine lv_istore_n (lv' := [(1, .int (nI p)), (0, .ref o)]) hx hb dX6_readsWithin_4 rfl hl (by decide) rfl (fun ls hl => ?_)
  refine lv_aload_n hx hb dX6_readsWithin_5 rfl (lv_at hl 1 rfl) ?_
  refine CI.callV hC hK hl (c_X6_isDigit G l o R (pM u (nI p) (u.1 14) (u.1 15)) p n (rfl) (hn) (hn2) (by omega)) hP (hP.recv hK) q1459 q1461 qs57 q116 q1462 mdX6_isDigit (room_ok hRm rfl) rfl rfl dX6_readsWithin_6 ?_
  refine W_top (y := (bI (digB (u.2.1 10) n p))) (by simp only [pM_g10]) ?_
  refine lv_if_ne (tgt := 22) hx hb dX6_readsWithin_9 (by decide) (fun c9 => ?_) (fun c9 => ?_)
  · have c9 : (digB (u.2.1 10) n p) = true := bI_1.mp c9
    refine lv_aload_n hx hb dX6_readsWithin_22 rfl (lv_at hl 1 rfl) ?_
    refine lv_iconst (v := 0) hx hb dX6_readsWithin_23 (by decide) ?_
    refine M_put hC hK hD hP hS 15 (by decide) (sM15 _ _ _) q1216 rfl dX6_readsWithin_24 (fun H locs hP hS => ?_)
    rw [pM_V15] at hP
    refine lv_aload_n hx hb dX6_readsWithin_27 rfl (lv_at hl 1 rfl) ?_
    refine CI.callV hC hK hl (c_X6_isDigit G l o R (pM u (nI p) (u.1 14) 0) p n (rfl) (hn) (hn2) (by omega)) hP (hP.recv hK) q1459 q1461 qs57 q116 q1462 mdX6_isDigit (room_ok hRm rfl) rfl rfl dX6_readsWithin_28 ?_
    refine W_top (y := (bI (digB (u.2.1 10) n p))) (by simp only [pM_g10]) ?_
    refine lv_if_eq (tgt := 86) hx hb dX6_readsWithin_31 (by decide) (fun c31 => ?_) (fun c31 => ?_)
    · have c31 : (digB (u.2.1 10) n p) = false := bI_0.mp c31
      refine lv_aload_n hx hb dX6_readsWithin_86 rfl (lv_at hl 1 rfl) ?_
      refine M_get hC hK hP 15 (by decide) (fM15 _ _) q1216 dX6_readsWithin_87 ?_
      refine W_top (y := 0) (by rw [pM_f15]) ?_
      refine lv_bipush (v := 12) hx hb dX6_readsWithin_90 (by decide) ?_
      refine lv_icmp_lt (tgt := 104) hx hb dX6_readsWithin_92 (by decide) (fun c92 => ?_) (fun c92 => ?_)
      · refine lv_iconst (v := 1) hx hb dX6_readsWithin_104 (by decide) ?_
        refine lv_goto (tgt := 109) hx hb dX6_readsWithin_105 (by decide) ?_
        exact hq _ _ _ _ _ _ dX6_readsWithin_109 hP hS (by first | rfl | exact bI_nar _) (by first | (exact ⟨true, _, _, _, by unfold numPost; rw [numW_2 dA dB c31 c92]; exact ⟨rfl, rfl, rfl⟩, rfl, rfl⟩) | (exact ⟨true, _, _, _, by unfold numPost; rw [numW_1 dA c31]; exact ⟨rfl, rfl, rfl⟩, rfl, rfl⟩) | (exact ⟨false, _, _, _, by unfold numPost; rw [numW_9 dA dB c31 c92]; exact ⟨rfl, rfl⟩, rfl, rfl⟩) | exact Bool.noConfusion c101 | (rw [c9] at c31; exact Bool.noConfusion c31) | (exfalso; omega))
      · exact absurd c92 (by decide)
    · have c31 : (digB (u.2.1 10) n p) = true := bI_1.mp c31
      have dA := c31
      have eA := digB_ck c31
      refine lv_aload_n hx hb dX6_readsWithin_34 rfl (lv_at hl 1 rfl) ?_
      refine M_get hC hK hP 12 (by decide) (fM12 _ _) q1213 dX6_readsWithin_35 ?_
      refine W_top (y := (nI p)) (by rw [pM_f12]) ?_
      refine lv_iload_n hx hb dX6_readsWithin_38 rfl (lv_at hl 0 rfl) ?_
      refine lv_iconst (v := 2) hx hb dX6_readsWithin_39 (by decide) ?_
      refine lv_iadd hx hb dX6_readsWithin_40 ?_
      refine W_top (nI_add p 2) ?_
      refine lv_icmp_ne (tgt := 54) hx hb dX6_readsWithin_41 (by decide) (fun c41 => ?_) (fun c41 => ?_)
      · have c41 : ¬ (p = (p + 2)) := mt (nI_eq (a := p) (b := (p + 2)) (by omega) (by omega)).mpr c41
        refine lv_aload_n hx hb dX6_readsWithin_54 rfl (lv_at hl 1 rfl) ?_
        refine lv_bipush (v := 10) hx hb dX6_readsWithin_55 (by decide) ?_
        refine lv_aload_n hx hb dX6_readsWithin_57 rfl (lv_at hl 1 rfl) ?_
        refine M_get hC hK hP 15 (by decide) (fM15 _ _) q1216 dX6_readsWithin_58 ?_
        refine W_top (y := 0) (by rw [pM_f15]) ?_
        refine lv_imul hx hb dX6_readsWithin_61 ?_
        refine W_top (y := 0) (by decide) ?_
        refine lv_aload_n hx hb dX6_readsWithin_62 rfl (lv_at hl 1 rfl) ?_
        refine CI.callV hC hK hl (c_X6_here G l o R (pM u (nI p) (u.1 14) 0) p n (rfl) (hn) (hn2) (by omega)) hP (hP.recv hK) q1438 q1440 qs52 q116 q1441 mdX6_here (room_ok hRm rfl) rfl rfl dX6_readsWithin_63 ?_
        refine W_top (y := (hereI (u.2.1 10) n p)) (by simp only [pM_g10]) ?_
        refine W_top (y := (nI (ocN (u.2.1 10) p))) ((digB_ck c31).2.2.2) ?_
        refine lv_iadd hx hb dX6_readsWithin_66 ?_
        refine W_top (y := (nI (ocN (u.2.1 10) p))) (Int32.zero_add _) ?_
        refine lv_bipush (v := 48) hx hb dX6_readsWithin_67 (by decide) ?_
        refine lv_isub hx hb dX6_readsWithin_69 ?_
        refine W_top (y := (nI (ocN (u.2.1 10) p - 48))) (pk_sub (a := ocN (u.2.1 10) p) (b := 48) eA.2.1) ?_
        refine M_put hC hK hD hP hS 15 (by decide) (sM15 _ _ _) q1216 rfl dX6_readsWithin_70 (fun H locs hP hS => ?_)
        rw [pM_V15] at hP
        refine lv_aload_n hx hb dX6_readsWithin_73 rfl (lv_at hl 1 rfl) ?_
        refine lv_aload_n hx hb dX6_readsWithin_74 rfl (lv_at hl 1 rfl) ?_
        refine M_get hC hK hP 12 (by decide) (fM12 _ _) q1213 dX6_readsWithin_75 ?_
        refine W_top (y := (nI p)) (by rw [pM_f12]) ?_
        refine lv_iconst (v := 1) hx hb dX6_readsWithin_78 (by decide) ?_
        refine lv_iadd hx hb dX6_readsWithin_79 ?_
        refine W_top (nI_add p 1) ?_
        refine M_put hC hK hD hP hS 12 (by decide) (sM12 _ _ _) q1213 rfl dX6_readsWithin_80 (fun H locs hP hS => ?_)
        rw [pM_V12] at hP
        refine lv_goto (tgt := 27) hx hb dX6_readsWithin_83 (by decide) ?_
        refine lv_aload_n hx hb dX6_readsWithin_27 rfl (lv_at hl 1 rfl) ?_
        refine CI.callV hC hK hl (c_X6_isDigit G l o R (pM u (nI (p + 1)) (u.1 14) (nI (ocN (u.2.1 10) p - 48))) (p + 1) n (rfl) (hn) (hn2) (by omega)) hP (hP.recv hK) q1459 q1461 qs57 q116 q1462 mdX6_isDigit (room_ok hRm rfl) rfl rfl dX6_readsWithin_28 ?_
        refine W_top (y := (bI (digB (u.2.1 10) n (p + 1)))) (by simp only [pM_g10]) ?_
        refine lv_if_eq (tgt := 86) hx hb dX6_readsWithin_31 (by decide) (fun c31 => ?_) (fun c31 => ?_)
        · have c31 : (digB (u.2.1 10) n (p + 1)) = false := bI_0.mp c31
          refine lv_aload_n hx hb dX6_readsWithin_86 rfl (lv_at hl 1 rfl) ?_
          refine M_get hC hK hP 15 (by decide) (fM15 _ _) q1216 dX6_readsWithin_87 ?_
          refine W_top (y := (nI (ocN (u.2.1 10) p - 48))) (by rw [pM_f15]) ?_
          refine lv_bipush (v := 12) hx hb dX6_readsWithin_90 (by decide) ?_
          refine lv_icmp_lt (tgt := 104) hx hb dX6_readsWithin_92 (by decide) (fun c92 => ?_) (fun c92 => ?_)
          · have c92 : (ocN (u.2.1 10) p - 48) < 12 := (nI_ltI (a := (ocN (u.2.1 10) p - 48)) (b := 12) (by omega) (by omega)).mp c92
            refine lv_iconst (v := 1) hx hb dX6_readsWithin_104 (by decide) ?_
            refine lv_goto (tgt := 109) hx hb dX6_readsWithin_105 (by decide) ?_
            exact hq _ _ _ _ _ _ dX6_readsWithin_109 hP hS (by first | rfl | exact bI_nar _) (by first | (exact ⟨true, _, _, _, by unfold numPost; rw [numW_2 dA dB c31 c92]; exact ⟨rfl, rfl, rfl⟩, rfl, rfl⟩) | (exact ⟨true, _, _, _, by unfold numPost; rw [numW_1 dA c31]; exact ⟨rfl, rfl, rfl⟩, rfl, rfl⟩) | (exact ⟨false, _, _, _, by unfold numPost; rw [numW_9 dA dB c31 c92]; exact ⟨rfl, rfl⟩, rfl, rfl⟩) | exact Bool.noConfusion c101 | (rw [c9] at c31; exact Bool.noConfusion c31) | (exfalso; omega))
          · have c92 : ¬ ((ocN (u.2.1 10) p - 48) < 12) := mt (nI_ltI (a := (ocN (u.2.1 10) p - 48)) (b := 12) (by omega) (by omega)).mpr c92
            refine lv_aload_n hx hb dX6_readsWithin_95 rfl (lv_at hl 1 rfl) ?_
            refine lv_iconst (v := 3) hx hb dX6_readsWithin_96 (by decide) ?_
            refine lv_iload_n hx hb dX6_readsWithin_97 rfl (lv_at hl 0 rfl) ?_
            refine CMi.call hC hK hS (fun q h => h) hl (c_X6_wrongAt G l o R (pM u (nI (p + 1)) (u.1 14) (nI (ocN (u.2.1 10) p - 48))) 3 p  hD) hP rfl q1442 q1444 qs53 q116 q1445 mdX6_wrongAt (room_ok hRm rfl) rfl rfl dX6_readsWithin_98 (fun r98 w98 H locs hpo hP _ _ hS => ?_)
            obtain ⟨er98, ew98⟩ := hpo
            rw [ew98] at hP
            refine W_top (y := (bI false)) er98 ?_
            rw [pM_V14] at hP
            refine lv_if_eq (tgt := 108) hx hb dX6_readsWithin_101 (by decide) (fun c101 => ?_) (fun c101 => ?_)
            · have c101 : false = false := bI_0.mp c101
              refine lv_iconst (v := 0) hx hb dX6_readsWithin_108 (by decide) ?_
              exact hq _ _ _ _ _ _ dX6_readsWithin_109 hP hS (by first | rfl | exact bI_nar _) (by first | (exact ⟨true, _, _, _, by unfold numPost; rw [numW_2 dA dB c31 c92]; exact ⟨rfl, rfl, rfl⟩, rfl, rfl⟩) | (exact ⟨true, _, _, _, by unfold numPost; rw [numW_1 dA c31]; exact ⟨rfl, rfl, rfl⟩, rfl, rfl⟩) | (exact ⟨false, _, _, _, by unfold numPost; rw [numW_9 dA dB c31 c92]; exact ⟨rfl, rfl⟩, rfl, rfl⟩) | exact Bool.noConfusion c101 | (rw [c9] at c31; exact Bool.noConfusion c31) | (exfalso; omega))
            · have c101 : false = true := bI_1.mp c101
              refine lv_iconst (v := 1) hx hb dX6_readsWithin_104 (by decide) ?_
              refine lv_goto (tgt := 109) hx hb dX6_readsWithin_105 (by decide) ?_
              exact hq _ _ _ _ _ _ dX6_readsWithin_109 hP hS (by first | rfl | exact bI_nar _) (by first | (exact ⟨true, _, _, _, by unfold numPost; rw [numW_2 dA dB c31 c92]; exact ⟨rfl, rfl, rfl⟩, rfl, rfl⟩) | (exact ⟨true, _, _, _, by unfold numPost; rw [numW_1 dA c31]; exact ⟨rfl, rfl, rfl⟩, rfl, rfl⟩) | (exact ⟨false, _, _, _, by unfold numPost; rw [numW_9 dA dB c31 c92]; exact ⟨rfl, rfl⟩, rfl, rfl⟩) | exact Bool.noConfusion c101 | (rw [c9] at c31; exact Bool.noConfusion c31) | (exfalso; omega))
        · have c31 : (digB (u.2.1 10) n (p + 1)) = true := bI_1.mp c31
          have dB := c31
          have eB := digB_ck c31
          refine lv_aload_n hx hb dX6_readsWithin_34 rfl (lv_at hl 1 rfl) ?_
          refine M_get hC hK hP 12 (by decide) (fM12 _ _) q1213 dX6_readsWithin_35 ?_
          refine W_top (y := (nI (p + 1))) (by rw [pM_f12]) ?_
          refine lv_iload_n hx hb dX6_readsWithin_38 rfl (lv_at hl 0 rfl) ?_
          refine lv_iconst (v := 2) hx hb dX6_readsWithin_39 (by decide) ?_
          refine lv_iadd hx hb dX6_readsWithin_40 ?_
          refine W_top (nI_add p 2) ?_
          refine lv_icmp_ne (tgt := 54) hx hb dX6_readsWithin_41 (by decide) (fun c41 => ?_) (fun c41 => ?_)
          · have c41 : ¬ ((p + 1) = (p + 2)) := mt (nI_eq (a := (p + 1)) (b := (p + 2)) (by omega) (by omega)).mpr c41
            refine lv_aload_n hx hb dX6_readsWithin_54 rfl (lv_at hl 1 rfl) ?_
            refine lv_bipush (v := 10) hx hb dX6_readsWithin_55 (by decide) ?_
            refine lv_aload_n hx hb dX6_readsWithin_57 rfl (lv_at hl 1 rfl) ?_
            refine M_get hC hK hP 15 (by decide) (fM15 _ _) q1216 dX6_readsWithin_58 ?_
            refine W_top (y := (nI (ocN (u.2.1 10) p - 48))) (by rw [pM_f15]) ?_
            refine lv_imul hx hb dX6_readsWithin_61 ?_
            refine W_top (pk_mul 10 (ocN (u.2.1 10) p - 48)) ?_
            refine lv_aload_n hx hb dX6_readsWithin_62 rfl (lv_at hl 1 rfl) ?_
            refine CI.callV hC hK hl (c_X6_here G l o R (pM u (nI (p + 1)) (u.1 14) (nI (ocN (u.2.1 10) p - 48))) (p + 1) n (rfl) (hn) (hn2) (by omega)) hP (hP.recv hK) q1438 q1440 qs52 q116 q1441 mdX6_here (room_ok hRm rfl) rfl rfl dX6_readsWithin_63 ?_
            refine W_top (y := (hereI (u.2.1 10) n (p + 1))) (by simp only [pM_g10]) ?_
            refine W_top (y := (nI (ocN (u.2.1 10) (p + 1)))) ((digB_ck c31).2.2.2) ?_
            refine lv_iadd hx hb dX6_readsWithin_66 ?_
            refine W_top (nI_add (10 * (ocN (u.2.1 10) p - 48)) (ocN (u.2.1 10) (p + 1))) ?_
            refine lv_bipush (v := 48) hx hb dX6_readsWithin_67 (by decide) ?_
            refine lv_isub hx hb dX6_readsWithin_69 ?_
            refine W_top (y := (nI ((10 * (ocN (u.2.1 10) p - 48)) + (ocN (u.2.1 10) (p + 1) - 48)))) ((pk_sub (a := 10 * (ocN (u.2.1 10) p - 48) + ocN (u.2.1 10) (p + 1)) (b := 48) (by omega)).trans (by rw [Nat.add_sub_assoc eB.2.1])) ?_
            refine M_put hC hK hD hP hS 15 (by decide) (sM15 _ _ _) q1216 rfl dX6_readsWithin_70 (fun H locs hP hS => ?_)
            rw [pM_V15] at hP
            refine lv_aload_n hx hb dX6_readsWithin_73 rfl (lv_at hl 1 rfl) ?_
            refine lv_aload_n hx hb dX6_readsWithin_74 rfl (lv_at hl 1 rfl) ?_
            refine M_get hC hK hP 12 (by decide) (fM12 _ _) q1213 dX6_readsWithin_75 ?_
            refine W_top (y := (nI (p + 1))) (by rw [pM_f12]) ?_
            refine lv_iconst (v := 1) hx hb dX6_readsWithin_78 (by decide) ?_
            refine lv_iadd hx hb dX6_readsWithin_79 ?_
            refine W_top (nI_add (p + 1) 1) ?_
            refine M_put hC hK hD hP hS 12 (by decide) (sM12 _ _ _) q1213 rfl dX6_readsWithin_80 (fun H locs hP hS => ?_)
            rw [pM_V12] at hP
            refine lv_goto (tgt := 27) hx hb dX6_readsWithin_83 (by decide) ?_
            refine lv_aload_n hx hb dX6_readsWithin_27 rfl (lv_at hl 1 rfl) ?_
            refine CI.callV hC hK hl (c_X6_isDigit G l o R (pM u (nI ((p + 1) + 1)) (u.1 14) (nI ((10 * (ocN (u.2.1 10) p - 48)) + (ocN (u.2.1 10) (p + 1) - 48)))) ((p + 1) + 1) n (rfl) (hn) (hn2) (by omega)) hP (hP.recv hK) q1459 q1461 qs57 q116 q1462 mdX6_isDigit (room_ok hRm rfl) rfl rfl dX6_readsWithin_28 ?_
            refine W_top (y := (bI (digB (u.2.1 10) n ((p + 1) + 1)))) (by simp only [pM_g10]) ?_
            refine lv_if_eq (tgt := 86) hx hb dX6_readsWithin_31 (by decide) (fun c31 => ?_) (fun c31 => ?_)
            · have c31 : (digB (u.2.1 10) n ((p + 1) + 1)) = false := bI_0.mp c31
              refine lv_aload_n hx hb dX6_readsWithin_86 rfl (lv_at hl 1 rfl) ?_
              refine M_get hC hK hP 15 (by decide) (fM15 _ _) q1216 dX6_readsWithin_87 ?_
              refine W_top (y := (nI ((10 * (ocN (u.2.1 10) p - 48)) + (ocN (u.2.1 10) (p + 1) - 48)))) (by rw [pM_f15]) ?_
              refine lv_bipush (v := 12) hx hb dX6_readsWithin_90 (by decide) ?_
              refine lv_icmp_lt (tgt := 104) hx hb dX6_readsWithin_92 (by decide) (fun c92 => ?_) (fun c92 => ?_)
              · have c92 : ((10 * (ocN (u.2.1 10) p - 48)) + (ocN (u.2.1 10) (p + 1) - 48)) < 12 := (nI_ltI (a := ((10 * (ocN (u.2.1 10) p - 48)) + (ocN (u.2.1 10) (p + 1) - 48))) (b := 12) (by omega) (by omega)).mp c92
                refine lv_iconst (v := 1) hx hb dX6_readsWithin_104 (by decide) ?_
                refine lv_goto (tgt := 109) hx hb dX6_readsWithin_105 (by decide) ?_
                exact hq _ _ _ _ _ _ dX6_readsWithin_109 hP hS (by first | rfl | exact bI_nar _) (by first | (exact ⟨true, _, _, _, by unfold numPost; rw [numW_2 dA dB c31 c92]; exact ⟨rfl, rfl, rfl⟩, rfl, rfl⟩) | (exact ⟨true, _, _, _, by unfold numPost; rw [numW_1 dA c31]; exact ⟨rfl, rfl, rfl⟩, rfl, rfl⟩) | (exact ⟨false, _, _, _, by unfold numPost; rw [numW_9 dA dB c31 c92]; exact ⟨rfl, rfl⟩, rfl, rfl⟩) | exact Bool.noConfusion c101 | (rw [c9] at c31; exact Bool.noConfusion c31) | (exfalso; omega))
              · have c92 : ¬ (((10 * (ocN (u.2.1 10) p - 48)) + (ocN (u.2.1 10) (p + 1) - 48)) < 12) := mt (nI_ltI (a := ((10 * (ocN (u.2.1 10) p - 48)) + (ocN (u.2.1 10) (p + 1) - 48))) (b := 12) (by omega) (by omega)).mpr c92
                refine lv_aload_n hx hb dX6_readsWithin_95 rfl (lv_at hl 1 rfl) ?_
                refine lv_iconst (v := 3) hx hb dX6_readsWithin_96 (by decide) ?_
                refine lv_iload_n hx hb dX6_readsWithin_97 rfl (lv_at hl 0 rfl) ?_
                refine CMi.call hC hK hS (fun q h => h) hl (c_X6_wrongAt G l o R (pM u (nI ((p + 1) + 1)) (u.1 14) (nI ((10 * (ocN (u.2.1 10) p - 48)) + (ocN (u.2.1 10) (p + 1) - 48)))) 3 p  hD) hP rfl q1442 q1444 qs53 q116 q1445 mdX6_wrongAt (room_ok hRm rfl) rfl rfl dX6_readsWithin_98 (fun r98 w98 H locs hpo hP _ _ hS => ?_)
                obtain ⟨er98, ew98⟩ := hpo
                rw [ew98] at hP
                refine W_top (y := (bI false)) er98 ?_
                rw [pM_V14] at hP
                refine lv_if_eq (tgt := 108) hx hb dX6_readsWithin_101 (by decide) (fun c101 => ?_) (fun c101 => ?_)
                · have c101 : false = false := bI_0.mp c101
                  refine lv_iconst (v := 0) hx hb dX6_readsWithin_108 (by decide) ?_
                  exact hq _ _ _ _ _ _ dX6_readsWithin_109 hP hS (by first | rfl | exact bI_nar _) (by first | (exact ⟨true, _, _, _, by unfold numPost; rw [numW_2 dA dB c31 c92]; exact ⟨rfl, rfl, rfl⟩, rfl, rfl⟩) | (exact ⟨true, _, _, _, by unfold numPost; rw [numW_1 dA c31]; exact ⟨rfl, rfl, rfl⟩, rfl, rfl⟩) | (exact ⟨false, _, _, _, by unfold numPost; rw [numW_9 dA dB c31 c92]; exact ⟨rfl, rfl⟩, rfl, rfl⟩) | exact Bool.noConfusion c101 | (rw [c9] at c31; exact Bool.noConfusion c31) | (exfalso; omega))
                · have c101 : false = true := bI_1.mp c101
                  refine lv_iconst (v := 1) hx hb dX6_readsWithin_104 (by decide) ?_
                  refine lv_goto (tgt := 109) hx hb dX6_readsWithin_105 (by decide) ?_
                  exact hq _ _ _ _ _ _ dX6_readsWithin_109 hP hS (by first | rfl | exact bI_nar _) (by first | (exact ⟨true, _, _, _, by unfold numPost; rw [numW_2 dA dB c31 c92]; exact ⟨rfl, rfl, rfl⟩, rfl, rfl⟩) | (exact ⟨true, _, _, _, by unfold numPost; rw [numW_1 dA c31]; exact ⟨rfl, rfl, rfl⟩, rfl, rfl⟩) | (exact ⟨false, _, _, _, by unfold numPost; rw [numW_9 dA dB c31 c92]; exact ⟨rfl, rfl⟩, rfl, rfl⟩) | exact Bool.noConfusion c101 | (rw [c9] at c31; exact Bool.noConfusion c31) | (exfalso; omega))
            · have c31 : (digB (u.2.1 10) n ((p + 1) + 1)) = true := bI_1.mp c31
              have dC := c31
              have eC := digB_ck c31
              refine lv_aload_n hx hb dX6_readsWithin_34 rfl (lv_at hl 1 rfl) ?_
              refine M_get hC hK hP 12 (by decide) (fM12 _ _) q1213 dX6_readsWithin_35 ?_
              refine W_top (y := (nI ((p + 1) + 1))) (by rw [pM_f12]) ?_
              refine lv_iload_n hx hb dX6_readsWithin_38 rfl (lv_at hl 0 rfl) ?_
              refine lv_iconst (v := 2) hx hb dX6_readsWithin_39 (by decide) ?_
              refine lv_iadd hx hb dX6_readsWithin_40 ?_
              refine W_top (nI_add p 2) ?_
              refine lv_icmp_ne (tgt := 54) hx hb dX6_readsWithin_41 (by decide) (fun c41 => ?_) (fun c41 => ?_)
              · have c41 : ¬ (((p + 1) + 1) = (p + 2)) := mt (nI_eq (a := ((p + 1) + 1)) (b := (p + 2)) (by omega) (by omega)).mpr c41
                exact absurd (by omega) c41
              · have c41 : ((p + 1) + 1) = (p + 2) := (nI_eq (a := ((p + 1) + 1)) (b := (p + 2)) (by omega) (by omega)).mp c41
                refine lv_aload_n hx hb dX6_readsWithin_44 rfl (lv_at hl 1 rfl) ?_
                refine lv_iconst (v := 2) hx hb dX6_readsWithin_45 (by decide) ?_
                refine lv_aload_n hx hb dX6_readsWithin_46 rfl (lv_at hl 1 rfl) ?_
                refine M_get hC hK hP 12 (by decide) (fM12 _ _) q1213 dX6_readsWithin_47 ?_
                refine W_top (y := (nI ((p + 1) + 1))) (by rw [pM_f12]) ?_
                refine CMi.call hC hK hS (fun q h => h) hl (c_X6_wrongAt G l o R (pM u (nI ((p + 1) + 1)) (u.1 14) (nI ((10 * (ocN (u.2.1 10) p - 48)) + (ocN (u.2.1 10) (p + 1) - 48)))) 2 ((p + 1) + 1)  hD) hP rfl q1442 q1444 qs53 q116 q1445 mdX6_wrongAt (room_ok hRm rfl) rfl rfl dX6_readsWithin_50 (fun r50 w50 H locs hpo hP _ _ hS => ?_)
                obtain ⟨er50, ew50⟩ := hpo
                rw [ew50] at hP
                refine W_top (y := (bI false)) er50 ?_
                rw [pM_V14] at hP
                exact hq _ _ _ _ _ _ dX6_readsWithin_53 hP hS (by first | rfl | exact bI_nar _) (by exact ⟨false, _, _, _, by unfold numPost; rw [numW_3 dA dB dC]; exact ⟨rfl, rfl⟩, rfl, rfl⟩)
          · have c41 : (p + 1) = (p + 2) := (nI_eq (a := (p + 1)) (b := (p + 2)) (by omega) (by omega)).mp c41
            exact absurd c41 (by omega)
      · have c41 : p = (p + 2) := (nI_eq (a := p) (b := (p + 2)) (by omega) (by omega)).mp c41
        exact absurd c41 (by omega)
  · have c9 : (digB (u.2.1 10) n p) = false := bI_0.mp c9
    refine lv_aload_n hx hb dX6_readsWithin_12 rfl (lv_at hl 1 rfl) ?_
    refine lv_iconst (v := 1) hx hb dX6_readsWithin_13 (by decide) ?_
    refine lv_aload_n hx hb dX6_readsWithin_14 rfl (lv_at hl 1 rfl) ?_
    refine M_get hC hK hP 12 (by decide) (fM12 _ _) q1213 dX6_readsWithin_15 ?_
    refine W_top (y := (nI p)) (by rw [pM_f12]) ?_
    refine CMi.call hC hK hS (fun q h => h) hl (c_X6_wrongAt G l o R (pM u (nI p) (u.1 14) (u.1 15)) 1 p  hD) hP rfl q1442 q1444 qs53 q116 q1445 mdX6_wrongAt (room_ok hRm rfl) rfl rfl dX6_readsWithin_18 (fun r18 w18 H locs hpo hP _ _ hS => ?_)
    obtain ⟨er18, ew18⟩ := hpo
    rw [ew18] at hP
    refine W_top (y := (bI false)) er18 ?_
    rw [pM_V14] at hP
    exact hq _ _ _ _ _ _ dX6_readsWithin_21 hP hS (by first | rfl | exact bI_nar _) (by exact ⟨false, _, _, _, by unfold numPost; rw [numW_0 c9]; exact ⟨rfl, rfl⟩, rfl, rfl⟩)
