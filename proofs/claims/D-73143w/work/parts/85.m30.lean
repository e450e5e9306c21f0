set_option maxRecDepth 100000
set_option maxHeartbeats 4000000 in
theorem c_X6_readsFactor (G : GG) (l : Launch) (o : Nat) (R : Nat → Nat) (u : MS) (n : Nat) (base : Nat) (p : Nat) (o1 : Nat) (fu : Nat) (cs : List Nat) (ws : List Nat) (RR : MR) (hI : lwI n base p o1 cs ws (u.1 12) (u.1 16) (u.1 17) (u.1 18) (u.2.1 21) (u.2.1 22)) (hn : (u.1 13) = nI n) (hn2 : n ≤ 240) (hR : RR = mR (u.2.1 10) n base fu true cs ws o1 p) (hfu : 2 * (n + 1 - p) + 1 ≤ fu) (hD : DM o R) : CMi G l o R yX6_readsFactor cX6_readsFactor 2 .boolean 5 77 [] u (fun r w => ∃ ok : Bool, ∃ pl : Int32, ∃ fa : Int32, ∃ nu : Int32, ∃ op : Int32, ∃ cm : Int32, ∃ wa : Int32, ∃ x : Nat → Int32, ∃ y : Nat → Int32, (fcPost RR (u.2.1 10) n base (n - p) ok pl fa op cm wa x y) ∧ r = (bI ok) ∧ w = (lE u pl fa nu op cm wa (u.1 19) (u.1 11) (nI n) (u.1 20) x y (u.2.1 23) (u.2.1 24) (u.2.1 25) (u.2.1 26) (u.2.1 27) (u.2.1 28) (u.2.1 29) (u.2.1 30) (u.2.1 31))) := by
  refine CMi.mk pnX6 rfl (Nat.le_of_ble_eq_true rfl) (fun pg en Rm sg mm ar bw mth cd QQ ls hC hRm hK hP hS hl hq => ?_)
  have hx := hC.1; have hb := hC.2.1; have ho := hC.2.2.2.1; have hts := hC.2.2.2.2
  have hl : lv_has ls 2 [(0, .ref o)] := hl
  have hP : PM G o R (lE u (u.1 12) (u.1 14) (u.1 15) (u.1 16) (u.1 17) (u.1 18) (u.1 19) (u.1 11) (u.1 13) (u.1 20) (u.2.1 21) (u.2.1 22) (u.2.1 23) (u.2.1 24) (u.2.1 25) (u.2.1 26) (u.2.1 27) (u.2.1 28) (u.2.1 29) (u.2.1 30) (u.2.1 31)) sg.heap := by rw [lE_self]; exact hP
  obtain ⟨bb, hbb⟩ : ∃ b, b = n - p := ⟨_, rfl⟩
  rw [← hbb] at hq
  have hI0 := hI
  have LP0 : ∀ (fu0 : Nat) (p : Nat) (o1 : Nat) (fu : Nat) (ws : List Nat) (pl : Int32) (op : Int32) (cm : Int32) (wa : Int32) (le : Int32) (fa : Int32) (x : Nat → Int32) (y : Nat → Int32) (H : Heap) (locs : List Loc) (ls : Array Slot), n + 1 - p < fu0 → lwI n base p o1 cs ws pl op cm wa x y → RR = mR (u.2.1 10) n base fu true cs ws o1 p → 2 * (n + 1 - p) + 1 ≤ fu → n ≤ p + bb → le = nI n → PM G o R (lE u pl fa (u.1 15) op cm wa (u.1 19) (u.1 11) le (u.1 20) x y (u.2.1 23) (u.2.1 24) (u.2.1 25) (u.2.1 26) (u.2.1 27) (u.2.1 28) (u.2.1 29) (u.2.1 30) (u.2.1 31)) H → va_S (AM o R) sg.heap H locs → lv_has ls 2 [(0, .ref o)] → W pg l en Rm sg mm ar bw mth cd H locs 0 0 QQ (F0 mm 0 ls []) := by
    intro fu0
    induction fu0 with
    | zero => intro p o1 fu ws pl op cm wa le fa x y H locs ls hm0 hI hR hfu hbp hle hP hS hl; exact absurd hm0 (Nat.not_lt_zero _)
    | succ fu0 ih0 =>
      intro p o1 fu ws pl op cm wa le fa x y H locs ls hm0 hI hR hfu hbp hle hP hS hl
      obtain ⟨⟨rfl, rfl, rfl, rfl⟩, ⟨hcs, hst⟩, ⟨hl1, hl2, hpn, hct, ho6⟩, hG⟩ := hI
      subst hle
      refine lv_aload_n hx hb dX6_readsFactor_0 rfl (lv_at hl 0 rfl) ?_
      refine CI.callV hC hK hl (c_X6_here G l o R (lE u (nI p) fa (u.1 15) (nI o1) (nI cs.length) (nI ws.length) (u.1 19) (u.1 11) (nI n) (u.1 20) x y (u.2.1 23) (u.2.1 24) (u.2.1 25) (u.2.1 26) (u.2.1 27) (u.2.1 28) (u.2.1 29) (u.2.1 30) (u.2.1 31)) p n (rfl) (rfl) (hn2) (by omega)) hP (hP.recv hK) q1438 q1440 qs52 q116 q1441 mdX6_here (room_ok hRm rfl) rfl rfl dX6_readsFactor_1 ?_
      refine W_top (y := (hereI (u.2.1 10) n p)) (by simp only [lE_g10]) ?_
      refine lv_bipush (v := 91) hx hb dX6_readsFactor_4 (by decide) ?_
      refine lv_icmp_ne (tgt := 20) hx hb dX6_readsFactor_6 (by decide) (fun c6 => ?_) (fun c6 => ?_)
      · have c6n : ¬ ckN (u.2.1 10) n p = 91 := mt (hereI_eq (c := 91) (by decide)).mpr c6
        refine lv_aload_n hx hb dX6_readsFactor_20 rfl (lv_at hl 0 rfl) ?_
        refine CI.callV hC hK hl (c_X6_isDigit G l o R (lE u (nI p) fa (u.1 15) (nI o1) (nI cs.length) (nI ws.length) (u.1 19) (u.1 11) (nI n) (u.1 20) x y (u.2.1 23) (u.2.1 24) (u.2.1 25) (u.2.1 26) (u.2.1 27) (u.2.1 28) (u.2.1 29) (u.2.1 30) (u.2.1 31)) p n (rfl) (rfl) (hn2) (by omega)) hP (hP.recv hK) q1459 q1461 qs57 q116 q1462 mdX6_isDigit (room_ok hRm rfl) rfl rfl dX6_readsFactor_21 ?_
        refine W_top (y := (bI (digB (u.2.1 10) n p))) (by simp only [lE_g10]) ?_
        refine lv_if_eq (tgt := 47) hx hb dX6_readsFactor_24 (by decide) (fun c24 => ?_) (fun c24 => ?_)
        · have c24 : (digB (u.2.1 10) n p) = false := bI_0.mp c24
          refine lv_aload_n hx hb dX6_readsFactor_47 rfl (lv_at hl 0 rfl) ?_
          refine CI.callV hC hK hl (c_X6_here G l o R (lE u (nI p) fa (u.1 15) (nI o1) (nI cs.length) (nI ws.length) (u.1 19) (u.1 11) (nI n) (u.1 20) x y (u.2.1 23) (u.2.1 24) (u.2.1 25) (u.2.1 26) (u.2.1 27) (u.2.1 28) (u.2.1 29) (u.2.1 30) (u.2.1 31)) p n (rfl) (rfl) (hn2) (by omega)) hP (hP.recv hK) q1438 q1440 qs52 q116 q1441 mdX6_here (room_ok hRm rfl) rfl rfl dX6_readsFactor_48 ?_
          refine W_top (y := (hereI (u.2.1 10) n p)) (by simp only [lE_g10]) ?_
          refine CI.callS hC hK hl (c_X6_factOf G l (hereI (u.2.1 10) n p) ) trivial q1471 q1472 q116 q1473 mdX6_factOf (room_ok hRm rfl) rfl rfl dX6_readsFactor_51 ?_
          refine W_top (y := (optI (letN (ckN (u.2.1 10) n p)))) (factI_ck _ _ _) ?_
          obtain ⟨li, hli⟩ : ∃ li, letN (ckN (u.2.1 10) n p) = li := ⟨_, rfl⟩
          refine W_top (y := (optI li)) (by rw [hli]) ?_
          rcases li with _ | i
          · have hl : lv_has ls 2 [(0, .ref o)] := hl
            refine lv_istore_n (lv' := [(1, .int (-1)), (0, .ref o)]) hx hb dX6_readsFactor_54 rfl hl (by decide) rfl (fun ls hl => ?_)
            refine lv_iload_n hx hb dX6_readsFactor_55 rfl (lv_at hl 0 rfl) ?_
            refine lv_iconst (v := (-1)) hx hb dX6_readsFactor_56 (by decide) ?_
            refine lv_icmp_ne (tgt := 70) hx hb dX6_readsFactor_57 (by decide) (fun c57 => ?_) (fun c57 => ?_)
            · exact absurd c57 (by decide)
            · refine lv_aload_n hx hb dX6_readsFactor_60 rfl (lv_at hl 1 rfl) ?_
              refine lv_iconst (v := 1) hx hb dX6_readsFactor_61 (by decide) ?_
              refine lv_aload_n hx hb dX6_readsFactor_62 rfl (lv_at hl 1 rfl) ?_
              refine M_get hC hK hP 12 (by decide) (fM12 _ _) q1213 dX6_readsFactor_63 ?_
              refine W_top (y := (nI p)) (by rw [lE_f12]) ?_
              refine CMi.call hC hK hS (fun q h => h) hl (c_X6_wrongAt G l o R (lE u (nI p) fa (u.1 15) (nI o1) (nI cs.length) (nI ws.length) (u.1 19) (u.1 11) (nI n) (u.1 20) x y (u.2.1 23) (u.2.1 24) (u.2.1 25) (u.2.1 26) (u.2.1 27) (u.2.1 28) (u.2.1 29) (u.2.1 30) (u.2.1 31)) 1 p  hD) hP rfl q1442 q1444 qs53 q116 q1445 mdX6_wrongAt (room_ok hRm rfl) rfl rfl dX6_readsFactor_66 (fun r66 w66 H locs hpo hP _ _ hS => ?_)
              obtain ⟨er66, ew66⟩ := hpo
              rw [ew66] at hP
              refine W_top (y := (bI false)) er66 ?_
              rw [lE_V14] at hP
              exact hq _ _ _ _ _ _ dX6_readsFactor_69 hP hS (by first | rfl | exact bI_nar _) (by exact ⟨false, _, _, _, _, _, _, _, _, fcP_bad (hR.trans (mR_1 (by omega) c6n c24 hli)), rfl, rfl⟩)
          · have hi9 := letN_lt hli
            have hpn1 : p < n := Nat.not_le.mp fun z => by have h9 := hi9.2; rw [ckN_f (by omega)] at h9; omega
            have hl : lv_has ls 2 [(0, .ref o)] := hl
            refine lv_istore_n (lv' := [(1, .int (nI i)), (0, .ref o)]) hx hb dX6_readsFactor_54 rfl hl (by decide) rfl (fun ls hl => ?_)
            refine lv_iload_n hx hb dX6_readsFactor_55 rfl (lv_at hl 0 rfl) ?_
            refine lv_iconst (v := (-1)) hx hb dX6_readsFactor_56 (by decide) ?_
            refine lv_icmp_ne (tgt := 70) hx hb dX6_readsFactor_57 (by decide) (fun c57 => ?_) (fun c57 => ?_)
            · refine lv_aload_n hx hb dX6_readsFactor_70 rfl (lv_at hl 1 rfl) ?_
              refine lv_iconst (v := 1) hx hb dX6_readsFactor_71 (by decide) ?_
              refine lv_iload_n hx hb dX6_readsFactor_72 rfl (lv_at hl 0 rfl) ?_
              refine CMv.call hC hK hS (fun q h => h) hl (c_X6_notes G l o R (lE u (nI p) fa (u.1 15) (nI o1) (nI cs.length) (nI ws.length) (u.1 19) (u.1 11) (nI n) (u.1 20) x y (u.2.1 23) (u.2.1 24) (u.2.1 25) (u.2.1 26) (u.2.1 27) (u.2.1 28) (u.2.1 29) (u.2.1 30) (u.2.1 31)) 1 i cs.length (rfl) (by omega) (by decide) (by omega) hD) hP rfl q1467 q1469 qs59 q116 q1470 mdX6_notes (room_ok hRm rfl) rfl rfl dX6_readsFactor_73 (fun w73 H locs hpo hP _ _ hS => ?_)
              have ew73 := hpo
              rw [ew73] at hP
              rw [lE_again] at hP
              simp only [lE_f11, lE_f12, lE_f13, lE_f14, lE_f15, lE_f16, lE_f18, lE_f19, lE_f20, lE_g21, lE_g22, lE_g23, lE_g24, lE_g25, lE_g26, lE_g27, lE_g28, lE_g29, lE_g30, lE_g31] at hP
              refine lv_aload_n hx hb dX6_readsFactor_76 rfl (lv_at hl 1 rfl) ?_
              refine lv_aload_n hx hb dX6_readsFactor_77 rfl (lv_at hl 1 rfl) ?_
              refine M_get hC hK hP 12 (by decide) (fM12 _ _) q1213 dX6_readsFactor_78 ?_
              refine W_top (y := (nI p)) (by rw [lE_f12]) ?_
              refine lv_iconst (v := 1) hx hb dX6_readsFactor_81 (by decide) ?_
              refine lv_iadd hx hb dX6_readsFactor_82 ?_
              refine W_top (nI_add p 1) ?_
              refine M_put hC hK hD hP hS 12 (by decide) (sM12 _ _ _) q1213 rfl dX6_readsFactor_83 (fun H locs hP hS => ?_)
              rw [lE_V12] at hP
              refine lv_iconst (v := 1) hx hb dX6_readsFactor_86 (by decide) ?_
              exact hq _ _ _ _ _ _ dX6_readsFactor_87 hP hS (by first | rfl | exact bI_nar _) (by exact ⟨true, _, _, _, _, _, _, _, _, fcP_ok (hR.trans (mR_let (by omega) c6n c24 hli)) (by omega) (by omega) hcs hst (by omega) (by omega) hpn1 hct ho6 hG (by rw [Nat.mul_one]) rfl, rfl, rfl⟩)
            · exact absurd c57 (nI_neg (by omega) (by decide))
        · have c24 : (digB (u.2.1 10) n p) = true := bI_1.mp c24
          refine lv_aload_n hx hb dX6_readsFactor_27 rfl (lv_at hl 0 rfl) ?_
          refine CMi.call hC hK hS (fun q h => h) hl (c_X6_readsNumber G l o R (lE u (nI p) fa (u.1 15) (nI o1) (nI cs.length) (nI ws.length) (u.1 19) (u.1 11) (nI n) (u.1 20) x y (u.2.1 23) (u.2.1 24) (u.2.1 25) (u.2.1 26) (u.2.1 27) (u.2.1 28) (u.2.1 29) (u.2.1 30) (u.2.1 31)) p n (rfl) (rfl) (hn2) (hpn) hD) hP rfl q1463 q1465 qs58 q116 q1466 mdX6_readsNumber (room_ok hRm rfl) rfl rfl dX6_readsFactor_28 (fun r28 w28 H locs hpo hP _ _ hS => ?_)
          obtain ⟨ok_1, pl_2, fa_3, nu_4, f28_0, er28, ew28⟩ := hpo
          rw [ew28] at hP
          refine W_top (y := (bI ok_1)) er28 ?_
          rw [lE_again] at hP
          simp only [lE_f11, lE_f16, lE_f17, lE_f18, lE_f19, lE_f20, lE_g21, lE_g22, lE_g23, lE_g24, lE_g25, lE_g26, lE_g27, lE_g28, lE_g29, lE_g30, lE_g31] at hP
          refine lv_if_ne (tgt := 36) hx hb dX6_readsFactor_31 (by decide) (fun c31 => ?_) (fun c31 => ?_)
          · have c31 : ok_1 = true := bI_1.mp c31
            obtain ⟨v, hv, rfl, rfl⟩ := nlP_t f28_0 c31
            change numL (u.2.1 10) n p = _ at hv
            have hvb := numL_b c24 hv
            refine lv_aload_n hx hb dX6_readsFactor_36 rfl (lv_at hl 0 rfl) ?_
            refine lv_iconst (v := 0) hx hb dX6_readsFactor_37 (by decide) ?_
            refine lv_aload_n hx hb dX6_readsFactor_38 rfl (lv_at hl 0 rfl) ?_
            refine M_get hC hK hP 15 (by decide) (fM15 _ _) q1216 dX6_readsFactor_39 ?_
            refine W_top (y := (nI v.1)) (by rw [lE_f15]) ?_
            refine CMv.call hC hK hS (fun q h => h) hl (c_X6_notes G l o R (lE u (nI v.2) fa_3 (nI v.1) (nI o1) (nI cs.length) (nI ws.length) (u.1 19) (u.1 11) (nI n) (u.1 20) x y (u.2.1 23) (u.2.1 24) (u.2.1 25) (u.2.1 26) (u.2.1 27) (u.2.1 28) (u.2.1 29) (u.2.1 30) (u.2.1 31)) 0 v.1 cs.length (rfl) (by omega) (by decide) (by omega) hD) hP rfl q1467 q1469 qs59 q116 q1470 mdX6_notes (room_ok hRm rfl) rfl rfl dX6_readsFactor_42 (fun w42 H locs hpo hP _ _ hS => ?_)
            have ew42 := hpo
            rw [ew42] at hP
            rw [lE_again] at hP
            simp only [lE_f11, lE_f12, lE_f13, lE_f14, lE_f15, lE_f16, lE_f18, lE_f19, lE_f20, lE_g21, lE_g22, lE_g23, lE_g24, lE_g25, lE_g26, lE_g27, lE_g28, lE_g29, lE_g30, lE_g31] at hP
            refine lv_iconst (v := 1) hx hb dX6_readsFactor_45 (by decide) ?_
            exact hq _ _ _ _ _ _ dX6_readsFactor_46 hP hS (by first | rfl | exact bI_nar _) (by exact ⟨true, _, _, _, _, _, _, _, _, fcP_ok (hR.trans (mR_num (by omega) c6n c24 hv)) (by omega) (by omega) hcs hst (by omega) (by omega) hvb.2.1 hct ho6 hG (by rw [Nat.mul_zero, Nat.zero_add]) rfl, rfl, rfl⟩)
          · have c31 : ok_1 = false := bI_0.mp c31
            obtain ⟨⟨e1, e2⟩, hv, rfl⟩ := nlP_f f28_0 c31
            change numL (u.2.1 10) n p = _ at hv
            refine lv_iconst (v := 0) hx hb dX6_readsFactor_34 (by decide) ?_
            exact hq _ _ _ _ _ _ dX6_readsFactor_35 hP hS (by first | rfl | exact bI_nar _) (by exact ⟨false, _, _, _, _, _, _, _, _, fcP_bad (hR.trans (mR_numf (by omega) c6n c24 hv)), rfl, rfl⟩)
      · refine lv_aload_n hx hb dX6_readsFactor_9 rfl (lv_at hl 0 rfl) ?_
        refine lv_bipush (v := 14) hx hb dX6_readsFactor_10 (by decide) ?_
        refine CMi.call hC hK hS (fun q h => h) hl (c_X6_opens G l o R (lE u (nI p) fa (u.1 15) (nI o1) (nI cs.length) (nI ws.length) (u.1 19) (u.1 11) (nI n) (u.1 20) x y (u.2.1 23) (u.2.1 24) (u.2.1 25) (u.2.1 26) (u.2.1 27) (u.2.1 28) (u.2.1 29) (u.2.1 30) (u.2.1 31)) 14 o1 ws.length p (rfl) (ho6) (rfl) (by omega) (rfl) (by omega) (by decide) hD) hP rfl q1454 q1456 qs56 q116 q1457 mdX6_opens (room_ok hRm rfl) rfl rfl dX6_readsFactor_12 (fun r12 w12 H locs hpo hP _ _ hS => ?_)
        obtain ⟨ok_5, fa_6, op_7, wa_8, pl_9, x_10, f12_0, er12, ew12⟩ := hpo
        rw [ew12] at hP
        refine W_top (y := (bI ok_5)) er12 ?_
        rw [lE_again] at hP
        simp only [lE_f11, lE_f13, lE_f15, lE_f17, lE_f19, lE_f20, lE_g21, lE_g23, lE_g24, lE_g25, lE_g26, lE_g27, lE_g28, lE_g29, lE_g30, lE_g31] at hP
        refine lv_if_ne (tgt := 0) hx hb dX6_readsFactor_15 (by decide) (fun c15 => ?_) (fun c15 => ?_)
        · have c15 : ok_5 = true := bI_1.mp c15
          obtain ⟨h6, rfl, rfl, rfl, rfl⟩ := opP_t (y := y) (w0 := ws.length) (what := 14) f12_0 c15
          have c6x : ckN (u.2.1 10) n p = 91 := (hereI_eq (c := 91) (by decide)).mp (by first | exact c6 | exact Classical.not_not.mp c6)
          have hpn1 := ckN_in (by decide) c6x
          exact ih0 (p + 1) (o1 + 1) (fu - 1) (UN * 14 :: ws) (nI (p + 1)) (nI (o1 + 1)) (nI cs.length) (nI (ws.length + 1)) (nI n) fa_6 x (upd y ws.length (nI (1048576 * 14))) _ _ ls (by omega) (lwI_open hcs hst hl1 hl2 hpn1 hct ho6 h6 hG rfl) (hR.trans (mR_open (by omega) c6x h6)) (by omega) (by omega) (rfl) hP hS (lv_sub hl [0] rfl)
        · have c15 : ok_5 = false := bI_0.mp c15
          obtain ⟨h6, rfl⟩ := opP_f f12_0 c15
          refine lv_iconst (v := 0) hx hb dX6_readsFactor_18 (by decide) ?_
          exact hq _ _ _ _ _ _ dX6_readsFactor_19 hP hS (by first | rfl | exact bI_nar _) (by have c6x : ckN (u.2.1 10) n p = 91 := (hereI_eq (c := 91) (by decide)).mp (by first | exact c6 | exact Classical.not_not.mp c6); exact ⟨false, _, _, _, _, _, _, _, _, fcP_bad (hR.trans (mR_5 (by omega) c6x h6)), rfl, rfl⟩)
  exact LP0 _ p o1 fu ws (u.1 12) (u.1 16) (u.1 17) (u.1 18) (u.1 13) (u.1 14) (u.2.1 21) (u.2.1 22) _ _ ls (Nat.lt_succ_self _) (hI) (hR) (hfu) (by omega) (hn) hP hS (lv_sub hl [0] rfl)
