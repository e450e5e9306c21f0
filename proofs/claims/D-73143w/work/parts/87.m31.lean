set_option maxRecDepth 100000
set_option maxHeartbeats 4000000 in
theorem c_X6_readsSum (G : GG) (l : Launch) (o : Nat) (R : Nat → Nat) (u : MS) (n : Nat) (p0 : Nat) (o0 : Nat) (fu0 : Nat) (cs0 : List Nat) (ws0 : List Nat) (RR : MR) (hI : lwI n ws0.length p0 o0 cs0 ws0 (u.1 12) (u.1 16) (u.1 17) (u.1 18) (u.2.1 21) (u.2.1 22)) (hn : (u.1 13) = nI n) (hn2 : n ≤ 240) (hR : RR = mR (u.2.1 10) n ws0.length fu0 true cs0 ws0 o0 p0) (hfu : 2 * (n + 1 - p0) + 1 ≤ fu0) (hD : DM o R) : CMi G l o R yX6_readsSum cX6_readsSum 3 .boolean 6 98 [] u (fun r w => ∃ ok : Bool, ∃ pl : Int32, ∃ fa : Int32, ∃ nu : Int32, ∃ op : Int32, ∃ cm : Int32, ∃ wa : Int32, ∃ x : Nat → Int32, ∃ y : Nat → Int32, (smPost RR n ws0.length ok pl fa op cm wa x y) ∧ r = (bI ok) ∧ w = (lE u pl fa nu op cm wa (u.1 19) (u.1 11) (nI n) (u.1 20) x y (u.2.1 23) (u.2.1 24) (u.2.1 25) (u.2.1 26) (u.2.1 27) (u.2.1 28) (u.2.1 29) (u.2.1 30) (u.2.1 31))) := by
  refine CMi.mk pnX6 rfl (Nat.le_of_ble_eq_true rfl) (fun pg en Rm sg mm ar bw mth cd QQ ls hC hRm hK hP hS hl hq => ?_)
  have hx := hC.1; have hb := hC.2.1; have ho := hC.2.2.2.1; have hts := hC.2.2.2.2
  have hl : lv_has ls 3 [(0, .ref o)] := hl
  have hP : PM G o R (lE u (u.1 12) (u.1 14) (u.1 15) (u.1 16) (u.1 17) (u.1 18) (u.1 19) (u.1 11) (u.1 13) (u.1 20) (u.2.1 21) (u.2.1 22) (u.2.1 23) (u.2.1 24) (u.2.1 25) (u.2.1 26) (u.2.1 27) (u.2.1 28) (u.2.1 29) (u.2.1 30) (u.2.1 31)) sg.heap := by rw [lE_self]; exact hP
  obtain ⟨⟨hp1, ho1, hc1, hw1⟩, hrest⟩ := hI
  rw [hp1, ho1, hc1, hw1, hn] at hP
  have hb240 : ws0.length ≤ 240 := by have := hrest.2.1.2.1; have := hrest.2.1.2.2.1; omega
  refine lv_aload_n hx hb dX6_readsSum_0 rfl (lv_at hl 0 rfl) ?_
  refine M_get hC hK hP 18 (by decide) (fM18 _ _) q1219 dX6_readsSum_1 ?_
  refine W_top (y := (nI ws0.length)) (by rw [lE_f18]) ?_
  refine lv_istore_n (lv' := [(1, .int (nI ws0.length)), (0, .ref o)]) hx hb dX6_readsSum_4 rfl hl (by decide) rfl (fun ls hl => ?_)
  refine lv_aload_n hx hb dX6_readsSum_5 rfl (lv_at hl 1 rfl) ?_
  refine CMi.call hC hK hS (fun q h => h) hl (c_X6_readsFactor G l o R (lE u (nI p0) (u.1 14) (u.1 15) (nI o0) (nI cs0.length) (nI ws0.length) (u.1 19) (u.1 11) (nI n) (u.1 20) (u.2.1 21) (u.2.1 22) (u.2.1 23) (u.2.1 24) (u.2.1 25) (u.2.1 26) (u.2.1 27) (u.2.1 28) (u.2.1 29) (u.2.1 30) (u.2.1 31)) n ws0.length p0 o0 fu0 cs0 ws0 RR (⟨⟨rfl, rfl, rfl, rfl⟩, hrest⟩) (rfl) (hn2) (hR) (hfu) hD) hP rfl q1450 q1452 qs55 q116 q1453 mdX6_readsFactor (room_ok hRm rfl) rfl rfl dX6_readsSum_6 (fun r6 w6 H locs hpo hP _ _ hS => ?_)
  obtain ⟨ok_1, pl_2, fa_3, nu_4, op_5, cm_6, wa_7, x_8, y_9, f6_0, er6, ew6⟩ := hpo
  rw [ew6] at hP
  refine W_top (y := (bI ok_1)) er6 ?_
  rw [lE_again] at hP
  simp only [lE_f11, lE_f19, lE_f20, lE_g23, lE_g24, lE_g25, lE_g26, lE_g27, lE_g28, lE_g29, lE_g30, lE_g31] at hP
  refine lv_if_ne (tgt := 14) hx hb dX6_readsSum_9 (by decide) (fun c9 => ?_) (fun c9 => ?_)
  · have c9 : ok_1 = true := bI_1.mp c9
    obtain ⟨p2, o2, cs2, ws2, fu2, hR2, hfu2, hpb2, hI2⟩ := fcP_t f6_0 c9
    have LP14 : ∀ (fu14 : Nat) (p : Nat) (o1 : Nat) (fu : Nat) (cs : List Nat) (ws : List Nat) (pl : Int32) (fa : Int32) (nu : Int32) (op : Int32) (cm : Int32) (wa : Int32) (x : Nat → Int32) (y : Nat → Int32) (H : Heap) (locs : List Loc) (ls : Array Slot), n + 1 - p < fu14 → lwI n ws0.length p o1 cs ws pl op cm wa x y → RR = mR (u.2.1 10) n ws0.length fu false cs ws o1 p → 2 * (n + 1 - p) + 2 ≤ fu → PM G o R (lE u pl fa nu op cm wa (u.1 19) (u.1 11) (nI n) (u.1 20) x y (u.2.1 23) (u.2.1 24) (u.2.1 25) (u.2.1 26) (u.2.1 27) (u.2.1 28) (u.2.1 29) (u.2.1 30) (u.2.1 31)) H → va_S (AM o R) sg.heap H locs → lv_has ls 3 [(0, .ref o), (1, .int (nI ws0.length))] → W pg l en Rm sg mm ar bw mth cd H locs 0 0 QQ (F0 mm 14 ls []) := by
      intro fu14
      induction fu14 with
      | zero => intro p o1 fu cs ws pl fa nu op cm wa x y H locs ls hm14 hI hR hfu hP hS hl; exact absurd hm14 (Nat.not_lt_zero _)
      | succ fu14 ih14 =>
        intro p o1 fu cs ws pl fa nu op cm wa x y H locs ls hm14 hI hR hfu hP hS hl
        have hI3 := hI
        obtain ⟨⟨rfl, rfl, rfl, rfl⟩, ⟨hcs, hst⟩, ⟨hl1, hl2, hpn, hct, ho6⟩, hG⟩ := hI
        refine lv_aload_n hx hb dX6_readsSum_14 rfl (lv_at hl 0 rfl) ?_
        refine CI.callV hC hK hl (c_X6_here G l o R (lE u (nI p) fa nu (nI o1) (nI cs.length) (nI ws.length) (u.1 19) (u.1 11) (nI n) (u.1 20) x y (u.2.1 23) (u.2.1 24) (u.2.1 25) (u.2.1 26) (u.2.1 27) (u.2.1 28) (u.2.1 29) (u.2.1 30) (u.2.1 31)) p n (rfl) (rfl) (hn2) (by omega)) hP (hP.recv hK) q1438 q1440 qs52 q116 q1441 mdX6_here (room_ok hRm rfl) rfl rfl dX6_readsSum_15 ?_
        refine W_top (y := (hereI (u.2.1 10) n p)) (by simp only [lE_g10]) ?_
        refine CI.callS hC hK hl (c_X6_sumSign G l (hereI (u.2.1 10) n p) ) trivial q1474 q1475 q116 q1476 mdX6_sumSign (room_ok hRm rfl) rfl rfl dX6_readsSum_18 ?_
        refine W_top (y := (optI (sgnN (ckN (u.2.1 10) n p)))) (sgnI_ck _ _ _) ?_
        obtain ⟨li, hli⟩ : ∃ li, sgnN (ckN (u.2.1 10) n p) = li := ⟨_, rfl⟩
        refine W_top (y := (optI li)) (by rw [hli]) ?_
        rcases li with _ | s
        · have hl : lv_has ls 3 [(0, .ref o), (1, .int (nI ws0.length))] := hl
          refine lv_istore_n (lv' := [(2, .int (-1)), (0, .ref o), (1, .int (nI ws0.length))]) hx hb dX6_readsSum_21 rfl hl (by decide) rfl (fun ls hl => ?_)
          refine lv_iload_n hx hb dX6_readsSum_22 rfl (lv_at hl 0 rfl) ?_
          refine lv_iconst (v := (-1)) hx hb dX6_readsSum_23 (by decide) ?_
          refine lv_icmp_eq (tgt := 83) hx hb dX6_readsSum_24 (by decide) (fun c24 => ?_) (fun c24 => ?_)
          · refine lv_aload_n hx hb dX6_readsSum_83 rfl (lv_at hl 1 rfl) ?_
            refine CI.callV hC hK hl (c_X6_here G l o R (lE u (nI p) fa nu (nI o1) (nI cs.length) (nI ws.length) (u.1 19) (u.1 11) (nI n) (u.1 20) x y (u.2.1 23) (u.2.1 24) (u.2.1 25) (u.2.1 26) (u.2.1 27) (u.2.1 28) (u.2.1 29) (u.2.1 30) (u.2.1 31)) p n (rfl) (rfl) (hn2) (by omega)) hP (hP.recv hK) q1438 q1440 qs52 q116 q1441 mdX6_here (room_ok hRm rfl) rfl rfl dX6_readsSum_84 ?_
            refine W_top (y := (hereI (u.2.1 10) n p)) (by simp only [lE_g10]) ?_
            refine lv_bipush (v := 93) hx hb dX6_readsSum_87 (by decide) ?_
            refine lv_icmp_ne (tgt := 138) hx hb dX6_readsSum_89 (by decide) (fun c89 => ?_) (fun c89 => ?_)
            · refine lv_aload_n hx hb dX6_readsSum_138 rfl (lv_at hl 1 rfl) ?_
              refine lv_iload_n hx hb dX6_readsSum_139 rfl (lv_at hl 2 rfl) ?_
              refine CI.callV hC hK hl (c_X6_hasOpenSum G l o R (lE u (nI p) fa nu (nI o1) (nI cs.length) (nI ws.length) (u.1 19) (u.1 11) (nI n) (u.1 20) x y (u.2.1 23) (u.2.1 24) (u.2.1 25) (u.2.1 26) (u.2.1 27) (u.2.1 28) (u.2.1 29) (u.2.1 30) (u.2.1 31)) ws0.length ws (rfl) (by omega) (hst) (by omega)) hP (hP.recv hK) q1485 q1487 qs62 q116 q1488 mdX6_hasOpenSum (room_ok hRm rfl) rfl rfl dX6_readsSum_140 ?_
              refine lv_if_eq (tgt := 156) hx hb dX6_readsSum_143 (by decide) (fun c143 => ?_) (fun c143 => ?_)
              · have c143 : (opnB ws0.length ws) = false := bI_0.mp c143
                refine lv_aload_n hx hb dX6_readsSum_156 rfl (lv_at hl 1 rfl) ?_
                refine lv_iconst (v := 1) hx hb dX6_readsSum_157 (by decide) ?_
                refine CMv.call hC hK hS (fun q h => h) hl (c_X6_closesSums G l o R (lE u (nI p) fa nu (nI o1) (nI cs.length) (nI ws.length) (u.1 19) (u.1 11) (nI n) (u.1 20) x y (u.2.1 23) (u.2.1 24) (u.2.1 25) (u.2.1 26) (u.2.1 27) (u.2.1 28) (u.2.1 29) (u.2.1 30) (u.2.1 31)) true cs ws (rfl) (by omega) (by omega) (rfl) (hst) (hcs) hD) hP rfl q1477 q1479 qs60 q116 q1480 mdX6_closesSums (room_ok hRm rfl) rfl rfl dX6_readsSum_158 (fun w158 H locs hpo hP _ _ hS => ?_)
                obtain ⟨x_10, f158_0, ew158⟩ := hpo
                rw [ew158] at hP
                rw [lE_again] at hP
                simp only [lE_f11, lE_f12, lE_f13, lE_f14, lE_f15, lE_f16, lE_f19, lE_f20, lE_g22, lE_g23, lE_g24, lE_g25, lE_g26, lE_g27, lE_g28, lE_g29, lE_g30, lE_g31] at hP
                have hI4 := lwI_cl (al := true) (n := n) (base := ws0.length) (x' := x_10) f158_0 hst hl1 hl2 hpn hct ho6 hG
                obtain ⟨c5, hc5⟩ : ∃ c5, (clS true cs ws).1 = c5 := ⟨_, rfl⟩
                obtain ⟨w5, hw5⟩ : ∃ w5, (clS true cs ws).2 = w5 := ⟨_, rfl⟩
                rw [hc5, hw5] at hP hI4
                have hl5 := hI4.2.2.1.2.1
                refine lv_iconst (v := 1) hx hb dX6_readsSum_161 (by decide) ?_
                exact hq _ _ _ _ _ _ dX6_readsSum_162 hP hS (by first | rfl | exact bI_nar _) (by exact ⟨true, _, _, _, _, _, _, _, _, smP_ok (hR.trans ((mR_end (by omega) hli c143).trans (by rw [hc5, hw5]))) hI4, rfl, rfl⟩)
              · have c143 : (opnB ws0.length ws) = true := bI_1.mp c143
                refine lv_aload_n hx hb dX6_readsSum_146 rfl (lv_at hl 1 rfl) ?_
                refine lv_iconst (v := 1) hx hb dX6_readsSum_147 (by decide) ?_
                refine lv_aload_n hx hb dX6_readsSum_148 rfl (lv_at hl 1 rfl) ?_
                refine M_get hC hK hP 12 (by decide) (fM12 _ _) q1213 dX6_readsSum_149 ?_
                refine W_top (y := (nI p)) (by rw [lE_f12]) ?_
                refine CMi.call hC hK hS (fun q h => h) hl (c_X6_wrongAt G l o R (lE u (nI p) fa nu (nI o1) (nI cs.length) (nI ws.length) (u.1 19) (u.1 11) (nI n) (u.1 20) x y (u.2.1 23) (u.2.1 24) (u.2.1 25) (u.2.1 26) (u.2.1 27) (u.2.1 28) (u.2.1 29) (u.2.1 30) (u.2.1 31)) 1 p  hD) hP rfl q1442 q1444 qs53 q116 q1445 mdX6_wrongAt (room_ok hRm rfl) rfl rfl dX6_readsSum_152 (fun r152 w152 H locs hpo hP _ _ hS => ?_)
                obtain ⟨er152, ew152⟩ := hpo
                rw [ew152] at hP
                refine W_top (y := (bI false)) er152 ?_
                rw [lE_V14] at hP
                exact hq _ _ _ _ _ _ dX6_readsSum_155 hP hS (by first | rfl | exact bI_nar _) (by exact ⟨false, _, _, _, _, _, _, _, _, smP_bad (hR.trans (mR_bad (by omega) hli (fun z => by first | exact c89 ((hereI_eq (c := 93) (by decide)).mpr z) | (rw [c97] at c143; exact Bool.noConfusion c143)) c143)) rfl, rfl, rfl⟩)
            · refine lv_aload_n hx hb dX6_readsSum_92 rfl (lv_at hl 1 rfl) ?_
              refine lv_iload_n hx hb dX6_readsSum_93 rfl (lv_at hl 2 rfl) ?_
              refine CI.callV hC hK hl (c_X6_hasOpenSum G l o R (lE u (nI p) fa nu (nI o1) (nI cs.length) (nI ws.length) (u.1 19) (u.1 11) (nI n) (u.1 20) x y (u.2.1 23) (u.2.1 24) (u.2.1 25) (u.2.1 26) (u.2.1 27) (u.2.1 28) (u.2.1 29) (u.2.1 30) (u.2.1 31)) ws0.length ws (rfl) (by omega) (hst) (by omega)) hP (hP.recv hK) q1485 q1487 qs62 q116 q1488 mdX6_hasOpenSum (room_ok hRm rfl) rfl rfl dX6_readsSum_94 ?_
              refine lv_if_eq (tgt := 138) hx hb dX6_readsSum_97 (by decide) (fun c97 => ?_) (fun c97 => ?_)
              · have c97 : (opnB ws0.length ws) = false := bI_0.mp c97
                refine lv_aload_n hx hb dX6_readsSum_138 rfl (lv_at hl 1 rfl) ?_
                refine lv_iload_n hx hb dX6_readsSum_139 rfl (lv_at hl 2 rfl) ?_
                refine CI.callV hC hK hl (c_X6_hasOpenSum G l o R (lE u (nI p) fa nu (nI o1) (nI cs.length) (nI ws.length) (u.1 19) (u.1 11) (nI n) (u.1 20) x y (u.2.1 23) (u.2.1 24) (u.2.1 25) (u.2.1 26) (u.2.1 27) (u.2.1 28) (u.2.1 29) (u.2.1 30) (u.2.1 31)) ws0.length ws (rfl) (by omega) (hst) (by omega)) hP (hP.recv hK) q1485 q1487 qs62 q116 q1488 mdX6_hasOpenSum (room_ok hRm rfl) rfl rfl dX6_readsSum_140 ?_
                refine lv_if_eq (tgt := 156) hx hb dX6_readsSum_143 (by decide) (fun c143 => ?_) (fun c143 => ?_)
                · have c143 : (opnB ws0.length ws) = false := bI_0.mp c143
                  refine lv_aload_n hx hb dX6_readsSum_156 rfl (lv_at hl 1 rfl) ?_
                  refine lv_iconst (v := 1) hx hb dX6_readsSum_157 (by decide) ?_
                  refine CMv.call hC hK hS (fun q h => h) hl (c_X6_closesSums G l o R (lE u (nI p) fa nu (nI o1) (nI cs.length) (nI ws.length) (u.1 19) (u.1 11) (nI n) (u.1 20) x y (u.2.1 23) (u.2.1 24) (u.2.1 25) (u.2.1 26) (u.2.1 27) (u.2.1 28) (u.2.1 29) (u.2.1 30) (u.2.1 31)) true cs ws (rfl) (by omega) (by omega) (rfl) (hst) (hcs) hD) hP rfl q1477 q1479 qs60 q116 q1480 mdX6_closesSums (room_ok hRm rfl) rfl rfl dX6_readsSum_158 (fun w158 H locs hpo hP _ _ hS => ?_)
                  obtain ⟨x_11, f158_0, ew158⟩ := hpo
                  rw [ew158] at hP
                  rw [lE_again] at hP
                  simp only [lE_f11, lE_f12, lE_f13, lE_f14, lE_f15, lE_f16, lE_f19, lE_f20, lE_g22, lE_g23, lE_g24, lE_g25, lE_g26, lE_g27, lE_g28, lE_g29, lE_g30, lE_g31] at hP
                  have hI4 := lwI_cl (al := true) (n := n) (base := ws0.length) (x' := x_11) f158_0 hst hl1 hl2 hpn hct ho6 hG
                  obtain ⟨c5, hc5⟩ : ∃ c5, (clS true cs ws).1 = c5 := ⟨_, rfl⟩
                  obtain ⟨w5, hw5⟩ : ∃ w5, (clS true cs ws).2 = w5 := ⟨_, rfl⟩
                  rw [hc5, hw5] at hP hI4
                  have hl5 := hI4.2.2.1.2.1
                  refine lv_iconst (v := 1) hx hb dX6_readsSum_161 (by decide) ?_
                  exact hq _ _ _ _ _ _ dX6_readsSum_162 hP hS (by first | rfl | exact bI_nar _) (by exact ⟨true, _, _, _, _, _, _, _, _, smP_ok (hR.trans ((mR_end (by omega) hli c143).trans (by rw [hc5, hw5]))) hI4, rfl, rfl⟩)
                · have c143 : (opnB ws0.length ws) = true := bI_1.mp c143
                  refine lv_aload_n hx hb dX6_readsSum_146 rfl (lv_at hl 1 rfl) ?_
                  refine lv_iconst (v := 1) hx hb dX6_readsSum_147 (by decide) ?_
                  refine lv_aload_n hx hb dX6_readsSum_148 rfl (lv_at hl 1 rfl) ?_
                  refine M_get hC hK hP 12 (by decide) (fM12 _ _) q1213 dX6_readsSum_149 ?_
                  refine W_top (y := (nI p)) (by rw [lE_f12]) ?_
                  refine CMi.call hC hK hS (fun q h => h) hl (c_X6_wrongAt G l o R (lE u (nI p) fa nu (nI o1) (nI cs.length) (nI ws.length) (u.1 19) (u.1 11) (nI n) (u.1 20) x y (u.2.1 23) (u.2.1 24) (u.2.1 25) (u.2.1 26) (u.2.1 27) (u.2.1 28) (u.2.1 29) (u.2.1 30) (u.2.1 31)) 1 p  hD) hP rfl q1442 q1444 qs53 q116 q1445 mdX6_wrongAt (room_ok hRm rfl) rfl rfl dX6_readsSum_152 (fun r152 w152 H locs hpo hP _ _ hS => ?_)
                  obtain ⟨er152, ew152⟩ := hpo
                  rw [ew152] at hP
                  refine W_top (y := (bI false)) er152 ?_
                  rw [lE_V14] at hP
                  exact hq _ _ _ _ _ _ dX6_readsSum_155 hP hS (by first | rfl | exact bI_nar _) (by exact ⟨false, _, _, _, _, _, _, _, _, smP_bad (hR.trans (mR_bad (by omega) hli (fun z => by first | exact c89 ((hereI_eq (c := 93) (by decide)).mpr z) | (rw [c97] at c143; exact Bool.noConfusion c143)) c143)) rfl, rfl, rfl⟩)
              · have c97 : (opnB ws0.length ws) = true := bI_1.mp c97
                refine lv_aload_n hx hb dX6_readsSum_100 rfl (lv_at hl 1 rfl) ?_
                refine lv_iconst (v := 1) hx hb dX6_readsSum_101 (by decide) ?_
                refine CMv.call hC hK hS (fun q h => h) hl (c_X6_closesSums G l o R (lE u (nI p) fa nu (nI o1) (nI cs.length) (nI ws.length) (u.1 19) (u.1 11) (nI n) (u.1 20) x y (u.2.1 23) (u.2.1 24) (u.2.1 25) (u.2.1 26) (u.2.1 27) (u.2.1 28) (u.2.1 29) (u.2.1 30) (u.2.1 31)) true cs ws (rfl) (by omega) (by omega) (rfl) (hst) (hcs) hD) hP rfl q1477 q1479 qs60 q116 q1480 mdX6_closesSums (room_ok hRm rfl) rfl rfl dX6_readsSum_102 (fun w102 H locs hpo hP _ _ hS => ?_)
                obtain ⟨x_12, f102_0, ew102⟩ := hpo
                rw [ew102] at hP
                rw [lE_again] at hP
                simp only [lE_f11, lE_f12, lE_f13, lE_f14, lE_f15, lE_f16, lE_f19, lE_f20, lE_g22, lE_g23, lE_g24, lE_g25, lE_g26, lE_g27, lE_g28, lE_g29, lE_g30, lE_g31] at hP
                have hI4 := lwI_cl (al := true) (n := n) (base := ws0.length) (x' := x_12) f102_0 hst hl1 hl2 hpn hct ho6 hG
                obtain ⟨c5, hc5⟩ : ∃ c5, (clS true cs ws).1 = c5 := ⟨_, rfl⟩
                obtain ⟨w5, hw5⟩ : ∃ w5, (clS true cs ws).2 = w5 := ⟨_, rfl⟩
                rw [hc5, hw5] at hP hI4
                have hl5 := hI4.2.2.1.2.1
                obtain ⟨x0, t0, ht0, h14⟩ := clS_pop (cs := cs) hG c97
                have hw6 : w5 = x0 :: t0 := hw5.symm.trans ht0
                subst hw6
                have ho1 := opnB_cnt ws c97
                have hlt : (x0 :: t0).length = t0.length + 1 := rfl
                refine lv_aload_n hx hb dX6_readsSum_105 rfl (lv_at hl 1 rfl) ?_
                refine lv_aload_n hx hb dX6_readsSum_106 rfl (lv_at hl 1 rfl) ?_
                refine M_get hC hK hP 18 (by decide) (fM18 _ _) q1219 dX6_readsSum_107 ?_
                refine W_top (y := (nI (x0 :: t0).length)) (by rw [lE_f18]) ?_
                refine lv_iconst (v := 1) hx hb dX6_readsSum_110 (by decide) ?_
                refine lv_isub hx hb dX6_readsSum_111 ?_
                refine W_top (y := (nI t0.length)) (pk_sub (a := t0.length + 1) (b := 1) (by omega)) ?_
                refine M_put hC hK hD hP hS 18 (by decide) (sM18 _ _ _) q1219 rfl dX6_readsSum_112 (fun H locs hP hS => ?_)
                rw [lE_V18] at hP
                refine lv_aload_n hx hb dX6_readsSum_115 rfl (lv_at hl 1 rfl) ?_
                refine lv_aload_n hx hb dX6_readsSum_116 rfl (lv_at hl 1 rfl) ?_
                refine M_get hC hK hP 16 (by decide) (fM16 _ _) q1217 dX6_readsSum_117 ?_
                refine W_top (y := (nI o1)) (by rw [lE_f16]) ?_
                refine lv_iconst (v := 1) hx hb dX6_readsSum_120 (by decide) ?_
                refine lv_isub hx hb dX6_readsSum_121 ?_
                refine W_top (y := (nI (o1 - 1))) (pk_sub (a := o1) (b := 1) (by omega)) ?_
                refine M_put hC hK hD hP hS 16 (by decide) (sM16 _ _ _) q1217 rfl dX6_readsSum_122 (fun H locs hP hS => ?_)
                rw [lE_V16] at hP
                refine lv_aload_n hx hb dX6_readsSum_125 rfl (lv_at hl 1 rfl) ?_
                refine lv_aload_n hx hb dX6_readsSum_126 rfl (lv_at hl 1 rfl) ?_
                refine M_get hC hK hP 12 (by decide) (fM12 _ _) q1213 dX6_readsSum_127 ?_
                refine W_top (y := (nI p)) (by rw [lE_f12]) ?_
                refine lv_iconst (v := 1) hx hb dX6_readsSum_130 (by decide) ?_
                refine lv_iadd hx hb dX6_readsSum_131 ?_
                refine W_top (nI_add p 1) ?_
                refine M_put hC hK hD hP hS 12 (by decide) (sM12 _ _ _) q1213 rfl dX6_readsSum_132 (fun H locs hP hS => ?_)
                rw [lE_V12] at hP
                have c93 := (hereI_eq (c := 93) (by decide)).mp (by first | exact c89 | exact Classical.not_not.mp c89)
                have hpn1 := ckN_in (by decide) c93
                have hI2 := lwI_pop hI4 h14 hpn1
                have hR2 := hR.trans ((mR_cl (by omega) hli c93 c97).trans (by rw [hc5, hw5, List.tail_cons]))
                have hfu2 : 2 * (n + 1 - (p + 1)) + 2 ≤ fu - 1 := by omega
                refine lv_goto (tgt := 163) hx hb dX6_readsSum_135 (by decide) ?_
                refine lv_goto (tgt := 14) hx hb dX6_readsSum_163 (by decide) ?_
                exact ih14 (p + 1) (o1 - 1) (fu - 1) c5 t0 (nI (p + 1)) fa nu (nI (o1 - 1)) (nI c5.length) (nI t0.length) x_12 y _ _ ls (by omega) (hI2) (hR2) (hfu2) hP hS (lv_sub hl [1, 2] rfl)
          · exact absurd c24 (by decide)
        · have hs9 := sgnN_lt hli
          have hpn1 : p < n := Nat.not_le.mp fun z => by have h9 := hs9.2.2; rw [ckN_f (by omega)] at h9; omega
          have hl : lv_has ls 3 [(0, .ref o), (1, .int (nI ws0.length))] := hl
          refine lv_istore_n (lv' := [(2, .int (nI s)), (0, .ref o), (1, .int (nI ws0.length))]) hx hb dX6_readsSum_21 rfl hl (by decide) rfl (fun ls hl => ?_)
          refine lv_iload_n hx hb dX6_readsSum_22 rfl (lv_at hl 0 rfl) ?_
          refine lv_iconst (v := (-1)) hx hb dX6_readsSum_23 (by decide) ?_
          refine lv_icmp_eq (tgt := 83) hx hb dX6_readsSum_24 (by decide) (fun c24 => ?_) (fun c24 => ?_)
          · exact absurd c24 (nI_neg (by omega) (by decide))
          · refine lv_aload_n hx hb dX6_readsSum_27 rfl (lv_at hl 1 rfl) ?_
            refine lv_iload_n hx hb dX6_readsSum_28 rfl (lv_at hl 0 rfl) ?_
            refine lv_iconst (v := 4) hx hb dX6_readsSum_29 (by decide) ?_
            refine lv_icmp_ge (tgt := 37) hx hb dX6_readsSum_30 (by decide) (fun c30 => ?_) (fun c30 => ?_)
            · have c30 : 4 ≤ s := (nI_leI (a := 4) (b := s) (by omega) (by omega)).mp c30
              have hal : decide (s < 4) = false := decide_eq_false (by omega)
              refine lv_iconst (v := 0) hx hb dX6_readsSum_37 (by decide) ?_
              refine CMv.call hC hK hS (fun q h => h) hl (c_X6_closesSums G l o R (lE u (nI p) fa nu (nI o1) (nI cs.length) (nI ws.length) (u.1 19) (u.1 11) (nI n) (u.1 20) x y (u.2.1 23) (u.2.1 24) (u.2.1 25) (u.2.1 26) (u.2.1 27) (u.2.1 28) (u.2.1 29) (u.2.1 30) (u.2.1 31)) false cs ws (rfl) (by omega) (by omega) (rfl) (hst) (hcs) hD) hP rfl q1477 q1479 qs60 q116 q1480 mdX6_closesSums (room_ok hRm rfl) rfl rfl dX6_readsSum_38 (fun w38 H locs hpo hP _ _ hS => ?_)
              obtain ⟨x_13, f38_0, ew38⟩ := hpo
              rw [ew38] at hP
              rw [lE_again] at hP
              simp only [lE_f11, lE_f12, lE_f13, lE_f14, lE_f15, lE_f16, lE_f19, lE_f20, lE_g22, lE_g23, lE_g24, lE_g25, lE_g26, lE_g27, lE_g28, lE_g29, lE_g30, lE_g31] at hP
              have hI4 := lwI_cl (al := false) (n := n) (base := ws0.length) (x' := x_13) f38_0 hst hl1 hl2 hpn hct ho6 hG
              obtain ⟨c5, hc5⟩ : ∃ c5, (clS false cs ws).1 = c5 := ⟨_, rfl⟩
              obtain ⟨w5, hw5⟩ : ∃ w5, (clS false cs ws).2 = w5 := ⟨_, rfl⟩
              rw [hc5, hw5] at hP hI4
              have hl5 := hI4.2.2.1.2.1
              refine lv_aload_n hx hb dX6_readsSum_41 rfl (lv_at hl 1 rfl) ?_
              refine M_get hC hK hP 22 (by decide) (fM22 _ _) q1223 dX6_readsSum_42 ?_
              refine lv_aload_n hx hb dX6_readsSum_45 rfl (lv_at hl 1 rfl) ?_
              refine M_get hC hK hP 18 (by decide) (fM18 _ _) q1219 dX6_readsSum_46 ?_
              refine W_top (y := (nI w5.length)) (by rw [lE_f18]) ?_
              refine lv_ldc (own := RX6) (v := 1048576) hx hb ho (hts _ q1458) dX6_readsSum_49 ?_
              refine lv_iload_n hx hb dX6_readsSum_51 rfl (lv_at hl 0 rfl) ?_
              refine lv_imul hx hb dX6_readsSum_52 ?_
              refine W_top (pk_mul 1048576 s) ?_
              refine M_ast hC hK hD hP hS 22 11 260 w5.length (aM22 _ _ _ _) (bM22 _ _ _ _ _ _) (by decide) (rfl) (by omega) dX6_readsSum_53 (fun H locs hP hS => ?_)
              rw [lE_A22] at hP
              refine lv_aload_n hx hb dX6_readsSum_54 rfl (lv_at hl 1 rfl) ?_
              refine lv_aload_n hx hb dX6_readsSum_55 rfl (lv_at hl 1 rfl) ?_
              refine M_get hC hK hP 18 (by decide) (fM18 _ _) q1219 dX6_readsSum_56 ?_
              refine W_top (y := (nI w5.length)) (by rw [lE_f18]) ?_
              refine lv_iconst (v := 1) hx hb dX6_readsSum_59 (by decide) ?_
              refine lv_iadd hx hb dX6_readsSum_60 ?_
              refine W_top (nI_add w5.length 1) ?_
              refine M_put hC hK hD hP hS 18 (by decide) (sM18 _ _ _) q1219 rfl dX6_readsSum_61 (fun H locs hP hS => ?_)
              rw [lE_V18] at hP
              refine lv_aload_n hx hb dX6_readsSum_64 rfl (lv_at hl 1 rfl) ?_
              refine lv_aload_n hx hb dX6_readsSum_65 rfl (lv_at hl 1 rfl) ?_
              refine M_get hC hK hP 12 (by decide) (fM12 _ _) q1213 dX6_readsSum_66 ?_
              refine W_top (y := (nI p)) (by rw [lE_f12]) ?_
              refine lv_iconst (v := 1) hx hb dX6_readsSum_69 (by decide) ?_
              refine lv_iadd hx hb dX6_readsSum_70 ?_
              refine W_top (nI_add p 1) ?_
              refine M_put hC hK hD hP hS 12 (by decide) (sM12 _ _ _) q1213 rfl dX6_readsSum_71 (fun H locs hP hS => ?_)
              rw [lE_V12] at hP
              refine lv_aload_n hx hb dX6_readsSum_74 rfl (lv_at hl 1 rfl) ?_
              refine CMi.call hC hK hS (fun q h => h) hl (c_X6_readsFactor G l o R (lE u (nI (p + 1)) fa nu (nI o1) (nI c5.length) (nI (w5.length + 1)) (u.1 19) (u.1 11) (nI n) (u.1 20) x_13 (upd y w5.length (nI (1048576 * s))) (u.2.1 23) (u.2.1 24) (u.2.1 25) (u.2.1 26) (u.2.1 27) (u.2.1 28) (u.2.1 29) (u.2.1 30) (u.2.1 31)) n ws0.length (p + 1) o1 (fu - 1) c5 (UN * s :: w5) RR (lwI_sg hI4 ⟨hs9.1, hs9.2.1⟩ hpn1) (rfl) (hn2) (hR.trans ((mR_sg (by omega) hli).trans (by rw [hal, hc5, hw5]; rfl))) (by omega) hD) hP rfl q1450 q1452 qs55 q116 q1453 mdX6_readsFactor (room_ok hRm rfl) rfl rfl dX6_readsSum_75 (fun r75 w75 H locs hpo hP _ _ hS => ?_)
              obtain ⟨ok_14, pl_15, fa_16, nu_17, op_18, cm_19, wa_20, x_21, y_22, f75_0, er75, ew75⟩ := hpo
              rw [ew75] at hP
              refine W_top (y := (bI ok_14)) er75 ?_
              rw [lE_again] at hP
              simp only [lE_f11, lE_f19, lE_f20, lE_g23, lE_g24, lE_g25, lE_g26, lE_g27, lE_g28, lE_g29, lE_g30, lE_g31] at hP
              refine lv_if_ne (tgt := 163) hx hb dX6_readsSum_78 (by decide) (fun c78 => ?_) (fun c78 => ?_)
              · have c78 : ok_14 = true := bI_1.mp c78
                obtain ⟨p2, o2, cs2, ws2, fu2, hR2, hfu2, hpb2, hI2⟩ := fcP_t f75_0 c78
                refine lv_goto (tgt := 14) hx hb dX6_readsSum_163 (by decide) ?_
                exact ih14 p2 o2 fu2 cs2 ws2 pl_15 fa_16 nu_17 op_18 cm_19 wa_20 x_21 y_22 _ _ ls (by omega) (hI2) (hR2) (hfu2) hP hS (lv_sub hl [1, 2] rfl)
              · have c78 : ok_14 = false := bI_0.mp c78
                obtain ⟨e0, hR2, hfa⟩ := fcP_f f75_0 c78
                refine lv_iconst (v := 0) hx hb dX6_readsSum_81 (by decide) ?_
                exact hq _ _ _ _ _ _ dX6_readsSum_82 hP hS (by first | rfl | exact bI_nar _) (by exact ⟨false, _, _, _, _, _, _, _, _, smP_bad hR2 hfa, rfl, rfl⟩)
            · have c30 : ¬ (4 ≤ s) := mt (nI_leI (a := 4) (b := s) (by omega) (by omega)).mpr c30
              have hal : decide (s < 4) = true := decide_eq_true (by omega)
              refine lv_iconst (v := 1) hx hb dX6_readsSum_33 (by decide) ?_
              refine lv_goto (tgt := 38) hx hb dX6_readsSum_34 (by decide) ?_
              refine CMv.call hC hK hS (fun q h => h) hl (c_X6_closesSums G l o R (lE u (nI p) fa nu (nI o1) (nI cs.length) (nI ws.length) (u.1 19) (u.1 11) (nI n) (u.1 20) x y (u.2.1 23) (u.2.1 24) (u.2.1 25) (u.2.1 26) (u.2.1 27) (u.2.1 28) (u.2.1 29) (u.2.1 30) (u.2.1 31)) true cs ws (rfl) (by omega) (by omega) (rfl) (hst) (hcs) hD) hP rfl q1477 q1479 qs60 q116 q1480 mdX6_closesSums (room_ok hRm rfl) rfl rfl dX6_readsSum_38 (fun w38 H locs hpo hP _ _ hS => ?_)
              obtain ⟨x_23, f38_0, ew38⟩ := hpo
              rw [ew38] at hP
              rw [lE_again] at hP
              simp only [lE_f11, lE_f12, lE_f13, lE_f14, lE_f15, lE_f16, lE_f19, lE_f20, lE_g22, lE_g23, lE_g24, lE_g25, lE_g26, lE_g27, lE_g28, lE_g29, lE_g30, lE_g31] at hP
              have hI4 := lwI_cl (al := true) (n := n) (base := ws0.length) (x' := x_23) f38_0 hst hl1 hl2 hpn hct ho6 hG
              obtain ⟨c5, hc5⟩ : ∃ c5, (clS true cs ws).1 = c5 := ⟨_, rfl⟩
              obtain ⟨w5, hw5⟩ : ∃ w5, (clS true cs ws).2 = w5 := ⟨_, rfl⟩
              rw [hc5, hw5] at hP hI4
              have hl5 := hI4.2.2.1.2.1
              refine lv_aload_n hx hb dX6_readsSum_41 rfl (lv_at hl 1 rfl) ?_
              refine M_get hC hK hP 22 (by decide) (fM22 _ _) q1223 dX6_readsSum_42 ?_
              refine lv_aload_n hx hb dX6_readsSum_45 rfl (lv_at hl 1 rfl) ?_
              refine M_get hC hK hP 18 (by decide) (fM18 _ _) q1219 dX6_readsSum_46 ?_
              refine W_top (y := (nI w5.length)) (by rw [lE_f18]) ?_
              refine lv_ldc (own := RX6) (v := 1048576) hx hb ho (hts _ q1458) dX6_readsSum_49 ?_
              refine lv_iload_n hx hb dX6_readsSum_51 rfl (lv_at hl 0 rfl) ?_
              refine lv_imul hx hb dX6_readsSum_52 ?_
              refine W_top (pk_mul 1048576 s) ?_
              refine M_ast hC hK hD hP hS 22 11 260 w5.length (aM22 _ _ _ _) (bM22 _ _ _ _ _ _) (by decide) (rfl) (by omega) dX6_readsSum_53 (fun H locs hP hS => ?_)
              rw [lE_A22] at hP
              refine lv_aload_n hx hb dX6_readsSum_54 rfl (lv_at hl 1 rfl) ?_
              refine lv_aload_n hx hb dX6_readsSum_55 rfl (lv_at hl 1 rfl) ?_
              refine M_get hC hK hP 18 (by decide) (fM18 _ _) q1219 dX6_readsSum_56 ?_
              refine W_top (y := (nI w5.length)) (by rw [lE_f18]) ?_
              refine lv_iconst (v := 1) hx hb dX6_readsSum_59 (by decide) ?_
              refine lv_iadd hx hb dX6_readsSum_60 ?_
              refine W_top (nI_add w5.length 1) ?_
              refine M_put hC hK hD hP hS 18 (by decide) (sM18 _ _ _) q1219 rfl dX6_readsSum_61 (fun H locs hP hS => ?_)
              rw [lE_V18] at hP
              refine lv_aload_n hx hb dX6_readsSum_64 rfl (lv_at hl 1 rfl) ?_
              refine lv_aload_n hx hb dX6_readsSum_65 rfl (lv_at hl 1 rfl) ?_
              refine M_get hC hK hP 12 (by decide) (fM12 _ _) q1213 dX6_readsSum_66 ?_
              refine W_top (y := (nI p)) (by rw [lE_f12]) ?_
              refine lv_iconst (v := 1) hx hb dX6_readsSum_69 (by decide) ?_
              refine lv_iadd hx hb dX6_readsSum_70 ?_
              refine W_top (nI_add p 1) ?_
              refine M_put hC hK hD hP hS 12 (by decide) (sM12 _ _ _) q1213 rfl dX6_readsSum_71 (fun H locs hP hS => ?_)
              rw [lE_V12] at hP
              refine lv_aload_n hx hb dX6_readsSum_74 rfl (lv_at hl 1 rfl) ?_
              refine CMi.call hC hK hS (fun q h => h) hl (c_X6_readsFactor G l o R (lE u (nI (p + 1)) fa nu (nI o1) (nI c5.length) (nI (w5.length + 1)) (u.1 19) (u.1 11) (nI n) (u.1 20) x_23 (upd y w5.length (nI (1048576 * s))) (u.2.1 23) (u.2.1 24) (u.2.1 25) (u.2.1 26) (u.2.1 27) (u.2.1 28) (u.2.1 29) (u.2.1 30) (u.2.1 31)) n ws0.length (p + 1) o1 (fu - 1) c5 (UN * s :: w5) RR (lwI_sg hI4 ⟨hs9.1, hs9.2.1⟩ hpn1) (rfl) (hn2) (hR.trans ((mR_sg (by omega) hli).trans (by rw [hal, hc5, hw5]; rfl))) (by omega) hD) hP rfl q1450 q1452 qs55 q116 q1453 mdX6_readsFactor (room_ok hRm rfl) rfl rfl dX6_readsSum_75 (fun r75 w75 H locs hpo hP _ _ hS => ?_)
              obtain ⟨ok_24, pl_25, fa_26, nu_27, op_28, cm_29, wa_30, x_31, y_32, f75_0, er75, ew75⟩ := hpo
              rw [ew75] at hP
              refine W_top (y := (bI ok_24)) er75 ?_
              rw [lE_again] at hP
              simp only [lE_f11, lE_f19, lE_f20, lE_g23, lE_g24, lE_g25, lE_g26, lE_g27, lE_g28, lE_g29, lE_g30, lE_g31] at hP
              refine lv_if_ne (tgt := 163) hx hb dX6_readsSum_78 (by decide) (fun c78 => ?_) (fun c78 => ?_)
              · have c78 : ok_24 = true := bI_1.mp c78
                obtain ⟨p2, o2, cs2, ws2, fu2, hR2, hfu2, hpb2, hI2⟩ := fcP_t f75_0 c78
                refine lv_goto (tgt := 14) hx hb dX6_readsSum_163 (by decide) ?_
                exact ih14 p2 o2 fu2 cs2 ws2 pl_25 fa_26 nu_27 op_28 cm_29 wa_30 x_31 y_32 _ _ ls (by omega) (hI2) (hR2) (hfu2) hP hS (lv_sub hl [1, 2] rfl)
              · have c78 : ok_24 = false := bI_0.mp c78
                obtain ⟨e0, hR2, hfa⟩ := fcP_f f75_0 c78
                refine lv_iconst (v := 0) hx hb dX6_readsSum_81 (by decide) ?_
                exact hq _ _ _ _ _ _ dX6_readsSum_82 hP hS (by first | rfl | exact bI_nar _) (by exact ⟨false, _, _, _, _, _, _, _, _, smP_bad hR2 hfa, rfl, rfl⟩)
    exact LP14 _ p2 o2 fu2 cs2 ws2 pl_2 fa_3 nu_4 op_5 cm_6 wa_7 x_8 y_9 _ _ ls (Nat.lt_succ_self _) (hI2) (hR2) (hfu2) hP hS (lv_sub hl [1, 0] rfl)
  · have c9 : ok_1 = false := bI_0.mp c9
    obtain ⟨e0, hR2, hfa⟩ := fcP_f f6_0 c9
    refine lv_iconst (v := 0) hx hb dX6_readsSum_12 (by decide) ?_
    exact hq _ _ _ _ _ _ dX6_readsSum_13 hP hS (by first | rfl | exact bI_nar _) (by exact ⟨false, _, _, _, _, _, _, _, _, smP_bad hR2 hfa, rfl, rfl⟩)
