set_option maxRecDepth 100000
set_option maxHeartbeats 4000000 in
theorem c_X6_closesSums (G : GG) (l : Launch) (o : Nat) (R : Nat → Nat) (u : MS) (al : Bool) (cs0 : List Nat) (ws0 : List Nat) (hcm : (u.1 17) = nI cs0.length) (hle : cs0.length + cntS ws0 ≤ 240) (hlw : ws0.length ≤ 240) (hwa : (u.1 18) = nI ws0.length) (hst : stA ws0 (u.2.1 22)) (hcs : csA cs0 (u.2.1 21)) (hD : DM o R) : CMv G l o R yX6_closesSums cX6_closesSums 2 3 38 [.int (bI al)] u (fun w => ∃ x : Nat → Int32, (csA (clS al cs0 ws0).1 x) ∧ w = (lE u (u.1 12) (u.1 14) (u.1 15) (u.1 16) (nI (clS al cs0 ws0).1.length) (nI (clS al cs0 ws0).2.length) (u.1 19) (u.1 11) (u.1 13) (u.1 20) x (u.2.1 22) (u.2.1 23) (u.2.1 24) (u.2.1 25) (u.2.1 26) (u.2.1 27) (u.2.1 28) (u.2.1 29) (u.2.1 30) (u.2.1 31))) := by
  refine CMv.mk pnX6 rfl (Nat.le_of_ble_eq_true rfl) (fun pg en Rm sg mm ar bw mth cd QQ ls hC hRm hK hP hS hl hq => ?_)
  have hx := hC.1; have hb := hC.2.1; have ho := hC.2.2.2.1; have hts := hC.2.2.2.2
  have hl : lv_has ls 2 [(0, .ref o), (1, .int (bI al))] := hl
  have hP : PM G o R (lE u (u.1 12) (u.1 14) (u.1 15) (u.1 16) (u.1 17) (u.1 18) (u.1 19) (u.1 11) (u.1 13) (u.1 20) (u.2.1 21) (u.2.1 22) (u.2.1 23) (u.2.1 24) (u.2.1 25) (u.2.1 26) (u.2.1 27) (u.2.1 28) (u.2.1 29) (u.2.1 30) (u.2.1 31)) sg.heap := by rw [lE_self]; exact hP
  have LP0 : ∀ (fu0 : Nat) (cs : List Nat) (ws : List Nat) (x : Nat → Int32) (cm : Int32) (wa : Int32) (H : Heap) (locs : List Loc) (ls : Array Slot), ws.length < fu0 → cm = nI cs.length → wa = nI ws.length → cs.length + cntS ws ≤ 240 → stA ws (u.2.1 22) → csA cs x → ws.length ≤ 240 → clS al cs ws = clS al cs0 ws0 → PM G o R (lE u (u.1 12) (u.1 14) (u.1 15) (u.1 16) cm wa (u.1 19) (u.1 11) (u.1 13) (u.1 20) x (u.2.1 22) (u.2.1 23) (u.2.1 24) (u.2.1 25) (u.2.1 26) (u.2.1 27) (u.2.1 28) (u.2.1 29) (u.2.1 30) (u.2.1 31)) H → va_S (AM o R) sg.heap H locs → lv_has ls 2 [(0, .ref o), (1, .int (bI al))] → W pg l en Rm sg mm ar bw mth cd H locs 0 0 QQ (F0 mm 0 ls []) := by
    intro fu0
    induction fu0 with
    | zero => intro cs ws x cm wa H locs ls hm0 hcm hwa hle hst hcs hlw hI hP hS hl; exact absurd hm0 (Nat.not_lt_zero _)
    | succ fu0 ih0 =>
      intro cs ws x cm wa H locs ls hm0 hcm hwa hle hst hcs hlw hI hP hS hl
      subst hcm hwa
      rcases ws with _ | ⟨x0, w1⟩
      · have hl : lv_has ls 2 [(0, .ref o), (1, .int (bI al))] := hl
        refine lv_aload_n hx hb dX6_closesSums_0 rfl (lv_at hl 0 rfl) ?_
        refine CI.callV hC hK hl (c_X6_waitTop G l o R (lE u (u.1 12) (u.1 14) (u.1 15) (u.1 16) (nI cs.length) (nI ([] : List Nat).length) (u.1 19) (u.1 11) (u.1 13) (u.1 20) x (u.2.1 22) (u.2.1 23) (u.2.1 24) (u.2.1 25) (u.2.1 26) (u.2.1 27) (u.2.1 28) (u.2.1 29) (u.2.1 30) (u.2.1 31)) ([] : List Nat) (rfl) (hlw) (hst)) hP (hP.recv hK) q1481 q1483 qs61 q116 q1484 mdX6_waitTop (room_ok hRm rfl) rfl rfl dX6_closesSums_1 ?_
        refine W_top (y := (-1)) (rfl) ?_
        refine lv_iconst (v := 4) hx hb dX6_closesSums_4 (by decide) ?_
        refine lv_icmp_lt (tgt := 17) hx hb dX6_closesSums_5 (by decide) (fun c5 => ?_) (fun c5 => ?_)
        · refine lv_iload_n hx hb dX6_closesSums_17 rfl (lv_at hl 1 rfl) ?_
          refine lv_if_eq (tgt := 59) hx hb dX6_closesSums_18 (by decide) (fun c18 => ?_) (fun c18 => ?_)
          · have c18 : al = false := bI_0.mp c18
            exact hq _ _ _ _ _ dX6_closesSums_59 hP hS (by have hh : clS al cs ([] : List Nat) = (cs, ([] : List Nat)) := rfl; exact ⟨x, by rw [← hI, hh]; exact hcs, by rw [← hI, hh]⟩)
          · have c18 : al = true := bI_1.mp c18
            refine lv_aload_n hx hb dX6_closesSums_21 rfl (lv_at hl 0 rfl) ?_
            refine CI.callV hC hK hl (c_X6_waitTop G l o R (lE u (u.1 12) (u.1 14) (u.1 15) (u.1 16) (nI cs.length) (nI ([] : List Nat).length) (u.1 19) (u.1 11) (u.1 13) (u.1 20) x (u.2.1 22) (u.2.1 23) (u.2.1 24) (u.2.1 25) (u.2.1 26) (u.2.1 27) (u.2.1 28) (u.2.1 29) (u.2.1 30) (u.2.1 31)) ([] : List Nat) (rfl) (hlw) (hst)) hP (hP.recv hK) q1481 q1483 qs61 q116 q1484 mdX6_waitTop (room_ok hRm rfl) rfl rfl dX6_closesSums_22 ?_
            refine W_top (y := (-1)) (rfl) ?_
            refine lv_iconst (v := 2) hx hb dX6_closesSums_25 (by decide) ?_
            refine lv_icmp_eq (tgt := 37) hx hb dX6_closesSums_26 (by decide) (fun c26 => ?_) (fun c26 => ?_)
            · exact absurd c26 (by decide)
            · refine lv_aload_n hx hb dX6_closesSums_29 rfl (lv_at hl 0 rfl) ?_
              refine CI.callV hC hK hl (c_X6_waitTop G l o R (lE u (u.1 12) (u.1 14) (u.1 15) (u.1 16) (nI cs.length) (nI ([] : List Nat).length) (u.1 19) (u.1 11) (u.1 13) (u.1 20) x (u.2.1 22) (u.2.1 23) (u.2.1 24) (u.2.1 25) (u.2.1 26) (u.2.1 27) (u.2.1 28) (u.2.1 29) (u.2.1 30) (u.2.1 31)) ([] : List Nat) (rfl) (hlw) (hst)) hP (hP.recv hK) q1481 q1483 qs61 q116 q1484 mdX6_waitTop (room_ok hRm rfl) rfl rfl dX6_closesSums_30 ?_
              refine W_top (y := (-1)) (rfl) ?_
              refine lv_iconst (v := 3) hx hb dX6_closesSums_33 (by decide) ?_
              refine lv_icmp_ne (tgt := 59) hx hb dX6_closesSums_34 (by decide) (fun c34 => ?_) (fun c34 => ?_)
              · exact hq _ _ _ _ _ dX6_closesSums_59 hP hS (by have hh : clS al cs ([] : List Nat) = (cs, ([] : List Nat)) := rfl; exact ⟨x, by rw [← hI, hh]; exact hcs, by rw [← hI, hh]⟩)
              · exact absurd c34 (by decide)
        · exact absurd c5 (by decide)
      · have hx0 := hst.1.2
        have hlc : (x0 :: w1).length = w1.length + 1 := rfl
        have hl : lv_has ls 2 [(0, .ref o), (1, .int (bI al))] := hl
        refine lv_aload_n hx hb dX6_closesSums_0 rfl (lv_at hl 0 rfl) ?_
        refine CI.callV hC hK hl (c_X6_waitTop G l o R (lE u (u.1 12) (u.1 14) (u.1 15) (u.1 16) (nI cs.length) (nI (x0 :: w1).length) (u.1 19) (u.1 11) (u.1 13) (u.1 20) x (u.2.1 22) (u.2.1 23) (u.2.1 24) (u.2.1 25) (u.2.1 26) (u.2.1 27) (u.2.1 28) (u.2.1 29) (u.2.1 30) (u.2.1 31)) (x0 :: w1) (rfl) (hlw) (hst)) hP (hP.recv hK) q1481 q1483 qs61 q116 q1484 mdX6_waitTop (room_ok hRm rfl) rfl rfl dX6_closesSums_1 ?_
        refine W_top (y := (nI (x0 / 1048576))) (rfl) ?_
        refine lv_iconst (v := 4) hx hb dX6_closesSums_4 (by decide) ?_
        refine lv_icmp_lt (tgt := 17) hx hb dX6_closesSums_5 (by decide) (fun c5 => ?_) (fun c5 => ?_)
        · have c5 : (x0 / 1048576) < 4 := (nI_ltI (a := (x0 / 1048576)) (b := 4) (by first | omega | (have := hst.1.2; omega)) (by first | omega | (have := hst.1.2; omega))).mp c5
          refine lv_iload_n hx hb dX6_closesSums_17 rfl (lv_at hl 1 rfl) ?_
          refine lv_if_eq (tgt := 59) hx hb dX6_closesSums_18 (by decide) (fun c18 => ?_) (fun c18 => ?_)
          · have c18 : al = false := bI_0.mp c18
            exact hq _ _ _ _ _ dX6_closesSums_59 hP hS (by have hh : clS al cs (x0 :: w1) = (cs, (x0 :: w1)) := clS_f (clsB_f (by omega) (by first | (left; exact c18) | (right; omega))); exact ⟨x, by rw [← hI, hh]; exact hcs, by rw [← hI, hh]⟩)
          · have c18 : al = true := bI_1.mp c18
            refine lv_aload_n hx hb dX6_closesSums_21 rfl (lv_at hl 0 rfl) ?_
            refine CI.callV hC hK hl (c_X6_waitTop G l o R (lE u (u.1 12) (u.1 14) (u.1 15) (u.1 16) (nI cs.length) (nI (x0 :: w1).length) (u.1 19) (u.1 11) (u.1 13) (u.1 20) x (u.2.1 22) (u.2.1 23) (u.2.1 24) (u.2.1 25) (u.2.1 26) (u.2.1 27) (u.2.1 28) (u.2.1 29) (u.2.1 30) (u.2.1 31)) (x0 :: w1) (rfl) (hlw) (hst)) hP (hP.recv hK) q1481 q1483 qs61 q116 q1484 mdX6_waitTop (room_ok hRm rfl) rfl rfl dX6_closesSums_22 ?_
            refine W_top (y := (nI (x0 / 1048576))) (rfl) ?_
            refine lv_iconst (v := 2) hx hb dX6_closesSums_25 (by decide) ?_
            refine lv_icmp_eq (tgt := 37) hx hb dX6_closesSums_26 (by decide) (fun c26 => ?_) (fun c26 => ?_)
            · have c26 : (x0 / 1048576) = 2 := (nI_eq (a := (x0 / 1048576)) (b := 2) (by first | omega | (have := hst.1.2; omega)) (by first | omega | (have := hst.1.2; omega))).mp c26
              refine lv_aload_n hx hb dX6_closesSums_37 rfl (lv_at hl 0 rfl) ?_
              refine lv_aload_n hx hb dX6_closesSums_38 rfl (lv_at hl 0 rfl) ?_
              refine CI.callV hC hK hl (c_X6_waitTop G l o R (lE u (u.1 12) (u.1 14) (u.1 15) (u.1 16) (nI cs.length) (nI (x0 :: w1).length) (u.1 19) (u.1 11) (u.1 13) (u.1 20) x (u.2.1 22) (u.2.1 23) (u.2.1 24) (u.2.1 25) (u.2.1 26) (u.2.1 27) (u.2.1 28) (u.2.1 29) (u.2.1 30) (u.2.1 31)) (x0 :: w1) (rfl) (hlw) (hst)) hP (hP.recv hK) q1481 q1483 qs61 q116 q1484 mdX6_waitTop (room_ok hRm rfl) rfl rfl dX6_closesSums_39 ?_
              refine W_top (y := (nI (x0 / 1048576))) (rfl) ?_
              refine lv_iconst (v := 0) hx hb dX6_closesSums_42 (by decide) ?_
              refine CMv.call hC hK hS (fun q h => h) hl (c_X6_notes G l o R (lE u (u.1 12) (u.1 14) (u.1 15) (u.1 16) (nI cs.length) (nI (x0 :: w1).length) (u.1 19) (u.1 11) (u.1 13) (u.1 20) x (u.2.1 22) (u.2.1 23) (u.2.1 24) (u.2.1 25) (u.2.1 26) (u.2.1 27) (u.2.1 28) (u.2.1 29) (u.2.1 30) (u.2.1 31)) (x0 / 1048576) 0 cs.length (rfl) (by omega) (by omega) (by decide) hD) hP rfl q1467 q1469 qs59 q116 q1470 mdX6_notes (room_ok hRm rfl) rfl rfl dX6_closesSums_43 (fun w43 H locs hpo hP _ _ hS => ?_)
              have ew43 := hpo
              rw [ew43] at hP
              rw [lE_again] at hP
              simp only [lE_f11, lE_f12, lE_f13, lE_f14, lE_f15, lE_f16, lE_f18, lE_f19, lE_f20, lE_g21, lE_g22, lE_g23, lE_g24, lE_g25, lE_g26, lE_g27, lE_g28, lE_g29, lE_g30, lE_g31] at hP
              refine lv_aload_n hx hb dX6_closesSums_46 rfl (lv_at hl 0 rfl) ?_
              refine lv_aload_n hx hb dX6_closesSums_47 rfl (lv_at hl 0 rfl) ?_
              refine M_get hC hK hP 18 (by decide) (fM18 _ _) q1219 dX6_closesSums_48 ?_
              refine W_top (y := (nI (x0 :: w1).length)) (by rw [lE_f18]) ?_
              refine lv_iconst (v := 1) hx hb dX6_closesSums_51 (by decide) ?_
              refine lv_isub hx hb dX6_closesSums_52 ?_
              refine W_top (y := (nI w1.length)) (pk_sub (a := w1.length + 1) (b := 1) (by omega)) ?_
              refine M_put hC hK hD hP hS 18 (by decide) (sM18 _ _ _) q1219 rfl dX6_closesSums_53 (fun H locs hP hS => ?_)
              rw [lE_V18] at hP
              refine lv_goto (tgt := 0) hx hb dX6_closesSums_56 (by decide) ?_
              exact ih0 (cs ++ [1048576 * (x0 / 1048576)]) w1 (upd x cs.length (nI (1048576 * (x0 / 1048576) + 0))) (nI (cs.length + 1)) (nI w1.length) _ _ ls (by omega) (by rw [List.length_append, List.length_singleton]) (rfl) (by rw [cntS_sg (by omega)] at hle; rw [List.length_append, List.length_singleton]; omega) (hst.2) (csA_push (v := 1048576 * (x0 / 1048576)) hcs) (by omega) ((clS_t (al := al) (clsB_t (by first | (left; omega) | (right; refine ⟨c18, ?_⟩; omega)))).symm.trans hI) hP hS (lv_sub hl [0, 1] rfl)
            · have c26 : ¬ ((x0 / 1048576) = 2) := mt (nI_eq (a := (x0 / 1048576)) (b := 2) (by first | omega | (have := hst.1.2; omega)) (by first | omega | (have := hst.1.2; omega))).mpr c26
              refine lv_aload_n hx hb dX6_closesSums_29 rfl (lv_at hl 0 rfl) ?_
              refine CI.callV hC hK hl (c_X6_waitTop G l o R (lE u (u.1 12) (u.1 14) (u.1 15) (u.1 16) (nI cs.length) (nI (x0 :: w1).length) (u.1 19) (u.1 11) (u.1 13) (u.1 20) x (u.2.1 22) (u.2.1 23) (u.2.1 24) (u.2.1 25) (u.2.1 26) (u.2.1 27) (u.2.1 28) (u.2.1 29) (u.2.1 30) (u.2.1 31)) (x0 :: w1) (rfl) (hlw) (hst)) hP (hP.recv hK) q1481 q1483 qs61 q116 q1484 mdX6_waitTop (room_ok hRm rfl) rfl rfl dX6_closesSums_30 ?_
              refine W_top (y := (nI (x0 / 1048576))) (rfl) ?_
              refine lv_iconst (v := 3) hx hb dX6_closesSums_33 (by decide) ?_
              refine lv_icmp_ne (tgt := 59) hx hb dX6_closesSums_34 (by decide) (fun c34 => ?_) (fun c34 => ?_)
              · have c34 : ¬ ((x0 / 1048576) = 3) := mt (nI_eq (a := (x0 / 1048576)) (b := 3) (by first | omega | (have := hst.1.2; omega)) (by first | omega | (have := hst.1.2; omega))).mpr c34
                exact hq _ _ _ _ _ dX6_closesSums_59 hP hS (by have hh : clS al cs (x0 :: w1) = (cs, (x0 :: w1)) := clS_f (clsB_f (by omega) (by first | (left; exact c18) | (right; omega))); exact ⟨x, by rw [← hI, hh]; exact hcs, by rw [← hI, hh]⟩)
              · have c34 : (x0 / 1048576) = 3 := (nI_eq (a := (x0 / 1048576)) (b := 3) (by first | omega | (have := hst.1.2; omega)) (by first | omega | (have := hst.1.2; omega))).mp c34
                refine lv_aload_n hx hb dX6_closesSums_37 rfl (lv_at hl 0 rfl) ?_
                refine lv_aload_n hx hb dX6_closesSums_38 rfl (lv_at hl 0 rfl) ?_
                refine CI.callV hC hK hl (c_X6_waitTop G l o R (lE u (u.1 12) (u.1 14) (u.1 15) (u.1 16) (nI cs.length) (nI (x0 :: w1).length) (u.1 19) (u.1 11) (u.1 13) (u.1 20) x (u.2.1 22) (u.2.1 23) (u.2.1 24) (u.2.1 25) (u.2.1 26) (u.2.1 27) (u.2.1 28) (u.2.1 29) (u.2.1 30) (u.2.1 31)) (x0 :: w1) (rfl) (hlw) (hst)) hP (hP.recv hK) q1481 q1483 qs61 q116 q1484 mdX6_waitTop (room_ok hRm rfl) rfl rfl dX6_closesSums_39 ?_
                refine W_top (y := (nI (x0 / 1048576))) (rfl) ?_
                refine lv_iconst (v := 0) hx hb dX6_closesSums_42 (by decide) ?_
                refine CMv.call hC hK hS (fun q h => h) hl (c_X6_notes G l o R (lE u (u.1 12) (u.1 14) (u.1 15) (u.1 16) (nI cs.length) (nI (x0 :: w1).length) (u.1 19) (u.1 11) (u.1 13) (u.1 20) x (u.2.1 22) (u.2.1 23) (u.2.1 24) (u.2.1 25) (u.2.1 26) (u.2.1 27) (u.2.1 28) (u.2.1 29) (u.2.1 30) (u.2.1 31)) (x0 / 1048576) 0 cs.length (rfl) (by omega) (by omega) (by decide) hD) hP rfl q1467 q1469 qs59 q116 q1470 mdX6_notes (room_ok hRm rfl) rfl rfl dX6_closesSums_43 (fun w43 H locs hpo hP _ _ hS => ?_)
                have ew43 := hpo
                rw [ew43] at hP
                rw [lE_again] at hP
                simp only [lE_f11, lE_f12, lE_f13, lE_f14, lE_f15, lE_f16, lE_f18, lE_f19, lE_f20, lE_g21, lE_g22, lE_g23, lE_g24, lE_g25, lE_g26, lE_g27, lE_g28, lE_g29, lE_g30, lE_g31] at hP
                refine lv_aload_n hx hb dX6_closesSums_46 rfl (lv_at hl 0 rfl) ?_
                refine lv_aload_n hx hb dX6_closesSums_47 rfl (lv_at hl 0 rfl) ?_
                refine M_get hC hK hP 18 (by decide) (fM18 _ _) q1219 dX6_closesSums_48 ?_
                refine W_top (y := (nI (x0 :: w1).length)) (by rw [lE_f18]) ?_
                refine lv_iconst (v := 1) hx hb dX6_closesSums_51 (by decide) ?_
                refine lv_isub hx hb dX6_closesSums_52 ?_
                refine W_top (y := (nI w1.length)) (pk_sub (a := w1.length + 1) (b := 1) (by omega)) ?_
                refine M_put hC hK hD hP hS 18 (by decide) (sM18 _ _ _) q1219 rfl dX6_closesSums_53 (fun H locs hP hS => ?_)
                rw [lE_V18] at hP
                refine lv_goto (tgt := 0) hx hb dX6_closesSums_56 (by decide) ?_
                exact ih0 (cs ++ [1048576 * (x0 / 1048576)]) w1 (upd x cs.length (nI (1048576 * (x0 / 1048576) + 0))) (nI (cs.length + 1)) (nI w1.length) _ _ ls (by omega) (by rw [List.length_append, List.length_singleton]) (rfl) (by rw [cntS_sg (by omega)] at hle; rw [List.length_append, List.length_singleton]; omega) (hst.2) (csA_push (v := 1048576 * (x0 / 1048576)) hcs) (by omega) ((clS_t (al := al) (clsB_t (by first | (left; omega) | (right; refine ⟨c18, ?_⟩; omega)))).symm.trans hI) hP hS (lv_sub hl [0, 1] rfl)
        · have c5 : ¬ ((x0 / 1048576) < 4) := mt (nI_ltI (a := (x0 / 1048576)) (b := 4) (by first | omega | (have := hst.1.2; omega)) (by first | omega | (have := hst.1.2; omega))).mpr c5
          refine lv_aload_n hx hb dX6_closesSums_8 rfl (lv_at hl 0 rfl) ?_
          refine CI.callV hC hK hl (c_X6_waitTop G l o R (lE u (u.1 12) (u.1 14) (u.1 15) (u.1 16) (nI cs.length) (nI (x0 :: w1).length) (u.1 19) (u.1 11) (u.1 13) (u.1 20) x (u.2.1 22) (u.2.1 23) (u.2.1 24) (u.2.1 25) (u.2.1 26) (u.2.1 27) (u.2.1 28) (u.2.1 29) (u.2.1 30) (u.2.1 31)) (x0 :: w1) (rfl) (hlw) (hst)) hP (hP.recv hK) q1481 q1483 qs61 q116 q1484 mdX6_waitTop (room_ok hRm rfl) rfl rfl dX6_closesSums_9 ?_
          refine W_top (y := (nI (x0 / 1048576))) (rfl) ?_
          refine lv_bipush (v := 6) hx hb dX6_closesSums_12 (by decide) ?_
          refine lv_icmp_le (tgt := 37) hx hb dX6_closesSums_14 (by decide) (fun c14 => ?_) (fun c14 => ?_)
          · have c14 : (x0 / 1048576) ≤ 6 := (nI_leI (a := (x0 / 1048576)) (b := 6) (by first | omega | (have := hst.1.2; omega)) (by first | omega | (have := hst.1.2; omega))).mp c14
            refine lv_aload_n hx hb dX6_closesSums_37 rfl (lv_at hl 0 rfl) ?_
            refine lv_aload_n hx hb dX6_closesSums_38 rfl (lv_at hl 0 rfl) ?_
            refine CI.callV hC hK hl (c_X6_waitTop G l o R (lE u (u.1 12) (u.1 14) (u.1 15) (u.1 16) (nI cs.length) (nI (x0 :: w1).length) (u.1 19) (u.1 11) (u.1 13) (u.1 20) x (u.2.1 22) (u.2.1 23) (u.2.1 24) (u.2.1 25) (u.2.1 26) (u.2.1 27) (u.2.1 28) (u.2.1 29) (u.2.1 30) (u.2.1 31)) (x0 :: w1) (rfl) (hlw) (hst)) hP (hP.recv hK) q1481 q1483 qs61 q116 q1484 mdX6_waitTop (room_ok hRm rfl) rfl rfl dX6_closesSums_39 ?_
            refine W_top (y := (nI (x0 / 1048576))) (rfl) ?_
            refine lv_iconst (v := 0) hx hb dX6_closesSums_42 (by decide) ?_
            refine CMv.call hC hK hS (fun q h => h) hl (c_X6_notes G l o R (lE u (u.1 12) (u.1 14) (u.1 15) (u.1 16) (nI cs.length) (nI (x0 :: w1).length) (u.1 19) (u.1 11) (u.1 13) (u.1 20) x (u.2.1 22) (u.2.1 23) (u.2.1 24) (u.2.1 25) (u.2.1 26) (u.2.1 27) (u.2.1 28) (u.2.1 29) (u.2.1 30) (u.2.1 31)) (x0 / 1048576) 0 cs.length (rfl) (by omega) (by omega) (by decide) hD) hP rfl q1467 q1469 qs59 q116 q1470 mdX6_notes (room_ok hRm rfl) rfl rfl dX6_closesSums_43 (fun w43 H locs hpo hP _ _ hS => ?_)
            have ew43 := hpo
            rw [ew43] at hP
            rw [lE_again] at hP
            simp only [lE_f11, lE_f12, lE_f13, lE_f14, lE_f15, lE_f16, lE_f18, lE_f19, lE_f20, lE_g21, lE_g22, lE_g23, lE_g24, lE_g25, lE_g26, lE_g27, lE_g28, lE_g29, lE_g30, lE_g31] at hP
            refine lv_aload_n hx hb dX6_closesSums_46 rfl (lv_at hl 0 rfl) ?_
            refine lv_aload_n hx hb dX6_closesSums_47 rfl (lv_at hl 0 rfl) ?_
            refine M_get hC hK hP 18 (by decide) (fM18 _ _) q1219 dX6_closesSums_48 ?_
            refine W_top (y := (nI (x0 :: w1).length)) (by rw [lE_f18]) ?_
            refine lv_iconst (v := 1) hx hb dX6_closesSums_51 (by decide) ?_
            refine lv_isub hx hb dX6_closesSums_52 ?_
            refine W_top (y := (nI w1.length)) (pk_sub (a := w1.length + 1) (b := 1) (by omega)) ?_
            refine M_put hC hK hD hP hS 18 (by decide) (sM18 _ _ _) q1219 rfl dX6_closesSums_53 (fun H locs hP hS => ?_)
            rw [lE_V18] at hP
            refine lv_goto (tgt := 0) hx hb dX6_closesSums_56 (by decide) ?_
            exact ih0 (cs ++ [1048576 * (x0 / 1048576)]) w1 (upd x cs.length (nI (1048576 * (x0 / 1048576) + 0))) (nI (cs.length + 1)) (nI w1.length) _ _ ls (by omega) (by rw [List.length_append, List.length_singleton]) (rfl) (by rw [cntS_sg (by omega)] at hle; rw [List.length_append, List.length_singleton]; omega) (hst.2) (csA_push (v := 1048576 * (x0 / 1048576)) hcs) (by omega) ((clS_t (al := al) (clsB_t (by first | (left; omega) | (right; refine ⟨c18, ?_⟩; omega)))).symm.trans hI) hP hS (lv_sub hl [0, 1] rfl)
          · have c14 : ¬ ((x0 / 1048576) ≤ 6) := mt (nI_leI (a := (x0 / 1048576)) (b := 6) (by first | omega | (have := hst.1.2; omega)) (by first | omega | (have := hst.1.2; omega))).mpr c14
            refine lv_iload_n hx hb dX6_closesSums_17 rfl (lv_at hl 1 rfl) ?_
            refine lv_if_eq (tgt := 59) hx hb dX6_closesSums_18 (by decide) (fun c18 => ?_) (fun c18 => ?_)
            · have c18 : al = false := bI_0.mp c18
              exact hq _ _ _ _ _ dX6_closesSums_59 hP hS (by have hh : clS al cs (x0 :: w1) = (cs, (x0 :: w1)) := clS_f (clsB_f (by omega) (by first | (left; exact c18) | (right; omega))); exact ⟨x, by rw [← hI, hh]; exact hcs, by rw [← hI, hh]⟩)
            · have c18 : al = true := bI_1.mp c18
              refine lv_aload_n hx hb dX6_closesSums_21 rfl (lv_at hl 0 rfl) ?_
              refine CI.callV hC hK hl (c_X6_waitTop G l o R (lE u (u.1 12) (u.1 14) (u.1 15) (u.1 16) (nI cs.length) (nI (x0 :: w1).length) (u.1 19) (u.1 11) (u.1 13) (u.1 20) x (u.2.1 22) (u.2.1 23) (u.2.1 24) (u.2.1 25) (u.2.1 26) (u.2.1 27) (u.2.1 28) (u.2.1 29) (u.2.1 30) (u.2.1 31)) (x0 :: w1) (rfl) (hlw) (hst)) hP (hP.recv hK) q1481 q1483 qs61 q116 q1484 mdX6_waitTop (room_ok hRm rfl) rfl rfl dX6_closesSums_22 ?_
              refine W_top (y := (nI (x0 / 1048576))) (rfl) ?_
              refine lv_iconst (v := 2) hx hb dX6_closesSums_25 (by decide) ?_
              refine lv_icmp_eq (tgt := 37) hx hb dX6_closesSums_26 (by decide) (fun c26 => ?_) (fun c26 => ?_)
              · have c26 : (x0 / 1048576) = 2 := (nI_eq (a := (x0 / 1048576)) (b := 2) (by first | omega | (have := hst.1.2; omega)) (by first | omega | (have := hst.1.2; omega))).mp c26
                refine lv_aload_n hx hb dX6_closesSums_37 rfl (lv_at hl 0 rfl) ?_
                refine lv_aload_n hx hb dX6_closesSums_38 rfl (lv_at hl 0 rfl) ?_
                refine CI.callV hC hK hl (c_X6_waitTop G l o R (lE u (u.1 12) (u.1 14) (u.1 15) (u.1 16) (nI cs.length) (nI (x0 :: w1).length) (u.1 19) (u.1 11) (u.1 13) (u.1 20) x (u.2.1 22) (u.2.1 23) (u.2.1 24) (u.2.1 25) (u.2.1 26) (u.2.1 27) (u.2.1 28) (u.2.1 29) (u.2.1 30) (u.2.1 31)) (x0 :: w1) (rfl) (hlw) (hst)) hP (hP.recv hK) q1481 q1483 qs61 q116 q1484 mdX6_waitTop (room_ok hRm rfl) rfl rfl dX6_closesSums_39 ?_
                refine W_top (y := (nI (x0 / 1048576))) (rfl) ?_
                refine lv_iconst (v := 0) hx hb dX6_closesSums_42 (by decide) ?_
                refine CMv.call hC hK hS (fun q h => h) hl (c_X6_notes G l o R (lE u (u.1 12) (u.1 14) (u.1 15) (u.1 16) (nI cs.length) (nI (x0 :: w1).length) (u.1 19) (u.1 11) (u.1 13) (u.1 20) x (u.2.1 22) (u.2.1 23) (u.2.1 24) (u.2.1 25) (u.2.1 26) (u.2.1 27) (u.2.1 28) (u.2.1 29) (u.2.1 30) (u.2.1 31)) (x0 / 1048576) 0 cs.length (rfl) (by omega) (by omega) (by decide) hD) hP rfl q1467 q1469 qs59 q116 q1470 mdX6_notes (room_ok hRm rfl) rfl rfl dX6_closesSums_43 (fun w43 H locs hpo hP _ _ hS => ?_)
                have ew43 := hpo
                rw [ew43] at hP
                rw [lE_again] at hP
                simp only [lE_f11, lE_f12, lE_f13, lE_f14, lE_f15, lE_f16, lE_f18, lE_f19, lE_f20, lE_g21, lE_g22, lE_g23, lE_g24, lE_g25, lE_g26, lE_g27, lE_g28, lE_g29, lE_g30, lE_g31] at hP
                refine lv_aload_n hx hb dX6_closesSums_46 rfl (lv_at hl 0 rfl) ?_
                refine lv_aload_n hx hb dX6_closesSums_47 rfl (lv_at hl 0 rfl) ?_
                refine M_get hC hK hP 18 (by decide) (fM18 _ _) q1219 dX6_closesSums_48 ?_
                refine W_top (y := (nI (x0 :: w1).length)) (by rw [lE_f18]) ?_
                refine lv_iconst (v := 1) hx hb dX6_closesSums_51 (by decide) ?_
                refine lv_isub hx hb dX6_closesSums_52 ?_
                refine W_top (y := (nI w1.length)) (pk_sub (a := w1.length + 1) (b := 1) (by omega)) ?_
                refine M_put hC hK hD hP hS 18 (by decide) (sM18 _ _ _) q1219 rfl dX6_closesSums_53 (fun H locs hP hS => ?_)
                rw [lE_V18] at hP
                refine lv_goto (tgt := 0) hx hb dX6_closesSums_56 (by decide) ?_
                exact ih0 (cs ++ [1048576 * (x0 / 1048576)]) w1 (upd x cs.length (nI (1048576 * (x0 / 1048576) + 0))) (nI (cs.length + 1)) (nI w1.length) _ _ ls (by omega) (by rw [List.length_append, List.length_singleton]) (rfl) (by rw [cntS_sg (by omega)] at hle; rw [List.length_append, List.length_singleton]; omega) (hst.2) (csA_push (v := 1048576 * (x0 / 1048576)) hcs) (by omega) ((clS_t (al := al) (clsB_t (by first | (left; omega) | (right; refine ⟨c18, ?_⟩; omega)))).symm.trans hI) hP hS (lv_sub hl [0, 1] rfl)
              · have c26 : ¬ ((x0 / 1048576) = 2) := mt (nI_eq (a := (x0 / 1048576)) (b := 2) (by first | omega | (have := hst.1.2; omega)) (by first | omega | (have := hst.1.2; omega))).mpr c26
                refine lv_aload_n hx hb dX6_closesSums_29 rfl (lv_at hl 0 rfl) ?_
                refine CI.callV hC hK hl (c_X6_waitTop G l o R (lE u (u.1 12) (u.1 14) (u.1 15) (u.1 16) (nI cs.length) (nI (x0 :: w1).length) (u.1 19) (u.1 11) (u.1 13) (u.1 20) x (u.2.1 22) (u.2.1 23) (u.2.1 24) (u.2.1 25) (u.2.1 26) (u.2.1 27) (u.2.1 28) (u.2.1 29) (u.2.1 30) (u.2.1 31)) (x0 :: w1) (rfl) (hlw) (hst)) hP (hP.recv hK) q1481 q1483 qs61 q116 q1484 mdX6_waitTop (room_ok hRm rfl) rfl rfl dX6_closesSums_30 ?_
                refine W_top (y := (nI (x0 / 1048576))) (rfl) ?_
                refine lv_iconst (v := 3) hx hb dX6_closesSums_33 (by decide) ?_
                refine lv_icmp_ne (tgt := 59) hx hb dX6_closesSums_34 (by decide) (fun c34 => ?_) (fun c34 => ?_)
                · have c34 : ¬ ((x0 / 1048576) = 3) := mt (nI_eq (a := (x0 / 1048576)) (b := 3) (by first | omega | (have := hst.1.2; omega)) (by first | omega | (have := hst.1.2; omega))).mpr c34
                  exact hq _ _ _ _ _ dX6_closesSums_59 hP hS (by have hh : clS al cs (x0 :: w1) = (cs, (x0 :: w1)) := clS_f (clsB_f (by omega) (by first | (left; exact c18) | (right; omega))); exact ⟨x, by rw [← hI, hh]; exact hcs, by rw [← hI, hh]⟩)
                · have c34 : (x0 / 1048576) = 3 := (nI_eq (a := (x0 / 1048576)) (b := 3) (by first | omega | (have := hst.1.2; omega)) (by first | omega | (have := hst.1.2; omega))).mp c34
                  refine lv_aload_n hx hb dX6_closesSums_37 rfl (lv_at hl 0 rfl) ?_
                  refine lv_aload_n hx hb dX6_closesSums_38 rfl (lv_at hl 0 rfl) ?_
                  refine CI.callV hC hK hl (c_X6_waitTop G l o R (lE u (u.1 12) (u.1 14) (u.1 15) (u.1 16) (nI cs.length) (nI (x0 :: w1).length) (u.1 19) (u.1 11) (u.1 13) (u.1 20) x (u.2.1 22) (u.2.1 23) (u.2.1 24) (u.2.1 25) (u.2.1 26) (u.2.1 27) (u.2.1 28) (u.2.1 29) (u.2.1 30) (u.2.1 31)) (x0 :: w1) (rfl) (hlw) (hst)) hP (hP.recv hK) q1481 q1483 qs61 q116 q1484 mdX6_waitTop (room_ok hRm rfl) rfl rfl dX6_closesSums_39 ?_
                  refine W_top (y := (nI (x0 / 1048576))) (rfl) ?_
                  refine lv_iconst (v := 0) hx hb dX6_closesSums_42 (by decide) ?_
                  refine CMv.call hC hK hS (fun q h => h) hl (c_X6_notes G l o R (lE u (u.1 12) (u.1 14) (u.1 15) (u.1 16) (nI cs.length) (nI (x0 :: w1).length) (u.1 19) (u.1 11) (u.1 13) (u.1 20) x (u.2.1 22) (u.2.1 23) (u.2.1 24) (u.2.1 25) (u.2.1 26) (u.2.1 27) (u.2.1 28) (u.2.1 29) (u.2.1 30) (u.2.1 31)) (x0 / 1048576) 0 cs.length (rfl) (by omega) (by omega) (by decide) hD) hP rfl q1467 q1469 qs59 q116 q1470 mdX6_notes (room_ok hRm rfl) rfl rfl dX6_closesSums_43 (fun w43 H locs hpo hP _ _ hS => ?_)
                  have ew43 := hpo
                  rw [ew43] at hP
                  rw [lE_again] at hP
                  simp only [lE_f11, lE_f12, lE_f13, lE_f14, lE_f15, lE_f16, lE_f18, lE_f19, lE_f20, lE_g21, lE_g22, lE_g23, lE_g24, lE_g25, lE_g26, lE_g27, lE_g28, lE_g29, lE_g30, lE_g31] at hP
                  refine lv_aload_n hx hb dX6_closesSums_46 rfl (lv_at hl 0 rfl) ?_
                  refine lv_aload_n hx hb dX6_closesSums_47 rfl (lv_at hl 0 rfl) ?_
                  refine M_get hC hK hP 18 (by decide) (fM18 _ _) q1219 dX6_closesSums_48 ?_
                  refine W_top (y := (nI (x0 :: w1).length)) (by rw [lE_f18]) ?_
                  refine lv_iconst (v := 1) hx hb dX6_closesSums_51 (by decide) ?_
                  refine lv_isub hx hb dX6_closesSums_52 ?_
                  refine W_top (y := (nI w1.length)) (pk_sub (a := w1.length + 1) (b := 1) (by omega)) ?_
                  refine M_put hC hK hD hP hS 18 (by decide) (sM18 _ _ _) q1219 rfl dX6_closesSums_53 (fun H locs hP hS => ?_)
                  rw [lE_V18] at hP
                  refine lv_goto (tgt := 0) hx hb dX6_closesSums_56 (by decide) ?_
                  exact ih0 (cs ++ [1048576 * (x0 / 1048576)]) w1 (upd x cs.length (nI (1048576 * (x0 / 1048576) + 0))) (nI (cs.length + 1)) (nI w1.length) _ _ ls (by omega) (by rw [List.length_append, List.length_singleton]) (rfl) (by rw [cntS_sg (by omega)] at hle; rw [List.length_append, List.length_singleton]; omega) (hst.2) (csA_push (v := 1048576 * (x0 / 1048576)) hcs) (by omega) ((clS_t (al := al) (clsB_t (by first | (left; omega) | (right; refine ⟨c18, ?_⟩; omega)))).symm.trans hI) hP hS (lv_sub hl [0, 1] rfl)
  exact LP0 _ cs0 ws0 (u.2.1 21) (u.1 17) (u.1 18) _ _ ls (Nat.lt_succ_self _) (hcm) (hwa) (hle) (hst) (hcs) (hlw) (rfl) hP hS (lv_sub hl [0, 1] rfl)
