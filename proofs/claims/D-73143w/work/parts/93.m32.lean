set_option maxRecDepth 100000
set_option maxHeartbeats 4000000 in
theorem c_X6_endsPiece (G : GG) (l : Launch) (o : Nat) (R : Nat → Nat) (u : MS) (o0 : Nat) (cs0 : List Nat) (ws0 : List Nat) (hcm : (u.1 17) = nI cs0.length) (hle : cs0.length + cntS ws0 ≤ 240) (hlw : ws0.length ≤ 240) (hwa : (u.1 18) = nI ws0.length) (hst : stA ws0 (u.2.1 22)) (hcs : csA cs0 (u.2.1 21)) (hop : (u.1 16) = nI o0) (hoc : cntO ws0 ≤ o0) (ho6 : o0 ≤ 6) (hD : DM o R) : CMv G l o R yX6_endsPiece cX6_endsPiece 1 3 38 [] u (fun w => ∃ x : Nat → Int32, (csA (enP cs0 ws0 o0).1 x) ∧ w = (lE u (u.1 12) (u.1 14) (u.1 15) (nI (enP cs0 ws0 o0).2.2) (nI (enP cs0 ws0 o0).1.length) (nI (enP cs0 ws0 o0).2.1.length) (u.1 19) (u.1 11) (u.1 13) (u.1 20) x (u.2.1 22) (u.2.1 23) (u.2.1 24) (u.2.1 25) (u.2.1 26) (u.2.1 27) (u.2.1 28) (u.2.1 29) (u.2.1 30) (u.2.1 31))) := by
  refine CMv.mk pnX6 rfl (Nat.le_of_ble_eq_true rfl) (fun pg en Rm sg mm ar bw mth cd QQ ls hC hRm hK hP hS hl hq => ?_)
  have hx := hC.1; have hb := hC.2.1; have ho := hC.2.2.2.1; have hts := hC.2.2.2.2
  have hl : lv_has ls 1 [(0, .ref o)] := hl
  have hP : PM G o R (lE u (u.1 12) (u.1 14) (u.1 15) (u.1 16) (u.1 17) (u.1 18) (u.1 19) (u.1 11) (u.1 13) (u.1 20) (u.2.1 21) (u.2.1 22) (u.2.1 23) (u.2.1 24) (u.2.1 25) (u.2.1 26) (u.2.1 27) (u.2.1 28) (u.2.1 29) (u.2.1 30) (u.2.1 31)) sg.heap := by rw [lE_self]; exact hP
  have LP0 : ∀ (fu0 : Nat) (o1 : Nat) (cs : List Nat) (ws : List Nat) (x : Nat → Int32) (cm : Int32) (wa : Int32) (op : Int32) (H : Heap) (locs : List Loc) (ls : Array Slot), ws.length < fu0 → cm = nI cs.length → wa = nI ws.length → op = nI o1 → cs.length + cntS ws ≤ 240 → stA ws (u.2.1 22) → csA cs x → ws.length ≤ 240 → cntO ws ≤ o1 → o1 ≤ 6 → enP cs ws o1 = enP cs0 ws0 o0 → PM G o R (lE u (u.1 12) (u.1 14) (u.1 15) op cm wa (u.1 19) (u.1 11) (u.1 13) (u.1 20) x (u.2.1 22) (u.2.1 23) (u.2.1 24) (u.2.1 25) (u.2.1 26) (u.2.1 27) (u.2.1 28) (u.2.1 29) (u.2.1 30) (u.2.1 31)) H → va_S (AM o R) sg.heap H locs → lv_has ls 1 [(0, .ref o)] → W pg l en Rm sg mm ar bw mth cd H locs 0 0 QQ (F0 mm 0 ls []) := by
    intro fu0
    induction fu0 with
    | zero => intro o1 cs ws x cm wa op H locs ls hm0 hcm hwa hop hle hst hcs hlw hoc ho6 hI hP hS hl; exact absurd hm0 (Nat.not_lt_zero _)
    | succ fu0 ih0 =>
      intro o1 cs ws x cm wa op H locs ls hm0 hcm hwa hop hle hst hcs hlw hoc ho6 hI hP hS hl
      subst hcm hwa hop
      rcases ws with _ | ⟨x0, w1⟩
      · have hl : lv_has ls 1 [(0, .ref o)] := hl
        refine lv_aload_n hx hb dX6_endsPiece_0 rfl (lv_at hl 0 rfl) ?_
        refine CI.callV hC hK hl (c_X6_waitTop G l o R (lE u (u.1 12) (u.1 14) (u.1 15) (nI o1) (nI cs.length) (nI ([] : List Nat).length) (u.1 19) (u.1 11) (u.1 13) (u.1 20) x (u.2.1 22) (u.2.1 23) (u.2.1 24) (u.2.1 25) (u.2.1 26) (u.2.1 27) (u.2.1 28) (u.2.1 29) (u.2.1 30) (u.2.1 31)) ([] : List Nat) (rfl) (hlw) (hst)) hP (hP.recv hK) q1481 q1483 qs61 q116 q1484 mdX6_waitTop (room_ok hRm rfl) rfl rfl dX6_endsPiece_1 ?_
        refine W_top (y := (-1)) (rfl) ?_
        refine lv_bipush (v := 10) hx hb dX6_endsPiece_4 (by decide) ?_
        refine lv_icmp_ne (tgt := 39) hx hb dX6_endsPiece_6 (by decide) (fun c6 => ?_) (fun c6 => ?_)
        · exact hq _ _ _ _ _ dX6_endsPiece_39 hP hS (by have hh : enP cs ([] : List Nat) o1 = (cs, ([] : List Nat), o1) := rfl; exact ⟨x, by rw [← hI, hh]; exact hcs, by rw [← hI, hh]⟩)
        · exact absurd c6 (by decide)
      · have hx0 := hst.1.2
        have hlc : (x0 :: w1).length = w1.length + 1 := rfl
        have hl : lv_has ls 1 [(0, .ref o)] := hl
        refine lv_aload_n hx hb dX6_endsPiece_0 rfl (lv_at hl 0 rfl) ?_
        refine CI.callV hC hK hl (c_X6_waitTop G l o R (lE u (u.1 12) (u.1 14) (u.1 15) (nI o1) (nI cs.length) (nI (x0 :: w1).length) (u.1 19) (u.1 11) (u.1 13) (u.1 20) x (u.2.1 22) (u.2.1 23) (u.2.1 24) (u.2.1 25) (u.2.1 26) (u.2.1 27) (u.2.1 28) (u.2.1 29) (u.2.1 30) (u.2.1 31)) (x0 :: w1) (rfl) (hlw) (hst)) hP (hP.recv hK) q1481 q1483 qs61 q116 q1484 mdX6_waitTop (room_ok hRm rfl) rfl rfl dX6_endsPiece_1 ?_
        refine W_top (y := (nI (x0 / 1048576))) (rfl) ?_
        refine lv_bipush (v := 10) hx hb dX6_endsPiece_4 (by decide) ?_
        refine lv_icmp_ne (tgt := 39) hx hb dX6_endsPiece_6 (by decide) (fun c6 => ?_) (fun c6 => ?_)
        · have c6 : ¬ ((x0 / 1048576) = 10) := mt (nI_eq (a := (x0 / 1048576)) (b := 10) (by first | omega | (have := hst.1.2; omega)) (by first | omega | (have := hst.1.2; omega))).mpr c6
          exact hq _ _ _ _ _ dX6_endsPiece_39 hP hS (by have hh : enP cs (x0 :: w1) o1 = (cs, (x0 :: w1), o1) := if_neg c6; exact ⟨x, by rw [← hI, hh]; exact hcs, by rw [← hI, hh]⟩)
        · have c6 : (x0 / 1048576) = 10 := (nI_eq (a := (x0 / 1048576)) (b := 10) (by first | omega | (have := hst.1.2; omega)) (by first | omega | (have := hst.1.2; omega))).mp c6
          have hcy := cntO_y (ws := w1) (Or.inr (Or.inr c6))
          have hcs2 := cntS_sg (ws := w1) (show 2 ≤ x0 / 1048576 ∧ x0 / 1048576 ≤ 10 by omega)
          refine lv_aload_n hx hb dX6_endsPiece_9 rfl (lv_at hl 0 rfl) ?_
          refine lv_bipush (v := 10) hx hb dX6_endsPiece_10 (by decide) ?_
          refine lv_iconst (v := 0) hx hb dX6_endsPiece_12 (by decide) ?_
          refine CMv.call hC hK hS (fun q h => h) hl (c_X6_notes G l o R (lE u (u.1 12) (u.1 14) (u.1 15) (nI o1) (nI cs.length) (nI (x0 :: w1).length) (u.1 19) (u.1 11) (u.1 13) (u.1 20) x (u.2.1 22) (u.2.1 23) (u.2.1 24) (u.2.1 25) (u.2.1 26) (u.2.1 27) (u.2.1 28) (u.2.1 29) (u.2.1 30) (u.2.1 31)) 10 0 cs.length (rfl) (by omega) (by decide) (by decide) hD) hP rfl q1467 q1469 qs59 q116 q1470 mdX6_notes (room_ok hRm rfl) rfl rfl dX6_endsPiece_13 (fun w13 H locs hpo hP _ _ hS => ?_)
          have ew13 := hpo
          rw [ew13] at hP
          rw [lE_again] at hP
          simp only [lE_f11, lE_f12, lE_f13, lE_f14, lE_f15, lE_f16, lE_f18, lE_f19, lE_f20, lE_g21, lE_g22, lE_g23, lE_g24, lE_g25, lE_g26, lE_g27, lE_g28, lE_g29, lE_g30, lE_g31] at hP
          refine lv_aload_n hx hb dX6_endsPiece_16 rfl (lv_at hl 0 rfl) ?_
          refine lv_aload_n hx hb dX6_endsPiece_17 rfl (lv_at hl 0 rfl) ?_
          refine M_get hC hK hP 18 (by decide) (fM18 _ _) q1219 dX6_endsPiece_18 ?_
          refine W_top (y := (nI (x0 :: w1).length)) (by rw [lE_f18]) ?_
          refine lv_iconst (v := 1) hx hb dX6_endsPiece_21 (by decide) ?_
          refine lv_isub hx hb dX6_endsPiece_22 ?_
          refine W_top (y := (nI w1.length)) (pk_sub (a := w1.length + 1) (b := 1) (by omega)) ?_
          refine M_put hC hK hD hP hS 18 (by decide) (sM18 _ _ _) q1219 rfl dX6_endsPiece_23 (fun H locs hP hS => ?_)
          rw [lE_V18] at hP
          refine lv_aload_n hx hb dX6_endsPiece_26 rfl (lv_at hl 0 rfl) ?_
          refine lv_aload_n hx hb dX6_endsPiece_27 rfl (lv_at hl 0 rfl) ?_
          refine M_get hC hK hP 16 (by decide) (fM16 _ _) q1217 dX6_endsPiece_28 ?_
          refine W_top (y := (nI o1)) (by rw [lE_f16]) ?_
          refine lv_iconst (v := 1) hx hb dX6_endsPiece_31 (by decide) ?_
          refine lv_isub hx hb dX6_endsPiece_32 ?_
          refine W_top (y := (nI (o1 - 1))) (pk_sub (a := o1) (b := 1) (by omega)) ?_
          refine M_put hC hK hD hP hS 16 (by decide) (sM16 _ _ _) q1217 rfl dX6_endsPiece_33 (fun H locs hP hS => ?_)
          rw [lE_V16] at hP
          refine lv_goto (tgt := 0) hx hb dX6_endsPiece_36 (by decide) ?_
          exact ih0 (o1 - 1) (cs ++ [1048576 * 10]) w1 (upd x cs.length (nI (1048576 * 10 + 0))) (nI (cs.length + 1)) (nI w1.length) (nI (o1 - 1)) _ _ ls (by omega) (by rw [List.length_append, List.length_singleton]) (rfl) (rfl) (by rw [List.length_append, List.length_singleton]; omega) (hst.2) (csA_push (v := 1048576 * 10) hcs) (by omega) (by omega) (by omega) ((enP_10 (op := o1) (cs := cs) (ws := w1) c6).symm.trans hI) hP hS (lv_sub hl [0] rfl)
  exact LP0 _ o0 cs0 ws0 (u.2.1 21) (u.1 17) (u.1 18) (u.1 16) _ _ ls (Nat.lt_succ_self _) (hcm) (hwa) (hop) (hle) (hst) (hcs) (hlw) (hoc) (ho6) (rfl) hP hS (lv_sub hl [0] rfl)
set_option maxHeartbeats 4000000 in
theorem c_X6_lands (G : GG) (l : Launch) (o : Nat) (R : Nat → Nat) (u : MS) (al : Bool) (cs0 : List Nat) (ws0 : List Nat) (hcm : (u.1 17) = nI cs0.length) (hle : cs0.length ≤ 240) (hlw : ws0.length ≤ 240) (hwa : (u.1 18) = nI ws0.length) (hst : stA ws0 (u.2.1 22)) (hcs : csA cs0 (u.2.1 21)) (hj : jmW cs0 ws0) (hD : DM o R) : CMv G l o R yX6_lands cX6_lands 3 3 36 [.int (bI al)] u (fun w => ∃ x : Nat → Int32, (csA (lnd al cs0 ws0).1 x) ∧ w = (lE u (u.1 12) (u.1 14) (u.1 15) (u.1 16) (nI cs0.length) (nI (lnd al cs0 ws0).2.length) (u.1 19) (u.1 11) (u.1 13) (u.1 20) x (u.2.1 22) (u.2.1 23) (u.2.1 24) (u.2.1 25) (u.2.1 26) (u.2.1 27) (u.2.1 28) (u.2.1 29) (u.2.1 30) (u.2.1 31))) := by
  refine CMv.mk pnX6 rfl (Nat.le_of_ble_eq_true rfl) (fun pg en Rm sg mm ar bw mth cd QQ ls hC hRm hK hP hS hl hq => ?_)
  have hx := hC.1; have hb := hC.2.1; have ho := hC.2.2.2.1; have hts := hC.2.2.2.2
  have hl : lv_has ls 3 [(0, .ref o), (1, .int (bI al))] := hl
  have hP : PM G o R (lE u (u.1 12) (u.1 14) (u.1 15) (u.1 16) (u.1 17) (u.1 18) (u.1 19) (u.1 11) (u.1 13) (u.1 20) (u.2.1 21) (u.2.1 22) (u.2.1 23) (u.2.1 24) (u.2.1 25) (u.2.1 26) (u.2.1 27) (u.2.1 28) (u.2.1 29) (u.2.1 30) (u.2.1 31)) sg.heap := by rw [lE_self]; exact hP
  rw [hcm] at hP
  have LP0 : ∀ (fu0 : Nat) (cs : List Nat) (ws : List Nat) (x : Nat → Int32) (wa : Int32) (H : Heap) (locs : List Loc) (ls : Array Slot), ws.length < fu0 → wa = nI ws.length → cs.length = cs0.length → stA ws (u.2.1 22) → csA cs x → ws.length ≤ 240 → jmW cs ws → lnd al cs ws = lnd al cs0 ws0 → PM G o R (lE u (u.1 12) (u.1 14) (u.1 15) (u.1 16) (nI cs0.length) wa (u.1 19) (u.1 11) (u.1 13) (u.1 20) x (u.2.1 22) (u.2.1 23) (u.2.1 24) (u.2.1 25) (u.2.1 26) (u.2.1 27) (u.2.1 28) (u.2.1 29) (u.2.1 30) (u.2.1 31)) H → va_S (AM o R) sg.heap H locs → lv_has ls 3 [(0, .ref o), (1, .int (bI al))] → W pg l en Rm sg mm ar bw mth cd H locs 0 0 QQ (F0 mm 0 ls []) := by
    intro fu0
    induction fu0 with
    | zero => intro cs ws x wa H locs ls hm0 hwa hlen hst hcs hlw hj hI hP hS hl; exact absurd hm0 (Nat.not_lt_zero _)
    | succ fu0 ih0 =>
      intro cs ws x wa H locs ls hm0 hwa hlen hst hcs hlw hj hI hP hS hl
      subst hwa
      rcases ws with _ | ⟨x0, w1⟩
      · have hl : lv_has ls 3 [(0, .ref o), (1, .int (bI al))] := hl
        refine lv_aload_n hx hb dX6_lands_0 rfl (lv_at hl 0 rfl) ?_
        refine CI.callV hC hK hl (c_X6_waitTop G l o R (lE u (u.1 12) (u.1 14) (u.1 15) (u.1 16) (nI cs0.length) (nI ([] : List Nat).length) (u.1 19) (u.1 11) (u.1 13) (u.1 20) x (u.2.1 22) (u.2.1 23) (u.2.1 24) (u.2.1 25) (u.2.1 26) (u.2.1 27) (u.2.1 28) (u.2.1 29) (u.2.1 30) (u.2.1 31)) ([] : List Nat) (rfl) (hlw) (hst)) hP (hP.recv hK) q1481 q1483 qs61 q116 q1484 mdX6_waitTop (room_ok hRm rfl) rfl rfl dX6_lands_1 ?_
        refine W_top (y := (-1)) (rfl) ?_
        refine lv_bipush (v := 11) hx hb dX6_lands_4 (by decide) ?_
        refine lv_icmp_eq (tgt := 22) hx hb dX6_lands_6 (by decide) (fun c6 => ?_) (fun c6 => ?_)
        · exact absurd c6 (by decide)
        · refine lv_iload_n hx hb dX6_lands_9 rfl (lv_at hl 1 rfl) ?_
          refine lv_if_eq (tgt := 73) hx hb dX6_lands_10 (by decide) (fun c10 => ?_) (fun c10 => ?_)
          · have c10 : al = false := bI_0.mp c10
            exact hq _ _ _ _ _ dX6_lands_73 hP hS (by have hh : lnd al cs ([] : List Nat) = (cs, ([] : List Nat)) := rfl; exact ⟨x, by rw [← hI, hh]; exact hcs, by rw [← hI, hh]⟩)
          · have c10 : al = true := bI_1.mp c10
            refine lv_aload_n hx hb dX6_lands_13 rfl (lv_at hl 0 rfl) ?_
            refine CI.callV hC hK hl (c_X6_waitTop G l o R (lE u (u.1 12) (u.1 14) (u.1 15) (u.1 16) (nI cs0.length) (nI ([] : List Nat).length) (u.1 19) (u.1 11) (u.1 13) (u.1 20) x (u.2.1 22) (u.2.1 23) (u.2.1 24) (u.2.1 25) (u.2.1 26) (u.2.1 27) (u.2.1 28) (u.2.1 29) (u.2.1 30) (u.2.1 31)) ([] : List Nat) (rfl) (hlw) (hst)) hP (hP.recv hK) q1481 q1483 qs61 q116 q1484 mdX6_waitTop (room_ok hRm rfl) rfl rfl dX6_lands_14 ?_
            refine W_top (y := (-1)) (rfl) ?_
            refine lv_bipush (v := 12) hx hb dX6_lands_17 (by decide) ?_
            refine lv_icmp_ne (tgt := 73) hx hb dX6_lands_19 (by decide) (fun c19 => ?_) (fun c19 => ?_)
            · exact hq _ _ _ _ _ dX6_lands_73 hP hS (by have hh : lnd al cs ([] : List Nat) = (cs, ([] : List Nat)) := rfl; exact ⟨x, by rw [← hI, hh]; exact hcs, by rw [← hI, hh]⟩)
            · exact absurd c19 (by decide)
      · have hx0 := hst.1.2
        have hlc : (x0 :: w1).length = w1.length + 1 := rfl
        have hl : lv_has ls 3 [(0, .ref o), (1, .int (bI al))] := hl
        refine lv_aload_n hx hb dX6_lands_0 rfl (lv_at hl 0 rfl) ?_
        refine CI.callV hC hK hl (c_X6_waitTop G l o R (lE u (u.1 12) (u.1 14) (u.1 15) (u.1 16) (nI cs0.length) (nI (x0 :: w1).length) (u.1 19) (u.1 11) (u.1 13) (u.1 20) x (u.2.1 22) (u.2.1 23) (u.2.1 24) (u.2.1 25) (u.2.1 26) (u.2.1 27) (u.2.1 28) (u.2.1 29) (u.2.1 30) (u.2.1 31)) (x0 :: w1) (rfl) (hlw) (hst)) hP (hP.recv hK) q1481 q1483 qs61 q116 q1484 mdX6_waitTop (room_ok hRm rfl) rfl rfl dX6_lands_1 ?_
        refine W_top (y := (nI (x0 / 1048576))) (rfl) ?_
        refine lv_bipush (v := 11) hx hb dX6_lands_4 (by decide) ?_
        refine lv_icmp_eq (tgt := 22) hx hb dX6_lands_6 (by decide) (fun c6 => ?_) (fun c6 => ?_)
        · have c6 : (x0 / 1048576) = 11 := (nI_eq (a := (x0 / 1048576)) (b := 11) (by first | omega | (have := hst.1.2; omega)) (by first | omega | (have := hst.1.2; omega))).mp c6
          obtain ⟨v, hv, hv13⟩ := hj x0 (List.mem_cons_self ..) (by omega)
          have hjl : x0 % 1048576 < cs.length := by obtain ⟨q, _⟩ := List.getElem?_eq_some_iff.mp hv; exact q
          refine lv_aload_n hx hb dX6_lands_22 rfl (lv_at hl 0 rfl) ?_
          refine M_get hC hK hP 22 (by decide) (fM22 _ _) q1223 dX6_lands_23 ?_
          refine lv_aload_n hx hb dX6_lands_26 rfl (lv_at hl 0 rfl) ?_
          refine M_get hC hK hP 18 (by decide) (fM18 _ _) q1219 dX6_lands_27 ?_
          refine W_top (y := (nI (x0 :: w1).length)) (by rw [lE_f18]) ?_
          refine lv_iconst (v := 1) hx hb dX6_lands_30 (by decide) ?_
          refine lv_isub hx hb dX6_lands_31 ?_
          refine W_top (y := (nI w1.length)) (pk_sub (a := w1.length + 1) (b := 1) (by omega)) ?_
          refine M_ald hC hK hP 22 11 260 w1.length (aM22 _ _ _ _) (by decide) (rfl) (by omega) dX6_lands_32 ?_
          refine W_top (y := ((u.2.1 22) w1.length)) (by rw [lE_g22]) ?_
          refine W_top (y := (nI x0)) (hst.1.1) ?_
          refine lv_ldc (own := RX6) (v := 1048576) hx hb ho (hts _ q1458) dX6_lands_33 ?_
          refine lv_irem hx hb dX6_lands_35 (by decide) ?_
          refine W_top (pk_rem (a := x0) (d := 1048576) (by omega) (by omega) (by omega)) ?_
          refine lv_istore_n (lv' := [(2, .int (nI (x0 % 1048576))), (0, .ref o), (1, .int (bI al))]) hx hb dX6_lands_36 rfl hl (by decide) rfl (fun ls hl => ?_)
          refine lv_aload_n hx hb dX6_lands_37 rfl (lv_at hl 1 rfl) ?_
          refine M_get hC hK hP 21 (by decide) (fM21 _ _) q1222 dX6_lands_38 ?_
          refine lv_iload_n hx hb dX6_lands_41 rfl (lv_at hl 0 rfl) ?_
          refine lv_ldc (own := RX6) (v := 1048576) hx hb ho (hts _ q1458) dX6_lands_42 ?_
          refine lv_aload_n hx hb dX6_lands_44 rfl (lv_at hl 1 rfl) ?_
          refine M_get hC hK hP 21 (by decide) (fM21 _ _) q1222 dX6_lands_45 ?_
          refine lv_iload_n hx hb dX6_lands_48 rfl (lv_at hl 0 rfl) ?_
          refine M_ald hC hK hP 21 10 260 (x0 % 1048576) (aM21 _ _ _ _) (by decide) (rfl) (by omega) dX6_lands_49 ?_
          refine W_top (y := (x (x0 % 1048576))) (by rw [lE_g21]) ?_
          refine W_top (y := (nI v)) (hcs _ _ hv) ?_
          refine lv_ldc (own := RX6) (v := 1048576) hx hb ho (hts _ q1458) dX6_lands_50 ?_
          refine lv_idiv hx hb dX6_lands_52 (by decide) ?_
          refine W_top (pk_div (a := v) (d := 1048576) (by omega) (by omega) (by omega)) ?_
          refine lv_imul hx hb dX6_lands_53 ?_
          refine W_top (pk_mul 1048576 (v / 1048576)) ?_
          refine lv_aload_n hx hb dX6_lands_54 rfl (lv_at hl 1 rfl) ?_
          refine M_get hC hK hP 17 (by decide) (fM17 _ _) q1218 dX6_lands_55 ?_
          refine W_top (y := (nI cs0.length)) (by rw [lE_f17]) ?_
          refine lv_iadd hx hb dX6_lands_58 ?_
          refine W_top (nI_add (1048576 * (v / 1048576)) cs0.length) ?_
          refine M_ast hC hK hD hP hS 21 10 260 (x0 % 1048576) (aM21 _ _ _ _) (bM21 _ _ _ _ _ _) (by decide) (rfl) (by omega) dX6_lands_59 (fun H locs hP hS => ?_)
          rw [lE_A21] at hP
          refine lv_aload_n hx hb dX6_lands_60 rfl (lv_at hl 1 rfl) ?_
          refine lv_aload_n hx hb dX6_lands_61 rfl (lv_at hl 1 rfl) ?_
          refine M_get hC hK hP 18 (by decide) (fM18 _ _) q1219 dX6_lands_62 ?_
          refine W_top (y := (nI (x0 :: w1).length)) (by rw [lE_f18]) ?_
          refine lv_iconst (v := 1) hx hb dX6_lands_65 (by decide) ?_
          refine lv_isub hx hb dX6_lands_66 ?_
          refine W_top (y := (nI w1.length)) (pk_sub (a := w1.length + 1) (b := 1) (by omega)) ?_
          refine M_put hC hK hD hP hS 18 (by decide) (sM18 _ _ _) q1219 rfl dX6_lands_67 (fun H locs hP hS => ?_)
          rw [lE_V18] at hP
          refine lv_goto (tgt := 0) hx hb dX6_lands_70 (by decide) ?_
          exact ih0 (lnS cs x0) w1 (upd x (x0 % 1048576) (nI ((1048576 * (v / 1048576)) + cs0.length))) (nI w1.length) _ _ ls (by omega) (rfl) ((lnS_len _ _).trans hlen) (hst.2) (lnS_csA hcs hv hlen) (by omega) (jm_set (jm_tl hj) (by omega) hv hv13) ((lnd_y (al := al) (cs := cs) (ws := w1) (lnB_t (by first | (left; omega) | (right; exact ⟨c10, by omega⟩)))).symm.trans hI) hP hS (lv_sub hl [1, 2] rfl)
        · have c6 : ¬ ((x0 / 1048576) = 11) := mt (nI_eq (a := (x0 / 1048576)) (b := 11) (by first | omega | (have := hst.1.2; omega)) (by first | omega | (have := hst.1.2; omega))).mpr c6
          refine lv_iload_n hx hb dX6_lands_9 rfl (lv_at hl 1 rfl) ?_
          refine lv_if_eq (tgt := 73) hx hb dX6_lands_10 (by decide) (fun c10 => ?_) (fun c10 => ?_)
          · have c10 : al = false := bI_0.mp c10
            exact hq _ _ _ _ _ dX6_lands_73 hP hS (by have hh : lnd al cs (x0 :: w1) = (cs, (x0 :: w1)) := lnd_e (by omega) (by first | (left; exact c10) | (right; omega)); exact ⟨x, by rw [← hI, hh]; exact hcs, by rw [← hI, hh]⟩)
          · have c10 : al = true := bI_1.mp c10
            refine lv_aload_n hx hb dX6_lands_13 rfl (lv_at hl 0 rfl) ?_
            refine CI.callV hC hK hl (c_X6_waitTop G l o R (lE u (u.1 12) (u.1 14) (u.1 15) (u.1 16) (nI cs0.length) (nI (x0 :: w1).length) (u.1 19) (u.1 11) (u.1 13) (u.1 20) x (u.2.1 22) (u.2.1 23) (u.2.1 24) (u.2.1 25) (u.2.1 26) (u.2.1 27) (u.2.1 28) (u.2.1 29) (u.2.1 30) (u.2.1 31)) (x0 :: w1) (rfl) (hlw) (hst)) hP (hP.recv hK) q1481 q1483 qs61 q116 q1484 mdX6_waitTop (room_ok hRm rfl) rfl rfl dX6_lands_14 ?_
            refine W_top (y := (nI (x0 / 1048576))) (rfl) ?_
            refine lv_bipush (v := 12) hx hb dX6_lands_17 (by decide) ?_
            refine lv_icmp_ne (tgt := 73) hx hb dX6_lands_19 (by decide) (fun c19 => ?_) (fun c19 => ?_)
            · have c19 : ¬ ((x0 / 1048576) = 12) := mt (nI_eq (a := (x0 / 1048576)) (b := 12) (by first | omega | (have := hst.1.2; omega)) (by first | omega | (have := hst.1.2; omega))).mpr c19
              exact hq _ _ _ _ _ dX6_lands_73 hP hS (by have hh : lnd al cs (x0 :: w1) = (cs, (x0 :: w1)) := lnd_e (by omega) (by first | (left; exact c10) | (right; omega)); exact ⟨x, by rw [← hI, hh]; exact hcs, by rw [← hI, hh]⟩)
            · have c19 : (x0 / 1048576) = 12 := (nI_eq (a := (x0 / 1048576)) (b := 12) (by first | omega | (have := hst.1.2; omega)) (by first | omega | (have := hst.1.2; omega))).mp c19
              obtain ⟨v, hv, hv13⟩ := hj x0 (List.mem_cons_self ..) (by omega)
              have hjl : x0 % 1048576 < cs.length := by obtain ⟨q, _⟩ := List.getElem?_eq_some_iff.mp hv; exact q
              refine lv_aload_n hx hb dX6_lands_22 rfl (lv_at hl 0 rfl) ?_
              refine M_get hC hK hP 22 (by decide) (fM22 _ _) q1223 dX6_lands_23 ?_
              refine lv_aload_n hx hb dX6_lands_26 rfl (lv_at hl 0 rfl) ?_
              refine M_get hC hK hP 18 (by decide) (fM18 _ _) q1219 dX6_lands_27 ?_
              refine W_top (y := (nI (x0 :: w1).length)) (by rw [lE_f18]) ?_
              refine lv_iconst (v := 1) hx hb dX6_lands_30 (by decide) ?_
              refine lv_isub hx hb dX6_lands_31 ?_
              refine W_top (y := (nI w1.length)) (pk_sub (a := w1.length + 1) (b := 1) (by omega)) ?_
              refine M_ald hC hK hP 22 11 260 w1.length (aM22 _ _ _ _) (by decide) (rfl) (by omega) dX6_lands_32 ?_
              refine W_top (y := ((u.2.1 22) w1.length)) (by rw [lE_g22]) ?_
              refine W_top (y := (nI x0)) (hst.1.1) ?_
              refine lv_ldc (own := RX6) (v := 1048576) hx hb ho (hts _ q1458) dX6_lands_33 ?_
              refine lv_irem hx hb dX6_lands_35 (by decide) ?_
              refine W_top (pk_rem (a := x0) (d := 1048576) (by omega) (by omega) (by omega)) ?_
              refine lv_istore_n (lv' := [(2, .int (nI (x0 % 1048576))), (0, .ref o), (1, .int (bI al))]) hx hb dX6_lands_36 rfl hl (by decide) rfl (fun ls hl => ?_)
              refine lv_aload_n hx hb dX6_lands_37 rfl (lv_at hl 1 rfl) ?_
              refine M_get hC hK hP 21 (by decide) (fM21 _ _) q1222 dX6_lands_38 ?_
              refine lv_iload_n hx hb dX6_lands_41 rfl (lv_at hl 0 rfl) ?_
              refine lv_ldc (own := RX6) (v := 1048576) hx hb ho (hts _ q1458) dX6_lands_42 ?_
              refine lv_aload_n hx hb dX6_lands_44 rfl (lv_at hl 1 rfl) ?_
              refine M_get hC hK hP 21 (by decide) (fM21 _ _) q1222 dX6_lands_45 ?_
              refine lv_iload_n hx hb dX6_lands_48 rfl (lv_at hl 0 rfl) ?_
              refine M_ald hC hK hP 21 10 260 (x0 % 1048576) (aM21 _ _ _ _) (by decide) (rfl) (by omega) dX6_lands_49 ?_
              refine W_top (y := (x (x0 % 1048576))) (by rw [lE_g21]) ?_
              refine W_top (y := (nI v)) (hcs _ _ hv) ?_
              refine lv_ldc (own := RX6) (v := 1048576) hx hb ho (hts _ q1458) dX6_lands_50 ?_
              refine lv_idiv hx hb dX6_lands_52 (by decide) ?_
              refine W_top (pk_div (a := v) (d := 1048576) (by omega) (by omega) (by omega)) ?_
              refine lv_imul hx hb dX6_lands_53 ?_
              refine W_top (pk_mul 1048576 (v / 1048576)) ?_
              refine lv_aload_n hx hb dX6_lands_54 rfl (lv_at hl 1 rfl) ?_
              refine M_get hC hK hP 17 (by decide) (fM17 _ _) q1218 dX6_lands_55 ?_
              refine W_top (y := (nI cs0.length)) (by rw [lE_f17]) ?_
              refine lv_iadd hx hb dX6_lands_58 ?_
              refine W_top (nI_add (1048576 * (v / 1048576)) cs0.length) ?_
              refine M_ast hC hK hD hP hS 21 10 260 (x0 % 1048576) (aM21 _ _ _ _) (bM21 _ _ _ _ _ _) (by decide) (rfl) (by omega) dX6_lands_59 (fun H locs hP hS => ?_)
              rw [lE_A21] at hP
              refine lv_aload_n hx hb dX6_lands_60 rfl (lv_at hl 1 rfl) ?_
              refine lv_aload_n hx hb dX6_lands_61 rfl (lv_at hl 1 rfl) ?_
              refine M_get hC hK hP 18 (by decide) (fM18 _ _) q1219 dX6_lands_62 ?_
              refine W_top (y := (nI (x0 :: w1).length)) (by rw [lE_f18]) ?_
              refine lv_iconst (v := 1) hx hb dX6_lands_65 (by decide) ?_
              refine lv_isub hx hb dX6_lands_66 ?_
              refine W_top (y := (nI w1.length)) (pk_sub (a := w1.length + 1) (b := 1) (by omega)) ?_
              refine M_put hC hK hD hP hS 18 (by decide) (sM18 _ _ _) q1219 rfl dX6_lands_67 (fun H locs hP hS => ?_)
              rw [lE_V18] at hP
              refine lv_goto (tgt := 0) hx hb dX6_lands_70 (by decide) ?_
              exact ih0 (lnS cs x0) w1 (upd x (x0 % 1048576) (nI ((1048576 * (v / 1048576)) + cs0.length))) (nI w1.length) _ _ ls (by omega) (rfl) ((lnS_len _ _).trans hlen) (hst.2) (lnS_csA hcs hv hlen) (by omega) (jm_set (jm_tl hj) (by omega) hv hv13) ((lnd_y (al := al) (cs := cs) (ws := w1) (lnB_t (by first | (left; omega) | (right; exact ⟨c10, by omega⟩)))).symm.trans hI) hP hS (lv_sub hl [1, 2] rfl)
  exact LP0 _ cs0 ws0 (u.2.1 21) (u.1 18) _ _ ls (Nat.lt_succ_self _) (hwa) (rfl) (hst) (hcs) (hlw) (hj) (rfl) hP hS (lv_sub hl [0, 1] rfl)
set_option maxHeartbeats 4000000 in
theorem c_X6_jumps (G : GG) (l : Launch) (o : Nat) (R : Nat → Nat) (u : MS) (op : Nat) (c0 : Nat) (w0 : Nat) (p : Nat) (hc : (u.1 17) = nI c0) (hc2 : c0 < 260) (hw : (u.1 18) = nI w0) (hw2 : w0 < 260) (hp : (u.1 12) = nI p) (hp2 : p < 2 ^ 30) (hop : op ≤ 14) (hD : DM o R) : CMv G l o R yX6_jumps cX6_jumps 2 3 38 [.int (nI op)] u (fun w => w = (lE u (nI (p + 1)) (u.1 14) (u.1 15) (u.1 16) (nI (c0 + 1)) (nI (w0 + 1)) (u.1 19) (u.1 11) (u.1 13) (u.1 20) (upd (u.2.1 21) c0 (nI (1048576 * op + 0))) (upd (u.2.1 22) w0 (nI (1048576 * op + c0))) (u.2.1 23) (u.2.1 24) (u.2.1 25) (u.2.1 26) (u.2.1 27) (u.2.1 28) (u.2.1 29) (u.2.1 30) (u.2.1 31))) := by
  refine CMv.mk pnX6 rfl (Nat.le_of_ble_eq_true rfl) (fun pg en Rm sg mm ar bw mth cd QQ ls hC hRm hK hP hS hl hq => ?_)
  have hx := hC.1; have hb := hC.2.1; have ho := hC.2.2.2.1; have hts := hC.2.2.2.2
  have hl : lv_has ls 2 [(0, .ref o), (1, .int (nI op))] := hl
  have hP : PM G o R (lE u (u.1 12) (u.1 14) (u.1 15) (u.1 16) (u.1 17) (u.1 18) (u.1 19) (u.1 11) (u.1 13) (u.1 20) (u.2.1 21) (u.2.1 22) (u.2.1 23) (u.2.1 24) (u.2.1 25) (u.2.1 26) (u.2.1 27) (u.2.1 28) (u.2.1 29) (u.2.1 30) (u.2.1 31)) sg.heap := by rw [lE_self]; exact hP
  rw [hc] at hP
  rw [hw] at hP
  rw [hp] at hP
  refine lv_aload_n hx hb dX6_jumps_0 rfl (lv_at hl 0 rfl) ?_
  refine M_get hC hK hP 22 (by decide) (fM22 _ _) q1223 dX6_jumps_1 ?_
  refine lv_aload_n hx hb dX6_jumps_4 rfl (lv_at hl 0 rfl) ?_
  refine M_get hC hK hP 18 (by decide) (fM18 _ _) q1219 dX6_jumps_5 ?_
  refine W_top (y := (nI w0)) (by rw [lE_f18]) ?_
  refine lv_ldc (own := RX6) (v := 1048576) hx hb ho (hts _ q1458) dX6_jumps_8 ?_
  refine lv_iload_n hx hb dX6_jumps_10 rfl (lv_at hl 1 rfl) ?_
  refine lv_imul hx hb dX6_jumps_11 ?_
  refine W_top (pk_mul 1048576 op) ?_
  refine lv_aload_n hx hb dX6_jumps_12 rfl (lv_at hl 0 rfl) ?_
  refine M_get hC hK hP 17 (by decide) (fM17 _ _) q1218 dX6_jumps_13 ?_
  refine W_top (y := (nI c0)) (by rw [lE_f17]) ?_
  refine lv_iadd hx hb dX6_jumps_16 ?_
  refine W_top (nI_add (1048576 * op) c0) ?_
  refine M_ast hC hK hD hP hS 22 11 260 w0 (aM22 _ _ _ _) (bM22 _ _ _ _ _ _) (by decide) (rfl) (by omega) dX6_jumps_17 (fun H locs hP hS => ?_)
  rw [lE_A22] at hP
  refine lv_aload_n hx hb dX6_jumps_18 rfl (lv_at hl 0 rfl) ?_
  refine lv_aload_n hx hb dX6_jumps_19 rfl (lv_at hl 0 rfl) ?_
  refine M_get hC hK hP 18 (by decide) (fM18 _ _) q1219 dX6_jumps_20 ?_
  refine W_top (y := (nI w0)) (by rw [lE_f18]) ?_
  refine lv_iconst (v := 1) hx hb dX6_jumps_23 (by decide) ?_
  refine lv_iadd hx hb dX6_jumps_24 ?_
  refine W_top (nI_add w0 1) ?_
  refine M_put hC hK hD hP hS 18 (by decide) (sM18 _ _ _) q1219 rfl dX6_jumps_25 (fun H locs hP hS => ?_)
  rw [lE_V18] at hP
  refine lv_aload_n hx hb dX6_jumps_28 rfl (lv_at hl 0 rfl) ?_
  refine lv_iload_n hx hb dX6_jumps_29 rfl (lv_at hl 1 rfl) ?_
  refine lv_iconst (v := 0) hx hb dX6_jumps_30 (by decide) ?_
  refine CMv.call hC hK hS (fun q h => h) hl (c_X6_notes G l o R (lE u (nI p) (u.1 14) (u.1 15) (u.1 16) (nI c0) (nI (w0 + 1)) (u.1 19) (u.1 11) (u.1 13) (u.1 20) (u.2.1 21) (upd (u.2.1 22) w0 (nI ((1048576 * op) + c0))) (u.2.1 23) (u.2.1 24) (u.2.1 25) (u.2.1 26) (u.2.1 27) (u.2.1 28) (u.2.1 29) (u.2.1 30) (u.2.1 31)) op 0 c0 (rfl) (hc2) (hop) (by decide) hD) hP rfl q1467 q1469 qs59 q116 q1470 mdX6_notes (room_ok hRm rfl) rfl rfl dX6_jumps_31 (fun w31 H locs hpo hP _ _ hS => ?_)
  have ew31 := hpo
  rw [ew31] at hP
  rw [lE_again] at hP
  simp only [lE_f11, lE_f12, lE_f13, lE_f14, lE_f15, lE_f16, lE_f18, lE_f19, lE_f20, lE_g21, lE_g22, lE_g23, lE_g24, lE_g25, lE_g26, lE_g27, lE_g28, lE_g29, lE_g30, lE_g31] at hP
  refine lv_aload_n hx hb dX6_jumps_34 rfl (lv_at hl 0 rfl) ?_
  refine lv_aload_n hx hb dX6_jumps_35 rfl (lv_at hl 0 rfl) ?_
  refine M_get hC hK hP 12 (by decide) (fM12 _ _) q1213 dX6_jumps_36 ?_
  refine W_top (y := (nI p)) (by rw [lE_f12]) ?_
  refine lv_iconst (v := 1) hx hb dX6_jumps_39 (by decide) ?_
  refine lv_iadd hx hb dX6_jumps_40 ?_
  refine W_top (nI_add p 1) ?_
  refine M_put hC hK hD hP hS 12 (by decide) (sM12 _ _ _) q1213 rfl dX6_jumps_41 (fun H locs hP hS => ?_)
  rw [lE_V12] at hP
  exact hq _ _ _ _ _ dX6_jumps_44 hP hS (by exact rfl)
set_option maxHeartbeats 4000000 in
theorem c_X6_readsCompared (G : GG) (l : Launch) (o : Nat) (R : Nat → Nat) (u : MS) (n : Nat) (p0 : Nat) (o0 : Nat) (cs0 : List Nat) (ws0 : List Nat) (RR : MR) (hI : lwI n ws0.length p0 o0 cs0 ws0 (u.1 12) (u.1 16) (u.1 17) (u.1 18) (u.2.1 21) (u.2.1 22)) (hn : (u.1 13) = nI n) (hn2 : n ≤ 240) (ht : topF true ws0) (hR : RR = cmpW (u.2.1 10) n cs0 ws0 o0 p0) (hD : DM o R) : CMi G l o R yX6_readsCompared cX6_readsCompared 2 .boolean 7 120 [] u (fun r w => ∃ ok : Bool, ∃ pl : Int32, ∃ fa : Int32, ∃ nu : Int32, ∃ op : Int32, ∃ cm : Int32, ∃ wa : Int32, ∃ x : Nat → Int32, ∃ y : Nat → Int32, (cpPost RR n ok pl fa op cm wa x y) ∧ r = (bI ok) ∧ w = (lE u pl fa nu op cm wa (u.1 19) (u.1 11) (nI n) (u.1 20) x y (u.2.1 23) (u.2.1 24) (u.2.1 25) (u.2.1 26) (u.2.1 27) (u.2.1 28) (u.2.1 29) (u.2.1 30) (u.2.1 31))) := by
  refine CMi.mk pnX6 rfl (Nat.le_of_ble_eq_true rfl) (fun pg en Rm sg mm ar bw mth cd QQ ls hC hRm hK hP hS hl hq => ?_)
  have hx := hC.1; have hb := hC.2.1; have ho := hC.2.2.2.1; have hts := hC.2.2.2.2
  have hl : lv_has ls 2 [(0, .ref o)] := hl
  have hP : PM G o R (lE u (u.1 12) (u.1 14) (u.1 15) (u.1 16) (u.1 17) (u.1 18) (u.1 19) (u.1 11) (u.1 13) (u.1 20) (u.2.1 21) (u.2.1 22) (u.2.1 23) (u.2.1 24) (u.2.1 25) (u.2.1 26) (u.2.1 27) (u.2.1 28) (u.2.1 29) (u.2.1 30) (u.2.1 31)) sg.heap := by rw [lE_self]; exact hP
  have hI0 := hI
  obtain ⟨⟨hp1, ho1, hc1, hw1⟩, ⟨hcs, hst⟩, ⟨hl1, hl2, hpn, hct, ho6⟩, hG⟩ := hI0
  rw [hp1, ho1, hc1, hw1, hn] at hP
  rw [hp1, ho1, hc1, hw1] at hI
  refine lv_aload_n hx hb dX6_readsCompared_0 rfl (lv_at hl 0 rfl) ?_
  refine CMi.call hC hK hS (fun q h => h) hl (c_X6_readsSum G l o R (lE u (nI p0) (u.1 14) (u.1 15) (nI o0) (nI cs0.length) (nI ws0.length) (u.1 19) (u.1 11) (nI n) (u.1 20) (u.2.1 21) (u.2.1 22) (u.2.1 23) (u.2.1 24) (u.2.1 25) (u.2.1 26) (u.2.1 27) (u.2.1 28) (u.2.1 29) (u.2.1 30) (u.2.1 31)) n p0 o0 (2 * n + 6) cs0 ws0 (mR (u.2.1 10) n ws0.length (2 * n + 6) true cs0 ws0 o0 p0) (hI) (rfl) (hn2) (rfl) (by omega) hD) hP rfl q1446 q1448 qs54 q116 q1449 mdX6_readsSum (room_ok hRm rfl) rfl rfl dX6_readsCompared_1 (fun r1 w1 H locs hpo hP _ _ hS => ?_)
  obtain ⟨ok_1, pl_2, fa_3, nu_4, op_5, cm_6, wa_7, x_8, y_9, f1_0, er1, ew1⟩ := hpo
  rw [ew1] at hP
  refine W_top (y := (bI ok_1)) er1 ?_
  rw [lE_again] at hP
  simp only [lE_f11, lE_f19, lE_f20, lE_g23, lE_g24, lE_g25, lE_g26, lE_g27, lE_g28, lE_g29, lE_g30, lE_g31] at hP
  refine lv_if_ne (tgt := 9) hx hb dX6_readsCompared_4 (by decide) (fun c4 => ?_) (fun c4 => ?_)
  · have c4 : ok_1 = true := bI_1.mp c4
    obtain ⟨r, hr, ⟨rfl, rfl, rfl, rfl⟩, hI1⟩ := smP_t2 f1_0 c4 hpn (by omega) ht
    obtain ⟨⟨_, hrl⟩, hr1, hr2, _⟩ := sumE_seg hpn hr
    have hla : (cs0 ++ r.1.1).length = cs0.length + r.1.1.length := List.length_append
    have JN52 : ∀ (x : Int32) (ls : Array Slot), x = optI (cmpN (ckN (u.2.1 10) n r.2)) → lv_has ls 2 [(0, .ref o)] → W pg l en Rm sg mm ar bw mth cd H locs 0 0 QQ (F0 mm 52 ls [.int x]) := by
      intro x ls hx52 hl
      obtain ⟨li, hli⟩ : ∃ li, cmpN (ckN (u.2.1 10) n r.2) = li := ⟨_, rfl⟩
      rw [hli] at hx52
      subst hx52
      have hl : lv_has ls 2 [(0, .ref o)] := hl
      rcases li with _ | s
      · have hl : lv_has ls 2 [(0, .ref o)] := hl
        refine lv_istore_n (lv' := [(1, .int (-1)), (0, .ref o)]) hx hb dX6_readsCompared_52 rfl hl (by decide) rfl (fun ls hl => ?_)
        refine lv_iload_n hx hb dX6_readsCompared_53 rfl (lv_at hl 0 rfl) ?_
        refine lv_iconst (v := (-1)) hx hb dX6_readsCompared_54 (by decide) ?_
        refine lv_icmp_ne (tgt := 68) hx hb dX6_readsCompared_55 (by decide) (fun c55 => ?_) (fun c55 => ?_)
        · exact absurd c55 (by decide)
        · refine lv_aload_n hx hb dX6_readsCompared_58 rfl (lv_at hl 1 rfl) ?_
          refine lv_iconst (v := 1) hx hb dX6_readsCompared_59 (by decide) ?_
          refine lv_aload_n hx hb dX6_readsCompared_60 rfl (lv_at hl 1 rfl) ?_
          refine M_get hC hK hP 12 (by decide) (fM12 _ _) q1213 dX6_readsCompared_61 ?_
          refine W_top (y := (nI r.2)) (by rw [lE_f12]) ?_
          refine CMi.call hC hK hS (fun q h => h) hl (c_X6_wrongAt G l o R (lE u (nI r.2) fa_3 nu_4 (nI o0) (nI (cs0 ++ r.1.1).length) (nI ws0.length) (u.1 19) (u.1 11) (nI n) (u.1 20) x_8 y_9 (u.2.1 23) (u.2.1 24) (u.2.1 25) (u.2.1 26) (u.2.1 27) (u.2.1 28) (u.2.1 29) (u.2.1 30) (u.2.1 31)) 1 r.2  hD) hP rfl q1442 q1444 qs53 q116 q1445 mdX6_wrongAt (room_ok hRm rfl) rfl rfl dX6_readsCompared_64 (fun r64 w64 H locs hpo hP _ _ hS => ?_)
          obtain ⟨er64, ew64⟩ := hpo
          rw [ew64] at hP
          refine W_top (y := (bI false)) er64 ?_
          rw [lE_V14] at hP
          exact hq _ _ _ _ _ _ dX6_readsCompared_67 hP hS (by first | rfl | exact bI_nar _) (by exact ⟨false, _, _, _, _, _, _, _, _, cpP_bad (hR.trans (cmpW_n hr hli)) rfl, rfl, rfl⟩)
      · have hs9 := cmpN_lt hli
        have hxn := ckN_lt rfl hs9.2
        have hI2 := lwI_adv hI1 hxn
        have hl : lv_has ls 2 [(0, .ref o)] := hl
        refine lv_istore_n (lv' := [(1, .int (nI s)), (0, .ref o)]) hx hb dX6_readsCompared_52 rfl hl (by decide) rfl (fun ls hl => ?_)
        refine lv_iload_n hx hb dX6_readsCompared_53 rfl (lv_at hl 0 rfl) ?_
        refine lv_iconst (v := (-1)) hx hb dX6_readsCompared_54 (by decide) ?_
        refine lv_icmp_ne (tgt := 68) hx hb dX6_readsCompared_55 (by decide) (fun c55 => ?_) (fun c55 => ?_)
        · refine lv_aload_n hx hb dX6_readsCompared_68 rfl (lv_at hl 1 rfl) ?_
          refine lv_aload_n hx hb dX6_readsCompared_69 rfl (lv_at hl 1 rfl) ?_
          refine M_get hC hK hP 12 (by decide) (fM12 _ _) q1213 dX6_readsCompared_70 ?_
          refine W_top (y := (nI r.2)) (by rw [lE_f12]) ?_
          refine lv_iconst (v := 1) hx hb dX6_readsCompared_73 (by decide) ?_
          refine lv_iadd hx hb dX6_readsCompared_74 ?_
          refine W_top (nI_add r.2 1) ?_
          refine M_put hC hK hD hP hS 12 (by decide) (sM12 _ _ _) q1213 rfl dX6_readsCompared_75 (fun H locs hP hS => ?_)
          rw [lE_V12] at hP
          refine lv_aload_n hx hb dX6_readsCompared_78 rfl (lv_at hl 1 rfl) ?_
          refine CMi.call hC hK hS (fun q h => h) hl (c_X6_readsSum G l o R (lE u (nI (r.2 + 1)) fa_3 nu_4 (nI o0) (nI (cs0 ++ r.1.1).length) (nI ws0.length) (u.1 19) (u.1 11) (nI n) (u.1 20) x_8 y_9 (u.2.1 23) (u.2.1 24) (u.2.1 25) (u.2.1 26) (u.2.1 27) (u.2.1 28) (u.2.1 29) (u.2.1 30) (u.2.1 31)) n (r.2 + 1) o0 (2 * n + 6) (cs0 ++ r.1.1) ws0 (mR (u.2.1 10) n ws0.length (2 * n + 6) true (cs0 ++ r.1.1) ws0 o0 (r.2 + 1)) (hI2) (rfl) (hn2) (rfl) (by omega) hD) hP rfl q1446 q1448 qs54 q116 q1449 mdX6_readsSum (room_ok hRm rfl) rfl rfl dX6_readsCompared_79 (fun r79 w79 H locs hpo hP _ _ hS => ?_)
          obtain ⟨ok_10, pl_11, fa_12, nu_13, op_14, cm_15, wa_16, x_17, y_18, f79_0, er79, ew79⟩ := hpo
          rw [ew79] at hP
          refine W_top (y := (bI ok_10)) er79 ?_
          rw [lE_again] at hP
          simp only [lE_f11, lE_f19, lE_f20, lE_g23, lE_g24, lE_g25, lE_g26, lE_g27, lE_g28, lE_g29, lE_g30, lE_g31] at hP
          refine lv_if_ne (tgt := 87) hx hb dX6_readsCompared_82 (by decide) (fun c82 => ?_) (fun c82 => ?_)
          · have c82 : ok_10 = true := bI_1.mp c82
            obtain ⟨r2, hr3, ⟨rfl, rfl, rfl, rfl⟩, hI3⟩ := smP_t2 f79_0 c82 hxn (by omega) ht
            obtain ⟨⟨_, hrl2⟩, hr4, hr5, _⟩ := sumE_seg hxn hr3
            obtain ⟨c3, hc3⟩ : ∃ c3, cs0 ++ r.1.1 ++ r2.1.1 = c3 := ⟨_, rfl⟩
            have hla2 : c3.length = cs0.length + r.1.1.length + r2.1.1.length := by rw [← hc3, List.length_append, List.length_append]
            rw [hc3] at hP hI3
            have hI6 := hI3
            obtain ⟨_, ⟨hcs3, hst3⟩, ⟨hl31, hl32, _, _, _⟩, _⟩ := hI6
            have hI4 := lwI_code (v := UN * s) hI3 (by omega)
            refine lv_aload_n hx hb dX6_readsCompared_87 rfl (lv_at hl 1 rfl) ?_
            refine lv_iload_n hx hb dX6_readsCompared_88 rfl (lv_at hl 0 rfl) ?_
            refine lv_iconst (v := 0) hx hb dX6_readsCompared_89 (by decide) ?_
            refine CMv.call hC hK hS (fun q h => h) hl (c_X6_notes G l o R (lE u (nI r2.2) fa_12 nu_13 (nI o0) (nI c3.length) (nI ws0.length) (u.1 19) (u.1 11) (nI n) (u.1 20) x_17 y_18 (u.2.1 23) (u.2.1 24) (u.2.1 25) (u.2.1 26) (u.2.1 27) (u.2.1 28) (u.2.1 29) (u.2.1 30) (u.2.1 31)) s 0 c3.length (rfl) (by omega) (by omega) (by decide) hD) hP rfl q1467 q1469 qs59 q116 q1470 mdX6_notes (room_ok hRm rfl) rfl rfl dX6_readsCompared_90 (fun w90 H locs hpo hP _ _ hS => ?_)
            have ew90 := hpo
            rw [ew90] at hP
            rw [lE_again] at hP
            simp only [lE_f11, lE_f12, lE_f13, lE_f14, lE_f15, lE_f16, lE_f18, lE_f19, lE_f20, lE_g21, lE_g22, lE_g23, lE_g24, lE_g25, lE_g26, lE_g27, lE_g28, lE_g29, lE_g30, lE_g31] at hP
            have hle4 : (c3 ++ [UN * s]).length = c3.length + 1 := by rw [List.length_append]; rfl
            have hI5 := hI4
            obtain ⟨_, ⟨hcs4, hst4⟩, ⟨hl41, hl42, _, _, _⟩, _⟩ := hI4
            rw [← hle4] at hP
            refine lv_aload_n hx hb dX6_readsCompared_93 rfl (lv_at hl 1 rfl) ?_
            refine CMv.call hC hK hS (fun q h => h) hl (c_X6_endsPiece G l o R (lE u (nI r2.2) fa_12 nu_13 (nI o0) (nI (c3 ++ [UN * s]).length) (nI ws0.length) (u.1 19) (u.1 11) (nI n) (u.1 20) (upd x_17 c3.length (nI (1048576 * s + 0))) y_18 (u.2.1 23) (u.2.1 24) (u.2.1 25) (u.2.1 26) (u.2.1 27) (u.2.1 28) (u.2.1 29) (u.2.1 30) (u.2.1 31)) o0 (c3 ++ [UN * s]) ws0 (rfl) (by omega) (by omega) (rfl) (hst4) (hcs4) (rfl) (hct) (ho6) hD) hP rfl q1497 q1499 qs65 q116 q1500 mdX6_endsPiece (room_ok hRm rfl) rfl rfl dX6_readsCompared_94 (fun w94 H locs hpo hP _ _ hS => ?_)
            obtain ⟨x_19, f94_0, ew94⟩ := hpo
            rw [ew94] at hP
            rw [lE_again] at hP
            simp only [lE_f11, lE_f12, lE_f13, lE_f14, lE_f15, lE_f19, lE_f20, lE_g22, lE_g23, lE_g24, lE_g25, lE_g26, lE_g27, lE_g28, lE_g29, lE_g30, lE_g31] at hP
            refine lv_iconst (v := 1) hx hb dX6_readsCompared_97 (by decide) ?_
            exact hq _ _ _ _ _ _ dX6_readsCompared_98 hP hS (by first | rfl | exact bI_nar _) (by exact ⟨true, _, _, _, _, _, _, _, _, cpP_ok (hR.trans (cmpW_3 hr hli hr3 (cs' := c3 ++ [UN * s]) (by rw [← hc3]; simp only [List.append_assoc]))) (lwI_en hI5 f94_0), rfl, rfl⟩)
          · have c82 : ok_10 = false := bI_0.mp c82
            obtain ⟨e0, hr3, hfa⟩ := smP_f2 f79_0 c82 hxn (by omega) ht
            refine lv_iconst (v := 0) hx hb dX6_readsCompared_85 (by decide) ?_
            exact hq _ _ _ _ _ _ dX6_readsCompared_86 hP hS (by first | rfl | exact bI_nar _) (by exact ⟨false, _, _, _, _, _, _, _, _, cpP_bad (hR.trans (cmpW_2 hr hli hr3)) hfa, rfl, rfl⟩)
        · exact absurd c55 (nI_neg (by omega) (by decide))
    refine lv_aload_n hx hb dX6_readsCompared_9 rfl (lv_at hl 0 rfl) ?_
    refine CI.callV hC hK hl (c_X6_here G l o R (lE u (nI r.2) fa_3 nu_4 (nI o0) (nI (cs0 ++ r.1.1).length) (nI ws0.length) (u.1 19) (u.1 11) (nI n) (u.1 20) x_8 y_9 (u.2.1 23) (u.2.1 24) (u.2.1 25) (u.2.1 26) (u.2.1 27) (u.2.1 28) (u.2.1 29) (u.2.1 30) (u.2.1 31)) r.2 n (rfl) (rfl) (hn2) (by omega)) hP (hP.recv hK) q1438 q1440 qs52 q116 q1441 mdX6_here (room_ok hRm rfl) rfl rfl dX6_readsCompared_10 ?_
    refine W_top (y := (hereI (u.2.1 10) n r.2)) (by simp only [lE_g10]) ?_
    refine lv_bipush (v := 60) hx hb dX6_readsCompared_13 (by decide) ?_
    refine lv_icmp_ne (tgt := 23) hx hb dX6_readsCompared_15 (by decide) (fun c15 => ?_) (fun c15 => ?_)
    · refine lv_aload_n hx hb dX6_readsCompared_23 rfl (lv_at hl 0 rfl) ?_
      refine CI.callV hC hK hl (c_X6_here G l o R (lE u (nI r.2) fa_3 nu_4 (nI o0) (nI (cs0 ++ r.1.1).length) (nI ws0.length) (u.1 19) (u.1 11) (nI n) (u.1 20) x_8 y_9 (u.2.1 23) (u.2.1 24) (u.2.1 25) (u.2.1 26) (u.2.1 27) (u.2.1 28) (u.2.1 29) (u.2.1 30) (u.2.1 31)) r.2 n (rfl) (rfl) (hn2) (by omega)) hP (hP.recv hK) q1438 q1440 qs52 q116 q1441 mdX6_here (room_ok hRm rfl) rfl rfl dX6_readsCompared_24 ?_
      refine W_top (y := (hereI (u.2.1 10) n r.2)) (by simp only [lE_g10]) ?_
      refine lv_bipush (v := 62) hx hb dX6_readsCompared_27 (by decide) ?_
      refine lv_icmp_ne (tgt := 37) hx hb dX6_readsCompared_29 (by decide) (fun c29 => ?_) (fun c29 => ?_)
      · refine lv_aload_n hx hb dX6_readsCompared_37 rfl (lv_at hl 0 rfl) ?_
        refine CI.callV hC hK hl (c_X6_here G l o R (lE u (nI r.2) fa_3 nu_4 (nI o0) (nI (cs0 ++ r.1.1).length) (nI ws0.length) (u.1 19) (u.1 11) (nI n) (u.1 20) x_8 y_9 (u.2.1 23) (u.2.1 24) (u.2.1 25) (u.2.1 26) (u.2.1 27) (u.2.1 28) (u.2.1 29) (u.2.1 30) (u.2.1 31)) r.2 n (rfl) (rfl) (hn2) (by omega)) hP (hP.recv hK) q1438 q1440 qs52 q116 q1441 mdX6_here (room_ok hRm rfl) rfl rfl dX6_readsCompared_38 ?_
        refine W_top (y := (hereI (u.2.1 10) n r.2)) (by simp only [lE_g10]) ?_
        refine lv_bipush (v := 61) hx hb dX6_readsCompared_41 (by decide) ?_
        refine lv_icmp_ne (tgt := 51) hx hb dX6_readsCompared_43 (by decide) (fun c43 => ?_) (fun c43 => ?_)
        · refine lv_iconst (v := (-1)) hx hb dX6_readsCompared_51 (by decide) ?_
          exact JN52 (-1) ls (by rw [← cmpI_ck]; unfold cmpI; simp [*])  (lv_sub hl [0] rfl)
        · refine lv_bipush (v := 9) hx hb dX6_readsCompared_46 (by decide) ?_
          refine lv_goto (tgt := 52) hx hb dX6_readsCompared_48 (by decide) ?_
          exact JN52 9 ls (by rw [← cmpI_ck]; unfold cmpI; simp [*])  (lv_sub hl [0] rfl)
      · refine lv_bipush (v := 8) hx hb dX6_readsCompared_32 (by decide) ?_
        refine lv_goto (tgt := 52) hx hb dX6_readsCompared_34 (by decide) ?_
        exact JN52 8 ls (by rw [← cmpI_ck]; unfold cmpI; simp [*])  (lv_sub hl [0] rfl)
    · refine lv_bipush (v := 7) hx hb dX6_readsCompared_18 (by decide) ?_
      refine lv_goto (tgt := 52) hx hb dX6_readsCompared_20 (by decide) ?_
      exact JN52 7 ls (by rw [← cmpI_ck]; unfold cmpI; simp [*])  (lv_sub hl [0] rfl)
  · have c4 : ok_1 = false := bI_0.mp c4
    obtain ⟨e0, hr, hfa⟩ := smP_f2 f1_0 c4 hpn (by omega) ht
    refine lv_iconst (v := 0) hx hb dX6_readsCompared_7 (by decide) ?_
    exact hq _ _ _ _ _ _ dX6_readsCompared_8 hP hS (by first | rfl | exact bI_nar _) (by exact ⟨false, _, _, _, _, _, _, _, _, cpP_bad (hR.trans (cmpW_1 hr)) hfa, rfl, rfl⟩)
