set_option maxRecDepth 100000
set_option maxHeartbeats 4000000 in
theorem c_X7_here (G : GG) (l : Launch) (o : Nat) (R : Nat → Nat) (tx : Nat) (u : MS) (p : Nat) (n : Nat) (hp : (u.1 143) = nI p) (hn : (u.1 141) = nI n) (hn2 : n ≤ 240) (hp2 : p ≤ 300) : CIs G l yX7_here cX7_here 1 .int 2 24 [.ref (R 140)] (PwQ G o R tx u) (nI (hzN (u.2.1 6) n p)) := by
  refine CIs.mk RX7 pnX7 rfl (rfl) (Nat.le_of_ble_eq_true rfl) (fun pg en Rm sg mm ar bw mth cd QQ ls hC hRm hK hX hl hq => ?_)
  have hx := hC.1; have hb := hC.2.1; have ho := hC.2.2.2.1; have hts := hC.2.2.2.2
  have hP : PwQ G o R tx u sg.heap := hX
  have hl : lv_has ls 1 [(0, .ref (R 140))] := hl
  refine lv_aload_n hx hb dX7_here_0 rfl (lv_at hl 0 rfl) ?_
  refine S_get (v := .int (u.1 143)) hC hK hP (oQ_rd _ _ _ _ _) clX7 in_X7 2 (by decide) (fD143 _ _ _ _) q399 dX7_here_1 ?_
  refine W_top hp ?_
  refine lv_aload_n hx hb dX7_here_4 rfl (lv_at hl 0 rfl) ?_
  refine S_get (v := .int (u.1 141)) hC hK hP (oQ_rd _ _ _ _ _) clX7 in_X7 0 (by decide) (fD141 _ _ _ _) q396 dX7_here_5 ?_
  refine W_top hn ?_
  refine lv_icmp_ge (tgt := 30) hx hb dX7_here_8 (by decide) (fun c8 => ?_) (fun c8 => ?_)
  · have c8 : n ≤ p := (nI_leI (a := n) (b := p) (by omega) (by omega)).mp c8
    refine lv_iconst (v := 0) hx hb dX7_here_30 (by decide) ?_
    exact hq _ _ _ dX7_here_31 (by first | (rw [hzN_t (by omega)]; exact pk_and _ 8 (by decide)) | (rw [hzN_f (by omega)]; rfl))
  · have c8 : ¬ (n ≤ p) := mt (nI_leI (a := n) (b := p) (by omega) (by omega)).mpr c8
    refine lv_aload_n hx hb dX7_here_11 rfl (lv_at hl 0 rfl) ?_
    refine S_get hC hK hP (oQ_rd _ _ _ _ _) clX7 in_X7 6 (by decide) (fD147 _ _ _ _) q403 dX7_here_12 ?_
    refine S_getN hC hK hP (oQ_main _ _ _ _ _) clX0 in_X0 6 (by decide) (fD6 _ _ _ _) nq300 dX7_here_15 ?_
    refine lv_aload_n hx hb dX7_here_18 rfl (lv_at hl 0 rfl) ?_
    refine S_get (v := .int (u.1 143)) hC hK hP (oQ_rd _ _ _ _ _) clX7 in_X7 2 (by decide) (fD143 _ _ _ _) q399 dX7_here_19 ?_
    refine W_top hp ?_
    refine S_bald hC hK hP (aQ6 _ _ _ _ _) (j := p) (by decide) (rfl) (by omega) dX7_here_22 ?_
    refine lv_sipush (v := 255) hx hb dX7_here_23 (by decide) ?_
    refine lv_iand hx hb dX7_here_26 ?_
    refine lv_goto (tgt := 31) hx hb dX7_here_27 (by decide) ?_
    exact hq _ _ _ dX7_here_31 (by first | (rw [hzN_t (by omega)]; exact pk_and _ 8 (by decide)) | (rw [hzN_f (by omega)]; rfl))
set_option maxHeartbeats 4000000 in
theorem c_X7_isGood (G : GG) (l : Launch) (o : Nat) (R : Nat → Nat) (tx : Nat) (u : MS) : CIs G l yX7_isGood cX7_isGood 1 .boolean 2 24 [.ref (R 140)] (PwQ G o R tx u) (bI (isGB (u.1 145))) := by
  refine CIs.mk RX7 pnX7 rfl (bI_nar _) (Nat.le_of_ble_eq_true rfl) (fun pg en Rm sg mm ar bw mth cd QQ ls hC hRm hK hX hl hq => ?_)
  have hx := hC.1; have hb := hC.2.1; have ho := hC.2.2.2.1; have hts := hC.2.2.2.2
  have hP : PwQ G o R tx u sg.heap := hX
  have hl : lv_has ls 1 [(0, .ref (R 140))] := hl
  refine lv_aload_n hx hb dX7_isGood_0 rfl (lv_at hl 0 rfl) ?_
  refine S_get (v := .int (u.1 145)) hC hK hP (oQ_rd _ _ _ _ _) clX7 in_X7 4 (by decide) (fD145 _ _ _ _) q401 dX7_isGood_1 ?_
  refine lv_if_ne (tgt := 11) hx hb dX7_isGood_4 (by decide) (fun c4 => ?_) (fun c4 => ?_)
  · refine lv_iconst (v := 0) hx hb dX7_isGood_11 (by decide) ?_
    exact hq _ _ _ dX7_isGood_12 (by simp [isGB, bI, *])
  · refine lv_iconst (v := 1) hx hb dX7_isGood_7 (by decide) ?_
    refine lv_goto (tgt := 12) hx hb dX7_isGood_8 (by decide) ?_
    exact hq _ _ _ dX7_isGood_12 (by simp [isGB, bI, *])
set_option maxHeartbeats 4000000 in
theorem c_X7_bad (G : GG) (l : Launch) (o : Nat) (R : Nat → Nat) (tx : Nat) (u : MS) (k : Int32) (q : Int32) (hf : (u.1 145) = 0) (hD : DwQ o R) : CXv G l (PwQ G o R tx) (AwQ o R) yX7_bad cX7_bad 3 2 24 0 0 [.ref (R 140), .int k, .int q] (PwQ G o R tx u) (fun w => w = (qE u (u.1 143) (u.1 144) k q)) := by
  refine CXv.mk RX7 pnX7 rfl (Nat.le_of_ble_eq_true rfl) (fun pg en Rm sg mm ar bw mth cd QQ ls hC hRm hK hX hS hl hq => ?_)
  have hx := hC.1; have hb := hC.2.1; have ho := hC.2.2.2.1; have hts := hC.2.2.2.2
  have hP : PwQ G o R tx u sg.heap := hX
  have hl : lv_has ls 3 [(0, .ref (R 140)), (1, .int k), (2, .int q)] := hl
  have hP : PwQ G o R tx (qE u (u.1 143) (u.1 144) (u.1 145) (u.1 146)) sg.heap := by rw [qE_self]; exact hP
  rw [hf] at hP
  refine lv_aload_n hx hb dX7_bad_0 rfl (lv_at hl 0 rfl) ?_
  refine S_get hC hK hP (oQ_rd _ _ _ _ _) clX7 in_X7 4 (by decide) (fD145 _ _ _ _) q401 dX7_bad_1 ?_
  refine W_top (y := 0) (by rw [qE_f145]) ?_
  refine lv_if_le (tgt := 8) hx hb dX7_bad_4 (by decide) (fun c4 => ?_) (fun c4 => ?_)
  · refine lv_aload_n hx hb dX7_bad_8 rfl (lv_at hl 0 rfl) ?_
    refine lv_iload_n hx hb dX7_bad_9 rfl (lv_at hl 1 rfl) ?_
    refine S_put hC hK hP (hD _ _ _) hS (oQ_rd _ _ _ _ _) clX7 in_X7 tyX7_ok nmX7 4 (by decide) (pQ145 _ _ _ _ _ _) q401 rfl rfl rfl rfl (Nat.le_of_ble_eq_true rfl) dX7_bad_10 (fun H locs hP hS => ?_)
    rw [qE_V145] at hP
    refine lv_aload_n hx hb dX7_bad_13 rfl (lv_at hl 0 rfl) ?_
    refine lv_iload_n hx hb dX7_bad_14 rfl (lv_at hl 2 rfl) ?_
    refine S_put hC hK hP (hD _ _ _) hS (oQ_rd _ _ _ _ _) clX7 in_X7 tyX7_ok nmX7 5 (by decide) (pQ146 _ _ _ _ _ _) q402 rfl rfl rfl rfl (Nat.le_of_ble_eq_true rfl) dX7_bad_15 (fun H locs hP hS => ?_)
    rw [qE_V146] at hP
    exact hq _ _ _ _ _ _ _ dX7_bad_18 hP hS (by exact rfl) (by decide) (by decide)
  · exact absurd c4 (by decide)
set_option maxHeartbeats 4000000 in
theorem c_X7_seesDigit (G : GG) (l : Launch) (o : Nat) (R : Nat → Nat) (tx : Nat) (u : MS) (p : Nat) (n : Nat) (hp : (u.1 143) = nI p) (hn : (u.1 141) = nI n) (hn2 : n ≤ 240) (hp2 : p ≤ 300) : CIs G l yX7_seesDigit cX7_seesDigit 1 .boolean 3 44 [.ref (R 140)] (PwQ G o R tx u) (bI (digB (u.2.1 6) n p)) := by
  refine CIs.mk RX7 pnX7 rfl (bI_nar _) (Nat.le_of_ble_eq_true rfl) (fun pg en Rm sg mm ar bw mth cd QQ ls hC hRm hK hX hl hq => ?_)
  have hx := hC.1; have hb := hC.2.1; have ho := hC.2.2.2.1; have hts := hC.2.2.2.2
  have hP : PwQ G o R tx u sg.heap := hX
  have hl : lv_has ls 1 [(0, .ref (R 140))] := hl
  refine lv_aload_n hx hb dX7_seesDigit_0 rfl (lv_at hl 0 rfl) ?_
  refine CIs.go (rcV hC hl (c_X7_here G l o R tx u p n (by first | assumption | omega | rfl | (simp_all; done)) (by first | assumption | omega | rfl | (simp_all; done)) (by first | assumption | omega | rfl | (simp_all; done)) (by first | assumption | omega | rfl | (simp_all; done))) hK hP (va_recv hK.1 hP clX7 (oQ_rd _ _ _ _ _)) q431 q433 qs3 q117 q434 mdX7_here (room_s hRm rfl) rfl rfl dX7_seesDigit_1) ?_
  refine lv_bipush (v := 48) hx hb dX7_seesDigit_4 (by decide) ?_
  refine lv_icmp_lt (tgt := 22) hx hb dX7_seesDigit_6 (by decide) (fun c6 => ?_) (fun c6 => ?_)
  · have c6 : (hzN (u.2.1 6) n p) < 48 := (nI_ltI (a := (hzN (u.2.1 6) n p)) (b := 48) (by first | omega | exact hzN_b _ _ _) (by first | omega | exact hzN_b _ _ _)).mp c6
    refine lv_iconst (v := 0) hx hb dX7_seesDigit_22 (by decide) ?_
    exact hq _ _ _ dX7_seesDigit_23 (by rw [digB_hz]; first | (rw [decide_eq_true (by omega), decide_eq_true (by omega)]; rfl) | (rw [decide_eq_false (p := 48 ≤ hzN _ _ _) (by omega)]; rfl) | (rw [decide_eq_false (p := hzN _ _ _ ≤ 57) (by omega), Bool.and_false]; rfl))
  · have c6 : ¬ ((hzN (u.2.1 6) n p) < 48) := mt (nI_ltI (a := (hzN (u.2.1 6) n p)) (b := 48) (by first | omega | exact hzN_b _ _ _) (by first | omega | exact hzN_b _ _ _)).mpr c6
    refine lv_aload_n hx hb dX7_seesDigit_9 rfl (lv_at hl 0 rfl) ?_
    refine CIs.go (rcV hC hl (c_X7_here G l o R tx u p n (by first | assumption | omega | rfl | (simp_all; done)) (by first | assumption | omega | rfl | (simp_all; done)) (by first | assumption | omega | rfl | (simp_all; done)) (by first | assumption | omega | rfl | (simp_all; done))) hK hP (va_recv hK.1 hP clX7 (oQ_rd _ _ _ _ _)) q431 q433 qs3 q117 q434 mdX7_here (room_s hRm rfl) rfl rfl dX7_seesDigit_10) ?_
    refine lv_bipush (v := 57) hx hb dX7_seesDigit_13 (by decide) ?_
    refine lv_icmp_gt (tgt := 22) hx hb dX7_seesDigit_15 (by decide) (fun c15 => ?_) (fun c15 => ?_)
    · have c15 : 57 < (hzN (u.2.1 6) n p) := (nI_ltI (a := 57) (b := (hzN (u.2.1 6) n p)) (by first | omega | exact hzN_b _ _ _) (by first | omega | exact hzN_b _ _ _)).mp c15
      refine lv_iconst (v := 0) hx hb dX7_seesDigit_22 (by decide) ?_
      exact hq _ _ _ dX7_seesDigit_23 (by rw [digB_hz]; first | (rw [decide_eq_true (by omega), decide_eq_true (by omega)]; rfl) | (rw [decide_eq_false (p := 48 ≤ hzN _ _ _) (by omega)]; rfl) | (rw [decide_eq_false (p := hzN _ _ _ ≤ 57) (by omega), Bool.and_false]; rfl))
    · have c15 : ¬ (57 < (hzN (u.2.1 6) n p)) := mt (nI_ltI (a := 57) (b := (hzN (u.2.1 6) n p)) (by first | omega | exact hzN_b _ _ _) (by first | omega | exact hzN_b _ _ _)).mpr c15
      refine lv_iconst (v := 1) hx hb dX7_seesDigit_18 (by decide) ?_
      refine lv_goto (tgt := 23) hx hb dX7_seesDigit_19 (by decide) ?_
      exact hq _ _ _ dX7_seesDigit_23 (by rw [digB_hz]; first | (rw [decide_eq_true (by omega), decide_eq_true (by omega)]; rfl) | (rw [decide_eq_false (p := 48 ≤ hzN _ _ _) (by omega)]; rfl) | (rw [decide_eq_false (p := hzN _ _ _ ≤ 57) (by omega), Bool.and_false]; rfl))
set_option maxHeartbeats 4000000 in
theorem c_X7_number (G : GG) (l : Launch) (o : Nat) (R : Nat → Nat) (tx : Nat) (u : MS) (p : Nat) (n : Nat) (hp : (u.1 143) = nI p) (hn : (u.1 141) = nI n) (hn2 : n ≤ 240) (hpn : p ≤ n) (hf : (u.1 145) = 0) (hD : DwQ o R) : CXi G l (PwQ G o R tx) (AwQ o R) yX7_number cX7_number 3 .int 4 64 0 0 [.ref (R 140)] (PwQ G o R tx u) (fun r w => ∃ r0 : Int32, ∃ at9 : Int32, ∃ ft : Int32, ∃ pc : Int32, (nzPost (u.2.1 6) n p r0 at9 ft pc (u.1 146)) ∧ r = r0 ∧ w = (qE u at9 (u.1 144) ft pc)) := by
  refine CXi.mk RX7 pnX7 rfl (Nat.le_of_ble_eq_true rfl) (fun pg en Rm sg mm ar bw mth cd QQ ls hC hRm hK hX hS hl hq => ?_)
  have hx := hC.1; have hb := hC.2.1; have ho := hC.2.2.2.1; have hts := hC.2.2.2.2
  have hP : PwQ G o R tx u sg.heap := hX
  have hl : lv_has ls 3 [(0, .ref (R 140))] := hl
  have hP : PwQ G o R tx (qE u (u.1 143) (u.1 144) (u.1 145) (u.1 146)) sg.heap := by rw [qE_self]; exact hP
  rw [hp, hf] at hP
  refine lv_aload_n hx hb dX7_number_0 rfl (lv_at hl 0 rfl) ?_
  refine S_get hC hK hP (oQ_rd _ _ _ _ _) clX7 in_X7 2 (by decide) (fD143 _ _ _ _) q399 dX7_number_1 ?_
  refine W_top (y := (nI p)) (by rw [qE_f143]) ?_
  refine lv_istore_n (lv' := [(1, .int (nI p)), (0, .ref (R 140))]) hx hb dX7_number_4 rfl hl (by decide) rfl (fun ls hl => ?_)
  refine lv_iconst (v := 0) hx hb dX7_number_5 (by decide) ?_
  refine lv_istore_n (lv' := [(2, .int 0), (1, .int (nI p)), (0, .ref (R 140))]) hx hb dX7_number_6 rfl hl (by decide) rfl (fun ls hl => ?_)
  have LP7 : ∀ (fu7 : Nat) (m : Nat) (q : Nat) (vi : Int32) (at9 : Int32) (ft : Int32) (pc : Int32) (H : Heap) (locs : List Loc) (ls : Array Slot), m < fu7 → nzI (u.2.1 6) n p m q vi at9 ft pc (u.1 146) → PwQ G o R tx (qE u at9 (u.1 144) ft pc) H → va_S (AwQ o R) sg.heap H locs → lv_has ls 3 [(0, .ref (R 140)), (1, .int (nI p)), (2, .int vi)] → W pg l en Rm sg mm ar bw mth cd H locs 0 0 QQ (F0 mm 7 ls []) := by
    intro fu7
    induction fu7 with
    | zero => intro m q vi at9 ft pc H locs ls hm7 hzi hP hS hl; exact absurd hm7 (Nat.not_lt_zero _)
    | succ fu7 ih7 =>
      intro m q vi at9 ft pc H locs ls hm7 hzi hP hS hl
      obtain ⟨⟨rfl, hqn⟩, ⟨rfl, rfl, b, v, rfl, rfl, hI, hqb, hv⟩ | ⟨rfl, rfl, hI⟩⟩ := hzi
      · have hl : lv_has ls 3 [(0, .ref (R 140)), (1, .int (nI p)), (2, .int (nI v))] := hl
        refine lv_aload_n hx hb dX7_number_7 rfl (lv_at hl 0 rfl) ?_
        refine CIs.go (rcV hC hl (c_X7_isGood G l o R tx (qE u (nI q) (u.1 144) 0 (u.1 146))  ) hK hP (va_recv hK.1 hP clX7 (oQ_rd _ _ _ _ _)) q423 q425 qs1 q117 q426 mdX7_isGood (room_s hRm rfl) rfl rfl dX7_number_8) ?_
        refine W_top (y := (bI (isGB 0))) (by simp only [qE_f145]) ?_
        refine W_top (y := 1) (by decide) ?_
        refine lv_if_eq (tgt := 66) hx hb dX7_number_11 (by decide) (fun c11 => ?_) (fun c11 => ?_)
        · exact absurd c11 (by decide)
        · refine lv_aload_n hx hb dX7_number_14 rfl (lv_at hl 0 rfl) ?_
          refine CIs.go (rcV hC hl (c_X7_seesDigit G l o R tx (qE u (nI q) (u.1 144) 0 (u.1 146)) q n (rfl) (hn) (hn2) (by omega)) hK hP (va_recv hK.1 hP clX7 (oQ_rd _ _ _ _ _)) q548 q550 qs10 q117 q551 mdX7_seesDigit (room_s hRm rfl) rfl rfl dX7_number_15) ?_
          refine W_top (y := (bI (digB (u.2.1 6) n q))) (by simp only [qE_g6]) ?_
          refine lv_if_eq (tgt := 66) hx hb dX7_number_18 (by decide) (fun c18 => ?_) (fun c18 => ?_)
          · have c18 : (digB (u.2.1 6) n q) = false := bI_0.mp c18
            refine lv_iload_n hx hb dX7_number_66 rfl (lv_at hl 2 rfl) ?_
            exact hq _ _ _ _ _ _ _ _ dX7_number_67 hP hS (rfl) (by exact ⟨_, _, _, _, nzP_r (v := (v, q)) (hI.symm.trans (nmL_e c18)) rfl rfl, rfl, rfl⟩) (by decide) (by decide)
          · have c18 : (digB (u.2.1 6) n q) = true := bI_1.mp c18
            refine lv_aload_n hx hb dX7_number_21 rfl (lv_at hl 0 rfl) ?_
            refine S_get hC hK hP (oQ_rd _ _ _ _ _) clX7 in_X7 2 (by decide) (fD143 _ _ _ _) q399 dX7_number_22 ?_
            refine W_top (y := (nI q)) (by rw [qE_f143]) ?_
            refine lv_iload_n hx hb dX7_number_25 rfl (lv_at hl 1 rfl) ?_
            refine lv_iconst (v := 5) hx hb dX7_number_26 (by decide) ?_
            refine lv_iadd hx hb dX7_number_27 ?_
            refine W_top (nI_add p 5) ?_
            refine lv_icmp_ne (tgt := 40) hx hb dX7_number_28 (by decide) (fun c28 => ?_) (fun c28 => ?_)
            · have c28 : ¬ (q = (p + 5)) := mt (nI_eq (a := q) (b := (p + 5)) (by first | omega | exact hzN_b _ _ _) (by first | omega | exact hzN_b _ _ _)).mpr c28
              have hd := digB_ck c18
              have hz := digB_hz2 c18
              have hv5 := nm_lt hv
              refine lv_bipush (v := 10) hx hb dX7_number_40 (by decide) ?_
              refine lv_iload_n hx hb dX7_number_42 rfl (lv_at hl 2 rfl) ?_
              refine lv_imul hx hb dX7_number_43 ?_
              refine W_top (pk_mul 10 v) ?_
              refine lv_aload_n hx hb dX7_number_44 rfl (lv_at hl 0 rfl) ?_
              refine CIs.go (rcV hC hl (c_X7_here G l o R tx (qE u (nI q) (u.1 144) 0 (u.1 146)) q n (rfl) (hn) (hn2) (by omega)) hK hP (va_recv hK.1 hP clX7 (oQ_rd _ _ _ _ _)) q431 q433 qs3 q117 q434 mdX7_here (room_s hRm rfl) rfl rfl dX7_number_45) ?_
              refine W_top (y := (nI (hzN (u.2.1 6) n q))) (by simp only [qE_g6]) ?_
              refine W_top (y := (nI (ocN (u.2.1 6) q))) (by rw [hz]) ?_
              refine lv_iadd hx hb dX7_number_48 ?_
              refine W_top (nI_add (10 * v) (ocN (u.2.1 6) q)) ?_
              refine lv_bipush (v := 48) hx hb dX7_number_49 (by decide) ?_
              refine lv_isub hx hb dX7_number_51 ?_
              refine W_top (y := (nI (10 * v + (ocN (u.2.1 6) q - 48)))) ((pk_sub (a := 10 * v + ocN (u.2.1 6) q) (b := 48) (by omega)).trans (by rw [Nat.add_sub_assoc hd.2.1])) ?_
              refine lv_istore_n (lv' := [(2, .int (nI (10 * v + (ocN (u.2.1 6) q - 48)))), (0, .ref (R 140)), (1, .int (nI p))]) hx hb dX7_number_52 rfl hl (by decide) rfl (fun ls hl => ?_)
              refine lv_aload_n hx hb dX7_number_53 rfl (lv_at hl 1 rfl) ?_
              refine lv_dup hx hb dX7_number_54 rfl ?_
              refine S_get hC hK hP (oQ_rd _ _ _ _ _) clX7 in_X7 2 (by decide) (fD143 _ _ _ _) q399 dX7_number_55 ?_
              refine W_top (y := (nI q)) (by rw [qE_f143]) ?_
              refine lv_iconst (v := 1) hx hb dX7_number_58 (by decide) ?_
              refine lv_iadd hx hb dX7_number_59 ?_
              refine W_top (nI_add q 1) ?_
              refine S_put hC hK hP (hD _ _ _) hS (oQ_rd _ _ _ _ _) clX7 in_X7 tyX7_ok nmX7 2 (by decide) (pQ143 _ _ _ _ _ _) q399 rfl rfl rfl rfl (Nat.le_of_ble_eq_true rfl) dX7_number_60 (fun H locs hP hS => ?_)
              rw [qE_V143] at hP
              refine lv_goto (tgt := 7) hx hb dX7_number_63 (by decide) ?_
              exact ih7 b (q + 1) (nI (10 * v + (ocN (u.2.1 6) q - 48))) (nI (q + 1)) 0 (u.1 146) _ _ ls (by omega) (⟨⟨rfl, by omega⟩, Or.inl ⟨rfl, rfl, b - 1, 10 * v + (ocN (u.2.1 6) q - 48), by omega, rfl, (nmL_s (by omega) c18).symm.trans hI, by omega, nm10 (by omega) (by omega) hv⟩⟩) hP hS (lv_sub hl [1, 2, 0] rfl)
            · have c28 : q = (p + 5) := (nI_eq (a := q) (b := (p + 5)) (by first | omega | exact hzN_b _ _ _) (by first | omega | exact hzN_b _ _ _)).mp c28
              refine lv_aload_n hx hb dX7_number_31 rfl (lv_at hl 0 rfl) ?_
              refine lv_iconst (v := 2) hx hb dX7_number_32 (by decide) ?_
              refine lv_aload_n hx hb dX7_number_33 rfl (lv_at hl 0 rfl) ?_
              refine S_get hC hK hP (oQ_rd _ _ _ _ _) clX7 in_X7 2 (by decide) (fD143 _ _ _ _) q399 dX7_number_34 ?_
              refine W_top (y := (nI q)) (by rw [qE_f143]) ?_
              refine CXv.go (rcV hC hl (c_X7_bad G l o R tx (qE u (nI q) (u.1 144) 0 (u.1 146)) 2 (nI q) (rfl) hD) hK hP (va_recv hK.1 hP clX7 (oQ_rd _ _ _ _ _)) q522 q524 qs4 q117 q525 mdX7_bad (room_s hRm rfl) rfl rfl dX7_number_37) hS (fun q h => h) (fun w37 H locs hpo hP _ _ hS => ?_)
              have ew37 := hpo
              rw [ew37] at hP
              rw [qE_again] at hP
              simp only [qE_f143, qE_f144] at hP
              have hd := digB_ck c18
              have hz := digB_hz2 c18
              have hv5 := nm_lt hv
              refine lv_bipush (v := 10) hx hb dX7_number_40 (by decide) ?_
              refine lv_iload_n hx hb dX7_number_42 rfl (lv_at hl 2 rfl) ?_
              refine lv_imul hx hb dX7_number_43 ?_
              refine W_top (pk_mul 10 v) ?_
              refine lv_aload_n hx hb dX7_number_44 rfl (lv_at hl 0 rfl) ?_
              refine CIs.go (rcV hC hl (c_X7_here G l o R tx (qE u (nI q) (u.1 144) 2 (nI q)) q n (rfl) (hn) (hn2) (by omega)) hK hP (va_recv hK.1 hP clX7 (oQ_rd _ _ _ _ _)) q431 q433 qs3 q117 q434 mdX7_here (room_s hRm rfl) rfl rfl dX7_number_45) ?_
              refine W_top (y := (nI (hzN (u.2.1 6) n q))) (by simp only [qE_g6]) ?_
              refine W_top (y := (nI (ocN (u.2.1 6) q))) (by rw [hz]) ?_
              refine lv_iadd hx hb dX7_number_48 ?_
              refine W_top (nI_add (10 * v) (ocN (u.2.1 6) q)) ?_
              refine lv_bipush (v := 48) hx hb dX7_number_49 (by decide) ?_
              refine lv_isub hx hb dX7_number_51 ?_
              refine W_top (y := (nI (10 * v + (ocN (u.2.1 6) q - 48)))) ((pk_sub (a := 10 * v + ocN (u.2.1 6) q) (b := 48) (by omega)).trans (by rw [Nat.add_sub_assoc hd.2.1])) ?_
              refine lv_istore_n (lv' := [(2, .int (nI (10 * v + (ocN (u.2.1 6) q - 48)))), (0, .ref (R 140)), (1, .int (nI p))]) hx hb dX7_number_52 rfl hl (by decide) rfl (fun ls hl => ?_)
              refine lv_aload_n hx hb dX7_number_53 rfl (lv_at hl 1 rfl) ?_
              refine lv_dup hx hb dX7_number_54 rfl ?_
              refine S_get hC hK hP (oQ_rd _ _ _ _ _) clX7 in_X7 2 (by decide) (fD143 _ _ _ _) q399 dX7_number_55 ?_
              refine W_top (y := (nI q)) (by rw [qE_f143]) ?_
              refine lv_iconst (v := 1) hx hb dX7_number_58 (by decide) ?_
              refine lv_iadd hx hb dX7_number_59 ?_
              refine W_top (nI_add q 1) ?_
              refine S_put hC hK hP (hD _ _ _) hS (oQ_rd _ _ _ _ _) clX7 in_X7 tyX7_ok nmX7 2 (by decide) (pQ143 _ _ _ _ _ _) q399 rfl rfl rfl rfl (Nat.le_of_ble_eq_true rfl) dX7_number_60 (fun H locs hP hS => ?_)
              rw [qE_V143] at hP
              refine lv_goto (tgt := 7) hx hb dX7_number_63 (by decide) ?_
              exact ih7 0 (q + 1) (nI (10 * v + (ocN (u.2.1 6) q - 48))) (nI (q + 1)) 2 (nI q) _ _ ls (by omega) (⟨⟨rfl, by omega⟩, Or.inr ⟨rfl, by rw [show q = p + 5 by omega], by rw [← hI, show b = 0 by omega] ; rw [show q = p + 5 by omega] at c18 ⊢; exact nmL_0 c18⟩⟩) hP hS (lv_sub hl [1, 2, 0] rfl)
      · have hl : lv_has ls 3 [(0, .ref (R 140)), (1, .int (nI p)), (2, .int vi)] := hl
        refine lv_aload_n hx hb dX7_number_7 rfl (lv_at hl 0 rfl) ?_
        refine CIs.go (rcV hC hl (c_X7_isGood G l o R tx (qE u (nI q) (u.1 144) 2 (nI (p + 5)))  ) hK hP (va_recv hK.1 hP clX7 (oQ_rd _ _ _ _ _)) q423 q425 qs1 q117 q426 mdX7_isGood (room_s hRm rfl) rfl rfl dX7_number_8) ?_
        refine W_top (y := (bI (isGB 2))) (by simp only [qE_f145]) ?_
        refine W_top (y := 0) (by decide) ?_
        refine lv_if_eq (tgt := 66) hx hb dX7_number_11 (by decide) (fun c11 => ?_) (fun c11 => ?_)
        · refine lv_iload_n hx hb dX7_number_66 rfl (lv_at hl 2 rfl) ?_
          exact hq _ _ _ _ _ _ _ _ dX7_number_67 hP hS (rfl) (by exact ⟨_, _, _, _, nzP_l (q := q) hI rfl rfl rfl hqn, rfl, rfl⟩) (by decide) (by decide)
        · exact absurd c11 (by decide)
  exact LP7 _ 6 p 0 (nI p) 0 (u.1 146) _ _ ls (Nat.lt_succ_self _) (⟨⟨rfl, hpn⟩, Or.inl ⟨rfl, rfl, 5, 0, rfl, rfl, rfl, rfl, by decide⟩⟩) hP hS (lv_sub hl [2, 1, 0] rfl)
set_option maxHeartbeats 4000000 in
theorem c_X7_must (G : GG) (l : Launch) (o : Nat) (R : Nat → Nat) (tx : Nat) (u : MS) (c0 : Nat) (p : Nat) (n : Nat) (hp : (u.1 143) = nI p) (hn : (u.1 141) = nI n) (hn2 : n ≤ 240) (hp2 : p ≤ 300) (hf : (u.1 145) = 0) (hc0 : 0 < c0) (hc1 : c0 < 256) (hD : DwQ o R) : CXv G l (PwQ G o R tx) (AwQ o R) yX7_must cX7_must 2 3 46 0 0 [.ref (R 140), .int (nI c0)] (PwQ G o R tx u) (fun w => ∃ ft : Int32, ∃ pc : Int32, (if ckN (u.2.1 6) n p = c0 then ft = 0 ∧ pc = (u.1 146) else ft = 1 ∧ pc = nI p) ∧ w = (qE u (nI (p + 1)) (u.1 144) ft pc)) := by
  refine CXv.mk RX7 pnX7 rfl (Nat.le_of_ble_eq_true rfl) (fun pg en Rm sg mm ar bw mth cd QQ ls hC hRm hK hX hS hl hq => ?_)
  have hx := hC.1; have hb := hC.2.1; have ho := hC.2.2.2.1; have hts := hC.2.2.2.2
  have hP : PwQ G o R tx u sg.heap := hX
  have hl : lv_has ls 2 [(0, .ref (R 140)), (1, .int (nI c0))] := hl
  have hP : PwQ G o R tx (qE u (u.1 143) (u.1 144) (u.1 145) (u.1 146)) sg.heap := by rw [qE_self]; exact hP
  rw [hp, hf] at hP
  refine lv_aload_n hx hb dX7_must_0 rfl (lv_at hl 0 rfl) ?_
  refine CIs.go (rcV hC hl (c_X7_here G l o R tx (qE u (nI p) (u.1 144) 0 (u.1 146)) p n (rfl) (hn) (hn2) (by omega)) hK hP (va_recv hK.1 hP clX7 (oQ_rd _ _ _ _ _)) q431 q433 qs3 q117 q434 mdX7_here (room_s hRm rfl) rfl rfl dX7_must_1) ?_
  refine W_top (y := (nI (hzN (u.2.1 6) n p))) (by simp only [qE_g6]) ?_
  refine lv_iload_n hx hb dX7_must_4 rfl (lv_at hl 1 rfl) ?_
  refine lv_icmp_eq (tgt := 17) hx hb dX7_must_5 (by decide) (fun c5 => ?_) (fun c5 => ?_)
  · have c5 : (hzN (u.2.1 6) n p) = c0 := (nI_eq (a := (hzN (u.2.1 6) n p)) (b := c0) (by first | omega | exact hzN_b _ _ _) (by first | omega | exact hzN_b _ _ _)).mp c5
    refine lv_aload_n hx hb dX7_must_17 rfl (lv_at hl 0 rfl) ?_
    refine lv_dup hx hb dX7_must_18 rfl ?_
    refine S_get hC hK hP (oQ_rd _ _ _ _ _) clX7 in_X7 2 (by decide) (fD143 _ _ _ _) q399 dX7_must_19 ?_
    refine W_top (y := (nI p)) (by rw [qE_f143]) ?_
    refine lv_iconst (v := 1) hx hb dX7_must_22 (by decide) ?_
    refine lv_iadd hx hb dX7_must_23 ?_
    refine W_top (nI_add p 1) ?_
    refine S_put hC hK hP (hD _ _ _) hS (oQ_rd _ _ _ _ _) clX7 in_X7 tyX7_ok nmX7 2 (by decide) (pQ143 _ _ _ _ _ _) q399 rfl rfl rfl rfl (Nat.le_of_ble_eq_true rfl) dX7_must_24 (fun H locs hP hS => ?_)
    rw [qE_V143] at hP
    exact hq _ _ _ _ _ _ _ dX7_must_27 hP hS (by first | exact ⟨0, _, by rw [if_pos ((hz_ck hc0 hc1).mp c5)]; exact ⟨rfl, rfl⟩, rfl⟩ | exact ⟨1, _, by rw [if_neg (mt (hz_ck hc0 hc1).mpr c5)]; exact ⟨rfl, rfl⟩, rfl⟩) (by decide) (by decide)
  · have c5 : ¬ ((hzN (u.2.1 6) n p) = c0) := mt (nI_eq (a := (hzN (u.2.1 6) n p)) (b := c0) (by first | omega | exact hzN_b _ _ _) (by first | omega | exact hzN_b _ _ _)).mpr c5
    refine lv_aload_n hx hb dX7_must_8 rfl (lv_at hl 0 rfl) ?_
    refine lv_iconst (v := 1) hx hb dX7_must_9 (by decide) ?_
    refine lv_aload_n hx hb dX7_must_10 rfl (lv_at hl 0 rfl) ?_
    refine S_get hC hK hP (oQ_rd _ _ _ _ _) clX7 in_X7 2 (by decide) (fD143 _ _ _ _) q399 dX7_must_11 ?_
    refine W_top (y := (nI p)) (by rw [qE_f143]) ?_
    refine CXv.go (rcV hC hl (c_X7_bad G l o R tx (qE u (nI p) (u.1 144) 0 (u.1 146)) 1 (nI p) (rfl) hD) hK hP (va_recv hK.1 hP clX7 (oQ_rd _ _ _ _ _)) q522 q524 qs4 q117 q525 mdX7_bad (room_s hRm rfl) rfl rfl dX7_must_14) hS (fun q h => h) (fun w14 H locs hpo hP _ _ hS => ?_)
    have ew14 := hpo
    rw [ew14] at hP
    rw [qE_again] at hP
    simp only [qE_f143, qE_f144] at hP
    refine lv_aload_n hx hb dX7_must_17 rfl (lv_at hl 0 rfl) ?_
    refine lv_dup hx hb dX7_must_18 rfl ?_
    refine S_get hC hK hP (oQ_rd _ _ _ _ _) clX7 in_X7 2 (by decide) (fD143 _ _ _ _) q399 dX7_must_19 ?_
    refine W_top (y := (nI p)) (by rw [qE_f143]) ?_
    refine lv_iconst (v := 1) hx hb dX7_must_22 (by decide) ?_
    refine lv_iadd hx hb dX7_must_23 ?_
    refine W_top (nI_add p 1) ?_
    refine S_put hC hK hP (hD _ _ _) hS (oQ_rd _ _ _ _ _) clX7 in_X7 tyX7_ok nmX7 2 (by decide) (pQ143 _ _ _ _ _ _) q399 rfl rfl rfl rfl (Nat.le_of_ble_eq_true rfl) dX7_must_24 (fun H locs hP hS => ?_)
    rw [qE_V143] at hP
    exact hq _ _ _ _ _ _ _ dX7_must_27 hP hS (by first | exact ⟨0, _, by rw [if_pos ((hz_ck hc0 hc1).mp c5)]; exact ⟨rfl, rfl⟩, rfl⟩ | exact ⟨1, _, by rw [if_neg (mt (hz_ck hc0 hc1).mpr c5)]; exact ⟨rfl, rfl⟩, rfl⟩) (by decide) (by decide)
set_option maxHeartbeats 4000000 in
theorem c_X7_opens (G : GG) (l : Launch) (o : Nat) (R : Nat → Nat) (tx : Nat) (u : MS) (op : Nat) (p : Nat) (hp : (u.1 143) = nI p) (hp2 : p ≤ 300) (hf : (u.1 145) = 0) (ho1 : (u.1 144) = nI op) (ho2 : op ≤ 6) (hD : DwQ o R) : CXv G l (PwQ G o R tx) (AwQ o R) yX7_opens cX7_opens 1 3 46 0 0 [.ref (R 140)] (PwQ G o R tx u) (fun w => ∃ ft : Int32, ∃ pc : Int32, (if op = 6 then ft = 5 ∧ pc = nI p else ft = 0 ∧ pc = (u.1 146)) ∧ w = (qE u (nI (p + 1)) (nI (op + 1)) ft pc)) := by
  refine CXv.mk RX7 pnX7 rfl (Nat.le_of_ble_eq_true rfl) (fun pg en Rm sg mm ar bw mth cd QQ ls hC hRm hK hX hS hl hq => ?_)
  have hx := hC.1; have hb := hC.2.1; have ho := hC.2.2.2.1; have hts := hC.2.2.2.2
  have hP : PwQ G o R tx u sg.heap := hX
  have hl : lv_has ls 1 [(0, .ref (R 140))] := hl
  have hP : PwQ G o R tx (qE u (u.1 143) (u.1 144) (u.1 145) (u.1 146)) sg.heap := by rw [qE_self]; exact hP
  rw [hp, hf, ho1] at hP
  refine lv_aload_n hx hb dX7_opens_0 rfl (lv_at hl 0 rfl) ?_
  refine S_get hC hK hP (oQ_rd _ _ _ _ _) clX7 in_X7 3 (by decide) (fD144 _ _ _ _) q400 dX7_opens_1 ?_
  refine W_top (y := (nI op)) (by rw [qE_f144]) ?_
  refine lv_bipush (v := 6) hx hb dX7_opens_4 (by decide) ?_
  refine lv_icmp_ne (tgt := 18) hx hb dX7_opens_6 (by decide) (fun c6 => ?_) (fun c6 => ?_)
  · have c6 : ¬ (op = 6) := mt (nI_eq (a := op) (b := 6) (by omega) (by omega)).mpr c6
    refine lv_aload_n hx hb dX7_opens_18 rfl (lv_at hl 0 rfl) ?_
    refine lv_dup hx hb dX7_opens_19 rfl ?_
    refine S_get hC hK hP (oQ_rd _ _ _ _ _) clX7 in_X7 3 (by decide) (fD144 _ _ _ _) q400 dX7_opens_20 ?_
    refine W_top (y := (nI op)) (by rw [qE_f144]) ?_
    refine lv_iconst (v := 1) hx hb dX7_opens_23 (by decide) ?_
    refine lv_iadd hx hb dX7_opens_24 ?_
    refine W_top (nI_add op 1) ?_
    refine S_put hC hK hP (hD _ _ _) hS (oQ_rd _ _ _ _ _) clX7 in_X7 tyX7_ok nmX7 3 (by decide) (pQ144 _ _ _ _ _ _) q400 rfl rfl rfl rfl (Nat.le_of_ble_eq_true rfl) dX7_opens_25 (fun H locs hP hS => ?_)
    rw [qE_V144] at hP
    refine lv_aload_n hx hb dX7_opens_28 rfl (lv_at hl 0 rfl) ?_
    refine lv_dup hx hb dX7_opens_29 rfl ?_
    refine S_get hC hK hP (oQ_rd _ _ _ _ _) clX7 in_X7 2 (by decide) (fD143 _ _ _ _) q399 dX7_opens_30 ?_
    refine W_top (y := (nI p)) (by rw [qE_f143]) ?_
    refine lv_iconst (v := 1) hx hb dX7_opens_33 (by decide) ?_
    refine lv_iadd hx hb dX7_opens_34 ?_
    refine W_top (nI_add p 1) ?_
    refine S_put hC hK hP (hD _ _ _) hS (oQ_rd _ _ _ _ _) clX7 in_X7 tyX7_ok nmX7 2 (by decide) (pQ143 _ _ _ _ _ _) q399 rfl rfl rfl rfl (Nat.le_of_ble_eq_true rfl) dX7_opens_35 (fun H locs hP hS => ?_)
    rw [qE_V143] at hP
    exact hq _ _ _ _ _ _ _ dX7_opens_38 hP hS (by first | exact ⟨5, _, by rw [if_pos c6]; exact ⟨rfl, rfl⟩, rfl⟩ | exact ⟨0, _, by rw [if_neg c6]; exact ⟨rfl, rfl⟩, rfl⟩) (by decide) (by decide)
  · have c6 : op = 6 := (nI_eq (a := op) (b := 6) (by omega) (by omega)).mp c6
    refine lv_aload_n hx hb dX7_opens_9 rfl (lv_at hl 0 rfl) ?_
    refine lv_iconst (v := 5) hx hb dX7_opens_10 (by decide) ?_
    refine lv_aload_n hx hb dX7_opens_11 rfl (lv_at hl 0 rfl) ?_
    refine S_get hC hK hP (oQ_rd _ _ _ _ _) clX7 in_X7 2 (by decide) (fD143 _ _ _ _) q399 dX7_opens_12 ?_
    refine W_top (y := (nI p)) (by rw [qE_f143]) ?_
    refine CXv.go (rcV hC hl (c_X7_bad G l o R tx (qE u (nI p) (nI op) 0 (u.1 146)) 5 (nI p) (rfl) hD) hK hP (va_recv hK.1 hP clX7 (oQ_rd _ _ _ _ _)) q522 q524 qs4 q117 q525 mdX7_bad (room_s hRm rfl) rfl rfl dX7_opens_15) hS (fun q h => h) (fun w15 H locs hpo hP _ _ hS => ?_)
    have ew15 := hpo
    rw [ew15] at hP
    rw [qE_again] at hP
    simp only [qE_f143, qE_f144] at hP
    refine lv_aload_n hx hb dX7_opens_18 rfl (lv_at hl 0 rfl) ?_
    refine lv_dup hx hb dX7_opens_19 rfl ?_
    refine S_get hC hK hP (oQ_rd _ _ _ _ _) clX7 in_X7 3 (by decide) (fD144 _ _ _ _) q400 dX7_opens_20 ?_
    refine W_top (y := (nI op)) (by rw [qE_f144]) ?_
    refine lv_iconst (v := 1) hx hb dX7_opens_23 (by decide) ?_
    refine lv_iadd hx hb dX7_opens_24 ?_
    refine W_top (nI_add op 1) ?_
    refine S_put hC hK hP (hD _ _ _) hS (oQ_rd _ _ _ _ _) clX7 in_X7 tyX7_ok nmX7 3 (by decide) (pQ144 _ _ _ _ _ _) q400 rfl rfl rfl rfl (Nat.le_of_ble_eq_true rfl) dX7_opens_25 (fun H locs hP hS => ?_)
    rw [qE_V144] at hP
    refine lv_aload_n hx hb dX7_opens_28 rfl (lv_at hl 0 rfl) ?_
    refine lv_dup hx hb dX7_opens_29 rfl ?_
    refine S_get hC hK hP (oQ_rd _ _ _ _ _) clX7 in_X7 2 (by decide) (fD143 _ _ _ _) q399 dX7_opens_30 ?_
    refine W_top (y := (nI p)) (by rw [qE_f143]) ?_
    refine lv_iconst (v := 1) hx hb dX7_opens_33 (by decide) ?_
    refine lv_iadd hx hb dX7_opens_34 ?_
    refine W_top (nI_add p 1) ?_
    refine S_put hC hK hP (hD _ _ _) hS (oQ_rd _ _ _ _ _) clX7 in_X7 tyX7_ok nmX7 2 (by decide) (pQ143 _ _ _ _ _ _) q399 rfl rfl rfl rfl (Nat.le_of_ble_eq_true rfl) dX7_opens_35 (fun H locs hP hS => ?_)
    rw [qE_V143] at hP
    exact hq _ _ _ _ _ _ _ dX7_opens_38 hP hS (by first | exact ⟨5, _, by rw [if_pos c6]; exact ⟨rfl, rfl⟩, rfl⟩ | exact ⟨0, _, by rw [if_neg c6]; exact ⟨rfl, rfl⟩, rfl⟩) (by decide) (by decide)
