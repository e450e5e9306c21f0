set_option maxRecDepth 100000
set_option maxHeartbeats 4000000 in
theorem c_X6_orNone (G : GG) (l : Launch) (v : Int32) : CI G l yX6_orNone cX6_orNone 1 .int 2 16 [.int v] (fun _ => True) (orNoneS v) := by
  refine CI.mk RX6 pnX6 rfl (rfl) (Nat.le_of_ble_eq_true rfl) (fun pg en Rm sg mm ar bw mth cd QQ ls hC hRm hK hP hl hq => ?_)
  have hx := hC.1; have hb := hC.2.1; have ho := hC.2.2.2.1; have hts := hC.2.2.2.2
  have hl : lv_has ls 1 [(0, .int v)] := hl
  refine lv_iload_n hx hb dX6_orNone_0 rfl (lv_at hl 0 rfl) ?_
  refine lv_iconst (v := (-1)) hx hb dX6_orNone_1 (by decide) ?_
  refine lv_icmp_ne (tgt := 10) hx hb dX6_orNone_2 (by decide) (fun c2 => ?_) (fun c2 => ?_)
  · refine lv_iload_n hx hb dX6_orNone_10 rfl (lv_at hl 0 rfl) ?_
    exact hq _ _ _ dX6_orNone_11 (by grind [orNoneS])
  · refine lv_bipush (v := (-2)) hx hb dX6_orNone_5 (by decide) ?_
    refine lv_goto (tgt := 11) hx hb dX6_orNone_7 (by decide) ?_
    exact hq _ _ _ dX6_orNone_11 (by grind [orNoneS])
set_option maxHeartbeats 4000000 in
theorem c_X6_sees (G : GG) (l : Launch) (o : Nat) (R : Nat → Nat) (u : MS) (h : Int32) (t : Int32) : CI G l yX6_sees cX6_sees 3 .int 5 88 [.ref o, .int h, .int t] (PM G o R u) (seesI (u.1 8) (snS (u.1 9) (u.2.1 5) (u.2.1 6) (u.2.1 7) (u.2.1 4)) h t) := by
  refine CI.mk RX6 pnX6 rfl (rfl) (Nat.le_of_ble_eq_true rfl) (fun pg en Rm sg mm ar bw mth cd QQ ls hC hRm hK hP hl hq => ?_)
  have hx := hC.1; have hb := hC.2.1; have ho := hC.2.2.2.1; have hts := hC.2.2.2.2
  have hl : lv_has ls 3 [(0, .ref o), (1, .int h), (2, .int t)] := hl
  refine lv_aload_n hx hb dX6_sees_0 rfl (lv_at hl 0 rfl) ?_
  refine lv_iload_n hx hb dX6_sees_1 rfl (lv_at hl 1 rfl) ?_
  refine CI.callV hC hK hl (c_X6_isHouse G l o R u h ) hP (hP.recv hK) q1395 q1397 qs45 q116 q1398 mdX6_isHouse (room_ok hRm rfl) rfl rfl dX6_sees_2 ?_
  refine lv_if_eq (tgt := 24) hx hb dX6_sees_5 (by decide) (fun c5 => ?_) (fun c5 => ?_)
  · have c5 : (isHouseB (u.1 8) h) = false := bI_0.mp c5
    refine lv_iconst (v := (-1)) hx hb dX6_sees_24 (by decide) ?_
    exact hq _ _ _ dX6_sees_25 (by grind [seesI, snS])
  · have c5 : (isHouseB (u.1 8) h) = true := bI_1.mp c5
    obtain ⟨j, hj, rfl, hjx⟩ := isHouseB_nI c5
    have hl : lv_has ls 3 [(0, .ref o), (1, .int (nI j)), (2, .int t)] := hl
    refine lv_iload_n hx hb dX6_sees_8 rfl (lv_at hl 2 rfl) ?_
    refine CI.callS hC hK hl (c_X6_isTurn G l t ) trivial q1389 q1390 q116 q1391 mdX6_isTurn (room_ok hRm rfl) rfl rfl dX6_sees_9 ?_
    refine lv_if_eq (tgt := 24) hx hb dX6_sees_12 (by decide) (fun c12 => ?_) (fun c12 => ?_)
    · have c12 : (isTurnB t) = false := bI_0.mp c12
      refine lv_iconst (v := (-1)) hx hb dX6_sees_24 (by decide) ?_
      exact hq _ _ _ dX6_sees_25 (by grind [seesI, snS])
    · have c12 : (isTurnB t) = true := bI_1.mp c12
      refine lv_aload_n hx hb dX6_sees_15 rfl (lv_at hl 0 rfl) ?_
      refine lv_iload_n hx hb dX6_sees_16 rfl (lv_at hl 1 rfl) ?_
      refine lv_iload_n hx hb dX6_sees_17 rfl (lv_at hl 2 rfl) ?_
      refine CI.callV hC hK hl (c_X6_seenBy G l o R u j t (by first | assumption | omega | rfl | (simp_all; done))) hP (hP.recv hK) q1406 q1408 qs46 q116 q1409 mdX6_seenBy (room_ok hRm rfl) rfl rfl dX6_sees_18 ?_
      refine lv_goto (tgt := 25) hx hb dX6_sees_21 (by decide) ?_
      exact hq _ _ _ dX6_sees_25 (by grind [seesI, snS])
set_option maxHeartbeats 4000000 in
theorem c_X6_turnsOf (G : GG) (l : Launch) (o : Nat) (R : Nat → Nat) (u : MS) (h : Int32) : CI G l yX6_turnsOf cX6_turnsOf 4 .int 2 16 [.ref o, .int h] (PM G o R u) (turnsS (u.2.1 3) h 12) := by
  refine CI.mk RX6 pnX6 rfl (rfl) (Nat.le_of_ble_eq_true rfl) (fun pg en Rm sg mm ar bw mth cd QQ ls hC hRm hK hP hl hq => ?_)
  have hx := hC.1; have hb := hC.2.1; have ho := hC.2.2.2.1; have hts := hC.2.2.2.2
  have hl : lv_has ls 4 [(0, .ref o), (1, .int h)] := hl
  refine lv_iconst (v := 0) hx hb dX6_turnsOf_0 (by decide) ?_
  refine lv_istore_n (lv' := [(2, .int 0), (0, .ref o), (1, .int h)]) hx hb dX6_turnsOf_1 rfl hl (by decide) rfl (fun ls hl => ?_)
  refine lv_iconst (v := 0) hx hb dX6_turnsOf_2 (by decide) ?_
  refine lv_istore_n (lv' := [(3, .int 0), (2, .int 0), (0, .ref o), (1, .int h)]) hx hb dX6_turnsOf_3 rfl hl (by decide) rfl (fun ls hl => ?_)
  have LP4 : ∀ (fu4 : Nat) (k : Nat) (n : Int32) (ls : Array Slot), 12 - k < fu4 → k ≤ 12 → n = turnsS (u.2.1 3) h k → lv_has ls 4 [(0, .ref o), (1, .int h), (2, .int n), (3, .int (nI k))] → W pg l en Rm sg mm ar bw mth cd sg.heap [] 0 0 QQ (F0 mm 4 ls []) := by
    intro fu4
    induction fu4 with
    | zero => intro k n ls hm4 hk hn hl; exact absurd hm4 (Nat.not_lt_zero _)
    | succ fu4 ih4 =>
      intro k n ls hm4 hk hn hl
      refine lv_iload_n hx hb dX6_turnsOf_4 rfl (lv_at hl 3 rfl) ?_
      refine lv_bipush (v := 12) hx hb dX6_turnsOf_5 (by decide) ?_
      refine lv_icmp_ge (tgt := 30) hx hb dX6_turnsOf_7 (by decide) (fun c7 => ?_) (fun c7 => ?_)
      · have c7 : 12 ≤ k := (nI_leI (a := 12) (b := k) (by omega) (by omega)).mp c7
        refine lv_iload_n hx hb dX6_turnsOf_30 rfl (lv_at hl 2 rfl) ?_
        exact hq _ _ _ dX6_turnsOf_31 (by have hfin : k = 12 := (by omega); subst hfin; exact hn)
      · have c7 : ¬ (12 ≤ k) := mt (nI_leI (a := 12) (b := k) (by omega) (by omega)).mpr c7
        refine lv_aload_n hx hb dX6_turnsOf_10 rfl (lv_at hl 0 rfl) ?_
        refine M_get hC hK hP 3 (by decide) (fM3 _ _) q1204 dX6_turnsOf_11 ?_
        refine lv_iload_n hx hb dX6_turnsOf_14 rfl (lv_at hl 3 rfl) ?_
        refine M_ald hC hK hP 3 4 12 k (aM3 _ _ _ _) (by decide) (rfl) (by omega) dX6_turnsOf_15 ?_
        refine lv_iload_n hx hb dX6_turnsOf_16 rfl (lv_at hl 1 rfl) ?_
        refine lv_icmp_ne (tgt := 24) hx hb dX6_turnsOf_17 (by decide) (fun c17 => ?_) (fun c17 => ?_)
        · refine lv_iinc (v := (nI (k + 1))) (lv' := [(3, .int (nI (k + 1))), (0, .ref o), (1, .int h), (2, .int n)]) hx hb dX6_turnsOf_24 hl (k := 3) rfl (nI_inc k) (by decide) rfl (fun ls hl => ?_)
          refine lv_goto (tgt := 4) hx hb dX6_turnsOf_27 (by decide) ?_
          exact ih4 (k + 1) n ls (by omega) (by first | omega | assumption | rfl | (simp_all; done) | grind) (by (clear hq hP hK hts hC hx hb ho hRm hl ih4); grind [turnsS])  (lv_sub hl [1, 2, 3, 0] rfl)
        · refine lv_iload_n hx hb dX6_turnsOf_20 rfl (lv_at hl 2 rfl) ?_
          refine lv_iconst (v := 1) hx hb dX6_turnsOf_21 (by decide) ?_
          refine lv_iadd hx hb dX6_turnsOf_22 ?_
          refine lv_istore_n (lv' := [(2, .int (n + 1)), (0, .ref o), (1, .int h), (3, .int (nI k))]) hx hb dX6_turnsOf_23 rfl hl (by decide) rfl (fun ls hl => ?_)
          refine lv_iinc (v := (nI (k + 1))) (lv' := [(3, .int (nI (k + 1))), (2, .int (n + 1)), (0, .ref o), (1, .int h)]) hx hb dX6_turnsOf_24 hl (k := 3) rfl (nI_inc k) (by decide) rfl (fun ls hl => ?_)
          refine lv_goto (tgt := 4) hx hb dX6_turnsOf_27 (by decide) ?_
          exact ih4 (k + 1) (n + 1) ls (by omega) (by first | omega | assumption | rfl | (simp_all; done) | grind) (by (clear hq hP hK hts hC hx hb ho hRm hl ih4); grind [turnsS])  (lv_sub hl [2, 3, 1, 0] rfl)
  exact LP4 _ 0 0 ls (Nat.lt_succ_self _) (by first | omega | assumption | rfl | (simp_all; done) | grind) (rfl)  (lv_sub hl [2, 3, 1, 0] rfl)
set_option maxHeartbeats 4000000 in
theorem c_X6_longestRow (G : GG) (l : Launch) (set : Int32) : CI G l yX6_longestRow cX6_longestRow 4 .int 3 37 [.int set] (fun _ => True) (longS set) := by
  refine CI.mk RX6 pnX6 rfl (rfl) (Nat.le_of_ble_eq_true rfl) (fun pg en Rm sg mm ar bw mth cd QQ ls hC hRm hK hP hl hq => ?_)
  have hx := hC.1; have hb := hC.2.1; have ho := hC.2.2.2.1; have hts := hC.2.2.2.2
  have hl : lv_has ls 4 [(0, .int set)] := hl
  refine lv_iconst (v := 0) hx hb dX6_longestRow_0 (by decide) ?_
  refine lv_istore_n (lv' := [(1, .int 0), (0, .int set)]) hx hb dX6_longestRow_1 rfl hl (by decide) rfl (fun ls hl => ?_)
  refine lv_iconst (v := 0) hx hb dX6_longestRow_2 (by decide) ?_
  refine lv_istore_n (lv' := [(2, .int 0), (1, .int 0), (0, .int set)]) hx hb dX6_longestRow_3 rfl hl (by decide) rfl (fun ls hl => ?_)
  refine lv_iconst (v := 0) hx hb dX6_longestRow_4 (by decide) ?_
  refine lv_istore_n (lv' := [(3, .int 0), (2, .int 0), (1, .int 0), (0, .int set)]) hx hb dX6_longestRow_5 rfl hl (by decide) rfl (fun ls hl => ?_)
  have LP6 : ∀ (fu6 : Nat) (k : Nat) (mo : Int32) (rw : Int32) (ls : Array Slot), 24 - k < fu6 → k ≤ 24 → mo = mostS (fun i => hasB set (nI i)) k → rw = rowS (fun i => hasB set (nI i)) k → lv_has ls 4 [(0, .int set), (1, .int mo), (2, .int rw), (3, .int (nI k))] → W pg l en Rm sg mm ar bw mth cd sg.heap [] 0 0 QQ (F0 mm 6 ls []) := by
    intro fu6
    induction fu6 with
    | zero => intro k mo rw ls hm6 hk hmo hrw hl; exact absurd hm6 (Nat.not_lt_zero _)
    | succ fu6 ih6 =>
      intro k mo rw ls hm6 hk hmo hrw hl
      refine lv_iload_n hx hb dX6_longestRow_6 rfl (lv_at hl 3 rfl) ?_
      refine lv_bipush (v := 24) hx hb dX6_longestRow_7 (by decide) ?_
      refine lv_icmp_ge (tgt := 48) hx hb dX6_longestRow_9 (by decide) (fun c9 => ?_) (fun c9 => ?_)
      · have c9 : 24 ≤ k := (nI_leI (a := 24) (b := k) (by omega) (by omega)).mp c9
        refine lv_iload_n hx hb dX6_longestRow_48 rfl (lv_at hl 1 rfl) ?_
        exact hq _ _ _ dX6_longestRow_49 (by have hfin : k = 24 := (by omega); subst hfin; exact hmo)
      · have c9 : ¬ (24 ≤ k) := mt (nI_leI (a := 24) (b := k) (by omega) (by omega)).mpr c9
        refine lv_iload_n hx hb dX6_longestRow_12 rfl (lv_at hl 0 rfl) ?_
        refine lv_iload_n hx hb dX6_longestRow_13 rfl (lv_at hl 3 rfl) ?_
        refine lv_bipush (v := 12) hx hb dX6_longestRow_14 (by decide) ?_
        refine lv_irem hx hb dX6_longestRow_16 (by decide) ?_
        refine W_top (pk_rem (a := k) (d := 12) (by omega) (by omega) (by omega)) ?_
        refine CI.callS hC hK hl (c_X6_has G l set (nI (k % 12)) ) trivial q1399 q1400 q116 q1401 mdX6_has (room_ok hRm rfl) rfl rfl dX6_longestRow_17 ?_
        refine lv_if_eq (tgt := 34) hx hb dX6_longestRow_20 (by decide) (fun c20 => ?_) (fun c20 => ?_)
        · have c20 : (hasB set (nI (k % 12))) = false := bI_0.mp c20
          refine lv_iconst (v := 0) hx hb dX6_longestRow_34 (by decide) ?_
          refine lv_istore_n (lv' := [(2, .int 0), (0, .int set), (1, .int mo), (3, .int (nI k))]) hx hb dX6_longestRow_35 rfl hl (by decide) rfl (fun ls hl => ?_)
          refine lv_iload_n hx hb dX6_longestRow_36 rfl (lv_at hl 2 rfl) ?_
          refine lv_iload_n hx hb dX6_longestRow_37 rfl (lv_at hl 0 rfl) ?_
          refine CI.callS hC hK hl (c_X6_max G l mo 0 ) trivial q1631 q1632 q116 q1633 mdX6_max (room_ok hRm rfl) rfl rfl dX6_longestRow_38 ?_
          refine lv_istore_n (lv' := [(1, .int (mxI mo 0)), (2, .int 0), (0, .int set), (3, .int (nI k))]) hx hb dX6_longestRow_41 rfl hl (by decide) rfl (fun ls hl => ?_)
          refine lv_iinc (v := (nI (k + 1))) (lv' := [(3, .int (nI (k + 1))), (1, .int (mxI mo 0)), (2, .int 0), (0, .int set)]) hx hb dX6_longestRow_42 hl (k := 3) rfl (nI_inc k) (by decide) rfl (fun ls hl => ?_)
          refine lv_goto (tgt := 6) hx hb dX6_longestRow_45 (by decide) ?_
          exact ih6 (k + 1) (mxI mo 0) 0 ls (by omega) (by first | omega | assumption | rfl | (simp_all; done) | grind) (by (clear hq hP hK hts hC hx hb ho hRm hl ih6); grind [mostS, rowS]) (by (clear hq hP hK hts hC hx hb ho hRm hl ih6); grind [rowS])  (lv_sub hl [3, 1, 2, 0] rfl)
        · have c20 : (hasB set (nI (k % 12))) = true := bI_1.mp c20
          refine lv_bipush (v := 12) hx hb dX6_longestRow_23 (by decide) ?_
          refine lv_iload_n hx hb dX6_longestRow_25 rfl (lv_at hl 2 rfl) ?_
          refine lv_iconst (v := 1) hx hb dX6_longestRow_26 (by decide) ?_
          refine lv_iadd hx hb dX6_longestRow_27 ?_
          refine CI.callS hC hK hl (c_X6_min G l 12 (rw + 1) ) trivial q1598 q1599 q116 q1600 mdX6_min (room_ok hRm rfl) rfl rfl dX6_longestRow_28 ?_
          refine lv_goto (tgt := 35) hx hb dX6_longestRow_31 (by decide) ?_
          refine lv_istore_n (lv' := [(2, .int (mnI 12 (rw + 1))), (0, .int set), (1, .int mo), (3, .int (nI k))]) hx hb dX6_longestRow_35 rfl hl (by decide) rfl (fun ls hl => ?_)
          refine lv_iload_n hx hb dX6_longestRow_36 rfl (lv_at hl 2 rfl) ?_
          refine lv_iload_n hx hb dX6_longestRow_37 rfl (lv_at hl 0 rfl) ?_
          refine CI.callS hC hK hl (c_X6_max G l mo (mnI 12 (rw + 1)) ) trivial q1631 q1632 q116 q1633 mdX6_max (room_ok hRm rfl) rfl rfl dX6_longestRow_38 ?_
          refine lv_istore_n (lv' := [(1, .int (mxI mo (mnI 12 (rw + 1)))), (2, .int (mnI 12 (rw + 1))), (0, .int set), (3, .int (nI k))]) hx hb dX6_longestRow_41 rfl hl (by decide) rfl (fun ls hl => ?_)
          refine lv_iinc (v := (nI (k + 1))) (lv' := [(3, .int (nI (k + 1))), (1, .int (mxI mo (mnI 12 (rw + 1)))), (2, .int (mnI 12 (rw + 1))), (0, .int set)]) hx hb dX6_longestRow_42 hl (k := 3) rfl (nI_inc k) (by decide) rfl (fun ls hl => ?_)
          refine lv_goto (tgt := 6) hx hb dX6_longestRow_45 (by decide) ?_
          exact ih6 (k + 1) (mxI mo (mnI 12 (rw + 1))) (mnI 12 (rw + 1)) ls (by omega) (by first | omega | assumption | rfl | (simp_all; done) | grind) (by (clear hq hP hK hts hC hx hb ho hRm hl ih6); grind [mostS, rowS]) (by (clear hq hP hK hts hC hx hb ho hRm hl ih6); grind [rowS])  (lv_sub hl [3, 1, 2, 0] rfl)
  exact LP6 _ 0 0 0 ls (Nat.lt_succ_self _) (by first | omega | assumption | rfl | (simp_all; done) | grind) (rfl) (rfl)  (lv_sub hl [3, 2, 1, 0] rfl)
set_option maxHeartbeats 4000000 in
theorem c_X6_darkOf (G : GG) (l : Launch) (o : Nat) (R : Nat → Nat) (u : MS) (h : Int32) : CI G l yX6_darkOf cX6_darkOf 4 .int 4 60 [.ref o, .int h] (PM G o R u) (darkI (u.2.1 3) h) := by
  refine CI.mk RX6 pnX6 rfl (rfl) (Nat.le_of_ble_eq_true rfl) (fun pg en Rm sg mm ar bw mth cd QQ ls hC hRm hK hP hl hq => ?_)
  have hx := hC.1; have hb := hC.2.1; have ho := hC.2.2.2.1; have hts := hC.2.2.2.2
  have hl : lv_has ls 4 [(0, .ref o), (1, .int h)] := hl
  refine lv_iconst (v := 0) hx hb dX6_darkOf_0 (by decide) ?_
  refine lv_istore_n (lv' := [(2, .int 0), (0, .ref o), (1, .int h)]) hx hb dX6_darkOf_1 rfl hl (by decide) rfl (fun ls hl => ?_)
  refine lv_iconst (v := 0) hx hb dX6_darkOf_2 (by decide) ?_
  refine lv_istore_n (lv' := [(3, .int 0), (2, .int 0), (0, .ref o), (1, .int h)]) hx hb dX6_darkOf_3 rfl hl (by decide) rfl (fun ls hl => ?_)
  have LP4 : ∀ (fu4 : Nat) (k : Nat) (set : Int32) (ls : Array Slot), 12 - k < fu4 → k ≤ 12 → set = orN (fun t => !decide ((u.2.1 3) t = h)) k → lv_has ls 4 [(0, .ref o), (1, .int h), (2, .int set), (3, .int (nI k))] → W pg l en Rm sg mm ar bw mth cd sg.heap [] 0 0 QQ (F0 mm 4 ls []) := by
    intro fu4
    induction fu4 with
    | zero => intro k set ls hm4 hk hset hl; exact absurd hm4 (Nat.not_lt_zero _)
    | succ fu4 ih4 =>
      intro k set ls hm4 hk hset hl
      refine lv_iload_n hx hb dX6_darkOf_4 rfl (lv_at hl 3 rfl) ?_
      refine lv_bipush (v := 12) hx hb dX6_darkOf_5 (by decide) ?_
      refine lv_icmp_ge (tgt := 32) hx hb dX6_darkOf_7 (by decide) (fun c7 => ?_) (fun c7 => ?_)
      · have c7 : 12 ≤ k := (nI_leI (a := 12) (b := k) (by omega) (by omega)).mp c7
        refine lv_iload_n hx hb dX6_darkOf_32 rfl (lv_at hl 2 rfl) ?_
        refine CI.callS hC hK hl (c_X6_longestRow G l set ) trivial q1628 q1629 q116 q1630 mdX6_longestRow (room_ok hRm rfl) rfl rfl dX6_darkOf_33 ?_
        exact hq _ _ _ dX6_darkOf_36 (by have hfin : k = 12 := (by omega); subst hfin; rw [hset, longS_orN]; rfl)
      · have c7 : ¬ (12 ≤ k) := mt (nI_leI (a := 12) (b := k) (by omega) (by omega)).mpr c7
        refine lv_aload_n hx hb dX6_darkOf_10 rfl (lv_at hl 0 rfl) ?_
        refine M_get hC hK hP 3 (by decide) (fM3 _ _) q1204 dX6_darkOf_11 ?_
        refine lv_iload_n hx hb dX6_darkOf_14 rfl (lv_at hl 3 rfl) ?_
        refine M_ald hC hK hP 3 4 12 k (aM3 _ _ _ _) (by decide) (rfl) (by omega) dX6_darkOf_15 ?_
        refine lv_iload_n hx hb dX6_darkOf_16 rfl (lv_at hl 1 rfl) ?_
        refine lv_icmp_eq (tgt := 26) hx hb dX6_darkOf_17 (by decide) (fun c17 => ?_) (fun c17 => ?_)
        · refine lv_iinc (v := (nI (k + 1))) (lv' := [(3, .int (nI (k + 1))), (0, .ref o), (1, .int h), (2, .int set)]) hx hb dX6_darkOf_26 hl (k := 3) rfl (nI_inc k) (by decide) rfl (fun ls hl => ?_)
          refine lv_goto (tgt := 4) hx hb dX6_darkOf_29 (by decide) ?_
          exact ih4 (k + 1) set ls (by omega) (by first | omega | assumption | rfl | (simp_all; done) | grind) (by (clear hq hP hK hts hC hx hb ho hRm hl ih4); grind [orN, bitI])  (lv_sub hl [1, 2, 3, 0] rfl)
        · refine lv_iload_n hx hb dX6_darkOf_20 rfl (lv_at hl 2 rfl) ?_
          refine lv_iconst (v := 1) hx hb dX6_darkOf_21 (by decide) ?_
          refine lv_iload_n hx hb dX6_darkOf_22 rfl (lv_at hl 3 rfl) ?_
          refine lv_ishl hx hb dX6_darkOf_23 ?_
          refine lv_ior hx hb dX6_darkOf_24 ?_
          refine lv_istore_n (lv' := [(2, .int (set ||| (1 <<< ((nI k) &&& 31)))), (0, .ref o), (1, .int h), (3, .int (nI k))]) hx hb dX6_darkOf_25 rfl hl (by decide) rfl (fun ls hl => ?_)
          refine lv_iinc (v := (nI (k + 1))) (lv' := [(3, .int (nI (k + 1))), (2, .int (set ||| (1 <<< ((nI k) &&& 31)))), (0, .ref o), (1, .int h)]) hx hb dX6_darkOf_26 hl (k := 3) rfl (nI_inc k) (by decide) rfl (fun ls hl => ?_)
          refine lv_goto (tgt := 4) hx hb dX6_darkOf_29 (by decide) ?_
          exact ih4 (k + 1) (set ||| (1 <<< ((nI k) &&& 31))) ls (by omega) (by first | omega | assumption | rfl | (simp_all; done) | grind) (by (clear hq hP hK hts hC hx hb ho hRm hl ih4); grind [orN, bitI])  (lv_sub hl [2, 3, 1, 0] rfl)
  exact LP4 _ 0 0 ls (Nat.lt_succ_self _) (by first | omega | assumption | rfl | (simp_all; done) | grind) (rfl)  (lv_sub hl [2, 3, 1, 0] rfl)
set_option maxHeartbeats 4000000 in
theorem c_X6_lightOf (G : GG) (l : Launch) (o : Nat) (R : Nat → Nat) (u : MS) (j : Nat) (hj : j < 16) : CI G l yX6_lightOf cX6_lightOf 4 .int 5 88 [.ref o, .int (nI j)] (PM G o R u) (orN (lightC (snS (u.1 9) (u.2.1 5) (u.2.1 6) (u.2.1 7) (u.2.1 4)) j) 12) := by
  refine CI.mk RX6 pnX6 rfl (rfl) (Nat.le_of_ble_eq_true rfl) (fun pg en Rm sg mm ar bw mth cd QQ ls hC hRm hK hP hl hq => ?_)
  have hx := hC.1; have hb := hC.2.1; have ho := hC.2.2.2.1; have hts := hC.2.2.2.2
  have hl : lv_has ls 4 [(0, .ref o), (1, .int (nI j))] := hl
  refine lv_iconst (v := 0) hx hb dX6_lightOf_0 (by decide) ?_
  refine lv_istore_n (lv' := [(2, .int 0), (0, .ref o), (1, .int (nI j))]) hx hb dX6_lightOf_1 rfl hl (by decide) rfl (fun ls hl => ?_)
  refine lv_iconst (v := 0) hx hb dX6_lightOf_2 (by decide) ?_
  refine lv_istore_n (lv' := [(3, .int 0), (2, .int 0), (0, .ref o), (1, .int (nI j))]) hx hb dX6_lightOf_3 rfl hl (by decide) rfl (fun ls hl => ?_)
  have LP4 : ∀ (fu4 : Nat) (k : Nat) (set : Int32) (ls : Array Slot), 12 - k < fu4 → k ≤ 12 → set = orN (lightC (snS (u.1 9) (u.2.1 5) (u.2.1 6) (u.2.1 7) (u.2.1 4)) j) k → lv_has ls 4 [(0, .ref o), (1, .int (nI j)), (2, .int set), (3, .int (nI k))] → W pg l en Rm sg mm ar bw mth cd sg.heap [] 0 0 QQ (F0 mm 4 ls []) := by
    intro fu4
    induction fu4 with
    | zero => intro k set ls hm4 hk hset hl; exact absurd hm4 (Nat.not_lt_zero _)
    | succ fu4 ih4 =>
      intro k set ls hm4 hk hset hl
      refine lv_iload_n hx hb dX6_lightOf_4 rfl (lv_at hl 3 rfl) ?_
      refine lv_bipush (v := 12) hx hb dX6_lightOf_5 (by decide) ?_
      refine lv_icmp_ge (tgt := 31) hx hb dX6_lightOf_7 (by decide) (fun c7 => ?_) (fun c7 => ?_)
      · have c7 : 12 ≤ k := (nI_leI (a := 12) (b := k) (by omega) (by omega)).mp c7
        refine lv_iload_n hx hb dX6_lightOf_31 rfl (lv_at hl 2 rfl) ?_
        exact hq _ _ _ dX6_lightOf_32 (by have hfin : k = 12 := (by omega); subst hfin; exact hset)
      · have c7 : ¬ (12 ≤ k) := mt (nI_leI (a := 12) (b := k) (by omega) (by omega)).mpr c7
        refine lv_aload_n hx hb dX6_lightOf_10 rfl (lv_at hl 0 rfl) ?_
        refine lv_iload_n hx hb dX6_lightOf_11 rfl (lv_at hl 1 rfl) ?_
        refine lv_iload_n hx hb dX6_lightOf_12 rfl (lv_at hl 3 rfl) ?_
        refine CI.callV hC hK hl (c_X6_seenBy G l o R u j (nI k) (by first | assumption | omega | rfl | (simp_all; done))) hP (hP.recv hK) q1406 q1408 qs46 q116 q1409 mdX6_seenBy (room_ok hRm rfl) rfl rfl dX6_lightOf_13 ?_
        refine lv_if_eq (tgt := 25) hx hb dX6_lightOf_16 (by decide) (fun c16 => ?_) (fun c16 => ?_)
        · refine lv_iinc (v := (nI (k + 1))) (lv' := [(3, .int (nI (k + 1))), (0, .ref o), (1, .int (nI j)), (2, .int set)]) hx hb dX6_lightOf_25 hl (k := 3) rfl (nI_inc k) (by decide) rfl (fun ls hl => ?_)
          refine lv_goto (tgt := 4) hx hb dX6_lightOf_28 (by decide) ?_
          exact ih4 (k + 1) set ls (by omega) (by first | omega | assumption | rfl | (simp_all; done) | grind) (by (clear hq hP hK hts hC hx hb ho hRm hl ih4); grind [orN, bitI, lightC, snS])  (lv_sub hl [1, 2, 3, 0] rfl)
        · refine lv_iload_n hx hb dX6_lightOf_19 rfl (lv_at hl 2 rfl) ?_
          refine lv_iconst (v := 1) hx hb dX6_lightOf_20 (by decide) ?_
          refine lv_iload_n hx hb dX6_lightOf_21 rfl (lv_at hl 3 rfl) ?_
          refine lv_ishl hx hb dX6_lightOf_22 ?_
          refine lv_ior hx hb dX6_lightOf_23 ?_
          refine lv_istore_n (lv' := [(2, .int (set ||| (1 <<< ((nI k) &&& 31)))), (0, .ref o), (1, .int (nI j)), (3, .int (nI k))]) hx hb dX6_lightOf_24 rfl hl (by decide) rfl (fun ls hl => ?_)
          refine lv_iinc (v := (nI (k + 1))) (lv' := [(3, .int (nI (k + 1))), (2, .int (set ||| (1 <<< ((nI k) &&& 31)))), (0, .ref o), (1, .int (nI j))]) hx hb dX6_lightOf_25 hl (k := 3) rfl (nI_inc k) (by decide) rfl (fun ls hl => ?_)
          refine lv_goto (tgt := 4) hx hb dX6_lightOf_28 (by decide) ?_
          exact ih4 (k + 1) (set ||| (1 <<< ((nI k) &&& 31))) ls (by omega) (by first | omega | assumption | rfl | (simp_all; done) | grind) (by (clear hq hP hK hts hC hx hb ho hRm hl ih4); grind [orN, bitI, lightC, snS])  (lv_sub hl [2, 3, 1, 0] rfl)
  exact LP4 _ 0 0 ls (Nat.lt_succ_self _) (by first | omega | assumption | rfl | (simp_all; done) | grind) (rfl)  (lv_sub hl [2, 3, 1, 0] rfl)
set_option maxHeartbeats 4000000 in
theorem c_X6_houseIs (G : GG) (l : Launch) (o : Nat) (R : Nat → Nat) (u : MS) (h : Int32) (k : Int32) : CI G l yX6_houseIs cX6_houseIs 3 .int 6 111 [.ref o, .int h, .int k] (PM G o R u) (houseI (u.1 8) (u.2.1 4) (u.2.1 0) (u.2.1 3) (snS (u.1 9) (u.2.1 5) (u.2.1 6) (u.2.1 7) (u.2.1 4)) h k) := by
  refine CI.mk RX6 pnX6 rfl (rfl) (Nat.le_of_ble_eq_true rfl) (fun pg en Rm sg mm ar bw mth cd QQ ls hC hRm hK hP hl hq => ?_)
  have hx := hC.1; have hb := hC.2.1; have ho := hC.2.2.2.1; have hts := hC.2.2.2.2
  have hl : lv_has ls 3 [(0, .ref o), (1, .int h), (2, .int k)] := hl
  refine lv_aload_n hx hb dX6_houseIs_0 rfl (lv_at hl 0 rfl) ?_
  refine lv_iload_n hx hb dX6_houseIs_1 rfl (lv_at hl 1 rfl) ?_
  refine CI.callV hC hK hl (c_X6_isHouse G l o R u h ) hP (hP.recv hK) q1395 q1397 qs45 q116 q1398 mdX6_isHouse (room_ok hRm rfl) rfl rfl dX6_houseIs_2 ?_
  refine lv_if_ne (tgt := 10) hx hb dX6_houseIs_5 (by decide) (fun c5 => ?_) (fun c5 => ?_)
  · have c5 : (isHouseB (u.1 8) h) = true := bI_1.mp c5
    obtain ⟨j, hj, rfl, hjx⟩ := isHouseB_nI c5
    have hl : lv_has ls 3 [(0, .ref o), (1, .int (nI j)), (2, .int k)] := hl
    refine lv_iload_n hx hb dX6_houseIs_10 rfl (lv_at hl 2 rfl) ?_
    by_cases s11_0 : k = 0
    · refine lv_tableIn (tgt := 44) hx hb dX6_houseIs_11 (by rw [s11_0]; decide) (by rw [s11_0]; decide) (by rw [s11_0]; rfl) (by decide) ?_
      refine lv_aload_n hx hb dX6_houseIs_44 rfl (lv_at hl 0 rfl) ?_
      refine M_get hC hK hP 4 (by decide) (fM4 _ _) q1205 dX6_houseIs_45 ?_
      refine lv_iload_n hx hb dX6_houseIs_48 rfl (lv_at hl 1 rfl) ?_
      refine M_ald hC hK hP 4 5 16 j (aM4 _ _ _ _) (by decide) (rfl) (by omega) dX6_houseIs_49 ?_
      exact hq _ _ _ dX6_houseIs_50 (by grind [houseI, everS_eq])
    by_cases s11_1 : k = 1
    · refine lv_tableIn (tgt := 51) hx hb dX6_houseIs_11 (by rw [s11_1]; decide) (by rw [s11_1]; decide) (by rw [s11_1]; rfl) (by decide) ?_
      refine lv_aload_n hx hb dX6_houseIs_51 rfl (lv_at hl 0 rfl) ?_
      refine M_get hC hK hP 0 (by decide) (fM0 _ _) q1201 dX6_houseIs_52 ?_
      refine lv_iconst (v := 0) hx hb dX6_houseIs_55 (by decide) ?_
      refine lv_iload_n hx hb dX6_houseIs_56 rfl (lv_at hl 1 rfl) ?_
      refine lv_iadd hx hb dX6_houseIs_57 ?_
      refine W_top (y := (nI j)) (Int32.zero_add _) ?_
      refine M_ald hC hK hP 0 1 21 j (aM0 _ _ _ _) (by decide) (rfl) (by omega) dX6_houseIs_58 ?_
      exact hq _ _ _ dX6_houseIs_59 (by grind [houseI, everS_eq])
    by_cases s11_2 : k = 2
    · refine lv_tableIn (tgt := 60) hx hb dX6_houseIs_11 (by rw [s11_2]; decide) (by rw [s11_2]; decide) (by rw [s11_2]; rfl) (by decide) ?_
      refine lv_aload_n hx hb dX6_houseIs_60 rfl (lv_at hl 0 rfl) ?_
      refine lv_iload_n hx hb dX6_houseIs_61 rfl (lv_at hl 1 rfl) ?_
      refine CI.callV hC hK hl (c_X6_turnsOf G l o R u (nI j) ) hP (hP.recv hK) q1620 q1622 qs86 q116 q1623 mdX6_turnsOf (room_ok hRm rfl) rfl rfl dX6_houseIs_62 ?_
      exact hq _ _ _ dX6_houseIs_65 (by grind [houseI, everS_eq])
    by_cases s11_3 : k = 3
    · refine lv_tableIn (tgt := 66) hx hb dX6_houseIs_11 (by rw [s11_3]; decide) (by rw [s11_3]; decide) (by rw [s11_3]; rfl) (by decide) ?_
      refine lv_aload_n hx hb dX6_houseIs_66 rfl (lv_at hl 0 rfl) ?_
      refine lv_iload_n hx hb dX6_houseIs_67 rfl (lv_at hl 1 rfl) ?_
      refine CI.callV hC hK hl (c_X6_darkOf G l o R u (nI j) ) hP (hP.recv hK) q1624 q1626 qs87 q116 q1627 mdX6_darkOf (room_ok hRm rfl) rfl rfl dX6_houseIs_68 ?_
      exact hq _ _ _ dX6_houseIs_71 (by grind [houseI, everS_eq])
    by_cases s11_4 : k = 4
    · refine lv_tableIn (tgt := 72) hx hb dX6_houseIs_11 (by rw [s11_4]; decide) (by rw [s11_4]; decide) (by rw [s11_4]; rfl) (by decide) ?_
      refine lv_aload_n hx hb dX6_houseIs_72 rfl (lv_at hl 0 rfl) ?_
      refine lv_iload_n hx hb dX6_houseIs_73 rfl (lv_at hl 1 rfl) ?_
      refine CI.callV hC hK hl (c_X6_everSeenBy G l o R u j (by first | assumption | omega | rfl | (simp_all; done))) hP (hP.recv hK) q1634 q1636 qs88 q116 q1637 mdX6_everSeenBy (room_ok hRm rfl) rfl rfl dX6_houseIs_74 ?_
      exact hq _ _ _ dX6_houseIs_77 (by grind [houseI, everS_eq])
    refine lv_tableOut (tgt := 78) hx hb dX6_houseIs_11 (sw_out (x := k) (lo := 0) (hi := 4) (fun v h1 h2 => by rcases (show v = 0 ∨ v = 1 ∨ v = 2 ∨ v = 3 ∨ v = 4 by omega) with rfl | rfl | rfl | rfl | rfl <;> first | exact s11_0 | exact s11_1 | exact s11_2 | exact s11_3 | exact s11_4)) (by decide) ?_
    refine lv_iconst (v := (-1)) hx hb dX6_houseIs_78 (by decide) ?_
    exact hq _ _ _ dX6_houseIs_79 (by grind [houseI, everS_eq])
  · have c5 : (isHouseB (u.1 8) h) = false := bI_0.mp c5
    refine lv_iconst (v := (-1)) hx hb dX6_houseIs_8 (by decide) ?_
    exact hq _ _ _ dX6_houseIs_9 (by grind [houseI, everS_eq])
set_option maxHeartbeats 4000000 in
theorem c_X6_wayOf (G : GG) (l : Launch) (o : Nat) (R : Nat → Nat) (u : MS) (rd : Bool) : CI G l yX6_wayOf cX6_wayOf 6 .int 3 36 [.ref o, .int (bI rd)] (PM G o R u) (wayI (u.2.1 3) rd) := by
  refine CI.mk RX6 pnX6 rfl (rfl) (Nat.le_of_ble_eq_true rfl) (fun pg en Rm sg mm ar bw mth cd QQ ls hC hRm hK hP hl hq => ?_)
  have hx := hC.1; have hb := hC.2.1; have ho := hC.2.2.2.1; have hts := hC.2.2.2.2
  have hl : lv_has ls 6 [(0, .ref o), (1, .int (bI rd))] := hl
  refine lv_iconst (v := 0) hx hb dX6_wayOf_0 (by decide) ?_
  refine lv_istore_n (lv' := [(2, .int 0), (0, .ref o), (1, .int (bI rd))]) hx hb dX6_wayOf_1 rfl hl (by decide) rfl (fun ls hl => ?_)
  refine lv_iconst (v := (-1)) hx hb dX6_wayOf_2 (by decide) ?_
  refine lv_istore_n (lv' := [(3, .int (-1)), (2, .int 0), (0, .ref o), (1, .int (bI rd))]) hx hb dX6_wayOf_3 rfl hl (by decide) rfl (fun ls hl => ?_)
  refine lv_iconst (v := (-1)) hx hb dX6_wayOf_4 (by decide) ?_
  refine lv_istore (lv' := [(4, .int (-1)), (3, .int (-1)), (2, .int 0), (0, .ref o), (1, .int (bI rd))]) hx hb dX6_wayOf_5 hl (by decide) rfl (fun ls hl => ?_)
  refine lv_iconst (v := 0) hx hb dX6_wayOf_7 (by decide) ?_
  refine lv_istore (lv' := [(5, .int 0), (4, .int (-1)), (3, .int (-1)), (2, .int 0), (0, .ref o), (1, .int (bI rd))]) hx hb dX6_wayOf_8 hl (by decide) rfl (fun ls hl => ?_)
  have LP10 : ∀ (fu10 : Nat) (k : Nat) (wy : Int32) (la : Int32) (fi : Int32) (ls : Array Slot), 12 - k < fu10 → k ≤ 12 → wy = (wayS (u.2.1 3) k).1 → la = (wayS (u.2.1 3) k).2.1 → fi = (wayS (u.2.1 3) k).2.2 → lv_has ls 6 [(0, .ref o), (1, .int (bI rd)), (2, .int wy), (3, .int la), (4, .int fi), (5, .int (nI k))] → W pg l en Rm sg mm ar bw mth cd sg.heap [] 0 0 QQ (F0 mm 10 ls []) := by
    intro fu10
    induction fu10 with
    | zero => intro k wy la fi ls hm10 hk hwy hla hfi hl; exact absurd hm10 (Nat.not_lt_zero _)
    | succ fu10 ih10 =>
      intro k wy la fi ls hm10 hk hwy hla hfi hl
      refine lv_iload hx hb dX6_wayOf_10 (lv_at hl 5 rfl) ?_
      refine lv_bipush (v := 12) hx hb dX6_wayOf_12 (by decide) ?_
      refine lv_icmp_ge (tgt := 80) hx hb dX6_wayOf_14 (by decide) (fun c14 => ?_) (fun c14 => ?_)
      · have c14 : 12 ≤ k := (nI_leI (a := 12) (b := k) (by omega) (by omega)).mp c14
        refine lv_iload_n hx hb dX6_wayOf_80 rfl (lv_at hl 1 rfl) ?_
        refine lv_if_eq (tgt := 102) hx hb dX6_wayOf_81 (by decide) (fun c81 => ?_) (fun c81 => ?_)
        · have c81 : rd = false := bI_0.mp c81
          refine lv_iload_n hx hb dX6_wayOf_102 rfl (lv_at hl 2 rfl) ?_
          exact hq _ _ _ dX6_wayOf_103 (by have hfin : k = 12 := (by omega); subst hfin; (clear hq hP hK hts hC hx hb ho hRm hl ih10); grind [wayI])
        · have c81 : rd = true := bI_1.mp c81
          refine lv_iload hx hb dX6_wayOf_84 (lv_at hl 4 rfl) ?_
          refine lv_iconst (v := (-1)) hx hb dX6_wayOf_86 (by decide) ?_
          refine lv_icmp_eq (tgt := 102) hx hb dX6_wayOf_87 (by decide) (fun c87 => ?_) (fun c87 => ?_)
          · refine lv_iload_n hx hb dX6_wayOf_102 rfl (lv_at hl 2 rfl) ?_
            exact hq _ _ _ dX6_wayOf_103 (by have hfin : k = 12 := (by omega); subst hfin; (clear hq hP hK hts hC hx hb ho hRm hl ih10); grind [wayI])
          · refine lv_iload_n hx hb dX6_wayOf_90 rfl (lv_at hl 2 rfl) ?_
            refine lv_iload_n hx hb dX6_wayOf_91 rfl (lv_at hl 3 rfl) ?_
            refine lv_iload hx hb dX6_wayOf_92 (lv_at hl 4 rfl) ?_
            refine lv_isub hx hb dX6_wayOf_94 ?_
            refine CI.callS hC hK hl (c_X6_size G l (la - fi) ) trivial q1577 q1578 q116 q1579 mdX6_size (room_ok hRm rfl) rfl rfl dX6_wayOf_95 ?_
            refine lv_iadd hx hb dX6_wayOf_98 ?_
            refine lv_goto (tgt := 103) hx hb dX6_wayOf_99 (by decide) ?_
            exact hq _ _ _ dX6_wayOf_103 (by have hfin : k = 12 := (by omega); subst hfin; (clear hq hP hK hts hC hx hb ho hRm hl ih10); grind [wayI])
      · have c14 : ¬ (12 ≤ k) := mt (nI_leI (a := 12) (b := k) (by omega) (by omega)).mpr c14
        refine lv_aload_n hx hb dX6_wayOf_17 rfl (lv_at hl 0 rfl) ?_
        refine M_get hC hK hP 3 (by decide) (fM3 _ _) q1204 dX6_wayOf_18 ?_
        refine lv_iload hx hb dX6_wayOf_21 (lv_at hl 5 rfl) ?_
        refine M_ald hC hK hP 3 4 12 k (aM3 _ _ _ _) (by decide) (rfl) (by omega) dX6_wayOf_23 ?_
        refine lv_iconst (v := (-1)) hx hb dX6_wayOf_24 (by decide) ?_
        refine lv_icmp_ne (tgt := 31) hx hb dX6_wayOf_25 (by decide) (fun c25 => ?_) (fun c25 => ?_)
        · refine lv_iload_n hx hb dX6_wayOf_31 rfl (lv_at hl 3 rfl) ?_
          refine lv_iconst (v := (-1)) hx hb dX6_wayOf_32 (by decide) ?_
          refine lv_icmp_eq (tgt := 51) hx hb dX6_wayOf_33 (by decide) (fun c33 => ?_) (fun c33 => ?_)
          · refine lv_iload hx hb dX6_wayOf_51 (lv_at hl 4 rfl) ?_
            refine lv_iconst (v := (-1)) hx hb dX6_wayOf_53 (by decide) ?_
            refine lv_icmp_ne (tgt := 66) hx hb dX6_wayOf_54 (by decide) (fun c54 => ?_) (fun c54 => ?_)
            · refine lv_aload_n hx hb dX6_wayOf_66 rfl (lv_at hl 0 rfl) ?_
              refine M_get hC hK hP 3 (by decide) (fM3 _ _) q1204 dX6_wayOf_67 ?_
              refine lv_iload hx hb dX6_wayOf_70 (lv_at hl 5 rfl) ?_
              refine M_ald hC hK hP 3 4 12 k (aM3 _ _ _ _) (by decide) (rfl) (by omega) dX6_wayOf_72 ?_
              refine lv_istore_n (lv' := [(3, .int (u.2.1 3 k)), (0, .ref o), (1, .int (bI rd)), (2, .int wy), (4, .int fi), (5, .int (nI k))]) hx hb dX6_wayOf_73 rfl hl (by decide) rfl (fun ls hl => ?_)
              refine lv_iinc (v := (nI (k + 1))) (lv' := [(5, .int (nI (k + 1))), (3, .int (u.2.1 3 k)), (0, .ref o), (1, .int (bI rd)), (2, .int wy), (4, .int fi)]) hx hb dX6_wayOf_74 hl (k := 5) rfl (nI_inc k) (by decide) rfl (fun ls hl => ?_)
              refine lv_goto (tgt := 10) hx hb dX6_wayOf_77 (by decide) ?_
              exact ih10 (k + 1) wy (u.2.1 3 k) fi ls (by omega) (by first | omega | assumption | rfl | (simp_all; done) | grind) (by (clear hq hP hK hts hC hx hb ho hRm hl ih10); grind [wayS]) (by (clear hq hP hK hts hC hx hb ho hRm hl ih10); grind [wayS]) (by (clear hq hP hK hts hC hx hb ho hRm hl ih10); grind [wayS])  (lv_sub hl [2, 3, 4, 1, 5, 0] rfl)
            · refine lv_aload_n hx hb dX6_wayOf_57 rfl (lv_at hl 0 rfl) ?_
              refine M_get hC hK hP 3 (by decide) (fM3 _ _) q1204 dX6_wayOf_58 ?_
              refine lv_iload hx hb dX6_wayOf_61 (lv_at hl 5 rfl) ?_
              refine M_ald hC hK hP 3 4 12 k (aM3 _ _ _ _) (by decide) (rfl) (by omega) dX6_wayOf_63 ?_
              refine lv_istore (lv' := [(4, .int (u.2.1 3 k)), (0, .ref o), (1, .int (bI rd)), (2, .int wy), (3, .int la), (5, .int (nI k))]) hx hb dX6_wayOf_64 hl (by decide) rfl (fun ls hl => ?_)
              refine lv_aload_n hx hb dX6_wayOf_66 rfl (lv_at hl 1 rfl) ?_
              refine M_get hC hK hP 3 (by decide) (fM3 _ _) q1204 dX6_wayOf_67 ?_
              refine lv_iload hx hb dX6_wayOf_70 (lv_at hl 5 rfl) ?_
              refine M_ald hC hK hP 3 4 12 k (aM3 _ _ _ _) (by decide) (rfl) (by omega) dX6_wayOf_72 ?_
              refine lv_istore_n (lv' := [(3, .int (u.2.1 3 k)), (4, .int (u.2.1 3 k)), (0, .ref o), (1, .int (bI rd)), (2, .int wy), (5, .int (nI k))]) hx hb dX6_wayOf_73 rfl hl (by decide) rfl (fun ls hl => ?_)
              refine lv_iinc (v := (nI (k + 1))) (lv' := [(5, .int (nI (k + 1))), (3, .int (u.2.1 3 k)), (4, .int (u.2.1 3 k)), (0, .ref o), (1, .int (bI rd)), (2, .int wy)]) hx hb dX6_wayOf_74 hl (k := 5) rfl (nI_inc k) (by decide) rfl (fun ls hl => ?_)
              refine lv_goto (tgt := 10) hx hb dX6_wayOf_77 (by decide) ?_
              exact ih10 (k + 1) wy (u.2.1 3 k) (u.2.1 3 k) ls (by omega) (by first | omega | assumption | rfl | (simp_all; done) | grind) (by (clear hq hP hK hts hC hx hb ho hRm hl ih10); grind [wayS]) (by (clear hq hP hK hts hC hx hb ho hRm hl ih10); grind [wayS]) (by (clear hq hP hK hts hC hx hb ho hRm hl ih10); grind [wayS])  (lv_sub hl [3, 4, 5, 1, 2, 0] rfl)
          · refine lv_iload_n hx hb dX6_wayOf_36 rfl (lv_at hl 2 rfl) ?_
            refine lv_aload_n hx hb dX6_wayOf_37 rfl (lv_at hl 0 rfl) ?_
            refine M_get hC hK hP 3 (by decide) (fM3 _ _) q1204 dX6_wayOf_38 ?_
            refine lv_iload hx hb dX6_wayOf_41 (lv_at hl 5 rfl) ?_
            refine M_ald hC hK hP 3 4 12 k (aM3 _ _ _ _) (by decide) (rfl) (by omega) dX6_wayOf_43 ?_
            refine lv_iload_n hx hb dX6_wayOf_44 rfl (lv_at hl 3 rfl) ?_
            refine lv_isub hx hb dX6_wayOf_45 ?_
            refine CI.callS hC hK hl (c_X6_size G l ((u.2.1 3 k) - la) ) trivial q1577 q1578 q116 q1579 mdX6_size (room_ok hRm rfl) rfl rfl dX6_wayOf_46 ?_
            refine lv_iadd hx hb dX6_wayOf_49 ?_
            refine lv_istore_n (lv' := [(2, .int (wy + (abI ((u.2.1 3 k) - la)))), (0, .ref o), (1, .int (bI rd)), (3, .int la), (4, .int fi), (5, .int (nI k))]) hx hb dX6_wayOf_50 rfl hl (by decide) rfl (fun ls hl => ?_)
            refine lv_iload hx hb dX6_wayOf_51 (lv_at hl 4 rfl) ?_
            refine lv_iconst (v := (-1)) hx hb dX6_wayOf_53 (by decide) ?_
            refine lv_icmp_ne (tgt := 66) hx hb dX6_wayOf_54 (by decide) (fun c54 => ?_) (fun c54 => ?_)
            · refine lv_aload_n hx hb dX6_wayOf_66 rfl (lv_at hl 1 rfl) ?_
              refine M_get hC hK hP 3 (by decide) (fM3 _ _) q1204 dX6_wayOf_67 ?_
              refine lv_iload hx hb dX6_wayOf_70 (lv_at hl 5 rfl) ?_
              refine M_ald hC hK hP 3 4 12 k (aM3 _ _ _ _) (by decide) (rfl) (by omega) dX6_wayOf_72 ?_
              refine lv_istore_n (lv' := [(3, .int (u.2.1 3 k)), (2, .int (wy + (abI ((u.2.1 3 k) - la)))), (0, .ref o), (1, .int (bI rd)), (4, .int fi), (5, .int (nI k))]) hx hb dX6_wayOf_73 rfl hl (by decide) rfl (fun ls hl => ?_)
              refine lv_iinc (v := (nI (k + 1))) (lv' := [(5, .int (nI (k + 1))), (3, .int (u.2.1 3 k)), (2, .int (wy + (abI ((u.2.1 3 k) - la)))), (0, .ref o), (1, .int (bI rd)), (4, .int fi)]) hx hb dX6_wayOf_74 hl (k := 5) rfl (nI_inc k) (by decide) rfl (fun ls hl => ?_)
              refine lv_goto (tgt := 10) hx hb dX6_wayOf_77 (by decide) ?_
              exact ih10 (k + 1) (wy + (abI ((u.2.1 3 k) - la))) (u.2.1 3 k) fi ls (by omega) (by first | omega | assumption | rfl | (simp_all; done) | grind) (by (clear hq hP hK hts hC hx hb ho hRm hl ih10); grind [wayS]) (by (clear hq hP hK hts hC hx hb ho hRm hl ih10); grind [wayS]) (by (clear hq hP hK hts hC hx hb ho hRm hl ih10); grind [wayS])  (lv_sub hl [3, 4, 2, 1, 5, 0] rfl)
            · refine lv_aload_n hx hb dX6_wayOf_57 rfl (lv_at hl 1 rfl) ?_
              refine M_get hC hK hP 3 (by decide) (fM3 _ _) q1204 dX6_wayOf_58 ?_
              refine lv_iload hx hb dX6_wayOf_61 (lv_at hl 5 rfl) ?_
              refine M_ald hC hK hP 3 4 12 k (aM3 _ _ _ _) (by decide) (rfl) (by omega) dX6_wayOf_63 ?_
              refine lv_istore (lv' := [(4, .int (u.2.1 3 k)), (2, .int (wy + (abI ((u.2.1 3 k) - la)))), (0, .ref o), (1, .int (bI rd)), (3, .int la), (5, .int (nI k))]) hx hb dX6_wayOf_64 hl (by decide) rfl (fun ls hl => ?_)
              refine lv_aload_n hx hb dX6_wayOf_66 rfl (lv_at hl 2 rfl) ?_
              refine M_get hC hK hP 3 (by decide) (fM3 _ _) q1204 dX6_wayOf_67 ?_
              refine lv_iload hx hb dX6_wayOf_70 (lv_at hl 5 rfl) ?_
              refine M_ald hC hK hP 3 4 12 k (aM3 _ _ _ _) (by decide) (rfl) (by omega) dX6_wayOf_72 ?_
              refine lv_istore_n (lv' := [(3, .int (u.2.1 3 k)), (4, .int (u.2.1 3 k)), (2, .int (wy + (abI ((u.2.1 3 k) - la)))), (0, .ref o), (1, .int (bI rd)), (5, .int (nI k))]) hx hb dX6_wayOf_73 rfl hl (by decide) rfl (fun ls hl => ?_)
              refine lv_iinc (v := (nI (k + 1))) (lv' := [(5, .int (nI (k + 1))), (3, .int (u.2.1 3 k)), (4, .int (u.2.1 3 k)), (2, .int (wy + (abI ((u.2.1 3 k) - la)))), (0, .ref o), (1, .int (bI rd))]) hx hb dX6_wayOf_74 hl (k := 5) rfl (nI_inc k) (by decide) rfl (fun ls hl => ?_)
              refine lv_goto (tgt := 10) hx hb dX6_wayOf_77 (by decide) ?_
              exact ih10 (k + 1) (wy + (abI ((u.2.1 3 k) - la))) (u.2.1 3 k) (u.2.1 3 k) ls (by omega) (by first | omega | assumption | rfl | (simp_all; done) | grind) (by (clear hq hP hK hts hC hx hb ho hRm hl ih10); grind [wayS]) (by (clear hq hP hK hts hC hx hb ho hRm hl ih10); grind [wayS]) (by (clear hq hP hK hts hC hx hb ho hRm hl ih10); grind [wayS])  (lv_sub hl [4, 5, 3, 1, 2, 0] rfl)
        · refine lv_goto (tgt := 74) hx hb dX6_wayOf_28 (by decide) ?_
          refine lv_iinc (v := (nI (k + 1))) (lv' := [(5, .int (nI (k + 1))), (0, .ref o), (1, .int (bI rd)), (2, .int wy), (3, .int la), (4, .int fi)]) hx hb dX6_wayOf_74 hl (k := 5) rfl (nI_inc k) (by decide) rfl (fun ls hl => ?_)
          refine lv_goto (tgt := 10) hx hb dX6_wayOf_77 (by decide) ?_
          exact ih10 (k + 1) wy la fi ls (by omega) (by first | omega | assumption | rfl | (simp_all; done) | grind) (by (clear hq hP hK hts hC hx hb ho hRm hl ih10); grind [wayS]) (by (clear hq hP hK hts hC hx hb ho hRm hl ih10); grind [wayS]) (by (clear hq hP hK hts hC hx hb ho hRm hl ih10); grind [wayS])  (lv_sub hl [1, 2, 3, 4, 5, 0] rfl)
  exact LP10 _ 0 0 (-1) (-1) ls (Nat.lt_succ_self _) (by first | omega | assumption | rfl | (simp_all; done) | grind) (rfl) (rfl) (rfl)  (lv_sub hl [4, 5, 3, 2, 1, 0] rfl)
set_option maxHeartbeats 4000000 in
theorem c_X6_seenByRota (G : GG) (l : Launch) (o : Nat) (R : Nat → Nat) (u : MS) (hw : WOK (u.2.1 3)) : CI G l yX6_seenByRota cX6_seenByRota 3 .int 5 88 [.ref o] (PM G o R u) (byRotaS (u.2.1 3) (snS (u.1 9) (u.2.1 5) (u.2.1 6) (u.2.1 7) (u.2.1 4)) 12) := by
  refine CI.mk RX6 pnX6 rfl (rfl) (Nat.le_of_ble_eq_true rfl) (fun pg en Rm sg mm ar bw mth cd QQ ls hC hRm hK hP hl hq => ?_)
  have hx := hC.1; have hb := hC.2.1; have ho := hC.2.2.2.1; have hts := hC.2.2.2.2
  have hl : lv_has ls 3 [(0, .ref o)] := hl
  refine lv_iconst (v := 0) hx hb dX6_seenByRota_0 (by decide) ?_
  refine lv_istore_n (lv' := [(1, .int 0), (0, .ref o)]) hx hb dX6_seenByRota_1 rfl hl (by decide) rfl (fun ls hl => ?_)
  refine lv_iconst (v := 0) hx hb dX6_seenByRota_2 (by decide) ?_
  refine lv_istore_n (lv' := [(2, .int 0), (1, .int 0), (0, .ref o)]) hx hb dX6_seenByRota_3 rfl hl (by decide) rfl (fun ls hl => ?_)
  have LP4 : ∀ (fu4 : Nat) (k : Nat) (set : Int32) (ls : Array Slot), 12 - k < fu4 → k ≤ 12 → set = byRotaS (u.2.1 3) (snS (u.1 9) (u.2.1 5) (u.2.1 6) (u.2.1 7) (u.2.1 4)) k → lv_has ls 3 [(0, .ref o), (1, .int set), (2, .int (nI k))] → W pg l en Rm sg mm ar bw mth cd sg.heap [] 0 0 QQ (F0 mm 4 ls []) := by
    intro fu4
    induction fu4 with
    | zero => intro k set ls hm4 hk hset hl; exact absurd hm4 (Nat.not_lt_zero _)
    | succ fu4 ih4 =>
      intro k set ls hm4 hk hset hl
      refine lv_iload_n hx hb dX6_seenByRota_4 rfl (lv_at hl 2 rfl) ?_
      refine lv_bipush (v := 12) hx hb dX6_seenByRota_5 (by decide) ?_
      refine lv_icmp_ge (tgt := 40) hx hb dX6_seenByRota_7 (by decide) (fun c7 => ?_) (fun c7 => ?_)
      · have c7 : 12 ≤ k := (nI_leI (a := 12) (b := k) (by omega) (by omega)).mp c7
        refine lv_iload_n hx hb dX6_seenByRota_40 rfl (lv_at hl 1 rfl) ?_
        exact hq _ _ _ dX6_seenByRota_41 (by have hfin : k = 12 := (by omega); subst hfin; exact hset)
      · have c7 : ¬ (12 ≤ k) := mt (nI_leI (a := 12) (b := k) (by omega) (by omega)).mpr c7
        refine lv_aload_n hx hb dX6_seenByRota_10 rfl (lv_at hl 0 rfl) ?_
        refine M_get hC hK hP 3 (by decide) (fM3 _ _) q1204 dX6_seenByRota_11 ?_
        refine lv_iload_n hx hb dX6_seenByRota_14 rfl (lv_at hl 2 rfl) ?_
        refine M_ald hC hK hP 3 4 12 k (aM3 _ _ _ _) (by decide) (rfl) (by omega) dX6_seenByRota_15 ?_
        refine lv_iconst (v := (-1)) hx hb dX6_seenByRota_16 (by decide) ?_
        refine lv_icmp_eq (tgt := 34) hx hb dX6_seenByRota_17 (by decide) (fun c17 => ?_) (fun c17 => ?_)
        · refine lv_iinc (v := (nI (k + 1))) (lv' := [(2, .int (nI (k + 1))), (0, .ref o), (1, .int set)]) hx hb dX6_seenByRota_34 hl (k := 2) rfl (nI_inc k) (by decide) rfl (fun ls hl => ?_)
          refine lv_goto (tgt := 4) hx hb dX6_seenByRota_37 (by decide) ?_
          exact ih4 (k + 1) set ls (by omega) (by first | omega | assumption | rfl | (simp_all; done) | grind) (by (clear hq hP hK hts hC hx hb ho hRm hl ih4); grind [byRotaS, snS])  (lv_sub hl [1, 2, 0] rfl)
        · refine lv_iload_n hx hb dX6_seenByRota_20 rfl (lv_at hl 1 rfl) ?_
          refine lv_aload_n hx hb dX6_seenByRota_21 rfl (lv_at hl 0 rfl) ?_
          refine lv_aload_n hx hb dX6_seenByRota_22 rfl (lv_at hl 0 rfl) ?_
          refine M_get hC hK hP 3 (by decide) (fM3 _ _) q1204 dX6_seenByRota_23 ?_
          refine lv_iload_n hx hb dX6_seenByRota_26 rfl (lv_at hl 2 rfl) ?_
          refine M_ald hC hK hP 3 4 12 k (aM3 _ _ _ _) (by decide) (rfl) (by omega) dX6_seenByRota_27 ?_
          refine W_top (y := (nI (ix ((u.2.1 3) k)))) ((hw.ix (t := k) (by omega) (by assumption)).1) ?_
          refine lv_iload_n hx hb dX6_seenByRota_28 rfl (lv_at hl 2 rfl) ?_
          refine CI.callV hC hK hl (c_X6_seenBy G l o R u (ix ((u.2.1 3) k)) (nI k) ((hw.ix (t := k) (by omega) (by assumption)).2)) hP (hP.recv hK) q1406 q1408 qs46 q116 q1409 mdX6_seenBy (room_ok hRm rfl) rfl rfl dX6_seenByRota_29 ?_
          refine lv_ior hx hb dX6_seenByRota_32 ?_
          refine lv_istore_n (lv' := [(1, .int (set ||| (seenS (u.1 9) (u.2.1 5) (u.2.1 6) (u.2.1 7) ((u.2.1 4) (ix ((u.2.1 3) k))) (nI k)))), (0, .ref o), (2, .int (nI k))]) hx hb dX6_seenByRota_33 rfl hl (by decide) rfl (fun ls hl => ?_)
          refine lv_iinc (v := (nI (k + 1))) (lv' := [(2, .int (nI (k + 1))), (1, .int (set ||| (seenS (u.1 9) (u.2.1 5) (u.2.1 6) (u.2.1 7) ((u.2.1 4) (ix ((u.2.1 3) k))) (nI k)))), (0, .ref o)]) hx hb dX6_seenByRota_34 hl (k := 2) rfl (nI_inc k) (by decide) rfl (fun ls hl => ?_)
          refine lv_goto (tgt := 4) hx hb dX6_seenByRota_37 (by decide) ?_
          exact ih4 (k + 1) (set ||| (seenS (u.1 9) (u.2.1 5) (u.2.1 6) (u.2.1 7) ((u.2.1 4) (ix ((u.2.1 3) k))) (nI k))) ls (by omega) (by first | omega | assumption | rfl | (simp_all; done) | grind) (by (clear hq hP hK hts hC hx hb ho hRm hl ih4); grind [byRotaS, snS])  (lv_sub hl [2, 1, 0] rfl)
  exact LP4 _ 0 0 ls (Nat.lt_succ_self _) (by first | omega | assumption | rfl | (simp_all; done) | grind) (rfl)  (lv_sub hl [2, 1, 0] rfl)
set_option maxHeartbeats 4000000 in
theorem c_X6_rotaIs (G : GG) (l : Launch) (o : Nat) (R : Nat → Nat) (u : MS) (k : Int32) (hw : WOK (u.2.1 3)) : CI G l yX6_rotaIs cX6_rotaIs 2 .int 6 110 [.ref o, .int k] (PM G o R u) (rotaI (u.2.1 3) (snS (u.1 9) (u.2.1 5) (u.2.1 6) (u.2.1 7) (u.2.1 4)) k) := by
  refine CI.mk RX6 pnX6 rfl (rfl) (Nat.le_of_ble_eq_true rfl) (fun pg en Rm sg mm ar bw mth cd QQ ls hC hRm hK hP hl hq => ?_)
  have hx := hC.1; have hb := hC.2.1; have ho := hC.2.2.2.1; have hts := hC.2.2.2.2
  have hl : lv_has ls 2 [(0, .ref o), (1, .int k)] := hl
  refine lv_iload_n hx hb dX6_rotaIs_0 rfl (lv_at hl 1 rfl) ?_
  refine CI.callS hC hK hl (c_X6_isTurn G l k ) trivial q1389 q1390 q116 q1391 mdX6_isTurn (room_ok hRm rfl) rfl rfl dX6_rotaIs_1 ?_
  refine lv_if_eq (tgt := 17) hx hb dX6_rotaIs_4 (by decide) (fun c4 => ?_) (fun c4 => ?_)
  · have c4 : (isTurnB k) = false := bI_0.mp c4
    refine lv_iload_n hx hb dX6_rotaIs_17 rfl (lv_at hl 1 rfl) ?_
    by_cases s18_100 : k = 100
    · refine lv_tableIn (tgt := 44) hx hb dX6_rotaIs_18 (by rw [s18_100]; decide) (by rw [s18_100]; decide) (by rw [s18_100]; rfl) (by decide) ?_
      refine lv_aload_n hx hb dX6_rotaIs_44 rfl (lv_at hl 0 rfl) ?_
      refine lv_iconst (v := 0) hx hb dX6_rotaIs_45 (by decide) ?_
      refine CI.callV hC hK hl (c_X6_wayOf G l o R u false ) hP (hP.recv hK) q1642 q1644 qs89 q116 q1645 mdX6_wayOf (room_ok hRm rfl) rfl rfl dX6_rotaIs_46 ?_
      exact hq _ _ _ dX6_rotaIs_49 (by grind [rotaI])
    by_cases s18_101 : k = 101
    · refine lv_tableIn (tgt := 50) hx hb dX6_rotaIs_18 (by rw [s18_101]; decide) (by rw [s18_101]; decide) (by rw [s18_101]; rfl) (by decide) ?_
      refine lv_aload_n hx hb dX6_rotaIs_50 rfl (lv_at hl 0 rfl) ?_
      refine lv_iconst (v := 1) hx hb dX6_rotaIs_51 (by decide) ?_
      refine CI.callV hC hK hl (c_X6_wayOf G l o R u true ) hP (hP.recv hK) q1642 q1644 qs89 q116 q1645 mdX6_wayOf (room_ok hRm rfl) rfl rfl dX6_rotaIs_52 ?_
      exact hq _ _ _ dX6_rotaIs_55 (by grind [rotaI])
    by_cases s18_102 : k = 102
    · refine lv_tableIn (tgt := 56) hx hb dX6_rotaIs_18 (by rw [s18_102]; decide) (by rw [s18_102]; decide) (by rw [s18_102]; rfl) (by decide) ?_
      refine lv_aload_n hx hb dX6_rotaIs_56 rfl (lv_at hl 0 rfl) ?_
      refine CI.callV hC hK hl (c_X6_seenByRota G l o R u  (by first | assumption | omega | rfl | (simp_all; done))) hP (hP.recv hK) q1646 q1648 qs90 q116 q1649 mdX6_seenByRota (room_ok hRm rfl) rfl rfl dX6_rotaIs_57 ?_
      exact hq _ _ _ dX6_rotaIs_60 (by grind [rotaI])
    refine lv_tableOut (tgt := 61) hx hb dX6_rotaIs_18 (sw_out (x := k) (lo := 100) (hi := 102) (fun v h1 h2 => by rcases (show v = 100 ∨ v = 101 ∨ v = 102 by omega) with rfl | rfl | rfl <;> first | exact s18_100 | exact s18_101 | exact s18_102)) (by decide) ?_
    refine lv_iconst (v := (-1)) hx hb dX6_rotaIs_61 (by decide) ?_
    exact hq _ _ _ dX6_rotaIs_62 (by grind [rotaI])
  · have c4 : (isTurnB k) = true := bI_1.mp c4
    obtain ⟨j, hj, rfl, hjx⟩ := isTurnB_nI c4
    have hl : lv_has ls 2 [(0, .ref o), (1, .int (nI j))] := hl
    refine lv_aload_n hx hb dX6_rotaIs_7 rfl (lv_at hl 0 rfl) ?_
    refine M_get hC hK hP 3 (by decide) (fM3 _ _) q1204 dX6_rotaIs_8 ?_
    refine lv_iload_n hx hb dX6_rotaIs_11 rfl (lv_at hl 1 rfl) ?_
    refine M_ald hC hK hP 3 4 12 j (aM3 _ _ _ _) (by decide) (rfl) (by omega) dX6_rotaIs_12 ?_
    refine CI.callS hC hK hl (c_X6_orNone G l (u.2.1 3 j) ) trivial q1609 q1610 q116 q1611 mdX6_orNone (room_ok hRm rfl) rfl rfl dX6_rotaIs_13 ?_
    exact hq _ _ _ dX6_rotaIs_16 (by grind [rotaI])
set_option maxHeartbeats 4000000 in
theorem c_X6_next (G : GG) (l : Launch) (o : Nat) (R : Nat → Nat) (u : MS) (h : Int32) (th : Int32) (t : Int32) : CI G l yX6_next cX6_next 6 .int 4 64 [.ref o, .int h, .int th, .int t] (PM G o R u) (nextI (u.1 8) (u.1 9) (u.2.1 3) (snS (u.1 9) (u.2.1 5) (u.2.1 6) (u.2.1 7) (u.2.1 4)) h th t) := by
  refine CI.mk RX6 pnX6 rfl (rfl) (Nat.le_of_ble_eq_true rfl) (fun pg en Rm sg mm ar bw mth cd QQ ls hC hRm hK hP hl hq => ?_)
  have hx := hC.1; have hb := hC.2.1; have ho := hC.2.2.2.1; have hts := hC.2.2.2.2
  have hl : lv_has ls 6 [(0, .ref o), (1, .int h), (2, .int th), (3, .int t)] := hl
  refine lv_aload_n hx hb dX6_next_0 rfl (lv_at hl 0 rfl) ?_
  refine lv_iload_n hx hb dX6_next_1 rfl (lv_at hl 1 rfl) ?_
  refine CI.callV hC hK hl (c_X6_isHouse G l o R u h ) hP (hP.recv hK) q1395 q1397 qs45 q116 q1398 mdX6_isHouse (room_ok hRm rfl) rfl rfl dX6_next_2 ?_
  refine lv_if_eq (tgt := 23) hx hb dX6_next_5 (by decide) (fun c5 => ?_) (fun c5 => ?_)
  · have c5 : (isHouseB (u.1 8) h) = false := bI_0.mp c5
    refine lv_iconst (v := (-1)) hx hb dX6_next_23 (by decide) ?_
    exact hq _ _ _ dX6_next_24 (by (clear hq hP hK hts hC hx hb ho hRm hl); grind [nextI])
  · have c5 : (isHouseB (u.1 8) h) = true := bI_1.mp c5
    obtain ⟨j, hj, rfl, hjx⟩ := isHouseB_nI c5
    have hl : lv_has ls 6 [(0, .ref o), (1, .int (nI j)), (2, .int th), (3, .int t)] := hl
    refine lv_aload_n hx hb dX6_next_8 rfl (lv_at hl 0 rfl) ?_
    refine lv_iload_n hx hb dX6_next_9 rfl (lv_at hl 2 rfl) ?_
    refine CI.callV hC hK hl (c_X6_isThing G l o R u th ) hP (hP.recv hK) q1410 q1412 qs47 q116 q1413 mdX6_isThing (room_ok hRm rfl) rfl rfl dX6_next_10 ?_
    refine lv_if_eq (tgt := 23) hx hb dX6_next_13 (by decide) (fun c13 => ?_) (fun c13 => ?_)
    · have c13 : (isHouseB (u.1 9) th) = false := bI_0.mp c13
      refine lv_iconst (v := (-1)) hx hb dX6_next_23 (by decide) ?_
      exact hq _ _ _ dX6_next_24 (by (clear hq hP hK hts hC hx hb ho hRm hl); grind [nextI])
    · have c13 : (isHouseB (u.1 9) th) = true := bI_1.mp c13
      obtain ⟨a, ha, rfl, hax⟩ := isHouseB_nI c13
      have hl : lv_has ls 6 [(0, .ref o), (1, .int (nI j)), (2, .int (nI a)), (3, .int t)] := hl
      refine lv_iload_n hx hb dX6_next_16 rfl (lv_at hl 3 rfl) ?_
      refine CI.callS hC hK hl (c_X6_isTurn G l t ) trivial q1389 q1390 q116 q1391 mdX6_isTurn (room_ok hRm rfl) rfl rfl dX6_next_17 ?_
      refine lv_if_ne (tgt := 25) hx hb dX6_next_20 (by decide) (fun c20 => ?_) (fun c20 => ?_)
      · have c20 : (isTurnB t) = true := bI_1.mp c20
        obtain ⟨tj, htj, rfl, htjx⟩ := isTurnB_nI c20
        have hl : lv_has ls 6 [(0, .ref o), (1, .int (nI j)), (2, .int (nI a)), (3, .int (nI tj))] := hl
        refine lv_iconst (v := 0) hx hb dX6_next_25 (by decide) ?_
        refine lv_istore (lv' := [(4, .int 0), (0, .ref o), (1, .int (nI j)), (2, .int (nI a)), (3, .int (nI tj))]) hx hb dX6_next_26 hl (by decide) rfl (fun ls hl => ?_)
        have LP28 : ∀ (fu28 : Nat) (k : Nat) (ls : Array Slot), 12 - k < fu28 → k ≤ 12 → firstS (fun k => decide ((u.2.1 3) ((tj + k) % 12) = nI j) && hasB ((snS (u.1 9) (u.2.1 5) (u.2.1 6) (u.2.1 7) (u.2.1 4)) j (nI ((tj + k) % 12))) (nI a)) 12 0 = firstS (fun k => decide ((u.2.1 3) ((tj + k) % 12) = nI j) && hasB ((snS (u.1 9) (u.2.1 5) (u.2.1 6) (u.2.1 7) (u.2.1 4)) j (nI ((tj + k) % 12))) (nI a)) (12 - k) k → lv_has ls 6 [(0, .ref o), (1, .int (nI j)), (2, .int (nI a)), (3, .int (nI tj)), (4, .int (nI k))] → W pg l en Rm sg mm ar bw mth cd sg.heap [] 0 0 QQ (F0 mm 28 ls []) := by
          intro fu28
          induction fu28 with
          | zero => intro k ls hm28 hk hf hl; exact absurd hm28 (Nat.not_lt_zero _)
          | succ fu28 ih28 =>
            intro k ls hm28 hk hf hl
            refine lv_iload hx hb dX6_next_28 (lv_at hl 4 rfl) ?_
            refine lv_bipush (v := 12) hx hb dX6_next_30 (by decide) ?_
            refine lv_icmp_ge (tgt := 75) hx hb dX6_next_32 (by decide) (fun c32 => ?_) (fun c32 => ?_)
            · have c32 : 12 ≤ k := (nI_leI (a := 12) (b := k) (by omega) (by omega)).mp c32
              refine lv_bipush (v := (-2)) hx hb dX6_next_75 (by decide) ?_
              exact hq _ _ _ dX6_next_77 (by rw [nextI, if_pos (by simp [*]), hjx, htjx, hf, firstS_e (by omega)])
            · have c32 : ¬ (12 ≤ k) := mt (nI_leI (a := 12) (b := k) (by omega) (by omega)).mpr c32
              refine lv_iload_n hx hb dX6_next_35 rfl (lv_at hl 3 rfl) ?_
              refine lv_iload hx hb dX6_next_36 (lv_at hl 4 rfl) ?_
              refine lv_iadd hx hb dX6_next_38 ?_
              refine W_top (nI_add tj k) ?_
              refine lv_bipush (v := 12) hx hb dX6_next_39 (by decide) ?_
              refine lv_irem hx hb dX6_next_41 (by decide) ?_
              refine W_top (pk_rem (a := (tj + k)) (d := 12) (by omega) (by omega) (by omega)) ?_
              refine lv_istore (lv' := [(5, .int (nI ((tj + k) % 12))), (0, .ref o), (1, .int (nI j)), (2, .int (nI a)), (3, .int (nI tj)), (4, .int (nI k))]) hx hb dX6_next_42 hl (by decide) rfl (fun ls hl => ?_)
              refine lv_aload_n hx hb dX6_next_44 rfl (lv_at hl 1 rfl) ?_
              refine M_get hC hK hP 3 (by decide) (fM3 _ _) q1204 dX6_next_45 ?_
              refine lv_iload hx hb dX6_next_48 (lv_at hl 0 rfl) ?_
              refine M_ald hC hK hP 3 4 12 ((tj + k) % 12) (aM3 _ _ _ _) (by decide) (rfl) (by omega) dX6_next_50 ?_
              refine lv_iload_n hx hb dX6_next_51 rfl (lv_at hl 2 rfl) ?_
              refine lv_icmp_ne (tgt := 69) hx hb dX6_next_52 (by decide) (fun c52 => ?_) (fun c52 => ?_)
              · refine lv_iinc (v := (nI (k + 1))) (lv' := [(4, .int (nI (k + 1))), (5, .int (nI ((tj + k) % 12))), (0, .ref o), (1, .int (nI j)), (2, .int (nI a)), (3, .int (nI tj))]) hx hb dX6_next_69 hl (k := 5) rfl (nI_inc k) (by decide) rfl (fun ls hl => ?_)
                refine lv_goto (tgt := 28) hx hb dX6_next_72 (by decide) ?_
                exact ih28 (k + 1) ls (by omega) (by first | omega | assumption | rfl | (simp_all; done) | grind) (by rw [hf]; refine firstS_f (by omega) ?_; rw [snS_bit _ _ _ _ _ _ _ ha]; (clear hq hP hK hts hC hx hb ho hRm hl ih28); grind)  (lv_sub hl [2, 3, 4, 5, 0] rfl)
              · refine lv_aload_n hx hb dX6_next_55 rfl (lv_at hl 1 rfl) ?_
                refine lv_iload_n hx hb dX6_next_56 rfl (lv_at hl 2 rfl) ?_
                refine lv_iload_n hx hb dX6_next_57 rfl (lv_at hl 3 rfl) ?_
                refine lv_iload hx hb dX6_next_58 (lv_at hl 0 rfl) ?_
                refine CI.callV hC hK hl (c_X6_isSeen G l o R u j a (nI ((tj + k) % 12)) (by first | assumption | omega | rfl | (simp_all; done)) (by first | assumption | omega | rfl | (simp_all; done))) hP (hP.recv hK) q1414 q1416 qs48 q116 q1417 mdX6_isSeen (room_ok hRm rfl) rfl rfl dX6_next_60 ?_
                refine lv_if_eq (tgt := 69) hx hb dX6_next_63 (by decide) (fun c63 => ?_) (fun c63 => ?_)
                · have c63 : (isSeenB ((u.2.1 5) a) ((u.2.1 4) j) ((u.2.1 6) a) ((u.2.1 7) a) (nI ((tj + k) % 12))) = false := bI_0.mp c63
                  refine lv_iinc (v := (nI (k + 1))) (lv' := [(4, .int (nI (k + 1))), (5, .int (nI ((tj + k) % 12))), (0, .ref o), (1, .int (nI j)), (2, .int (nI a)), (3, .int (nI tj))]) hx hb dX6_next_69 hl (k := 5) rfl (nI_inc k) (by decide) rfl (fun ls hl => ?_)
                  refine lv_goto (tgt := 28) hx hb dX6_next_72 (by decide) ?_
                  exact ih28 (k + 1) ls (by omega) (by first | omega | assumption | rfl | (simp_all; done) | grind) (by rw [hf]; refine firstS_f (by omega) ?_; rw [snS_bit _ _ _ _ _ _ _ ha]; (clear hq hP hK hts hC hx hb ho hRm hl ih28); grind)  (lv_sub hl [2, 3, 4, 5, 0] rfl)
                · have c63 : (isSeenB ((u.2.1 5) a) ((u.2.1 4) j) ((u.2.1 6) a) ((u.2.1 7) a) (nI ((tj + k) % 12))) = true := bI_1.mp c63
                  refine lv_iload hx hb dX6_next_66 (lv_at hl 5 rfl) ?_
                  exact hq _ _ _ dX6_next_68 (by rw [nextI, if_pos (by simp [*]), hjx, htjx, hf, firstS_t (by omega) (by rw [snS_bit _ _ _ _ _ _ _ ha]; simp [*])])
        exact LP28 _ 0 ls (Nat.lt_succ_self _) (by first | omega | assumption | rfl | (simp_all; done) | grind) (rfl)  (lv_sub hl [1, 2, 3, 4, 0] rfl)
      · have c20 : (isTurnB t) = false := bI_0.mp c20
        refine lv_iconst (v := (-1)) hx hb dX6_next_23 (by decide) ?_
        exact hq _ _ _ dX6_next_24 (by (clear hq hP hK hts hC hx hb ho hRm hl); grind [nextI])
set_option maxHeartbeats 4000000 in
theorem c_X6_light (G : GG) (l : Launch) (o : Nat) (R : Nat → Nat) (u : MS) (h : Int32) (k : Int32) : CI G l yX6_light cX6_light 3 .int 6 111 [.ref o, .int h, .int k] (PM G o R u) (lightI (u.1 8) (snS (u.1 9) (u.2.1 5) (u.2.1 6) (u.2.1 7) (u.2.1 4)) h k) := by
  refine CI.mk RX6 pnX6 rfl (rfl) (Nat.le_of_ble_eq_true rfl) (fun pg en Rm sg mm ar bw mth cd QQ ls hC hRm hK hP hl hq => ?_)
  have hx := hC.1; have hb := hC.2.1; have ho := hC.2.2.2.1; have hts := hC.2.2.2.2
  have hl : lv_has ls 3 [(0, .ref o), (1, .int h), (2, .int k)] := hl
  refine lv_aload_n hx hb dX6_light_0 rfl (lv_at hl 0 rfl) ?_
  refine lv_iload_n hx hb dX6_light_1 rfl (lv_at hl 1 rfl) ?_
  refine CI.callV hC hK hl (c_X6_isHouse G l o R u h ) hP (hP.recv hK) q1395 q1397 qs45 q116 q1398 mdX6_isHouse (room_ok hRm rfl) rfl rfl dX6_light_2 ?_
  refine lv_if_eq (tgt := 17) hx hb dX6_light_5 (by decide) (fun c5 => ?_) (fun c5 => ?_)
  · have c5 : (isHouseB (u.1 8) h) = false := bI_0.mp c5
    refine lv_iconst (v := (-1)) hx hb dX6_light_17 (by decide) ?_
    exact hq _ _ _ dX6_light_18 (by (clear hq hP hK hts hC hx hb ho hRm hl); grind [lightI])
  · have c5 : (isHouseB (u.1 8) h) = true := bI_1.mp c5
    obtain ⟨j, hj, rfl, hjx⟩ := isHouseB_nI c5
    have hl : lv_has ls 3 [(0, .ref o), (1, .int (nI j)), (2, .int k)] := hl
    refine lv_iload_n hx hb dX6_light_8 rfl (lv_at hl 2 rfl) ?_
    refine lv_iconst (v := 0) hx hb dX6_light_9 (by decide) ?_
    refine lv_iconst (v := 1) hx hb dX6_light_10 (by decide) ?_
    refine CI.callS hC hK hl (c_X6_in G l k 0 1 ) trivial q1392 q1393 q116 q1394 mdX6_in (room_ok hRm rfl) rfl rfl dX6_light_11 ?_
    refine lv_if_ne (tgt := 19) hx hb dX6_light_14 (by decide) (fun c14 => ?_) (fun c14 => ?_)
    · have c14 : (inB k 0 1) = true := bI_1.mp c14
      refine lv_iload_n hx hb dX6_light_19 rfl (lv_at hl 2 rfl) ?_
      refine lv_if_ne (tgt := 34) hx hb dX6_light_20 (by decide) (fun c20 => ?_) (fun c20 => ?_)
      · refine lv_aload_n hx hb dX6_light_34 rfl (lv_at hl 0 rfl) ?_
        refine lv_iload_n hx hb dX6_light_35 rfl (lv_at hl 1 rfl) ?_
        refine CI.callV hC hK hl (c_X6_lightOf G l o R u j (by first | assumption | omega | rfl | (simp_all; done))) hP (hP.recv hK) q1658 q1660 qs91 q116 q1661 mdX6_lightOf (room_ok hRm rfl) rfl rfl dX6_light_36 ?_
        refine CI.callS hC hK hl (c_X6_longestRow G l (orN (lightC (snS (u.1 9) (u.2.1 5) (u.2.1 6) (u.2.1 7) (u.2.1 4)) j) 12) ) trivial q1628 q1629 q116 q1630 mdX6_longestRow (room_ok hRm rfl) rfl rfl dX6_light_39 ?_
        exact hq _ _ _ dX6_light_42 (by rw [lightI, if_pos ⟨c5, c14⟩]; first | (rw [if_pos c20, hjx, bitsI_orN _ (by omega)]; done) | (rw [if_neg c20, hjx, longS_orN]; done))
      · refine lv_aload_n hx hb dX6_light_23 rfl (lv_at hl 0 rfl) ?_
        refine lv_iload_n hx hb dX6_light_24 rfl (lv_at hl 1 rfl) ?_
        refine CI.callV hC hK hl (c_X6_lightOf G l o R u j (by first | assumption | omega | rfl | (simp_all; done))) hP (hP.recv hK) q1658 q1660 qs91 q116 q1661 mdX6_lightOf (room_ok hRm rfl) rfl rfl dX6_light_25 ?_
        refine CI.callS hC hK hl (c_X6_bits G l (orN (lightC (snS (u.1 9) (u.2.1 5) (u.2.1 6) (u.2.1 7) (u.2.1 4)) j) 12) ) trivial q1580 q1581 q116 q1582 mdX6_bits (room_ok hRm rfl) rfl rfl dX6_light_28 ?_
        refine lv_goto (tgt := 42) hx hb dX6_light_31 (by decide) ?_
        exact hq _ _ _ dX6_light_42 (by rw [lightI, if_pos ⟨c5, c14⟩]; first | (rw [if_pos c20, hjx, bitsI_orN _ (by omega)]; done) | (rw [if_neg c20, hjx, longS_orN]; done))
    · have c14 : (inB k 0 1) = false := bI_0.mp c14
      refine lv_iconst (v := (-1)) hx hb dX6_light_17 (by decide) ?_
      exact hq _ _ _ dX6_light_18 (by (clear hq hP hK hts hC hx hb ho hRm hl); grind [lightI])
set_option maxHeartbeats 4000000 in
theorem c_X6_seers (G : GG) (l : Launch) (o : Nat) (R : Nat → Nat) (u : MS) (th : Int32) : CI G l yX6_seers cX6_seers 4 .int 6 111 [.ref o, .int th] (PM G o R u) (seersI (u.1 8) (u.1 9) (snS (u.1 9) (u.2.1 5) (u.2.1 6) (u.2.1 7) (u.2.1 4)) th) := by
  refine CI.mk RX6 pnX6 rfl (rfl) (Nat.le_of_ble_eq_true rfl) (fun pg en Rm sg mm ar bw mth cd QQ ls hC hRm hK hP hl hq => ?_)
  have hx := hC.1; have hb := hC.2.1; have ho := hC.2.2.2.1; have hts := hC.2.2.2.2
  have hl : lv_has ls 4 [(0, .ref o), (1, .int th)] := hl
  refine lv_aload_n hx hb dX6_seers_0 rfl (lv_at hl 0 rfl) ?_
  refine lv_iload_n hx hb dX6_seers_1 rfl (lv_at hl 1 rfl) ?_
  refine CI.callV hC hK hl (c_X6_isThing G l o R u th ) hP (hP.recv hK) q1410 q1412 qs47 q116 q1413 mdX6_isThing (room_ok hRm rfl) rfl rfl dX6_seers_2 ?_
  refine lv_if_ne (tgt := 10) hx hb dX6_seers_5 (by decide) (fun c5 => ?_) (fun c5 => ?_)
  · have c5 : (isHouseB (u.1 9) th) = true := bI_1.mp c5
    obtain ⟨a, ha, rfl, hax⟩ := isHouseB_nI c5
    have hl : lv_has ls 4 [(0, .ref o), (1, .int (nI a))] := hl
    refine lv_iconst (v := 0) hx hb dX6_seers_10 (by decide) ?_
    refine lv_istore_n (lv' := [(2, .int 0), (0, .ref o), (1, .int (nI a))]) hx hb dX6_seers_11 rfl hl (by decide) rfl (fun ls hl => ?_)
    refine lv_iconst (v := 0) hx hb dX6_seers_12 (by decide) ?_
    refine lv_istore_n (lv' := [(3, .int 0), (2, .int 0), (0, .ref o), (1, .int (nI a))]) hx hb dX6_seers_13 rfl hl (by decide) rfl (fun ls hl => ?_)
    have LP14 : ∀ (fu14 : Nat) (k : Nat) (set : Int32) (ls : Array Slot), 16 - k < fu14 → k ≤ 16 → set = orN (fun h => isHouseB (u.1 8) (nI h) && hasB (everI (snS (u.1 9) (u.2.1 5) (u.2.1 6) (u.2.1 7) (u.2.1 4)) h) (nI a)) k → lv_has ls 4 [(0, .ref o), (1, .int (nI a)), (2, .int set), (3, .int (nI k))] → W pg l en Rm sg mm ar bw mth cd sg.heap [] 0 0 QQ (F0 mm 14 ls []) := by
      intro fu14
      induction fu14 with
      | zero => intro k set ls hm14 hk hset hl; exact absurd hm14 (Nat.not_lt_zero _)
      | succ fu14 ih14 =>
        intro k set ls hm14 hk hset hl
        refine lv_iload_n hx hb dX6_seers_14 rfl (lv_at hl 3 rfl) ?_
        refine lv_bipush (v := 16) hx hb dX6_seers_15 (by decide) ?_
        refine lv_icmp_ge (tgt := 52) hx hb dX6_seers_17 (by decide) (fun c17 => ?_) (fun c17 => ?_)
        · have c17 : 16 ≤ k := (nI_leI (a := 16) (b := k) (by omega) (by omega)).mp c17
          refine lv_iload_n hx hb dX6_seers_52 rfl (lv_at hl 2 rfl) ?_
          exact hq _ _ _ dX6_seers_53 (by have hfin : k = 16 := (by omega); subst hfin; (clear hq hP hK hts hC hx hb ho hRm hl ih14); grind [seersI])
        · have c17 : ¬ (16 ≤ k) := mt (nI_leI (a := 16) (b := k) (by omega) (by omega)).mpr c17
          refine lv_aload_n hx hb dX6_seers_20 rfl (lv_at hl 0 rfl) ?_
          refine lv_iload_n hx hb dX6_seers_21 rfl (lv_at hl 3 rfl) ?_
          refine CI.callV hC hK hl (c_X6_isHouse G l o R u (nI k) ) hP (hP.recv hK) q1395 q1397 qs45 q116 q1398 mdX6_isHouse (room_ok hRm rfl) rfl rfl dX6_seers_22 ?_
          refine lv_if_eq (tgt := 46) hx hb dX6_seers_25 (by decide) (fun c25 => ?_) (fun c25 => ?_)
          · have c25 : (isHouseB (u.1 8) (nI k)) = false := bI_0.mp c25
            refine lv_iinc (v := (nI (k + 1))) (lv' := [(3, .int (nI (k + 1))), (0, .ref o), (1, .int (nI a)), (2, .int set)]) hx hb dX6_seers_46 hl (k := 3) rfl (nI_inc k) (by decide) rfl (fun ls hl => ?_)
            refine lv_goto (tgt := 14) hx hb dX6_seers_49 (by decide) ?_
            exact ih14 (k + 1) set ls (by omega) (by first | omega | assumption | rfl | (simp_all; done) | grind) (by (clear hq hP hK hts hC hx hb ho hRm hl ih14); grind [orN, bitI, everS_eq])  (lv_sub hl [1, 2, 3, 0] rfl)
          · have c25 : (isHouseB (u.1 8) (nI k)) = true := bI_1.mp c25
            refine lv_aload_n hx hb dX6_seers_28 rfl (lv_at hl 0 rfl) ?_
            refine lv_iload_n hx hb dX6_seers_29 rfl (lv_at hl 3 rfl) ?_
            refine CI.callV hC hK hl (c_X6_everSeenBy G l o R u k (by first | assumption | omega | rfl | (simp_all; done))) hP (hP.recv hK) q1634 q1636 qs88 q116 q1637 mdX6_everSeenBy (room_ok hRm rfl) rfl rfl dX6_seers_30 ?_
            refine lv_iload_n hx hb dX6_seers_33 rfl (lv_at hl 1 rfl) ?_
            refine CI.callS hC hK hl (c_X6_has G l (everS (u.1 9) (u.2.1 5) (u.2.1 6) (u.2.1 7) ((u.2.1 4) k)) (nI a) ) trivial q1399 q1400 q116 q1401 mdX6_has (room_ok hRm rfl) rfl rfl dX6_seers_34 ?_
            refine lv_if_eq (tgt := 46) hx hb dX6_seers_37 (by decide) (fun c37 => ?_) (fun c37 => ?_)
            · have c37 : (hasB (everS (u.1 9) (u.2.1 5) (u.2.1 6) (u.2.1 7) ((u.2.1 4) k)) (nI a)) = false := bI_0.mp c37
              refine lv_iinc (v := (nI (k + 1))) (lv' := [(3, .int (nI (k + 1))), (0, .ref o), (1, .int (nI a)), (2, .int set)]) hx hb dX6_seers_46 hl (k := 3) rfl (nI_inc k) (by decide) rfl (fun ls hl => ?_)
              refine lv_goto (tgt := 14) hx hb dX6_seers_49 (by decide) ?_
              exact ih14 (k + 1) set ls (by omega) (by first | omega | assumption | rfl | (simp_all; done) | grind) (by (clear hq hP hK hts hC hx hb ho hRm hl ih14); grind [orN, bitI, everS_eq])  (lv_sub hl [1, 2, 3, 0] rfl)
            · have c37 : (hasB (everS (u.1 9) (u.2.1 5) (u.2.1 6) (u.2.1 7) ((u.2.1 4) k)) (nI a)) = true := bI_1.mp c37
              refine lv_iload_n hx hb dX6_seers_40 rfl (lv_at hl 2 rfl) ?_
              refine lv_iconst (v := 1) hx hb dX6_seers_41 (by decide) ?_
              refine lv_iload_n hx hb dX6_seers_42 rfl (lv_at hl 3 rfl) ?_
              refine lv_ishl hx hb dX6_seers_43 ?_
              refine lv_ior hx hb dX6_seers_44 ?_
              refine lv_istore_n (lv' := [(2, .int (set ||| (1 <<< ((nI k) &&& 31)))), (0, .ref o), (1, .int (nI a)), (3, .int (nI k))]) hx hb dX6_seers_45 rfl hl (by decide) rfl (fun ls hl => ?_)
              refine lv_iinc (v := (nI (k + 1))) (lv' := [(3, .int (nI (k + 1))), (2, .int (set ||| (1 <<< ((nI k) &&& 31)))), (0, .ref o), (1, .int (nI a))]) hx hb dX6_seers_46 hl (k := 3) rfl (nI_inc k) (by decide) rfl (fun ls hl => ?_)
              refine lv_goto (tgt := 14) hx hb dX6_seers_49 (by decide) ?_
              exact ih14 (k + 1) (set ||| (1 <<< ((nI k) &&& 31))) ls (by omega) (by first | omega | assumption | rfl | (simp_all; done) | grind) (by (clear hq hP hK hts hC hx hb ho hRm hl ih14); grind [orN, bitI, everS_eq])  (lv_sub hl [2, 3, 1, 0] rfl)
    exact LP14 _ 0 0 ls (Nat.lt_succ_self _) (by first | omega | assumption | rfl | (simp_all; done) | grind) (rfl)  (lv_sub hl [2, 3, 1, 0] rfl)
  · have c5 : (isHouseB (u.1 9) th) = false := bI_0.mp c5
    refine lv_iconst (v := (-1)) hx hb dX6_seers_8 (by decide) ?_
    exact hq _ _ _ dX6_seers_9 (by (clear hq hP hK hts hC hx hb ho hRm hl); grind [seersI])
set_option maxHeartbeats 4000000 in
theorem c_X6_spread (G : GG) (l : Launch) (o : Nat) (R : Nat → Nat) (u : MS) : CI G l yX6_spread cX6_spread 4 .int 4 59 [.ref o] (PM G o R u) (spreadI (u.1 8) (u.2.1 3)) := by
  refine CI.mk RX6 pnX6 rfl (rfl) (Nat.le_of_ble_eq_true rfl) (fun pg en Rm sg mm ar bw mth cd QQ ls hC hRm hK hP hl hq => ?_)
  have hx := hC.1; have hb := hC.2.1; have ho := hC.2.2.2.1; have hts := hC.2.2.2.2
  have hl : lv_has ls 4 [(0, .ref o)] := hl
  refine lv_iconst (v := 0) hx hb dX6_spread_0 (by decide) ?_
  refine lv_istore_n (lv' := [(1, .int 0), (0, .ref o)]) hx hb dX6_spread_1 rfl hl (by decide) rfl (fun ls hl => ?_)
  refine lv_bipush (v := 12) hx hb dX6_spread_2 (by decide) ?_
  refine lv_istore_n (lv' := [(2, .int 12), (1, .int 0), (0, .ref o)]) hx hb dX6_spread_4 rfl hl (by decide) rfl (fun ls hl => ?_)
  refine lv_iconst (v := 0) hx hb dX6_spread_5 (by decide) ?_
  refine lv_istore_n (lv' := [(3, .int 0), (2, .int 12), (1, .int 0), (0, .ref o)]) hx hb dX6_spread_6 rfl hl (by decide) rfl (fun ls hl => ?_)
  have LP7 : ∀ (fu7 : Nat) (k : Nat) (mo : Int32) (fe : Int32) (ls : Array Slot), 16 - k < fu7 → k ≤ 16 → mo = mostT (u.1 8) (u.2.1 3) k → fe = fewT (u.1 8) (u.2.1 3) k → lv_has ls 4 [(0, .ref o), (1, .int mo), (2, .int fe), (3, .int (nI k))] → W pg l en Rm sg mm ar bw mth cd sg.heap [] 0 0 QQ (F0 mm 7 ls []) := by
    intro fu7
    induction fu7 with
    | zero => intro k mo fe ls hm7 hk hmo hfe hl; exact absurd hm7 (Nat.not_lt_zero _)
    | succ fu7 ih7 =>
      intro k mo fe ls hm7 hk hmo hfe hl
      refine lv_iload_n hx hb dX6_spread_7 rfl (lv_at hl 3 rfl) ?_
      refine lv_bipush (v := 16) hx hb dX6_spread_8 (by decide) ?_
      refine lv_icmp_ge (tgt := 50) hx hb dX6_spread_10 (by decide) (fun c10 => ?_) (fun c10 => ?_)
      · have c10 : 16 ≤ k := (nI_leI (a := 16) (b := k) (by omega) (by omega)).mp c10
        refine lv_aload_n hx hb dX6_spread_50 rfl (lv_at hl 0 rfl) ?_
        refine M_get (v := .int (u.1 8)) hC hK hP 8 (by decide) (fM8 _ _) q1209 dX6_spread_51 ?_
        refine lv_if_ne (tgt := 61) hx hb dX6_spread_54 (by decide) (fun c54 => ?_) (fun c54 => ?_)
        · refine lv_iload_n hx hb dX6_spread_61 rfl (lv_at hl 1 rfl) ?_
          refine lv_iload_n hx hb dX6_spread_62 rfl (lv_at hl 2 rfl) ?_
          refine lv_isub hx hb dX6_spread_63 ?_
          exact hq _ _ _ dX6_spread_64 (by have hfin : k = 16 := (by omega); subst hfin; (clear hq hP hK hts hC hx hb ho hRm hl ih7); grind [spreadI])
        · refine lv_iconst (v := 0) hx hb dX6_spread_57 (by decide) ?_
          refine lv_goto (tgt := 64) hx hb dX6_spread_58 (by decide) ?_
          exact hq _ _ _ dX6_spread_64 (by have hfin : k = 16 := (by omega); subst hfin; (clear hq hP hK hts hC hx hb ho hRm hl ih7); grind [spreadI])
      · have c10 : ¬ (16 ≤ k) := mt (nI_leI (a := 16) (b := k) (by omega) (by omega)).mpr c10
        refine lv_aload_n hx hb dX6_spread_13 rfl (lv_at hl 0 rfl) ?_
        refine lv_iload_n hx hb dX6_spread_14 rfl (lv_at hl 3 rfl) ?_
        refine CI.callV hC hK hl (c_X6_isHouse G l o R u (nI k) ) hP (hP.recv hK) q1395 q1397 qs45 q116 q1398 mdX6_isHouse (room_ok hRm rfl) rfl rfl dX6_spread_15 ?_
        refine lv_if_ne (tgt := 24) hx hb dX6_spread_18 (by decide) (fun c18 => ?_) (fun c18 => ?_)
        · have c18 : (isHouseB (u.1 8) (nI k)) = true := bI_1.mp c18
          refine lv_iload_n hx hb dX6_spread_24 rfl (lv_at hl 1 rfl) ?_
          refine lv_aload_n hx hb dX6_spread_25 rfl (lv_at hl 0 rfl) ?_
          refine lv_iload_n hx hb dX6_spread_26 rfl (lv_at hl 3 rfl) ?_
          refine CI.callV hC hK hl (c_X6_turnsOf G l o R u (nI k) ) hP (hP.recv hK) q1620 q1622 qs86 q116 q1623 mdX6_turnsOf (room_ok hRm rfl) rfl rfl dX6_spread_27 ?_
          refine CI.callS hC hK hl (c_X6_max G l mo (turnsS (u.2.1 3) (nI k) 12) ) trivial q1631 q1632 q116 q1633 mdX6_max (room_ok hRm rfl) rfl rfl dX6_spread_30 ?_
          refine lv_istore_n (lv' := [(1, .int (mxI mo (turnsS (u.2.1 3) (nI k) 12))), (0, .ref o), (2, .int fe), (3, .int (nI k))]) hx hb dX6_spread_33 rfl hl (by decide) rfl (fun ls hl => ?_)
          refine lv_iload_n hx hb dX6_spread_34 rfl (lv_at hl 2 rfl) ?_
          refine lv_aload_n hx hb dX6_spread_35 rfl (lv_at hl 1 rfl) ?_
          refine lv_iload_n hx hb dX6_spread_36 rfl (lv_at hl 3 rfl) ?_
          refine CI.callV hC hK hl (c_X6_turnsOf G l o R u (nI k) ) hP (hP.recv hK) q1620 q1622 qs86 q116 q1623 mdX6_turnsOf (room_ok hRm rfl) rfl rfl dX6_spread_37 ?_
          refine CI.callS hC hK hl (c_X6_min G l fe (turnsS (u.2.1 3) (nI k) 12) ) trivial q1598 q1599 q116 q1600 mdX6_min (room_ok hRm rfl) rfl rfl dX6_spread_40 ?_
          refine lv_istore_n (lv' := [(2, .int (mnI fe (turnsS (u.2.1 3) (nI k) 12))), (1, .int (mxI mo (turnsS (u.2.1 3) (nI k) 12))), (0, .ref o), (3, .int (nI k))]) hx hb dX6_spread_43 rfl hl (by decide) rfl (fun ls hl => ?_)
          refine lv_iinc (v := (nI (k + 1))) (lv' := [(3, .int (nI (k + 1))), (2, .int (mnI fe (turnsS (u.2.1 3) (nI k) 12))), (1, .int (mxI mo (turnsS (u.2.1 3) (nI k) 12))), (0, .ref o)]) hx hb dX6_spread_44 hl (k := 3) rfl (nI_inc k) (by decide) rfl (fun ls hl => ?_)
          refine lv_goto (tgt := 7) hx hb dX6_spread_47 (by decide) ?_
          exact ih7 (k + 1) (mxI mo (turnsS (u.2.1 3) (nI k) 12)) (mnI fe (turnsS (u.2.1 3) (nI k) 12)) ls (by omega) (by first | omega | assumption | rfl | (simp_all; done) | grind) (by (clear hq hP hK hts hC hx hb ho hRm hl ih7); grind [mostT]) (by (clear hq hP hK hts hC hx hb ho hRm hl ih7); grind [fewT])  (lv_sub hl [3, 2, 1, 0] rfl)
        · have c18 : (isHouseB (u.1 8) (nI k)) = false := bI_0.mp c18
          refine lv_goto (tgt := 44) hx hb dX6_spread_21 (by decide) ?_
          refine lv_iinc (v := (nI (k + 1))) (lv' := [(3, .int (nI (k + 1))), (0, .ref o), (1, .int mo), (2, .int fe)]) hx hb dX6_spread_44 hl (k := 3) rfl (nI_inc k) (by decide) rfl (fun ls hl => ?_)
          refine lv_goto (tgt := 7) hx hb dX6_spread_47 (by decide) ?_
          exact ih7 (k + 1) mo fe ls (by omega) (by first | omega | assumption | rfl | (simp_all; done) | grind) (by (clear hq hP hK hts hC hx hb ho hRm hl ih7); grind [mostT]) (by (clear hq hP hK hts hC hx hb ho hRm hl ih7); grind [fewT])  (lv_sub hl [1, 2, 3, 0] rfl)
  exact LP7 _ 0 0 12 ls (Nat.lt_succ_self _) (by first | omega | assumption | rfl | (simp_all; done) | grind) (rfl) (rfl)  (lv_sub hl [3, 2, 1, 0] rfl)
set_option maxHeartbeats 4000000 in
theorem c_X6_readersOf (G : GG) (l : Launch) (o : Nat) (R : Nat → Nat) (u : MS) (t : Nat) (n : Nat) (hw : WOK (u.2.1 3)) (ht : t < 12) (hn : n ≤ 12) : CI G l yX6_readersOf cX6_readersOf 6 .int 5 88 [.ref o, .int (nI t), .int (nI n)] (PM G o R u) (rdI (u.2.1 3) (snS (u.1 9) (u.2.1 5) (u.2.1 6) (u.2.1 7) (u.2.1 4)) t n) := by
  refine CI.mk RX6 pnX6 rfl (rfl) (Nat.le_of_ble_eq_true rfl) (fun pg en Rm sg mm ar bw mth cd QQ ls hC hRm hK hP hl hq => ?_)
  have hx := hC.1; have hb := hC.2.1; have ho := hC.2.2.2.1; have hts := hC.2.2.2.2
  have hl : lv_has ls 6 [(0, .ref o), (1, .int (nI t)), (2, .int (nI n))] := hl
  refine lv_iconst (v := 0) hx hb dX6_readersOf_0 (by decide) ?_
  refine lv_istore_n (lv' := [(3, .int 0), (0, .ref o), (1, .int (nI t)), (2, .int (nI n))]) hx hb dX6_readersOf_1 rfl hl (by decide) rfl (fun ls hl => ?_)
  refine lv_iconst (v := 1) hx hb dX6_readersOf_2 (by decide) ?_
  refine lv_istore (lv' := [(4, .int 1), (3, .int 0), (0, .ref o), (1, .int (nI t)), (2, .int (nI n))]) hx hb dX6_readersOf_3 hl (by decide) rfl (fun ls hl => ?_)
  have LP5 : ∀ (fu5 : Nat) (k : Nat) (set : Int32) (ls : Array Slot), n + 1 - k < fu5 → k ≤ n + 1 → 1 ≤ k → rdI (u.2.1 3) (snS (u.1 9) (u.2.1 5) (u.2.1 6) (u.2.1 7) (u.2.1 4)) t n = rdS (u.2.1 3) (snS (u.1 9) (u.2.1 5) (u.2.1 6) (u.2.1 7) (u.2.1 4)) t (n + 1 - k) k set → lv_has ls 6 [(0, .ref o), (1, .int (nI t)), (2, .int (nI n)), (3, .int set), (4, .int (nI k))] → W pg l en Rm sg mm ar bw mth cd sg.heap [] 0 0 QQ (F0 mm 5 ls []) := by
    intro fu5
    induction fu5 with
    | zero => intro k set ls hm5 hk h1 hs hl; exact absurd hm5 (Nat.not_lt_zero _)
    | succ fu5 ih5 =>
      intro k set ls hm5 hk h1 hs hl
      refine lv_iload hx hb dX6_readersOf_5 (lv_at hl 4 rfl) ?_
      refine lv_iload_n hx hb dX6_readersOf_7 rfl (lv_at hl 2 rfl) ?_
      refine lv_icmp_gt (tgt := 70) hx hb dX6_readersOf_8 (by decide) (fun c8 => ?_) (fun c8 => ?_)
      · have c8 : n < k := (nI_ltI (a := n) (b := k) (by omega) (by omega)).mp c8
        refine lv_iload_n hx hb dX6_readersOf_70 rfl (lv_at hl 3 rfl) ?_
        exact hq _ _ _ dX6_readersOf_71 (by rw [hs, show n + 1 - k = 0 by omega]; rfl)
      · have c8 : ¬ (n < k) := mt (nI_ltI (a := n) (b := k) (by omega) (by omega)).mpr c8
        refine lv_iload_n hx hb dX6_readersOf_11 rfl (lv_at hl 1 rfl) ?_
        refine lv_iload hx hb dX6_readersOf_12 (lv_at hl 4 rfl) ?_
        refine lv_iadd hx hb dX6_readersOf_14 ?_
        refine W_top (nI_add t k) ?_
        refine lv_bipush (v := 12) hx hb dX6_readersOf_15 (by decide) ?_
        refine lv_irem hx hb dX6_readersOf_17 (by decide) ?_
        refine W_top (pk_rem (a := (t + k)) (d := 12) (by omega) (by omega) (by omega)) ?_
        refine lv_istore (lv' := [(5, .int (nI ((t + k) % 12))), (0, .ref o), (1, .int (nI t)), (2, .int (nI n)), (3, .int set), (4, .int (nI k))]) hx hb dX6_readersOf_18 hl (by decide) rfl (fun ls hl => ?_)
        refine lv_aload_n hx hb dX6_readersOf_20 rfl (lv_at hl 1 rfl) ?_
        refine M_get hC hK hP 3 (by decide) (fM3 _ _) q1204 dX6_readersOf_21 ?_
        refine lv_iload hx hb dX6_readersOf_24 (lv_at hl 0 rfl) ?_
        refine M_ald hC hK hP 3 4 12 ((t + k) % 12) (aM3 _ _ _ _) (by decide) (rfl) (by omega) dX6_readersOf_26 ?_
        refine lv_iconst (v := (-1)) hx hb dX6_readersOf_27 (by decide) ?_
        refine lv_icmp_ne (tgt := 34) hx hb dX6_readersOf_28 (by decide) (fun c28 => ?_) (fun c28 => ?_)
        · refine lv_iload_n hx hb dX6_readersOf_34 rfl (lv_at hl 4 rfl) ?_
          refine lv_iconst (v := 1) hx hb dX6_readersOf_35 (by decide) ?_
          refine lv_aload_n hx hb dX6_readersOf_36 rfl (lv_at hl 1 rfl) ?_
          refine M_get hC hK hP 3 (by decide) (fM3 _ _) q1204 dX6_readersOf_37 ?_
          refine lv_iload hx hb dX6_readersOf_40 (lv_at hl 0 rfl) ?_
          refine M_ald hC hK hP 3 4 12 ((t + k) % 12) (aM3 _ _ _ _) (by decide) (rfl) (by omega) dX6_readersOf_42 ?_
          refine W_top (y := (nI (ix ((u.2.1 3) ((t + k) % 12))))) ((hw.ix (t := ((t + k) % 12)) (by omega) (by assumption)).1) ?_
          refine lv_ishl hx hb dX6_readersOf_43 ?_
          refine lv_ior hx hb dX6_readersOf_44 ?_
          refine lv_istore_n (lv' := [(3, .int (set ||| (1 <<< ((nI (ix ((u.2.1 3) ((t + k) % 12)))) &&& 31)))), (5, .int (nI ((t + k) % 12))), (0, .ref o), (1, .int (nI t)), (2, .int (nI n)), (4, .int (nI k))]) hx hb dX6_readersOf_45 rfl hl (by decide) rfl (fun ls hl => ?_)
          refine lv_aload_n hx hb dX6_readersOf_46 rfl (lv_at hl 2 rfl) ?_
          refine lv_aload_n hx hb dX6_readersOf_47 rfl (lv_at hl 2 rfl) ?_
          refine M_get hC hK hP 3 (by decide) (fM3 _ _) q1204 dX6_readersOf_48 ?_
          refine lv_iload hx hb dX6_readersOf_51 (lv_at hl 1 rfl) ?_
          refine M_ald hC hK hP 3 4 12 ((t + k) % 12) (aM3 _ _ _ _) (by decide) (rfl) (by omega) dX6_readersOf_53 ?_
          refine W_top (y := (nI (ix ((u.2.1 3) ((t + k) % 12))))) ((hw.ix (t := ((t + k) % 12)) (by omega) (by assumption)).1) ?_
          refine lv_iload hx hb dX6_readersOf_54 (lv_at hl 1 rfl) ?_
          refine CI.callV hC hK hl (c_X6_seenBy G l o R u (ix ((u.2.1 3) ((t + k) % 12))) (nI ((t + k) % 12)) ((hw.ix (t := ((t + k) % 12)) (by omega) (by assumption)).2)) hP (hP.recv hK) q1406 q1408 qs46 q116 q1409 mdX6_seenBy (room_ok hRm rfl) rfl rfl dX6_readersOf_56 ?_
          refine lv_if_ne (tgt := 64) hx hb dX6_readersOf_59 (by decide) (fun c59 => ?_) (fun c59 => ?_)
          · refine lv_iinc (v := (nI (k + 1))) (lv' := [(4, .int (nI (k + 1))), (3, .int (set ||| (1 <<< ((nI (ix ((u.2.1 3) ((t + k) % 12)))) &&& 31)))), (5, .int (nI ((t + k) % 12))), (0, .ref o), (1, .int (nI t)), (2, .int (nI n))]) hx hb dX6_readersOf_64 hl (k := 5) rfl (nI_inc k) (by decide) rfl (fun ls hl => ?_)
            refine lv_goto (tgt := 5) hx hb dX6_readersOf_67 (by decide) ?_
            exact ih5 (k + 1) (set ||| (1 <<< ((nI (ix ((u.2.1 3) ((t + k) % 12)))) &&& 31))) ls (by omega) (by first | omega | assumption | rfl | (simp_all; done) | grind) (by first | omega | assumption | rfl | (simp_all; done) | grind) (by rw [hs, rdS_s (by omega)]; (clear hq hP hK hts hC hx hb ho hRm hl ih5); grind [bitI, snS])  (lv_sub hl [3, 4, 5, 1, 0] rfl)
          · refine lv_iload_n hx hb dX6_readersOf_62 rfl (lv_at hl 0 rfl) ?_
            exact hq _ _ _ dX6_readersOf_63 (by rw [hs, rdS_s (by omega)]; (clear hq hP hK hts hC hx hb ho hRm hl ih5); grind [bitI, snS])
        · refine lv_goto (tgt := 64) hx hb dX6_readersOf_31 (by decide) ?_
          refine lv_iinc (v := (nI (k + 1))) (lv' := [(4, .int (nI (k + 1))), (5, .int (nI ((t + k) % 12))), (0, .ref o), (1, .int (nI t)), (2, .int (nI n)), (3, .int set)]) hx hb dX6_readersOf_64 hl (k := 5) rfl (nI_inc k) (by decide) rfl (fun ls hl => ?_)
          refine lv_goto (tgt := 5) hx hb dX6_readersOf_67 (by decide) ?_
          exact ih5 (k + 1) set ls (by omega) (by first | omega | assumption | rfl | (simp_all; done) | grind) (by first | omega | assumption | rfl | (simp_all; done) | grind) (by rw [hs, rdS_s (by omega)]; (clear hq hP hK hts hC hx hb ho hRm hl ih5); grind [bitI, snS])  (lv_sub hl [2, 3, 4, 5, 0] rfl)
  exact LP5 _ 1 0 ls (Nat.lt_succ_self _) (by first | omega | assumption | rfl | (simp_all; done) | grind) (by first | omega | assumption | rfl | (simp_all; done) | grind) (rfl)  (lv_sub hl [2, 3, 4, 1, 0] rfl)
set_option maxHeartbeats 4000000 in
theorem c_X6_readers (G : GG) (l : Launch) (o : Nat) (R : Nat → Nat) (u : MS) (t : Int32) (n : Int32) (hw : WOK (u.2.1 3)) : CI G l yX6_readers cX6_readers 3 .int 6 113 [.ref o, .int t, .int n] (PM G o R u) (readersI (u.2.1 3) (snS (u.1 9) (u.2.1 5) (u.2.1 6) (u.2.1 7) (u.2.1 4)) t n) := by
  refine CI.mk RX6 pnX6 rfl (rfl) (Nat.le_of_ble_eq_true rfl) (fun pg en Rm sg mm ar bw mth cd QQ ls hC hRm hK hP hl hq => ?_)
  have hx := hC.1; have hb := hC.2.1; have ho := hC.2.2.2.1; have hts := hC.2.2.2.2
  have hl : lv_has ls 3 [(0, .ref o), (1, .int t), (2, .int n)] := hl
  refine lv_iload_n hx hb dX6_readers_0 rfl (lv_at hl 1 rfl) ?_
  refine CI.callS hC hK hl (c_X6_isTurn G l t ) trivial q1389 q1390 q116 q1391 mdX6_isTurn (room_ok hRm rfl) rfl rfl dX6_readers_1 ?_
  refine lv_if_eq (tgt := 26) hx hb dX6_readers_4 (by decide) (fun c4 => ?_) (fun c4 => ?_)
  · have c4 : (isTurnB t) = false := bI_0.mp c4
    refine lv_iconst (v := (-1)) hx hb dX6_readers_26 (by decide) ?_
    exact hq _ _ _ dX6_readers_27 (by grind [readersI, ixn])
  · have c4 : (isTurnB t) = true := bI_1.mp c4
    obtain ⟨j, hj, rfl, hjx⟩ := isTurnB_nI c4
    have hl : lv_has ls 3 [(0, .ref o), (1, .int (nI j)), (2, .int n)] := hl
    refine lv_iload_n hx hb dX6_readers_7 rfl (lv_at hl 2 rfl) ?_
    refine lv_iconst (v := 0) hx hb dX6_readers_8 (by decide) ?_
    refine lv_bipush (v := 12) hx hb dX6_readers_9 (by decide) ?_
    refine CI.callS hC hK hl (c_X6_in G l n 0 12 ) trivial q1392 q1393 q116 q1394 mdX6_in (room_ok hRm rfl) rfl rfl dX6_readers_11 ?_
    refine lv_if_eq (tgt := 26) hx hb dX6_readers_14 (by decide) (fun c14 => ?_) (fun c14 => ?_)
    · have c14 : (inB n 0 12) = false := bI_0.mp c14
      refine lv_iconst (v := (-1)) hx hb dX6_readers_26 (by decide) ?_
      exact hq _ _ _ dX6_readers_27 (by grind [readersI, ixn])
    · have c14 : (inB n 0 12) = true := bI_1.mp c14
      obtain ⟨nj, hnj, rfl⟩ := inB_nI 12 (by decide) c14
      have hl : lv_has ls 3 [(0, .ref o), (1, .int (nI j)), (2, .int (nI nj))] := hl
      refine lv_aload_n hx hb dX6_readers_17 rfl (lv_at hl 0 rfl) ?_
      refine lv_iload_n hx hb dX6_readers_18 rfl (lv_at hl 1 rfl) ?_
      refine lv_iload_n hx hb dX6_readers_19 rfl (lv_at hl 2 rfl) ?_
      refine CI.callV hC hK hl (c_X6_readersOf G l o R u j nj (by first | assumption | omega | rfl | (simp_all; done)) (by first | assumption | omega | rfl | (simp_all; done)) (by first | assumption | omega | rfl | (simp_all; done))) hP (hP.recv hK) q1682 q1684 qs93 q116 q1685 mdX6_readersOf (room_ok hRm rfl) rfl rfl dX6_readers_20 ?_
      refine lv_goto (tgt := 27) hx hb dX6_readers_23 (by decide) ?_
      exact hq _ _ _ dX6_readers_27 (by grind [readersI, ixn])
set_option maxHeartbeats 4000000 in
theorem c_X6_othersWhoRead (G : GG) (l : Launch) (o : Nat) (R : Nat → Nat) (u : MS) (j : Nat) (t : Nat) (hw : WOK (u.2.1 3)) (ht : t < 12) : CI G l yX6_othersWhoRead cX6_othersWhoRead 3 .int 6 113 [.ref o, .int (nI j), .int (nI t)] (PM G o R u) (othI (u.2.1 3) (snS (u.1 9) (u.2.1 5) (u.2.1 6) (u.2.1 7) (u.2.1 4)) j t) := by
  refine CI.mk RX6 pnX6 rfl (rfl) (Nat.le_of_ble_eq_true rfl) (fun pg en Rm sg mm ar bw mth cd QQ ls hC hRm hK hP hl hq => ?_)
  have hx := hC.1; have hb := hC.2.1; have ho := hC.2.2.2.1; have hts := hC.2.2.2.2
  have hl : lv_has ls 3 [(0, .ref o), (1, .int (nI j)), (2, .int (nI t))] := hl
  refine lv_aload_n hx hb dX6_othersWhoRead_0 rfl (lv_at hl 0 rfl) ?_
  refine lv_iload_n hx hb dX6_othersWhoRead_1 rfl (lv_at hl 2 rfl) ?_
  refine lv_bipush (v := 12) hx hb dX6_othersWhoRead_2 (by decide) ?_
  refine CI.callV hC hK hl (c_X6_readersOf G l o R u t 12 (by first | assumption | omega | rfl | (simp_all; done)) (by first | assumption | omega | rfl | (simp_all; done)) (by first | assumption | omega | rfl | (simp_all; done))) hP (hP.recv hK) q1682 q1684 qs93 q116 q1685 mdX6_readersOf (room_ok hRm rfl) rfl rfl dX6_othersWhoRead_4 ?_
  refine lv_iconst (v := 1) hx hb dX6_othersWhoRead_7 (by decide) ?_
  refine lv_iload_n hx hb dX6_othersWhoRead_8 rfl (lv_at hl 1 rfl) ?_
  refine lv_ishl hx hb dX6_othersWhoRead_9 ?_
  refine lv_iconst (v := (-1)) hx hb dX6_othersWhoRead_10 (by decide) ?_
  refine lv_ixor hx hb dX6_othersWhoRead_11 ?_
  refine lv_iand hx hb dX6_othersWhoRead_12 ?_
  refine CI.callS hC hK hl (c_X6_bits G l ((rdI (u.2.1 3) (snS (u.1 9) (u.2.1 5) (u.2.1 6) (u.2.1 7) (u.2.1 4)) t 12) &&& ((1 <<< ((nI j) &&& 31)) ^^^ (-1))) ) trivial q1580 q1581 q116 q1582 mdX6_bits (room_ok hRm rfl) rfl rfl dX6_othersWhoRead_13 ?_
  exact hq _ _ _ dX6_othersWhoRead_16 (by rfl)
set_option maxHeartbeats 4000000 in
theorem c_X6_bestBreath (G : GG) (l : Launch) (o : Nat) (R : Nat → Nat) (u : MS) (h : Int32) (k0 : Int32) (hw : WOK (u.2.1 3)) : CI G l yX6_bestBreath cX6_bestBreath 5 .int 7 135 [.ref o, .int h, .int k0] (PM G o R u) (bbI (u.1 8) (u.2.1 3) (snS (u.1 9) (u.2.1 5) (u.2.1 6) (u.2.1 7) (u.2.1 4)) h k0) := by
  refine CI.mk RX6 pnX6 rfl (rfl) (Nat.le_of_ble_eq_true rfl) (fun pg en Rm sg mm ar bw mth cd QQ ls hC hRm hK hP hl hq => ?_)
  have hx := hC.1; have hb := hC.2.1; have ho := hC.2.2.2.1; have hts := hC.2.2.2.2
  have hl : lv_has ls 5 [(0, .ref o), (1, .int h), (2, .int k0)] := hl
  refine lv_aload_n hx hb dX6_bestBreath_0 rfl (lv_at hl 0 rfl) ?_
  refine lv_iload_n hx hb dX6_bestBreath_1 rfl (lv_at hl 1 rfl) ?_
  refine CI.callV hC hK hl (c_X6_isHouse G l o R u h ) hP (hP.recv hK) q1395 q1397 qs45 q116 q1398 mdX6_isHouse (room_ok hRm rfl) rfl rfl dX6_bestBreath_2 ?_
  refine lv_if_eq (tgt := 17) hx hb dX6_bestBreath_5 (by decide) (fun c5 => ?_) (fun c5 => ?_)
  · have c5 : (isHouseB (u.1 8) h) = false := bI_0.mp c5
    refine lv_iconst (v := (-1)) hx hb dX6_bestBreath_17 (by decide) ?_
    exact hq _ _ _ dX6_bestBreath_18 (by (clear hq hP hK hts hC hx hb ho hRm hl); grind [bbI])
  · have c5 : (isHouseB (u.1 8) h) = true := bI_1.mp c5
    obtain ⟨j, hj, rfl, hjx⟩ := isHouseB_nI c5
    have hl : lv_has ls 5 [(0, .ref o), (1, .int (nI j)), (2, .int k0)] := hl
    refine lv_iload_n hx hb dX6_bestBreath_8 rfl (lv_at hl 2 rfl) ?_
    refine lv_iconst (v := 0) hx hb dX6_bestBreath_9 (by decide) ?_
    refine lv_iconst (v := 1) hx hb dX6_bestBreath_10 (by decide) ?_
    refine CI.callS hC hK hl (c_X6_in G l k0 0 1 ) trivial q1392 q1393 q116 q1394 mdX6_in (room_ok hRm rfl) rfl rfl dX6_bestBreath_11 ?_
    refine lv_if_ne (tgt := 19) hx hb dX6_bestBreath_14 (by decide) (fun c14 => ?_) (fun c14 => ?_)
    · have c14 : (inB k0 0 1) = true := bI_1.mp c14
      refine lv_bipush (v := (-2)) hx hb dX6_bestBreath_19 (by decide) ?_
      refine lv_istore_n (lv' := [(3, .int (-2)), (0, .ref o), (1, .int (nI j)), (2, .int k0)]) hx hb dX6_bestBreath_21 rfl hl (by decide) rfl (fun ls hl => ?_)
      refine lv_iconst (v := 0) hx hb dX6_bestBreath_22 (by decide) ?_
      refine lv_istore (lv' := [(4, .int 0), (3, .int (-2)), (0, .ref o), (1, .int (nI j)), (2, .int k0)]) hx hb dX6_bestBreath_23 hl (by decide) rfl (fun ls hl => ?_)
      have LP25 : ∀ (fu25 : Nat) (k : Nat) (be : Int32) (ls : Array Slot), 12 - k < fu25 → k ≤ 12 → be = obI (bbS (u.2.1 3) (snS (u.1 9) (u.2.1 5) (u.2.1 6) (u.2.1 7) (u.2.1 4)) j k) → lv_has ls 5 [(0, .ref o), (1, .int (nI j)), (2, .int k0), (3, .int be), (4, .int (nI k))] → W pg l en Rm sg mm ar bw mth cd sg.heap [] 0 0 QQ (F0 mm 25 ls []) := by
        intro fu25
        induction fu25 with
        | zero => intro k be ls hm25 hk hbe hl; exact absurd hm25 (Nat.not_lt_zero _)
        | succ fu25 ih25 =>
          intro k be ls hm25 hk hbe hl
          rcases hbb : (bbS (u.2.1 3) (snS (u.1 9) (u.2.1 5) (u.2.1 6) (u.2.1 7) (u.2.1 4)) j k) with _ | b
          · have hbe : be = -2 := by rw [hbe, hbb]; rfl
            subst hbe
            have hl : lv_has ls 5 [(0, .ref o), (1, .int (nI j)), (2, .int k0), (3, .int (-2)), (4, .int (nI k))] := hl
            refine lv_iload hx hb dX6_bestBreath_25 (lv_at hl 4 rfl) ?_
            refine lv_bipush (v := 12) hx hb dX6_bestBreath_27 (by decide) ?_
            refine lv_icmp_ge (tgt := 74) hx hb dX6_bestBreath_29 (by decide) (fun c29 => ?_) (fun c29 => ?_)
            · have c29 : 12 ≤ k := (nI_leI (a := 12) (b := k) (by omega) (by omega)).mp c29
              refine lv_iload_n hx hb dX6_bestBreath_74 rfl (lv_at hl 2 rfl) ?_
              refine lv_if_ne (tgt := 82) hx hb dX6_bestBreath_75 (by decide) (fun c75 => ?_) (fun c75 => ?_)
              · refine lv_iload_n hx hb dX6_bestBreath_82 rfl (lv_at hl 3 rfl) ?_
                refine lv_bipush (v := (-2)) hx hb dX6_bestBreath_83 (by decide) ?_
                refine lv_icmp_ne (tgt := 92) hx hb dX6_bestBreath_85 (by decide) (fun c85 => ?_) (fun c85 => ?_)
                · exact absurd c85 (by decide)
                · refine lv_iconst (v := 0) hx hb dX6_bestBreath_88 (by decide) ?_
                  refine lv_goto (tgt := 98) hx hb dX6_bestBreath_89 (by decide) ?_
                  exact hq _ _ _ dX6_bestBreath_98 (by have hfin : k = 12 := (by omega); subst hfin; (clear hq hP hK hts hC hx hb ho hRm hl ih25); grind [bbI, obI])
              · refine lv_iload_n hx hb dX6_bestBreath_78 rfl (lv_at hl 3 rfl) ?_
                refine lv_goto (tgt := 98) hx hb dX6_bestBreath_79 (by decide) ?_
                exact hq _ _ _ dX6_bestBreath_98 (by have hfin : k = 12 := (by omega); subst hfin; (clear hq hP hK hts hC hx hb ho hRm hl ih25); grind [bbI, obI])
            · have c29 : ¬ (12 ≤ k) := mt (nI_leI (a := 12) (b := k) (by omega) (by omega)).mpr c29
              refine lv_aload_n hx hb dX6_bestBreath_32 rfl (lv_at hl 0 rfl) ?_
              refine M_get hC hK hP 3 (by decide) (fM3 _ _) q1204 dX6_bestBreath_33 ?_
              refine lv_iload hx hb dX6_bestBreath_36 (lv_at hl 4 rfl) ?_
              refine M_ald hC hK hP 3 4 12 k (aM3 _ _ _ _) (by decide) (rfl) (by omega) dX6_bestBreath_38 ?_
              refine lv_iload_n hx hb dX6_bestBreath_39 rfl (lv_at hl 1 rfl) ?_
              refine lv_icmp_ne (tgt := 68) hx hb dX6_bestBreath_40 (by decide) (fun c40 => ?_) (fun c40 => ?_)
              · refine lv_iinc (v := (nI (k + 1))) (lv' := [(4, .int (nI (k + 1))), (0, .ref o), (1, .int (nI j)), (2, .int k0), (3, .int (-2))]) hx hb dX6_bestBreath_68 hl (k := 4) rfl (nI_inc k) (by decide) rfl (fun ls hl => ?_)
                refine lv_goto (tgt := 25) hx hb dX6_bestBreath_71 (by decide) ?_
                exact ih25 (k + 1) (-2) ls (by omega) (by first | omega | assumption | rfl | (simp_all; done) | grind) (by first | (rw [bbS_u c40, hbb]; rfl) | (rw [bbS_n c40 hbb]; rfl) | (rw [bbS_s c40 hbb]; (clear hq hP hK hts hC hx hb ho hRm hl ih25); grind [obI]))  (lv_sub hl [1, 2, 3, 4, 0] rfl)
              · refine lv_iload_n hx hb dX6_bestBreath_43 rfl (lv_at hl 3 rfl) ?_
                refine lv_bipush (v := (-2)) hx hb dX6_bestBreath_44 (by decide) ?_
                refine lv_icmp_eq (tgt := 65) hx hb dX6_bestBreath_46 (by decide) (fun c46 => ?_) (fun c46 => ?_)
                · refine lv_iload hx hb dX6_bestBreath_65 (lv_at hl 4 rfl) ?_
                  refine lv_istore_n (lv' := [(3, .int (nI k)), (0, .ref o), (1, .int (nI j)), (2, .int k0), (4, .int (nI k))]) hx hb dX6_bestBreath_67 rfl hl (by decide) rfl (fun ls hl => ?_)
                  refine lv_iinc (v := (nI (k + 1))) (lv' := [(4, .int (nI (k + 1))), (3, .int (nI k)), (0, .ref o), (1, .int (nI j)), (2, .int k0)]) hx hb dX6_bestBreath_68 hl (k := 4) rfl (nI_inc k) (by decide) rfl (fun ls hl => ?_)
                  refine lv_goto (tgt := 25) hx hb dX6_bestBreath_71 (by decide) ?_
                  exact ih25 (k + 1) (nI k) ls (by omega) (by first | omega | assumption | rfl | (simp_all; done) | grind) (by first | (rw [bbS_u c40, hbb]; rfl) | (rw [bbS_n c40 hbb]; rfl) | (rw [bbS_s c40 hbb]; (clear hq hP hK hts hC hx hb ho hRm hl ih25); grind [obI]))  (lv_sub hl [2, 3, 4, 1, 0] rfl)
                · exact absurd c46 (by decide)
          · have hbe : be = nI b := by rw [hbe, hbb]; rfl
            subst hbe
            have hblt := bbS_lt hbb
            have hl : lv_has ls 5 [(0, .ref o), (1, .int (nI j)), (2, .int k0), (3, .int (nI b)), (4, .int (nI k))] := hl
            refine lv_iload hx hb dX6_bestBreath_25 (lv_at hl 4 rfl) ?_
            refine lv_bipush (v := 12) hx hb dX6_bestBreath_27 (by decide) ?_
            refine lv_icmp_ge (tgt := 74) hx hb dX6_bestBreath_29 (by decide) (fun c29 => ?_) (fun c29 => ?_)
            · have c29 : 12 ≤ k := (nI_leI (a := 12) (b := k) (by omega) (by omega)).mp c29
              refine lv_iload_n hx hb dX6_bestBreath_74 rfl (lv_at hl 2 rfl) ?_
              refine lv_if_ne (tgt := 82) hx hb dX6_bestBreath_75 (by decide) (fun c75 => ?_) (fun c75 => ?_)
              · refine lv_iload_n hx hb dX6_bestBreath_82 rfl (lv_at hl 3 rfl) ?_
                refine lv_bipush (v := (-2)) hx hb dX6_bestBreath_83 (by decide) ?_
                refine lv_icmp_ne (tgt := 92) hx hb dX6_bestBreath_85 (by decide) (fun c85 => ?_) (fun c85 => ?_)
                · refine lv_aload_n hx hb dX6_bestBreath_92 rfl (lv_at hl 0 rfl) ?_
                  refine lv_iload_n hx hb dX6_bestBreath_93 rfl (lv_at hl 1 rfl) ?_
                  refine lv_iload_n hx hb dX6_bestBreath_94 rfl (lv_at hl 3 rfl) ?_
                  refine CI.callV hC hK hl (c_X6_othersWhoRead G l o R u j b (by first | assumption | omega | rfl | (simp_all; done)) (by first | assumption | omega | rfl | (simp_all; done))) hP (hP.recv hK) q1690 q1692 qs94 q116 q1693 mdX6_othersWhoRead (room_ok hRm rfl) rfl rfl dX6_bestBreath_95 ?_
                  exact hq _ _ _ dX6_bestBreath_98 (by have hfin : k = 12 := (by omega); subst hfin; (clear hq hP hK hts hC hx hb ho hRm hl ih25); grind [bbI, obI])
                · exact absurd c85 (nI_neg (by omega) (by decide))
              · refine lv_iload_n hx hb dX6_bestBreath_78 rfl (lv_at hl 3 rfl) ?_
                refine lv_goto (tgt := 98) hx hb dX6_bestBreath_79 (by decide) ?_
                exact hq _ _ _ dX6_bestBreath_98 (by have hfin : k = 12 := (by omega); subst hfin; (clear hq hP hK hts hC hx hb ho hRm hl ih25); grind [bbI, obI])
            · have c29 : ¬ (12 ≤ k) := mt (nI_leI (a := 12) (b := k) (by omega) (by omega)).mpr c29
              refine lv_aload_n hx hb dX6_bestBreath_32 rfl (lv_at hl 0 rfl) ?_
              refine M_get hC hK hP 3 (by decide) (fM3 _ _) q1204 dX6_bestBreath_33 ?_
              refine lv_iload hx hb dX6_bestBreath_36 (lv_at hl 4 rfl) ?_
              refine M_ald hC hK hP 3 4 12 k (aM3 _ _ _ _) (by decide) (rfl) (by omega) dX6_bestBreath_38 ?_
              refine lv_iload_n hx hb dX6_bestBreath_39 rfl (lv_at hl 1 rfl) ?_
              refine lv_icmp_ne (tgt := 68) hx hb dX6_bestBreath_40 (by decide) (fun c40 => ?_) (fun c40 => ?_)
              · refine lv_iinc (v := (nI (k + 1))) (lv' := [(4, .int (nI (k + 1))), (0, .ref o), (1, .int (nI j)), (2, .int k0), (3, .int (nI b))]) hx hb dX6_bestBreath_68 hl (k := 4) rfl (nI_inc k) (by decide) rfl (fun ls hl => ?_)
                refine lv_goto (tgt := 25) hx hb dX6_bestBreath_71 (by decide) ?_
                exact ih25 (k + 1) (nI b) ls (by omega) (by first | omega | assumption | rfl | (simp_all; done) | grind) (by first | (rw [bbS_u c40, hbb]; rfl) | (rw [bbS_n c40 hbb]; rfl) | (rw [bbS_s c40 hbb]; (clear hq hP hK hts hC hx hb ho hRm hl ih25); grind [obI]))  (lv_sub hl [1, 2, 3, 4, 0] rfl)
              · refine lv_iload_n hx hb dX6_bestBreath_43 rfl (lv_at hl 3 rfl) ?_
                refine lv_bipush (v := (-2)) hx hb dX6_bestBreath_44 (by decide) ?_
                refine lv_icmp_eq (tgt := 65) hx hb dX6_bestBreath_46 (by decide) (fun c46 => ?_) (fun c46 => ?_)
                · exact absurd c46 (nI_neg (by omega) (by decide))
                · refine lv_aload_n hx hb dX6_bestBreath_49 rfl (lv_at hl 0 rfl) ?_
                  refine lv_iload_n hx hb dX6_bestBreath_50 rfl (lv_at hl 1 rfl) ?_
                  refine lv_iload hx hb dX6_bestBreath_51 (lv_at hl 4 rfl) ?_
                  refine CI.callV hC hK hl (c_X6_othersWhoRead G l o R u j k (by first | assumption | omega | rfl | (simp_all; done)) (by first | assumption | omega | rfl | (simp_all; done))) hP (hP.recv hK) q1690 q1692 qs94 q116 q1693 mdX6_othersWhoRead (room_ok hRm rfl) rfl rfl dX6_bestBreath_53 ?_
                  refine lv_aload_n hx hb dX6_bestBreath_56 rfl (lv_at hl 0 rfl) ?_
                  refine lv_iload_n hx hb dX6_bestBreath_57 rfl (lv_at hl 1 rfl) ?_
                  refine lv_iload_n hx hb dX6_bestBreath_58 rfl (lv_at hl 3 rfl) ?_
                  refine CI.callV hC hK hl (c_X6_othersWhoRead G l o R u j b (by first | assumption | omega | rfl | (simp_all; done)) (by first | assumption | omega | rfl | (simp_all; done))) hP (hP.recv hK) q1690 q1692 qs94 q116 q1693 mdX6_othersWhoRead (room_ok hRm rfl) rfl rfl dX6_bestBreath_59 ?_
                  refine lv_icmp_le (tgt := 68) hx hb dX6_bestBreath_62 (by decide) (fun c62 => ?_) (fun c62 => ?_)
                  · refine lv_iinc (v := (nI (k + 1))) (lv' := [(4, .int (nI (k + 1))), (0, .ref o), (1, .int (nI j)), (2, .int k0), (3, .int (nI b))]) hx hb dX6_bestBreath_68 hl (k := 4) rfl (nI_inc k) (by decide) rfl (fun ls hl => ?_)
                    refine lv_goto (tgt := 25) hx hb dX6_bestBreath_71 (by decide) ?_
                    exact ih25 (k + 1) (nI b) ls (by omega) (by first | omega | assumption | rfl | (simp_all; done) | grind) (by first | (rw [bbS_u c40, hbb]; rfl) | (rw [bbS_n c40 hbb]; rfl) | (rw [bbS_s c40 hbb]; (clear hq hP hK hts hC hx hb ho hRm hl ih25); grind [obI]))  (lv_sub hl [1, 2, 3, 4, 0] rfl)
                  · refine lv_iload hx hb dX6_bestBreath_65 (lv_at hl 4 rfl) ?_
                    refine lv_istore_n (lv' := [(3, .int (nI k)), (0, .ref o), (1, .int (nI j)), (2, .int k0), (4, .int (nI k))]) hx hb dX6_bestBreath_67 rfl hl (by decide) rfl (fun ls hl => ?_)
                    refine lv_iinc (v := (nI (k + 1))) (lv' := [(4, .int (nI (k + 1))), (3, .int (nI k)), (0, .ref o), (1, .int (nI j)), (2, .int k0)]) hx hb dX6_bestBreath_68 hl (k := 4) rfl (nI_inc k) (by decide) rfl (fun ls hl => ?_)
                    refine lv_goto (tgt := 25) hx hb dX6_bestBreath_71 (by decide) ?_
                    exact ih25 (k + 1) (nI k) ls (by omega) (by first | omega | assumption | rfl | (simp_all; done) | grind) (by first | (rw [bbS_u c40, hbb]; rfl) | (rw [bbS_n c40 hbb]; rfl) | (rw [bbS_s c40 hbb]; (clear hq hP hK hts hC hx hb ho hRm hl ih25); grind [obI]))  (lv_sub hl [2, 3, 4, 1, 0] rfl)
      exact LP25 _ 0 (-2) ls (Nat.lt_succ_self _) (by first | omega | assumption | rfl | (simp_all; done) | grind) (rfl)  (lv_sub hl [2, 3, 4, 1, 0] rfl)
    · have c14 : (inB k0 0 1) = false := bI_0.mp c14
      refine lv_iconst (v := (-1)) hx hb dX6_bestBreath_17 (by decide) ?_
      exact hq _ _ _ dX6_bestBreath_18 (by (clear hq hP hK hts hC hx hb ho hRm hl); grind [bbI])
set_option maxHeartbeats 4000000 in
theorem c_X6_twosAt (G : GG) (l : Launch) (o : Nat) (R : Nat → Nat) (u : MS) (t : Int32) : CI G l yX6_twosAt cX6_twosAt 4 .int 5 88 [.ref o, .int t] (PM G o R u) (twosS (u.1 8) (snS (u.1 9) (u.2.1 5) (u.2.1 6) (u.2.1 7) (u.2.1 4)) t 16) := by
  refine CI.mk RX6 pnX6 rfl (rfl) (Nat.le_of_ble_eq_true rfl) (fun pg en Rm sg mm ar bw mth cd QQ ls hC hRm hK hP hl hq => ?_)
  have hx := hC.1; have hb := hC.2.1; have ho := hC.2.2.2.1; have hts := hC.2.2.2.2
  have hl : lv_has ls 4 [(0, .ref o), (1, .int t)] := hl
  refine lv_iconst (v := 0) hx hb dX6_twosAt_0 (by decide) ?_
  refine lv_istore_n (lv' := [(2, .int 0), (0, .ref o), (1, .int t)]) hx hb dX6_twosAt_1 rfl hl (by decide) rfl (fun ls hl => ?_)
  refine lv_iconst (v := 0) hx hb dX6_twosAt_2 (by decide) ?_
  refine lv_istore_n (lv' := [(3, .int 0), (2, .int 0), (0, .ref o), (1, .int t)]) hx hb dX6_twosAt_3 rfl hl (by decide) rfl (fun ls hl => ?_)
  have LP4 : ∀ (fu4 : Nat) (k : Nat) (n : Int32) (ls : Array Slot), 16 - k < fu4 → k ≤ 16 → n = twosS (u.1 8) (snS (u.1 9) (u.2.1 5) (u.2.1 6) (u.2.1 7) (u.2.1 4)) t k → lv_has ls 4 [(0, .ref o), (1, .int t), (2, .int n), (3, .int (nI k))] → W pg l en Rm sg mm ar bw mth cd sg.heap [] 0 0 QQ (F0 mm 4 ls []) := by
    intro fu4
    induction fu4 with
    | zero => intro k n ls hm4 hk hn hl; exact absurd hm4 (Nat.not_lt_zero _)
    | succ fu4 ih4 =>
      intro k n ls hm4 hk hn hl
      refine lv_iload_n hx hb dX6_twosAt_4 rfl (lv_at hl 3 rfl) ?_
      refine lv_bipush (v := 16) hx hb dX6_twosAt_5 (by decide) ?_
      refine lv_icmp_ge (tgt := 36) hx hb dX6_twosAt_7 (by decide) (fun c7 => ?_) (fun c7 => ?_)
      · have c7 : 16 ≤ k := (nI_leI (a := 16) (b := k) (by omega) (by omega)).mp c7
        refine lv_iload_n hx hb dX6_twosAt_36 rfl (lv_at hl 2 rfl) ?_
        exact hq _ _ _ dX6_twosAt_37 (by have hfin : k = 16 := (by omega); subst hfin; exact hn)
      · have c7 : ¬ (16 ≤ k) := mt (nI_leI (a := 16) (b := k) (by omega) (by omega)).mpr c7
        refine lv_aload_n hx hb dX6_twosAt_10 rfl (lv_at hl 0 rfl) ?_
        refine lv_iload_n hx hb dX6_twosAt_11 rfl (lv_at hl 3 rfl) ?_
        refine CI.callV hC hK hl (c_X6_isHouse G l o R u (nI k) ) hP (hP.recv hK) q1395 q1397 qs45 q116 q1398 mdX6_isHouse (room_ok hRm rfl) rfl rfl dX6_twosAt_12 ?_
        refine lv_if_eq (tgt := 30) hx hb dX6_twosAt_15 (by decide) (fun c15 => ?_) (fun c15 => ?_)
        · have c15 : (isHouseB (u.1 8) (nI k)) = false := bI_0.mp c15
          refine lv_iinc (v := (nI (k + 1))) (lv' := [(3, .int (nI (k + 1))), (0, .ref o), (1, .int t), (2, .int n)]) hx hb dX6_twosAt_30 hl (k := 3) rfl (nI_inc k) (by decide) rfl (fun ls hl => ?_)
          refine lv_goto (tgt := 4) hx hb dX6_twosAt_33 (by decide) ?_
          exact ih4 (k + 1) n ls (by omega) (by first | omega | assumption | rfl | (simp_all; done) | grind) (by (clear hq hP hK hts hC hx hb ho hRm hl ih4); grind [twosS, snS])  (lv_sub hl [1, 2, 3, 0] rfl)
        · have c15 : (isHouseB (u.1 8) (nI k)) = true := bI_1.mp c15
          refine lv_iload_n hx hb dX6_twosAt_18 rfl (lv_at hl 2 rfl) ?_
          refine lv_aload_n hx hb dX6_twosAt_19 rfl (lv_at hl 0 rfl) ?_
          refine lv_iload_n hx hb dX6_twosAt_20 rfl (lv_at hl 3 rfl) ?_
          refine lv_iload_n hx hb dX6_twosAt_21 rfl (lv_at hl 1 rfl) ?_
          refine CI.callV hC hK hl (c_X6_seenBy G l o R u k t (by first | assumption | omega | rfl | (simp_all; done))) hP (hP.recv hK) q1406 q1408 qs46 q116 q1409 mdX6_seenBy (room_ok hRm rfl) rfl rfl dX6_twosAt_22 ?_
          refine CI.callS hC hK hl (c_X6_bits G l (seenS (u.1 9) (u.2.1 5) (u.2.1 6) (u.2.1 7) ((u.2.1 4) k) t) ) trivial q1580 q1581 q116 q1582 mdX6_bits (room_ok hRm rfl) rfl rfl dX6_twosAt_25 ?_
          refine lv_iadd hx hb dX6_twosAt_28 ?_
          refine lv_istore_n (lv' := [(2, .int (n + (bitsI (seenS (u.1 9) (u.2.1 5) (u.2.1 6) (u.2.1 7) ((u.2.1 4) k) t)))), (0, .ref o), (1, .int t), (3, .int (nI k))]) hx hb dX6_twosAt_29 rfl hl (by decide) rfl (fun ls hl => ?_)
          refine lv_iinc (v := (nI (k + 1))) (lv' := [(3, .int (nI (k + 1))), (2, .int (n + (bitsI (seenS (u.1 9) (u.2.1 5) (u.2.1 6) (u.2.1 7) ((u.2.1 4) k) t)))), (0, .ref o), (1, .int t)]) hx hb dX6_twosAt_30 hl (k := 3) rfl (nI_inc k) (by decide) rfl (fun ls hl => ?_)
          refine lv_goto (tgt := 4) hx hb dX6_twosAt_33 (by decide) ?_
          exact ih4 (k + 1) (n + (bitsI (seenS (u.1 9) (u.2.1 5) (u.2.1 6) (u.2.1 7) ((u.2.1 4) k) t))) ls (by omega) (by first | omega | assumption | rfl | (simp_all; done) | grind) (by (clear hq hP hK hts hC hx hb ho hRm hl ih4); grind [twosS, snS])  (lv_sub hl [2, 3, 1, 0] rfl)
  exact LP4 _ 0 0 ls (Nat.lt_succ_self _) (by first | omega | assumption | rfl | (simp_all; done) | grind) (rfl)  (lv_sub hl [2, 3, 1, 0] rfl)
set_option maxHeartbeats 4000000 in
theorem c_X6_clearest (G : GG) (l : Launch) (o : Nat) (R : Nat → Nat) (u : MS) (k0 : Int32) : CI G l yX6_clearest cX6_clearest 4 .int 6 111 [.ref o, .int k0] (PM G o R u) (clrI (u.1 8) (snS (u.1 9) (u.2.1 5) (u.2.1 6) (u.2.1 7) (u.2.1 4)) k0) := by
  refine CI.mk RX6 pnX6 rfl (rfl) (Nat.le_of_ble_eq_true rfl) (fun pg en Rm sg mm ar bw mth cd QQ ls hC hRm hK hP hl hq => ?_)
  have hx := hC.1; have hb := hC.2.1; have ho := hC.2.2.2.1; have hts := hC.2.2.2.2
  have hl : lv_has ls 4 [(0, .ref o), (1, .int k0)] := hl
  refine lv_iload_n hx hb dX6_clearest_0 rfl (lv_at hl 1 rfl) ?_
  refine lv_iconst (v := 0) hx hb dX6_clearest_1 (by decide) ?_
  refine lv_iconst (v := 1) hx hb dX6_clearest_2 (by decide) ?_
  refine CI.callS hC hK hl (c_X6_in G l k0 0 1 ) trivial q1392 q1393 q116 q1394 mdX6_in (room_ok hRm rfl) rfl rfl dX6_clearest_3 ?_
  refine lv_if_ne (tgt := 11) hx hb dX6_clearest_6 (by decide) (fun c6 => ?_) (fun c6 => ?_)
  · have c6 : (inB k0 0 1) = true := bI_1.mp c6
    refine lv_iconst (v := 0) hx hb dX6_clearest_11 (by decide) ?_
    refine lv_istore_n (lv' := [(2, .int 0), (0, .ref o), (1, .int k0)]) hx hb dX6_clearest_12 rfl hl (by decide) rfl (fun ls hl => ?_)
    refine lv_iconst (v := 1) hx hb dX6_clearest_13 (by decide) ?_
    refine lv_istore_n (lv' := [(3, .int 1), (2, .int 0), (0, .ref o), (1, .int k0)]) hx hb dX6_clearest_14 rfl hl (by decide) rfl (fun ls hl => ?_)
    have LP15 : ∀ (fu15 : Nat) (k : Nat) (be : Nat) (ls : Array Slot), 12 - k < fu15 → k ≤ 12 → 1 ≤ k → be = clrS (fun t => twosS (u.1 8) (snS (u.1 9) (u.2.1 5) (u.2.1 6) (u.2.1 7) (u.2.1 4)) (nI t) 16) (k - 1) → be < 12 → lv_has ls 4 [(0, .ref o), (1, .int k0), (2, .int (nI be)), (3, .int (nI k))] → W pg l en Rm sg mm ar bw mth cd sg.heap [] 0 0 QQ (F0 mm 15 ls []) := by
      intro fu15
      induction fu15 with
      | zero => intro k be ls hm15 hk h1 hbe hb2 hl; exact absurd hm15 (Nat.not_lt_zero _)
      | succ fu15 ih15 =>
        intro k be ls hm15 hk h1 hbe hb2 hl
        refine lv_iload_n hx hb dX6_clearest_15 rfl (lv_at hl 3 rfl) ?_
        refine lv_bipush (v := 12) hx hb dX6_clearest_16 (by decide) ?_
        refine lv_icmp_ge (tgt := 42) hx hb dX6_clearest_18 (by decide) (fun c18 => ?_) (fun c18 => ?_)
        · have c18 : 12 ≤ k := (nI_leI (a := 12) (b := k) (by omega) (by omega)).mp c18
          refine lv_iload_n hx hb dX6_clearest_42 rfl (lv_at hl 1 rfl) ?_
          refine lv_if_ne (tgt := 50) hx hb dX6_clearest_43 (by decide) (fun c43 => ?_) (fun c43 => ?_)
          · refine lv_aload_n hx hb dX6_clearest_50 rfl (lv_at hl 0 rfl) ?_
            refine lv_iload_n hx hb dX6_clearest_51 rfl (lv_at hl 2 rfl) ?_
            refine CI.callV hC hK hl (c_X6_twosAt G l o R u (nI be) ) hP (hP.recv hK) q1698 q1700 qs95 q116 q1701 mdX6_twosAt (room_ok hRm rfl) rfl rfl dX6_clearest_52 ?_
            exact hq _ _ _ dX6_clearest_55 (by have hfin : k = 12 := (by omega); subst hfin; (clear hq hP hK hts hC hx hb ho hRm hl ih15); grind [clrI])
          · refine lv_iload_n hx hb dX6_clearest_46 rfl (lv_at hl 2 rfl) ?_
            refine lv_goto (tgt := 55) hx hb dX6_clearest_47 (by decide) ?_
            exact hq _ _ _ dX6_clearest_55 (by have hfin : k = 12 := (by omega); subst hfin; (clear hq hP hK hts hC hx hb ho hRm hl ih15); grind [clrI])
        · have c18 : ¬ (12 ≤ k) := mt (nI_leI (a := 12) (b := k) (by omega) (by omega)).mpr c18
          refine lv_aload_n hx hb dX6_clearest_21 rfl (lv_at hl 0 rfl) ?_
          refine lv_iload_n hx hb dX6_clearest_22 rfl (lv_at hl 3 rfl) ?_
          refine CI.callV hC hK hl (c_X6_twosAt G l o R u (nI k) ) hP (hP.recv hK) q1698 q1700 qs95 q116 q1701 mdX6_twosAt (room_ok hRm rfl) rfl rfl dX6_clearest_23 ?_
          refine lv_aload_n hx hb dX6_clearest_26 rfl (lv_at hl 0 rfl) ?_
          refine lv_iload_n hx hb dX6_clearest_27 rfl (lv_at hl 2 rfl) ?_
          refine CI.callV hC hK hl (c_X6_twosAt G l o R u (nI be) ) hP (hP.recv hK) q1698 q1700 qs95 q116 q1701 mdX6_twosAt (room_ok hRm rfl) rfl rfl dX6_clearest_28 ?_
          refine lv_icmp_le (tgt := 36) hx hb dX6_clearest_31 (by decide) (fun c31 => ?_) (fun c31 => ?_)
          · refine lv_iinc (v := (nI (k + 1))) (lv' := [(3, .int (nI (k + 1))), (0, .ref o), (1, .int k0), (2, .int (nI be))]) hx hb dX6_clearest_36 hl (k := 3) rfl (nI_inc k) (by decide) rfl (fun ls hl => ?_)
            refine lv_goto (tgt := 15) hx hb dX6_clearest_39 (by decide) ?_
            exact ih15 (k + 1) be ls (by omega) (by first | omega | assumption | rfl | (simp_all; done) | grind) (by first | omega | assumption | rfl | (simp_all; done) | grind) (by obtain ⟨q, rfl⟩ : ∃ q, k = q + 1 := ⟨k - 1, by omega⟩; (clear hq hP hK hts hC hx hb ho hRm hl ih15); grind [clrS]) (by first | omega | assumption | rfl | (simp_all; done) | grind)  (lv_sub hl [1, 2, 3, 0] rfl)
          · refine lv_iload_n hx hb dX6_clearest_34 rfl (lv_at hl 3 rfl) ?_
            refine lv_istore_n (lv' := [(2, .int (nI k)), (0, .ref o), (1, .int k0), (3, .int (nI k))]) hx hb dX6_clearest_35 rfl hl (by decide) rfl (fun ls hl => ?_)
            refine lv_iinc (v := (nI (k + 1))) (lv' := [(3, .int (nI (k + 1))), (2, .int (nI k)), (0, .ref o), (1, .int k0)]) hx hb dX6_clearest_36 hl (k := 3) rfl (nI_inc k) (by decide) rfl (fun ls hl => ?_)
            refine lv_goto (tgt := 15) hx hb dX6_clearest_39 (by decide) ?_
            exact ih15 (k + 1) k ls (by omega) (by first | omega | assumption | rfl | (simp_all; done) | grind) (by first | omega | assumption | rfl | (simp_all; done) | grind) (by obtain ⟨q, rfl⟩ : ∃ q, k = q + 1 := ⟨k - 1, by omega⟩; (clear hq hP hK hts hC hx hb ho hRm hl ih15); grind [clrS]) (by first | omega | assumption | rfl | (simp_all; done) | grind)  (lv_sub hl [2, 3, 1, 0] rfl)
    exact LP15 _ 1 0 ls (Nat.lt_succ_self _) (by first | omega | assumption | rfl | (simp_all; done) | grind) (by first | omega | assumption | rfl | (simp_all; done) | grind) (rfl) (by first | omega | assumption | rfl | (simp_all; done) | grind)  (lv_sub hl [2, 3, 1, 0] rfl)
  · have c6 : (inB k0 0 1) = false := bI_0.mp c6
    refine lv_iconst (v := (-1)) hx hb dX6_clearest_9 (by decide) ?_
    exact hq _ _ _ dX6_clearest_10 (by (clear hq hP hK hts hC hx hb ho hRm hl); grind [clrI])
set_option maxHeartbeats 4000000 in
theorem c_X6_whoHad (G : GG) (l : Launch) (o : Nat) (R : Nat → Nat) (u : MS) (t : Int32) (so : Int32) : CI G l yX6_whoHad cX6_whoHad 5 .int 5 88 [.ref o, .int t, .int so] (PM G o R u) (hadI (u.1 8) (snS (u.1 9) (u.2.1 5) (u.2.1 6) (u.2.1 7) (u.2.1 4)) t so) := by
  refine CI.mk RX6 pnX6 rfl (rfl) (Nat.le_of_ble_eq_true rfl) (fun pg en Rm sg mm ar bw mth cd QQ ls hC hRm hK hP hl hq => ?_)
  have hx := hC.1; have hb := hC.2.1; have ho := hC.2.2.2.1; have hts := hC.2.2.2.2
  have hl : lv_has ls 5 [(0, .ref o), (1, .int t), (2, .int so)] := hl
  refine lv_iload_n hx hb dX6_whoHad_0 rfl (lv_at hl 1 rfl) ?_
  refine CI.callS hC hK hl (c_X6_isTurn G l t ) trivial q1389 q1390 q116 q1391 mdX6_isTurn (room_ok hRm rfl) rfl rfl dX6_whoHad_1 ?_
  refine lv_if_eq (tgt := 18) hx hb dX6_whoHad_4 (by decide) (fun c4 => ?_) (fun c4 => ?_)
  · have c4 : (isTurnB t) = false := bI_0.mp c4
    refine lv_iconst (v := (-1)) hx hb dX6_whoHad_18 (by decide) ?_
    exact hq _ _ _ dX6_whoHad_19 (by (clear hq hP hK hts hC hx hb ho hRm hl); grind [hadI])
  · have c4 : (isTurnB t) = true := bI_1.mp c4
    refine lv_iload_n hx hb dX6_whoHad_7 rfl (lv_at hl 2 rfl) ?_
    refine lv_iconst (v := 0) hx hb dX6_whoHad_8 (by decide) ?_
    refine lv_ldcw (own := RX6) (v := 65535) hx hb ho (hts _ q1706) dX6_whoHad_9 ?_
    refine CI.callS hC hK hl (c_X6_in G l so 0 65535 ) trivial q1392 q1393 q116 q1394 mdX6_in (room_ok hRm rfl) rfl rfl dX6_whoHad_12 ?_
    refine lv_if_ne (tgt := 20) hx hb dX6_whoHad_15 (by decide) (fun c15 => ?_) (fun c15 => ?_)
    · have c15 : (inB so 0 65535) = true := bI_1.mp c15
      refine lv_iconst (v := 0) hx hb dX6_whoHad_20 (by decide) ?_
      refine lv_istore_n (lv' := [(3, .int 0), (0, .ref o), (1, .int t), (2, .int so)]) hx hb dX6_whoHad_21 rfl hl (by decide) rfl (fun ls hl => ?_)
      refine lv_iconst (v := 0) hx hb dX6_whoHad_22 (by decide) ?_
      refine lv_istore (lv' := [(4, .int 0), (3, .int 0), (0, .ref o), (1, .int t), (2, .int so)]) hx hb dX6_whoHad_23 hl (by decide) rfl (fun ls hl => ?_)
      have LP25 : ∀ (fu25 : Nat) (k : Nat) (set : Int32) (ls : Array Slot), 16 - k < fu25 → k ≤ 16 → set = orN (fun h => isHouseB (u.1 8) (nI h) && decide ((snS (u.1 9) (u.2.1 5) (u.2.1 6) (u.2.1 7) (u.2.1 4)) h t = so)) k → lv_has ls 5 [(0, .ref o), (1, .int t), (2, .int so), (3, .int set), (4, .int (nI k))] → W pg l en Rm sg mm ar bw mth cd sg.heap [] 0 0 QQ (F0 mm 25 ls []) := by
        intro fu25
        induction fu25 with
        | zero => intro k set ls hm25 hk hset hl; exact absurd hm25 (Nat.not_lt_zero _)
        | succ fu25 ih25 =>
          intro k set ls hm25 hk hset hl
          refine lv_iload hx hb dX6_whoHad_25 (lv_at hl 4 rfl) ?_
          refine lv_bipush (v := 16) hx hb dX6_whoHad_27 (by decide) ?_
          refine lv_icmp_ge (tgt := 65) hx hb dX6_whoHad_29 (by decide) (fun c29 => ?_) (fun c29 => ?_)
          · have c29 : 16 ≤ k := (nI_leI (a := 16) (b := k) (by omega) (by omega)).mp c29
            refine lv_iload_n hx hb dX6_whoHad_65 rfl (lv_at hl 3 rfl) ?_
            exact hq _ _ _ dX6_whoHad_66 (by have hfin : k = 16 := (by omega); subst hfin; (clear hq hP hK hts hC hx hb ho hRm hl ih25); grind [hadI])
          · have c29 : ¬ (16 ≤ k) := mt (nI_leI (a := 16) (b := k) (by omega) (by omega)).mpr c29
            refine lv_aload_n hx hb dX6_whoHad_32 rfl (lv_at hl 0 rfl) ?_
            refine lv_iload hx hb dX6_whoHad_33 (lv_at hl 4 rfl) ?_
            refine CI.callV hC hK hl (c_X6_isHouse G l o R u (nI k) ) hP (hP.recv hK) q1395 q1397 qs45 q116 q1398 mdX6_isHouse (room_ok hRm rfl) rfl rfl dX6_whoHad_35 ?_
            refine lv_if_eq (tgt := 59) hx hb dX6_whoHad_38 (by decide) (fun c38 => ?_) (fun c38 => ?_)
            · have c38 : (isHouseB (u.1 8) (nI k)) = false := bI_0.mp c38
              refine lv_iinc (v := (nI (k + 1))) (lv' := [(4, .int (nI (k + 1))), (0, .ref o), (1, .int t), (2, .int so), (3, .int set)]) hx hb dX6_whoHad_59 hl (k := 4) rfl (nI_inc k) (by decide) rfl (fun ls hl => ?_)
              refine lv_goto (tgt := 25) hx hb dX6_whoHad_62 (by decide) ?_
              exact ih25 (k + 1) set ls (by omega) (by first | omega | assumption | rfl | (simp_all; done) | grind) (by (clear hq hP hK hts hC hx hb ho hRm hl ih25); grind [orN, bitI, snS])  (lv_sub hl [1, 2, 3, 4, 0] rfl)
            · have c38 : (isHouseB (u.1 8) (nI k)) = true := bI_1.mp c38
              refine lv_aload_n hx hb dX6_whoHad_41 rfl (lv_at hl 0 rfl) ?_
              refine lv_iload hx hb dX6_whoHad_42 (lv_at hl 4 rfl) ?_
              refine lv_iload_n hx hb dX6_whoHad_44 rfl (lv_at hl 1 rfl) ?_
              refine CI.callV hC hK hl (c_X6_seenBy G l o R u k t (by first | assumption | omega | rfl | (simp_all; done))) hP (hP.recv hK) q1406 q1408 qs46 q116 q1409 mdX6_seenBy (room_ok hRm rfl) rfl rfl dX6_whoHad_45 ?_
              refine lv_iload_n hx hb dX6_whoHad_48 rfl (lv_at hl 2 rfl) ?_
              refine lv_icmp_ne (tgt := 59) hx hb dX6_whoHad_49 (by decide) (fun c49 => ?_) (fun c49 => ?_)
              · refine lv_iinc (v := (nI (k + 1))) (lv' := [(4, .int (nI (k + 1))), (0, .ref o), (1, .int t), (2, .int so), (3, .int set)]) hx hb dX6_whoHad_59 hl (k := 4) rfl (nI_inc k) (by decide) rfl (fun ls hl => ?_)
                refine lv_goto (tgt := 25) hx hb dX6_whoHad_62 (by decide) ?_
                exact ih25 (k + 1) set ls (by omega) (by first | omega | assumption | rfl | (simp_all; done) | grind) (by (clear hq hP hK hts hC hx hb ho hRm hl ih25); grind [orN, bitI, snS])  (lv_sub hl [1, 2, 3, 4, 0] rfl)
              · refine lv_iload_n hx hb dX6_whoHad_52 rfl (lv_at hl 3 rfl) ?_
                refine lv_iconst (v := 1) hx hb dX6_whoHad_53 (by decide) ?_
                refine lv_iload hx hb dX6_whoHad_54 (lv_at hl 4 rfl) ?_
                refine lv_ishl hx hb dX6_whoHad_56 ?_
                refine lv_ior hx hb dX6_whoHad_57 ?_
                refine lv_istore_n (lv' := [(3, .int (set ||| (1 <<< ((nI k) &&& 31)))), (0, .ref o), (1, .int t), (2, .int so), (4, .int (nI k))]) hx hb dX6_whoHad_58 rfl hl (by decide) rfl (fun ls hl => ?_)
                refine lv_iinc (v := (nI (k + 1))) (lv' := [(4, .int (nI (k + 1))), (3, .int (set ||| (1 <<< ((nI k) &&& 31)))), (0, .ref o), (1, .int t), (2, .int so)]) hx hb dX6_whoHad_59 hl (k := 4) rfl (nI_inc k) (by decide) rfl (fun ls hl => ?_)
                refine lv_goto (tgt := 25) hx hb dX6_whoHad_62 (by decide) ?_
                exact ih25 (k + 1) (set ||| (1 <<< ((nI k) &&& 31))) ls (by omega) (by first | omega | assumption | rfl | (simp_all; done) | grind) (by (clear hq hP hK hts hC hx hb ho hRm hl ih25); grind [orN, bitI, snS])  (lv_sub hl [2, 3, 4, 1, 0] rfl)
      exact LP25 _ 0 0 ls (Nat.lt_succ_self _) (by first | omega | assumption | rfl | (simp_all; done) | grind) (rfl)  (lv_sub hl [2, 3, 4, 1, 0] rfl)
    · have c15 : (inB so 0 65535) = false := bI_0.mp c15
      refine lv_iconst (v := (-1)) hx hb dX6_whoHad_18 (by decide) ?_
      exact hq _ _ _ dX6_whoHad_19 (by (clear hq hP hK hts hC hx hb ho hRm hl); grind [hadI])
