set_option maxRecDepth 100000
set_option maxHeartbeats 4000000 in
theorem c_X6_turn (G : GG) (l : Launch) (o : Nat) (R : Nat → Nat) (u : MS) (t : Int32) (h : Int32) (hD : DM o R) : CMi G l o R yX6_turn cX6_turn 3 .boolean 4 59 [.int t, .int h] u (fun r w => r = (bI (turnG (u.1 8) t h)) ∧ w = (if turnG (u.1 8) t h = true then mA u 3 (ix t) h else u)) := by
  refine CMi.mk pnX6 rfl (Nat.le_of_ble_eq_true rfl) (fun pg en Rm sg mm ar bw mth cd QQ ls hC hRm hK hP hS hl hq => ?_)
  have hx := hC.1; have hb := hC.2.1; have ho := hC.2.2.2.1; have hts := hC.2.2.2.2
  have hl : lv_has ls 3 [(0, .ref o), (1, .int t), (2, .int h)] := hl
  refine lv_iload_n hx hb dX6_turn_0 rfl (lv_at hl 1 rfl) ?_
  refine CI.callS hC hK hl (c_X6_isTurn G l t ) trivial q1389 q1390 q116 q1391 mdX6_isTurn (room_ok hRm rfl) rfl rfl dX6_turn_1 ?_
  refine lv_if_eq (tgt := 20) hx hb dX6_turn_4 (by decide) (fun c4 => ?_) (fun c4 => ?_)
  · have c4 : (isTurnB t) = false := bI_0.mp c4
    refine lv_iconst (v := 0) hx hb dX6_turn_20 (by decide) ?_
    exact hq _ _ _ _ _ _ dX6_turn_21 hP hS (by first | rfl | exact bI_nar _) (by exact ⟨by (clear hq hP hK hts hC hx hb ho hRm hl hS); grind [turnG, bI], by (clear hq hP hK hts hC hx hb ho hRm hl hS); grind [turnG]⟩)
  · have c4 : (isTurnB t) = true := bI_1.mp c4
    obtain ⟨j, hj, rfl, hjx⟩ := isTurnB_nI c4
    have hl : lv_has ls 3 [(0, .ref o), (1, .int (nI j)), (2, .int h)] := hl
    refine lv_iload_n hx hb dX6_turn_7 rfl (lv_at hl 2 rfl) ?_
    refine lv_iconst (v := (-1)) hx hb dX6_turn_8 (by decide) ?_
    refine lv_icmp_eq (tgt := 22) hx hb dX6_turn_9 (by decide) (fun c9 => ?_) (fun c9 => ?_)
    · refine lv_aload_n hx hb dX6_turn_22 rfl (lv_at hl 0 rfl) ?_
      refine M_get hC hK hP 3 (by decide) (fM3 _ _) q1204 dX6_turn_23 ?_
      refine lv_iload_n hx hb dX6_turn_26 rfl (lv_at hl 1 rfl) ?_
      refine lv_iload_n hx hb dX6_turn_27 rfl (lv_at hl 2 rfl) ?_
      refine M_ast hC hK hD hP hS 3 4 12 j (aM3 _ _ _ _) (bM3 _ _ _ _ _ _) (by decide) (rfl) (by omega) dX6_turn_28 (fun H locs hP hS => ?_)
      refine lv_iconst (v := 1) hx hb dX6_turn_29 (by decide) ?_
      exact hq _ _ _ _ _ _ dX6_turn_30 hP hS (by first | rfl | exact bI_nar _) (by exact ⟨by (clear hq hP hK hts hC hx hb ho hRm hl hS); grind [turnG, bI], by (clear hq hP hK hts hC hx hb ho hRm hl hS); grind [turnG]⟩)
    · refine lv_aload_n hx hb dX6_turn_12 rfl (lv_at hl 0 rfl) ?_
      refine lv_iload_n hx hb dX6_turn_13 rfl (lv_at hl 2 rfl) ?_
      refine CI.callV hC hK hl (c_X6_isHouse G l o R u h ) hP (hP.recv hK) q1395 q1397 qs45 q116 q1398 mdX6_isHouse (room_ok hRm rfl) rfl rfl dX6_turn_14 ?_
      refine lv_if_ne (tgt := 22) hx hb dX6_turn_17 (by decide) (fun c17 => ?_) (fun c17 => ?_)
      · have c17 : (isHouseB (u.1 8) h) = true := bI_1.mp c17
        refine lv_aload_n hx hb dX6_turn_22 rfl (lv_at hl 0 rfl) ?_
        refine M_get hC hK hP 3 (by decide) (fM3 _ _) q1204 dX6_turn_23 ?_
        refine lv_iload_n hx hb dX6_turn_26 rfl (lv_at hl 1 rfl) ?_
        refine lv_iload_n hx hb dX6_turn_27 rfl (lv_at hl 2 rfl) ?_
        refine M_ast hC hK hD hP hS 3 4 12 j (aM3 _ _ _ _) (bM3 _ _ _ _ _ _) (by decide) (rfl) (by omega) dX6_turn_28 (fun H locs hP hS => ?_)
        refine lv_iconst (v := 1) hx hb dX6_turn_29 (by decide) ?_
        exact hq _ _ _ _ _ _ dX6_turn_30 hP hS (by first | rfl | exact bI_nar _) (by exact ⟨by (clear hq hP hK hts hC hx hb ho hRm hl hS); grind [turnG, bI], by (clear hq hP hK hts hC hx hb ho hRm hl hS); grind [turnG]⟩)
      · have c17 : (isHouseB (u.1 8) h) = false := bI_0.mp c17
        refine lv_iconst (v := 0) hx hb dX6_turn_20 (by decide) ?_
        exact hq _ _ _ _ _ _ dX6_turn_21 hP hS (by first | rfl | exact bI_nar _) (by exact ⟨by (clear hq hP hK hts hC hx hb ho hRm hl hS); grind [turnG, bI], by (clear hq hP hK hts hC hx hb ho hRm hl hS); grind [turnG]⟩)
set_option maxHeartbeats 4000000 in
theorem c_X6_copies_now_aside (G : GG) (l : Launch) (o : Nat) (R : Nat → Nat) (u : MS) (hD : DM o R) : CSv G l o R yX6_copies cX6_copies 3 2 16 [.ref (R 0), .ref (R 1)] u (fun w => w = (mC u 0 1 21)) := by
  refine CSv.mk pnX6 rfl (Nat.le_of_ble_eq_true rfl) (fun pg en Rm sg mm ar bw mth cd QQ ls hC hRm hK hP hS hl hq => ?_)
  have hx := hC.1; have hb := hC.2.1; have ho := hC.2.2.2.1; have hts := hC.2.2.2.2
  have hl : lv_has ls 3 [(0, .ref (R 0)), (1, .ref (R 1))] := hl
  refine lv_iconst (v := 0) hx hb dX6_copies_0 (by decide) ?_
  refine lv_istore_n (lv' := [(2, .int 0), (0, .ref (R 0)), (1, .ref (R 1))]) hx hb dX6_copies_1 rfl hl (by decide) rfl (fun ls hl => ?_)
  have LP2 : ∀ (fu2 : Nat) (k : Nat) (w : MS) (H : Heap) (locs : List Loc) (ls : Array Slot), 21 - k < fu2 → k ≤ 21 → w = mC u 0 1 k → PM G o R w H → va_S (AM o R) sg.heap H locs → lv_has ls 3 [(0, .ref (R 0)), (1, .ref (R 1)), (2, .int (nI k))] → W pg l en Rm sg mm ar bw mth cd H locs 0 0 QQ (F0 mm 2 ls []) := by
    intro fu2
    induction fu2 with
    | zero => intro k w H locs ls hm2 hk hw hP hS hl; exact absurd hm2 (Nat.not_lt_zero _)
    | succ fu2 ih2 =>
      intro k w H locs ls hm2 hk hw hP hS hl
      refine lv_iload_n hx hb dX6_copies_2 rfl (lv_at hl 2 rfl) ?_
      refine lv_bipush (v := 21) hx hb dX6_copies_3 (by decide) ?_
      refine lv_icmp_ge (tgt := 20) hx hb dX6_copies_5 (by decide) (fun c5 => ?_) (fun c5 => ?_)
      · have c5 : 21 ≤ k := (nI_leI (a := 21) (b := k) (by omega) (by omega)).mp c5
        exact hq _ _ _ _ _ dX6_copies_20 hP hS (by have hfin : k = 21 := (by omega); subst hfin; exact hw)
      · have c5 : ¬ (21 ≤ k) := mt (nI_leI (a := 21) (b := k) (by omega) (by omega)).mpr c5
        refine lv_aload_n hx hb dX6_copies_8 rfl (lv_at hl 1 rfl) ?_
        refine lv_iload_n hx hb dX6_copies_9 rfl (lv_at hl 2 rfl) ?_
        refine lv_aload_n hx hb dX6_copies_10 rfl (lv_at hl 0 rfl) ?_
        refine lv_iload_n hx hb dX6_copies_11 rfl (lv_at hl 2 rfl) ?_
        refine M_ald hC hK hP 0 1 21 k (aM0 _ _ _ _) (by decide) (rfl) (by omega) dX6_copies_12 ?_
        refine M_ast hC hK hD hP hS 1 2 21 k (aM1 _ _ _ _) (bM1 _ _ _ _ _ _) (by decide) (rfl) (by omega) dX6_copies_13 (fun H locs hP hS => ?_)
        refine lv_iinc (v := (nI (k + 1))) (lv' := [(2, .int (nI (k + 1))), (0, .ref (R 0)), (1, .ref (R 1))]) hx hb dX6_copies_14 hl (k := 2) rfl (nI_inc k) (by decide) rfl (fun ls hl => ?_)
        refine lv_goto (tgt := 2) hx hb dX6_copies_17 (by decide) ?_
        exact ih2 (k + 1) (mA w 1 k (w.2.1 0 k)) _ _ ls (by omega) (by first | omega | assumption | rfl | (simp_all; done) | grind) (by subst hw; exact mC_s u (by decide) k) hP hS (lv_sub hl [1, 2, 0] rfl)
  exact LP2 _ 0 u _ _ ls (Nat.lt_succ_self _) (by first | omega | assumption | rfl | (simp_all; done) | grind) ((mC_0 _ _ _).symm) hP hS (lv_sub hl [1, 2, 0] rfl)
set_option maxHeartbeats 4000000 in
theorem c_X6_copies_aside_now (G : GG) (l : Launch) (o : Nat) (R : Nat → Nat) (u : MS) (hD : DM o R) : CSv G l o R yX6_copies cX6_copies 3 2 16 [.ref (R 1), .ref (R 0)] u (fun w => w = (mC u 1 0 21)) := by
  refine CSv.mk pnX6 rfl (Nat.le_of_ble_eq_true rfl) (fun pg en Rm sg mm ar bw mth cd QQ ls hC hRm hK hP hS hl hq => ?_)
  have hx := hC.1; have hb := hC.2.1; have ho := hC.2.2.2.1; have hts := hC.2.2.2.2
  have hl : lv_has ls 3 [(0, .ref (R 1)), (1, .ref (R 0))] := hl
  refine lv_iconst (v := 0) hx hb dX6_copies_0 (by decide) ?_
  refine lv_istore_n (lv' := [(2, .int 0), (0, .ref (R 1)), (1, .ref (R 0))]) hx hb dX6_copies_1 rfl hl (by decide) rfl (fun ls hl => ?_)
  have LP2 : ∀ (fu2 : Nat) (k : Nat) (w : MS) (H : Heap) (locs : List Loc) (ls : Array Slot), 21 - k < fu2 → k ≤ 21 → w = mC u 1 0 k → PM G o R w H → va_S (AM o R) sg.heap H locs → lv_has ls 3 [(0, .ref (R 1)), (1, .ref (R 0)), (2, .int (nI k))] → W pg l en Rm sg mm ar bw mth cd H locs 0 0 QQ (F0 mm 2 ls []) := by
    intro fu2
    induction fu2 with
    | zero => intro k w H locs ls hm2 hk hw hP hS hl; exact absurd hm2 (Nat.not_lt_zero _)
    | succ fu2 ih2 =>
      intro k w H locs ls hm2 hk hw hP hS hl
      refine lv_iload_n hx hb dX6_copies_2 rfl (lv_at hl 2 rfl) ?_
      refine lv_bipush (v := 21) hx hb dX6_copies_3 (by decide) ?_
      refine lv_icmp_ge (tgt := 20) hx hb dX6_copies_5 (by decide) (fun c5 => ?_) (fun c5 => ?_)
      · have c5 : 21 ≤ k := (nI_leI (a := 21) (b := k) (by omega) (by omega)).mp c5
        exact hq _ _ _ _ _ dX6_copies_20 hP hS (by have hfin : k = 21 := (by omega); subst hfin; exact hw)
      · have c5 : ¬ (21 ≤ k) := mt (nI_leI (a := 21) (b := k) (by omega) (by omega)).mpr c5
        refine lv_aload_n hx hb dX6_copies_8 rfl (lv_at hl 1 rfl) ?_
        refine lv_iload_n hx hb dX6_copies_9 rfl (lv_at hl 2 rfl) ?_
        refine lv_aload_n hx hb dX6_copies_10 rfl (lv_at hl 0 rfl) ?_
        refine lv_iload_n hx hb dX6_copies_11 rfl (lv_at hl 2 rfl) ?_
        refine M_ald hC hK hP 1 2 21 k (aM1 _ _ _ _) (by decide) (rfl) (by omega) dX6_copies_12 ?_
        refine M_ast hC hK hD hP hS 0 1 21 k (aM0 _ _ _ _) (bM0 _ _ _ _ _ _) (by decide) (rfl) (by omega) dX6_copies_13 (fun H locs hP hS => ?_)
        refine lv_iinc (v := (nI (k + 1))) (lv' := [(2, .int (nI (k + 1))), (0, .ref (R 1)), (1, .ref (R 0))]) hx hb dX6_copies_14 hl (k := 2) rfl (nI_inc k) (by decide) rfl (fun ls hl => ?_)
        refine lv_goto (tgt := 2) hx hb dX6_copies_17 (by decide) ?_
        exact ih2 (k + 1) (mA w 0 k (w.2.1 1 k)) _ _ ls (by omega) (by first | omega | assumption | rfl | (simp_all; done) | grind) (by subst hw; exact mC_s u (by decide) k) hP hS (lv_sub hl [1, 2, 0] rfl)
  exact LP2 _ 0 u _ _ ls (Nat.lt_succ_self _) (by first | omega | assumption | rfl | (simp_all; done) | grind) ((mC_0 _ _ _).symm) hP hS (lv_sub hl [1, 2, 0] rfl)
set_option maxHeartbeats 4000000 in
theorem c_X6_copies_now_kept (G : GG) (l : Launch) (o : Nat) (R : Nat → Nat) (u : MS) (hD : DM o R) : CSv G l o R yX6_copies cX6_copies 3 2 16 [.ref (R 0), .ref (R 2)] u (fun w => w = (mC u 0 2 21)) := by
  refine CSv.mk pnX6 rfl (Nat.le_of_ble_eq_true rfl) (fun pg en Rm sg mm ar bw mth cd QQ ls hC hRm hK hP hS hl hq => ?_)
  have hx := hC.1; have hb := hC.2.1; have ho := hC.2.2.2.1; have hts := hC.2.2.2.2
  have hl : lv_has ls 3 [(0, .ref (R 0)), (1, .ref (R 2))] := hl
  refine lv_iconst (v := 0) hx hb dX6_copies_0 (by decide) ?_
  refine lv_istore_n (lv' := [(2, .int 0), (0, .ref (R 0)), (1, .ref (R 2))]) hx hb dX6_copies_1 rfl hl (by decide) rfl (fun ls hl => ?_)
  have LP2 : ∀ (fu2 : Nat) (k : Nat) (w : MS) (H : Heap) (locs : List Loc) (ls : Array Slot), 21 - k < fu2 → k ≤ 21 → w = mC u 0 2 k → PM G o R w H → va_S (AM o R) sg.heap H locs → lv_has ls 3 [(0, .ref (R 0)), (1, .ref (R 2)), (2, .int (nI k))] → W pg l en Rm sg mm ar bw mth cd H locs 0 0 QQ (F0 mm 2 ls []) := by
    intro fu2
    induction fu2 with
    | zero => intro k w H locs ls hm2 hk hw hP hS hl; exact absurd hm2 (Nat.not_lt_zero _)
    | succ fu2 ih2 =>
      intro k w H locs ls hm2 hk hw hP hS hl
      refine lv_iload_n hx hb dX6_copies_2 rfl (lv_at hl 2 rfl) ?_
      refine lv_bipush (v := 21) hx hb dX6_copies_3 (by decide) ?_
      refine lv_icmp_ge (tgt := 20) hx hb dX6_copies_5 (by decide) (fun c5 => ?_) (fun c5 => ?_)
      · have c5 : 21 ≤ k := (nI_leI (a := 21) (b := k) (by omega) (by omega)).mp c5
        exact hq _ _ _ _ _ dX6_copies_20 hP hS (by have hfin : k = 21 := (by omega); subst hfin; exact hw)
      · have c5 : ¬ (21 ≤ k) := mt (nI_leI (a := 21) (b := k) (by omega) (by omega)).mpr c5
        refine lv_aload_n hx hb dX6_copies_8 rfl (lv_at hl 1 rfl) ?_
        refine lv_iload_n hx hb dX6_copies_9 rfl (lv_at hl 2 rfl) ?_
        refine lv_aload_n hx hb dX6_copies_10 rfl (lv_at hl 0 rfl) ?_
        refine lv_iload_n hx hb dX6_copies_11 rfl (lv_at hl 2 rfl) ?_
        refine M_ald hC hK hP 0 1 21 k (aM0 _ _ _ _) (by decide) (rfl) (by omega) dX6_copies_12 ?_
        refine M_ast hC hK hD hP hS 2 3 21 k (aM2 _ _ _ _) (bM2 _ _ _ _ _ _) (by decide) (rfl) (by omega) dX6_copies_13 (fun H locs hP hS => ?_)
        refine lv_iinc (v := (nI (k + 1))) (lv' := [(2, .int (nI (k + 1))), (0, .ref (R 0)), (1, .ref (R 2))]) hx hb dX6_copies_14 hl (k := 2) rfl (nI_inc k) (by decide) rfl (fun ls hl => ?_)
        refine lv_goto (tgt := 2) hx hb dX6_copies_17 (by decide) ?_
        exact ih2 (k + 1) (mA w 2 k (w.2.1 0 k)) _ _ ls (by omega) (by first | omega | assumption | rfl | (simp_all; done) | grind) (by subst hw; exact mC_s u (by decide) k) hP hS (lv_sub hl [1, 2, 0] rfl)
  exact LP2 _ 0 u _ _ ls (Nat.lt_succ_self _) (by first | omega | assumption | rfl | (simp_all; done) | grind) ((mC_0 _ _ _).symm) hP hS (lv_sub hl [1, 2, 0] rfl)
set_option maxHeartbeats 4000000 in
theorem c_X6_copies_kept_now (G : GG) (l : Launch) (o : Nat) (R : Nat → Nat) (u : MS) (hD : DM o R) : CSv G l o R yX6_copies cX6_copies 3 2 16 [.ref (R 2), .ref (R 0)] u (fun w => w = (mC u 2 0 21)) := by
  refine CSv.mk pnX6 rfl (Nat.le_of_ble_eq_true rfl) (fun pg en Rm sg mm ar bw mth cd QQ ls hC hRm hK hP hS hl hq => ?_)
  have hx := hC.1; have hb := hC.2.1; have ho := hC.2.2.2.1; have hts := hC.2.2.2.2
  have hl : lv_has ls 3 [(0, .ref (R 2)), (1, .ref (R 0))] := hl
  refine lv_iconst (v := 0) hx hb dX6_copies_0 (by decide) ?_
  refine lv_istore_n (lv' := [(2, .int 0), (0, .ref (R 2)), (1, .ref (R 0))]) hx hb dX6_copies_1 rfl hl (by decide) rfl (fun ls hl => ?_)
  have LP2 : ∀ (fu2 : Nat) (k : Nat) (w : MS) (H : Heap) (locs : List Loc) (ls : Array Slot), 21 - k < fu2 → k ≤ 21 → w = mC u 2 0 k → PM G o R w H → va_S (AM o R) sg.heap H locs → lv_has ls 3 [(0, .ref (R 2)), (1, .ref (R 0)), (2, .int (nI k))] → W pg l en Rm sg mm ar bw mth cd H locs 0 0 QQ (F0 mm 2 ls []) := by
    intro fu2
    induction fu2 with
    | zero => intro k w H locs ls hm2 hk hw hP hS hl; exact absurd hm2 (Nat.not_lt_zero _)
    | succ fu2 ih2 =>
      intro k w H locs ls hm2 hk hw hP hS hl
      refine lv_iload_n hx hb dX6_copies_2 rfl (lv_at hl 2 rfl) ?_
      refine lv_bipush (v := 21) hx hb dX6_copies_3 (by decide) ?_
      refine lv_icmp_ge (tgt := 20) hx hb dX6_copies_5 (by decide) (fun c5 => ?_) (fun c5 => ?_)
      · have c5 : 21 ≤ k := (nI_leI (a := 21) (b := k) (by omega) (by omega)).mp c5
        exact hq _ _ _ _ _ dX6_copies_20 hP hS (by have hfin : k = 21 := (by omega); subst hfin; exact hw)
      · have c5 : ¬ (21 ≤ k) := mt (nI_leI (a := 21) (b := k) (by omega) (by omega)).mpr c5
        refine lv_aload_n hx hb dX6_copies_8 rfl (lv_at hl 1 rfl) ?_
        refine lv_iload_n hx hb dX6_copies_9 rfl (lv_at hl 2 rfl) ?_
        refine lv_aload_n hx hb dX6_copies_10 rfl (lv_at hl 0 rfl) ?_
        refine lv_iload_n hx hb dX6_copies_11 rfl (lv_at hl 2 rfl) ?_
        refine M_ald hC hK hP 2 3 21 k (aM2 _ _ _ _) (by decide) (rfl) (by omega) dX6_copies_12 ?_
        refine M_ast hC hK hD hP hS 0 1 21 k (aM0 _ _ _ _) (bM0 _ _ _ _ _ _) (by decide) (rfl) (by omega) dX6_copies_13 (fun H locs hP hS => ?_)
        refine lv_iinc (v := (nI (k + 1))) (lv' := [(2, .int (nI (k + 1))), (0, .ref (R 2)), (1, .ref (R 0))]) hx hb dX6_copies_14 hl (k := 2) rfl (nI_inc k) (by decide) rfl (fun ls hl => ?_)
        refine lv_goto (tgt := 2) hx hb dX6_copies_17 (by decide) ?_
        exact ih2 (k + 1) (mA w 0 k (w.2.1 2 k)) _ _ ls (by omega) (by first | omega | assumption | rfl | (simp_all; done) | grind) (by subst hw; exact mC_s u (by decide) k) hP hS (lv_sub hl [1, 2, 0] rfl)
  exact LP2 _ 0 u _ _ ls (Nat.lt_succ_self _) (by first | omega | assumption | rfl | (simp_all; done) | grind) ((mC_0 _ _ _).symm) hP hS (lv_sub hl [1, 2, 0] rfl)
set_option maxHeartbeats 4000000 in
theorem c_X6_seed (G : GG) (l : Launch) (o : Nat) (R : Nat → Nat) (u : MS) (v : Int32) (hD : DM o R) : CMi G l o R yX6_seed cX6_seed 2 .boolean 3 38 [.int v] u (fun r w => r = (bI (inB v 0 65535)) ∧ w = (if inB v 0 65535 = true then mA u 0 20 v else u)) := by
  refine CMi.mk pnX6 rfl (Nat.le_of_ble_eq_true rfl) (fun pg en Rm sg mm ar bw mth cd QQ ls hC hRm hK hP hS hl hq => ?_)
  have hx := hC.1; have hb := hC.2.1; have ho := hC.2.2.2.1; have hts := hC.2.2.2.2
  have hl : lv_has ls 2 [(0, .ref o), (1, .int v)] := hl
  refine lv_iload_n hx hb dX6_seed_0 rfl (lv_at hl 1 rfl) ?_
  refine lv_iconst (v := 0) hx hb dX6_seed_1 (by decide) ?_
  refine lv_ldcw (own := RX6) (v := 65535) hx hb ho (hts _ q1706) dX6_seed_2 ?_
  refine CI.callS hC hK hl (c_X6_in G l v 0 65535 ) trivial q1392 q1393 q116 q1394 mdX6_in (room_ok hRm rfl) rfl rfl dX6_seed_5 ?_
  refine lv_if_ne (tgt := 13) hx hb dX6_seed_8 (by decide) (fun c8 => ?_) (fun c8 => ?_)
  · have c8 : (inB v 0 65535) = true := bI_1.mp c8
    refine lv_aload_n hx hb dX6_seed_13 rfl (lv_at hl 0 rfl) ?_
    refine M_get hC hK hP 0 (by decide) (fM0 _ _) q1201 dX6_seed_14 ?_
    refine lv_bipush (v := 20) hx hb dX6_seed_17 (by decide) ?_
    refine lv_iload_n hx hb dX6_seed_19 rfl (lv_at hl 1 rfl) ?_
    refine M_ast hC hK hD hP hS 0 1 21 20 (aM0 _ _ _ _) (bM0 _ _ _ _ _ _) (by decide) (by decide) (by omega) dX6_seed_20 (fun H locs hP hS => ?_)
    refine lv_iconst (v := 1) hx hb dX6_seed_21 (by decide) ?_
    exact hq _ _ _ _ _ _ dX6_seed_22 hP hS (by first | rfl | exact bI_nar _) (by exact ⟨by (clear hq hP hK hts hC hx hb ho hRm hl hS); grind [bI], by (clear hq hP hK hts hC hx hb ho hRm hl hS); grind⟩)
  · have c8 : (inB v 0 65535) = false := bI_0.mp c8
    refine lv_iconst (v := 0) hx hb dX6_seed_11 (by decide) ?_
    exact hq _ _ _ _ _ _ dX6_seed_12 hP hS (by first | rfl | exact bI_nar _) (by exact ⟨by (clear hq hP hK hts hC hx hb ho hRm hl hS); grind [bI], by (clear hq hP hK hts hC hx hb ho hRm hl hS); grind⟩)
set_option maxHeartbeats 4000000 in
theorem c_X6_joyOfAll (G : GG) (l : Launch) (o : Nat) (R : Nat → Nat) (u : MS) : CI G l yX6_joyOfAll cX6_joyOfAll 3 .int 4 59 [.ref o] (PM G o R u) (joyAll (u.1 8) (u.2.1 0) 16) := by
  refine CI.mk RX6 pnX6 rfl (rfl) (Nat.le_of_ble_eq_true rfl) (fun pg en Rm sg mm ar bw mth cd QQ ls hC hRm hK hP hl hq => ?_)
  have hx := hC.1; have hb := hC.2.1; have ho := hC.2.2.2.1; have hts := hC.2.2.2.2
  have hl : lv_has ls 3 [(0, .ref o)] := hl
  refine lv_iconst (v := 0) hx hb dX6_joyOfAll_0 (by decide) ?_
  refine lv_istore_n (lv' := [(1, .int 0), (0, .ref o)]) hx hb dX6_joyOfAll_1 rfl hl (by decide) rfl (fun ls hl => ?_)
  refine lv_iconst (v := 0) hx hb dX6_joyOfAll_2 (by decide) ?_
  refine lv_istore_n (lv' := [(2, .int 0), (1, .int 0), (0, .ref o)]) hx hb dX6_joyOfAll_3 rfl hl (by decide) rfl (fun ls hl => ?_)
  have LP4 : ∀ (fu4 : Nat) (k : Nat) (su : Int32) (ls : Array Slot), 16 - k < fu4 → k ≤ 16 → su = joyAll (u.1 8) (u.2.1 0) k → lv_has ls 3 [(0, .ref o), (1, .int su), (2, .int (nI k))] → W pg l en Rm sg mm ar bw mth cd sg.heap [] 0 0 QQ (F0 mm 4 ls []) := by
    intro fu4
    induction fu4 with
    | zero => intro k su ls hm4 hk hsu hl; exact absurd hm4 (Nat.not_lt_zero _)
    | succ fu4 ih4 =>
      intro k su ls hm4 hk hsu hl
      refine lv_iload_n hx hb dX6_joyOfAll_4 rfl (lv_at hl 2 rfl) ?_
      refine lv_bipush (v := 16) hx hb dX6_joyOfAll_5 (by decide) ?_
      refine lv_icmp_ge (tgt := 35) hx hb dX6_joyOfAll_7 (by decide) (fun c7 => ?_) (fun c7 => ?_)
      · have c7 : 16 ≤ k := (nI_leI (a := 16) (b := k) (by omega) (by omega)).mp c7
        refine lv_iload_n hx hb dX6_joyOfAll_35 rfl (lv_at hl 1 rfl) ?_
        exact hq _ _ _ dX6_joyOfAll_36 (by have hfin : k = 16 := (by omega); subst hfin; exact hsu)
      · have c7 : ¬ (16 ≤ k) := mt (nI_leI (a := 16) (b := k) (by omega) (by omega)).mpr c7
        refine lv_aload_n hx hb dX6_joyOfAll_10 rfl (lv_at hl 0 rfl) ?_
        refine lv_iload_n hx hb dX6_joyOfAll_11 rfl (lv_at hl 2 rfl) ?_
        refine CI.callV hC hK hl (c_X6_isHouse G l o R u (nI k) ) hP (hP.recv hK) q1395 q1397 qs45 q116 q1398 mdX6_isHouse (room_ok hRm rfl) rfl rfl dX6_joyOfAll_12 ?_
        refine lv_if_eq (tgt := 29) hx hb dX6_joyOfAll_15 (by decide) (fun c15 => ?_) (fun c15 => ?_)
        · have c15 : (isHouseB (u.1 8) (nI k)) = false := bI_0.mp c15
          refine lv_iinc (v := (nI (k + 1))) (lv' := [(2, .int (nI (k + 1))), (0, .ref o), (1, .int su)]) hx hb dX6_joyOfAll_29 hl (k := 2) rfl (nI_inc k) (by decide) rfl (fun ls hl => ?_)
          refine lv_goto (tgt := 4) hx hb dX6_joyOfAll_32 (by decide) ?_
          exact ih4 (k + 1) su ls (by omega) (by first | omega | assumption | rfl | (simp_all; done) | grind) (by (clear hq hP hK hts hC hx hb ho hRm hl ih4); grind [joyAll])  (lv_sub hl [1, 2, 0] rfl)
        · have c15 : (isHouseB (u.1 8) (nI k)) = true := bI_1.mp c15
          refine lv_iload_n hx hb dX6_joyOfAll_18 rfl (lv_at hl 1 rfl) ?_
          refine lv_aload_n hx hb dX6_joyOfAll_19 rfl (lv_at hl 0 rfl) ?_
          refine M_get hC hK hP 0 (by decide) (fM0 _ _) q1201 dX6_joyOfAll_20 ?_
          refine lv_iconst (v := 0) hx hb dX6_joyOfAll_23 (by decide) ?_
          refine lv_iload_n hx hb dX6_joyOfAll_24 rfl (lv_at hl 2 rfl) ?_
          refine lv_iadd hx hb dX6_joyOfAll_25 ?_
          refine W_top (y := (nI k)) (Int32.zero_add _) ?_
          refine M_ald hC hK hP 0 1 21 k (aM0 _ _ _ _) (by decide) (rfl) (by omega) dX6_joyOfAll_26 ?_
          refine lv_iadd hx hb dX6_joyOfAll_27 ?_
          refine lv_istore_n (lv' := [(1, .int (su + (u.2.1 0 k))), (0, .ref o), (2, .int (nI k))]) hx hb dX6_joyOfAll_28 rfl hl (by decide) rfl (fun ls hl => ?_)
          refine lv_iinc (v := (nI (k + 1))) (lv' := [(2, .int (nI (k + 1))), (1, .int (su + (u.2.1 0 k))), (0, .ref o)]) hx hb dX6_joyOfAll_29 hl (k := 2) rfl (nI_inc k) (by decide) rfl (fun ls hl => ?_)
          refine lv_goto (tgt := 4) hx hb dX6_joyOfAll_32 (by decide) ?_
          exact ih4 (k + 1) (su + (u.2.1 0 k)) ls (by omega) (by first | omega | assumption | rfl | (simp_all; done) | grind) (by (clear hq hP hK hts hC hx hb ho hRm hl ih4); grind [joyAll])  (lv_sub hl [2, 1, 0] rfl)
  exact LP4 _ 0 0 ls (Nat.lt_succ_self _) (by first | omega | assumption | rfl | (simp_all; done) | grind) (rfl)  (lv_sub hl [2, 1, 0] rfl)
set_option maxHeartbeats 4000000 in
theorem c_X6_keep (G : GG) (l : Launch) (o : Nat) (R : Nat → Nat) (u : MS) (hD : DM o R) : CMi G l o R yX6_keep cX6_keep 1 .int 3 38 [] u (fun r w => r = ((u.2.1 0) 19) ∧ w = (mC (mV (mV u 59 1) 60 (u.1 8)) 0 2 21)) := by
  refine CMi.mk pnX6 rfl (Nat.le_of_ble_eq_true rfl) (fun pg en Rm sg mm ar bw mth cd QQ ls hC hRm hK hP hS hl hq => ?_)
  have hx := hC.1; have hb := hC.2.1; have ho := hC.2.2.2.1; have hts := hC.2.2.2.2
  have hl : lv_has ls 1 [(0, .ref o)] := hl
  refine lv_aload_n hx hb dX6_keep_0 rfl (lv_at hl 0 rfl) ?_
  refine lv_iconst (v := 1) hx hb dX6_keep_1 (by decide) ?_
  refine M_putz hC hK hD hP hS 59 (by decide) (sM59 _ _ _) q1260 rfl (by rfl) (by rfl) dX6_keep_2 (fun H locs hP hS => ?_)
  refine lv_aload_n hx hb dX6_keep_5 rfl (lv_at hl 0 rfl) ?_
  refine lv_aload_n hx hb dX6_keep_6 rfl (lv_at hl 0 rfl) ?_
  refine M_get (v := .int (u.1 8)) hC hK hP 8 (by decide) (fM8 _ _) q1209 dX6_keep_7 ?_
  refine M_put hC hK hD hP hS 60 (by decide) (sM60 _ _ _) q1261 rfl dX6_keep_10 (fun H locs hP hS => ?_)
  refine lv_aload_n hx hb dX6_keep_13 rfl (lv_at hl 0 rfl) ?_
  refine M_get hC hK hP 0 (by decide) (fM0 _ _) q1201 dX6_keep_14 ?_
  refine lv_aload_n hx hb dX6_keep_17 rfl (lv_at hl 0 rfl) ?_
  refine M_get hC hK hP 2 (by decide) (fM2 _ _) q1203 dX6_keep_18 ?_
  refine CSv.call hC hK hS (fun q h => h) hl (c_X6_copies_now_kept G l o R (mV (mV u 59 1) 60 (u.1 8))   hD) hP q1606 q1607 q116 q1608 mdX6_copies (room_ok hRm rfl) rfl rfl dX6_keep_21 (fun w21 H locs hpo hP _ _ hS => ?_)
  have ew21 := hpo
  rw [ew21] at hP
  refine lv_aload_n hx hb dX6_keep_24 rfl (lv_at hl 0 rfl) ?_
  refine M_get hC hK hP 0 (by decide) (fM0 _ _) q1201 dX6_keep_25 ?_
  refine lv_bipush (v := 19) hx hb dX6_keep_28 (by decide) ?_
  refine M_ald hC hK hP 0 1 21 19 (aM0 _ _ _ _) (by decide) (by decide) (by omega) dX6_keep_30 ?_
  exact hq _ _ _ _ _ _ dX6_keep_31 hP hS (rfl) (by exact ⟨rfl, rfl⟩)
set_option maxHeartbeats 4000000 in
theorem c_X6_changesTurns (G : GG) (l : Launch) (o : Nat) (R : Nat → Nat) (u : MS) (a : Nat) (b : Nat) (ha : a < 12) (hb2 : b < 12) (hD : DM o R) : CMv G l o R yX6_changesTurns cX6_changesTurns 4 2 16 [.int (nI a), .int (nI b)] u (fun w => w = (mA (mA u 3 a ((u.2.1 3) b)) 3 b ((u.2.1 3) a))) := by
  refine CMv.mk pnX6 rfl (Nat.le_of_ble_eq_true rfl) (fun pg en Rm sg mm ar bw mth cd QQ ls hC hRm hK hP hS hl hq => ?_)
  have hx := hC.1; have hb := hC.2.1; have ho := hC.2.2.2.1; have hts := hC.2.2.2.2
  have hl : lv_has ls 4 [(0, .ref o), (1, .int (nI a)), (2, .int (nI b))] := hl
  refine lv_aload_n hx hb dX6_changesTurns_0 rfl (lv_at hl 0 rfl) ?_
  refine M_get hC hK hP 3 (by decide) (fM3 _ _) q1204 dX6_changesTurns_1 ?_
  refine lv_iload_n hx hb dX6_changesTurns_4 rfl (lv_at hl 1 rfl) ?_
  refine M_ald hC hK hP 3 4 12 a (aM3 _ _ _ _) (by decide) (rfl) (by omega) dX6_changesTurns_5 ?_
  refine lv_istore_n (lv' := [(3, .int (u.2.1 3 a)), (0, .ref o), (1, .int (nI a)), (2, .int (nI b))]) hx hb dX6_changesTurns_6 rfl hl (by decide) rfl (fun ls hl => ?_)
  refine lv_aload_n hx hb dX6_changesTurns_7 rfl (lv_at hl 1 rfl) ?_
  refine M_get hC hK hP 3 (by decide) (fM3 _ _) q1204 dX6_changesTurns_8 ?_
  refine lv_iload_n hx hb dX6_changesTurns_11 rfl (lv_at hl 2 rfl) ?_
  refine lv_aload_n hx hb dX6_changesTurns_12 rfl (lv_at hl 1 rfl) ?_
  refine M_get hC hK hP 3 (by decide) (fM3 _ _) q1204 dX6_changesTurns_13 ?_
  refine lv_iload_n hx hb dX6_changesTurns_16 rfl (lv_at hl 3 rfl) ?_
  refine M_ald hC hK hP 3 4 12 b (aM3 _ _ _ _) (by decide) (rfl) (by omega) dX6_changesTurns_17 ?_
  refine M_ast hC hK hD hP hS 3 4 12 a (aM3 _ _ _ _) (bM3 _ _ _ _ _ _) (by decide) (rfl) (by omega) dX6_changesTurns_18 (fun H locs hP hS => ?_)
  refine lv_aload_n hx hb dX6_changesTurns_19 rfl (lv_at hl 1 rfl) ?_
  refine M_get hC hK hP 3 (by decide) (fM3 _ _) q1204 dX6_changesTurns_20 ?_
  refine lv_iload_n hx hb dX6_changesTurns_23 rfl (lv_at hl 3 rfl) ?_
  refine lv_iload_n hx hb dX6_changesTurns_24 rfl (lv_at hl 0 rfl) ?_
  refine M_ast hC hK hD hP hS 3 4 12 b (aM3 _ _ _ _) (bM3 _ _ _ _ _ _) (by decide) (rfl) (by omega) dX6_changesTurns_25 (fun H locs hP hS => ?_)
  exact hq _ _ _ _ _ dX6_changesTurns_26 hP hS (by exact rfl)
