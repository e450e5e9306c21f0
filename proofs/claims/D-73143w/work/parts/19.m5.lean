set_option maxRecDepth 100000
set_option maxHeartbeats 4000000 in
theorem c_X6_types (G : GG) (l : Launch) (o : Nat) (R : Nat → Nat) (u : MS) (v : Int32) (tp : Nat) (htp : (u.1 11) = nI tp) (htp4 : tp + 4 ≤ 260) (hD : DM o R) : CMv G l o R yX6_types cX6_types 3 2 16 [.int v] u (fun w => w = (tyM u tp v)) := by
  refine CMv.mk pnX6 rfl (Nat.le_of_ble_eq_true rfl) (fun pg en Rm sg mm ar bw mth cd QQ ls hC hRm hK hP hS hl hq => ?_)
  have hx := hC.1; have hb := hC.2.1; have ho := hC.2.2.2.1; have hts := hC.2.2.2.2
  have hl : lv_has ls 3 [(0, .ref o), (1, .int v)] := hl
  refine lv_iconst (v := 3) hx hb dX6_types_0 (by decide) ?_
  refine lv_istore_n (lv' := [(2, .int 3), (0, .ref o), (1, .int v)]) hx hb dX6_types_1 rfl hl (by decide) rfl (fun ls hl => ?_)
  refine lv_iload_n hx hb dX6_types_2 rfl (lv_at hl 0 rfl) ?_
  refine lv_if_lt (tgt := 38) hx hb dX6_types_3 (by decide) (fun c3 => ?_) (fun c3 => ?_)
  · exact absurd c3 (by decide)
  · refine lv_aload_n hx hb dX6_types_6 rfl (lv_at hl 1 rfl) ?_
    refine M_get hC hK hP 10 (by decide) (fM10 _ _) q1211 dX6_types_7 ?_
    refine lv_aload_n hx hb dX6_types_10 rfl (lv_at hl 1 rfl) ?_
    refine M_get (v := .int (u.1 11)) hC hK hP 11 (by decide) (fM11 _ _) q1212 dX6_types_11 ?_
    refine W_top htp ?_
    refine lv_iload_n hx hb dX6_types_14 rfl (lv_at hl 2 rfl) ?_
    refine lv_bipush (v := 8) hx hb dX6_types_15 (by decide) ?_
    refine lv_iload_n hx hb dX6_types_17 rfl (lv_at hl 0 rfl) ?_
    refine lv_imul hx hb dX6_types_18 ?_
    refine W_top (y := 24) (by decide) ?_
    refine lv_ishr hx hb dX6_types_19 ?_
    refine lv_i2b (v := ((v >>> (24 &&& 31))).toInt8.toInt32) hx hb dX6_types_20 rfl ?_
    refine M_bast hC hK hD hP hS 10 9 260 tp (aM10 _ _ _ _) (bM10 _ _ _ _ _ _) (by decide) (rfl) (by omega) dX6_types_21 (fun H locs hP hS => ?_)
    refine lv_aload_n hx hb dX6_types_22 rfl (lv_at hl 1 rfl) ?_
    refine lv_aload_n hx hb dX6_types_23 rfl (lv_at hl 1 rfl) ?_
    refine M_get (v := .int (u.1 11)) hC hK hP 11 (by decide) (fM11 _ _) q1212 dX6_types_24 ?_
    refine W_top htp ?_
    refine lv_iconst (v := 1) hx hb dX6_types_27 (by decide) ?_
    refine lv_iadd hx hb dX6_types_28 ?_
    refine W_top (nI_add tp 1) ?_
    refine M_put hC hK hD hP hS 11 (by decide) (sM11 _ _ _) q1212 rfl dX6_types_29 (fun H locs hP hS => ?_)
    refine lv_iinc (v := 2) (lv' := [(2, .int 2), (0, .ref o), (1, .int v)]) hx hb dX6_types_32 hl (k := 0) rfl (by decide) (by decide) rfl (fun ls hl => ?_)
    refine lv_goto (tgt := 2) hx hb dX6_types_35 (by decide) ?_
    refine lv_iload_n hx hb dX6_types_2 rfl (lv_at hl 0 rfl) ?_
    refine lv_if_lt (tgt := 38) hx hb dX6_types_3 (by decide) (fun c3 => ?_) (fun c3 => ?_)
    · exact absurd c3 (by decide)
    · refine lv_aload_n hx hb dX6_types_6 rfl (lv_at hl 1 rfl) ?_
      refine M_get hC hK hP 10 (by decide) (fM10 _ _) q1211 dX6_types_7 ?_
      refine lv_aload_n hx hb dX6_types_10 rfl (lv_at hl 1 rfl) ?_
      refine M_get (v := .int (nI (tp + 1))) hC hK hP 11 (by decide) (fM11 _ _) q1212 dX6_types_11 ?_
      refine lv_iload_n hx hb dX6_types_14 rfl (lv_at hl 2 rfl) ?_
      refine lv_bipush (v := 8) hx hb dX6_types_15 (by decide) ?_
      refine lv_iload_n hx hb dX6_types_17 rfl (lv_at hl 0 rfl) ?_
      refine lv_imul hx hb dX6_types_18 ?_
      refine W_top (y := 16) (by decide) ?_
      refine lv_ishr hx hb dX6_types_19 ?_
      refine lv_i2b (v := ((v >>> (16 &&& 31))).toInt8.toInt32) hx hb dX6_types_20 rfl ?_
      refine M_bast hC hK hD hP hS 10 9 260 (tp + 1) (aM10 _ _ _ _) (bM10 _ _ _ _ _ _) (by decide) (rfl) (by omega) dX6_types_21 (fun H locs hP hS => ?_)
      refine lv_aload_n hx hb dX6_types_22 rfl (lv_at hl 1 rfl) ?_
      refine lv_aload_n hx hb dX6_types_23 rfl (lv_at hl 1 rfl) ?_
      refine M_get (v := .int (nI (tp + 1))) hC hK hP 11 (by decide) (fM11 _ _) q1212 dX6_types_24 ?_
      refine lv_iconst (v := 1) hx hb dX6_types_27 (by decide) ?_
      refine lv_iadd hx hb dX6_types_28 ?_
      refine W_top (nI_add (tp + 1) 1) ?_
      refine M_put hC hK hD hP hS 11 (by decide) (sM11 _ _ _) q1212 rfl dX6_types_29 (fun H locs hP hS => ?_)
      refine lv_iinc (v := 1) (lv' := [(2, .int 1), (0, .ref o), (1, .int v)]) hx hb dX6_types_32 hl (k := 0) rfl (by decide) (by decide) rfl (fun ls hl => ?_)
      refine lv_goto (tgt := 2) hx hb dX6_types_35 (by decide) ?_
      refine lv_iload_n hx hb dX6_types_2 rfl (lv_at hl 0 rfl) ?_
      refine lv_if_lt (tgt := 38) hx hb dX6_types_3 (by decide) (fun c3 => ?_) (fun c3 => ?_)
      · exact absurd c3 (by decide)
      · refine lv_aload_n hx hb dX6_types_6 rfl (lv_at hl 1 rfl) ?_
        refine M_get hC hK hP 10 (by decide) (fM10 _ _) q1211 dX6_types_7 ?_
        refine lv_aload_n hx hb dX6_types_10 rfl (lv_at hl 1 rfl) ?_
        refine M_get (v := .int (nI ((tp + 1) + 1))) hC hK hP 11 (by decide) (fM11 _ _) q1212 dX6_types_11 ?_
        refine lv_iload_n hx hb dX6_types_14 rfl (lv_at hl 2 rfl) ?_
        refine lv_bipush (v := 8) hx hb dX6_types_15 (by decide) ?_
        refine lv_iload_n hx hb dX6_types_17 rfl (lv_at hl 0 rfl) ?_
        refine lv_imul hx hb dX6_types_18 ?_
        refine W_top (y := 8) (by decide) ?_
        refine lv_ishr hx hb dX6_types_19 ?_
        refine lv_i2b (v := ((v >>> (8 &&& 31))).toInt8.toInt32) hx hb dX6_types_20 rfl ?_
        refine M_bast hC hK hD hP hS 10 9 260 ((tp + 1) + 1) (aM10 _ _ _ _) (bM10 _ _ _ _ _ _) (by decide) (rfl) (by omega) dX6_types_21 (fun H locs hP hS => ?_)
        refine lv_aload_n hx hb dX6_types_22 rfl (lv_at hl 1 rfl) ?_
        refine lv_aload_n hx hb dX6_types_23 rfl (lv_at hl 1 rfl) ?_
        refine M_get (v := .int (nI ((tp + 1) + 1))) hC hK hP 11 (by decide) (fM11 _ _) q1212 dX6_types_24 ?_
        refine lv_iconst (v := 1) hx hb dX6_types_27 (by decide) ?_
        refine lv_iadd hx hb dX6_types_28 ?_
        refine W_top (nI_add ((tp + 1) + 1) 1) ?_
        refine M_put hC hK hD hP hS 11 (by decide) (sM11 _ _ _) q1212 rfl dX6_types_29 (fun H locs hP hS => ?_)
        refine lv_iinc (v := 0) (lv' := [(2, .int 0), (0, .ref o), (1, .int v)]) hx hb dX6_types_32 hl (k := 0) rfl (by decide) (by decide) rfl (fun ls hl => ?_)
        refine lv_goto (tgt := 2) hx hb dX6_types_35 (by decide) ?_
        refine lv_iload_n hx hb dX6_types_2 rfl (lv_at hl 0 rfl) ?_
        refine lv_if_lt (tgt := 38) hx hb dX6_types_3 (by decide) (fun c3 => ?_) (fun c3 => ?_)
        · exact absurd c3 (by decide)
        · refine lv_aload_n hx hb dX6_types_6 rfl (lv_at hl 1 rfl) ?_
          refine M_get hC hK hP 10 (by decide) (fM10 _ _) q1211 dX6_types_7 ?_
          refine lv_aload_n hx hb dX6_types_10 rfl (lv_at hl 1 rfl) ?_
          refine M_get (v := .int (nI (((tp + 1) + 1) + 1))) hC hK hP 11 (by decide) (fM11 _ _) q1212 dX6_types_11 ?_
          refine lv_iload_n hx hb dX6_types_14 rfl (lv_at hl 2 rfl) ?_
          refine lv_bipush (v := 8) hx hb dX6_types_15 (by decide) ?_
          refine lv_iload_n hx hb dX6_types_17 rfl (lv_at hl 0 rfl) ?_
          refine lv_imul hx hb dX6_types_18 ?_
          refine W_top (y := 0) (by decide) ?_
          refine lv_ishr hx hb dX6_types_19 ?_
          refine lv_i2b (v := ((v >>> (0 &&& 31))).toInt8.toInt32) hx hb dX6_types_20 rfl ?_
          refine M_bast hC hK hD hP hS 10 9 260 (((tp + 1) + 1) + 1) (aM10 _ _ _ _) (bM10 _ _ _ _ _ _) (by decide) (rfl) (by omega) dX6_types_21 (fun H locs hP hS => ?_)
          refine lv_aload_n hx hb dX6_types_22 rfl (lv_at hl 1 rfl) ?_
          refine lv_aload_n hx hb dX6_types_23 rfl (lv_at hl 1 rfl) ?_
          refine M_get (v := .int (nI (((tp + 1) + 1) + 1))) hC hK hP 11 (by decide) (fM11 _ _) q1212 dX6_types_24 ?_
          refine lv_iconst (v := 1) hx hb dX6_types_27 (by decide) ?_
          refine lv_iadd hx hb dX6_types_28 ?_
          refine W_top (nI_add (((tp + 1) + 1) + 1) 1) ?_
          refine M_put hC hK hD hP hS 11 (by decide) (sM11 _ _ _) q1212 rfl dX6_types_29 (fun H locs hP hS => ?_)
          refine lv_iinc (v := (-1)) (lv' := [(2, .int (-1)), (0, .ref o), (1, .int v)]) hx hb dX6_types_32 hl (k := 0) rfl (by decide) (by decide) rfl (fun ls hl => ?_)
          refine lv_goto (tgt := 2) hx hb dX6_types_35 (by decide) ?_
          refine lv_iload_n hx hb dX6_types_2 rfl (lv_at hl 0 rfl) ?_
          refine lv_if_lt (tgt := 38) hx hb dX6_types_3 (by decide) (fun c3 => ?_) (fun c3 => ?_)
          · exact hq _ _ _ _ _ dX6_types_38 hP hS (by exact tyM_eq _ _ _ _ _ _ _ _ _ _ _ _ _)
          · exact absurd c3 (by decide)
set_option maxHeartbeats 4000000 in
theorem c_X6_feed (G : GG) (l : Launch) (o : Nat) (R : Nat → Nat) (u : MS) (a1 : Int32) (a2 : Int32) (a3 : Int32) (a4 : Int32) (a5 : Int32) (tp : Nat) (htp : (u.1 11) = nI tp) (htp4 : tp ≤ 260) (hD : DM o R) : CMi G l o R yX6_feed cX6_feed 6 .int 3 38 [.int a1, .int a2, .int a3, .int a4, .int a5] u (fun r w => r = (if 260 < tp + 20 then -1 else nI (tp + 20)) ∧ w = (if 260 < tp + 20 then u else feedM u tp a1 a2 a3 a4 a5)) := by
  refine CMi.mk pnX6 rfl (Nat.le_of_ble_eq_true rfl) (fun pg en Rm sg mm ar bw mth cd QQ ls hC hRm hK hP hS hl hq => ?_)
  have hx := hC.1; have hb := hC.2.1; have ho := hC.2.2.2.1; have hts := hC.2.2.2.2
  have hl : lv_has ls 6 [(0, .ref o), (1, .int a1), (2, .int a2), (3, .int a3), (4, .int a4), (5, .int a5)] := hl
  refine lv_aload_n hx hb dX6_feed_0 rfl (lv_at hl 0 rfl) ?_
  refine M_get (v := .int (u.1 11)) hC hK hP 11 (by decide) (fM11 _ _) q1212 dX6_feed_1 ?_
  refine W_top htp ?_
  refine lv_bipush (v := 20) hx hb dX6_feed_4 (by decide) ?_
  refine lv_iadd hx hb dX6_feed_6 ?_
  refine W_top (nI_add tp 20) ?_
  refine lv_sipush (v := 260) hx hb dX6_feed_7 (by decide) ?_
  refine lv_icmp_le (tgt := 15) hx hb dX6_feed_10 (by decide) (fun c10 => ?_) (fun c10 => ?_)
  · have c10 : (tp + 20) ≤ 260 := (nI_leI (a := (tp + 20)) (b := 260) (by omega) (by omega)).mp c10
    refine lv_aload_n hx hb dX6_feed_15 rfl (lv_at hl 0 rfl) ?_
    refine lv_iload_n hx hb dX6_feed_16 rfl (lv_at hl 1 rfl) ?_
    refine CMv.call hC hK hS (fun q h => h) hl (c_X6_types G l o R u a1 tp (by first | assumption | omega | rfl | (simp_all; done)) (by first | assumption | omega | rfl | (simp_all; done)) hD) hP rfl q1422 q1424 qs49 q116 q1425 mdX6_types (room_ok hRm rfl) rfl rfl dX6_feed_17 (fun w17 H locs hpo hP _ _ hS => ?_)
    have ew17 := hpo
    rw [ew17] at hP
    refine lv_aload_n hx hb dX6_feed_20 rfl (lv_at hl 0 rfl) ?_
    refine lv_iload_n hx hb dX6_feed_21 rfl (lv_at hl 2 rfl) ?_
    refine CMv.call hC hK hS (fun q h => h) hl (c_X6_types G l o R (tyM u tp a1) a2 (tp + 4) (by first | assumption | omega | rfl | (simp_all; done)) (by first | assumption | omega | rfl | (simp_all; done)) hD) hP rfl q1422 q1424 qs49 q116 q1425 mdX6_types (room_ok hRm rfl) rfl rfl dX6_feed_22 (fun w22 H locs hpo hP _ _ hS => ?_)
    have ew22 := hpo
    rw [ew22] at hP
    refine lv_aload_n hx hb dX6_feed_25 rfl (lv_at hl 0 rfl) ?_
    refine lv_iload_n hx hb dX6_feed_26 rfl (lv_at hl 3 rfl) ?_
    refine CMv.call hC hK hS (fun q h => h) hl (c_X6_types G l o R (tyM (tyM u tp a1) (tp + 4) a2) a3 (tp + 4 + 4) (by first | assumption | omega | rfl | (simp_all; done)) (by first | assumption | omega | rfl | (simp_all; done)) hD) hP rfl q1422 q1424 qs49 q116 q1425 mdX6_types (room_ok hRm rfl) rfl rfl dX6_feed_27 (fun w27 H locs hpo hP _ _ hS => ?_)
    have ew27 := hpo
    rw [ew27] at hP
    refine lv_aload_n hx hb dX6_feed_30 rfl (lv_at hl 0 rfl) ?_
    refine lv_iload hx hb dX6_feed_31 (lv_at hl 4 rfl) ?_
    refine CMv.call hC hK hS (fun q h => h) hl (c_X6_types G l o R (tyM (tyM (tyM u tp a1) (tp + 4) a2) (tp + 4 + 4) a3) a4 (tp + 4 + 4 + 4) (by first | assumption | omega | rfl | (simp_all; done)) (by first | assumption | omega | rfl | (simp_all; done)) hD) hP rfl q1422 q1424 qs49 q116 q1425 mdX6_types (room_ok hRm rfl) rfl rfl dX6_feed_33 (fun w33 H locs hpo hP _ _ hS => ?_)
    have ew33 := hpo
    rw [ew33] at hP
    refine lv_aload_n hx hb dX6_feed_36 rfl (lv_at hl 0 rfl) ?_
    refine lv_iload hx hb dX6_feed_37 (lv_at hl 5 rfl) ?_
    refine CMv.call hC hK hS (fun q h => h) hl (c_X6_types G l o R (tyM (tyM (tyM (tyM u tp a1) (tp + 4) a2) (tp + 4 + 4) a3) (tp + 4 + 4 + 4) a4) a5 (tp + 4 + 4 + 4 + 4) (by first | assumption | omega | rfl | (simp_all; done)) (by first | assumption | omega | rfl | (simp_all; done)) hD) hP rfl q1422 q1424 qs49 q116 q1425 mdX6_types (room_ok hRm rfl) rfl rfl dX6_feed_39 (fun w39 H locs hpo hP _ _ hS => ?_)
    have ew39 := hpo
    rw [ew39] at hP
    refine lv_aload_n hx hb dX6_feed_42 rfl (lv_at hl 0 rfl) ?_
    refine M_get (v := .int ((tyM (tyM (tyM (tyM (tyM u tp a1) (tp + 4) a2) (tp + 4 + 4) a3) (tp + 4 + 4 + 4) a4) (tp + 4 + 4 + 4 + 4) a5).1 11)) hC hK hP 11 (by decide) (fM11 _ _) q1212 dX6_feed_43 ?_
    refine W_top (y := (nI (tp + 20))) (rfl) ?_
    exact hq _ _ _ _ _ _ dX6_feed_46 hP hS (rfl) (by exact ⟨by rw [if_neg (by omega)], by rw [if_neg (by omega), ← feedM_eq]⟩)
  · have c10 : ¬ ((tp + 20) ≤ 260) := mt (nI_leI (a := (tp + 20)) (b := 260) (by omega) (by omega)).mpr c10
    refine lv_iconst (v := (-1)) hx hb dX6_feed_13 (by decide) ?_
    exact hq _ _ _ _ _ _ dX6_feed_14 hP hS (rfl) (by exact ⟨by rw [if_pos (by omega)], by rw [if_pos (by omega)]⟩)
set_option maxHeartbeats 4000000 in
theorem c_X6_undo (G : GG) (l : Launch) (o : Nat) (R : Nat → Nat) (u : MS) (hD : DM o R) : CMi G l o R yX6_undo cX6_undo 2 .boolean 4 59 [] u (fun r w => r = (bI (!decide ((u.1 59) = 0))) ∧ w = (if (u.1 59) = 0 then u else mUn u)) := by
  refine CMi.mk pnX6 rfl (Nat.le_of_ble_eq_true rfl) (fun pg en Rm sg mm ar bw mth cd QQ ls hC hRm hK hP hS hl hq => ?_)
  have hx := hC.1; have hb := hC.2.1; have ho := hC.2.2.2.1; have hts := hC.2.2.2.2
  have hl : lv_has ls 2 [(0, .ref o)] := hl
  refine lv_aload_n hx hb dX6_undo_0 rfl (lv_at hl 0 rfl) ?_
  refine M_get (v := .int (u.1 59)) hC hK hP 59 (by decide) (fM59 _ _) q1260 dX6_undo_1 ?_
  refine lv_if_ne (tgt := 9) hx hb dX6_undo_4 (by decide) (fun c4 => ?_) (fun c4 => ?_)
  · refine lv_aload_n hx hb dX6_undo_9 rfl (lv_at hl 0 rfl) ?_
    refine M_get hC hK hP 2 (by decide) (fM2 _ _) q1203 dX6_undo_10 ?_
    refine lv_aload_n hx hb dX6_undo_13 rfl (lv_at hl 0 rfl) ?_
    refine M_get hC hK hP 0 (by decide) (fM0 _ _) q1201 dX6_undo_14 ?_
    refine CSv.call hC hK hS (fun q h => h) hl (c_X6_copies_kept_now G l o R u   hD) hP q1606 q1607 q116 q1608 mdX6_copies (room_ok hRm rfl) rfl rfl dX6_undo_17 (fun w17 H locs hpo hP _ _ hS => ?_)
    have ew17 := hpo
    rw [ew17] at hP
    refine lv_iconst (v := 0) hx hb dX6_undo_20 (by decide) ?_
    refine lv_istore_n (lv' := [(1, .int 0), (0, .ref o)]) hx hb dX6_undo_21 rfl hl (by decide) rfl (fun ls hl => ?_)
    have LP22 : ∀ (fu22 : Nat) (k : Nat) (w : MS) (H : Heap) (locs : List Loc) (ls : Array Slot), 16 - k < fu22 → k ≤ 16 → w = mU (mC u 2 0 21) k → PM G o R w H → va_S (AM o R) sg.heap H locs → lv_has ls 2 [(0, .ref o), (1, .int (nI k))] → W pg l en Rm sg mm ar bw mth cd H locs 0 0 QQ (F0 mm 22 ls []) := by
      intro fu22
      induction fu22 with
      | zero => intro k w H locs ls hm22 hk hw hP hS hl; exact absurd hm22 (Nat.not_lt_zero _)
      | succ fu22 ih22 =>
        intro k w H locs ls hm22 hk hw hP hS hl
        refine lv_iload_n hx hb dX6_undo_22 rfl (lv_at hl 1 rfl) ?_
        refine lv_bipush (v := 16) hx hb dX6_undo_23 (by decide) ?_
        refine lv_icmp_ge (tgt := 59) hx hb dX6_undo_25 (by decide) (fun c25 => ?_) (fun c25 => ?_)
        · have c25 : 16 ≤ k := (nI_leI (a := 16) (b := k) (by omega) (by omega)).mp c25
          refine lv_aload_n hx hb dX6_undo_59 rfl (lv_at hl 0 rfl) ?_
          refine lv_aload_n hx hb dX6_undo_60 rfl (lv_at hl 0 rfl) ?_
          refine M_get hC hK hP 0 (by decide) (fM0 _ _) q1201 dX6_undo_61 ?_
          refine lv_bipush (v := 16) hx hb dX6_undo_64 (by decide) ?_
          refine M_ald hC hK hP 0 1 21 16 (aM0 _ _ _ _) (by decide) (by decide) (by omega) dX6_undo_66 ?_
          refine CI.callV hC hK hl (c_X6_isHouse G l o R w (w.2.1 0 16) ) hP (hP.recv hK) q1395 q1397 qs45 q116 q1398 mdX6_isHouse (room_ok hRm rfl) rfl rfl dX6_undo_67 ?_
          refine lv_if_ne (tgt := 81) hx hb dX6_undo_70 (by decide) (fun c70 => ?_) (fun c70 => ?_)
          · have c70 : (isHouseB (w.1 8) (w.2.1 0 16)) = true := bI_1.mp c70
            refine lv_iconst (v := 1) hx hb dX6_undo_81 (by decide) ?_
            exact hq _ _ _ _ _ _ dX6_undo_82 hP hS (by first | rfl | exact bI_nar _) (by have hf : k = 16 := (by omega); subst hf hw; exact ⟨by simp [c4, bI], by rw [if_neg c4, mUn]; first | (rw [if_pos (by simpa [mU_1, mU_20, mC_1, mC_2] using c70)]; done) | (rw [if_neg (by simpa [mU_1, mU_20, mC_1, mC_2] using c70)]; done)⟩)
          · have c70 : (isHouseB (w.1 8) (w.2.1 0 16)) = false := bI_0.mp c70
            refine lv_aload_n hx hb dX6_undo_73 rfl (lv_at hl 0 rfl) ?_
            refine M_get hC hK hP 0 (by decide) (fM0 _ _) q1201 dX6_undo_74 ?_
            refine lv_bipush (v := 16) hx hb dX6_undo_77 (by decide) ?_
            refine lv_iconst (v := (-1)) hx hb dX6_undo_79 (by decide) ?_
            refine M_ast hC hK hD hP hS 0 1 21 16 (aM0 _ _ _ _) (bM0 _ _ _ _ _ _) (by decide) (by decide) (by omega) dX6_undo_80 (fun H locs hP hS => ?_)
            refine lv_iconst (v := 1) hx hb dX6_undo_81 (by decide) ?_
            exact hq _ _ _ _ _ _ dX6_undo_82 hP hS (by first | rfl | exact bI_nar _) (by have hf : k = 16 := (by omega); subst hf hw; exact ⟨by simp [c4, bI], by rw [if_neg c4, mUn]; first | (rw [if_pos (by simpa [mU_1, mU_20, mC_1, mC_2] using c70)]; done) | (rw [if_neg (by simpa [mU_1, mU_20, mC_1, mC_2] using c70)]; done)⟩)
        · have c25 : ¬ (16 ≤ k) := mt (nI_leI (a := 16) (b := k) (by omega) (by omega)).mpr c25
          refine lv_aload_n hx hb dX6_undo_28 rfl (lv_at hl 0 rfl) ?_
          refine M_get (v := .int (w.1 60)) hC hK hP 60 (by decide) (fM60 _ _) q1261 dX6_undo_29 ?_
          refine lv_aload_n hx hb dX6_undo_32 rfl (lv_at hl 0 rfl) ?_
          refine M_get (v := .int (w.1 8)) hC hK hP 8 (by decide) (fM8 _ _) q1209 dX6_undo_33 ?_
          refine lv_iand hx hb dX6_undo_36 ?_
          refine lv_iload_n hx hb dX6_undo_37 rfl (lv_at hl 1 rfl) ?_
          refine CI.callS hC hK hl (c_X6_has G l ((w.1 60) &&& (w.1 8)) (nI k) ) trivial q1399 q1400 q116 q1401 mdX6_has (room_ok hRm rfl) rfl rfl dX6_undo_38 ?_
          refine lv_if_ne (tgt := 53) hx hb dX6_undo_41 (by decide) (fun c41 => ?_) (fun c41 => ?_)
          · have c41 : (hasB ((w.1 60) &&& (w.1 8)) (nI k)) = true := bI_1.mp c41
            refine lv_iinc (v := (nI (k + 1))) (lv' := [(1, .int (nI (k + 1))), (0, .ref o)]) hx hb dX6_undo_53 hl (k := 1) rfl (nI_inc k) (by decide) rfl (fun ls hl => ?_)
            refine lv_goto (tgt := 22) hx hb dX6_undo_56 (by decide) ?_
            exact ih22 (k + 1) w _ _ ls (by omega) (by first | omega | assumption | rfl | (simp_all; done) | grind) (by subst hw; first | exact (mU_t (mC u 2 0 21) k c41).symm | exact (mU_f (mC u 2 0 21) k c41).symm) hP hS (lv_sub hl [1, 0] rfl)
          · have c41 : (hasB ((w.1 60) &&& (w.1 8)) (nI k)) = false := bI_0.mp c41
            refine lv_aload_n hx hb dX6_undo_44 rfl (lv_at hl 0 rfl) ?_
            refine M_get hC hK hP 0 (by decide) (fM0 _ _) q1201 dX6_undo_45 ?_
            refine lv_iconst (v := 0) hx hb dX6_undo_48 (by decide) ?_
            refine lv_iload_n hx hb dX6_undo_49 rfl (lv_at hl 1 rfl) ?_
            refine lv_iadd hx hb dX6_undo_50 ?_
            refine W_top (y := (nI k)) (Int32.zero_add _) ?_
            refine lv_iconst (v := 0) hx hb dX6_undo_51 (by decide) ?_
            refine M_ast hC hK hD hP hS 0 1 21 k (aM0 _ _ _ _) (bM0 _ _ _ _ _ _) (by decide) (rfl) (by omega) dX6_undo_52 (fun H locs hP hS => ?_)
            refine lv_iinc (v := (nI (k + 1))) (lv' := [(1, .int (nI (k + 1))), (0, .ref o)]) hx hb dX6_undo_53 hl (k := 1) rfl (nI_inc k) (by decide) rfl (fun ls hl => ?_)
            refine lv_goto (tgt := 22) hx hb dX6_undo_56 (by decide) ?_
            exact ih22 (k + 1) (mA w 0 k 0) _ _ ls (by omega) (by first | omega | assumption | rfl | (simp_all; done) | grind) (by subst hw; first | exact (mU_t (mC u 2 0 21) k c41).symm | exact (mU_f (mC u 2 0 21) k c41).symm) hP hS (lv_sub hl [1, 0] rfl)
    exact LP22 _ 0 (mC u 2 0 21) _ _ ls (Nat.lt_succ_self _) (by first | omega | assumption | rfl | (simp_all; done) | grind) ((mU_0 _).symm) hP hS (lv_sub hl [1, 0] rfl)
  · refine lv_iconst (v := 0) hx hb dX6_undo_7 (by decide) ?_
    exact hq _ _ _ _ _ _ dX6_undo_8 hP hS (by first | rfl | exact bI_nar _) (by exact ⟨by rw [c4]; rfl, by rw [if_pos c4]⟩)
set_option maxHeartbeats 4000000 in
theorem c_X6_ifSwapped (G : GG) (l : Launch) (o : Nat) (R : Nat → Nat) (u : MS) (a : Int32) (b2 : Int32) (hD : DM o R) : CMi G l o R yX6_ifSwapped cX6_ifSwapped 4 .int 4 61 [.int a, .int b2] u (fun r w => r = (ifSwI (u.2.1 3) a b2) ∧ w = u) := by
  refine CMi.mk pnX6 rfl (Nat.le_of_ble_eq_true rfl) (fun pg en Rm sg mm ar bw mth cd QQ ls hC hRm hK hP hS hl hq => ?_)
  have hx := hC.1; have hb := hC.2.1; have ho := hC.2.2.2.1; have hts := hC.2.2.2.2
  have hl : lv_has ls 4 [(0, .ref o), (1, .int a), (2, .int b2)] := hl
  refine lv_iload_n hx hb dX6_ifSwapped_0 rfl (lv_at hl 1 rfl) ?_
  refine CI.callS hC hK hl (c_X6_isTurn G l a ) trivial q1389 q1390 q116 q1391 mdX6_isTurn (room_ok hRm rfl) rfl rfl dX6_ifSwapped_1 ?_
  refine lv_if_eq (tgt := 14) hx hb dX6_ifSwapped_4 (by decide) (fun c4 => ?_) (fun c4 => ?_)
  · have c4 : (isTurnB a) = false := bI_0.mp c4
    refine lv_iconst (v := (-1)) hx hb dX6_ifSwapped_14 (by decide) ?_
    exact hq _ _ _ _ _ _ dX6_ifSwapped_15 hP hS (rfl) (by exact ⟨by first | (simp [ifSwI, c4]; done) | (simp [ifSwI, c11]; done), rfl⟩)
  · have c4 : (isTurnB a) = true := bI_1.mp c4
    obtain ⟨j, hj, rfl, hjx⟩ := isTurnB_nI c4
    have hl : lv_has ls 4 [(0, .ref o), (1, .int (nI j)), (2, .int b2)] := hl
    refine lv_iload_n hx hb dX6_ifSwapped_7 rfl (lv_at hl 2 rfl) ?_
    refine CI.callS hC hK hl (c_X6_isTurn G l b2 ) trivial q1389 q1390 q116 q1391 mdX6_isTurn (room_ok hRm rfl) rfl rfl dX6_ifSwapped_8 ?_
    refine lv_if_ne (tgt := 16) hx hb dX6_ifSwapped_11 (by decide) (fun c11 => ?_) (fun c11 => ?_)
    · have c11 : (isTurnB b2) = true := bI_1.mp c11
      obtain ⟨i, hi, rfl, hix⟩ := isTurnB_nI c11
      have hl : lv_has ls 4 [(0, .ref o), (1, .int (nI j)), (2, .int (nI i))] := hl
      refine lv_aload_n hx hb dX6_ifSwapped_16 rfl (lv_at hl 0 rfl) ?_
      refine lv_iload_n hx hb dX6_ifSwapped_17 rfl (lv_at hl 1 rfl) ?_
      refine lv_iload_n hx hb dX6_ifSwapped_18 rfl (lv_at hl 2 rfl) ?_
      refine CMv.call hC hK hS (fun q h => h) hl (c_X6_changesTurns G l o R u j i (by first | assumption | omega | rfl | (simp_all; done)) (by first | assumption | omega | rfl | (simp_all; done)) hD) hP rfl q1670 q1672 qs92 q116 q1673 mdX6_changesTurns (room_ok hRm rfl) rfl rfl dX6_ifSwapped_19 (fun w19 H locs hpo hP _ _ hS => ?_)
      have ew19 := hpo
      rw [ew19] at hP
      refine lv_aload_n hx hb dX6_ifSwapped_22 rfl (lv_at hl 0 rfl) ?_
      refine lv_iconst (v := 0) hx hb dX6_ifSwapped_23 (by decide) ?_
      refine CI.callV hC hK hl (c_X6_wayOf G l o R (mA (mA u 3 j ((u.2.1 3) i)) 3 i ((u.2.1 3) j)) false ) hP (hP.recv hK) q1642 q1644 qs89 q116 q1645 mdX6_wayOf (room_ok hRm rfl) rfl rfl dX6_ifSwapped_24 ?_
      refine lv_istore_n (lv' := [(3, .int (wayI ((mA (mA u 3 j ((u.2.1 3) i)) 3 i ((u.2.1 3) j)).2.1 3) false)), (0, .ref o), (1, .int (nI j)), (2, .int (nI i))]) hx hb dX6_ifSwapped_27 rfl hl (by decide) rfl (fun ls hl => ?_)
      refine lv_aload_n hx hb dX6_ifSwapped_28 rfl (lv_at hl 1 rfl) ?_
      refine lv_iload_n hx hb dX6_ifSwapped_29 rfl (lv_at hl 2 rfl) ?_
      refine lv_iload_n hx hb dX6_ifSwapped_30 rfl (lv_at hl 3 rfl) ?_
      refine CMv.call hC hK hS (fun q h => h) hl (c_X6_changesTurns G l o R (mA (mA u 3 j ((u.2.1 3) i)) 3 i ((u.2.1 3) j)) j i (by first | assumption | omega | rfl | (simp_all; done)) (by first | assumption | omega | rfl | (simp_all; done)) hD) hP rfl q1670 q1672 qs92 q116 q1673 mdX6_changesTurns (room_ok hRm rfl) rfl rfl dX6_ifSwapped_31 (fun w31 H locs hpo hP _ _ hS => ?_)
      have ew31 := hpo
      rw [ew31] at hP
      refine lv_iload_n hx hb dX6_ifSwapped_34 rfl (lv_at hl 0 rfl) ?_
      exact hq _ _ _ _ _ _ dX6_ifSwapped_35 hP hS (rfl) (by exact ⟨by rw [ifSwI, if_pos ⟨c4, c11⟩, hjx, hix]; rfl, swap_back u j i⟩)
    · have c11 : (isTurnB b2) = false := bI_0.mp c11
      refine lv_iconst (v := (-1)) hx hb dX6_ifSwapped_14 (by decide) ?_
      exact hq _ _ _ _ _ _ dX6_ifSwapped_15 hP hS (rfl) (by exact ⟨by first | (simp [ifSwI, c4]; done) | (simp [ifSwI, c11]; done), rfl⟩)
set_option maxHeartbeats 4000000 in
theorem c_X6_check (G : GG) (l : Launch) (o : Nat) (R : Nat → Nat) (u : MS) (n0 : Int32) (hD : DM o R) : CMi G l o R yX6_check cX6_check 3 .int 4 59 [.int n0] u (fun r w => r = (checkI (u.1 8) (u.2.1 0) (u.2.1 10) (u.1 11) n0) ∧ w = (if chkG (u.1 11) n0 = true then mV u 11 0 else u)) := by
  refine CMi.mk pnX6 rfl (Nat.le_of_ble_eq_true rfl) (fun pg en Rm sg mm ar bw mth cd QQ ls hC hRm hK hP hS hl hq => ?_)
  have hx := hC.1; have hb := hC.2.1; have ho := hC.2.2.2.1; have hts := hC.2.2.2.2
  have hl : lv_has ls 3 [(0, .ref o), (1, .int n0)] := hl
  refine lv_iload_n hx hb dX6_check_0 rfl (lv_at hl 1 rfl) ?_
  refine lv_iconst (v := 0) hx hb dX6_check_1 (by decide) ?_
  refine lv_bipush (v := 16) hx hb dX6_check_2 (by decide) ?_
  refine CI.callS hC hK hl (c_X6_in G l n0 0 16 ) trivial q1392 q1393 q116 q1394 mdX6_in (room_ok hRm rfl) rfl rfl dX6_check_4 ?_
  refine lv_if_eq (tgt := 18) hx hb dX6_check_7 (by decide) (fun c7 => ?_) (fun c7 => ?_)
  · have c7 : (inB n0 0 16) = false := bI_0.mp c7
    refine lv_bipush (v := (-2)) hx hb dX6_check_18 (by decide) ?_
    exact hq _ _ _ _ _ _ dX6_check_20 hP hS (rfl) (by exact ⟨by first | (simp [checkI, chkG, c7]; done) | (simp [checkI, chkG, c7, c15]; done), by first | (simp [chkG, c7]; done) | (simp [chkG, c7, c15]; done)⟩)
  · have c7 : (inB n0 0 16) = true := bI_1.mp c7
    obtain ⟨n, hn1, hn, rfl, hnx⟩ := inB_nI2 0 16 (by decide) (by decide) c7
    have hl : lv_has ls 3 [(0, .ref o), (1, .int (nI n))] := hl
    refine lv_iload_n hx hb dX6_check_10 rfl (lv_at hl 1 rfl) ?_
    refine lv_aload_n hx hb dX6_check_11 rfl (lv_at hl 0 rfl) ?_
    refine M_get (v := .int (u.1 11)) hC hK hP 11 (by decide) (fM11 _ _) q1212 dX6_check_12 ?_
    refine lv_icmp_le (tgt := 21) hx hb dX6_check_15 (by decide) (fun c15 => ?_) (fun c15 => ?_)
    · refine lv_aload_n hx hb dX6_check_21 rfl (lv_at hl 0 rfl) ?_
      refine lv_iconst (v := 0) hx hb dX6_check_22 (by decide) ?_
      refine M_put hC hK hD hP hS 11 (by decide) (sM11 _ _ _) q1212 rfl dX6_check_23 (fun H locs hP hS => ?_)
      refine lv_iconst (v := 0) hx hb dX6_check_26 (by decide) ?_
      refine lv_istore_n (lv' := [(2, .int 0), (0, .ref o), (1, .int (nI n))]) hx hb dX6_check_27 rfl hl (by decide) rfl (fun ls hl => ?_)
      have LP28 : ∀ (fu28 : Nat) (k : Nat) (ls : Array Slot), n - k < fu28 → k ≤ n → missS (chkC (u.1 8) (u.2.1 0) (fun k => nI (ocN (u.2.1 10) k))) n 0 = missS (chkC (u.1 8) (u.2.1 0) (fun k => nI (ocN (u.2.1 10) k))) (n - k) k → lv_has ls 3 [(0, .ref o), (1, .int (nI n)), (2, .int (nI k))] → W pg l en Rm sg mm ar bw mth cd H locs 0 0 QQ (F0 mm 28 ls []) := by
        intro fu28
        induction fu28 with
        | zero => intro k ls hm28 hk hm hl; exact absurd hm28 (Nat.not_lt_zero _)
        | succ fu28 ih28 =>
          intro k ls hm28 hk hm hl
          refine lv_iload_n hx hb dX6_check_28 rfl (lv_at hl 2 rfl) ?_
          refine lv_iload_n hx hb dX6_check_29 rfl (lv_at hl 1 rfl) ?_
          refine lv_icmp_ge (tgt := 75) hx hb dX6_check_30 (by decide) (fun c30 => ?_) (fun c30 => ?_)
          · have c30 : n ≤ k := (nI_leI (a := n) (b := k) (by first | omega | exact ocN_b _ _ | exact hbN_b _ _ _) (by first | omega | exact ocN_b _ _ | exact hbN_b _ _ _)).mp c30
            refine lv_iconst (v := (-1)) hx hb dX6_check_75 (by decide) ?_
            exact hq _ _ _ _ _ _ dX6_check_76 hP hS (rfl) (by have hg : chkG (u.1 11) (nI n) = true := (by simp [chkG, c7, c15]); exact ⟨by rw [checkI, if_pos hg, hnx, hm, missS_e (by omega)], by rw [if_pos hg]⟩)
          · have c30 : ¬ (n ≤ k) := mt (nI_leI (a := n) (b := k) (by first | omega | exact ocN_b _ _ | exact hbN_b _ _ _) (by first | omega | exact ocN_b _ _ | exact hbN_b _ _ _)).mpr c30
            refine lv_aload_n hx hb dX6_check_33 rfl (lv_at hl 0 rfl) ?_
            refine lv_iload_n hx hb dX6_check_34 rfl (lv_at hl 2 rfl) ?_
            refine CI.callV hC hK hl (c_X6_octet G l o R (mV u 11 0) k (by first | assumption | omega | rfl | (simp_all; done))) hP (hP.recv hK) q1711 q1713 qs96 q116 q1714 mdX6_octet (room_ok hRm rfl) rfl rfl dX6_check_35 ?_
            refine W_top (y := (nI (ocN (u.2.1 10) k))) rfl ?_
            refine lv_aload_n hx hb dX6_check_38 rfl (lv_at hl 0 rfl) ?_
            refine lv_iload_n hx hb dX6_check_39 rfl (lv_at hl 2 rfl) ?_
            refine CI.callV hC hK hl (c_X6_isHouse G l o R (mV u 11 0) (nI k) ) hP (hP.recv hK) q1395 q1397 qs45 q116 q1398 mdX6_isHouse (room_ok hRm rfl) rfl rfl dX6_check_40 ?_
            refine W_top (y := (bI (isHouseB (u.1 8) (nI k)))) rfl ?_
            refine lv_if_eq (tgt := 61) hx hb dX6_check_43 (by decide) (fun c43 => ?_) (fun c43 => ?_)
            · have c43 : (isHouseB (u.1 8) (nI k)) = false := bI_0.mp c43
              refine lv_sipush (v := 255) hx hb dX6_check_61 (by decide) ?_
              refine lv_icmp_eq (tgt := 69) hx hb dX6_check_64 (by decide) (fun c64 => ?_) (fun c64 => ?_)
              · have c64 : (ocN (u.2.1 10) k) = 255 := (nI_eq (a := (ocN (u.2.1 10) k)) (b := 255) (by first | omega | exact ocN_b _ _ | exact hbN_b _ _ _) (by first | omega | exact ocN_b _ _ | exact hbN_b _ _ _)).mp c64
                refine lv_iinc (v := (nI (k + 1))) (lv' := [(2, .int (nI (k + 1))), (0, .ref o), (1, .int (nI n))]) hx hb dX6_check_69 hl (k := 2) rfl (nI_inc k) (by decide) rfl (fun ls hl => ?_)
                refine lv_goto (tgt := 28) hx hb dX6_check_72 (by decide) ?_
                exact ih28 (k + 1) ls (by omega) (by first | omega | assumption | rfl | (simp_all; done) | grind) (by rw [hm]; exact missS_t (by omega) (by simp only [chkC, c43, if_true, decide_eq_true_eq] ; first | exact c64 | exact congrArg nI c64))  (lv_sub hl [1, 2, 0] rfl)
              · have c64 : ¬ ((ocN (u.2.1 10) k) = 255) := mt (nI_eq (a := (ocN (u.2.1 10) k)) (b := 255) (by first | omega | exact ocN_b _ _ | exact hbN_b _ _ _) (by first | omega | exact ocN_b _ _ | exact hbN_b _ _ _)).mpr c64
                refine lv_iload_n hx hb dX6_check_67 rfl (lv_at hl 2 rfl) ?_
                exact hq _ _ _ _ _ _ dX6_check_68 hP hS (rfl) (by have hg : chkG (u.1 11) (nI n) = true := (by simp [chkG, c7, c15]); exact ⟨by rw [checkI, if_pos hg, hnx, hm]; exact (missS_f (by omega) (by simp only [chkC, c43, if_true, decide_eq_true_eq]; first | exact c64 | exact fun h => c64 ((nI_eq (ocN_b _ _) (by omega)).mp h))).symm, by rw [if_pos hg]⟩)
            · have c43 : (isHouseB (u.1 8) (nI k)) = true := bI_1.mp c43
              refine lv_aload_n hx hb dX6_check_46 rfl (lv_at hl 0 rfl) ?_
              refine M_get hC hK hP 0 (by decide) (fM0 _ _) q1201 dX6_check_47 ?_
              refine lv_iconst (v := 0) hx hb dX6_check_50 (by decide) ?_
              refine lv_iload_n hx hb dX6_check_51 rfl (lv_at hl 2 rfl) ?_
              refine lv_iadd hx hb dX6_check_52 ?_
              refine W_top (y := (nI k)) (Int32.zero_add _) ?_
              refine M_ald hC hK hP 0 1 21 k (aM0 _ _ _ _) (by decide) (rfl) (by omega) dX6_check_53 ?_
              refine W_top (y := (u.2.1 0 k)) rfl ?_
              refine lv_sipush (v := 256) hx hb dX6_check_54 (by decide) ?_
              refine lv_irem hx hb dX6_check_57 (by decide) ?_
              refine lv_goto (tgt := 64) hx hb dX6_check_58 (by decide) ?_
              refine lv_icmp_eq (tgt := 69) hx hb dX6_check_64 (by decide) (fun c64 => ?_) (fun c64 => ?_)
              · refine lv_iinc (v := (nI (k + 1))) (lv' := [(2, .int (nI (k + 1))), (0, .ref o), (1, .int (nI n))]) hx hb dX6_check_69 hl (k := 2) rfl (nI_inc k) (by decide) rfl (fun ls hl => ?_)
                refine lv_goto (tgt := 28) hx hb dX6_check_72 (by decide) ?_
                exact ih28 (k + 1) ls (by omega) (by first | omega | assumption | rfl | (simp_all; done) | grind) (by rw [hm]; exact missS_t (by omega) (by simp only [chkC, c43, if_true, decide_eq_true_eq] ; first | exact c64 | exact congrArg nI c64))  (lv_sub hl [1, 2, 0] rfl)
              · refine lv_iload_n hx hb dX6_check_67 rfl (lv_at hl 2 rfl) ?_
                exact hq _ _ _ _ _ _ dX6_check_68 hP hS (rfl) (by have hg : chkG (u.1 11) (nI n) = true := (by simp [chkG, c7, c15]); exact ⟨by rw [checkI, if_pos hg, hnx, hm]; exact (missS_f (by omega) (by simp only [chkC, c43, if_true, decide_eq_true_eq]; first | exact c64 | exact fun h => c64 ((nI_eq (ocN_b _ _) (by omega)).mp h))).symm, by rw [if_pos hg]⟩)
      exact LP28 _ 0 ls (Nat.lt_succ_self _) (by first | omega | assumption | rfl | (simp_all; done) | grind) (rfl)  (lv_sub hl [1, 2, 0] rfl)
    · refine lv_bipush (v := (-2)) hx hb dX6_check_18 (by decide) ?_
      exact hq _ _ _ _ _ _ dX6_check_20 hP hS (rfl) (by exact ⟨by first | (simp [checkI, chkG, c7]; done) | (simp [checkI, chkG, c7, c15]; done), by first | (simp [chkG, c7]; done) | (simp [chkG, c7, c15]; done)⟩)
