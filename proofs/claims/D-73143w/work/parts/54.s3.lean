set_option maxRecDepth 100000
set_option maxHeartbeats 4000000 in
theorem c_X0_push (G : GG) (l : Launch) (o : Nat) (R : Nat → Nat) (tx : Nat) (u : MS) (v : Int32) (tp : Nat) (htp : (u.1 8) = nI tp) (htp4 : tp + 4 ≤ 260) (hD : DwS o R) : CXv G l (PwS G o R tx) (AwS o R) yX0_push cX0_push 3 2 24 0 0 [.ref o, .int v] (PwS G o R tx u) (fun w => w = (tyG u 6 8 tp v)) := by
  refine CXv.mk RX0 pnX0 rfl (Nat.le_of_ble_eq_true rfl) (fun pg en Rm sg mm ar bw mth cd QQ ls hC hRm hK hX hS hl hq => ?_)
  have hx := hC.1; have hb := hC.2.1; have ho := hC.2.2.2.1; have hts := hC.2.2.2.2
  have hP : PwS G o R tx u sg.heap := hX
  have hl : lv_has ls 3 [(0, .ref o), (1, .int v)] := hl
  refine lv_bipush (v := 24) hx hb dX0_push_0 (by decide) ?_
  refine lv_istore_n (lv' := [(2, .int 24), (0, .ref o), (1, .int v)]) hx hb dX0_push_2 rfl hl (by decide) rfl (fun ls hl => ?_)
  refine lv_iload_n hx hb dX0_push_3 rfl (lv_at hl 0 rfl) ?_
  refine lv_if_lt (tgt := 36) hx hb dX0_push_4 (by decide) (fun c4 => ?_) (fun c4 => ?_)
  · exact absurd c4 (by decide)
  · refine lv_aload_n hx hb dX0_push_7 rfl (lv_at hl 1 rfl) ?_
    refine S_get hC hK hP (oS_main _ _ _ _ _) clX0 in_X0 6 (by decide) (fD6 _ _ _ _) q302 dX0_push_8 ?_
    refine lv_aload_n hx hb dX0_push_11 rfl (lv_at hl 1 rfl) ?_
    refine S_get (v := .int (u.1 8)) hC hK hP (oS_main _ _ _ _ _) clX0 in_X0 8 (by decide) (fD8 _ _ _ _) q305 dX0_push_12 ?_
    refine W_top htp ?_
    refine lv_iload_n hx hb dX0_push_15 rfl (lv_at hl 2 rfl) ?_
    refine lv_iload_n hx hb dX0_push_16 rfl (lv_at hl 0 rfl) ?_
    refine lv_ishr hx hb dX0_push_17 ?_
    refine lv_i2b (v := ((v >>> (24 &&& 31))).toInt8.toInt32) hx hb dX0_push_18 rfl ?_
    refine S_bast hC hK hP (hD _ _ _) hS (aS6 _ _ _ _ _) (bS6 _ _ _ _ _ _ _) (j := tp) (by decide) (rfl) (by omega) dX0_push_19 (fun H locs hP hS => ?_)
    refine lv_aload_n hx hb dX0_push_20 rfl (lv_at hl 1 rfl) ?_
    refine lv_dup hx hb dX0_push_21 rfl ?_
    refine S_get (v := .int (u.1 8)) hC hK hP (oS_main _ _ _ _ _) clX0 in_X0 8 (by decide) (fD8 _ _ _ _) q305 dX0_push_22 ?_
    refine W_top htp ?_
    refine lv_iconst (v := 1) hx hb dX0_push_25 (by decide) ?_
    refine lv_iadd hx hb dX0_push_26 ?_
    refine W_top (nI_add tp 1) ?_
    refine S_put hC hK hP (hD _ _ _) hS (oS_main _ _ _ _ _) clX0 in_X0 tyX0_ok nmX0 8 (by decide) (pS8 _ _ _ _ _ _) q305 rfl rfl rfl rfl (Nat.le_of_ble_eq_true rfl) dX0_push_27 (fun H locs hP hS => ?_)
    refine lv_iinc (v := 16) (lv' := [(2, .int 16), (0, .ref o), (1, .int v)]) hx hb dX0_push_30 hl (k := 0) rfl (by decide) (by decide) rfl (fun ls hl => ?_)
    refine lv_goto (tgt := 3) hx hb dX0_push_33 (by decide) ?_
    refine lv_iload_n hx hb dX0_push_3 rfl (lv_at hl 0 rfl) ?_
    refine lv_if_lt (tgt := 36) hx hb dX0_push_4 (by decide) (fun c4 => ?_) (fun c4 => ?_)
    · exact absurd c4 (by decide)
    · refine lv_aload_n hx hb dX0_push_7 rfl (lv_at hl 1 rfl) ?_
      refine S_get hC hK hP (oS_main _ _ _ _ _) clX0 in_X0 6 (by decide) (fD6 _ _ _ _) q302 dX0_push_8 ?_
      refine lv_aload_n hx hb dX0_push_11 rfl (lv_at hl 1 rfl) ?_
      refine S_get (v := .int (nI (tp + 1))) hC hK hP (oS_main _ _ _ _ _) clX0 in_X0 8 (by decide) (fD8 _ _ _ _) q305 dX0_push_12 ?_
      refine lv_iload_n hx hb dX0_push_15 rfl (lv_at hl 2 rfl) ?_
      refine lv_iload_n hx hb dX0_push_16 rfl (lv_at hl 0 rfl) ?_
      refine lv_ishr hx hb dX0_push_17 ?_
      refine lv_i2b (v := ((v >>> (16 &&& 31))).toInt8.toInt32) hx hb dX0_push_18 rfl ?_
      refine S_bast hC hK hP (hD _ _ _) hS (aS6 _ _ _ _ _) (bS6 _ _ _ _ _ _ _) (j := (tp + 1)) (by decide) (rfl) (by omega) dX0_push_19 (fun H locs hP hS => ?_)
      refine lv_aload_n hx hb dX0_push_20 rfl (lv_at hl 1 rfl) ?_
      refine lv_dup hx hb dX0_push_21 rfl ?_
      refine S_get (v := .int (nI (tp + 1))) hC hK hP (oS_main _ _ _ _ _) clX0 in_X0 8 (by decide) (fD8 _ _ _ _) q305 dX0_push_22 ?_
      refine lv_iconst (v := 1) hx hb dX0_push_25 (by decide) ?_
      refine lv_iadd hx hb dX0_push_26 ?_
      refine W_top (nI_add (tp + 1) 1) ?_
      refine S_put hC hK hP (hD _ _ _) hS (oS_main _ _ _ _ _) clX0 in_X0 tyX0_ok nmX0 8 (by decide) (pS8 _ _ _ _ _ _) q305 rfl rfl rfl rfl (Nat.le_of_ble_eq_true rfl) dX0_push_27 (fun H locs hP hS => ?_)
      refine lv_iinc (v := 8) (lv' := [(2, .int 8), (0, .ref o), (1, .int v)]) hx hb dX0_push_30 hl (k := 0) rfl (by decide) (by decide) rfl (fun ls hl => ?_)
      refine lv_goto (tgt := 3) hx hb dX0_push_33 (by decide) ?_
      refine lv_iload_n hx hb dX0_push_3 rfl (lv_at hl 0 rfl) ?_
      refine lv_if_lt (tgt := 36) hx hb dX0_push_4 (by decide) (fun c4 => ?_) (fun c4 => ?_)
      · exact absurd c4 (by decide)
      · refine lv_aload_n hx hb dX0_push_7 rfl (lv_at hl 1 rfl) ?_
        refine S_get hC hK hP (oS_main _ _ _ _ _) clX0 in_X0 6 (by decide) (fD6 _ _ _ _) q302 dX0_push_8 ?_
        refine lv_aload_n hx hb dX0_push_11 rfl (lv_at hl 1 rfl) ?_
        refine S_get (v := .int (nI ((tp + 1) + 1))) hC hK hP (oS_main _ _ _ _ _) clX0 in_X0 8 (by decide) (fD8 _ _ _ _) q305 dX0_push_12 ?_
        refine lv_iload_n hx hb dX0_push_15 rfl (lv_at hl 2 rfl) ?_
        refine lv_iload_n hx hb dX0_push_16 rfl (lv_at hl 0 rfl) ?_
        refine lv_ishr hx hb dX0_push_17 ?_
        refine lv_i2b (v := ((v >>> (8 &&& 31))).toInt8.toInt32) hx hb dX0_push_18 rfl ?_
        refine S_bast hC hK hP (hD _ _ _) hS (aS6 _ _ _ _ _) (bS6 _ _ _ _ _ _ _) (j := ((tp + 1) + 1)) (by decide) (rfl) (by omega) dX0_push_19 (fun H locs hP hS => ?_)
        refine lv_aload_n hx hb dX0_push_20 rfl (lv_at hl 1 rfl) ?_
        refine lv_dup hx hb dX0_push_21 rfl ?_
        refine S_get (v := .int (nI ((tp + 1) + 1))) hC hK hP (oS_main _ _ _ _ _) clX0 in_X0 8 (by decide) (fD8 _ _ _ _) q305 dX0_push_22 ?_
        refine lv_iconst (v := 1) hx hb dX0_push_25 (by decide) ?_
        refine lv_iadd hx hb dX0_push_26 ?_
        refine W_top (nI_add ((tp + 1) + 1) 1) ?_
        refine S_put hC hK hP (hD _ _ _) hS (oS_main _ _ _ _ _) clX0 in_X0 tyX0_ok nmX0 8 (by decide) (pS8 _ _ _ _ _ _) q305 rfl rfl rfl rfl (Nat.le_of_ble_eq_true rfl) dX0_push_27 (fun H locs hP hS => ?_)
        refine lv_iinc (v := 0) (lv' := [(2, .int 0), (0, .ref o), (1, .int v)]) hx hb dX0_push_30 hl (k := 0) rfl (by decide) (by decide) rfl (fun ls hl => ?_)
        refine lv_goto (tgt := 3) hx hb dX0_push_33 (by decide) ?_
        refine lv_iload_n hx hb dX0_push_3 rfl (lv_at hl 0 rfl) ?_
        refine lv_if_lt (tgt := 36) hx hb dX0_push_4 (by decide) (fun c4 => ?_) (fun c4 => ?_)
        · exact absurd c4 (by decide)
        · refine lv_aload_n hx hb dX0_push_7 rfl (lv_at hl 1 rfl) ?_
          refine S_get hC hK hP (oS_main _ _ _ _ _) clX0 in_X0 6 (by decide) (fD6 _ _ _ _) q302 dX0_push_8 ?_
          refine lv_aload_n hx hb dX0_push_11 rfl (lv_at hl 1 rfl) ?_
          refine S_get (v := .int (nI (((tp + 1) + 1) + 1))) hC hK hP (oS_main _ _ _ _ _) clX0 in_X0 8 (by decide) (fD8 _ _ _ _) q305 dX0_push_12 ?_
          refine lv_iload_n hx hb dX0_push_15 rfl (lv_at hl 2 rfl) ?_
          refine lv_iload_n hx hb dX0_push_16 rfl (lv_at hl 0 rfl) ?_
          refine lv_ishr hx hb dX0_push_17 ?_
          refine lv_i2b (v := ((v >>> (0 &&& 31))).toInt8.toInt32) hx hb dX0_push_18 rfl ?_
          refine S_bast hC hK hP (hD _ _ _) hS (aS6 _ _ _ _ _) (bS6 _ _ _ _ _ _ _) (j := (((tp + 1) + 1) + 1)) (by decide) (rfl) (by omega) dX0_push_19 (fun H locs hP hS => ?_)
          refine lv_aload_n hx hb dX0_push_20 rfl (lv_at hl 1 rfl) ?_
          refine lv_dup hx hb dX0_push_21 rfl ?_
          refine S_get (v := .int (nI (((tp + 1) + 1) + 1))) hC hK hP (oS_main _ _ _ _ _) clX0 in_X0 8 (by decide) (fD8 _ _ _ _) q305 dX0_push_22 ?_
          refine lv_iconst (v := 1) hx hb dX0_push_25 (by decide) ?_
          refine lv_iadd hx hb dX0_push_26 ?_
          refine W_top (nI_add (((tp + 1) + 1) + 1) 1) ?_
          refine S_put hC hK hP (hD _ _ _) hS (oS_main _ _ _ _ _) clX0 in_X0 tyX0_ok nmX0 8 (by decide) (pS8 _ _ _ _ _ _) q305 rfl rfl rfl rfl (Nat.le_of_ble_eq_true rfl) dX0_push_27 (fun H locs hP hS => ?_)
          refine lv_iinc (v := (-8)) (lv' := [(2, .int (-8)), (0, .ref o), (1, .int v)]) hx hb dX0_push_30 hl (k := 0) rfl (by decide) (by decide) rfl (fun ls hl => ?_)
          refine lv_goto (tgt := 3) hx hb dX0_push_33 (by decide) ?_
          refine lv_iload_n hx hb dX0_push_3 rfl (lv_at hl 0 rfl) ?_
          refine lv_if_lt (tgt := 36) hx hb dX0_push_4 (by decide) (fun c4 => ?_) (fun c4 => ?_)
          · exact hq _ _ _ _ _ _ _ dX0_push_36 hP hS (by exact tyG_eq _ _ _ _ _ _ _ _ _ _ _ _ _ _ _) (by decide) (by decide)
          · exact absurd c4 (by decide)
set_option maxHeartbeats 4000000 in
theorem c_X0_feed (G : GG) (l : Launch) (o : Nat) (R : Nat → Nat) (tx : Nat) (u : MS) (a1 : Int32) (a2 : Int32) (a3 : Int32) (a4 : Int32) (a5 : Int32) (tp : Nat) (htp : (u.1 8) = nI tp) (htp4 : tp ≤ 260) (hD : DwS o R) : CXi G l (PwS G o R tx) (AwS o R) yX0_feed cX0_feed 6 .int 3 46 0 0 [.ref o, .int a1, .int a2, .int a3, .int a4, .int a5] (PwS G o R tx u) (fun r w => r = (if 260 < tp + 20 then -1 else nI (tp + 20)) ∧ w = (if 260 < tp + 20 then u else feedG u 6 8 tp a1 a2 a3 a4 a5)) := by
  refine CXi.mk RX0 pnX0 rfl (Nat.le_of_ble_eq_true rfl) (fun pg en Rm sg mm ar bw mth cd QQ ls hC hRm hK hX hS hl hq => ?_)
  have hx := hC.1; have hb := hC.2.1; have ho := hC.2.2.2.1; have hts := hC.2.2.2.2
  have hP : PwS G o R tx u sg.heap := hX
  have hl : lv_has ls 6 [(0, .ref o), (1, .int a1), (2, .int a2), (3, .int a3), (4, .int a4), (5, .int a5)] := hl
  refine lv_aload_n hx hb dX0_feed_0 rfl (lv_at hl 0 rfl) ?_
  refine S_get (v := .int (u.1 8)) hC hK hP (oS_main _ _ _ _ _) clX0 in_X0 8 (by decide) (fD8 _ _ _ _) q305 dX0_feed_1 ?_
  refine W_top htp ?_
  refine lv_bipush (v := 20) hx hb dX0_feed_4 (by decide) ?_
  refine lv_iadd hx hb dX0_feed_6 ?_
  refine W_top (nI_add tp 20) ?_
  refine lv_sipush (v := 260) hx hb dX0_feed_7 (by decide) ?_
  refine lv_icmp_le (tgt := 15) hx hb dX0_feed_10 (by decide) (fun c10 => ?_) (fun c10 => ?_)
  · have c10 : (tp + 20) ≤ 260 := (nI_leI (a := (tp + 20)) (b := 260) (by omega) (by omega)).mp c10
    refine lv_aload_n hx hb dX0_feed_15 rfl (lv_at hl 0 rfl) ?_
    refine lv_iload_n hx hb dX0_feed_16 rfl (lv_at hl 1 rfl) ?_
    refine CXv.go (rcV hC hl (c_X0_push G l o R tx u a1 tp (by first | assumption | omega | rfl | (simp_all; done)) (by first | assumption | omega | rfl | (simp_all; done)) hD) hK hP (va_recv hK.1 hP clX0 (oS_main _ _ _ _ _)) q377 q379 qs0 q110 q380 mdX0_push (room_s hRm rfl) rfl rfl dX0_feed_17) hS (fun q h => h) (fun w17 H locs hpo hP _ _ hS => ?_)
    have ew17 := hpo
    rw [ew17] at hP
    refine lv_aload_n hx hb dX0_feed_20 rfl (lv_at hl 0 rfl) ?_
    refine lv_iload_n hx hb dX0_feed_21 rfl (lv_at hl 2 rfl) ?_
    refine CXv.go (rcV hC hl (c_X0_push G l o R tx (tyG u 6 8 tp a1) a2 (tp + 4) (by first | assumption | omega | rfl | (simp_all; done)) (by first | assumption | omega | rfl | (simp_all; done)) hD) hK hP (va_recv hK.1 hP clX0 (oS_main _ _ _ _ _)) q377 q379 qs0 q110 q380 mdX0_push (room_s hRm rfl) rfl rfl dX0_feed_22) hS (fun q h => h) (fun w22 H locs hpo hP _ _ hS => ?_)
    have ew22 := hpo
    rw [ew22] at hP
    refine lv_aload_n hx hb dX0_feed_25 rfl (lv_at hl 0 rfl) ?_
    refine lv_iload_n hx hb dX0_feed_26 rfl (lv_at hl 3 rfl) ?_
    refine CXv.go (rcV hC hl (c_X0_push G l o R tx (tyG (tyG u 6 8 tp a1) 6 8 (tp + 4) a2) a3 (tp + 4 + 4) (by first | assumption | omega | rfl | (simp_all; done)) (by first | assumption | omega | rfl | (simp_all; done)) hD) hK hP (va_recv hK.1 hP clX0 (oS_main _ _ _ _ _)) q377 q379 qs0 q110 q380 mdX0_push (room_s hRm rfl) rfl rfl dX0_feed_27) hS (fun q h => h) (fun w27 H locs hpo hP _ _ hS => ?_)
    have ew27 := hpo
    rw [ew27] at hP
    refine lv_aload_n hx hb dX0_feed_30 rfl (lv_at hl 0 rfl) ?_
    refine lv_iload hx hb dX0_feed_31 (lv_at hl 4 rfl) ?_
    refine CXv.go (rcV hC hl (c_X0_push G l o R tx (tyG (tyG (tyG u 6 8 tp a1) 6 8 (tp + 4) a2) 6 8 (tp + 4 + 4) a3) a4 (tp + 4 + 4 + 4) (by first | assumption | omega | rfl | (simp_all; done)) (by first | assumption | omega | rfl | (simp_all; done)) hD) hK hP (va_recv hK.1 hP clX0 (oS_main _ _ _ _ _)) q377 q379 qs0 q110 q380 mdX0_push (room_s hRm rfl) rfl rfl dX0_feed_33) hS (fun q h => h) (fun w33 H locs hpo hP _ _ hS => ?_)
    have ew33 := hpo
    rw [ew33] at hP
    refine lv_aload_n hx hb dX0_feed_36 rfl (lv_at hl 0 rfl) ?_
    refine lv_iload hx hb dX0_feed_37 (lv_at hl 5 rfl) ?_
    refine CXv.go (rcV hC hl (c_X0_push G l o R tx (tyG (tyG (tyG (tyG u 6 8 tp a1) 6 8 (tp + 4) a2) 6 8 (tp + 4 + 4) a3) 6 8 (tp + 4 + 4 + 4) a4) a5 (tp + 4 + 4 + 4 + 4) (by first | assumption | omega | rfl | (simp_all; done)) (by first | assumption | omega | rfl | (simp_all; done)) hD) hK hP (va_recv hK.1 hP clX0 (oS_main _ _ _ _ _)) q377 q379 qs0 q110 q380 mdX0_push (room_s hRm rfl) rfl rfl dX0_feed_39) hS (fun q h => h) (fun w39 H locs hpo hP _ _ hS => ?_)
    have ew39 := hpo
    rw [ew39] at hP
    refine lv_aload_n hx hb dX0_feed_42 rfl (lv_at hl 0 rfl) ?_
    refine S_get (v := .int ((tyG (tyG (tyG (tyG (tyG u 6 8 tp a1) 6 8 (tp + 4) a2) 6 8 (tp + 4 + 4) a3) 6 8 (tp + 4 + 4 + 4) a4) 6 8 (tp + 4 + 4 + 4 + 4) a5).1 8)) hC hK hP (oS_main _ _ _ _ _) clX0 in_X0 8 (by decide) (fD8 _ _ _ _) q305 dX0_feed_43 ?_
    refine W_top (y := (nI (tp + 20))) (rfl) ?_
    exact hq _ _ _ _ _ _ _ _ dX0_feed_46 hP hS (rfl) (by exact ⟨by rw [if_neg (by omega)], by rw [if_neg (by omega), ← feedG_eq]⟩) (by decide) (by decide)
  · have c10 : ¬ ((tp + 20) ≤ 260) := mt (nI_leI (a := (tp + 20)) (b := 260) (by omega) (by omega)).mpr c10
    refine lv_iconst (v := (-1)) hx hb dX0_feed_13 (by decide) ?_
    exact hq _ _ _ _ _ _ _ _ dX0_feed_14 hP hS (rfl) (by exact ⟨by rw [if_pos (by omega)], by rw [if_pos (by omega)]⟩) (by decide) (by decide)
set_option maxHeartbeats 4000000 in
theorem c_X4_takes_kept_street (G : GG) (l : Launch) (o : Nat) (R : Nat → Nat) (tx : Nat) (u : MS) (hD : DwS o R) : CXq G l (PwS G o R tx) (AwS o R) yX4_takes cX4_takes 3 (.object "SharedWindow$Street") 2 24 0 0 [.ref (R 5), .ref (R 3)] (PwS G o R tx u) (fun r w => r = some (R 5) ∧ w = (tkS u 60 40)) := by
  refine CXq.mk RX4 (Or.inl ⟨_, rfl⟩) pnX4 rfl (Nat.le_of_ble_eq_true rfl) (fun pg en Rm sg mm ar bw mth cd QQ ls hC hRm hK hX hS hl hq => ?_)
  have hx := hC.1; have hb := hC.2.1; have ho := hC.2.2.2.1; have hts := hC.2.2.2.2
  have hP : PwS G o R tx u sg.heap := hX
  have hl : lv_has ls 3 [(0, .ref (R 5)), (1, .ref (R 3))] := hl
  refine lv_iconst (v := 0) hx hb dX4_takes_0 (by decide) ?_
  refine lv_istore_n (lv' := [(2, .int 0), (0, .ref (R 5)), (1, .ref (R 3))]) hx hb dX4_takes_1 rfl hl (by decide) rfl (fun ls hl => ?_)
  have LP2 : ∀ (fu2 : Nat) (k : Nat) (w : MS) (H : Heap) (locs : List Loc) (ls : Array Slot), 16 - k < fu2 → k ≤ 16 → w = mC u 40 60 k → PwS G o R tx w H → va_S (AwS o R) sg.heap H locs → lv_has ls 3 [(0, .ref (R 5)), (1, .ref (R 3)), (2, .int (nI k))] → W pg l en Rm sg mm ar bw mth cd H locs 0 0 QQ (F0 mm 2 ls []) := by
    intro fu2
    induction fu2 with
    | zero => intro k w H locs ls hm2 hk hw hP hS hl; exact absurd hm2 (Nat.not_lt_zero _)
    | succ fu2 ih2 =>
      intro k w H locs ls hm2 hk hw hP hS hl
      refine lv_iload_n hx hb dX4_takes_2 rfl (lv_at hl 2 rfl) ?_
      refine lv_bipush (v := 16) hx hb dX4_takes_3 (by decide) ?_
      refine lv_icmp_ge (tgt := 26) hx hb dX4_takes_5 (by decide) (fun c5 => ?_) (fun c5 => ?_)
      · have c5 : 16 ≤ k := (nI_leI (a := 16) (b := k) (by omega) (by omega)).mp c5
        refine lv_aload_n hx hb dX4_takes_26 rfl (lv_at hl 0 rfl) ?_
        refine lv_aload_n hx hb dX4_takes_27 rfl (lv_at hl 1 rfl) ?_
        refine S_get (v := .int (w.1 41)) hC hK hP (oS_street _ _ _ _ _) clX4 in_X4 1 (by decide) (fD41 _ _ _ _) q229 dX4_takes_28 ?_
        refine S_put hC hK hP (hD _ _ _) hS (oS_kept _ _ _ _ _) clX4 in_X4 tyX4_ok nmX4 1 (by decide) (pS61 _ _ _ _ _ _) q229 rfl rfl rfl rfl (Nat.le_of_ble_eq_true rfl) dX4_takes_31 (fun H locs hP hS => ?_)
        refine lv_aload_n hx hb dX4_takes_34 rfl (lv_at hl 0 rfl) ?_
        refine lv_aload_n hx hb dX4_takes_35 rfl (lv_at hl 1 rfl) ?_
        refine S_get (v := .int (w.1 42)) hC hK hP (oS_street _ _ _ _ _) clX4 in_X4 2 (by decide) (fD42 _ _ _ _) q231 dX4_takes_36 ?_
        refine S_put hC hK hP (hD _ _ _) hS (oS_kept _ _ _ _ _) clX4 in_X4 tyX4_ok nmX4 2 (by decide) (pS62 _ _ _ _ _ _) q231 rfl rfl rfl rfl (Nat.le_of_ble_eq_true rfl) dX4_takes_39 (fun H locs hP hS => ?_)
        refine lv_aload_n hx hb dX4_takes_42 rfl (lv_at hl 0 rfl) ?_
        refine lv_aload_n hx hb dX4_takes_43 rfl (lv_at hl 1 rfl) ?_
        refine S_get (v := .int (w.1 43)) hC hK hP (oS_street _ _ _ _ _) clX4 in_X4 3 (by decide) (fD43 _ _ _ _) q233 dX4_takes_44 ?_
        refine S_put hC hK hP (hD _ _ _) hS (oS_kept _ _ _ _ _) clX4 in_X4 tyX4_ok nmX4 3 (by decide) (pS63 _ _ _ _ _ _) q233 rfl rfl rfl rfl (Nat.le_of_ble_eq_true rfl) dX4_takes_47 (fun H locs hP hS => ?_)
        refine lv_aload_n hx hb dX4_takes_50 rfl (lv_at hl 0 rfl) ?_
        refine lv_aload_n hx hb dX4_takes_51 rfl (lv_at hl 1 rfl) ?_
        refine S_get (v := .int (w.1 44)) hC hK hP (oS_street _ _ _ _ _) clX4 in_X4 4 (by decide) (fD44 _ _ _ _) q235 dX4_takes_52 ?_
        refine S_put hC hK hP (hD _ _ _) hS (oS_kept _ _ _ _ _) clX4 in_X4 tyX4_ok nmX4 4 (by decide) (pS64 _ _ _ _ _ _) q235 rfl rfl rfl rfl (Nat.le_of_ble_eq_true rfl) dX4_takes_55 (fun H locs hP hS => ?_)
        refine lv_aload_n hx hb dX4_takes_58 rfl (lv_at hl 0 rfl) ?_
        refine lv_aload_n hx hb dX4_takes_59 rfl (lv_at hl 1 rfl) ?_
        refine S_get (v := .int (w.1 45)) hC hK hP (oS_street _ _ _ _ _) clX4 in_X4 5 (by decide) (fD45 _ _ _ _) q237 dX4_takes_60 ?_
        refine S_put hC hK hP (hD _ _ _) hS (oS_kept _ _ _ _ _) clX4 in_X4 tyX4_ok nmX4 5 (by decide) (pS65 _ _ _ _ _ _) q237 rfl rfl rfl rfl (Nat.le_of_ble_eq_true rfl) dX4_takes_63 (fun H locs hP hS => ?_)
        refine lv_aload_n hx hb dX4_takes_66 rfl (lv_at hl 0 rfl) ?_
        exact hq _ _ (some (R 5)) _ _ _ _ _ dX4_takes_67 hP hS (by have hfin : k = 16 := (by omega); subst hfin; subst hw; exact ⟨rfl, rfl⟩) (by decide) (by decide)
      · have c5 : ¬ (16 ≤ k) := mt (nI_leI (a := 16) (b := k) (by omega) (by omega)).mpr c5
        refine lv_aload_n hx hb dX4_takes_8 rfl (lv_at hl 0 rfl) ?_
        refine S_get hC hK hP (oS_kept _ _ _ _ _) clX4 in_X4 0 (by decide) (fD60 _ _ _ _) q227 dX4_takes_9 ?_
        refine lv_iload_n hx hb dX4_takes_12 rfl (lv_at hl 2 rfl) ?_
        refine lv_aload_n hx hb dX4_takes_13 rfl (lv_at hl 1 rfl) ?_
        refine S_get hC hK hP (oS_street _ _ _ _ _) clX4 in_X4 0 (by decide) (fD40 _ _ _ _) q227 dX4_takes_14 ?_
        refine lv_iload_n hx hb dX4_takes_17 rfl (lv_at hl 2 rfl) ?_
        refine S_ald hC hK hP (aS40 _ _ _ _ _) (j := k) (by decide) (rfl) (by omega) dX4_takes_18 ?_
        refine S_ast hC hK hP (hD _ _ _) hS (aS60 _ _ _ _ _) (bS60 _ _ _ _ _ _ _) (j := k) (by decide) (rfl) (by omega) dX4_takes_19 (fun H locs hP hS => ?_)
        refine lv_iinc (v := (nI (k + 1))) (lv' := [(2, .int (nI (k + 1))), (0, .ref (R 5)), (1, .ref (R 3))]) hx hb dX4_takes_20 hl (k := 2) rfl (nI_inc k) (by decide) rfl (fun ls hl => ?_)
        refine lv_goto (tgt := 2) hx hb dX4_takes_23 (by decide) ?_
        exact ih2 (k + 1) (mA w 60 k (w.2.1 40 k)) _ _ ls (by omega) (by first | omega | assumption | rfl | (simp_all; done) | grind) (by subst hw; exact mC_s u (by decide) k) hP hS (lv_sub hl [1, 2, 0] rfl)
  exact LP2 _ 0 u _ _ ls (Nat.lt_succ_self _) (by first | omega | assumption | rfl | (simp_all; done) | grind) ((mC_0 _ _ _).symm) hP hS (lv_sub hl [1, 2, 0] rfl)
set_option maxHeartbeats 4000000 in
theorem c_X4_takes_then_street (G : GG) (l : Launch) (o : Nat) (R : Nat → Nat) (tx : Nat) (u : MS) (hD : DwS o R) : CXq G l (PwS G o R tx) (AwS o R) yX4_takes cX4_takes 3 (.object "SharedWindow$Street") 2 24 0 0 [.ref (R 4), .ref (R 3)] (PwS G o R tx u) (fun r w => r = some (R 4) ∧ w = (tkS u 50 40)) := by
  refine CXq.mk RX4 (Or.inl ⟨_, rfl⟩) pnX4 rfl (Nat.le_of_ble_eq_true rfl) (fun pg en Rm sg mm ar bw mth cd QQ ls hC hRm hK hX hS hl hq => ?_)
  have hx := hC.1; have hb := hC.2.1; have ho := hC.2.2.2.1; have hts := hC.2.2.2.2
  have hP : PwS G o R tx u sg.heap := hX
  have hl : lv_has ls 3 [(0, .ref (R 4)), (1, .ref (R 3))] := hl
  refine lv_iconst (v := 0) hx hb dX4_takes_0 (by decide) ?_
  refine lv_istore_n (lv' := [(2, .int 0), (0, .ref (R 4)), (1, .ref (R 3))]) hx hb dX4_takes_1 rfl hl (by decide) rfl (fun ls hl => ?_)
  have LP2 : ∀ (fu2 : Nat) (k : Nat) (w : MS) (H : Heap) (locs : List Loc) (ls : Array Slot), 16 - k < fu2 → k ≤ 16 → w = mC u 40 50 k → PwS G o R tx w H → va_S (AwS o R) sg.heap H locs → lv_has ls 3 [(0, .ref (R 4)), (1, .ref (R 3)), (2, .int (nI k))] → W pg l en Rm sg mm ar bw mth cd H locs 0 0 QQ (F0 mm 2 ls []) := by
    intro fu2
    induction fu2 with
    | zero => intro k w H locs ls hm2 hk hw hP hS hl; exact absurd hm2 (Nat.not_lt_zero _)
    | succ fu2 ih2 =>
      intro k w H locs ls hm2 hk hw hP hS hl
      refine lv_iload_n hx hb dX4_takes_2 rfl (lv_at hl 2 rfl) ?_
      refine lv_bipush (v := 16) hx hb dX4_takes_3 (by decide) ?_
      refine lv_icmp_ge (tgt := 26) hx hb dX4_takes_5 (by decide) (fun c5 => ?_) (fun c5 => ?_)
      · have c5 : 16 ≤ k := (nI_leI (a := 16) (b := k) (by omega) (by omega)).mp c5
        refine lv_aload_n hx hb dX4_takes_26 rfl (lv_at hl 0 rfl) ?_
        refine lv_aload_n hx hb dX4_takes_27 rfl (lv_at hl 1 rfl) ?_
        refine S_get (v := .int (w.1 41)) hC hK hP (oS_street _ _ _ _ _) clX4 in_X4 1 (by decide) (fD41 _ _ _ _) q229 dX4_takes_28 ?_
        refine S_put hC hK hP (hD _ _ _) hS (oS_then _ _ _ _ _) clX4 in_X4 tyX4_ok nmX4 1 (by decide) (pS51 _ _ _ _ _ _) q229 rfl rfl rfl rfl (Nat.le_of_ble_eq_true rfl) dX4_takes_31 (fun H locs hP hS => ?_)
        refine lv_aload_n hx hb dX4_takes_34 rfl (lv_at hl 0 rfl) ?_
        refine lv_aload_n hx hb dX4_takes_35 rfl (lv_at hl 1 rfl) ?_
        refine S_get (v := .int (w.1 42)) hC hK hP (oS_street _ _ _ _ _) clX4 in_X4 2 (by decide) (fD42 _ _ _ _) q231 dX4_takes_36 ?_
        refine S_put hC hK hP (hD _ _ _) hS (oS_then _ _ _ _ _) clX4 in_X4 tyX4_ok nmX4 2 (by decide) (pS52 _ _ _ _ _ _) q231 rfl rfl rfl rfl (Nat.le_of_ble_eq_true rfl) dX4_takes_39 (fun H locs hP hS => ?_)
        refine lv_aload_n hx hb dX4_takes_42 rfl (lv_at hl 0 rfl) ?_
        refine lv_aload_n hx hb dX4_takes_43 rfl (lv_at hl 1 rfl) ?_
        refine S_get (v := .int (w.1 43)) hC hK hP (oS_street _ _ _ _ _) clX4 in_X4 3 (by decide) (fD43 _ _ _ _) q233 dX4_takes_44 ?_
        refine S_put hC hK hP (hD _ _ _) hS (oS_then _ _ _ _ _) clX4 in_X4 tyX4_ok nmX4 3 (by decide) (pS53 _ _ _ _ _ _) q233 rfl rfl rfl rfl (Nat.le_of_ble_eq_true rfl) dX4_takes_47 (fun H locs hP hS => ?_)
        refine lv_aload_n hx hb dX4_takes_50 rfl (lv_at hl 0 rfl) ?_
        refine lv_aload_n hx hb dX4_takes_51 rfl (lv_at hl 1 rfl) ?_
        refine S_get (v := .int (w.1 44)) hC hK hP (oS_street _ _ _ _ _) clX4 in_X4 4 (by decide) (fD44 _ _ _ _) q235 dX4_takes_52 ?_
        refine S_put hC hK hP (hD _ _ _) hS (oS_then _ _ _ _ _) clX4 in_X4 tyX4_ok nmX4 4 (by decide) (pS54 _ _ _ _ _ _) q235 rfl rfl rfl rfl (Nat.le_of_ble_eq_true rfl) dX4_takes_55 (fun H locs hP hS => ?_)
        refine lv_aload_n hx hb dX4_takes_58 rfl (lv_at hl 0 rfl) ?_
        refine lv_aload_n hx hb dX4_takes_59 rfl (lv_at hl 1 rfl) ?_
        refine S_get (v := .int (w.1 45)) hC hK hP (oS_street _ _ _ _ _) clX4 in_X4 5 (by decide) (fD45 _ _ _ _) q237 dX4_takes_60 ?_
        refine S_put hC hK hP (hD _ _ _) hS (oS_then _ _ _ _ _) clX4 in_X4 tyX4_ok nmX4 5 (by decide) (pS55 _ _ _ _ _ _) q237 rfl rfl rfl rfl (Nat.le_of_ble_eq_true rfl) dX4_takes_63 (fun H locs hP hS => ?_)
        refine lv_aload_n hx hb dX4_takes_66 rfl (lv_at hl 0 rfl) ?_
        exact hq _ _ (some (R 4)) _ _ _ _ _ dX4_takes_67 hP hS (by have hfin : k = 16 := (by omega); subst hfin; subst hw; exact ⟨rfl, rfl⟩) (by decide) (by decide)
      · have c5 : ¬ (16 ≤ k) := mt (nI_leI (a := 16) (b := k) (by omega) (by omega)).mpr c5
        refine lv_aload_n hx hb dX4_takes_8 rfl (lv_at hl 0 rfl) ?_
        refine S_get hC hK hP (oS_then _ _ _ _ _) clX4 in_X4 0 (by decide) (fD50 _ _ _ _) q227 dX4_takes_9 ?_
        refine lv_iload_n hx hb dX4_takes_12 rfl (lv_at hl 2 rfl) ?_
        refine lv_aload_n hx hb dX4_takes_13 rfl (lv_at hl 1 rfl) ?_
        refine S_get hC hK hP (oS_street _ _ _ _ _) clX4 in_X4 0 (by decide) (fD40 _ _ _ _) q227 dX4_takes_14 ?_
        refine lv_iload_n hx hb dX4_takes_17 rfl (lv_at hl 2 rfl) ?_
        refine S_ald hC hK hP (aS40 _ _ _ _ _) (j := k) (by decide) (rfl) (by omega) dX4_takes_18 ?_
        refine S_ast hC hK hP (hD _ _ _) hS (aS50 _ _ _ _ _) (bS50 _ _ _ _ _ _ _) (j := k) (by decide) (rfl) (by omega) dX4_takes_19 (fun H locs hP hS => ?_)
        refine lv_iinc (v := (nI (k + 1))) (lv' := [(2, .int (nI (k + 1))), (0, .ref (R 4)), (1, .ref (R 3))]) hx hb dX4_takes_20 hl (k := 2) rfl (nI_inc k) (by decide) rfl (fun ls hl => ?_)
        refine lv_goto (tgt := 2) hx hb dX4_takes_23 (by decide) ?_
        exact ih2 (k + 1) (mA w 50 k (w.2.1 40 k)) _ _ ls (by omega) (by first | omega | assumption | rfl | (simp_all; done) | grind) (by subst hw; exact mC_s u (by decide) k) hP hS (lv_sub hl [1, 2, 0] rfl)
  exact LP2 _ 0 u _ _ ls (Nat.lt_succ_self _) (by first | omega | assumption | rfl | (simp_all; done) | grind) ((mC_0 _ _ _).symm) hP hS (lv_sub hl [1, 2, 0] rfl)
set_option maxHeartbeats 4000000 in
theorem c_X4_takes_street_kept (G : GG) (l : Launch) (o : Nat) (R : Nat → Nat) (tx : Nat) (u : MS) (hD : DwS o R) : CXq G l (PwS G o R tx) (AwS o R) yX4_takes cX4_takes 3 (.object "SharedWindow$Street") 2 24 0 0 [.ref (R 3), .ref (R 5)] (PwS G o R tx u) (fun r w => r = some (R 3) ∧ w = (tkS u 40 60)) := by
  refine CXq.mk RX4 (Or.inl ⟨_, rfl⟩) pnX4 rfl (Nat.le_of_ble_eq_true rfl) (fun pg en Rm sg mm ar bw mth cd QQ ls hC hRm hK hX hS hl hq => ?_)
  have hx := hC.1; have hb := hC.2.1; have ho := hC.2.2.2.1; have hts := hC.2.2.2.2
  have hP : PwS G o R tx u sg.heap := hX
  have hl : lv_has ls 3 [(0, .ref (R 3)), (1, .ref (R 5))] := hl
  refine lv_iconst (v := 0) hx hb dX4_takes_0 (by decide) ?_
  refine lv_istore_n (lv' := [(2, .int 0), (0, .ref (R 3)), (1, .ref (R 5))]) hx hb dX4_takes_1 rfl hl (by decide) rfl (fun ls hl => ?_)
  have LP2 : ∀ (fu2 : Nat) (k : Nat) (w : MS) (H : Heap) (locs : List Loc) (ls : Array Slot), 16 - k < fu2 → k ≤ 16 → w = mC u 60 40 k → PwS G o R tx w H → va_S (AwS o R) sg.heap H locs → lv_has ls 3 [(0, .ref (R 3)), (1, .ref (R 5)), (2, .int (nI k))] → W pg l en Rm sg mm ar bw mth cd H locs 0 0 QQ (F0 mm 2 ls []) := by
    intro fu2
    induction fu2 with
    | zero => intro k w H locs ls hm2 hk hw hP hS hl; exact absurd hm2 (Nat.not_lt_zero _)
    | succ fu2 ih2 =>
      intro k w H locs ls hm2 hk hw hP hS hl
      refine lv_iload_n hx hb dX4_takes_2 rfl (lv_at hl 2 rfl) ?_
      refine lv_bipush (v := 16) hx hb dX4_takes_3 (by decide) ?_
      refine lv_icmp_ge (tgt := 26) hx hb dX4_takes_5 (by decide) (fun c5 => ?_) (fun c5 => ?_)
      · have c5 : 16 ≤ k := (nI_leI (a := 16) (b := k) (by omega) (by omega)).mp c5
        refine lv_aload_n hx hb dX4_takes_26 rfl (lv_at hl 0 rfl) ?_
        refine lv_aload_n hx hb dX4_takes_27 rfl (lv_at hl 1 rfl) ?_
        refine S_get (v := .int (w.1 61)) hC hK hP (oS_kept _ _ _ _ _) clX4 in_X4 1 (by decide) (fD61 _ _ _ _) q229 dX4_takes_28 ?_
        refine S_put hC hK hP (hD _ _ _) hS (oS_street _ _ _ _ _) clX4 in_X4 tyX4_ok nmX4 1 (by decide) (pS41 _ _ _ _ _ _) q229 rfl rfl rfl rfl (Nat.le_of_ble_eq_true rfl) dX4_takes_31 (fun H locs hP hS => ?_)
        refine lv_aload_n hx hb dX4_takes_34 rfl (lv_at hl 0 rfl) ?_
        refine lv_aload_n hx hb dX4_takes_35 rfl (lv_at hl 1 rfl) ?_
        refine S_get (v := .int (w.1 62)) hC hK hP (oS_kept _ _ _ _ _) clX4 in_X4 2 (by decide) (fD62 _ _ _ _) q231 dX4_takes_36 ?_
        refine S_put hC hK hP (hD _ _ _) hS (oS_street _ _ _ _ _) clX4 in_X4 tyX4_ok nmX4 2 (by decide) (pS42 _ _ _ _ _ _) q231 rfl rfl rfl rfl (Nat.le_of_ble_eq_true rfl) dX4_takes_39 (fun H locs hP hS => ?_)
        refine lv_aload_n hx hb dX4_takes_42 rfl (lv_at hl 0 rfl) ?_
        refine lv_aload_n hx hb dX4_takes_43 rfl (lv_at hl 1 rfl) ?_
        refine S_get (v := .int (w.1 63)) hC hK hP (oS_kept _ _ _ _ _) clX4 in_X4 3 (by decide) (fD63 _ _ _ _) q233 dX4_takes_44 ?_
        refine S_put hC hK hP (hD _ _ _) hS (oS_street _ _ _ _ _) clX4 in_X4 tyX4_ok nmX4 3 (by decide) (pS43 _ _ _ _ _ _) q233 rfl rfl rfl rfl (Nat.le_of_ble_eq_true rfl) dX4_takes_47 (fun H locs hP hS => ?_)
        refine lv_aload_n hx hb dX4_takes_50 rfl (lv_at hl 0 rfl) ?_
        refine lv_aload_n hx hb dX4_takes_51 rfl (lv_at hl 1 rfl) ?_
        refine S_get (v := .int (w.1 64)) hC hK hP (oS_kept _ _ _ _ _) clX4 in_X4 4 (by decide) (fD64 _ _ _ _) q235 dX4_takes_52 ?_
        refine S_put hC hK hP (hD _ _ _) hS (oS_street _ _ _ _ _) clX4 in_X4 tyX4_ok nmX4 4 (by decide) (pS44 _ _ _ _ _ _) q235 rfl rfl rfl rfl (Nat.le_of_ble_eq_true rfl) dX4_takes_55 (fun H locs hP hS => ?_)
        refine lv_aload_n hx hb dX4_takes_58 rfl (lv_at hl 0 rfl) ?_
        refine lv_aload_n hx hb dX4_takes_59 rfl (lv_at hl 1 rfl) ?_
        refine S_get (v := .int (w.1 65)) hC hK hP (oS_kept _ _ _ _ _) clX4 in_X4 5 (by decide) (fD65 _ _ _ _) q237 dX4_takes_60 ?_
        refine S_put hC hK hP (hD _ _ _) hS (oS_street _ _ _ _ _) clX4 in_X4 tyX4_ok nmX4 5 (by decide) (pS45 _ _ _ _ _ _) q237 rfl rfl rfl rfl (Nat.le_of_ble_eq_true rfl) dX4_takes_63 (fun H locs hP hS => ?_)
        refine lv_aload_n hx hb dX4_takes_66 rfl (lv_at hl 0 rfl) ?_
        exact hq _ _ (some (R 3)) _ _ _ _ _ dX4_takes_67 hP hS (by have hfin : k = 16 := (by omega); subst hfin; subst hw; exact ⟨rfl, rfl⟩) (by decide) (by decide)
      · have c5 : ¬ (16 ≤ k) := mt (nI_leI (a := 16) (b := k) (by omega) (by omega)).mpr c5
        refine lv_aload_n hx hb dX4_takes_8 rfl (lv_at hl 0 rfl) ?_
        refine S_get hC hK hP (oS_street _ _ _ _ _) clX4 in_X4 0 (by decide) (fD40 _ _ _ _) q227 dX4_takes_9 ?_
        refine lv_iload_n hx hb dX4_takes_12 rfl (lv_at hl 2 rfl) ?_
        refine lv_aload_n hx hb dX4_takes_13 rfl (lv_at hl 1 rfl) ?_
        refine S_get hC hK hP (oS_kept _ _ _ _ _) clX4 in_X4 0 (by decide) (fD60 _ _ _ _) q227 dX4_takes_14 ?_
        refine lv_iload_n hx hb dX4_takes_17 rfl (lv_at hl 2 rfl) ?_
        refine S_ald hC hK hP (aS60 _ _ _ _ _) (j := k) (by decide) (rfl) (by omega) dX4_takes_18 ?_
        refine S_ast hC hK hP (hD _ _ _) hS (aS40 _ _ _ _ _) (bS40 _ _ _ _ _ _ _) (j := k) (by decide) (rfl) (by omega) dX4_takes_19 (fun H locs hP hS => ?_)
        refine lv_iinc (v := (nI (k + 1))) (lv' := [(2, .int (nI (k + 1))), (0, .ref (R 3)), (1, .ref (R 5))]) hx hb dX4_takes_20 hl (k := 2) rfl (nI_inc k) (by decide) rfl (fun ls hl => ?_)
        refine lv_goto (tgt := 2) hx hb dX4_takes_23 (by decide) ?_
        exact ih2 (k + 1) (mA w 40 k (w.2.1 60 k)) _ _ ls (by omega) (by first | omega | assumption | rfl | (simp_all; done) | grind) (by subst hw; exact mC_s u (by decide) k) hP hS (lv_sub hl [1, 2, 0] rfl)
  exact LP2 _ 0 u _ _ ls (Nat.lt_succ_self _) (by first | omega | assumption | rfl | (simp_all; done) | grind) ((mC_0 _ _ _).symm) hP hS (lv_sub hl [1, 2, 0] rfl)
set_option maxHeartbeats 4000000 in
theorem c_X4_begins_street (G : GG) (l : Launch) (o : Nat) (R : Nat → Nat) (tx : Nat) (u : MS) (hD : DwS o R) : CXv G l (PwS G o R tx) (AwS o R) yX4_begins cX4_begins 2 2 24 0 0 [.ref (R 3)] (PwS G o R tx u) (fun w => w = (mV (mV (mV (mF u 40 16 (fun _ => 0)) 41 (-1)) 42 0) 43 0)) := by
  refine CXv.mk RX4 pnX4 rfl (Nat.le_of_ble_eq_true rfl) (fun pg en Rm sg mm ar bw mth cd QQ ls hC hRm hK hX hS hl hq => ?_)
  have hx := hC.1; have hb := hC.2.1; have ho := hC.2.2.2.1; have hts := hC.2.2.2.2
  have hP : PwS G o R tx u sg.heap := hX
  have hl : lv_has ls 2 [(0, .ref (R 3))] := hl
  refine lv_iconst (v := 0) hx hb dX4_begins_0 (by decide) ?_
  refine lv_istore_n (lv' := [(1, .int 0), (0, .ref (R 3))]) hx hb dX4_begins_1 rfl hl (by decide) rfl (fun ls hl => ?_)
  have LP2 : ∀ (fu2 : Nat) (k : Nat) (w : MS) (H : Heap) (locs : List Loc) (ls : Array Slot), 16 - k < fu2 → k ≤ 16 → w = mF u 40 k (fun _ => 0) → PwS G o R tx w H → va_S (AwS o R) sg.heap H locs → lv_has ls 2 [(0, .ref (R 3)), (1, .int (nI k))] → W pg l en Rm sg mm ar bw mth cd H locs 0 0 QQ (F0 mm 2 ls []) := by
    intro fu2
    induction fu2 with
    | zero => intro k w H locs ls hm2 hk hw hP hS hl; exact absurd hm2 (Nat.not_lt_zero _)
    | succ fu2 ih2 =>
      intro k w H locs ls hm2 hk hw hP hS hl
      refine lv_iload_n hx hb dX4_begins_2 rfl (lv_at hl 1 rfl) ?_
      refine lv_bipush (v := 16) hx hb dX4_begins_3 (by decide) ?_
      refine lv_icmp_ge (tgt := 21) hx hb dX4_begins_5 (by decide) (fun c5 => ?_) (fun c5 => ?_)
      · have c5 : 16 ≤ k := (nI_leI (a := 16) (b := k) (by omega) (by omega)).mp c5
        refine lv_aload_n hx hb dX4_begins_21 rfl (lv_at hl 0 rfl) ?_
        refine lv_iconst (v := (-1)) hx hb dX4_begins_22 (by decide) ?_
        refine S_put hC hK hP (hD _ _ _) hS (oS_street _ _ _ _ _) clX4 in_X4 tyX4_ok nmX4 1 (by decide) (pS41 _ _ _ _ _ _) q229 rfl rfl rfl rfl (Nat.le_of_ble_eq_true rfl) dX4_begins_23 (fun H locs hP hS => ?_)
        refine lv_aload_n hx hb dX4_begins_26 rfl (lv_at hl 0 rfl) ?_
        refine lv_iconst (v := 0) hx hb dX4_begins_27 (by decide) ?_
        refine S_put hC hK hP (hD _ _ _) hS (oS_street _ _ _ _ _) clX4 in_X4 tyX4_ok nmX4 2 (by decide) (pS42 _ _ _ _ _ _) q231 rfl rfl rfl rfl (Nat.le_of_ble_eq_true rfl) dX4_begins_28 (fun H locs hP hS => ?_)
        refine lv_aload_n hx hb dX4_begins_31 rfl (lv_at hl 0 rfl) ?_
        refine lv_iconst (v := 0) hx hb dX4_begins_32 (by decide) ?_
        refine S_put hC hK hP (hD _ _ _) hS (oS_street _ _ _ _ _) clX4 in_X4 tyX4_ok nmX4 3 (by decide) (pS43 _ _ _ _ _ _) q233 rfl rfl rfl rfl (Nat.le_of_ble_eq_true rfl) dX4_begins_33 (fun H locs hP hS => ?_)
        exact hq _ _ _ _ _ _ _ dX4_begins_36 hP hS (by have hfin : k = 16 := (by omega); subst hfin; subst hw; exact rfl) (by decide) (by decide)
      · have c5 : ¬ (16 ≤ k) := mt (nI_leI (a := 16) (b := k) (by omega) (by omega)).mpr c5
        refine lv_aload_n hx hb dX4_begins_8 rfl (lv_at hl 0 rfl) ?_
        refine S_get hC hK hP (oS_street _ _ _ _ _) clX4 in_X4 0 (by decide) (fD40 _ _ _ _) q227 dX4_begins_9 ?_
        refine lv_iload_n hx hb dX4_begins_12 rfl (lv_at hl 1 rfl) ?_
        refine lv_iconst (v := 0) hx hb dX4_begins_13 (by decide) ?_
        refine S_ast hC hK hP (hD _ _ _) hS (aS40 _ _ _ _ _) (bS40 _ _ _ _ _ _ _) (j := k) (by decide) (rfl) (by omega) dX4_begins_14 (fun H locs hP hS => ?_)
        refine lv_iinc (v := (nI (k + 1))) (lv' := [(1, .int (nI (k + 1))), (0, .ref (R 3))]) hx hb dX4_begins_15 hl (k := 1) rfl (nI_inc k) (by decide) rfl (fun ls hl => ?_)
        refine lv_goto (tgt := 2) hx hb dX4_begins_18 (by decide) ?_
        exact ih2 (k + 1) (mA w 40 k 0) _ _ ls (by omega) (by first | omega | assumption | rfl | (simp_all; done) | grind) (by subst hw; exact mF_s rfl) hP hS (lv_sub hl [1, 0] rfl)
  exact LP2 _ 0 u _ _ ls (Nat.lt_succ_self _) (by first | omega | assumption | rfl | (simp_all; done) | grind) ((mF_0 _ _ _).symm) hP hS (lv_sub hl [1, 0] rfl)
set_option maxHeartbeats 4000000 in
theorem c_X4_isAgain_street_kept (G : GG) (l : Launch) (o : Nat) (R : Nat → Nat) (tx : Nat) (u : MS) (hD : DwS o R) : CXv G l (PwS G o R tx) (AwS o R) yX4_isAgain cX4_isAgain 3 3 46 0 0 [.ref (R 3), .ref (R 5)] (PwS G o R tx u) (fun w => w = (undoS u)) := by
  refine CXv.mk RX4 pnX4 rfl (Nat.le_of_ble_eq_true rfl) (fun pg en Rm sg mm ar bw mth cd QQ ls hC hRm hK hX hS hl hq => ?_)
  have hx := hC.1; have hb := hC.2.1; have ho := hC.2.2.2.1; have hts := hC.2.2.2.2
  have hP : PwS G o R tx u sg.heap := hX
  have hl : lv_has ls 3 [(0, .ref (R 3)), (1, .ref (R 5))] := hl
  refine lv_aload_n hx hb dX4_isAgain_0 rfl (lv_at hl 0 rfl) ?_
  refine lv_aload_n hx hb dX4_isAgain_1 rfl (lv_at hl 1 rfl) ?_
  refine CXq.go (rcV hC hl (c_X4_takes_street_kept G l o R tx u   hD) hK hP (va_recv hK.1 hP clX4 (oS_street _ _ _ _ _)) q1184 q986 q987 q114 q988 mdX4_takes (room_s hRm rfl) rfl rfl dX4_isAgain_2) hS (fun q h => h) (fun r2 w2 H locs hpo hP _ _ hS => ?_)
  obtain ⟨er2, ew2⟩ := hpo
  rw [ew2] at hP
  subst er2
  refine lv_pop hx hb dX4_isAgain_5 rfl ?_
  refine lv_iconst (v := 0) hx hb dX4_isAgain_6 (by decide) ?_
  refine lv_istore_n (lv' := [(2, .int 0), (0, .ref (R 3)), (1, .ref (R 5))]) hx hb dX4_isAgain_7 rfl hl (by decide) rfl (fun ls hl => ?_)
  have LP8 : ∀ (fu8 : Nat) (k : Nat) (w : MS) (H : Heap) (locs : List Loc) (ls : Array Slot), 16 - k < fu8 → k ≤ 16 → w = mF (tkS u 40 60) 40 k (undoF u) → PwS G o R tx w H → va_S (AwS o R) sg.heap H locs → lv_has ls 3 [(0, .ref (R 3)), (1, .ref (R 5)), (2, .int (nI k))] → W pg l en Rm sg mm ar bw mth cd H locs 0 0 QQ (F0 mm 8 ls []) := by
    intro fu8
    induction fu8 with
    | zero => intro k w H locs ls hm8 hk hw hP hS hl; exact absurd hm8 (Nat.not_lt_zero _)
    | succ fu8 ih8 =>
      intro k w H locs ls hm8 hk hw hP hS hl
      refine lv_iload_n hx hb dX4_isAgain_8 rfl (lv_at hl 2 rfl) ?_
      refine lv_bipush (v := 16) hx hb dX4_isAgain_9 (by decide) ?_
      refine lv_icmp_ge (tgt := 50) hx hb dX4_isAgain_11 (by decide) (fun c11 => ?_) (fun c11 => ?_)
      · have c11 : 16 ≤ k := (nI_leI (a := 16) (b := k) (by omega) (by omega)).mp c11
        refine lv_aload_n hx hb dX4_isAgain_50 rfl (lv_at hl 0 rfl) ?_
        refine lv_aload_n hx hb dX4_isAgain_51 rfl (lv_at hl 0 rfl) ?_
        refine S_get hC hK hP (oS_street _ _ _ _ _) clX4 in_X4 7 (by decide) (fD47 _ _ _ _) q241 dX4_isAgain_52 ?_
        refine S_getN hC hK hP (oS_main _ _ _ _ _) clX0 in_X0 0 (by decide) (fD0 _ _ _ _) nq290 dX4_isAgain_55 ?_
        refine lv_aload_n hx hb dX4_isAgain_58 rfl (lv_at hl 0 rfl) ?_
        refine S_get (v := .int (w.1 41)) hC hK hP (oS_street _ _ _ _ _) clX4 in_X4 1 (by decide) (fD41 _ _ _ _) q229 dX4_isAgain_59 ?_
        refine CIs.go (rcV hC hl (c_X1_isHouse_plan G l o R tx w (w.1 41) ) hK hP (va_recv hK.1 hP clX1 (oS_plan _ _ _ _ _)) q1185 q370 q371 q111 q372 mdX1_isHouse (room_s hRm rfl) rfl rfl dX4_isAgain_62) ?_
        refine lv_if_eq (tgt := 75) hx hb dX4_isAgain_65 (by decide) (fun c65 => ?_) (fun c65 => ?_)
        · have c65 : (isHouseB (w.1 24) (w.1 41)) = false := bI_0.mp c65
          refine lv_iconst (v := (-1)) hx hb dX4_isAgain_75 (by decide) ?_
          refine S_put hC hK hP (hD _ _ _) hS (oS_street _ _ _ _ _) clX4 in_X4 tyX4_ok nmX4 1 (by decide) (pS41 _ _ _ _ _ _) q229 rfl rfl rfl rfl (Nat.le_of_ble_eq_true rfl) dX4_isAgain_76 (fun H locs hP hS => ?_)
          exact hq _ _ _ _ _ _ _ dX4_isAgain_79 hP hS (by have hfin : k = 16 := (by omega); subst hfin; subst hw; first | exact congrArg (mV _ 41) (if_pos (c := isHouseB (u.1 24) (u.1 61) = true) c65).symm | exact congrArg (mV _ 41) (if_neg (c := isHouseB (u.1 24) (u.1 61) = true) (by rw [show isHouseB (u.1 24) (u.1 61) = false from c65]; decide)).symm) (by decide) (by decide)
        · have c65 : (isHouseB (w.1 24) (w.1 41)) = true := bI_1.mp c65
          refine lv_aload_n hx hb dX4_isAgain_68 rfl (lv_at hl 0 rfl) ?_
          refine S_get (v := .int (w.1 41)) hC hK hP (oS_street _ _ _ _ _) clX4 in_X4 1 (by decide) (fD41 _ _ _ _) q229 dX4_isAgain_69 ?_
          refine lv_goto (tgt := 76) hx hb dX4_isAgain_72 (by decide) ?_
          refine S_put hC hK hP (hD _ _ _) hS (oS_street _ _ _ _ _) clX4 in_X4 tyX4_ok nmX4 1 (by decide) (pS41 _ _ _ _ _ _) q229 rfl rfl rfl rfl (Nat.le_of_ble_eq_true rfl) dX4_isAgain_76 (fun H locs hP hS => ?_)
          exact hq _ _ _ _ _ _ _ dX4_isAgain_79 hP hS (by have hfin : k = 16 := (by omega); subst hfin; subst hw; first | exact congrArg (mV _ 41) (if_pos (c := isHouseB (u.1 24) (u.1 61) = true) c65).symm | exact congrArg (mV _ 41) (if_neg (c := isHouseB (u.1 24) (u.1 61) = true) (by rw [show isHouseB (u.1 24) (u.1 61) = false from c65]; decide)).symm) (by decide) (by decide)
      · have c11 : ¬ (16 ≤ k) := mt (nI_leI (a := 16) (b := k) (by omega) (by omega)).mpr c11
        refine lv_aload_n hx hb dX4_isAgain_14 rfl (lv_at hl 0 rfl) ?_
        refine S_get hC hK hP (oS_street _ _ _ _ _) clX4 in_X4 0 (by decide) (fD40 _ _ _ _) q227 dX4_isAgain_15 ?_
        refine lv_iload_n hx hb dX4_isAgain_18 rfl (lv_at hl 2 rfl) ?_
        refine lv_aload_n hx hb dX4_isAgain_19 rfl (lv_at hl 0 rfl) ?_
        refine S_get hC hK hP (oS_street _ _ _ _ _) clX4 in_X4 7 (by decide) (fD47 _ _ _ _) q241 dX4_isAgain_20 ?_
        refine S_getN hC hK hP (oS_main _ _ _ _ _) clX0 in_X0 0 (by decide) (fD0 _ _ _ _) nq290 dX4_isAgain_23 ?_
        refine lv_iload_n hx hb dX4_isAgain_26 rfl (lv_at hl 2 rfl) ?_
        refine CIs.go (rcV hC hl (c_X1_isHouse_plan G l o R tx w (nI k) ) hK hP (va_recv hK.1 hP clX1 (oS_plan _ _ _ _ _)) q1185 q370 q371 q111 q372 mdX1_isHouse (room_s hRm rfl) rfl rfl dX4_isAgain_27) ?_
        refine lv_if_eq (tgt := 42) hx hb dX4_isAgain_30 (by decide) (fun c30 => ?_) (fun c30 => ?_)
        · have c30 : (isHouseB (w.1 24) (nI k)) = false := bI_0.mp c30
          refine lv_iconst (v := 0) hx hb dX4_isAgain_42 (by decide) ?_
          refine S_ast hC hK hP (hD _ _ _) hS (aS40 _ _ _ _ _) (bS40 _ _ _ _ _ _ _) (j := k) (by decide) (rfl) (by omega) dX4_isAgain_43 (fun H locs hP hS => ?_)
          refine lv_iinc (v := (nI (k + 1))) (lv' := [(2, .int (nI (k + 1))), (0, .ref (R 3)), (1, .ref (R 5))]) hx hb dX4_isAgain_44 hl (k := 2) rfl (nI_inc k) (by decide) rfl (fun ls hl => ?_)
          refine lv_goto (tgt := 8) hx hb dX4_isAgain_47 (by decide) ?_
          exact ih8 (k + 1) (mA w 40 k 0) _ _ ls (by omega) (by first | omega | assumption | rfl | (simp_all; done) | grind) (by subst hw; refine mF_s ?_; first | (refine ((mF_r _ _ _ _).trans (tkS_j u (by omega))).trans ?_; exact (if_pos (c := isHouseB (u.1 24) (nI k) = true) c30).symm) | exact (if_neg (c := isHouseB (u.1 24) (nI k) = true) (by rw [show isHouseB (u.1 24) (nI k) = false from c30]; decide)).symm) hP hS (lv_sub hl [1, 2, 0] rfl)
        · have c30 : (isHouseB (w.1 24) (nI k)) = true := bI_1.mp c30
          refine lv_aload_n hx hb dX4_isAgain_33 rfl (lv_at hl 0 rfl) ?_
          refine S_get hC hK hP (oS_street _ _ _ _ _) clX4 in_X4 0 (by decide) (fD40 _ _ _ _) q227 dX4_isAgain_34 ?_
          refine lv_iload_n hx hb dX4_isAgain_37 rfl (lv_at hl 2 rfl) ?_
          refine S_ald hC hK hP (aS40 _ _ _ _ _) (j := k) (by decide) (rfl) (by omega) dX4_isAgain_38 ?_
          refine lv_goto (tgt := 43) hx hb dX4_isAgain_39 (by decide) ?_
          refine S_ast hC hK hP (hD _ _ _) hS (aS40 _ _ _ _ _) (bS40 _ _ _ _ _ _ _) (j := k) (by decide) (rfl) (by omega) dX4_isAgain_43 (fun H locs hP hS => ?_)
          refine lv_iinc (v := (nI (k + 1))) (lv' := [(2, .int (nI (k + 1))), (0, .ref (R 3)), (1, .ref (R 5))]) hx hb dX4_isAgain_44 hl (k := 2) rfl (nI_inc k) (by decide) rfl (fun ls hl => ?_)
          refine lv_goto (tgt := 8) hx hb dX4_isAgain_47 (by decide) ?_
          exact ih8 (k + 1) (mA w 40 k (w.2.1 40 k)) _ _ ls (by omega) (by first | omega | assumption | rfl | (simp_all; done) | grind) (by subst hw; refine mF_s ?_; first | (refine ((mF_r _ _ _ _).trans (tkS_j u (by omega))).trans ?_; exact (if_pos (c := isHouseB (u.1 24) (nI k) = true) c30).symm) | exact (if_neg (c := isHouseB (u.1 24) (nI k) = true) (by rw [show isHouseB (u.1 24) (nI k) = false from c30]; decide)).symm) hP hS (lv_sub hl [1, 2, 0] rfl)
  exact LP8 _ 0 (tkS u 40 60) _ _ ls (Nat.lt_succ_self _) (by first | omega | assumption | rfl | (simp_all; done) | grind) ((mF_0 _ _ _).symm) hP hS (lv_sub hl [1, 2, 0] rfl)
set_option maxHeartbeats 4000000 in
theorem c_X0_keep (G : GG) (l : Launch) (o : Nat) (R : Nat → Nat) (tx : Nat) (u : MS) (hD : DwS o R) : CXi G l (PwS G o R tx) (AwS o R) yX0_keep cX0_keep 1 .int 3 46 0 0 [.ref o] (PwS G o R tx u) (fun r w => r = (u.1 44) ∧ w = (tkS (mV u 9 1) 60 40)) := by
  refine CXi.mk RX0 pnX0 rfl (Nat.le_of_ble_eq_true rfl) (fun pg en Rm sg mm ar bw mth cd QQ ls hC hRm hK hX hS hl hq => ?_)
  have hx := hC.1; have hb := hC.2.1; have ho := hC.2.2.2.1; have hts := hC.2.2.2.2
  have hP : PwS G o R tx u sg.heap := hX
  have hl : lv_has ls 1 [(0, .ref o)] := hl
  refine lv_aload_n hx hb dX0_keep_0 rfl (lv_at hl 0 rfl) ?_
  refine lv_iconst (v := 1) hx hb dX0_keep_1 (by decide) ?_
  refine S_put hC hK hP (hD _ _ _) hS (oS_main _ _ _ _ _) clX0 in_X0 tyX0_ok nmX0 9 (by decide) (pS9 _ _ _ _ _ _) q306 rfl rfl (by first | rfl | exact bI_nar _) (by first | rfl | exact bI_fit _) (Nat.le_of_ble_eq_true rfl) dX0_keep_2 (fun H locs hP hS => ?_)
  refine lv_aload_n hx hb dX0_keep_5 rfl (lv_at hl 0 rfl) ?_
  refine S_get hC hK hP (oS_main _ _ _ _ _) clX0 in_X0 5 (by decide) (fD5 _ _ _ _) q299 dX0_keep_6 ?_
  refine lv_aload_n hx hb dX0_keep_9 rfl (lv_at hl 0 rfl) ?_
  refine S_get hC hK hP (oS_main _ _ _ _ _) clX0 in_X0 3 (by decide) (fD3 _ _ _ _) q297 dX0_keep_10 ?_
  refine CXq.go (rcV hC hl (c_X4_takes_kept_street G l o R tx (mV u 9 1)   hD) hK hP (va_recv hK.1 hP clX4 (oS_kept _ _ _ _ _)) q985 q986 q987 q114 q988 mdX4_takes (room_s hRm rfl) rfl rfl dX0_keep_13) hS (fun q h => h) (fun r13 w13 H locs hpo hP _ _ hS => ?_)
  obtain ⟨er13, ew13⟩ := hpo
  rw [ew13] at hP
  subst er13
  refine lv_pop hx hb dX0_keep_16 rfl ?_
  refine lv_aload_n hx hb dX0_keep_17 rfl (lv_at hl 0 rfl) ?_
  refine S_get hC hK hP (oS_main _ _ _ _ _) clX0 in_X0 3 (by decide) (fD3 _ _ _ _) q297 dX0_keep_18 ?_
  refine S_getN (v := .int ((tkS (mV u 9 1) 60 40).1 44)) hC hK hP (oS_street _ _ _ _ _) clX4 in_X4 4 (by decide) (fD44 _ _ _ _) nq236 dX0_keep_21 ?_
  exact hq _ _ _ _ _ _ _ _ dX0_keep_24 hP hS (rfl) (by exact ⟨rfl, rfl⟩) (by decide) (by decide)
set_option maxHeartbeats 4000000 in
theorem c_X0_undo (G : GG) (l : Launch) (o : Nat) (R : Nat → Nat) (tx : Nat) (u : MS) (hD : DwS o R) : CXi G l (PwS G o R tx) (AwS o R) yX0_undo cX0_undo 1 .boolean 4 68 0 0 [.ref o] (PwS G o R tx u) (fun r w => r = (bI (!decide ((u.1 9) = 0))) ∧ w = (if (u.1 9) = 0 then u else undoS u)) := by
  refine CXi.mk RX0 pnX0 rfl (Nat.le_of_ble_eq_true rfl) (fun pg en Rm sg mm ar bw mth cd QQ ls hC hRm hK hX hS hl hq => ?_)
  have hx := hC.1; have hb := hC.2.1; have ho := hC.2.2.2.1; have hts := hC.2.2.2.2
  have hP : PwS G o R tx u sg.heap := hX
  have hl : lv_has ls 1 [(0, .ref o)] := hl
  refine lv_aload_n hx hb dX0_undo_0 rfl (lv_at hl 0 rfl) ?_
  refine S_get (v := .int (u.1 9)) hC hK hP (oS_main _ _ _ _ _) clX0 in_X0 9 (by decide) (fD9 _ _ _ _) q306 dX0_undo_1 ?_
  refine lv_if_ne (tgt := 9) hx hb dX0_undo_4 (by decide) (fun c4 => ?_) (fun c4 => ?_)
  · refine lv_aload_n hx hb dX0_undo_9 rfl (lv_at hl 0 rfl) ?_
    refine S_get hC hK hP (oS_main _ _ _ _ _) clX0 in_X0 3 (by decide) (fD3 _ _ _ _) q297 dX0_undo_10 ?_
    refine lv_aload_n hx hb dX0_undo_13 rfl (lv_at hl 0 rfl) ?_
    refine S_get hC hK hP (oS_main _ _ _ _ _) clX0 in_X0 5 (by decide) (fD5 _ _ _ _) q299 dX0_undo_14 ?_
    refine CXv.go (rcV hC hl (c_X4_isAgain_street_kept G l o R tx u   hD) hK hP (va_recv hK.1 hP clX4 (oS_street _ _ _ _ _)) q1180 q1181 q1182 q114 q1183 mdX4_isAgain (room_s hRm rfl) rfl rfl dX0_undo_17) hS (fun q h => h) (fun w17 H locs hpo hP _ _ hS => ?_)
    have ew17 := hpo
    rw [ew17] at hP
    refine lv_iconst (v := 1) hx hb dX0_undo_20 (by decide) ?_
    exact hq _ _ _ _ _ _ _ _ dX0_undo_21 hP hS (by first | rfl | exact bI_nar _) (by exact ⟨by simp [c4, bI], by rw [if_neg c4]⟩) (by decide) (by decide)
  · refine lv_iconst (v := 0) hx hb dX0_undo_7 (by decide) ?_
    exact hq _ _ _ _ _ _ _ _ dX0_undo_8 hP hS (by first | rfl | exact bI_nar _) (by exact ⟨by rw [c4]; rfl, by rw [if_pos c4]⟩) (by decide) (by decide)
set_option maxHeartbeats 4000000 in
theorem c_X3_of (G : GG) (l : Launch) (o : Nat) (R : Nat → Nat) (tx : Nat) (u : MS) (h : Int32) (g : Int32) (s : Int32) (n : Int32) (b : Int32) (hD : DwS o R) : CXq G l (PwS G o R tx) (AwS o R) yX3_of cX3_of 6 (.object "SharedWindow$Moment") 2 24 0 0 [.ref (R 2), .int h, .int g, .int s, .int n, .int b] (PwS G o R tx u) (fun r w => r = some (R 2) ∧ w = (ofM u h g s n b)) := by
  refine CXq.mk RX3 (Or.inl ⟨_, rfl⟩) pnX3 rfl (Nat.le_of_ble_eq_true rfl) (fun pg en Rm sg mm ar bw mth cd QQ ls hC hRm hK hX hS hl hq => ?_)
  have hx := hC.1; have hb := hC.2.1; have ho := hC.2.2.2.1; have hts := hC.2.2.2.2
  have hP : PwS G o R tx u sg.heap := hX
  have hl : lv_has ls 6 [(0, .ref (R 2)), (1, .int h), (2, .int g), (3, .int s), (4, .int n), (5, .int b)] := hl
  refine lv_aload_n hx hb dX3_of_0 rfl (lv_at hl 0 rfl) ?_
  refine lv_iload_n hx hb dX3_of_1 rfl (lv_at hl 1 rfl) ?_
  refine S_put hC hK hP (hD _ _ _) hS (oS_moment _ _ _ _ _) clX3 in_X3 tyX3_ok nmX3 1 (by decide) (pS31 _ _ _ _ _ _) q188 rfl rfl rfl rfl (Nat.le_of_ble_eq_true rfl) dX3_of_2 (fun H locs hP hS => ?_)
  refine lv_aload_n hx hb dX3_of_5 rfl (lv_at hl 0 rfl) ?_
  refine lv_iload_n hx hb dX3_of_6 rfl (lv_at hl 2 rfl) ?_
  refine lv_iconst (v := (-1)) hx hb dX3_of_7 (by decide) ?_
  refine lv_icmp_ne (tgt := 16) hx hb dX3_of_8 (by decide) (fun c8 => ?_) (fun c8 => ?_)
  · refine lv_iload_n hx hb dX3_of_16 rfl (lv_at hl 2 rfl) ?_
    refine S_put hC hK hP (hD _ _ _) hS (oS_moment _ _ _ _ _) clX3 in_X3 tyX3_ok nmX3 2 (by decide) (pS32 _ _ _ _ _ _) q189 rfl rfl rfl rfl (Nat.le_of_ble_eq_true rfl) dX3_of_17 (fun H locs hP hS => ?_)
    refine lv_aload_n hx hb dX3_of_20 rfl (lv_at hl 0 rfl) ?_
    refine lv_iload_n hx hb dX3_of_21 rfl (lv_at hl 3 rfl) ?_
    refine S_put hC hK hP (hD _ _ _) hS (oS_moment _ _ _ _ _) clX3 in_X3 tyX3_ok nmX3 3 (by decide) (pS33 _ _ _ _ _ _) q190 rfl rfl rfl rfl (Nat.le_of_ble_eq_true rfl) dX3_of_22 (fun H locs hP hS => ?_)
    refine lv_aload_n hx hb dX3_of_25 rfl (lv_at hl 0 rfl) ?_
    refine lv_iload_n hx hb dX3_of_26 rfl (lv_at hl 2 rfl) ?_
    refine lv_iconst (v := (-1)) hx hb dX3_of_27 (by decide) ?_
    refine lv_icmp_ne (tgt := 35) hx hb dX3_of_28 (by decide) (fun c28 => ?_) (fun c28 => ?_)
    · refine lv_iload_n hx hb dX3_of_35 rfl (lv_at hl 1 rfl) ?_
      refine lv_iload_n hx hb dX3_of_36 rfl (lv_at hl 2 rfl) ?_
      refine lv_isub hx hb dX3_of_37 ?_
      refine S_abs hC hl q915 q916 q120 q917 (room_m hRm rfl) rfl dX3_of_38 ?_
      refine S_put hC hK hP (hD _ _ _) hS (oS_moment _ _ _ _ _) clX3 in_X3 tyX3_ok nmX3 4 (by decide) (pS34 _ _ _ _ _ _) q191 rfl rfl rfl rfl (Nat.le_of_ble_eq_true rfl) dX3_of_41 (fun H locs hP hS => ?_)
      refine lv_aload_n hx hb dX3_of_44 rfl (lv_at hl 0 rfl) ?_
      refine lv_iload hx hb dX3_of_45 (lv_at hl 4 rfl) ?_
      refine S_put hC hK hP (hD _ _ _) hS (oS_moment _ _ _ _ _) clX3 in_X3 tyX3_ok nmX3 5 (by decide) (pS35 _ _ _ _ _ _) q192 rfl rfl rfl rfl (Nat.le_of_ble_eq_true rfl) dX3_of_47 (fun H locs hP hS => ?_)
      refine lv_aload_n hx hb dX3_of_50 rfl (lv_at hl 0 rfl) ?_
      refine lv_iload hx hb dX3_of_51 (lv_at hl 5 rfl) ?_
      refine S_put hC hK hP (hD _ _ _) hS (oS_moment _ _ _ _ _) clX3 in_X3 tyX3_ok nmX3 6 (by decide) (pS36 _ _ _ _ _ _) q193 rfl rfl rfl rfl (Nat.le_of_ble_eq_true rfl) dX3_of_53 (fun H locs hP hS => ?_)
      refine lv_aload_n hx hb dX3_of_56 rfl (lv_at hl 0 rfl) ?_
      exact hq _ _ (some (R 2)) _ _ _ _ _ dX3_of_57 hP hS (by refine ⟨rfl, ?_⟩; unfold ofM; first | (rw [if_pos c8, if_pos c8]; done) | (rw [if_neg c8, if_neg c8]; done) | exact absurd c8 c28 | exact absurd c28 c8) (by decide) (by decide)
    · refine lv_iconst (v := 0) hx hb dX3_of_31 (by decide) ?_
      refine lv_goto (tgt := 41) hx hb dX3_of_32 (by decide) ?_
      refine S_put hC hK hP (hD _ _ _) hS (oS_moment _ _ _ _ _) clX3 in_X3 tyX3_ok nmX3 4 (by decide) (pS34 _ _ _ _ _ _) q191 rfl rfl rfl rfl (Nat.le_of_ble_eq_true rfl) dX3_of_41 (fun H locs hP hS => ?_)
      refine lv_aload_n hx hb dX3_of_44 rfl (lv_at hl 0 rfl) ?_
      refine lv_iload hx hb dX3_of_45 (lv_at hl 4 rfl) ?_
      refine S_put hC hK hP (hD _ _ _) hS (oS_moment _ _ _ _ _) clX3 in_X3 tyX3_ok nmX3 5 (by decide) (pS35 _ _ _ _ _ _) q192 rfl rfl rfl rfl (Nat.le_of_ble_eq_true rfl) dX3_of_47 (fun H locs hP hS => ?_)
      refine lv_aload_n hx hb dX3_of_50 rfl (lv_at hl 0 rfl) ?_
      refine lv_iload hx hb dX3_of_51 (lv_at hl 5 rfl) ?_
      refine S_put hC hK hP (hD _ _ _) hS (oS_moment _ _ _ _ _) clX3 in_X3 tyX3_ok nmX3 6 (by decide) (pS36 _ _ _ _ _ _) q193 rfl rfl rfl rfl (Nat.le_of_ble_eq_true rfl) dX3_of_53 (fun H locs hP hS => ?_)
      refine lv_aload_n hx hb dX3_of_56 rfl (lv_at hl 0 rfl) ?_
      exact hq _ _ (some (R 2)) _ _ _ _ _ dX3_of_57 hP hS (by refine ⟨rfl, ?_⟩; unfold ofM; first | (rw [if_pos c8, if_pos c8]; done) | (rw [if_neg c8, if_neg c8]; done) | exact absurd c8 c28 | exact absurd c28 c8) (by decide) (by decide)
  · refine lv_bipush (v := 16) hx hb dX3_of_11 (by decide) ?_
    refine lv_goto (tgt := 17) hx hb dX3_of_13 (by decide) ?_
    refine S_put hC hK hP (hD _ _ _) hS (oS_moment _ _ _ _ _) clX3 in_X3 tyX3_ok nmX3 2 (by decide) (pS32 _ _ _ _ _ _) q189 rfl rfl rfl rfl (Nat.le_of_ble_eq_true rfl) dX3_of_17 (fun H locs hP hS => ?_)
    refine lv_aload_n hx hb dX3_of_20 rfl (lv_at hl 0 rfl) ?_
    refine lv_iload_n hx hb dX3_of_21 rfl (lv_at hl 3 rfl) ?_
    refine S_put hC hK hP (hD _ _ _) hS (oS_moment _ _ _ _ _) clX3 in_X3 tyX3_ok nmX3 3 (by decide) (pS33 _ _ _ _ _ _) q190 rfl rfl rfl rfl (Nat.le_of_ble_eq_true rfl) dX3_of_22 (fun H locs hP hS => ?_)
    refine lv_aload_n hx hb dX3_of_25 rfl (lv_at hl 0 rfl) ?_
    refine lv_iload_n hx hb dX3_of_26 rfl (lv_at hl 2 rfl) ?_
    refine lv_iconst (v := (-1)) hx hb dX3_of_27 (by decide) ?_
    refine lv_icmp_ne (tgt := 35) hx hb dX3_of_28 (by decide) (fun c28 => ?_) (fun c28 => ?_)
    · refine lv_iload_n hx hb dX3_of_35 rfl (lv_at hl 1 rfl) ?_
      refine lv_iload_n hx hb dX3_of_36 rfl (lv_at hl 2 rfl) ?_
      refine lv_isub hx hb dX3_of_37 ?_
      refine S_abs hC hl q915 q916 q120 q917 (room_m hRm rfl) rfl dX3_of_38 ?_
      refine S_put hC hK hP (hD _ _ _) hS (oS_moment _ _ _ _ _) clX3 in_X3 tyX3_ok nmX3 4 (by decide) (pS34 _ _ _ _ _ _) q191 rfl rfl rfl rfl (Nat.le_of_ble_eq_true rfl) dX3_of_41 (fun H locs hP hS => ?_)
      refine lv_aload_n hx hb dX3_of_44 rfl (lv_at hl 0 rfl) ?_
      refine lv_iload hx hb dX3_of_45 (lv_at hl 4 rfl) ?_
      refine S_put hC hK hP (hD _ _ _) hS (oS_moment _ _ _ _ _) clX3 in_X3 tyX3_ok nmX3 5 (by decide) (pS35 _ _ _ _ _ _) q192 rfl rfl rfl rfl (Nat.le_of_ble_eq_true rfl) dX3_of_47 (fun H locs hP hS => ?_)
      refine lv_aload_n hx hb dX3_of_50 rfl (lv_at hl 0 rfl) ?_
      refine lv_iload hx hb dX3_of_51 (lv_at hl 5 rfl) ?_
      refine S_put hC hK hP (hD _ _ _) hS (oS_moment _ _ _ _ _) clX3 in_X3 tyX3_ok nmX3 6 (by decide) (pS36 _ _ _ _ _ _) q193 rfl rfl rfl rfl (Nat.le_of_ble_eq_true rfl) dX3_of_53 (fun H locs hP hS => ?_)
      refine lv_aload_n hx hb dX3_of_56 rfl (lv_at hl 0 rfl) ?_
      exact hq _ _ (some (R 2)) _ _ _ _ _ dX3_of_57 hP hS (by refine ⟨rfl, ?_⟩; unfold ofM; first | (rw [if_pos c8, if_pos c8]; done) | (rw [if_neg c8, if_neg c8]; done) | exact absurd c8 c28 | exact absurd c28 c8) (by decide) (by decide)
    · refine lv_iconst (v := 0) hx hb dX3_of_31 (by decide) ?_
      refine lv_goto (tgt := 41) hx hb dX3_of_32 (by decide) ?_
      refine S_put hC hK hP (hD _ _ _) hS (oS_moment _ _ _ _ _) clX3 in_X3 tyX3_ok nmX3 4 (by decide) (pS34 _ _ _ _ _ _) q191 rfl rfl rfl rfl (Nat.le_of_ble_eq_true rfl) dX3_of_41 (fun H locs hP hS => ?_)
      refine lv_aload_n hx hb dX3_of_44 rfl (lv_at hl 0 rfl) ?_
      refine lv_iload hx hb dX3_of_45 (lv_at hl 4 rfl) ?_
      refine S_put hC hK hP (hD _ _ _) hS (oS_moment _ _ _ _ _) clX3 in_X3 tyX3_ok nmX3 5 (by decide) (pS35 _ _ _ _ _ _) q192 rfl rfl rfl rfl (Nat.le_of_ble_eq_true rfl) dX3_of_47 (fun H locs hP hS => ?_)
      refine lv_aload_n hx hb dX3_of_50 rfl (lv_at hl 0 rfl) ?_
      refine lv_iload hx hb dX3_of_51 (lv_at hl 5 rfl) ?_
      refine S_put hC hK hP (hD _ _ _) hS (oS_moment _ _ _ _ _) clX3 in_X3 tyX3_ok nmX3 6 (by decide) (pS36 _ _ _ _ _ _) q193 rfl rfl rfl rfl (Nat.le_of_ble_eq_true rfl) dX3_of_53 (fun H locs hP hS => ?_)
      refine lv_aload_n hx hb dX3_of_56 rfl (lv_at hl 0 rfl) ?_
      exact hq _ _ (some (R 2)) _ _ _ _ _ dX3_of_57 hP hS (by refine ⟨rfl, ?_⟩; unfold ofM; first | (rw [if_pos c8, if_pos c8]; done) | (rw [if_neg c8, if_neg c8]; done) | exact absurd c8 c28 | exact absurd c28 c8) (by decide) (by decide)
set_option maxHeartbeats 4000000 in
theorem c_X3_on (G : GG) (l : Launch) (o : Nat) (R : Nat → Nat) (tx : Nat) (u : MS) (k : Int32) (t : Int32) (w0 : Int32) (hD : DwS o R) : CXq G l (PwS G o R tx) (AwS o R) yX3_on cX3_on 4 (.object "SharedWindow$Moment") 2 24 0 0 [.ref (R 2), .int k, .int t, .int w0] (PwS G o R tx u) (fun r w => r = some (R 2) ∧ w = (onM u k t w0)) := by
  refine CXq.mk RX3 (Or.inl ⟨_, rfl⟩) pnX3 rfl (Nat.le_of_ble_eq_true rfl) (fun pg en Rm sg mm ar bw mth cd QQ ls hC hRm hK hX hS hl hq => ?_)
  have hx := hC.1; have hb := hC.2.1; have ho := hC.2.2.2.1; have hts := hC.2.2.2.2
  have hP : PwS G o R tx u sg.heap := hX
  have hl : lv_has ls 4 [(0, .ref (R 2)), (1, .int k), (2, .int t), (3, .int w0)] := hl
  refine lv_aload_n hx hb dX3_on_0 rfl (lv_at hl 0 rfl) ?_
  refine lv_iload_n hx hb dX3_on_1 rfl (lv_at hl 1 rfl) ?_
  refine lv_bipush (v := 100) hx hb dX3_on_2 (by decide) ?_
  refine lv_irem hx hb dX3_on_4 (by decide) ?_
  refine S_put hC hK hP (hD _ _ _) hS (oS_moment _ _ _ _ _) clX3 in_X3 tyX3_ok nmX3 7 (by decide) (pS37 _ _ _ _ _ _) q194 rfl rfl rfl rfl (Nat.le_of_ble_eq_true rfl) dX3_on_5 (fun H locs hP hS => ?_)
  refine lv_aload_n hx hb dX3_on_8 rfl (lv_at hl 0 rfl) ?_
  refine lv_iload_n hx hb dX3_on_9 rfl (lv_at hl 2 rfl) ?_
  refine lv_bipush (v := 100) hx hb dX3_on_10 (by decide) ?_
  refine lv_irem hx hb dX3_on_12 (by decide) ?_
  refine S_put hC hK hP (hD _ _ _) hS (oS_moment _ _ _ _ _) clX3 in_X3 tyX3_ok nmX3 8 (by decide) (pS38 _ _ _ _ _ _) q195 rfl rfl rfl rfl (Nat.le_of_ble_eq_true rfl) dX3_on_13 (fun H locs hP hS => ?_)
  refine lv_aload_n hx hb dX3_on_16 rfl (lv_at hl 0 rfl) ?_
  refine lv_iload_n hx hb dX3_on_17 rfl (lv_at hl 3 rfl) ?_
  refine S_put hC hK hP (hD _ _ _) hS (oS_moment _ _ _ _ _) clX3 in_X3 tyX3_ok nmX3 9 (by decide) (pS39 _ _ _ _ _ _) q196 rfl rfl rfl rfl (Nat.le_of_ble_eq_true rfl) dX3_on_18 (fun H locs hP hS => ?_)
  refine lv_aload_n hx hb dX3_on_21 rfl (lv_at hl 0 rfl) ?_
  exact hq _ _ (some (R 2)) _ _ _ _ _ dX3_on_22 hP hS (by exact ⟨rfl, rfl⟩) (by decide) (by decide)
set_option maxHeartbeats 4000000 in
theorem c_X4_draw_street (G : GG) (l : Launch) (o : Nat) (R : Nat → Nat) (tx : Nat) (u : MS) (hD : DwS o R) : CXi G l (PwS G o R tx) (AwS o R) yX4_draw cX4_draw 1 .int 2 24 0 0 [.ref (R 3)] (PwS G o R tx u) (fun r w => r = (remI (lot1 (u.1 45)) 10) ∧ w = (mV u 45 (lot1 (u.1 45)))) := by
  refine CXi.mk RX4 pnX4 rfl (Nat.le_of_ble_eq_true rfl) (fun pg en Rm sg mm ar bw mth cd QQ ls hC hRm hK hX hS hl hq => ?_)
  have hx := hC.1; have hb := hC.2.1; have ho := hC.2.2.2.1; have hts := hC.2.2.2.2
  have hP : PwS G o R tx u sg.heap := hX
  have hl : lv_has ls 1 [(0, .ref (R 3))] := hl
  refine lv_aload_n hx hb dX4_draw_0 rfl (lv_at hl 0 rfl) ?_
  refine lv_sipush (v := 25173) hx hb dX4_draw_1 (by decide) ?_
  refine lv_aload_n hx hb dX4_draw_4 rfl (lv_at hl 0 rfl) ?_
  refine S_get (v := .int (u.1 45)) hC hK hP (oS_street _ _ _ _ _) clX4 in_X4 5 (by decide) (fD45 _ _ _ _) q237 dX4_draw_5 ?_
  refine lv_imul hx hb dX4_draw_8 ?_
  refine lv_sipush (v := 13849) hx hb dX4_draw_9 (by decide) ?_
  refine lv_iadd hx hb dX4_draw_12 ?_
  refine lv_ldc (own := RX4) (v := 65536) hx hb ho (hts _ q884) dX4_draw_13 ?_
  refine lv_irem hx hb dX4_draw_15 (by decide) ?_
  refine S_put hC hK hP (hD _ _ _) hS (oS_street _ _ _ _ _) clX4 in_X4 tyX4_ok nmX4 5 (by decide) (pS45 _ _ _ _ _ _) q237 rfl rfl rfl rfl (Nat.le_of_ble_eq_true rfl) dX4_draw_16 (fun H locs hP hS => ?_)
  refine lv_aload_n hx hb dX4_draw_19 rfl (lv_at hl 0 rfl) ?_
  refine S_get (v := .int (((25173 * (u.1 45)) + 13849) - ((25173 * (u.1 45)) + 13849) / 65536 * 65536)) hC hK hP (oS_street _ _ _ _ _) clX4 in_X4 5 (by decide) (fD45 _ _ _ _) q237 dX4_draw_20 ?_
  refine lv_bipush (v := 10) hx hb dX4_draw_23 (by decide) ?_
  refine lv_irem hx hb dX4_draw_25 (by decide) ?_
  exact hq _ _ _ _ _ _ _ _ dX4_draw_26 hP hS (rfl) (by exact ⟨rfl, rfl⟩) (by decide) (by decide)
set_option maxHeartbeats 4000000 in
theorem c_X4_asked_street (G : GG) (l : Launch) (o : Nat) (R : Nat → Nat) (tx : Nat) (u : MS) (h : Nat) (t : Int32) (d : Int32) (hh : h < 16) (hbr : sB (u.1 42)) (hsd : PB (u.2.1 21)) (hfc : PB (u.2.1 20)) (hD : DwS o R) : CXq G l (PwS G o R tx) (AwS o R) yX4_asked cX4_asked 4 (.object "SharedWindow$Moment") 5 95 0 0 [.ref (R 3), .int (nI h), .int t, .int d] (PwS G o R tx u) (fun r w => r = some (R 2) ∧ w = (moM u (fctU F00 (nI h) t d (u.1 41) (u.1 42) (u.1 43) (u.1 44) ((snS (u.1 25) (u.2.1 21) (u.2.1 22) (u.2.1 23) (u.2.1 20)) h t)))) := by
  refine CXq.mk RX4 (Or.inl ⟨_, rfl⟩) pnX4 rfl (Nat.le_of_ble_eq_true rfl) (fun pg en Rm sg mm ar bw mth cd QQ ls hC hRm hK hX hS hl hq => ?_)
  have hx := hC.1; have hb := hC.2.1; have ho := hC.2.2.2.1; have hts := hC.2.2.2.2
  have hP : PwS G o R tx u sg.heap := hX
  have hl : lv_has ls 4 [(0, .ref (R 3)), (1, .int (nI h)), (2, .int t), (3, .int d)] := hl
  refine lv_aload_n hx hb dX4_asked_0 rfl (lv_at hl 0 rfl) ?_
  refine S_get hC hK hP (oS_street _ _ _ _ _) clX4 in_X4 7 (by decide) (fD47 _ _ _ _) q241 dX4_asked_1 ?_
  refine S_getN hC hK hP (oS_main _ _ _ _ _) clX0 in_X0 2 (by decide) (fD2 _ _ _ _) nq295 dX4_asked_4 ?_
  refine lv_iload_n hx hb dX4_asked_7 rfl (lv_at hl 1 rfl) ?_
  refine lv_aload_n hx hb dX4_asked_8 rfl (lv_at hl 0 rfl) ?_
  refine S_get (v := .int (u.1 41)) hC hK hP (oS_street _ _ _ _ _) clX4 in_X4 1 (by decide) (fD41 _ _ _ _) q229 dX4_asked_9 ?_
  refine lv_iload_n hx hb dX4_asked_12 rfl (lv_at hl 2 rfl) ?_
  refine lv_aload_n hx hb dX4_asked_13 rfl (lv_at hl 0 rfl) ?_
  refine S_get hC hK hP (oS_street _ _ _ _ _) clX4 in_X4 7 (by decide) (fD47 _ _ _ _) q241 dX4_asked_14 ?_
  refine S_getN hC hK hP (oS_main _ _ _ _ _) clX0 in_X0 0 (by decide) (fD0 _ _ _ _) nq290 dX4_asked_17 ?_
  refine lv_iload_n hx hb dX4_asked_20 rfl (lv_at hl 1 rfl) ?_
  refine lv_iload_n hx hb dX4_asked_21 rfl (lv_at hl 2 rfl) ?_
  refine CIs.go (rcV hC hl (c_X1_seen_plan G l o R tx u h t (by first | assumption | omega | rfl | (simp_all; done)) (by first | assumption | omega | rfl | (simp_all; done)) (by first | assumption | omega | rfl | (simp_all; done))) hK hP (va_recv hK.1 hP clX1 (oS_plan _ _ _ _ _)) q893 q894 q895 q111 q896 mdX1_seen (room_s hRm rfl) rfl rfl dX4_asked_22) ?_
  refine CIs.go (rcS hC hl (c_J6_bitCount G l (seenS (u.1 25) (u.2.1 21) (u.2.1 22) (u.2.1 23) ((u.2.1 20) h) t) (sB_seenS _ _ _ _ _ _)) hK trivial q905 q906 q135 q907 mdJ6_bitCount (room_s hRm rfl) rfl rfl dX4_asked_25) ?_
  refine lv_aload_n hx hb dX4_asked_28 rfl (lv_at hl 0 rfl) ?_
  refine S_get (v := .int (u.1 42)) hC hK hP (oS_street _ _ _ _ _) clX4 in_X4 2 (by decide) (fD42 _ _ _ _) q231 dX4_asked_29 ?_
  refine CIs.go (rcS hC hl (c_J6_bitCount G l (u.1 42) (hbr)) hK trivial q905 q906 q135 q907 mdJ6_bitCount (room_s hRm rfl) rfl rfl dX4_asked_32) ?_
  refine CXq.go (rcV hC hl (c_X3_of G l o R tx u (nI h) (u.1 41) t (bitsI (seenS (u.1 25) (u.2.1 21) (u.2.1 22) (u.2.1 23) ((u.2.1 20) h) t)) (bitsI (u.1 42))  hD) hK hP (va_recv hK.1 hP clX3 (oS_moment _ _ _ _ _)) q911 q912 q913 q113 q914 mdX3_of (room_s hRm rfl) rfl rfl dX4_asked_35) hS (fun q h => h) (fun r35 w35 H locs hpo hP _ _ hS => ?_)
  obtain ⟨er35, ew35⟩ := hpo
  rw [ew35] at hP
  subst er35
  refine lv_aload_n hx hb dX4_asked_38 rfl (lv_at hl 0 rfl) ?_
  refine S_get (v := .int ((ofM u (nI h) (u.1 41) t (bitsI (seenS (u.1 25) (u.2.1 21) (u.2.1 22) (u.2.1 23) ((u.2.1 20) h) t)) (bitsI (u.1 42))).1 43)) hC hK hP (oS_street _ _ _ _ _) clX4 in_X4 3 (by decide) (fD43 _ _ _ _) q233 dX4_asked_39 ?_
  refine lv_aload_n hx hb dX4_asked_42 rfl (lv_at hl 0 rfl) ?_
  refine S_get (v := .int ((ofM u (nI h) (u.1 41) t (bitsI (seenS (u.1 25) (u.2.1 21) (u.2.1 22) (u.2.1 23) ((u.2.1 20) h) t)) (bitsI (u.1 42))).1 44)) hC hK hP (oS_street _ _ _ _ _) clX4 in_X4 4 (by decide) (fD44 _ _ _ _) q235 dX4_asked_43 ?_
  refine lv_iload_n hx hb dX4_asked_46 rfl (lv_at hl 3 rfl) ?_
  refine CXq.go (rcV hC hl (c_X3_on G l o R tx (ofM u (nI h) (u.1 41) t (bitsI (seenS (u.1 25) (u.2.1 21) (u.2.1 22) (u.2.1 23) ((u.2.1 20) h) t)) (bitsI (u.1 42))) ((ofM u (nI h) (u.1 41) t (bitsI (seenS (u.1 25) (u.2.1 21) (u.2.1 22) (u.2.1 23) ((u.2.1 20) h) t)) (bitsI (u.1 42))).1 43) ((ofM u (nI h) (u.1 41) t (bitsI (seenS (u.1 25) (u.2.1 21) (u.2.1 22) (u.2.1 23) ((u.2.1 20) h) t)) (bitsI (u.1 42))).1 44) d  hD) hK hP (va_recv hK.1 hP clX3 (oS_moment _ _ _ _ _)) q918 q919 q920 q113 q921 mdX3_on (room_s hRm rfl) rfl rfl dX4_asked_47) hS (fun q h => h) (fun r47 w47 H locs hpo hP _ _ hS => ?_)
  obtain ⟨er47, ew47⟩ := hpo
  rw [ew47] at hP
  subst er47
  exact hq _ _ (some (R 2)) _ _ _ _ _ dX4_asked_50 hP hS (by exact ⟨rfl, asked_eq _ _ _ _ _ _ _ _ _⟩) (by decide) (by decide)
set_option maxHeartbeats 4000000 in
theorem c_X4_joyOfAll_street (G : GG) (l : Launch) (o : Nat) (R : Nat → Nat) (tx : Nat) (u : MS) : CIs G l yX4_joyOfAll cX4_joyOfAll 6 .int 2 24 [.ref (R 3)] (PwS G o R tx u) (sumJ (u.2.1 40) 16) := by
  refine CIs.mk RX4 pnX4 rfl (rfl) (Nat.le_of_ble_eq_true rfl) (fun pg en Rm sg mm ar bw mth cd QQ ls hC hRm hK hX hl hq => ?_)
  have hx := hC.1; have hb := hC.2.1; have ho := hC.2.2.2.1; have hts := hC.2.2.2.2
  have hP : PwS G o R tx u sg.heap := hX
  have hl : lv_has ls 6 [(0, .ref (R 3))] := hl
  refine lv_iconst (v := 0) hx hb dX4_joyOfAll_0 (by decide) ?_
  refine lv_istore_n (lv' := [(1, .int 0), (0, .ref (R 3))]) hx hb dX4_joyOfAll_1 rfl hl (by decide) rfl (fun ls hl => ?_)
  refine lv_aload_n hx hb dX4_joyOfAll_2 rfl (lv_at hl 1 rfl) ?_
  refine S_get hC hK hP (oS_street _ _ _ _ _) clX4 in_X4 0 (by decide) (fD40 _ _ _ _) q227 dX4_joyOfAll_3 ?_
  refine lv_astore_n (lv' := [(2, .ref (R 40)), (1, .int 0), (0, .ref (R 3))]) hx hb dX4_joyOfAll_6 rfl hl (by decide) rfl (fun ls hl => ?_)
  refine lv_aload_n hx hb dX4_joyOfAll_7 rfl (lv_at hl 0 rfl) ?_
  refine S_alen hC hK hP (aS40 _ _ _ _ _) dX4_joyOfAll_8 ?_
  refine lv_istore_n (lv' := [(3, .int 16), (2, .ref (R 40)), (1, .int 0), (0, .ref (R 3))]) hx hb dX4_joyOfAll_9 rfl hl (by decide) rfl (fun ls hl => ?_)
  refine lv_iconst (v := 0) hx hb dX4_joyOfAll_10 (by decide) ?_
  refine lv_istore (lv' := [(4, .int 0), (3, .int 16), (2, .ref (R 40)), (1, .int 0), (0, .ref (R 3))]) hx hb dX4_joyOfAll_11 hl (by decide) rfl (fun ls hl => ?_)
  have LP13 : ∀ (fu13 : Nat) (k : Nat) (su : Int32) (ls : Array Slot), 16 - k < fu13 → k ≤ 16 → su = sumJ (u.2.1 40) k → lv_has ls 6 [(0, .ref (R 3)), (1, .int su), (2, .ref (R 40)), (3, .int 16), (4, .int (nI k))] → W pg l en Rm sg mm ar bw mth cd sg.heap [] 0 0 QQ (F0 mm 13 ls []) := by
    intro fu13
    induction fu13 with
    | zero => intro k su ls hm13 hk hsu hl; exact absurd hm13 (Nat.not_lt_zero _)
    | succ fu13 ih13 =>
      intro k su ls hm13 hk hsu hl
      refine lv_iload hx hb dX4_joyOfAll_13 (lv_at hl 4 rfl) ?_
      refine lv_iload_n hx hb dX4_joyOfAll_15 rfl (lv_at hl 3 rfl) ?_
      refine lv_icmp_ge (tgt := 36) hx hb dX4_joyOfAll_16 (by decide) (fun c16 => ?_) (fun c16 => ?_)
      · have c16 : 16 ≤ k := (nI_leI (a := 16) (b := k) (by omega) (by omega)).mp c16
        refine lv_iload_n hx hb dX4_joyOfAll_36 rfl (lv_at hl 1 rfl) ?_
        exact hq _ _ _ dX4_joyOfAll_37 (by have hfin : k = 16 := (by omega); subst hfin; exact hsu)
      · have c16 : ¬ (16 ≤ k) := mt (nI_leI (a := 16) (b := k) (by omega) (by omega)).mpr c16
        refine lv_aload_n hx hb dX4_joyOfAll_19 rfl (lv_at hl 2 rfl) ?_
        refine lv_iload hx hb dX4_joyOfAll_20 (lv_at hl 4 rfl) ?_
        refine S_ald hC hK hP (aS40 _ _ _ _ _) (j := k) (by decide) (rfl) (by omega) dX4_joyOfAll_22 ?_
        refine lv_istore (lv' := [(5, .int (u.2.1 40 k)), (0, .ref (R 3)), (1, .int su), (2, .ref (R 40)), (3, .int 16), (4, .int (nI k))]) hx hb dX4_joyOfAll_23 hl (by decide) rfl (fun ls hl => ?_)
        refine lv_iload_n hx hb dX4_joyOfAll_25 rfl (lv_at hl 2 rfl) ?_
        refine lv_iload hx hb dX4_joyOfAll_26 (lv_at hl 0 rfl) ?_
        refine lv_iadd hx hb dX4_joyOfAll_28 ?_
        refine lv_istore_n (lv' := [(1, .int (su + (u.2.1 40 k))), (5, .int (u.2.1 40 k)), (0, .ref (R 3)), (2, .ref (R 40)), (3, .int 16), (4, .int (nI k))]) hx hb dX4_joyOfAll_29 rfl hl (by decide) rfl (fun ls hl => ?_)
        refine lv_iinc (v := (nI (k + 1))) (lv' := [(4, .int (nI (k + 1))), (1, .int (su + (u.2.1 40 k))), (5, .int (u.2.1 40 k)), (0, .ref (R 3)), (2, .ref (R 40)), (3, .int 16)]) hx hb dX4_joyOfAll_30 hl (k := 5) rfl (nI_inc k) (by decide) rfl (fun ls hl => ?_)
        refine lv_goto (tgt := 13) hx hb dX4_joyOfAll_33 (by decide) ?_
        exact ih13 (k + 1) (su + (u.2.1 40 k)) ls (by omega) (by first | omega | assumption | rfl | (simp_all; done) | grind) (by rw [hsu]; rfl)  (lv_sub hl [3, 1, 4, 5, 0] rfl)
  exact LP13 _ 0 0 ls (Nat.lt_succ_self _) (by first | omega | assumption | rfl | (simp_all; done) | grind) (rfl)  (lv_sub hl [4, 3, 2, 1, 0] rfl)
set_option maxHeartbeats 4000000 in
theorem c_X4_draw_then (G : GG) (l : Launch) (o : Nat) (R : Nat → Nat) (tx : Nat) (u : MS) (hD : DwS o R) : CXi G l (PwS G o R tx) (AwS o R) yX4_draw cX4_draw 1 .int 2 24 0 0 [.ref (R 4)] (PwS G o R tx u) (fun r w => r = (remI (lot1 (u.1 55)) 10) ∧ w = (mV u 55 (lot1 (u.1 55)))) := by
  refine CXi.mk RX4 pnX4 rfl (Nat.le_of_ble_eq_true rfl) (fun pg en Rm sg mm ar bw mth cd QQ ls hC hRm hK hX hS hl hq => ?_)
  have hx := hC.1; have hb := hC.2.1; have ho := hC.2.2.2.1; have hts := hC.2.2.2.2
  have hP : PwS G o R tx u sg.heap := hX
  have hl : lv_has ls 1 [(0, .ref (R 4))] := hl
  refine lv_aload_n hx hb dX4_draw_0 rfl (lv_at hl 0 rfl) ?_
  refine lv_sipush (v := 25173) hx hb dX4_draw_1 (by decide) ?_
  refine lv_aload_n hx hb dX4_draw_4 rfl (lv_at hl 0 rfl) ?_
  refine S_get (v := .int (u.1 55)) hC hK hP (oS_then _ _ _ _ _) clX4 in_X4 5 (by decide) (fD55 _ _ _ _) q237 dX4_draw_5 ?_
  refine lv_imul hx hb dX4_draw_8 ?_
  refine lv_sipush (v := 13849) hx hb dX4_draw_9 (by decide) ?_
  refine lv_iadd hx hb dX4_draw_12 ?_
  refine lv_ldc (own := RX4) (v := 65536) hx hb ho (hts _ q884) dX4_draw_13 ?_
  refine lv_irem hx hb dX4_draw_15 (by decide) ?_
  refine S_put hC hK hP (hD _ _ _) hS (oS_then _ _ _ _ _) clX4 in_X4 tyX4_ok nmX4 5 (by decide) (pS55 _ _ _ _ _ _) q237 rfl rfl rfl rfl (Nat.le_of_ble_eq_true rfl) dX4_draw_16 (fun H locs hP hS => ?_)
  refine lv_aload_n hx hb dX4_draw_19 rfl (lv_at hl 0 rfl) ?_
  refine S_get (v := .int (((25173 * (u.1 55)) + 13849) - ((25173 * (u.1 55)) + 13849) / 65536 * 65536)) hC hK hP (oS_then _ _ _ _ _) clX4 in_X4 5 (by decide) (fD55 _ _ _ _) q237 dX4_draw_20 ?_
  refine lv_bipush (v := 10) hx hb dX4_draw_23 (by decide) ?_
  refine lv_irem hx hb dX4_draw_25 (by decide) ?_
  exact hq _ _ _ _ _ _ _ _ dX4_draw_26 hP hS (rfl) (by exact ⟨rfl, rfl⟩) (by decide) (by decide)
set_option maxHeartbeats 4000000 in
theorem c_X4_asked_then (G : GG) (l : Launch) (o : Nat) (R : Nat → Nat) (tx : Nat) (u : MS) (h : Nat) (t : Int32) (d : Int32) (hh : h < 16) (hbr : sB (u.1 52)) (hsd : PB (u.2.1 21)) (hfc : PB (u.2.1 20)) (hD : DwS o R) : CXq G l (PwS G o R tx) (AwS o R) yX4_asked cX4_asked 4 (.object "SharedWindow$Moment") 5 95 0 0 [.ref (R 4), .int (nI h), .int t, .int d] (PwS G o R tx u) (fun r w => r = some (R 2) ∧ w = (moM u (fctU F00 (nI h) t d (u.1 51) (u.1 52) (u.1 53) (u.1 54) ((snS (u.1 25) (u.2.1 21) (u.2.1 22) (u.2.1 23) (u.2.1 20)) h t)))) := by
  refine CXq.mk RX4 (Or.inl ⟨_, rfl⟩) pnX4 rfl (Nat.le_of_ble_eq_true rfl) (fun pg en Rm sg mm ar bw mth cd QQ ls hC hRm hK hX hS hl hq => ?_)
  have hx := hC.1; have hb := hC.2.1; have ho := hC.2.2.2.1; have hts := hC.2.2.2.2
  have hP : PwS G o R tx u sg.heap := hX
  have hl : lv_has ls 4 [(0, .ref (R 4)), (1, .int (nI h)), (2, .int t), (3, .int d)] := hl
  refine lv_aload_n hx hb dX4_asked_0 rfl (lv_at hl 0 rfl) ?_
  refine S_get hC hK hP (oS_then _ _ _ _ _) clX4 in_X4 7 (by decide) (fD57 _ _ _ _) q241 dX4_asked_1 ?_
  refine S_getN hC hK hP (oS_main _ _ _ _ _) clX0 in_X0 2 (by decide) (fD2 _ _ _ _) nq295 dX4_asked_4 ?_
  refine lv_iload_n hx hb dX4_asked_7 rfl (lv_at hl 1 rfl) ?_
  refine lv_aload_n hx hb dX4_asked_8 rfl (lv_at hl 0 rfl) ?_
  refine S_get (v := .int (u.1 51)) hC hK hP (oS_then _ _ _ _ _) clX4 in_X4 1 (by decide) (fD51 _ _ _ _) q229 dX4_asked_9 ?_
  refine lv_iload_n hx hb dX4_asked_12 rfl (lv_at hl 2 rfl) ?_
  refine lv_aload_n hx hb dX4_asked_13 rfl (lv_at hl 0 rfl) ?_
  refine S_get hC hK hP (oS_then _ _ _ _ _) clX4 in_X4 7 (by decide) (fD57 _ _ _ _) q241 dX4_asked_14 ?_
  refine S_getN hC hK hP (oS_main _ _ _ _ _) clX0 in_X0 0 (by decide) (fD0 _ _ _ _) nq290 dX4_asked_17 ?_
  refine lv_iload_n hx hb dX4_asked_20 rfl (lv_at hl 1 rfl) ?_
  refine lv_iload_n hx hb dX4_asked_21 rfl (lv_at hl 2 rfl) ?_
  refine CIs.go (rcV hC hl (c_X1_seen_plan G l o R tx u h t (by first | assumption | omega | rfl | (simp_all; done)) (by first | assumption | omega | rfl | (simp_all; done)) (by first | assumption | omega | rfl | (simp_all; done))) hK hP (va_recv hK.1 hP clX1 (oS_plan _ _ _ _ _)) q893 q894 q895 q111 q896 mdX1_seen (room_s hRm rfl) rfl rfl dX4_asked_22) ?_
  refine CIs.go (rcS hC hl (c_J6_bitCount G l (seenS (u.1 25) (u.2.1 21) (u.2.1 22) (u.2.1 23) ((u.2.1 20) h) t) (sB_seenS _ _ _ _ _ _)) hK trivial q905 q906 q135 q907 mdJ6_bitCount (room_s hRm rfl) rfl rfl dX4_asked_25) ?_
  refine lv_aload_n hx hb dX4_asked_28 rfl (lv_at hl 0 rfl) ?_
  refine S_get (v := .int (u.1 52)) hC hK hP (oS_then _ _ _ _ _) clX4 in_X4 2 (by decide) (fD52 _ _ _ _) q231 dX4_asked_29 ?_
  refine CIs.go (rcS hC hl (c_J6_bitCount G l (u.1 52) (hbr)) hK trivial q905 q906 q135 q907 mdJ6_bitCount (room_s hRm rfl) rfl rfl dX4_asked_32) ?_
  refine CXq.go (rcV hC hl (c_X3_of G l o R tx u (nI h) (u.1 51) t (bitsI (seenS (u.1 25) (u.2.1 21) (u.2.1 22) (u.2.1 23) ((u.2.1 20) h) t)) (bitsI (u.1 52))  hD) hK hP (va_recv hK.1 hP clX3 (oS_moment _ _ _ _ _)) q911 q912 q913 q113 q914 mdX3_of (room_s hRm rfl) rfl rfl dX4_asked_35) hS (fun q h => h) (fun r35 w35 H locs hpo hP _ _ hS => ?_)
  obtain ⟨er35, ew35⟩ := hpo
  rw [ew35] at hP
  subst er35
  refine lv_aload_n hx hb dX4_asked_38 rfl (lv_at hl 0 rfl) ?_
  refine S_get (v := .int ((ofM u (nI h) (u.1 51) t (bitsI (seenS (u.1 25) (u.2.1 21) (u.2.1 22) (u.2.1 23) ((u.2.1 20) h) t)) (bitsI (u.1 52))).1 53)) hC hK hP (oS_then _ _ _ _ _) clX4 in_X4 3 (by decide) (fD53 _ _ _ _) q233 dX4_asked_39 ?_
  refine lv_aload_n hx hb dX4_asked_42 rfl (lv_at hl 0 rfl) ?_
  refine S_get (v := .int ((ofM u (nI h) (u.1 51) t (bitsI (seenS (u.1 25) (u.2.1 21) (u.2.1 22) (u.2.1 23) ((u.2.1 20) h) t)) (bitsI (u.1 52))).1 54)) hC hK hP (oS_then _ _ _ _ _) clX4 in_X4 4 (by decide) (fD54 _ _ _ _) q235 dX4_asked_43 ?_
  refine lv_iload_n hx hb dX4_asked_46 rfl (lv_at hl 3 rfl) ?_
  refine CXq.go (rcV hC hl (c_X3_on G l o R tx (ofM u (nI h) (u.1 51) t (bitsI (seenS (u.1 25) (u.2.1 21) (u.2.1 22) (u.2.1 23) ((u.2.1 20) h) t)) (bitsI (u.1 52))) ((ofM u (nI h) (u.1 51) t (bitsI (seenS (u.1 25) (u.2.1 21) (u.2.1 22) (u.2.1 23) ((u.2.1 20) h) t)) (bitsI (u.1 52))).1 53) ((ofM u (nI h) (u.1 51) t (bitsI (seenS (u.1 25) (u.2.1 21) (u.2.1 22) (u.2.1 23) ((u.2.1 20) h) t)) (bitsI (u.1 52))).1 54) d  hD) hK hP (va_recv hK.1 hP clX3 (oS_moment _ _ _ _ _)) q918 q919 q920 q113 q921 mdX3_on (room_s hRm rfl) rfl rfl dX4_asked_47) hS (fun q h => h) (fun r47 w47 H locs hpo hP _ _ hS => ?_)
  obtain ⟨er47, ew47⟩ := hpo
  rw [ew47] at hP
  subst er47
  exact hq _ _ (some (R 2)) _ _ _ _ _ dX4_asked_50 hP hS (by exact ⟨rfl, asked_eq _ _ _ _ _ _ _ _ _⟩) (by decide) (by decide)
set_option maxHeartbeats 4000000 in
theorem c_X4_joyOfAll_then (G : GG) (l : Launch) (o : Nat) (R : Nat → Nat) (tx : Nat) (u : MS) : CIs G l yX4_joyOfAll cX4_joyOfAll 6 .int 2 24 [.ref (R 4)] (PwS G o R tx u) (sumJ (u.2.1 50) 16) := by
  refine CIs.mk RX4 pnX4 rfl (rfl) (Nat.le_of_ble_eq_true rfl) (fun pg en Rm sg mm ar bw mth cd QQ ls hC hRm hK hX hl hq => ?_)
  have hx := hC.1; have hb := hC.2.1; have ho := hC.2.2.2.1; have hts := hC.2.2.2.2
  have hP : PwS G o R tx u sg.heap := hX
  have hl : lv_has ls 6 [(0, .ref (R 4))] := hl
  refine lv_iconst (v := 0) hx hb dX4_joyOfAll_0 (by decide) ?_
  refine lv_istore_n (lv' := [(1, .int 0), (0, .ref (R 4))]) hx hb dX4_joyOfAll_1 rfl hl (by decide) rfl (fun ls hl => ?_)
  refine lv_aload_n hx hb dX4_joyOfAll_2 rfl (lv_at hl 1 rfl) ?_
  refine S_get hC hK hP (oS_then _ _ _ _ _) clX4 in_X4 0 (by decide) (fD50 _ _ _ _) q227 dX4_joyOfAll_3 ?_
  refine lv_astore_n (lv' := [(2, .ref (R 50)), (1, .int 0), (0, .ref (R 4))]) hx hb dX4_joyOfAll_6 rfl hl (by decide) rfl (fun ls hl => ?_)
  refine lv_aload_n hx hb dX4_joyOfAll_7 rfl (lv_at hl 0 rfl) ?_
  refine S_alen hC hK hP (aS50 _ _ _ _ _) dX4_joyOfAll_8 ?_
  refine lv_istore_n (lv' := [(3, .int 16), (2, .ref (R 50)), (1, .int 0), (0, .ref (R 4))]) hx hb dX4_joyOfAll_9 rfl hl (by decide) rfl (fun ls hl => ?_)
  refine lv_iconst (v := 0) hx hb dX4_joyOfAll_10 (by decide) ?_
  refine lv_istore (lv' := [(4, .int 0), (3, .int 16), (2, .ref (R 50)), (1, .int 0), (0, .ref (R 4))]) hx hb dX4_joyOfAll_11 hl (by decide) rfl (fun ls hl => ?_)
  have LP13 : ∀ (fu13 : Nat) (k : Nat) (su : Int32) (ls : Array Slot), 16 - k < fu13 → k ≤ 16 → su = sumJ (u.2.1 50) k → lv_has ls 6 [(0, .ref (R 4)), (1, .int su), (2, .ref (R 50)), (3, .int 16), (4, .int (nI k))] → W pg l en Rm sg mm ar bw mth cd sg.heap [] 0 0 QQ (F0 mm 13 ls []) := by
    intro fu13
    induction fu13 with
    | zero => intro k su ls hm13 hk hsu hl; exact absurd hm13 (Nat.not_lt_zero _)
    | succ fu13 ih13 =>
      intro k su ls hm13 hk hsu hl
      refine lv_iload hx hb dX4_joyOfAll_13 (lv_at hl 4 rfl) ?_
      refine lv_iload_n hx hb dX4_joyOfAll_15 rfl (lv_at hl 3 rfl) ?_
      refine lv_icmp_ge (tgt := 36) hx hb dX4_joyOfAll_16 (by decide) (fun c16 => ?_) (fun c16 => ?_)
      · have c16 : 16 ≤ k := (nI_leI (a := 16) (b := k) (by omega) (by omega)).mp c16
        refine lv_iload_n hx hb dX4_joyOfAll_36 rfl (lv_at hl 1 rfl) ?_
        exact hq _ _ _ dX4_joyOfAll_37 (by have hfin : k = 16 := (by omega); subst hfin; exact hsu)
      · have c16 : ¬ (16 ≤ k) := mt (nI_leI (a := 16) (b := k) (by omega) (by omega)).mpr c16
        refine lv_aload_n hx hb dX4_joyOfAll_19 rfl (lv_at hl 2 rfl) ?_
        refine lv_iload hx hb dX4_joyOfAll_20 (lv_at hl 4 rfl) ?_
        refine S_ald hC hK hP (aS50 _ _ _ _ _) (j := k) (by decide) (rfl) (by omega) dX4_joyOfAll_22 ?_
        refine lv_istore (lv' := [(5, .int (u.2.1 50 k)), (0, .ref (R 4)), (1, .int su), (2, .ref (R 50)), (3, .int 16), (4, .int (nI k))]) hx hb dX4_joyOfAll_23 hl (by decide) rfl (fun ls hl => ?_)
        refine lv_iload_n hx hb dX4_joyOfAll_25 rfl (lv_at hl 2 rfl) ?_
        refine lv_iload hx hb dX4_joyOfAll_26 (lv_at hl 0 rfl) ?_
        refine lv_iadd hx hb dX4_joyOfAll_28 ?_
        refine lv_istore_n (lv' := [(1, .int (su + (u.2.1 50 k))), (5, .int (u.2.1 50 k)), (0, .ref (R 4)), (2, .ref (R 50)), (3, .int 16), (4, .int (nI k))]) hx hb dX4_joyOfAll_29 rfl hl (by decide) rfl (fun ls hl => ?_)
        refine lv_iinc (v := (nI (k + 1))) (lv' := [(4, .int (nI (k + 1))), (1, .int (su + (u.2.1 50 k))), (5, .int (u.2.1 50 k)), (0, .ref (R 4)), (2, .ref (R 50)), (3, .int 16)]) hx hb dX4_joyOfAll_30 hl (k := 5) rfl (nI_inc k) (by decide) rfl (fun ls hl => ?_)
        refine lv_goto (tgt := 13) hx hb dX4_joyOfAll_33 (by decide) ?_
        exact ih13 (k + 1) (su + (u.2.1 50 k)) ls (by omega) (by first | omega | assumption | rfl | (simp_all; done) | grind) (by rw [hsu]; rfl)  (lv_sub hl [3, 1, 4, 5, 0] rfl)
  exact LP13 _ 0 0 ls (Nat.lt_succ_self _) (by first | omega | assumption | rfl | (simp_all; done) | grind) (rfl)  (lv_sub hl [4, 3, 2, 1, 0] rfl)
set_option maxHeartbeats 4000000 in
theorem c_X0_check (G : GG) (l : Launch) (o : Nat) (R : Nat → Nat) (tx : Nat) (u : MS) (n0 : Int32) (hjb : JB (u.2.1 40)) (hD : DwS o R) : CXi G l (PwS G o R tx) (AwS o R) yX0_check cX0_check 3 .int 3 46 0 0 [.ref o, .int n0] (PwS G o R tx u) (fun r w => r = (checkI (u.1 24) (u.2.1 40) (u.2.1 6) (u.1 8) n0) ∧ w = (if chkG (u.1 8) n0 = true then mV u 8 0 else u)) := by
  refine CXi.mk RX0 pnX0 rfl (Nat.le_of_ble_eq_true rfl) (fun pg en Rm sg mm ar bw mth cd QQ ls hC hRm hK hX hS hl hq => ?_)
  have hx := hC.1; have hb := hC.2.1; have ho := hC.2.2.2.1; have hts := hC.2.2.2.2
  have hP : PwS G o R tx u sg.heap := hX
  have hl : lv_has ls 3 [(0, .ref o), (1, .int n0)] := hl
  refine lv_iload_n hx hb dX0_check_0 rfl (lv_at hl 1 rfl) ?_
  refine lv_iconst (v := 0) hx hb dX0_check_1 (by decide) ?_
  refine lv_bipush (v := 16) hx hb dX0_check_2 (by decide) ?_
  refine CIs.go (rcS hC hl (c_X0_within G l n0 0 16 ) hK trivial q385 q386 q110 q387 mdX0_within (room_s hRm rfl) rfl rfl dX0_check_4) ?_
  refine lv_if_eq (tgt := 18) hx hb dX0_check_7 (by decide) (fun c7 => ?_) (fun c7 => ?_)
  · have c7 : (inB n0 0 16) = false := bI_0.mp c7
    refine lv_bipush (v := (-2)) hx hb dX0_check_18 (by decide) ?_
    exact hq _ _ _ _ _ _ _ _ dX0_check_20 hP hS (rfl) (by exact ⟨by first | (simp [checkI, chkG, c7]; done) | (simp [checkI, chkG, c7, c15]; done), by first | (simp [chkG, c7]; done) | (simp [chkG, c7, c15]; done)⟩) (by decide) (by decide)
  · have c7 : (inB n0 0 16) = true := bI_1.mp c7
    obtain ⟨n, hn1, hn, rfl, hnx⟩ := inB_nI2 0 16 (by decide) (by decide) c7
    have hl : lv_has ls 3 [(0, .ref o), (1, .int (nI n))] := hl
    refine lv_iload_n hx hb dX0_check_10 rfl (lv_at hl 1 rfl) ?_
    refine lv_aload_n hx hb dX0_check_11 rfl (lv_at hl 0 rfl) ?_
    refine S_get (v := .int (u.1 8)) hC hK hP (oS_main _ _ _ _ _) clX0 in_X0 8 (by decide) (fD8 _ _ _ _) q305 dX0_check_12 ?_
    refine lv_icmp_le (tgt := 21) hx hb dX0_check_15 (by decide) (fun c15 => ?_) (fun c15 => ?_)
    · refine lv_aload_n hx hb dX0_check_21 rfl (lv_at hl 0 rfl) ?_
      refine lv_iconst (v := 0) hx hb dX0_check_22 (by decide) ?_
      refine S_put hC hK hP (hD _ _ _) hS (oS_main _ _ _ _ _) clX0 in_X0 tyX0_ok nmX0 8 (by decide) (pS8 _ _ _ _ _ _) q305 rfl rfl rfl rfl (Nat.le_of_ble_eq_true rfl) dX0_check_23 (fun H locs hP hS => ?_)
      refine lv_iconst (v := 0) hx hb dX0_check_26 (by decide) ?_
      refine lv_istore_n (lv' := [(2, .int 0), (0, .ref o), (1, .int (nI n))]) hx hb dX0_check_27 rfl hl (by decide) rfl (fun ls hl => ?_)
      have LP28 : ∀ (fu28 : Nat) (k : Nat) (ls : Array Slot), n - k < fu28 → k ≤ n → missS (chkC (u.1 24) (u.2.1 40) (fun k => nI (ocN (u.2.1 6) k))) n 0 = missS (chkC (u.1 24) (u.2.1 40) (fun k => nI (ocN (u.2.1 6) k))) (n - k) k → lv_has ls 3 [(0, .ref o), (1, .int (nI n)), (2, .int (nI k))] → W pg l en Rm sg mm ar bw mth cd H locs 0 0 QQ (F0 mm 28 ls []) := by
        intro fu28
        induction fu28 with
        | zero => intro k ls hm28 hk hm hl; exact absurd hm28 (Nat.not_lt_zero _)
        | succ fu28 ih28 =>
          intro k ls hm28 hk hm hl
          refine lv_iload_n hx hb dX0_check_28 rfl (lv_at hl 2 rfl) ?_
          refine lv_iload_n hx hb dX0_check_29 rfl (lv_at hl 1 rfl) ?_
          refine lv_icmp_ge (tgt := 79) hx hb dX0_check_30 (by decide) (fun c30 => ?_) (fun c30 => ?_)
          · have c30 : n ≤ k := (nI_leI (a := n) (b := k) (by first | omega | exact ocN_b _ _ | exact hbN_b _ _ _) (by first | omega | exact ocN_b _ _ | exact hbN_b _ _ _)).mp c30
            refine lv_iconst (v := (-1)) hx hb dX0_check_79 (by decide) ?_
            exact hq _ _ _ _ _ _ _ _ dX0_check_80 hP hS (rfl) (by have hg : chkG (u.1 8) (nI n) = true := (by simp [chkG, c7, c15]); exact ⟨by rw [checkI, if_pos hg, hnx, hm, missS_e (by omega)], by rw [if_pos hg]⟩) (by decide) (by decide)
          · have c30 : ¬ (n ≤ k) := mt (nI_leI (a := n) (b := k) (by first | omega | exact ocN_b _ _ | exact hbN_b _ _ _) (by first | omega | exact ocN_b _ _ | exact hbN_b _ _ _)).mpr c30
            refine lv_aload_n hx hb dX0_check_33 rfl (lv_at hl 0 rfl) ?_
            refine lv_iload_n hx hb dX0_check_34 rfl (lv_at hl 2 rfl) ?_
            refine CIs.go (rcV hC hl (c_X0_fed G l o R tx (mV u 8 0) k (by first | assumption | omega | rfl | (simp_all; done))) hK hP (va_recv hK.1 hP clX0 (oS_main _ _ _ _ _)) q1084 q1086 qs35 q110 q1087 mdX0_fed (room_s hRm rfl) rfl rfl dX0_check_35) ?_
            refine W_top (y := (nI (ocN (u.2.1 6) k))) rfl ?_
            refine lv_aload_n hx hb dX0_check_38 rfl (lv_at hl 0 rfl) ?_
            refine S_get hC hK hP (oS_main _ _ _ _ _) clX0 in_X0 0 (by decide) (fD0 _ _ _ _) q291 dX0_check_39 ?_
            refine lv_iload_n hx hb dX0_check_42 rfl (lv_at hl 2 rfl) ?_
            refine CIs.go (rcV hC hl (c_X1_isHouse_plan G l o R tx (mV u 8 0) (nI k) ) hK hP (va_recv hK.1 hP clX1 (oS_plan _ _ _ _ _)) q369 q370 q371 q111 q372 mdX1_isHouse (room_s hRm rfl) rfl rfl dX0_check_43) ?_
            refine W_top (y := (bI (isHouseB (u.1 24) (nI k)))) rfl ?_
            refine lv_if_eq (tgt := 65) hx hb dX0_check_46 (by decide) (fun c46 => ?_) (fun c46 => ?_)
            · have c46 : (isHouseB (u.1 24) (nI k)) = false := bI_0.mp c46
              refine lv_sipush (v := 255) hx hb dX0_check_65 (by decide) ?_
              refine lv_icmp_eq (tgt := 73) hx hb dX0_check_68 (by decide) (fun c68 => ?_) (fun c68 => ?_)
              · have c68 : (ocN (u.2.1 6) k) = 255 := (nI_eq (a := (ocN (u.2.1 6) k)) (b := 255) (by first | omega | exact ocN_b _ _ | exact hbN_b _ _ _) (by first | omega | exact ocN_b _ _ | exact hbN_b _ _ _)).mp c68
                refine lv_iinc (v := (nI (k + 1))) (lv' := [(2, .int (nI (k + 1))), (0, .ref o), (1, .int (nI n))]) hx hb dX0_check_73 hl (k := 2) rfl (nI_inc k) (by decide) rfl (fun ls hl => ?_)
                refine lv_goto (tgt := 28) hx hb dX0_check_76 (by decide) ?_
                exact ih28 (k + 1) ls (by omega) (by first | omega | assumption | rfl | (simp_all; done) | grind) (by rw [hm]; exact missS_t (by omega) (by simp only [chkC, c46, if_true, decide_eq_true_eq] ; first | exact c68 | exact congrArg nI c68))  (lv_sub hl [1, 2, 0] rfl)
              · have c68 : ¬ ((ocN (u.2.1 6) k) = 255) := mt (nI_eq (a := (ocN (u.2.1 6) k)) (b := 255) (by first | omega | exact ocN_b _ _ | exact hbN_b _ _ _) (by first | omega | exact ocN_b _ _ | exact hbN_b _ _ _)).mpr c68
                refine lv_iload_n hx hb dX0_check_71 rfl (lv_at hl 2 rfl) ?_
                exact hq _ _ _ _ _ _ _ _ dX0_check_72 hP hS (rfl) (by have hg : chkG (u.1 8) (nI n) = true := (by simp [chkG, c7, c15]); exact ⟨by rw [checkI, if_pos hg, hnx, hm]; exact (missS_f (by omega) (by simp only [chkC, c46, if_true, decide_eq_true_eq]; first | exact c68 | exact fun h => c68 ((nI_eq (ocN_b _ _) (by omega)).mp h))).symm, by rw [if_pos hg]⟩) (by decide) (by decide)
            · have c46 : (isHouseB (u.1 24) (nI k)) = true := bI_1.mp c46
              refine lv_aload_n hx hb dX0_check_49 rfl (lv_at hl 0 rfl) ?_
              refine S_get hC hK hP (oS_main _ _ _ _ _) clX0 in_X0 3 (by decide) (fD3 _ _ _ _) q297 dX0_check_50 ?_
              refine S_getN hC hK hP (oS_street _ _ _ _ _) clX4 in_X4 0 (by decide) (fD40 _ _ _ _) nq228 dX0_check_53 ?_
              refine lv_iload_n hx hb dX0_check_56 rfl (lv_at hl 2 rfl) ?_
              refine S_ald hC hK hP (aS40 _ _ _ _ _) (j := k) (by decide) (rfl) (by omega) dX0_check_57 ?_
              refine W_top (y := (u.2.1 40 k)) rfl ?_
              refine lv_sipush (v := 255) hx hb dX0_check_58 (by decide) ?_
              refine lv_iand hx hb dX0_check_61 ?_
              refine W_top (y := (remI ((u.2.1 40) k) 256)) (and255 hjb (by omega)) ?_
              refine lv_goto (tgt := 68) hx hb dX0_check_62 (by decide) ?_
              refine lv_icmp_eq (tgt := 73) hx hb dX0_check_68 (by decide) (fun c68 => ?_) (fun c68 => ?_)
              · refine lv_iinc (v := (nI (k + 1))) (lv' := [(2, .int (nI (k + 1))), (0, .ref o), (1, .int (nI n))]) hx hb dX0_check_73 hl (k := 2) rfl (nI_inc k) (by decide) rfl (fun ls hl => ?_)
                refine lv_goto (tgt := 28) hx hb dX0_check_76 (by decide) ?_
                exact ih28 (k + 1) ls (by omega) (by first | omega | assumption | rfl | (simp_all; done) | grind) (by rw [hm]; exact missS_t (by omega) (by simp only [chkC, c46, if_true, decide_eq_true_eq] ; first | exact c68 | exact congrArg nI c68))  (lv_sub hl [1, 2, 0] rfl)
              · refine lv_iload_n hx hb dX0_check_71 rfl (lv_at hl 2 rfl) ?_
                exact hq _ _ _ _ _ _ _ _ dX0_check_72 hP hS (rfl) (by have hg : chkG (u.1 8) (nI n) = true := (by simp [chkG, c7, c15]); exact ⟨by rw [checkI, if_pos hg, hnx, hm]; exact (missS_f (by omega) (by simp only [chkC, c46, if_true, decide_eq_true_eq]; first | exact c68 | exact fun h => c68 ((nI_eq (ocN_b _ _) (by omega)).mp h))).symm, by rw [if_pos hg]⟩) (by decide) (by decide)
      exact LP28 _ 0 ls (Nat.lt_succ_self _) (by first | omega | assumption | rfl | (simp_all; done) | grind) (rfl)  (lv_sub hl [1, 2, 0] rfl)
    · refine lv_bipush (v := (-2)) hx hb dX0_check_18 (by decide) ?_
      exact hq _ _ _ _ _ _ _ _ dX0_check_20 hP hS (rfl) (by exact ⟨by first | (simp [checkI, chkG, c7]; done) | (simp [checkI, chkG, c7, c15]; done), by first | (simp [chkG, c7]; done) | (simp [chkG, c7, c15]; done)⟩) (by decide) (by decide)
