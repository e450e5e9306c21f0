set_option maxRecDepth 100000
set_option maxHeartbeats 4000000 in
theorem c_X6_here (G : GG) (l : Launch) (o : Nat) (R : Nat → Nat) (u : MS) (p : Nat) (n : Nat) (hp : (u.1 12) = nI p) (hn : (u.1 13) = nI n) (hn2 : n ≤ 240) (hp2 : p < 2 ^ 30) : CI G l yX6_here cX6_here 1 .int 2 16 [.ref o] (PM G o R u) (hereI (u.2.1 10) n p) := by
  refine CI.mk RX6 pnX6 rfl (rfl) (Nat.le_of_ble_eq_true rfl) (fun pg en Rm sg mm ar bw mth cd QQ ls hC hRm hK hP hl hq => ?_)
  have hx := hC.1; have hb := hC.2.1; have ho := hC.2.2.2.1; have hts := hC.2.2.2.2
  have hl : lv_has ls 1 [(0, .ref o)] := hl
  refine lv_aload_n hx hb dX6_here_0 rfl (lv_at hl 0 rfl) ?_
  refine M_get (v := .int (u.1 12)) hC hK hP 12 (by decide) (fM12 _ _) q1213 dX6_here_1 ?_
  refine W_top hp ?_
  refine lv_aload_n hx hb dX6_here_4 rfl (lv_at hl 0 rfl) ?_
  refine M_get (v := .int (u.1 13)) hC hK hP 13 (by decide) (fM13 _ _) q1214 dX6_here_5 ?_
  refine W_top hn ?_
  refine lv_icmp_ge (tgt := 27) hx hb dX6_here_8 (by decide) (fun c8 => ?_) (fun c8 => ?_)
  · have c8 : n ≤ p := (nI_leI (a := n) (b := p) (by omega) (by omega)).mp c8
    refine lv_iconst (v := (-1)) hx hb dX6_here_27 (by decide) ?_
    exact hq _ _ _ dX6_here_28 (by first | (rw [hereI_t (by omega)]; exact pk_and _ 8 (by decide)) | (rw [hereI_f (by omega)]))
  · have c8 : ¬ (n ≤ p) := mt (nI_leI (a := n) (b := p) (by omega) (by omega)).mpr c8
    refine lv_aload_n hx hb dX6_here_11 rfl (lv_at hl 0 rfl) ?_
    refine M_get hC hK hP 10 (by decide) (fM10 _ _) q1211 dX6_here_12 ?_
    refine lv_aload_n hx hb dX6_here_15 rfl (lv_at hl 0 rfl) ?_
    refine M_get (v := .int (u.1 12)) hC hK hP 12 (by decide) (fM12 _ _) q1213 dX6_here_16 ?_
    refine W_top hp ?_
    refine M_bald hC hK hP 10 9 260 p (aM10 _ _ _ _) (by decide) (rfl) (by omega) dX6_here_19 ?_
    refine lv_sipush (v := 255) hx hb dX6_here_20 (by decide) ?_
    refine lv_iand hx hb dX6_here_23 ?_
    refine lv_goto (tgt := 28) hx hb dX6_here_24 (by decide) ?_
    exact hq _ _ _ dX6_here_28 (by first | (rw [hereI_t (by omega)]; exact pk_and _ 8 (by decide)) | (rw [hereI_f (by omega)]))
set_option maxHeartbeats 4000000 in
theorem c_X6_isDigit (G : GG) (l : Launch) (o : Nat) (R : Nat → Nat) (u : MS) (p : Nat) (n : Nat) (hp : (u.1 12) = nI p) (hn : (u.1 13) = nI n) (hn2 : n ≤ 240) (hp2 : p < 2 ^ 30) : CI G l yX6_isDigit cX6_isDigit 1 .boolean 3 36 [.ref o] (PM G o R u) (bI (digB (u.2.1 10) n p)) := by
  refine CI.mk RX6 pnX6 rfl (bI_nar _) (Nat.le_of_ble_eq_true rfl) (fun pg en Rm sg mm ar bw mth cd QQ ls hC hRm hK hP hl hq => ?_)
  have hx := hC.1; have hb := hC.2.1; have ho := hC.2.2.2.1; have hts := hC.2.2.2.2
  have hl : lv_has ls 1 [(0, .ref o)] := hl
  refine lv_aload_n hx hb dX6_isDigit_0 rfl (lv_at hl 0 rfl) ?_
  refine CI.callV hC hK hl (c_X6_here G l o R u p n (by first | assumption | omega | rfl | (simp_all; done)) (by first | assumption | omega | rfl | (simp_all; done)) (by first | assumption | omega | rfl | (simp_all; done)) (by first | assumption | omega | rfl | (simp_all; done))) hP (hP.recv hK) q1438 q1440 qs52 q116 q1441 mdX6_here (room_ok hRm rfl) rfl rfl dX6_isDigit_1 ?_
  refine lv_bipush (v := 48) hx hb dX6_isDigit_4 (by decide) ?_
  refine lv_icmp_lt (tgt := 22) hx hb dX6_isDigit_6 (by decide) (fun c6 => ?_) (fun c6 => ?_)
  · refine lv_iconst (v := 0) hx hb dX6_isDigit_22 (by decide) ?_
    exact hq _ _ _ dX6_isDigit_23 (by rw [digB_here]; grind [bI])
  · refine lv_aload_n hx hb dX6_isDigit_9 rfl (lv_at hl 0 rfl) ?_
    refine CI.callV hC hK hl (c_X6_here G l o R u p n (by first | assumption | omega | rfl | (simp_all; done)) (by first | assumption | omega | rfl | (simp_all; done)) (by first | assumption | omega | rfl | (simp_all; done)) (by first | assumption | omega | rfl | (simp_all; done))) hP (hP.recv hK) q1438 q1440 qs52 q116 q1441 mdX6_here (room_ok hRm rfl) rfl rfl dX6_isDigit_10 ?_
    refine lv_bipush (v := 57) hx hb dX6_isDigit_13 (by decide) ?_
    refine lv_icmp_gt (tgt := 22) hx hb dX6_isDigit_15 (by decide) (fun c15 => ?_) (fun c15 => ?_)
    · refine lv_iconst (v := 0) hx hb dX6_isDigit_22 (by decide) ?_
      exact hq _ _ _ dX6_isDigit_23 (by rw [digB_here]; grind [bI])
    · refine lv_iconst (v := 1) hx hb dX6_isDigit_18 (by decide) ?_
      refine lv_goto (tgt := 23) hx hb dX6_isDigit_19 (by decide) ?_
      exact hq _ _ _ dX6_isDigit_23 (by rw [digB_here]; grind [bI])
set_option maxHeartbeats 4000000 in
theorem c_X6_wrongAt (G : GG) (l : Launch) (o : Nat) (R : Nat → Nat) (u : MS) (k : Nat) (q : Nat) (hD : DM o R) : CMi G l o R yX6_wrongAt cX6_wrongAt 3 .boolean 2 16 [.int (nI k), .int (nI q)] u (fun r w => r = (bI false) ∧ w = (mV u 14 (wrI k q))) := by
  refine CMi.mk pnX6 rfl (Nat.le_of_ble_eq_true rfl) (fun pg en Rm sg mm ar bw mth cd QQ ls hC hRm hK hP hS hl hq => ?_)
  have hx := hC.1; have hb := hC.2.1; have ho := hC.2.2.2.1; have hts := hC.2.2.2.2
  have hl : lv_has ls 3 [(0, .ref o), (1, .int (nI k)), (2, .int (nI q))] := hl
  refine lv_aload_n hx hb dX6_wrongAt_0 rfl (lv_at hl 0 rfl) ?_
  refine lv_sipush (v := (-1000)) hx hb dX6_wrongAt_1 (by decide) ?_
  refine lv_iload_n hx hb dX6_wrongAt_4 rfl (lv_at hl 1 rfl) ?_
  refine lv_imul hx hb dX6_wrongAt_5 ?_
  refine lv_iload_n hx hb dX6_wrongAt_6 rfl (lv_at hl 2 rfl) ?_
  refine lv_isub hx hb dX6_wrongAt_7 ?_
  refine M_put hC hK hD hP hS 14 (by decide) (sM14 _ _ _) q1215 rfl dX6_wrongAt_8 (fun H locs hP hS => ?_)
  refine lv_iconst (v := 0) hx hb dX6_wrongAt_11 (by decide) ?_
  exact hq _ _ _ _ _ _ dX6_wrongAt_12 hP hS (by first | rfl | exact bI_nar _) (by exact ⟨rfl, rfl⟩)
set_option maxHeartbeats 4000000 in
theorem c_X6_beginsText (G : GG) (l : Launch) (o : Nat) (R : Nat → Nat) (u : MS) (n : Nat) (hD : DM o R) : CMv G l o R yX6_beginsText cX6_beginsText 2 2 16 [.int (nI n)] u (fun w => w = (mV (mV (mV (mV u 12 0) 13 (nI n)) 17 0) 19 0)) := by
  refine CMv.mk pnX6 rfl (Nat.le_of_ble_eq_true rfl) (fun pg en Rm sg mm ar bw mth cd QQ ls hC hRm hK hP hS hl hq => ?_)
  have hx := hC.1; have hb := hC.2.1; have ho := hC.2.2.2.1; have hts := hC.2.2.2.2
  have hl : lv_has ls 2 [(0, .ref o), (1, .int (nI n))] := hl
  refine lv_aload_n hx hb dX6_beginsText_0 rfl (lv_at hl 0 rfl) ?_
  refine lv_iconst (v := 0) hx hb dX6_beginsText_1 (by decide) ?_
  refine M_put hC hK hD hP hS 12 (by decide) (sM12 _ _ _) q1213 rfl dX6_beginsText_2 (fun H locs hP hS => ?_)
  refine lv_aload_n hx hb dX6_beginsText_5 rfl (lv_at hl 0 rfl) ?_
  refine lv_iload_n hx hb dX6_beginsText_6 rfl (lv_at hl 1 rfl) ?_
  refine M_put hC hK hD hP hS 13 (by decide) (sM13 _ _ _) q1214 rfl dX6_beginsText_7 (fun H locs hP hS => ?_)
  refine lv_aload_n hx hb dX6_beginsText_10 rfl (lv_at hl 0 rfl) ?_
  refine lv_iconst (v := 0) hx hb dX6_beginsText_11 (by decide) ?_
  refine M_put hC hK hD hP hS 17 (by decide) (sM17 _ _ _) q1218 rfl dX6_beginsText_12 (fun H locs hP hS => ?_)
  refine lv_aload_n hx hb dX6_beginsText_15 rfl (lv_at hl 0 rfl) ?_
  refine lv_iconst (v := 0) hx hb dX6_beginsText_16 (by decide) ?_
  refine M_put hC hK hD hP hS 19 (by decide) (sM19 _ _ _) q1220 rfl dX6_beginsText_17 (fun H locs hP hS => ?_)
  exact hq _ _ _ _ _ dX6_beginsText_20 hP hS (by exact rfl)
