set_option maxRecDepth 100000
set_option maxHeartbeats 4000000 in
theorem c_X6_takes (G : GG) (l : Launch) (o : Nat) (R : Nat → Nat) (u : MS) (c0 : Nat) (p : Nat) (n : Nat) (hp : (u.1 12) = nI p) (hn : (u.1 13) = nI n) (hn2 : n ≤ 240) (hp2 : p < 2 ^ 30) (hc0 : c0 < 256) (hD : DM o R) : CMi G l o R yX6_takes cX6_takes 2 .boolean 3 38 [.int (nI c0)] u (fun r w => ∃ ok : Bool, ∃ pl : Int32, ∃ fa : Int32, (if ckN (u.2.1 10) n p = c0 then ok = true ∧ pl = nI (p + 1) else ok = false ∧ fa = wrI 1 p) ∧ r = (bI ok) ∧ w = (pM u pl fa (u.1 15))) := by
  refine CMi.mk pnX6 rfl (Nat.le_of_ble_eq_true rfl) (fun pg en Rm sg mm ar bw mth cd QQ ls hC hRm hK hP hS hl hq => ?_)
  have hx := hC.1; have hb := hC.2.1; have ho := hC.2.2.2.1; have hts := hC.2.2.2.2
  have hl : lv_has ls 2 [(0, .ref o), (1, .int (nI c0))] := hl
  have hP : PM G o R (pM u (u.1 12) (u.1 14) (u.1 15)) sg.heap := by rw [pM_self]; exact hP
  rw [hp] at hP
  refine lv_aload_n hx hb dX6_takes_0 rfl (lv_at hl 0 rfl) ?_
  refine CI.callV hC hK hl (c_X6_here G l o R (pM u (nI p) (u.1 14) (u.1 15)) p n (rfl) (hn) (hn2) (by omega)) hP (hP.recv hK) q1438 q1440 qs52 q116 q1441 mdX6_here (room_ok hRm rfl) rfl rfl dX6_takes_1 ?_
  refine W_top (y := (hereI (u.2.1 10) n p)) (by simp only [pM_g10]) ?_
  refine lv_iload_n hx hb dX6_takes_4 rfl (lv_at hl 1 rfl) ?_
  refine lv_icmp_eq (tgt := 18) hx hb dX6_takes_5 (by decide) (fun c5 => ?_) (fun c5 => ?_)
  · refine lv_aload_n hx hb dX6_takes_18 rfl (lv_at hl 0 rfl) ?_
    refine lv_aload_n hx hb dX6_takes_19 rfl (lv_at hl 0 rfl) ?_
    refine M_get hC hK hP 12 (by decide) (fM12 _ _) q1213 dX6_takes_20 ?_
    refine W_top (y := (nI p)) (by rw [pM_f12]) ?_
    refine lv_iconst (v := 1) hx hb dX6_takes_23 (by decide) ?_
    refine lv_iadd hx hb dX6_takes_24 ?_
    refine W_top (nI_add p 1) ?_
    refine M_put hC hK hD hP hS 12 (by decide) (sM12 _ _ _) q1213 rfl dX6_takes_25 (fun H locs hP hS => ?_)
    rw [pM_V12] at hP
    refine lv_iconst (v := 1) hx hb dX6_takes_28 (by decide) ?_
    exact hq _ _ _ _ _ _ dX6_takes_29 hP hS (by first | rfl | exact bI_nar _) (by exact ⟨true, _, _, by rw [if_pos ((hereI_eq hc0).mp c5)]; exact ⟨rfl, rfl⟩, rfl, rfl⟩)
  · refine lv_aload_n hx hb dX6_takes_8 rfl (lv_at hl 0 rfl) ?_
    refine lv_iconst (v := 1) hx hb dX6_takes_9 (by decide) ?_
    refine lv_aload_n hx hb dX6_takes_10 rfl (lv_at hl 0 rfl) ?_
    refine M_get hC hK hP 12 (by decide) (fM12 _ _) q1213 dX6_takes_11 ?_
    refine W_top (y := (nI p)) (by rw [pM_f12]) ?_
    refine CMi.call hC hK hS (fun q h => h) hl (c_X6_wrongAt G l o R (pM u (nI p) (u.1 14) (u.1 15)) 1 p  hD) hP rfl q1442 q1444 qs53 q116 q1445 mdX6_wrongAt (room_ok hRm rfl) rfl rfl dX6_takes_14 (fun r14 w14 H locs hpo hP _ _ hS => ?_)
    obtain ⟨er14, ew14⟩ := hpo
    rw [ew14] at hP
    refine W_top (y := (bI false)) er14 ?_
    rw [pM_V14] at hP
    exact hq _ _ _ _ _ _ dX6_takes_17 hP hS (by first | rfl | exact bI_nar _) (by exact ⟨false, _, _, by rw [if_neg (fun z => c5 ((hereI_eq hc0).mpr z))]; exact ⟨rfl, rfl⟩, rfl, rfl⟩)
