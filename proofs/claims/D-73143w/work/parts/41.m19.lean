set_option maxRecDepth 100000
set_option maxHeartbeats 4000000 in
theorem c_X6_days (G : GG) (l : Launch) (o : Nat) (R : Nat → Nat) (u : MS) (n0 : Int32) (Lw : LW) (hw : WOK (u.2.1 3)) (hat : atOK ((u.2.1 0) 16)) (hW : codesOK u Lw) (hN : nineW Lw) (hD : DM o R) : CMi G l o R yX6_days cX6_days 2 .int 10 202 [.int n0] u (fun r w => ∃ cn : Int32, ∃ nw : Nat → Int32, ∃ g : Nat → Int32, ∃ f : Nat → Int32, (inB n0 1 100 = true → (nw, cn) = daysS Lw (snS (u.1 9) (u.2.1 5) (u.2.1 6) (u.2.1 7) (u.2.1 4)) F00 (u.2.1 3) (ix n0) ((u.2.1 0), 0)) ∧ r = (daysI Lw (snS (u.1 9) (u.2.1 5) (u.2.1 6) (u.2.1 7) (u.2.1 4)) (u.2.1 3) (u.2.1 0) n0) ∧ w = (if inB n0 1 100 = true then dM u cn nw g f else u)) := by
  refine CMi.mk pnX6 rfl (Nat.le_of_ble_eq_true rfl) (fun pg en Rm sg mm ar bw mth cd QQ ls hC hRm hK hP hS hl hq => ?_)
  have hx := hC.1; have hb := hC.2.1; have ho := hC.2.2.2.1; have hts := hC.2.2.2.2
  have hl : lv_has ls 2 [(0, .ref o), (1, .int n0)] := hl
  refine lv_iload_n hx hb dX6_days_0 rfl (lv_at hl 1 rfl) ?_
  refine lv_iconst (v := 1) hx hb dX6_days_1 (by decide) ?_
  refine lv_bipush (v := 100) hx hb dX6_days_2 (by decide) ?_
  refine CI.callS hC hK hl (c_X6_in G l n0 1 100 ) trivial q1392 q1393 q116 q1394 mdX6_in (room_ok hRm rfl) rfl rfl dX6_days_4 ?_
  refine lv_if_ne (tgt := 12) hx hb dX6_days_7 (by decide) (fun c7 => ?_) (fun c7 => ?_)
  · have c7 : (inB n0 1 100) = true := bI_1.mp c7
    obtain ⟨n, hn1, hn, rfl, hnx⟩ := inB_nI2 1 100 (by decide) (by decide) c7
    have hl : lv_has ls 2 [(0, .ref o), (1, .int (nI n))] := hl
    refine lv_aload_n hx hb dX6_days_12 rfl (lv_at hl 0 rfl) ?_
    refine lv_iload_n hx hb dX6_days_13 rfl (lv_at hl 1 rfl) ?_
    refine CMv.call hC hK hS (fun q h => h) hl (c_X6_daysGo G l o R u n Lw (by first | assumption | omega | rfl | (simp_all; done)) (hw) (hat) (hW) (hN) hD) hP rfl q1557 q1559 qs77 q116 q1560 mdX6_daysGo (room_ok hRm rfl) rfl rfl dX6_days_14 (fun w14 H locs hpo hP _ _ hS => ?_)
    obtain ⟨g_1, f_2, ew14⟩ := hpo
    rw [ew14] at hP
    refine lv_aload_n hx hb dX6_days_17 rfl (lv_at hl 0 rfl) ?_
    refine M_get (v := .int ((dM u ((daysS Lw (snS (u.1 9) (u.2.1 5) (u.2.1 6) (u.2.1 7) (u.2.1 4)) F00 (u.2.1 3) n ((u.2.1 0), 0)).2) ((daysS Lw (snS (u.1 9) (u.2.1 5) (u.2.1 6) (u.2.1 7) (u.2.1 4)) F00 (u.2.1 3) n ((u.2.1 0), 0)).1) g_1 f_2).1 50)) hC hK hP 50 (by decide) (fM50 _ _) q1251 dX6_days_18 ?_
    refine W_top (y := (daysS Lw (snS (u.1 9) (u.2.1 5) (u.2.1 6) (u.2.1 7) (u.2.1 4)) F00 (u.2.1 3) n ((u.2.1 0), 0)).2) (by rw [dM_f50]) ?_
    exact hq _ _ _ _ _ _ dX6_days_21 hP hS (rfl) (by exact ⟨_, _, g_1, f_2, fun _ => by rw [hnx], by rw [daysI, if_pos c7, hnx], by rw [if_pos c7]⟩)
  · have c7 : (inB n0 1 100) = false := bI_0.mp c7
    refine lv_iconst (v := (-1)) hx hb dX6_days_10 (by decide) ?_
    exact hq _ _ _ _ _ _ dX6_days_11 hP hS (rfl) (by exact ⟨0, F00, F00, F00, (by intro z; rw [c7] at z; cases z), by simp [daysI, c7], by simp [c7]⟩)
