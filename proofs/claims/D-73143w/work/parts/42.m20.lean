set_option maxRecDepth 100000
set_option maxHeartbeats 4000000 in
theorem c_X6_tried (G : GG) (l : Launch) (o : Nat) (R : Nat → Nat) (u : MS) (n0 : Int32) (k0 : Int32) (Lw : LW) (hw : WOK (u.2.1 3)) (hat : atOK ((u.2.1 0) 16)) (hW : codesOK u Lw) (hN : nineW Lw) (hD : DM o R) : CMi G l o R yX6_tried cX6_tried 4 .int 10 202 [.int n0, .int k0] u (fun r w => ∃ cn : Int32, ∃ nw : Nat → Int32, ∃ asd : Nat → Int32, ∃ g : Nat → Int32, ∃ f : Nat → Int32, (∀ t, t < 21 → nw t = (u.2.1 0) t) ∧ r = (triedI Lw (snS (u.1 9) (u.2.1 5) (u.2.1 6) (u.2.1 7) (u.2.1 4)) (u.1 8) (u.2.1 3) (u.2.1 0) n0 k0) ∧ w = (if triedG (u.1 8) n0 k0 = true then mS (dM u cn nw g f) 1 asd else u)) := by
  refine CMi.mk pnX6 rfl (Nat.le_of_ble_eq_true rfl) (fun pg en Rm sg mm ar bw mth cd QQ ls hC hRm hK hP hS hl hq => ?_)
  have hx := hC.1; have hb := hC.2.1; have ho := hC.2.2.2.1; have hts := hC.2.2.2.2
  have hl : lv_has ls 4 [(0, .ref o), (1, .int n0), (2, .int k0)] := hl
  refine lv_iload_n hx hb dX6_tried_0 rfl (lv_at hl 1 rfl) ?_
  refine lv_iconst (v := 1) hx hb dX6_tried_1 (by decide) ?_
  refine lv_bipush (v := 100) hx hb dX6_tried_2 (by decide) ?_
  refine CI.callS hC hK hl (c_X6_in G l n0 1 100 ) trivial q1392 q1393 q116 q1394 mdX6_in (room_ok hRm rfl) rfl rfl dX6_tried_4 ?_
  refine lv_if_eq (tgt := 30) hx hb dX6_tried_7 (by decide) (fun c7 => ?_) (fun c7 => ?_)
  · have c7 : (inB n0 1 100) = false := bI_0.mp c7
    refine lv_iconst (v := (-1)) hx hb dX6_tried_30 (by decide) ?_
    exact hq _ _ _ _ _ _ dX6_tried_31 hP hS (rfl) (by exact ⟨0, (u.2.1 0), F00, F00, F00, fun _ _ => rfl, by first | (simp [triedI, triedG, c7]; done) | (simp [triedI, triedG, c7, c16, c27]; done), by first | (simp [triedG, c7]; done) | (simp [triedG, c7, c16, c27]; done)⟩)
  · have c7 : (inB n0 1 100) = true := bI_1.mp c7
    obtain ⟨n, hn1, hn, rfl, hnx⟩ := inB_nI2 1 100 (by decide) (by decide) c7
    have hl : lv_has ls 4 [(0, .ref o), (1, .int (nI n)), (2, .int k0)] := hl
    refine lv_iload_n hx hb dX6_tried_10 rfl (lv_at hl 2 rfl) ?_
    refine lv_iconst (v := 0) hx hb dX6_tried_11 (by decide) ?_
    refine lv_iconst (v := 3) hx hb dX6_tried_12 (by decide) ?_
    refine CI.callS hC hK hl (c_X6_in G l k0 0 3 ) trivial q1392 q1393 q116 q1394 mdX6_in (room_ok hRm rfl) rfl rfl dX6_tried_13 ?_
    refine lv_if_ne (tgt := 32) hx hb dX6_tried_16 (by decide) (fun c16 => ?_) (fun c16 => ?_)
    · have c16 : (inB k0 0 3) = true := bI_1.mp c16
      refine lv_aload_n hx hb dX6_tried_32 rfl (lv_at hl 0 rfl) ?_
      refine M_get hC hK hP 0 (by decide) (fM0 _ _) q1201 dX6_tried_33 ?_
      refine lv_aload_n hx hb dX6_tried_36 rfl (lv_at hl 0 rfl) ?_
      refine M_get hC hK hP 1 (by decide) (fM1 _ _) q1202 dX6_tried_37 ?_
      refine CSv.call hC hK hS (fun q h => h) hl (c_X6_copies_now_aside G l o R u   hD) hP q1606 q1607 q116 q1608 mdX6_copies (room_ok hRm rfl) rfl rfl dX6_tried_40 (fun w40 H locs hpo hP _ _ hS => ?_)
      have ew40 := hpo
      rw [ew40] at hP
      refine lv_aload_n hx hb dX6_tried_43 rfl (lv_at hl 0 rfl) ?_
      refine lv_iload_n hx hb dX6_tried_44 rfl (lv_at hl 1 rfl) ?_
      refine CMv.call hC hK hS (fun q h => h) hl (c_X6_daysGo G l o R (mC u 0 1 21) n Lw (by first | assumption | omega | rfl | (simp_all; done)) (hw) (hat) (codesOK_mC (by decide) hW) (hN) hD) hP rfl q1557 q1559 qs77 q116 q1560 mdX6_daysGo (room_ok hRm rfl) rfl rfl dX6_tried_45 (fun w45 H locs hpo hP _ _ hS => ?_)
      obtain ⟨g_1, f_2, ew45⟩ := hpo
      rw [ew45] at hP
      obtain ⟨q, hqe⟩ : ∃ q, daysS Lw (snS (u.1 9) (u.2.1 5) (u.2.1 6) (u.2.1 7) (u.2.1 4)) F00 (u.2.1 3) n ((u.2.1 0), 0) = q := ⟨_, rfl⟩
      have hP : PM G o R (dM (mC u 0 1 21) q.2 q.1 g_1 f_2) H := by rw [← hqe]; exact hP
      have hor : inB k0 0 3 = true ∨ isHouseB (u.1 8) (k0 - 10) = true := by first | exact Or.inl c16 | exact Or.inr c27
      have JN133 : ∀ (v : Int32) (ls : Array Slot), v = triedV (u.1 8) q k0 → lv_has ls 4 [(0, .ref o), (1, .int (nI n)), (2, .int k0), (3, .int v)] → W pg l en Rm sg mm ar bw mth cd H locs 0 0 QQ (F0 mm 133 ls []) := by
        intro v ls hv hl
        refine lv_aload_n hx hb dX6_tried_133 rfl (lv_at hl 0 rfl) ?_
        refine M_get hC hK hP 1 (by decide) (fM1 _ _) q1202 dX6_tried_134 ?_
        refine lv_aload_n hx hb dX6_tried_137 rfl (lv_at hl 0 rfl) ?_
        refine M_get hC hK hP 0 (by decide) (fM0 _ _) q1201 dX6_tried_138 ?_
        refine CSv.call hC hK hS (fun q h => h) hl (c_X6_copies_aside_now G l o R (dM (mC u 0 1 21) q.2 q.1 g_1 f_2)   hD) hP q1606 q1607 q116 q1608 mdX6_copies (room_ok hRm rfl) rfl rfl dX6_tried_141 (fun w141 H locs hpo hP _ _ hS => ?_)
        have ew141 := hpo
        rw [ew141] at hP
        refine lv_iload_n hx hb dX6_tried_144 rfl (lv_at hl 3 rfl) ?_
        exact hq _ _ _ _ _ _ dX6_tried_145 hP hS (rfl) (by first | (have hg : triedG (u.1 8) (nI n) k0 = true := (by first | (simp [triedG, c7, c16]; done) | (simp [triedG, c7, c27]; done)); exact ⟨q.2, _, _, g_1, f_2, fun t ht => if_pos ht, by rw [triedI, if_pos hg, hnx, hqe]; exact hv, by rw [if_pos hg]; exact mC_back⟩) | (have hg : triedG (u.1 8) (nI n) k0 = true := (by first | (simp [triedG, c7, c16]; done) | (simp [triedG, c7, c27]; done)); exact ⟨q.2, _, _, g_2, f_3, fun t ht => if_pos ht, by rw [triedI, if_pos hg, hnx, hqe]; exact hv, by rw [if_pos hg]; exact mC_back⟩) | (have hg : triedG (u.1 8) (nI n) k0 = true := (by first | (simp [triedG, c7, c16]; done) | (simp [triedG, c7, c27]; done)); exact ⟨q.2, _, _, g_3, f_4, fun t ht => if_pos ht, by rw [triedI, if_pos hg, hnx, hqe]; exact hv, by rw [if_pos hg]; exact mC_back⟩) | (have hg : triedG (u.1 8) (nI n) k0 = true := (by first | (simp [triedG, c7, c16]; done) | (simp [triedG, c7, c27]; done)); exact ⟨q.2, _, _, g_4, f_5, fun t ht => if_pos ht, by rw [triedI, if_pos hg, hnx, hqe]; exact hv, by rw [if_pos hg]; exact mC_back⟩) | (have hg : triedG (u.1 8) (nI n) k0 = true := (by first | (simp [triedG, c7, c16]; done) | (simp [triedG, c7, c27]; done)); exact ⟨q.2, _, _, g_5, f_6, fun t ht => if_pos ht, by rw [triedI, if_pos hg, hnx, hqe]; exact hv, by rw [if_pos hg]; exact mC_back⟩) | (have hg : triedG (u.1 8) (nI n) k0 = true := (by first | (simp [triedG, c7, c16]; done) | (simp [triedG, c7, c27]; done)); exact ⟨q.2, _, _, g_6, f_7, fun t ht => if_pos ht, by rw [triedI, if_pos hg, hnx, hqe]; exact hv, by rw [if_pos hg]; exact mC_back⟩) | (have hg : triedG (u.1 8) (nI n) k0 = true := (by first | (simp [triedG, c7, c16]; done) | (simp [triedG, c7, c27]; done)); exact ⟨q.2, _, _, g_7, f_8, fun t ht => if_pos ht, by rw [triedI, if_pos hg, hnx, hqe]; exact hv, by rw [if_pos hg]; exact mC_back⟩) | (have hg : triedG (u.1 8) (nI n) k0 = true := (by first | (simp [triedG, c7, c16]; done) | (simp [triedG, c7, c27]; done)); exact ⟨q.2, _, _, g_8, f_9, fun t ht => if_pos ht, by rw [triedI, if_pos hg, hnx, hqe]; exact hv, by rw [if_pos hg]; exact mC_back⟩) | (have hg : triedG (u.1 8) (nI n) k0 = true := (by first | (simp [triedG, c7, c16]; done) | (simp [triedG, c7, c27]; done)); exact ⟨q.2, _, _, g_9, f_10, fun t ht => if_pos ht, by rw [triedI, if_pos hg, hnx, hqe]; exact hv, by rw [if_pos hg]; exact mC_back⟩))
      refine lv_iload_n hx hb dX6_tried_48 rfl (lv_at hl 2 rfl) ?_
      by_cases s49_0 : k0 = 0
      · refine lv_tableIn (tgt := 80) hx hb dX6_tried_49 (by rw [s49_0]; decide) (by rw [s49_0]; decide) (by rw [s49_0]; rfl) (by decide) ?_
        refine lv_aload_n hx hb dX6_tried_80 rfl (lv_at hl 0 rfl) ?_
        refine M_get (v := .int ((dM (mC u 0 1 21) q.2 q.1 g_1 f_2).1 50)) hC hK hP 50 (by decide) (fM50 _ _) q1251 dX6_tried_81 ?_
        refine W_top (y := q.2) (by rw [dM_f50]) ?_
        refine lv_istore_n (lv' := [(3, .int q.2), (0, .ref o), (1, .int (nI n)), (2, .int k0)]) hx hb dX6_tried_84 rfl hl (by decide) rfl (fun ls hl => ?_)
        refine lv_goto (tgt := 133) hx hb dX6_tried_85 (by decide) ?_
        exact JN133 q.2 ls (by unfold triedV; first | (rw [if_pos s49_0]; done) | (rw [if_neg s49_0, if_pos s49_1]; done) | (rw [if_neg s49_0, if_neg s49_1, if_pos s49_2]; done) | (rw [if_neg s49_0, if_neg s49_1, if_neg s49_2, if_pos s49_3]; done) | (rw [if_neg s49_0, if_neg s49_1, if_neg s49_2, if_neg s49_3]; done))  (lv_sub hl [1, 2, 3, 0] rfl)
      by_cases s49_1 : k0 = 1
      · refine lv_tableIn (tgt := 88) hx hb dX6_tried_49 (by rw [s49_1]; decide) (by rw [s49_1]; decide) (by rw [s49_1]; rfl) (by decide) ?_
        refine lv_aload_n hx hb dX6_tried_88 rfl (lv_at hl 0 rfl) ?_
        refine M_get hC hK hP 0 (by decide) (fM0 _ _) q1201 dX6_tried_89 ?_
        refine lv_bipush (v := 16) hx hb dX6_tried_92 (by decide) ?_
        refine M_ald hC hK hP 0 1 21 16 (aM0 _ _ _ _) (by decide) (by decide) (by omega) dX6_tried_94 ?_
        refine W_top (y := (q.1 16)) (by rw [dM_g0]) ?_
        refine CI.callS hC hK hl (c_X6_orNone G l (q.1 16) ) trivial q1609 q1610 q116 q1611 mdX6_orNone (room_ok hRm rfl) rfl rfl dX6_tried_95 ?_
        refine lv_istore_n (lv' := [(3, .int (orNoneS (q.1 16))), (0, .ref o), (1, .int (nI n)), (2, .int k0)]) hx hb dX6_tried_98 rfl hl (by decide) rfl (fun ls hl => ?_)
        refine lv_goto (tgt := 133) hx hb dX6_tried_99 (by decide) ?_
        exact JN133 (orNoneS (q.1 16)) ls (by unfold triedV; first | (rw [if_pos s49_0]; done) | (rw [if_neg s49_0, if_pos s49_1]; done) | (rw [if_neg s49_0, if_neg s49_1, if_pos s49_2]; done) | (rw [if_neg s49_0, if_neg s49_1, if_neg s49_2, if_pos s49_3]; done) | (rw [if_neg s49_0, if_neg s49_1, if_neg s49_2, if_neg s49_3]; done))  (lv_sub hl [1, 2, 3, 0] rfl)
      by_cases s49_2 : k0 = 2
      · refine lv_tableIn (tgt := 102) hx hb dX6_tried_49 (by rw [s49_2]; decide) (by rw [s49_2]; decide) (by rw [s49_2]; rfl) (by decide) ?_
        refine lv_aload_n hx hb dX6_tried_102 rfl (lv_at hl 0 rfl) ?_
        refine M_get hC hK hP 0 (by decide) (fM0 _ _) q1201 dX6_tried_103 ?_
        refine lv_bipush (v := 17) hx hb dX6_tried_106 (by decide) ?_
        refine M_ald hC hK hP 0 1 21 17 (aM0 _ _ _ _) (by decide) (by decide) (by omega) dX6_tried_108 ?_
        refine W_top (y := (q.1 17)) (by rw [dM_g0]) ?_
        refine lv_istore_n (lv' := [(3, .int (q.1 17)), (0, .ref o), (1, .int (nI n)), (2, .int k0)]) hx hb dX6_tried_109 rfl hl (by decide) rfl (fun ls hl => ?_)
        refine lv_goto (tgt := 133) hx hb dX6_tried_110 (by decide) ?_
        exact JN133 (q.1 17) ls (by unfold triedV; first | (rw [if_pos s49_0]; done) | (rw [if_neg s49_0, if_pos s49_1]; done) | (rw [if_neg s49_0, if_neg s49_1, if_pos s49_2]; done) | (rw [if_neg s49_0, if_neg s49_1, if_neg s49_2, if_pos s49_3]; done) | (rw [if_neg s49_0, if_neg s49_1, if_neg s49_2, if_neg s49_3]; done))  (lv_sub hl [1, 2, 3, 0] rfl)
      by_cases s49_3 : k0 = 3
      · refine lv_tableIn (tgt := 113) hx hb dX6_tried_49 (by rw [s49_3]; decide) (by rw [s49_3]; decide) (by rw [s49_3]; rfl) (by decide) ?_
        refine lv_aload_n hx hb dX6_tried_113 rfl (lv_at hl 0 rfl) ?_
        refine CI.callV hC hK hl (c_X6_joyOfAll G l o R (dM (mC u 0 1 21) q.2 q.1 g_1 f_2)  ) hP (hP.recv hK) q1612 q1614 qs85 q116 q1615 mdX6_joyOfAll (room_ok hRm rfl) rfl rfl dX6_tried_114 ?_
        refine W_top (y := (joyAll (u.1 8) q.1 16)) (by rw [dM_f8, dM_g0]; rfl) ?_
        refine lv_istore_n (lv' := [(3, .int (joyAll (u.1 8) q.1 16)), (0, .ref o), (1, .int (nI n)), (2, .int k0)]) hx hb dX6_tried_117 rfl hl (by decide) rfl (fun ls hl => ?_)
        refine lv_goto (tgt := 133) hx hb dX6_tried_118 (by decide) ?_
        exact JN133 (joyAll (u.1 8) q.1 16) ls (by unfold triedV; first | (rw [if_pos s49_0]; done) | (rw [if_neg s49_0, if_pos s49_1]; done) | (rw [if_neg s49_0, if_neg s49_1, if_pos s49_2]; done) | (rw [if_neg s49_0, if_neg s49_1, if_neg s49_2, if_pos s49_3]; done) | (rw [if_neg s49_0, if_neg s49_1, if_neg s49_2, if_neg s49_3]; done))  (lv_sub hl [1, 2, 3, 0] rfl)
      refine lv_tableOut (tgt := 121) hx hb dX6_tried_49 (sw_out (x := k0) (lo := 0) (hi := 3) (fun v h1 h2 => by rcases (show v = 0 ∨ v = 1 ∨ v = 2 ∨ v = 3 by omega) with rfl | rfl | rfl | rfl <;> first | exact s49_0 | exact s49_1 | exact s49_2 | exact s49_3)) (by decide) ?_
      refine lv_aload_n hx hb dX6_tried_121 rfl (lv_at hl 0 rfl) ?_
      refine M_get hC hK hP 0 (by decide) (fM0 _ _) q1201 dX6_tried_122 ?_
      refine lv_iconst (v := 0) hx hb dX6_tried_125 (by decide) ?_
      refine lv_iload_n hx hb dX6_tried_126 rfl (lv_at hl 2 rfl) ?_
      refine lv_iadd hx hb dX6_tried_127 ?_
      refine W_top (y := k0) (Int32.zero_add _) ?_
      refine lv_bipush (v := 10) hx hb dX6_tried_128 (by decide) ?_
      refine lv_isub hx hb dX6_tried_130 ?_
      obtain ⟨hix, hix2⟩ := tried_ix hor s49_0 s49_1 s49_2 s49_3
      refine M_ald hC hK hP 0 1 21 (ix (k0 - 10)) (aM0 _ _ _ _) (by decide) (hix) (by omega) dX6_tried_131 ?_
      refine W_top (y := (q.1 (ix (k0 - 10)))) (by rw [dM_g0]) ?_
      refine lv_istore_n (lv' := [(3, .int (q.1 (ix (k0 - 10)))), (0, .ref o), (1, .int (nI n)), (2, .int k0)]) hx hb dX6_tried_132 rfl hl (by decide) rfl (fun ls hl => ?_)
      exact JN133 (q.1 (ix (k0 - 10))) ls (by unfold triedV; first | (rw [if_pos s49_0]; done) | (rw [if_neg s49_0, if_pos s49_1]; done) | (rw [if_neg s49_0, if_neg s49_1, if_pos s49_2]; done) | (rw [if_neg s49_0, if_neg s49_1, if_neg s49_2, if_pos s49_3]; done) | (rw [if_neg s49_0, if_neg s49_1, if_neg s49_2, if_neg s49_3]; done))  (lv_sub hl [1, 2, 3, 0] rfl)
    · have c16 : (inB k0 0 3) = false := bI_0.mp c16
      refine lv_aload_n hx hb dX6_tried_19 rfl (lv_at hl 0 rfl) ?_
      refine lv_iload_n hx hb dX6_tried_20 rfl (lv_at hl 2 rfl) ?_
      refine lv_bipush (v := 10) hx hb dX6_tried_21 (by decide) ?_
      refine lv_isub hx hb dX6_tried_23 ?_
      refine CI.callV hC hK hl (c_X6_isHouse G l o R u (k0 - 10) ) hP (hP.recv hK) q1395 q1397 qs45 q116 q1398 mdX6_isHouse (room_ok hRm rfl) rfl rfl dX6_tried_24 ?_
      refine lv_if_ne (tgt := 32) hx hb dX6_tried_27 (by decide) (fun c27 => ?_) (fun c27 => ?_)
      · have c27 : (isHouseB (u.1 8) (k0 - 10)) = true := bI_1.mp c27
        refine lv_aload_n hx hb dX6_tried_32 rfl (lv_at hl 0 rfl) ?_
        refine M_get hC hK hP 0 (by decide) (fM0 _ _) q1201 dX6_tried_33 ?_
        refine lv_aload_n hx hb dX6_tried_36 rfl (lv_at hl 0 rfl) ?_
        refine M_get hC hK hP 1 (by decide) (fM1 _ _) q1202 dX6_tried_37 ?_
        refine CSv.call hC hK hS (fun q h => h) hl (c_X6_copies_now_aside G l o R u   hD) hP q1606 q1607 q116 q1608 mdX6_copies (room_ok hRm rfl) rfl rfl dX6_tried_40 (fun w40 H locs hpo hP _ _ hS => ?_)
        have ew40 := hpo
        rw [ew40] at hP
        refine lv_aload_n hx hb dX6_tried_43 rfl (lv_at hl 0 rfl) ?_
        refine lv_iload_n hx hb dX6_tried_44 rfl (lv_at hl 1 rfl) ?_
        refine CMv.call hC hK hS (fun q h => h) hl (c_X6_daysGo G l o R (mC u 0 1 21) n Lw (by first | assumption | omega | rfl | (simp_all; done)) (hw) (hat) (codesOK_mC (by decide) hW) (hN) hD) hP rfl q1557 q1559 qs77 q116 q1560 mdX6_daysGo (room_ok hRm rfl) rfl rfl dX6_tried_45 (fun w45 H locs hpo hP _ _ hS => ?_)
        obtain ⟨g_3, f_4, ew45⟩ := hpo
        rw [ew45] at hP
        obtain ⟨q, hqe⟩ : ∃ q, daysS Lw (snS (u.1 9) (u.2.1 5) (u.2.1 6) (u.2.1 7) (u.2.1 4)) F00 (u.2.1 3) n ((u.2.1 0), 0) = q := ⟨_, rfl⟩
        have hP : PM G o R (dM (mC u 0 1 21) q.2 q.1 g_3 f_4) H := by rw [← hqe]; exact hP
        have hor : inB k0 0 3 = true ∨ isHouseB (u.1 8) (k0 - 10) = true := by first | exact Or.inl c16 | exact Or.inr c27
        have JN133 : ∀ (v : Int32) (ls : Array Slot), v = triedV (u.1 8) q k0 → lv_has ls 4 [(0, .ref o), (1, .int (nI n)), (2, .int k0), (3, .int v)] → W pg l en Rm sg mm ar bw mth cd H locs 0 0 QQ (F0 mm 133 ls []) := by
          intro v ls hv hl
          refine lv_aload_n hx hb dX6_tried_133 rfl (lv_at hl 0 rfl) ?_
          refine M_get hC hK hP 1 (by decide) (fM1 _ _) q1202 dX6_tried_134 ?_
          refine lv_aload_n hx hb dX6_tried_137 rfl (lv_at hl 0 rfl) ?_
          refine M_get hC hK hP 0 (by decide) (fM0 _ _) q1201 dX6_tried_138 ?_
          refine CSv.call hC hK hS (fun q h => h) hl (c_X6_copies_aside_now G l o R (dM (mC u 0 1 21) q.2 q.1 g_3 f_4)   hD) hP q1606 q1607 q116 q1608 mdX6_copies (room_ok hRm rfl) rfl rfl dX6_tried_141 (fun w141 H locs hpo hP _ _ hS => ?_)
          have ew141 := hpo
          rw [ew141] at hP
          refine lv_iload_n hx hb dX6_tried_144 rfl (lv_at hl 3 rfl) ?_
          exact hq _ _ _ _ _ _ dX6_tried_145 hP hS (rfl) (by first | (have hg : triedG (u.1 8) (nI n) k0 = true := (by first | (simp [triedG, c7, c16]; done) | (simp [triedG, c7, c27]; done)); exact ⟨q.2, _, _, g_1, f_2, fun t ht => if_pos ht, by rw [triedI, if_pos hg, hnx, hqe]; exact hv, by rw [if_pos hg]; exact mC_back⟩) | (have hg : triedG (u.1 8) (nI n) k0 = true := (by first | (simp [triedG, c7, c16]; done) | (simp [triedG, c7, c27]; done)); exact ⟨q.2, _, _, g_2, f_3, fun t ht => if_pos ht, by rw [triedI, if_pos hg, hnx, hqe]; exact hv, by rw [if_pos hg]; exact mC_back⟩) | (have hg : triedG (u.1 8) (nI n) k0 = true := (by first | (simp [triedG, c7, c16]; done) | (simp [triedG, c7, c27]; done)); exact ⟨q.2, _, _, g_3, f_4, fun t ht => if_pos ht, by rw [triedI, if_pos hg, hnx, hqe]; exact hv, by rw [if_pos hg]; exact mC_back⟩) | (have hg : triedG (u.1 8) (nI n) k0 = true := (by first | (simp [triedG, c7, c16]; done) | (simp [triedG, c7, c27]; done)); exact ⟨q.2, _, _, g_4, f_5, fun t ht => if_pos ht, by rw [triedI, if_pos hg, hnx, hqe]; exact hv, by rw [if_pos hg]; exact mC_back⟩) | (have hg : triedG (u.1 8) (nI n) k0 = true := (by first | (simp [triedG, c7, c16]; done) | (simp [triedG, c7, c27]; done)); exact ⟨q.2, _, _, g_5, f_6, fun t ht => if_pos ht, by rw [triedI, if_pos hg, hnx, hqe]; exact hv, by rw [if_pos hg]; exact mC_back⟩) | (have hg : triedG (u.1 8) (nI n) k0 = true := (by first | (simp [triedG, c7, c16]; done) | (simp [triedG, c7, c27]; done)); exact ⟨q.2, _, _, g_6, f_7, fun t ht => if_pos ht, by rw [triedI, if_pos hg, hnx, hqe]; exact hv, by rw [if_pos hg]; exact mC_back⟩) | (have hg : triedG (u.1 8) (nI n) k0 = true := (by first | (simp [triedG, c7, c16]; done) | (simp [triedG, c7, c27]; done)); exact ⟨q.2, _, _, g_7, f_8, fun t ht => if_pos ht, by rw [triedI, if_pos hg, hnx, hqe]; exact hv, by rw [if_pos hg]; exact mC_back⟩) | (have hg : triedG (u.1 8) (nI n) k0 = true := (by first | (simp [triedG, c7, c16]; done) | (simp [triedG, c7, c27]; done)); exact ⟨q.2, _, _, g_8, f_9, fun t ht => if_pos ht, by rw [triedI, if_pos hg, hnx, hqe]; exact hv, by rw [if_pos hg]; exact mC_back⟩) | (have hg : triedG (u.1 8) (nI n) k0 = true := (by first | (simp [triedG, c7, c16]; done) | (simp [triedG, c7, c27]; done)); exact ⟨q.2, _, _, g_9, f_10, fun t ht => if_pos ht, by rw [triedI, if_pos hg, hnx, hqe]; exact hv, by rw [if_pos hg]; exact mC_back⟩))
        refine lv_iload_n hx hb dX6_tried_48 rfl (lv_at hl 2 rfl) ?_
        by_cases s49_0 : k0 = 0
        · refine lv_tableIn (tgt := 80) hx hb dX6_tried_49 (by rw [s49_0]; decide) (by rw [s49_0]; decide) (by rw [s49_0]; rfl) (by decide) ?_
          refine lv_aload_n hx hb dX6_tried_80 rfl (lv_at hl 0 rfl) ?_
          refine M_get (v := .int ((dM (mC u 0 1 21) q.2 q.1 g_3 f_4).1 50)) hC hK hP 50 (by decide) (fM50 _ _) q1251 dX6_tried_81 ?_
          refine W_top (y := q.2) (by rw [dM_f50]) ?_
          refine lv_istore_n (lv' := [(3, .int q.2), (0, .ref o), (1, .int (nI n)), (2, .int k0)]) hx hb dX6_tried_84 rfl hl (by decide) rfl (fun ls hl => ?_)
          refine lv_goto (tgt := 133) hx hb dX6_tried_85 (by decide) ?_
          exact JN133 q.2 ls (by unfold triedV; first | (rw [if_pos s49_0]; done) | (rw [if_neg s49_0, if_pos s49_1]; done) | (rw [if_neg s49_0, if_neg s49_1, if_pos s49_2]; done) | (rw [if_neg s49_0, if_neg s49_1, if_neg s49_2, if_pos s49_3]; done) | (rw [if_neg s49_0, if_neg s49_1, if_neg s49_2, if_neg s49_3]; done))  (lv_sub hl [1, 2, 3, 0] rfl)
        by_cases s49_1 : k0 = 1
        · refine lv_tableIn (tgt := 88) hx hb dX6_tried_49 (by rw [s49_1]; decide) (by rw [s49_1]; decide) (by rw [s49_1]; rfl) (by decide) ?_
          refine lv_aload_n hx hb dX6_tried_88 rfl (lv_at hl 0 rfl) ?_
          refine M_get hC hK hP 0 (by decide) (fM0 _ _) q1201 dX6_tried_89 ?_
          refine lv_bipush (v := 16) hx hb dX6_tried_92 (by decide) ?_
          refine M_ald hC hK hP 0 1 21 16 (aM0 _ _ _ _) (by decide) (by decide) (by omega) dX6_tried_94 ?_
          refine W_top (y := (q.1 16)) (by rw [dM_g0]) ?_
          refine CI.callS hC hK hl (c_X6_orNone G l (q.1 16) ) trivial q1609 q1610 q116 q1611 mdX6_orNone (room_ok hRm rfl) rfl rfl dX6_tried_95 ?_
          refine lv_istore_n (lv' := [(3, .int (orNoneS (q.1 16))), (0, .ref o), (1, .int (nI n)), (2, .int k0)]) hx hb dX6_tried_98 rfl hl (by decide) rfl (fun ls hl => ?_)
          refine lv_goto (tgt := 133) hx hb dX6_tried_99 (by decide) ?_
          exact JN133 (orNoneS (q.1 16)) ls (by unfold triedV; first | (rw [if_pos s49_0]; done) | (rw [if_neg s49_0, if_pos s49_1]; done) | (rw [if_neg s49_0, if_neg s49_1, if_pos s49_2]; done) | (rw [if_neg s49_0, if_neg s49_1, if_neg s49_2, if_pos s49_3]; done) | (rw [if_neg s49_0, if_neg s49_1, if_neg s49_2, if_neg s49_3]; done))  (lv_sub hl [1, 2, 3, 0] rfl)
        by_cases s49_2 : k0 = 2
        · refine lv_tableIn (tgt := 102) hx hb dX6_tried_49 (by rw [s49_2]; decide) (by rw [s49_2]; decide) (by rw [s49_2]; rfl) (by decide) ?_
          refine lv_aload_n hx hb dX6_tried_102 rfl (lv_at hl 0 rfl) ?_
          refine M_get hC hK hP 0 (by decide) (fM0 _ _) q1201 dX6_tried_103 ?_
          refine lv_bipush (v := 17) hx hb dX6_tried_106 (by decide) ?_
          refine M_ald hC hK hP 0 1 21 17 (aM0 _ _ _ _) (by decide) (by decide) (by omega) dX6_tried_108 ?_
          refine W_top (y := (q.1 17)) (by rw [dM_g0]) ?_
          refine lv_istore_n (lv' := [(3, .int (q.1 17)), (0, .ref o), (1, .int (nI n)), (2, .int k0)]) hx hb dX6_tried_109 rfl hl (by decide) rfl (fun ls hl => ?_)
          refine lv_goto (tgt := 133) hx hb dX6_tried_110 (by decide) ?_
          exact JN133 (q.1 17) ls (by unfold triedV; first | (rw [if_pos s49_0]; done) | (rw [if_neg s49_0, if_pos s49_1]; done) | (rw [if_neg s49_0, if_neg s49_1, if_pos s49_2]; done) | (rw [if_neg s49_0, if_neg s49_1, if_neg s49_2, if_pos s49_3]; done) | (rw [if_neg s49_0, if_neg s49_1, if_neg s49_2, if_neg s49_3]; done))  (lv_sub hl [1, 2, 3, 0] rfl)
        by_cases s49_3 : k0 = 3
        · refine lv_tableIn (tgt := 113) hx hb dX6_tried_49 (by rw [s49_3]; decide) (by rw [s49_3]; decide) (by rw [s49_3]; rfl) (by decide) ?_
          refine lv_aload_n hx hb dX6_tried_113 rfl (lv_at hl 0 rfl) ?_
          refine CI.callV hC hK hl (c_X6_joyOfAll G l o R (dM (mC u 0 1 21) q.2 q.1 g_3 f_4)  ) hP (hP.recv hK) q1612 q1614 qs85 q116 q1615 mdX6_joyOfAll (room_ok hRm rfl) rfl rfl dX6_tried_114 ?_
          refine W_top (y := (joyAll (u.1 8) q.1 16)) (by rw [dM_f8, dM_g0]; rfl) ?_
          refine lv_istore_n (lv' := [(3, .int (joyAll (u.1 8) q.1 16)), (0, .ref o), (1, .int (nI n)), (2, .int k0)]) hx hb dX6_tried_117 rfl hl (by decide) rfl (fun ls hl => ?_)
          refine lv_goto (tgt := 133) hx hb dX6_tried_118 (by decide) ?_
          exact JN133 (joyAll (u.1 8) q.1 16) ls (by unfold triedV; first | (rw [if_pos s49_0]; done) | (rw [if_neg s49_0, if_pos s49_1]; done) | (rw [if_neg s49_0, if_neg s49_1, if_pos s49_2]; done) | (rw [if_neg s49_0, if_neg s49_1, if_neg s49_2, if_pos s49_3]; done) | (rw [if_neg s49_0, if_neg s49_1, if_neg s49_2, if_neg s49_3]; done))  (lv_sub hl [1, 2, 3, 0] rfl)
        refine lv_tableOut (tgt := 121) hx hb dX6_tried_49 (sw_out (x := k0) (lo := 0) (hi := 3) (fun v h1 h2 => by rcases (show v = 0 ∨ v = 1 ∨ v = 2 ∨ v = 3 by omega) with rfl | rfl | rfl | rfl <;> first | exact s49_0 | exact s49_1 | exact s49_2 | exact s49_3)) (by decide) ?_
        refine lv_aload_n hx hb dX6_tried_121 rfl (lv_at hl 0 rfl) ?_
        refine M_get hC hK hP 0 (by decide) (fM0 _ _) q1201 dX6_tried_122 ?_
        refine lv_iconst (v := 0) hx hb dX6_tried_125 (by decide) ?_
        refine lv_iload_n hx hb dX6_tried_126 rfl (lv_at hl 2 rfl) ?_
        refine lv_iadd hx hb dX6_tried_127 ?_
        refine W_top (y := k0) (Int32.zero_add _) ?_
        refine lv_bipush (v := 10) hx hb dX6_tried_128 (by decide) ?_
        refine lv_isub hx hb dX6_tried_130 ?_
        obtain ⟨hix, hix2⟩ := tried_ix hor s49_0 s49_1 s49_2 s49_3
        refine M_ald hC hK hP 0 1 21 (ix (k0 - 10)) (aM0 _ _ _ _) (by decide) (hix) (by omega) dX6_tried_131 ?_
        refine W_top (y := (q.1 (ix (k0 - 10)))) (by rw [dM_g0]) ?_
        refine lv_istore_n (lv' := [(3, .int (q.1 (ix (k0 - 10)))), (0, .ref o), (1, .int (nI n)), (2, .int k0)]) hx hb dX6_tried_132 rfl hl (by decide) rfl (fun ls hl => ?_)
        exact JN133 (q.1 (ix (k0 - 10))) ls (by unfold triedV; first | (rw [if_pos s49_0]; done) | (rw [if_neg s49_0, if_pos s49_1]; done) | (rw [if_neg s49_0, if_neg s49_1, if_pos s49_2]; done) | (rw [if_neg s49_0, if_neg s49_1, if_neg s49_2, if_pos s49_3]; done) | (rw [if_neg s49_0, if_neg s49_1, if_neg s49_2, if_neg s49_3]; done))  (lv_sub hl [1, 2, 3, 0] rfl)
      · have c27 : (isHouseB (u.1 8) (k0 - 10)) = false := bI_0.mp c27
        refine lv_iconst (v := (-1)) hx hb dX6_tried_30 (by decide) ?_
        exact hq _ _ _ _ _ _ dX6_tried_31 hP hS (rfl) (by exact ⟨0, (u.2.1 0), F00, F00, F00, fun _ _ => rfl, by first | (simp [triedI, triedG, c7]; done) | (simp [triedI, triedG, c7, c16, c27]; done), by first | (simp [triedG, c7]; done) | (simp [triedG, c7, c16, c27]; done)⟩)
