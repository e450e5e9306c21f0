set_option maxRecDepth 100000
set_option maxHeartbeats 4000000 in
theorem c_X6_readsHouse (G : GG) (l : Launch) (o : Nat) (R : Nat → Nat) (u : MS) (h : Nat) (p : Nat) (n : Nat) (ln0 : Nat) (hh : h < 16) (hp : (u.1 12) = nI p) (hn : (u.1 13) = nI n) (hn2 : n ≤ 240) (hp2 : p < 2 ^ 30) (hpn : p ≤ n) (hln : (u.1 40) = nI ln0) (hD : DM o R) : CMi G l o R yX6_readsHouse cX6_readsHouse 2 .boolean 5 77 [.int (nI h)] u (fun r w => ∃ ok : Bool, ∃ pl : Int32, ∃ fa : Int32, ∃ nu : Int32, ∃ hs : Int32, ∃ th : Int32, ∃ ln : Int32, ∃ fc : Nat → Int32, ∃ sd : Nat → Int32, ∃ fr : Nat → Int32, ∃ un : Nat → Int32, (trPost (houseL (u.2.1 10) n (u.1 38) (u.1 39) (u.2.1 34) (u.2.1 35) (u.2.1 36) (u.2.1 37) ln0 p h) ok pl fa hs th ln fc sd fr un) ∧ r = (bI ok) ∧ w = (tE u pl fa nu hs th ln (u.1 13) (u.1 17) (u.1 19) (u.1 11) (u.1 8) (u.1 9) fc sd fr un (u.2.1 4) (u.2.1 5) (u.2.1 6) (u.2.1 7) (u.2.1 0) (u.2.1 3))) := by
  refine CMi.mk pnX6 rfl (Nat.le_of_ble_eq_true rfl) (fun pg en Rm sg mm ar bw mth cd QQ ls hC hRm hK hP hS hl hq => ?_)
  have hx := hC.1; have hb := hC.2.1; have ho := hC.2.2.2.1; have hts := hC.2.2.2.2
  have hl : lv_has ls 2 [(0, .ref o), (1, .int (nI h))] := hl
  have hP : PM G o R (tE u (u.1 12) (u.1 14) (u.1 15) (u.1 38) (u.1 39) (u.1 40) (u.1 13) (u.1 17) (u.1 19) (u.1 11) (u.1 8) (u.1 9) (u.2.1 34) (u.2.1 35) (u.2.1 36) (u.2.1 37) (u.2.1 4) (u.2.1 5) (u.2.1 6) (u.2.1 7) (u.2.1 0) (u.2.1 3)) sg.heap := by rw [tE_self]; exact hP
  rw [hp] at hP
  rw [hln] at hP
  refine lv_aload_n hx hb dX6_readsHouse_0 rfl (lv_at hl 0 rfl) ?_
  refine M_get hC hK hP 38 (by decide) (fM38 _ _) q1239 dX6_readsHouse_1 ?_
  refine W_top (y := (u.1 38)) (by rw [tE_f38]) ?_
  refine lv_iload_n hx hb dX6_readsHouse_4 rfl (lv_at hl 1 rfl) ?_
  refine CI.callS hC hK hl (c_X6_has G l (u.1 38) (nI h) ) trivial q1399 q1400 q116 q1401 mdX6_has (room_ok hRm rfl) rfl rfl dX6_readsHouse_5 ?_
  refine lv_if_eq (tgt := 22) hx hb dX6_readsHouse_8 (by decide) (fun c8 => ?_) (fun c8 => ?_)
  · have c8 : (hasB (u.1 38) (nI h)) = false := bI_0.mp c8
    refine lv_aload_n hx hb dX6_readsHouse_22 rfl (lv_at hl 0 rfl) ?_
    refine lv_aload_n hx hb dX6_readsHouse_23 rfl (lv_at hl 0 rfl) ?_
    refine M_get hC hK hP 12 (by decide) (fM12 _ _) q1213 dX6_readsHouse_24 ?_
    refine W_top (y := (nI p)) (by rw [tE_f12]) ?_
    refine lv_iconst (v := 1) hx hb dX6_readsHouse_27 (by decide) ?_
    refine lv_iadd hx hb dX6_readsHouse_28 ?_
    refine W_top (nI_add p 1) ?_
    refine M_put hC hK hD hP hS 12 (by decide) (sM12 _ _ _) q1213 rfl dX6_readsHouse_29 (fun H locs hP hS => ?_)
    rw [tE_V12] at hP
    refine lv_aload_n hx hb dX6_readsHouse_32 rfl (lv_at hl 0 rfl) ?_
    refine CMi.call hC hK hS (fun q h => h) hl (c_X6_readsWithin G l o R (tE u (nI (p + 1)) (u.1 14) (u.1 15) (u.1 38) (u.1 39) (nI ln0) (u.1 13) (u.1 17) (u.1 19) (u.1 11) (u.1 8) (u.1 9) (u.2.1 34) (u.2.1 35) (u.2.1 36) (u.2.1 37) (u.2.1 4) (u.2.1 5) (u.2.1 6) (u.2.1 7) (u.2.1 0) (u.2.1 3)) (p + 1) n (rfl) (hn) (hn2) (by omega) hD) hP rfl q1525 q1527 qs71 q116 q1528 mdX6_readsWithin (room_ok hRm rfl) rfl rfl dX6_readsHouse_33 (fun r33 w33 H locs hpo hP _ _ hS => ?_)
    obtain ⟨ok_1, pl_2, fa_3, nu_4, f33_0, er33, ew33⟩ := hpo
    rw [ew33] at hP
    refine W_top (y := (bI ok_1)) er33 ?_
    rw [tE_pM] at hP
    refine lv_if_ne (tgt := 41) hx hb dX6_readsHouse_36 (by decide) (fun c36 => ?_) (fun c36 => ?_)
    · have c36 : ok_1 = true := bI_1.mp c36
      obtain ⟨v, q, hvv, rfl, rfl, hbv⟩ := numPost_t f33_0 c36
      change numW (u.2.1 10) _ _ = _ at hvv
      refine lv_aload_n hx hb dX6_readsHouse_41 rfl (lv_at hl 0 rfl) ?_
      refine M_get hC hK hP 34 (by decide) (fM34 _ _) q1235 dX6_readsHouse_42 ?_
      refine lv_iload_n hx hb dX6_readsHouse_45 rfl (lv_at hl 1 rfl) ?_
      refine lv_aload_n hx hb dX6_readsHouse_46 rfl (lv_at hl 0 rfl) ?_
      refine M_get hC hK hP 15 (by decide) (fM15 _ _) q1216 dX6_readsHouse_47 ?_
      refine W_top (y := (nI v)) (by rw [tE_f15]) ?_
      refine M_ast hC hK hD hP hS 34 23 16 h (aM34 _ _ _ _) (bM34 _ _ _ _ _ _) (by decide) (rfl) (by omega) dX6_readsHouse_50 (fun H locs hP hS => ?_)
      rw [tE_A34] at hP
      refine lv_aload_n hx hb dX6_readsHouse_51 rfl (lv_at hl 0 rfl) ?_
      refine lv_aload_n hx hb dX6_readsHouse_52 rfl (lv_at hl 0 rfl) ?_
      refine M_get hC hK hP 38 (by decide) (fM38 _ _) q1239 dX6_readsHouse_53 ?_
      refine W_top (y := (u.1 38)) (by rw [tE_f38]) ?_
      refine lv_iconst (v := 1) hx hb dX6_readsHouse_56 (by decide) ?_
      refine lv_iload_n hx hb dX6_readsHouse_57 rfl (lv_at hl 1 rfl) ?_
      refine lv_ishl hx hb dX6_readsHouse_58 ?_
      refine W_top (y := (nI (2 ^ h))) (shl1 h (by omega)) ?_
      refine lv_ior hx hb dX6_readsHouse_59 ?_
      refine M_put hC hK hD hP hS 38 (by decide) (sM38 _ _ _) q1239 rfl dX6_readsHouse_60 (fun H locs hP hS => ?_)
      rw [tE_V38] at hP
      refine lv_iconst (v := 1) hx hb dX6_readsHouse_63 (by decide) ?_
      exact hq _ _ _ _ _ _ dX6_readsHouse_64 hP hS (by first | rfl | exact bI_nar _) (by exact ⟨true, _, _, _, _, _, _, _, _, _, _, by rw [houseL, if_neg (by rw [c8]; decide), hvv]; exact ⟨rfl, rfl, rfl, rfl, rfl, rfl, rfl, rfl, rfl⟩, rfl, rfl⟩)
    · have c36 : ok_1 = false := bI_0.mp c36
      obtain ⟨k0, q0, hf0, rfl⟩ := numPost_f f33_0 c36; change numW (u.2.1 10) _ _ = _ at hf0
      refine lv_iconst (v := 0) hx hb dX6_readsHouse_39 (by decide) ?_
      exact hq _ _ _ _ _ _ dX6_readsHouse_40 hP hS (by first | rfl | exact bI_nar _) (by exact ⟨false, _, _, _, _, _, _, _, _, _, _, by rw [houseL, if_neg (by rw [c8]; decide), hf0]; exact ⟨rfl, rfl⟩, rfl, rfl⟩)
  · have c8 : (hasB (u.1 38) (nI h)) = true := bI_1.mp c8
    refine lv_aload_n hx hb dX6_readsHouse_11 rfl (lv_at hl 0 rfl) ?_
    refine lv_bipush (v := 6) hx hb dX6_readsHouse_12 (by decide) ?_
    refine lv_aload_n hx hb dX6_readsHouse_14 rfl (lv_at hl 0 rfl) ?_
    refine M_get hC hK hP 12 (by decide) (fM12 _ _) q1213 dX6_readsHouse_15 ?_
    refine W_top (y := (nI p)) (by rw [tE_f12]) ?_
    refine CMi.call hC hK hS (fun q h => h) hl (c_X6_wrongAt G l o R (tE u (nI p) (u.1 14) (u.1 15) (u.1 38) (u.1 39) (nI ln0) (u.1 13) (u.1 17) (u.1 19) (u.1 11) (u.1 8) (u.1 9) (u.2.1 34) (u.2.1 35) (u.2.1 36) (u.2.1 37) (u.2.1 4) (u.2.1 5) (u.2.1 6) (u.2.1 7) (u.2.1 0) (u.2.1 3)) 6 p  hD) hP rfl q1442 q1444 qs53 q116 q1445 mdX6_wrongAt (room_ok hRm rfl) rfl rfl dX6_readsHouse_18 (fun r18 w18 H locs hpo hP _ _ hS => ?_)
    obtain ⟨er18, ew18⟩ := hpo
    rw [ew18] at hP
    refine W_top (y := (bI false)) er18 ?_
    rw [tE_V14] at hP
    exact hq _ _ _ _ _ _ dX6_readsHouse_21 hP hS (by first | rfl | exact bI_nar _) (by exact ⟨false, _, _, _, _, _, _, _, _, _, _, by rw [houseL, if_pos c8]; exact ⟨rfl, rfl⟩, rfl, rfl⟩)
set_option maxHeartbeats 4000000 in
theorem c_X6_readsThing (G : GG) (l : Launch) (o : Nat) (R : Nat → Nat) (u : MS) (h : Nat) (p : Nat) (n : Nat) (ln0 : Nat) (hh : h < 16) (hp : (u.1 12) = nI p) (hn : (u.1 13) = nI n) (hn2 : n ≤ 240) (hp2 : p < 2 ^ 30) (hpn : p ≤ n) (hln : (u.1 40) = nI ln0) (hD : DM o R) : CMi G l o R yX6_readsThing cX6_readsThing 2 .boolean 5 77 [.int (nI h)] u (fun r w => ∃ ok : Bool, ∃ pl : Int32, ∃ fa : Int32, ∃ nu : Int32, ∃ hs : Int32, ∃ th : Int32, ∃ ln : Int32, ∃ fc : Nat → Int32, ∃ sd : Nat → Int32, ∃ fr : Nat → Int32, ∃ un : Nat → Int32, (trPost (thingL (u.2.1 10) n (u.1 38) (u.1 39) (u.2.1 34) (u.2.1 35) (u.2.1 36) (u.2.1 37) ln0 p h) ok pl fa hs th ln fc sd fr un) ∧ r = (bI ok) ∧ w = (tE u pl fa nu hs th ln (u.1 13) (u.1 17) (u.1 19) (u.1 11) (u.1 8) (u.1 9) fc sd fr un (u.2.1 4) (u.2.1 5) (u.2.1 6) (u.2.1 7) (u.2.1 0) (u.2.1 3))) := by
  refine CMi.mk pnX6 rfl (Nat.le_of_ble_eq_true rfl) (fun pg en Rm sg mm ar bw mth cd QQ ls hC hRm hK hP hS hl hq => ?_)
  have hx := hC.1; have hb := hC.2.1; have ho := hC.2.2.2.1; have hts := hC.2.2.2.2
  have hl : lv_has ls 2 [(0, .ref o), (1, .int (nI h))] := hl
  have hP : PM G o R (tE u (u.1 12) (u.1 14) (u.1 15) (u.1 38) (u.1 39) (u.1 40) (u.1 13) (u.1 17) (u.1 19) (u.1 11) (u.1 8) (u.1 9) (u.2.1 34) (u.2.1 35) (u.2.1 36) (u.2.1 37) (u.2.1 4) (u.2.1 5) (u.2.1 6) (u.2.1 7) (u.2.1 0) (u.2.1 3)) sg.heap := by rw [tE_self]; exact hP
  rw [hp] at hP
  rw [hln] at hP
  refine lv_aload_n hx hb dX6_readsThing_0 rfl (lv_at hl 0 rfl) ?_
  refine M_get hC hK hP 39 (by decide) (fM39 _ _) q1240 dX6_readsThing_1 ?_
  refine W_top (y := (u.1 39)) (by rw [tE_f39]) ?_
  refine lv_iload_n hx hb dX6_readsThing_4 rfl (lv_at hl 1 rfl) ?_
  refine CI.callS hC hK hl (c_X6_has G l (u.1 39) (nI h) ) trivial q1399 q1400 q116 q1401 mdX6_has (room_ok hRm rfl) rfl rfl dX6_readsThing_5 ?_
  refine lv_if_eq (tgt := 22) hx hb dX6_readsThing_8 (by decide) (fun c8 => ?_) (fun c8 => ?_)
  · have c8 : (hasB (u.1 39) (nI h)) = false := bI_0.mp c8
    refine lv_aload_n hx hb dX6_readsThing_22 rfl (lv_at hl 0 rfl) ?_
    refine lv_aload_n hx hb dX6_readsThing_23 rfl (lv_at hl 0 rfl) ?_
    refine M_get hC hK hP 12 (by decide) (fM12 _ _) q1213 dX6_readsThing_24 ?_
    refine W_top (y := (nI p)) (by rw [tE_f12]) ?_
    refine lv_iconst (v := 1) hx hb dX6_readsThing_27 (by decide) ?_
    refine lv_iadd hx hb dX6_readsThing_28 ?_
    refine W_top (nI_add p 1) ?_
    refine M_put hC hK hD hP hS 12 (by decide) (sM12 _ _ _) q1213 rfl dX6_readsThing_29 (fun H locs hP hS => ?_)
    rw [tE_V12] at hP
    refine lv_aload_n hx hb dX6_readsThing_32 rfl (lv_at hl 0 rfl) ?_
    refine CMi.call hC hK hS (fun q h => h) hl (c_X6_readsWithin G l o R (tE u (nI (p + 1)) (u.1 14) (u.1 15) (u.1 38) (u.1 39) (nI ln0) (u.1 13) (u.1 17) (u.1 19) (u.1 11) (u.1 8) (u.1 9) (u.2.1 34) (u.2.1 35) (u.2.1 36) (u.2.1 37) (u.2.1 4) (u.2.1 5) (u.2.1 6) (u.2.1 7) (u.2.1 0) (u.2.1 3)) (p + 1) n (rfl) (hn) (hn2) (by omega) hD) hP rfl q1525 q1527 qs71 q116 q1528 mdX6_readsWithin (room_ok hRm rfl) rfl rfl dX6_readsThing_33 (fun r33 w33 H locs hpo hP _ _ hS => ?_)
    obtain ⟨ok_1, pl_2, fa_3, nu_4, f33_0, er33, ew33⟩ := hpo
    rw [ew33] at hP
    refine W_top (y := (bI ok_1)) er33 ?_
    rw [tE_pM] at hP
    refine lv_if_ne (tgt := 41) hx hb dX6_readsThing_36 (by decide) (fun c36 => ?_) (fun c36 => ?_)
    · have c36 : ok_1 = true := bI_1.mp c36
      obtain ⟨v, q, hvv, rfl, rfl, hbv⟩ := numPost_t f33_0 c36
      change numW (u.2.1 10) _ _ = _ at hvv
      refine lv_aload_n hx hb dX6_readsThing_41 rfl (lv_at hl 0 rfl) ?_
      refine M_get hC hK hP 35 (by decide) (fM35 _ _) q1236 dX6_readsThing_42 ?_
      refine lv_iload_n hx hb dX6_readsThing_45 rfl (lv_at hl 1 rfl) ?_
      refine lv_aload_n hx hb dX6_readsThing_46 rfl (lv_at hl 0 rfl) ?_
      refine M_get hC hK hP 15 (by decide) (fM15 _ _) q1216 dX6_readsThing_47 ?_
      refine W_top (y := (nI v)) (by rw [tE_f15]) ?_
      refine M_ast hC hK hD hP hS 35 24 16 h (aM35 _ _ _ _) (bM35 _ _ _ _ _ _) (by decide) (rfl) (by omega) dX6_readsThing_50 (fun H locs hP hS => ?_)
      rw [tE_A35] at hP
      refine lv_aload_n hx hb dX6_readsThing_51 rfl (lv_at hl 0 rfl) ?_
      refine lv_bipush (v := 64) hx hb dX6_readsThing_52 (by decide) ?_
      refine CMi.call hC hK hS (fun q h => h) hl (c_X6_takes G l o R (tE u (nI q) fa_3 (nI v) (u.1 38) (u.1 39) (nI ln0) (u.1 13) (u.1 17) (u.1 19) (u.1 11) (u.1 8) (u.1 9) (u.2.1 34) (upd (u.2.1 35) h (nI v)) (u.2.1 36) (u.2.1 37) (u.2.1 4) (u.2.1 5) (u.2.1 6) (u.2.1 7) (u.2.1 0) (u.2.1 3)) 64 q n (rfl) (hn) (hn2) (by omega) (by decide) hD) hP rfl q1509 q1511 qs68 q116 q1512 mdX6_takes (room_ok hRm rfl) rfl rfl dX6_readsThing_54 (fun r54 w54 H locs hpo hP _ _ hS => ?_)
      obtain ⟨ok_5, pl_6, fa_7, f54_0, er54, ew54⟩ := hpo
      rw [ew54] at hP
      refine W_top (y := (bI ok_5)) er54 ?_
      rw [tE_pM] at hP
      simp only [tE_f15] at hP
      refine lv_if_eq (tgt := 67) hx hb dX6_readsThing_57 (by decide) (fun c57 => ?_) (fun c57 => ?_)
      · have c57 : ok_5 = false := bI_0.mp c57
        obtain ⟨hf0, rfl⟩ := tkP_f f54_0 c57; change takesW (u.2.1 10) _ _ _ = _ at hf0
        refine lv_iconst (v := 0) hx hb dX6_readsThing_67 (by decide) ?_
        exact hq _ _ _ _ _ _ dX6_readsThing_68 hP hS (by first | rfl | exact bI_nar _) (by exact ⟨false, _, _, _, _, _, _, _, _, _, _, by unfold thingL; rw [if_neg (by rw [c8]; decide)]; rw [hvv]; try simp only [bW]; rw [hf0]; try simp only [bW]; exact ⟨rfl, rfl⟩, rfl, rfl⟩)
      · have c57 : ok_5 = true := bI_1.mp c57
        obtain ⟨htq, rfl, hltq⟩ := tkP_t (by decide) f54_0 c57
        change takesW (u.2.1 10) _ _ _ = _ at htq
        refine lv_aload_n hx hb dX6_readsThing_60 rfl (lv_at hl 0 rfl) ?_
        refine CMi.call hC hK hS (fun q h => h) hl (c_X6_readsWithin G l o R (tE u (nI (q + 1)) fa_7 (nI v) (u.1 38) (u.1 39) (nI ln0) (u.1 13) (u.1 17) (u.1 19) (u.1 11) (u.1 8) (u.1 9) (u.2.1 34) (upd (u.2.1 35) h (nI v)) (u.2.1 36) (u.2.1 37) (u.2.1 4) (u.2.1 5) (u.2.1 6) (u.2.1 7) (u.2.1 0) (u.2.1 3)) (q + 1) n (rfl) (hn) (hn2) (by omega) hD) hP rfl q1525 q1527 qs71 q116 q1528 mdX6_readsWithin (room_ok hRm rfl) rfl rfl dX6_readsThing_61 (fun r61 w61 H locs hpo hP _ _ hS => ?_)
        obtain ⟨ok_8, pl_9, fa_10, nu_11, f61_0, er61, ew61⟩ := hpo
        rw [ew61] at hP
        refine W_top (y := (bI ok_8)) er61 ?_
        rw [tE_pM] at hP
        refine lv_if_ne (tgt := 69) hx hb dX6_readsThing_64 (by decide) (fun c64 => ?_) (fun c64 => ?_)
        · have c64 : ok_8 = true := bI_1.mp c64
          obtain ⟨v2, q2, hvv2, rfl, rfl, hbv2⟩ := numPost_t f61_0 c64
          change numW (u.2.1 10) _ _ = _ at hvv2
          refine lv_aload_n hx hb dX6_readsThing_69 rfl (lv_at hl 0 rfl) ?_
          refine M_get hC hK hP 36 (by decide) (fM36 _ _) q1237 dX6_readsThing_70 ?_
          refine lv_iload_n hx hb dX6_readsThing_73 rfl (lv_at hl 1 rfl) ?_
          refine lv_aload_n hx hb dX6_readsThing_74 rfl (lv_at hl 0 rfl) ?_
          refine M_get hC hK hP 15 (by decide) (fM15 _ _) q1216 dX6_readsThing_75 ?_
          refine W_top (y := (nI v2)) (by rw [tE_f15]) ?_
          refine M_ast hC hK hD hP hS 36 25 16 h (aM36 _ _ _ _) (bM36 _ _ _ _ _ _) (by decide) (rfl) (by omega) dX6_readsThing_78 (fun H locs hP hS => ?_)
          rw [tE_A36] at hP
          refine lv_aload_n hx hb dX6_readsThing_79 rfl (lv_at hl 0 rfl) ?_
          refine lv_bipush (v := 45) hx hb dX6_readsThing_80 (by decide) ?_
          refine CMi.call hC hK hS (fun q h => h) hl (c_X6_takes G l o R (tE u (nI q2) fa_10 (nI v2) (u.1 38) (u.1 39) (nI ln0) (u.1 13) (u.1 17) (u.1 19) (u.1 11) (u.1 8) (u.1 9) (u.2.1 34) (upd (u.2.1 35) h (nI v)) (upd (u.2.1 36) h (nI v2)) (u.2.1 37) (u.2.1 4) (u.2.1 5) (u.2.1 6) (u.2.1 7) (u.2.1 0) (u.2.1 3)) 45 q2 n (rfl) (hn) (hn2) (by omega) (by decide) hD) hP rfl q1509 q1511 qs68 q116 q1512 mdX6_takes (room_ok hRm rfl) rfl rfl dX6_readsThing_82 (fun r82 w82 H locs hpo hP _ _ hS => ?_)
          obtain ⟨ok_12, pl_13, fa_14, f82_0, er82, ew82⟩ := hpo
          rw [ew82] at hP
          refine W_top (y := (bI ok_12)) er82 ?_
          rw [tE_pM] at hP
          simp only [tE_f15] at hP
          refine lv_if_eq (tgt := 95) hx hb dX6_readsThing_85 (by decide) (fun c85 => ?_) (fun c85 => ?_)
          · have c85 : ok_12 = false := bI_0.mp c85
            obtain ⟨hf0, rfl⟩ := tkP_f f82_0 c85; change takesW (u.2.1 10) _ _ _ = _ at hf0
            refine lv_iconst (v := 0) hx hb dX6_readsThing_95 (by decide) ?_
            exact hq _ _ _ _ _ _ dX6_readsThing_96 hP hS (by first | rfl | exact bI_nar _) (by exact ⟨false, _, _, _, _, _, _, _, _, _, _, by unfold thingL; rw [if_neg (by rw [c8]; decide)]; rw [hvv]; try simp only [bW]; rw [htq]; try simp only [bW]; rw [hvv2]; try simp only [bW]; rw [hf0]; try simp only [bW]; exact ⟨rfl, rfl⟩, rfl, rfl⟩)
          · have c85 : ok_12 = true := bI_1.mp c85
            obtain ⟨htq2, rfl, hltq2⟩ := tkP_t (by decide) f82_0 c85
            change takesW (u.2.1 10) _ _ _ = _ at htq2
            refine lv_aload_n hx hb dX6_readsThing_88 rfl (lv_at hl 0 rfl) ?_
            refine CMi.call hC hK hS (fun q h => h) hl (c_X6_readsWithin G l o R (tE u (nI (q2 + 1)) fa_14 (nI v2) (u.1 38) (u.1 39) (nI ln0) (u.1 13) (u.1 17) (u.1 19) (u.1 11) (u.1 8) (u.1 9) (u.2.1 34) (upd (u.2.1 35) h (nI v)) (upd (u.2.1 36) h (nI v2)) (u.2.1 37) (u.2.1 4) (u.2.1 5) (u.2.1 6) (u.2.1 7) (u.2.1 0) (u.2.1 3)) (q2 + 1) n (rfl) (hn) (hn2) (by omega) hD) hP rfl q1525 q1527 qs71 q116 q1528 mdX6_readsWithin (room_ok hRm rfl) rfl rfl dX6_readsThing_89 (fun r89 w89 H locs hpo hP _ _ hS => ?_)
            obtain ⟨ok_15, pl_16, fa_17, nu_18, f89_0, er89, ew89⟩ := hpo
            rw [ew89] at hP
            refine W_top (y := (bI ok_15)) er89 ?_
            rw [tE_pM] at hP
            refine lv_if_ne (tgt := 97) hx hb dX6_readsThing_92 (by decide) (fun c92 => ?_) (fun c92 => ?_)
            · have c92 : ok_15 = true := bI_1.mp c92
              obtain ⟨v3, q3, hvv3, rfl, rfl, hbv3⟩ := numPost_t f89_0 c92
              change numW (u.2.1 10) _ _ = _ at hvv3
              refine lv_aload_n hx hb dX6_readsThing_97 rfl (lv_at hl 0 rfl) ?_
              refine M_get hC hK hP 37 (by decide) (fM37 _ _) q1238 dX6_readsThing_98 ?_
              refine lv_iload_n hx hb dX6_readsThing_101 rfl (lv_at hl 1 rfl) ?_
              refine lv_aload_n hx hb dX6_readsThing_102 rfl (lv_at hl 0 rfl) ?_
              refine M_get hC hK hP 15 (by decide) (fM15 _ _) q1216 dX6_readsThing_103 ?_
              refine W_top (y := (nI v3)) (by rw [tE_f15]) ?_
              refine M_ast hC hK hD hP hS 37 26 16 h (aM37 _ _ _ _) (bM37 _ _ _ _ _ _) (by decide) (rfl) (by omega) dX6_readsThing_106 (fun H locs hP hS => ?_)
              rw [tE_A37] at hP
              refine lv_aload_n hx hb dX6_readsThing_107 rfl (lv_at hl 0 rfl) ?_
              refine lv_aload_n hx hb dX6_readsThing_108 rfl (lv_at hl 0 rfl) ?_
              refine M_get hC hK hP 39 (by decide) (fM39 _ _) q1240 dX6_readsThing_109 ?_
              refine W_top (y := (u.1 39)) (by rw [tE_f39]) ?_
              refine lv_iconst (v := 1) hx hb dX6_readsThing_112 (by decide) ?_
              refine lv_iload_n hx hb dX6_readsThing_113 rfl (lv_at hl 1 rfl) ?_
              refine lv_ishl hx hb dX6_readsThing_114 ?_
              refine W_top (y := (nI (2 ^ h))) (shl1 h (by omega)) ?_
              refine lv_ior hx hb dX6_readsThing_115 ?_
              refine M_put hC hK hD hP hS 39 (by decide) (sM39 _ _ _) q1240 rfl dX6_readsThing_116 (fun H locs hP hS => ?_)
              rw [tE_V39] at hP
              refine lv_iconst (v := 1) hx hb dX6_readsThing_119 (by decide) ?_
              exact hq _ _ _ _ _ _ dX6_readsThing_120 hP hS (by first | rfl | exact bI_nar _) (by exact ⟨true, _, _, _, _, _, _, _, _, _, _, by unfold thingL; rw [if_neg (by rw [c8]; decide)]; rw [hvv]; try simp only [bW]; rw [htq]; try simp only [bW]; rw [hvv2]; try simp only [bW]; rw [htq2]; try simp only [bW]; rw [hvv3]; try simp only [bW]; exact ⟨rfl, rfl, rfl, rfl, rfl, rfl, rfl, rfl, rfl⟩, rfl, rfl⟩)
            · have c92 : ok_15 = false := bI_0.mp c92
              obtain ⟨k0, q0, hf0, rfl⟩ := numPost_f f89_0 c92; change numW (u.2.1 10) _ _ = _ at hf0
              refine lv_iconst (v := 0) hx hb dX6_readsThing_95 (by decide) ?_
              exact hq _ _ _ _ _ _ dX6_readsThing_96 hP hS (by first | rfl | exact bI_nar _) (by exact ⟨false, _, _, _, _, _, _, _, _, _, _, by unfold thingL; rw [if_neg (by rw [c8]; decide)]; rw [hvv]; try simp only [bW]; rw [htq]; try simp only [bW]; rw [hvv2]; try simp only [bW]; rw [htq2]; try simp only [bW]; rw [hf0]; try simp only [bW]; exact ⟨rfl, rfl⟩, rfl, rfl⟩)
        · have c64 : ok_8 = false := bI_0.mp c64
          obtain ⟨k0, q0, hf0, rfl⟩ := numPost_f f61_0 c64; change numW (u.2.1 10) _ _ = _ at hf0
          refine lv_iconst (v := 0) hx hb dX6_readsThing_67 (by decide) ?_
          exact hq _ _ _ _ _ _ dX6_readsThing_68 hP hS (by first | rfl | exact bI_nar _) (by exact ⟨false, _, _, _, _, _, _, _, _, _, _, by unfold thingL; rw [if_neg (by rw [c8]; decide)]; rw [hvv]; try simp only [bW]; rw [htq]; try simp only [bW]; rw [hf0]; try simp only [bW]; exact ⟨rfl, rfl⟩, rfl, rfl⟩)
    · have c36 : ok_1 = false := bI_0.mp c36
      obtain ⟨k0, q0, hf0, rfl⟩ := numPost_f f33_0 c36; change numW (u.2.1 10) _ _ = _ at hf0
      refine lv_iconst (v := 0) hx hb dX6_readsThing_39 (by decide) ?_
      exact hq _ _ _ _ _ _ dX6_readsThing_40 hP hS (by first | rfl | exact bI_nar _) (by exact ⟨false, _, _, _, _, _, _, _, _, _, _, by unfold thingL; rw [if_neg (by rw [c8]; decide)]; rw [hf0]; try simp only [bW]; exact ⟨rfl, rfl⟩, rfl, rfl⟩)
  · have c8 : (hasB (u.1 39) (nI h)) = true := bI_1.mp c8
    refine lv_aload_n hx hb dX6_readsThing_11 rfl (lv_at hl 0 rfl) ?_
    refine lv_bipush (v := 6) hx hb dX6_readsThing_12 (by decide) ?_
    refine lv_aload_n hx hb dX6_readsThing_14 rfl (lv_at hl 0 rfl) ?_
    refine M_get hC hK hP 12 (by decide) (fM12 _ _) q1213 dX6_readsThing_15 ?_
    refine W_top (y := (nI p)) (by rw [tE_f12]) ?_
    refine CMi.call hC hK hS (fun q h => h) hl (c_X6_wrongAt G l o R (tE u (nI p) (u.1 14) (u.1 15) (u.1 38) (u.1 39) (nI ln0) (u.1 13) (u.1 17) (u.1 19) (u.1 11) (u.1 8) (u.1 9) (u.2.1 34) (u.2.1 35) (u.2.1 36) (u.2.1 37) (u.2.1 4) (u.2.1 5) (u.2.1 6) (u.2.1 7) (u.2.1 0) (u.2.1 3)) 6 p  hD) hP rfl q1442 q1444 qs53 q116 q1445 mdX6_wrongAt (room_ok hRm rfl) rfl rfl dX6_readsThing_18 (fun r18 w18 H locs hpo hP _ _ hS => ?_)
    obtain ⟨er18, ew18⟩ := hpo
    rw [ew18] at hP
    refine W_top (y := (bI false)) er18 ?_
    rw [tE_V14] at hP
    exact hq _ _ _ _ _ _ dX6_readsThing_21 hP hS (by first | rfl | exact bI_nar _) (by exact ⟨false, _, _, _, _, _, _, _, _, _, _, by rw [thingL, if_pos c8]; exact ⟨rfl, rfl⟩, rfl, rfl⟩)
set_option maxHeartbeats 4000000 in
theorem c_X6_readsLine (G : GG) (l : Launch) (o : Nat) (R : Nat → Nat) (u : MS) (p : Nat) (n : Nat) (ln0 : Nat) (hp : (u.1 12) = nI p) (hn : (u.1 13) = nI n) (hn2 : n ≤ 240) (hp2 : p < 2 ^ 30) (hpn : p ≤ n) (hln : (u.1 40) = nI ln0) (hl2 : ln0 ≤ 32) (hD : DM o R) : CMi G l o R yX6_readsLine cX6_readsLine 4 .boolean 6 98 [] u (fun r w => ∃ ok : Bool, ∃ pl : Int32, ∃ fa : Int32, ∃ nu : Int32, ∃ hs : Int32, ∃ th : Int32, ∃ ln : Int32, ∃ fc : Nat → Int32, ∃ sd : Nat → Int32, ∃ fr : Nat → Int32, ∃ un : Nat → Int32, (trPost (lineW (u.2.1 10) n (u.1 38) (u.1 39) (u.2.1 34) (u.2.1 35) (u.2.1 36) (u.2.1 37) ln0 p) ok pl fa hs th ln fc sd fr un) ∧ r = (bI ok) ∧ w = (tE u pl fa nu hs th ln (u.1 13) (u.1 17) (u.1 19) (u.1 11) (u.1 8) (u.1 9) fc sd fr un (u.2.1 4) (u.2.1 5) (u.2.1 6) (u.2.1 7) (u.2.1 0) (u.2.1 3))) := by
  refine CMi.mk pnX6 rfl (Nat.le_of_ble_eq_true rfl) (fun pg en Rm sg mm ar bw mth cd QQ ls hC hRm hK hP hS hl hq => ?_)
  have hx := hC.1; have hb := hC.2.1; have ho := hC.2.2.2.1; have hts := hC.2.2.2.2
  have hl : lv_has ls 4 [(0, .ref o)] := hl
  have hP : PM G o R (tE u (u.1 12) (u.1 14) (u.1 15) (u.1 38) (u.1 39) (u.1 40) (u.1 13) (u.1 17) (u.1 19) (u.1 11) (u.1 8) (u.1 9) (u.2.1 34) (u.2.1 35) (u.2.1 36) (u.2.1 37) (u.2.1 4) (u.2.1 5) (u.2.1 6) (u.2.1 7) (u.2.1 0) (u.2.1 3)) sg.heap := by rw [tE_self]; exact hP
  rw [hp] at hP
  rw [hln] at hP
  refine lv_aload_n hx hb dX6_readsLine_0 rfl (lv_at hl 0 rfl) ?_
  refine CI.callV hC hK hl (c_X6_here G l o R (tE u (nI p) (u.1 14) (u.1 15) (u.1 38) (u.1 39) (nI ln0) (u.1 13) (u.1 17) (u.1 19) (u.1 11) (u.1 8) (u.1 9) (u.2.1 34) (u.2.1 35) (u.2.1 36) (u.2.1 37) (u.2.1 4) (u.2.1 5) (u.2.1 6) (u.2.1 7) (u.2.1 0) (u.2.1 3)) p n (rfl) (hn) (hn2) (by omega)) hP (hP.recv hK) q1438 q1440 qs52 q116 q1441 mdX6_here (room_ok hRm rfl) rfl rfl dX6_readsLine_1 ?_
  refine W_top (y := (hereI (u.2.1 10) n p)) (by simp only [tE_g10]) ?_
  refine lv_bipush (v := 97) hx hb dX6_readsLine_4 (by decide) ?_
  refine lv_isub hx hb dX6_readsLine_6 ?_
  refine lv_istore_n (lv' := [(1, .int ((hereI (u.2.1 10) n p) - 97)), (0, .ref o)]) hx hb dX6_readsLine_7 rfl hl (by decide) rfl (fun ls hl => ?_)
  refine lv_aload_n hx hb dX6_readsLine_8 rfl (lv_at hl 1 rfl) ?_
  refine CI.callV hC hK hl (c_X6_here G l o R (tE u (nI p) (u.1 14) (u.1 15) (u.1 38) (u.1 39) (nI ln0) (u.1 13) (u.1 17) (u.1 19) (u.1 11) (u.1 8) (u.1 9) (u.2.1 34) (u.2.1 35) (u.2.1 36) (u.2.1 37) (u.2.1 4) (u.2.1 5) (u.2.1 6) (u.2.1 7) (u.2.1 0) (u.2.1 3)) p n (rfl) (hn) (hn2) (by omega)) hP (hP.recv hK) q1438 q1440 qs52 q116 q1441 mdX6_here (room_ok hRm rfl) rfl rfl dX6_readsLine_9 ?_
  refine W_top (y := (hereI (u.2.1 10) n p)) (by simp only [tE_g10]) ?_
  refine lv_bipush (v := 65) hx hb dX6_readsLine_12 (by decide) ?_
  refine lv_isub hx hb dX6_readsLine_14 ?_
  refine lv_istore_n (lv' := [(2, .int ((hereI (u.2.1 10) n p) - 65)), (1, .int ((hereI (u.2.1 10) n p) - 97)), (0, .ref o)]) hx hb dX6_readsLine_15 rfl hl (by decide) rfl (fun ls hl => ?_)
  refine lv_iload_n hx hb dX6_readsLine_16 rfl (lv_at hl 1 rfl) ?_
  refine lv_iconst (v := 0) hx hb dX6_readsLine_17 (by decide) ?_
  refine lv_bipush (v := 15) hx hb dX6_readsLine_18 (by decide) ?_
  refine CI.callS hC hK hl (c_X6_in G l ((hereI (u.2.1 10) n p) - 97) 0 15 ) trivial q1392 q1393 q116 q1394 mdX6_in (room_ok hRm rfl) rfl rfl dX6_readsLine_20 ?_
  refine W_top (y := (bI (decide (97 ≤ ckN (u.2.1 10) n p ∧ ckN (u.2.1 10) n p < 113)))) (congrArg bI (here_in 97 (by decide))) ?_
  refine lv_istore_n (lv' := [(3, .int (bI (decide (97 ≤ ckN (u.2.1 10) n p ∧ ckN (u.2.1 10) n p < 113)))), (2, .int ((hereI (u.2.1 10) n p) - 65)), (1, .int ((hereI (u.2.1 10) n p) - 97)), (0, .ref o)]) hx hb dX6_readsLine_23 rfl hl (by decide) rfl (fun ls hl => ?_)
  refine lv_iload_n hx hb dX6_readsLine_24 rfl (lv_at hl 0 rfl) ?_
  refine lv_if_ne (tgt := 48) hx hb dX6_readsLine_25 (by decide) (fun c25 => ?_) (fun c25 => ?_)
  · have c25 : (decide (97 ≤ ckN (u.2.1 10) n p ∧ ckN (u.2.1 10) n p < 113)) = true := bI_1.mp c25
    refine lv_aload_n hx hb dX6_readsLine_48 rfl (lv_at hl 3 rfl) ?_
    refine M_get hC hK hP 40 (by decide) (fM40 _ _) q1241 dX6_readsLine_49 ?_
    refine W_top (y := (nI ln0)) (by rw [tE_f40]) ?_
    refine lv_bipush (v := 32) hx hb dX6_readsLine_52 (by decide) ?_
    refine lv_icmp_ne (tgt := 67) hx hb dX6_readsLine_54 (by decide) (fun c54 => ?_) (fun c54 => ?_)
    · have c54 : ¬ (ln0 = 32) := mt (nI_eq (a := ln0) (b := 32) (by omega) (by omega)).mpr c54
      refine lv_aload_n hx hb dX6_readsLine_67 rfl (lv_at hl 3 rfl) ?_
      refine lv_aload_n hx hb dX6_readsLine_68 rfl (lv_at hl 3 rfl) ?_
      refine M_get hC hK hP 40 (by decide) (fM40 _ _) q1241 dX6_readsLine_69 ?_
      refine W_top (y := (nI ln0)) (by rw [tE_f40]) ?_
      refine lv_iconst (v := 1) hx hb dX6_readsLine_72 (by decide) ?_
      refine lv_iadd hx hb dX6_readsLine_73 ?_
      refine W_top (nI_add ln0 1) ?_
      refine M_put hC hK hD hP hS 40 (by decide) (sM40 _ _ _) q1241 rfl dX6_readsLine_74 (fun H locs hP hS => ?_)
      rw [tE_V40] at hP
      refine lv_iload_n hx hb dX6_readsLine_77 rfl (lv_at hl 0 rfl) ?_
      refine lv_if_eq (tgt := 89) hx hb dX6_readsLine_78 (by decide) (fun c78 => ?_) (fun c78 => ?_)
      · have c78 : (decide (97 ≤ ckN (u.2.1 10) n p ∧ ckN (u.2.1 10) n p < 113)) = false := bI_0.mp c78
        rw [c25] at c78; exact Bool.noConfusion c78
      · have c78 : (decide (97 ≤ ckN (u.2.1 10) n p ∧ ckN (u.2.1 10) n p < 113)) = true := bI_1.mp c78
        refine lv_aload_n hx hb dX6_readsLine_81 rfl (lv_at hl 3 rfl) ?_
        refine lv_iload_n hx hb dX6_readsLine_82 rfl (lv_at hl 2 rfl) ?_
        refine W_top (y := (nI (ckN (u.2.1 10) n p - 97))) ((here_sub (of_decide_eq_true c25) (by decide)).1) ?_
        refine CMi.call hC hK hS (fun q h => h) hl (c_X6_readsHouse G l o R (tE u (nI p) (u.1 14) (u.1 15) (u.1 38) (u.1 39) (nI (ln0 + 1)) (u.1 13) (u.1 17) (u.1 19) (u.1 11) (u.1 8) (u.1 9) (u.2.1 34) (u.2.1 35) (u.2.1 36) (u.2.1 37) (u.2.1 4) (u.2.1 5) (u.2.1 6) (u.2.1 7) (u.2.1 0) (u.2.1 3)) (ckN (u.2.1 10) n p - 97) p n (ln0 + 1) (by have := of_decide_eq_true c25; omega) (rfl) (hn) (hn2) (hp2) (hpn) (rfl) hD) hP rfl q1521 q1523 qs70 q116 q1524 mdX6_readsHouse (room_ok hRm rfl) rfl rfl dX6_readsLine_83 (fun r83 w83 H locs hpo hP _ _ hS => ?_)
        obtain ⟨ok_1, pl_2, fa_3, nu_4, hs_5, th_6, ln_7, fc_8, sd_9, fr_10, un_11, f83_0, er83, ew83⟩ := hpo
        rw [ew83] at hP
        refine W_top (y := (bI ok_1)) er83 ?_
        rw [tE_again] at hP
        simp only [tE_f11, tE_f13, tE_f17, tE_f19, tE_f8, tE_f9, tE_g0, tE_g3, tE_g4, tE_g5, tE_g6, tE_g7] at hP
        refine lv_goto (tgt := 94) hx hb dX6_readsLine_86 (by decide) ?_
        exact hq _ _ _ _ _ _ dX6_readsLine_94 hP hS (by first | rfl | exact bI_nar _) (by exact ⟨ok_1, _, _, _, _, _, _, _, _, _, _, by unfold lineW; rw [if_pos (of_decide_eq_true c25), if_neg c54]; exact f83_0, rfl, rfl⟩)
    · have c54 : ln0 = 32 := (nI_eq (a := ln0) (b := 32) (by omega) (by omega)).mp c54
      refine lv_aload_n hx hb dX6_readsLine_57 rfl (lv_at hl 3 rfl) ?_
      refine lv_iconst (v := 4) hx hb dX6_readsLine_58 (by decide) ?_
      refine lv_aload_n hx hb dX6_readsLine_59 rfl (lv_at hl 3 rfl) ?_
      refine M_get hC hK hP 12 (by decide) (fM12 _ _) q1213 dX6_readsLine_60 ?_
      refine W_top (y := (nI p)) (by rw [tE_f12]) ?_
      refine CMi.call hC hK hS (fun q h => h) hl (c_X6_wrongAt G l o R (tE u (nI p) (u.1 14) (u.1 15) (u.1 38) (u.1 39) (nI ln0) (u.1 13) (u.1 17) (u.1 19) (u.1 11) (u.1 8) (u.1 9) (u.2.1 34) (u.2.1 35) (u.2.1 36) (u.2.1 37) (u.2.1 4) (u.2.1 5) (u.2.1 6) (u.2.1 7) (u.2.1 0) (u.2.1 3)) 4 p  hD) hP rfl q1442 q1444 qs53 q116 q1445 mdX6_wrongAt (room_ok hRm rfl) rfl rfl dX6_readsLine_63 (fun r63 w63 H locs hpo hP _ _ hS => ?_)
      obtain ⟨er63, ew63⟩ := hpo
      rw [ew63] at hP
      refine W_top (y := (bI false)) er63 ?_
      rw [tE_V14] at hP
      exact hq _ _ _ _ _ _ dX6_readsLine_66 hP hS (by first | rfl | exact bI_nar _) (by exact ⟨false, _, _, _, _, _, _, _, _, _, _, by rw [lineW, if_pos (of_decide_eq_true c25), if_pos c54]; exact ⟨rfl, rfl⟩, rfl, rfl⟩)
  · have c25 : (decide (97 ≤ ckN (u.2.1 10) n p ∧ ckN (u.2.1 10) n p < 113)) = false := bI_0.mp c25
    refine lv_iload_n hx hb dX6_readsLine_28 rfl (lv_at hl 1 rfl) ?_
    refine lv_iconst (v := 0) hx hb dX6_readsLine_29 (by decide) ?_
    refine lv_bipush (v := 15) hx hb dX6_readsLine_30 (by decide) ?_
    refine CI.callS hC hK hl (c_X6_in G l ((hereI (u.2.1 10) n p) - 65) 0 15 ) trivial q1392 q1393 q116 q1394 mdX6_in (room_ok hRm rfl) rfl rfl dX6_readsLine_32 ?_
    refine W_top (y := (bI (decide (65 ≤ ckN (u.2.1 10) n p ∧ ckN (u.2.1 10) n p < 81)))) (congrArg bI (here_in 65 (by decide))) ?_
    refine lv_if_ne (tgt := 48) hx hb dX6_readsLine_35 (by decide) (fun c35 => ?_) (fun c35 => ?_)
    · have c35 : (decide (65 ≤ ckN (u.2.1 10) n p ∧ ckN (u.2.1 10) n p < 81)) = true := bI_1.mp c35
      refine lv_aload_n hx hb dX6_readsLine_48 rfl (lv_at hl 3 rfl) ?_
      refine M_get hC hK hP 40 (by decide) (fM40 _ _) q1241 dX6_readsLine_49 ?_
      refine W_top (y := (nI ln0)) (by rw [tE_f40]) ?_
      refine lv_bipush (v := 32) hx hb dX6_readsLine_52 (by decide) ?_
      refine lv_icmp_ne (tgt := 67) hx hb dX6_readsLine_54 (by decide) (fun c54 => ?_) (fun c54 => ?_)
      · have c54 : ¬ (ln0 = 32) := mt (nI_eq (a := ln0) (b := 32) (by omega) (by omega)).mpr c54
        refine lv_aload_n hx hb dX6_readsLine_67 rfl (lv_at hl 3 rfl) ?_
        refine lv_aload_n hx hb dX6_readsLine_68 rfl (lv_at hl 3 rfl) ?_
        refine M_get hC hK hP 40 (by decide) (fM40 _ _) q1241 dX6_readsLine_69 ?_
        refine W_top (y := (nI ln0)) (by rw [tE_f40]) ?_
        refine lv_iconst (v := 1) hx hb dX6_readsLine_72 (by decide) ?_
        refine lv_iadd hx hb dX6_readsLine_73 ?_
        refine W_top (nI_add ln0 1) ?_
        refine M_put hC hK hD hP hS 40 (by decide) (sM40 _ _ _) q1241 rfl dX6_readsLine_74 (fun H locs hP hS => ?_)
        rw [tE_V40] at hP
        refine lv_iload_n hx hb dX6_readsLine_77 rfl (lv_at hl 0 rfl) ?_
        refine lv_if_eq (tgt := 89) hx hb dX6_readsLine_78 (by decide) (fun c78 => ?_) (fun c78 => ?_)
        · have c78 : (decide (97 ≤ ckN (u.2.1 10) n p ∧ ckN (u.2.1 10) n p < 113)) = false := bI_0.mp c78
          refine lv_aload_n hx hb dX6_readsLine_89 rfl (lv_at hl 3 rfl) ?_
          refine lv_iload_n hx hb dX6_readsLine_90 rfl (lv_at hl 1 rfl) ?_
          refine W_top (y := (nI (ckN (u.2.1 10) n p - 65))) ((here_sub (of_decide_eq_true c35) (by decide)).1) ?_
          refine CMi.call hC hK hS (fun q h => h) hl (c_X6_readsThing G l o R (tE u (nI p) (u.1 14) (u.1 15) (u.1 38) (u.1 39) (nI (ln0 + 1)) (u.1 13) (u.1 17) (u.1 19) (u.1 11) (u.1 8) (u.1 9) (u.2.1 34) (u.2.1 35) (u.2.1 36) (u.2.1 37) (u.2.1 4) (u.2.1 5) (u.2.1 6) (u.2.1 7) (u.2.1 0) (u.2.1 3)) (ckN (u.2.1 10) n p - 65) p n (ln0 + 1) (by have := of_decide_eq_true c35; omega) (rfl) (hn) (hn2) (hp2) (hpn) (rfl) hD) hP rfl q1529 q1531 qs72 q116 q1532 mdX6_readsThing (room_ok hRm rfl) rfl rfl dX6_readsLine_91 (fun r91 w91 H locs hpo hP _ _ hS => ?_)
          obtain ⟨ok_12, pl_13, fa_14, nu_15, hs_16, th_17, ln_18, fc_19, sd_20, fr_21, un_22, f91_0, er91, ew91⟩ := hpo
          rw [ew91] at hP
          refine W_top (y := (bI ok_12)) er91 ?_
          rw [tE_again] at hP
          simp only [tE_f11, tE_f13, tE_f17, tE_f19, tE_f8, tE_f9, tE_g0, tE_g3, tE_g4, tE_g5, tE_g6, tE_g7] at hP
          exact hq _ _ _ _ _ _ dX6_readsLine_94 hP hS (by first | rfl | exact bI_nar _) (by exact ⟨ok_12, _, _, _, _, _, _, _, _, _, _, by unfold lineW; rw [if_neg (of_decide_eq_false c25), if_pos (of_decide_eq_true c35), if_neg c54]; exact f91_0, rfl, rfl⟩)
        · have c78 : (decide (97 ≤ ckN (u.2.1 10) n p ∧ ckN (u.2.1 10) n p < 113)) = true := bI_1.mp c78
          rw [c25] at c78; exact Bool.noConfusion c78
      · have c54 : ln0 = 32 := (nI_eq (a := ln0) (b := 32) (by omega) (by omega)).mp c54
        refine lv_aload_n hx hb dX6_readsLine_57 rfl (lv_at hl 3 rfl) ?_
        refine lv_iconst (v := 4) hx hb dX6_readsLine_58 (by decide) ?_
        refine lv_aload_n hx hb dX6_readsLine_59 rfl (lv_at hl 3 rfl) ?_
        refine M_get hC hK hP 12 (by decide) (fM12 _ _) q1213 dX6_readsLine_60 ?_
        refine W_top (y := (nI p)) (by rw [tE_f12]) ?_
        refine CMi.call hC hK hS (fun q h => h) hl (c_X6_wrongAt G l o R (tE u (nI p) (u.1 14) (u.1 15) (u.1 38) (u.1 39) (nI ln0) (u.1 13) (u.1 17) (u.1 19) (u.1 11) (u.1 8) (u.1 9) (u.2.1 34) (u.2.1 35) (u.2.1 36) (u.2.1 37) (u.2.1 4) (u.2.1 5) (u.2.1 6) (u.2.1 7) (u.2.1 0) (u.2.1 3)) 4 p  hD) hP rfl q1442 q1444 qs53 q116 q1445 mdX6_wrongAt (room_ok hRm rfl) rfl rfl dX6_readsLine_63 (fun r63 w63 H locs hpo hP _ _ hS => ?_)
        obtain ⟨er63, ew63⟩ := hpo
        rw [ew63] at hP
        refine W_top (y := (bI false)) er63 ?_
        rw [tE_V14] at hP
        exact hq _ _ _ _ _ _ dX6_readsLine_66 hP hS (by first | rfl | exact bI_nar _) (by exact ⟨false, _, _, _, _, _, _, _, _, _, _, by rw [lineW, if_neg (of_decide_eq_false c25), if_pos (of_decide_eq_true c35), if_pos c54]; exact ⟨rfl, rfl⟩, rfl, rfl⟩)
    · have c35 : (decide (65 ≤ ckN (u.2.1 10) n p ∧ ckN (u.2.1 10) n p < 81)) = false := bI_0.mp c35
      refine lv_aload_n hx hb dX6_readsLine_38 rfl (lv_at hl 3 rfl) ?_
      refine lv_iconst (v := 1) hx hb dX6_readsLine_39 (by decide) ?_
      refine lv_aload_n hx hb dX6_readsLine_40 rfl (lv_at hl 3 rfl) ?_
      refine M_get hC hK hP 12 (by decide) (fM12 _ _) q1213 dX6_readsLine_41 ?_
      refine W_top (y := (nI p)) (by rw [tE_f12]) ?_
      refine CMi.call hC hK hS (fun q h => h) hl (c_X6_wrongAt G l o R (tE u (nI p) (u.1 14) (u.1 15) (u.1 38) (u.1 39) (nI ln0) (u.1 13) (u.1 17) (u.1 19) (u.1 11) (u.1 8) (u.1 9) (u.2.1 34) (u.2.1 35) (u.2.1 36) (u.2.1 37) (u.2.1 4) (u.2.1 5) (u.2.1 6) (u.2.1 7) (u.2.1 0) (u.2.1 3)) 1 p  hD) hP rfl q1442 q1444 qs53 q116 q1445 mdX6_wrongAt (room_ok hRm rfl) rfl rfl dX6_readsLine_44 (fun r44 w44 H locs hpo hP _ _ hS => ?_)
      obtain ⟨er44, ew44⟩ := hpo
      rw [ew44] at hP
      refine W_top (y := (bI false)) er44 ?_
      rw [tE_V14] at hP
      exact hq _ _ _ _ _ _ dX6_readsLine_47 hP hS (by first | rfl | exact bI_nar _) (by exact ⟨false, _, _, _, _, _, _, _, _, _, _, by rw [lineW, if_neg (of_decide_eq_false c25), if_neg (of_decide_eq_false c35)]; exact ⟨rfl, rfl⟩, rfl, rfl⟩)
