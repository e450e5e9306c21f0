set_option maxRecDepth 100000
set_option maxHeartbeats 4000000 in
theorem c_X0_sees (G : GG) (l : Launch) (o : Nat) (R : Nat → Nat) (tx : Nat) (u : MS) (h : Int32) (t : Int32) (hsd : PB (u.2.1 21)) (hfc : PB (u.2.1 20)) : CIs G l yX0_sees cX0_sees 3 .int 5 95 [.ref o, .int h, .int t] (PwS G o R tx u) (seesI (u.1 24) (snS (u.1 25) (u.2.1 21) (u.2.1 22) (u.2.1 23) (u.2.1 20)) h t) := by
  refine CIs.mk RX0 pnX0 rfl (rfl) (Nat.le_of_ble_eq_true rfl) (fun pg en Rm sg mm ar bw mth cd QQ ls hC hRm hK hX hl hq => ?_)
  have hx := hC.1; have hb := hC.2.1; have ho := hC.2.2.2.1; have hts := hC.2.2.2.2
  have hP : PwS G o R tx u sg.heap := hX
  have hl : lv_has ls 3 [(0, .ref o), (1, .int h), (2, .int t)] := hl
  refine lv_aload_n hx hb dX0_sees_0 rfl (lv_at hl 0 rfl) ?_
  refine S_get hC hK hP (oS_main _ _ _ _ _) clX0 in_X0 0 (by decide) (fD0 _ _ _ _) q291 dX0_sees_1 ?_
  refine lv_iload_n hx hb dX0_sees_4 rfl (lv_at hl 1 rfl) ?_
  refine CIs.go (rcV hC hl (c_X1_isHouse_plan G l o R tx u h ) hK hP (va_recv hK.1 hP clX1 (oS_plan _ _ _ _ _)) q369 q370 q371 q111 q372 mdX1_isHouse (room_s hRm rfl) rfl rfl dX0_sees_5) ?_
  refine lv_if_eq (tgt := 30) hx hb dX0_sees_8 (by decide) (fun c8 => ?_) (fun c8 => ?_)
  · have c8 : (isHouseB (u.1 24) h) = false := bI_0.mp c8
    refine lv_iconst (v := (-1)) hx hb dX0_sees_30 (by decide) ?_
    exact hq _ _ _ dX0_sees_31 (by grind [seesI, snS])
  · have c8 : (isHouseB (u.1 24) h) = true := bI_1.mp c8
    obtain ⟨j, hj, rfl, hjx⟩ := isHouseB_nI c8
    have hl : lv_has ls 3 [(0, .ref o), (1, .int (nI j)), (2, .int t)] := hl
    refine lv_iload_n hx hb dX0_sees_11 rfl (lv_at hl 2 rfl) ?_
    refine CIs.go (rcS hC hl (c_X0_isTurn G l t ) hK trivial q363 q364 q110 q365 mdX0_isTurn (room_s hRm rfl) rfl rfl dX0_sees_12) ?_
    refine lv_if_eq (tgt := 30) hx hb dX0_sees_15 (by decide) (fun c15 => ?_) (fun c15 => ?_)
    · have c15 : (isTurnB t) = false := bI_0.mp c15
      refine lv_iconst (v := (-1)) hx hb dX0_sees_30 (by decide) ?_
      exact hq _ _ _ dX0_sees_31 (by grind [seesI, snS])
    · have c15 : (isTurnB t) = true := bI_1.mp c15
      refine lv_aload_n hx hb dX0_sees_18 rfl (lv_at hl 0 rfl) ?_
      refine S_get hC hK hP (oS_main _ _ _ _ _) clX0 in_X0 0 (by decide) (fD0 _ _ _ _) q291 dX0_sees_19 ?_
      refine lv_iload_n hx hb dX0_sees_22 rfl (lv_at hl 1 rfl) ?_
      refine lv_iload_n hx hb dX0_sees_23 rfl (lv_at hl 2 rfl) ?_
      refine CIs.go (rcV hC hl (c_X1_seen_plan G l o R tx u j t (by first | assumption | omega | rfl | (simp_all; done)) (by first | assumption | omega | rfl | (simp_all; done)) (by first | assumption | omega | rfl | (simp_all; done))) hK hP (va_recv hK.1 hP clX1 (oS_plan _ _ _ _ _)) q1000 q894 q895 q111 q896 mdX1_seen (room_s hRm rfl) rfl rfl dX0_sees_24) ?_
      refine lv_goto (tgt := 31) hx hb dX0_sees_27 (by decide) ?_
      exact hq _ _ _ dX0_sees_31 (by grind [seesI, snS])
set_option maxHeartbeats 4000000 in
theorem c_X0_turnsOf (G : GG) (l : Launch) (o : Nat) (R : Nat → Nat) (tx : Nat) (u : MS) (h : Int32) : CIs G l yX0_turnsOf cX0_turnsOf 7 .int 2 24 [.ref o, .int h] (PwS G o R tx u) (turnsS (u.2.1 1) h 12) := by
  refine CIs.mk RX0 pnX0 rfl (rfl) (Nat.le_of_ble_eq_true rfl) (fun pg en Rm sg mm ar bw mth cd QQ ls hC hRm hK hX hl hq => ?_)
  have hx := hC.1; have hb := hC.2.1; have ho := hC.2.2.2.1; have hts := hC.2.2.2.2
  have hP : PwS G o R tx u sg.heap := hX
  have hl : lv_has ls 7 [(0, .ref o), (1, .int h)] := hl
  refine lv_iconst (v := 0) hx hb dX0_turnsOf_0 (by decide) ?_
  refine lv_istore_n (lv' := [(2, .int 0), (0, .ref o), (1, .int h)]) hx hb dX0_turnsOf_1 rfl hl (by decide) rfl (fun ls hl => ?_)
  refine lv_aload_n hx hb dX0_turnsOf_2 rfl (lv_at hl 1 rfl) ?_
  refine S_get hC hK hP (oS_main _ _ _ _ _) clX0 in_X0 1 (by decide) (fD1 _ _ _ _) q293 dX0_turnsOf_3 ?_
  refine lv_astore_n (lv' := [(3, .ref (R 1)), (2, .int 0), (0, .ref o), (1, .int h)]) hx hb dX0_turnsOf_6 rfl hl (by decide) rfl (fun ls hl => ?_)
  refine lv_aload_n hx hb dX0_turnsOf_7 rfl (lv_at hl 0 rfl) ?_
  refine S_alen hC hK hP (aS1 _ _ _ _ _) dX0_turnsOf_8 ?_
  refine lv_istore (lv' := [(4, .int 12), (3, .ref (R 1)), (2, .int 0), (0, .ref o), (1, .int h)]) hx hb dX0_turnsOf_9 hl (by decide) rfl (fun ls hl => ?_)
  refine lv_iconst (v := 0) hx hb dX0_turnsOf_11 (by decide) ?_
  refine lv_istore (lv' := [(5, .int 0), (4, .int 12), (3, .ref (R 1)), (2, .int 0), (0, .ref o), (1, .int h)]) hx hb dX0_turnsOf_12 hl (by decide) rfl (fun ls hl => ?_)
  have LP14 : ∀ (fu14 : Nat) (k : Nat) (n : Int32) (ls : Array Slot), 12 - k < fu14 → k ≤ 12 → n = turnsS (u.2.1 1) h k → lv_has ls 7 [(0, .ref o), (1, .int h), (2, .int n), (3, .ref (R 1)), (4, .int 12), (5, .int (nI k))] → W pg l en Rm sg mm ar bw mth cd sg.heap [] 0 0 QQ (F0 mm 14 ls []) := by
    intro fu14
    induction fu14 with
    | zero => intro k n ls hm14 hk hn hl; exact absurd hm14 (Nat.not_lt_zero _)
    | succ fu14 ih14 =>
      intro k n ls hm14 hk hn hl
      refine lv_iload hx hb dX0_turnsOf_14 (lv_at hl 5 rfl) ?_
      refine lv_iload hx hb dX0_turnsOf_16 (lv_at hl 4 rfl) ?_
      refine lv_icmp_ge (tgt := 47) hx hb dX0_turnsOf_18 (by decide) (fun c18 => ?_) (fun c18 => ?_)
      · have c18 : 12 ≤ k := (nI_leI (a := 12) (b := k) (by omega) (by omega)).mp c18
        refine lv_iload_n hx hb dX0_turnsOf_47 rfl (lv_at hl 2 rfl) ?_
        exact hq _ _ _ dX0_turnsOf_48 (by have hfin : k = 12 := (by omega); subst hfin; exact hn)
      · have c18 : ¬ (12 ≤ k) := mt (nI_leI (a := 12) (b := k) (by omega) (by omega)).mpr c18
        refine lv_aload_n hx hb dX0_turnsOf_21 rfl (lv_at hl 3 rfl) ?_
        refine lv_iload hx hb dX0_turnsOf_22 (lv_at hl 5 rfl) ?_
        refine S_ald hC hK hP (aS1 _ _ _ _ _) (j := k) (by decide) (rfl) (by omega) dX0_turnsOf_24 ?_
        refine lv_istore (lv' := [(6, .int (u.2.1 1 k)), (0, .ref o), (1, .int h), (2, .int n), (3, .ref (R 1)), (4, .int 12), (5, .int (nI k))]) hx hb dX0_turnsOf_25 hl (by decide) rfl (fun ls hl => ?_)
        refine lv_iload_n hx hb dX0_turnsOf_27 rfl (lv_at hl 3 rfl) ?_
        refine lv_iload hx hb dX0_turnsOf_28 (lv_at hl 0 rfl) ?_
        refine lv_iload_n hx hb dX0_turnsOf_30 rfl (lv_at hl 2 rfl) ?_
        refine lv_icmp_ne (tgt := 38) hx hb dX0_turnsOf_31 (by decide) (fun c31 => ?_) (fun c31 => ?_)
        · refine lv_iconst (v := 0) hx hb dX0_turnsOf_38 (by decide) ?_
          refine lv_iadd hx hb dX0_turnsOf_39 ?_
          refine W_top (y := n) (add0 _) ?_
          refine lv_istore_n (lv' := [(2, .int n), (6, .int (u.2.1 1 k)), (0, .ref o), (1, .int h), (3, .ref (R 1)), (4, .int 12), (5, .int (nI k))]) hx hb dX0_turnsOf_40 rfl hl (by decide) rfl (fun ls hl => ?_)
          refine lv_iinc (v := (nI (k + 1))) (lv' := [(5, .int (nI (k + 1))), (2, .int n), (6, .int (u.2.1 1 k)), (0, .ref o), (1, .int h), (3, .ref (R 1)), (4, .int 12)]) hx hb dX0_turnsOf_41 hl (k := 6) rfl (nI_inc k) (by decide) rfl (fun ls hl => ?_)
          refine lv_goto (tgt := 14) hx hb dX0_turnsOf_44 (by decide) ?_
          exact ih14 (k + 1) n ls (by omega) (by first | omega | assumption | rfl | (simp_all; done) | grind) (by (clear hq hK hts hC hx hb ho hRm hl hP ih14); grind [turnsS])  (lv_sub hl [3, 4, 1, 5, 6, 0] rfl)
        · refine lv_iconst (v := 1) hx hb dX0_turnsOf_34 (by decide) ?_
          refine lv_goto (tgt := 39) hx hb dX0_turnsOf_35 (by decide) ?_
          refine lv_iadd hx hb dX0_turnsOf_39 ?_
          refine lv_istore_n (lv' := [(2, .int (n + 1)), (6, .int (u.2.1 1 k)), (0, .ref o), (1, .int h), (3, .ref (R 1)), (4, .int 12), (5, .int (nI k))]) hx hb dX0_turnsOf_40 rfl hl (by decide) rfl (fun ls hl => ?_)
          refine lv_iinc (v := (nI (k + 1))) (lv' := [(5, .int (nI (k + 1))), (2, .int (n + 1)), (6, .int (u.2.1 1 k)), (0, .ref o), (1, .int h), (3, .ref (R 1)), (4, .int 12)]) hx hb dX0_turnsOf_41 hl (k := 6) rfl (nI_inc k) (by decide) rfl (fun ls hl => ?_)
          refine lv_goto (tgt := 14) hx hb dX0_turnsOf_44 (by decide) ?_
          exact ih14 (k + 1) (n + 1) ls (by omega) (by first | omega | assumption | rfl | (simp_all; done) | grind) (by (clear hq hK hts hC hx hb ho hRm hl hP ih14); grind [turnsS])  (lv_sub hl [3, 4, 1, 5, 6, 0] rfl)
  exact LP14 _ 0 0 ls (Nat.lt_succ_self _) (by first | omega | assumption | rfl | (simp_all; done) | grind) (rfl)  (lv_sub hl [4, 5, 3, 2, 1, 0] rfl)
set_option maxHeartbeats 4000000 in
theorem c_X0_dark (G : GG) (l : Launch) (o : Nat) (R : Nat → Nat) (tx : Nat) (u : MS) (h : Int32) : CIs G l yX0_dark cX0_dark 5 .int 2 24 [.ref o, .int h] (PwS G o R tx u) (darkI (u.2.1 1) h) := by
  refine CIs.mk RX0 pnX0 rfl (rfl) (Nat.le_of_ble_eq_true rfl) (fun pg en Rm sg mm ar bw mth cd QQ ls hC hRm hK hX hl hq => ?_)
  have hx := hC.1; have hb := hC.2.1; have ho := hC.2.2.2.1; have hts := hC.2.2.2.2
  have hP : PwS G o R tx u sg.heap := hX
  have hl : lv_has ls 5 [(0, .ref o), (1, .int h)] := hl
  refine lv_iconst (v := 0) hx hb dX0_dark_0 (by decide) ?_
  refine lv_istore_n (lv' := [(2, .int 0), (0, .ref o), (1, .int h)]) hx hb dX0_dark_1 rfl hl (by decide) rfl (fun ls hl => ?_)
  refine lv_iconst (v := 0) hx hb dX0_dark_2 (by decide) ?_
  refine lv_istore_n (lv' := [(3, .int 0), (2, .int 0), (0, .ref o), (1, .int h)]) hx hb dX0_dark_3 rfl hl (by decide) rfl (fun ls hl => ?_)
  refine lv_iconst (v := 0) hx hb dX0_dark_4 (by decide) ?_
  refine lv_istore (lv' := [(4, .int 0), (3, .int 0), (2, .int 0), (0, .ref o), (1, .int h)]) hx hb dX0_dark_5 hl (by decide) rfl (fun ls hl => ?_)
  have LP7 : ∀ (fu7 : Nat) (k : Nat) (ru : Nat) (mu : Nat) (ls : Array Slot), 24 - k < fu7 → k ≤ 24 → ru = ruN (fun t => !decide ((u.2.1 1) t = h)) k → mu = muN (fun t => !decide ((u.2.1 1) t = h)) k → lv_has ls 5 [(0, .ref o), (1, .int h), (2, .int (nI ru)), (3, .int (nI mu)), (4, .int (nI k))] → W pg l en Rm sg mm ar bw mth cd sg.heap [] 0 0 QQ (F0 mm 7 ls []) := by
    intro fu7
    induction fu7 with
    | zero => intro k ru mu ls hm7 hk hru hmu hl; exact absurd hm7 (Nat.not_lt_zero _)
    | succ fu7 ih7 =>
      intro k ru mu ls hm7 hk hru hmu hl
      have hb1 := ruN_le (fun t => !decide ((u.2.1 1) t = h)) k
      have hb2 := muN_le (fun t => !decide ((u.2.1 1) t = h)) k
      refine lv_iload hx hb dX0_dark_7 (lv_at hl 4 rfl) ?_
      refine lv_bipush (v := 24) hx hb dX0_dark_9 (by decide) ?_
      refine lv_icmp_ge (tgt := 48) hx hb dX0_dark_11 (by decide) (fun c11 => ?_) (fun c11 => ?_)
      · have c11 : 24 ≤ k := (nI_leI (a := 24) (b := k) (by omega) (by omega)).mp c11
        refine lv_iload_n hx hb dX0_dark_48 rfl (lv_at hl 3 rfl) ?_
        refine lv_bipush (v := 12) hx hb dX0_dark_49 (by decide) ?_
        refine S_min hC hl q977 q468 q120 q469 (room_m hRm rfl) rfl dX0_dark_51 ?_
        exact hq _ _ _ dX0_dark_54 (by have hfin : k = 24 := (by omega); subst hfin; rw [hmu]; exact long_mu _)
      · have c11 : ¬ (24 ≤ k) := mt (nI_leI (a := 24) (b := k) (by omega) (by omega)).mpr c11
        refine lv_aload_n hx hb dX0_dark_14 rfl (lv_at hl 0 rfl) ?_
        refine S_get hC hK hP (oS_main _ _ _ _ _) clX0 in_X0 1 (by decide) (fD1 _ _ _ _) q293 dX0_dark_15 ?_
        refine lv_iload hx hb dX0_dark_18 (lv_at hl 4 rfl) ?_
        refine lv_bipush (v := 12) hx hb dX0_dark_20 (by decide) ?_
        refine lv_irem hx hb dX0_dark_22 (by decide) ?_
        refine W_top (pk_rem (a := k) (d := 12) (by omega) (by omega) (by omega)) ?_
        refine S_ald hC hK hP (aS1 _ _ _ _ _) (j := (k % 12)) (by decide) (rfl) (by omega) dX0_dark_23 ?_
        refine lv_iload_n hx hb dX0_dark_24 rfl (lv_at hl 1 rfl) ?_
        refine lv_icmp_ne (tgt := 32) hx hb dX0_dark_25 (by decide) (fun c25 => ?_) (fun c25 => ?_)
        · refine lv_iload_n hx hb dX0_dark_32 rfl (lv_at hl 2 rfl) ?_
          refine lv_iconst (v := 1) hx hb dX0_dark_33 (by decide) ?_
          refine lv_iadd hx hb dX0_dark_34 ?_
          refine W_top (nI_add ru 1) ?_
          refine lv_istore_n (lv' := [(2, .int (nI (ru + 1))), (0, .ref o), (1, .int h), (3, .int (nI mu)), (4, .int (nI k))]) hx hb dX0_dark_35 rfl hl (by decide) rfl (fun ls hl => ?_)
          refine lv_iload_n hx hb dX0_dark_36 rfl (lv_at hl 3 rfl) ?_
          refine lv_iload_n hx hb dX0_dark_37 rfl (lv_at hl 0 rfl) ?_
          refine S_max hC hl q978 q465 q120 q466 (room_m hRm rfl) rfl dX0_dark_38 ?_
          refine W_top (y := (nI (max mu (ru + 1)))) (mxI_nI (a := mu) (b := (ru + 1)) (by omega) (by omega)) ?_
          refine lv_istore_n (lv' := [(3, .int (nI (max mu (ru + 1)))), (2, .int (nI (ru + 1))), (0, .ref o), (1, .int h), (4, .int (nI k))]) hx hb dX0_dark_41 rfl hl (by decide) rfl (fun ls hl => ?_)
          refine lv_iinc (v := (nI (k + 1))) (lv' := [(4, .int (nI (k + 1))), (3, .int (nI (max mu (ru + 1)))), (2, .int (nI (ru + 1))), (0, .ref o), (1, .int h)]) hx hb dX0_dark_42 hl (k := 4) rfl (nI_inc k) (by decide) rfl (fun ls hl => ?_)
          refine lv_goto (tgt := 7) hx hb dX0_dark_45 (by decide) ?_
          exact ih7 (k + 1) (ru + 1) (max mu (ru + 1)) ls (by omega) (by first | omega | assumption | rfl | (simp_all; done) | grind) (by first | (rw [ru_t (by simp [c25]), hru]) | (rw [ru_f (by simp [c25])])) (by first | (show _ = max (muN _ k) (ruN _ (k + 1)); rw [ru_t (by simp [c25]), hru, hmu]) | (show _ = max (muN _ k) (ruN _ (k + 1)); rw [ru_f (by simp [c25]), hmu]))  (lv_sub hl [3, 4, 2, 1, 0] rfl)
        · refine lv_iconst (v := 0) hx hb dX0_dark_28 (by decide) ?_
          refine lv_goto (tgt := 35) hx hb dX0_dark_29 (by decide) ?_
          refine lv_istore_n (lv' := [(2, .int 0), (0, .ref o), (1, .int h), (3, .int (nI mu)), (4, .int (nI k))]) hx hb dX0_dark_35 rfl hl (by decide) rfl (fun ls hl => ?_)
          refine lv_iload_n hx hb dX0_dark_36 rfl (lv_at hl 3 rfl) ?_
          refine lv_iload_n hx hb dX0_dark_37 rfl (lv_at hl 0 rfl) ?_
          refine S_max hC hl q978 q465 q120 q466 (room_m hRm rfl) rfl dX0_dark_38 ?_
          refine W_top (y := (nI (max mu 0))) (mxI_nI (a := mu) (b := 0) (by omega) (by omega)) ?_
          refine lv_istore_n (lv' := [(3, .int (nI (max mu 0))), (2, .int 0), (0, .ref o), (1, .int h), (4, .int (nI k))]) hx hb dX0_dark_41 rfl hl (by decide) rfl (fun ls hl => ?_)
          refine lv_iinc (v := (nI (k + 1))) (lv' := [(4, .int (nI (k + 1))), (3, .int (nI (max mu 0))), (2, .int 0), (0, .ref o), (1, .int h)]) hx hb dX0_dark_42 hl (k := 4) rfl (nI_inc k) (by decide) rfl (fun ls hl => ?_)
          refine lv_goto (tgt := 7) hx hb dX0_dark_45 (by decide) ?_
          exact ih7 (k + 1) 0 (max mu 0) ls (by omega) (by first | omega | assumption | rfl | (simp_all; done) | grind) (by first | (rw [ru_t (by simp [c25]), hru]) | (rw [ru_f (by simp [c25])])) (by first | (show _ = max (muN _ k) (ruN _ (k + 1)); rw [ru_t (by simp [c25]), hru, hmu]) | (show _ = max (muN _ k) (ruN _ (k + 1)); rw [ru_f (by simp [c25]), hmu]))  (lv_sub hl [3, 4, 2, 1, 0] rfl)
  exact LP7 _ 0 0 0 ls (Nat.lt_succ_self _) (by first | omega | assumption | rfl | (simp_all; done) | grind) (rfl) (rfl)  (lv_sub hl [3, 4, 2, 1, 0] rfl)
set_option maxHeartbeats 4000000 in
theorem c_X0_houseIs (G : GG) (l : Launch) (o : Nat) (R : Nat → Nat) (tx : Nat) (u : MS) (h : Int32) (k : Int32) (hsd : PB (u.2.1 21)) (hfc : PB (u.2.1 20)) : CIs G l yX0_houseIs cX0_houseIs 3 .int 6 118 [.ref o, .int h, .int k] (PwS G o R tx u) (houseI (u.1 24) (u.2.1 20) (u.2.1 40) (u.2.1 1) (snS (u.1 25) (u.2.1 21) (u.2.1 22) (u.2.1 23) (u.2.1 20)) h k) := by
  refine CIs.mk RX0 pnX0 rfl (rfl) (Nat.le_of_ble_eq_true rfl) (fun pg en Rm sg mm ar bw mth cd QQ ls hC hRm hK hX hl hq => ?_)
  have hx := hC.1; have hb := hC.2.1; have ho := hC.2.2.2.1; have hts := hC.2.2.2.2
  have hP : PwS G o R tx u sg.heap := hX
  have hl : lv_has ls 3 [(0, .ref o), (1, .int h), (2, .int k)] := hl
  refine lv_aload_n hx hb dX0_houseIs_0 rfl (lv_at hl 0 rfl) ?_
  refine S_get hC hK hP (oS_main _ _ _ _ _) clX0 in_X0 0 (by decide) (fD0 _ _ _ _) q291 dX0_houseIs_1 ?_
  refine lv_iload_n hx hb dX0_houseIs_4 rfl (lv_at hl 1 rfl) ?_
  refine CIs.go (rcV hC hl (c_X1_isHouse_plan G l o R tx u h ) hK hP (va_recv hK.1 hP clX1 (oS_plan _ _ _ _ _)) q369 q370 q371 q111 q372 mdX1_isHouse (room_s hRm rfl) rfl rfl dX0_houseIs_5) ?_
  refine lv_if_ne (tgt := 13) hx hb dX0_houseIs_8 (by decide) (fun c8 => ?_) (fun c8 => ?_)
  · have c8 : (isHouseB (u.1 24) h) = true := bI_1.mp c8
    obtain ⟨j, hj, rfl, hjx⟩ := isHouseB_nI c8
    have hl : lv_has ls 3 [(0, .ref o), (1, .int (nI j)), (2, .int k)] := hl
    refine lv_iload_n hx hb dX0_houseIs_13 rfl (lv_at hl 2 rfl) ?_
    by_cases s14_0 : k = 0
    · refine lv_tableIn (tgt := 48) hx hb dX0_houseIs_14 (by rw [s14_0]; decide) (by rw [s14_0]; decide) (by rw [s14_0]; rfl) (by decide) ?_
      refine lv_aload_n hx hb dX0_houseIs_48 rfl (lv_at hl 0 rfl) ?_
      refine S_get hC hK hP (oS_main _ _ _ _ _) clX0 in_X0 0 (by decide) (fD0 _ _ _ _) q291 dX0_houseIs_49 ?_
      refine S_getN hC hK hP (oS_plan _ _ _ _ _) clX1 in_X1 0 (by decide) (fD20 _ _ _ _) nq152 dX0_houseIs_52 ?_
      refine lv_iload_n hx hb dX0_houseIs_55 rfl (lv_at hl 1 rfl) ?_
      refine S_ald hC hK hP (aS20 _ _ _ _ _) (j := j) (by decide) (rfl) (by omega) dX0_houseIs_56 ?_
      exact hq _ _ _ dX0_houseIs_57 (by grind [houseI, everS_eq])
    by_cases s14_1 : k = 1
    · refine lv_tableIn (tgt := 58) hx hb dX0_houseIs_14 (by rw [s14_1]; decide) (by rw [s14_1]; decide) (by rw [s14_1]; rfl) (by decide) ?_
      refine lv_aload_n hx hb dX0_houseIs_58 rfl (lv_at hl 0 rfl) ?_
      refine S_get hC hK hP (oS_main _ _ _ _ _) clX0 in_X0 3 (by decide) (fD3 _ _ _ _) q297 dX0_houseIs_59 ?_
      refine S_getN hC hK hP (oS_street _ _ _ _ _) clX4 in_X4 0 (by decide) (fD40 _ _ _ _) nq228 dX0_houseIs_62 ?_
      refine lv_iload_n hx hb dX0_houseIs_65 rfl (lv_at hl 1 rfl) ?_
      refine S_ald hC hK hP (aS40 _ _ _ _ _) (j := j) (by decide) (rfl) (by omega) dX0_houseIs_66 ?_
      exact hq _ _ _ dX0_houseIs_67 (by grind [houseI, everS_eq])
    by_cases s14_2 : k = 2
    · refine lv_tableIn (tgt := 68) hx hb dX0_houseIs_14 (by rw [s14_2]; decide) (by rw [s14_2]; decide) (by rw [s14_2]; rfl) (by decide) ?_
      refine lv_aload_n hx hb dX0_houseIs_68 rfl (lv_at hl 0 rfl) ?_
      refine lv_iload_n hx hb dX0_houseIs_69 rfl (lv_at hl 1 rfl) ?_
      refine CIs.go (rcV hC hl (c_X0_turnsOf G l o R tx u (nI j) ) hK hP (va_recv hK.1 hP clX0 (oS_main _ _ _ _ _)) q1005 q1007 qs28 q110 q1008 mdX0_turnsOf (room_s hRm rfl) rfl rfl dX0_houseIs_70) ?_
      exact hq _ _ _ dX0_houseIs_73 (by grind [houseI, everS_eq])
    by_cases s14_3 : k = 3
    · refine lv_tableIn (tgt := 74) hx hb dX0_houseIs_14 (by rw [s14_3]; decide) (by rw [s14_3]; decide) (by rw [s14_3]; rfl) (by decide) ?_
      refine lv_aload_n hx hb dX0_houseIs_74 rfl (lv_at hl 0 rfl) ?_
      refine lv_iload_n hx hb dX0_houseIs_75 rfl (lv_at hl 1 rfl) ?_
      refine CIs.go (rcV hC hl (c_X0_dark G l o R tx u (nI j) ) hK hP (va_recv hK.1 hP clX0 (oS_main _ _ _ _ _)) q1009 q1011 qs29 q110 q1012 mdX0_dark (room_s hRm rfl) rfl rfl dX0_houseIs_76) ?_
      exact hq _ _ _ dX0_houseIs_79 (by grind [houseI, everS_eq])
    by_cases s14_4 : k = 4
    · refine lv_tableIn (tgt := 80) hx hb dX0_houseIs_14 (by rw [s14_4]; decide) (by rw [s14_4]; decide) (by rw [s14_4]; rfl) (by decide) ?_
      refine lv_aload_n hx hb dX0_houseIs_80 rfl (lv_at hl 0 rfl) ?_
      refine S_get hC hK hP (oS_main _ _ _ _ _) clX0 in_X0 0 (by decide) (fD0 _ _ _ _) q291 dX0_houseIs_81 ?_
      refine lv_iload_n hx hb dX0_houseIs_84 rfl (lv_at hl 1 rfl) ?_
      refine CIs.go (rcV hC hl (c_X1_seenEver_plan G l o R tx u j (by first | assumption | omega | rfl | (simp_all; done)) (by first | assumption | omega | rfl | (simp_all; done)) (by first | assumption | omega | rfl | (simp_all; done))) hK hP (va_recv hK.1 hP clX1 (oS_plan _ _ _ _ _)) q1013 q1014 q1015 q111 q1016 mdX1_seenEver (room_s hRm rfl) rfl rfl dX0_houseIs_85) ?_
      exact hq _ _ _ dX0_houseIs_88 (by grind [houseI, everS_eq])
    refine lv_tableOut (tgt := 89) hx hb dX0_houseIs_14 (sw_out (x := k) (lo := 0) (hi := 4) (fun v h1 h2 => by rcases (show v = 0 ∨ v = 1 ∨ v = 2 ∨ v = 3 ∨ v = 4 by omega) with rfl | rfl | rfl | rfl | rfl <;> first | exact s14_0 | exact s14_1 | exact s14_2 | exact s14_3 | exact s14_4)) (by decide) ?_
    refine lv_iconst (v := (-1)) hx hb dX0_houseIs_89 (by decide) ?_
    exact hq _ _ _ dX0_houseIs_90 (by grind [houseI, everS_eq])
  · have c8 : (isHouseB (u.1 24) h) = false := bI_0.mp c8
    refine lv_iconst (v := (-1)) hx hb dX0_houseIs_11 (by decide) ?_
    exact hq _ _ _ dX0_houseIs_12 (by grind [houseI, everS_eq])
set_option maxHeartbeats 4000000 in
theorem c_X0_way (G : GG) (l : Launch) (o : Nat) (R : Nat → Nat) (tx : Nat) (u : MS) (rd : Bool) : CIs G l yX0_way cX0_way 9 .int 2 24 [.ref o, .int (bI rd)] (PwS G o R tx u) (wayI (u.2.1 1) rd) := by
  refine CIs.mk RX0 pnX0 rfl (rfl) (Nat.le_of_ble_eq_true rfl) (fun pg en Rm sg mm ar bw mth cd QQ ls hC hRm hK hX hl hq => ?_)
  have hx := hC.1; have hb := hC.2.1; have ho := hC.2.2.2.1; have hts := hC.2.2.2.2
  have hP : PwS G o R tx u sg.heap := hX
  have hl : lv_has ls 9 [(0, .ref o), (1, .int (bI rd))] := hl
  refine lv_iconst (v := (-1)) hx hb dX0_way_0 (by decide) ?_
  refine lv_istore_n (lv' := [(2, .int (-1)), (0, .ref o), (1, .int (bI rd))]) hx hb dX0_way_1 rfl hl (by decide) rfl (fun ls hl => ?_)
  refine lv_iconst (v := (-1)) hx hb dX0_way_2 (by decide) ?_
  refine lv_istore_n (lv' := [(3, .int (-1)), (2, .int (-1)), (0, .ref o), (1, .int (bI rd))]) hx hb dX0_way_3 rfl hl (by decide) rfl (fun ls hl => ?_)
  refine lv_iconst (v := 0) hx hb dX0_way_4 (by decide) ?_
  refine lv_istore (lv' := [(4, .int 0), (3, .int (-1)), (2, .int (-1)), (0, .ref o), (1, .int (bI rd))]) hx hb dX0_way_5 hl (by decide) rfl (fun ls hl => ?_)
  refine lv_aload_n hx hb dX0_way_7 rfl (lv_at hl 3 rfl) ?_
  refine S_get hC hK hP (oS_main _ _ _ _ _) clX0 in_X0 1 (by decide) (fD1 _ _ _ _) q293 dX0_way_8 ?_
  refine lv_astore (lv' := [(5, .ref (R 1)), (4, .int 0), (3, .int (-1)), (2, .int (-1)), (0, .ref o), (1, .int (bI rd))]) hx hb dX0_way_11 hl (by decide) rfl (fun ls hl => ?_)
  refine lv_aload hx hb dX0_way_13 (lv_at hl 0 rfl) ?_
  refine S_alen hC hK hP (aS1 _ _ _ _ _) dX0_way_15 ?_
  refine lv_istore (lv' := [(6, .int 12), (5, .ref (R 1)), (4, .int 0), (3, .int (-1)), (2, .int (-1)), (0, .ref o), (1, .int (bI rd))]) hx hb dX0_way_16 hl (by decide) rfl (fun ls hl => ?_)
  refine lv_iconst (v := 0) hx hb dX0_way_18 (by decide) ?_
  refine lv_istore (lv' := [(7, .int 0), (6, .int 12), (5, .ref (R 1)), (4, .int 0), (3, .int (-1)), (2, .int (-1)), (0, .ref o), (1, .int (bI rd))]) hx hb dX0_way_19 hl (by decide) rfl (fun ls hl => ?_)
  have LP21 : ∀ (fu21 : Nat) (k : Nat) (wy : Int32) (la : Int32) (fi : Int32) (ls : Array Slot), 12 - k < fu21 → k ≤ 12 → wy = (wayS (u.2.1 1) k).1 → la = (wayS (u.2.1 1) k).2.1 → fi = (wayS (u.2.1 1) k).2.2 → lv_has ls 9 [(0, .ref o), (1, .int (bI rd)), (2, .int fi), (3, .int la), (4, .int wy), (5, .ref (R 1)), (6, .int 12), (7, .int (nI k))] → W pg l en Rm sg mm ar bw mth cd sg.heap [] 0 0 QQ (F0 mm 21 ls []) := by
    intro fu21
    induction fu21 with
    | zero => intro k wy la fi ls hm21 hk hwy hla hfi hl; exact absurd hm21 (Nat.not_lt_zero _)
    | succ fu21 ih21 =>
      intro k wy la fi ls hm21 hk hwy hla hfi hl
      refine lv_iload hx hb dX0_way_21 (lv_at hl 7 rfl) ?_
      refine lv_iload hx hb dX0_way_23 (lv_at hl 6 rfl) ?_
      refine lv_icmp_ge (tgt := 86) hx hb dX0_way_25 (by decide) (fun c25 => ?_) (fun c25 => ?_)
      · have c25 : 12 ≤ k := (nI_leI (a := 12) (b := k) (by omega) (by omega)).mp c25
        refine lv_iload_n hx hb dX0_way_86 rfl (lv_at hl 1 rfl) ?_
        refine lv_if_eq (tgt := 107) hx hb dX0_way_87 (by decide) (fun c87 => ?_) (fun c87 => ?_)
        · have c87 : rd = false := bI_0.mp c87
          refine lv_iload hx hb dX0_way_107 (lv_at hl 4 rfl) ?_
          exact hq _ _ _ dX0_way_109 (by have hfin : k = 12 := (by omega); subst hfin; (clear hq hK hts hC hx hb ho hRm hl hP ih21); grind [wayI])
        · have c87 : rd = true := bI_1.mp c87
          refine lv_iload_n hx hb dX0_way_90 rfl (lv_at hl 2 rfl) ?_
          refine lv_iconst (v := (-1)) hx hb dX0_way_91 (by decide) ?_
          refine lv_icmp_eq (tgt := 107) hx hb dX0_way_92 (by decide) (fun c92 => ?_) (fun c92 => ?_)
          · refine lv_iload hx hb dX0_way_107 (lv_at hl 4 rfl) ?_
            exact hq _ _ _ dX0_way_109 (by have hfin : k = 12 := (by omega); subst hfin; (clear hq hK hts hC hx hb ho hRm hl hP ih21); grind [wayI])
          · refine lv_iload hx hb dX0_way_95 (lv_at hl 4 rfl) ?_
            refine lv_iload_n hx hb dX0_way_97 rfl (lv_at hl 3 rfl) ?_
            refine lv_iload_n hx hb dX0_way_98 rfl (lv_at hl 2 rfl) ?_
            refine lv_isub hx hb dX0_way_99 ?_
            refine S_abs hC hl q1026 q916 q120 q917 (room_m hRm rfl) rfl dX0_way_100 ?_
            refine lv_iadd hx hb dX0_way_103 ?_
            refine lv_goto (tgt := 109) hx hb dX0_way_104 (by decide) ?_
            exact hq _ _ _ dX0_way_109 (by have hfin : k = 12 := (by omega); subst hfin; (clear hq hK hts hC hx hb ho hRm hl hP ih21); grind [wayI])
      · have c25 : ¬ (12 ≤ k) := mt (nI_leI (a := 12) (b := k) (by omega) (by omega)).mpr c25
        refine lv_aload hx hb dX0_way_28 (lv_at hl 5 rfl) ?_
        refine lv_iload hx hb dX0_way_30 (lv_at hl 7 rfl) ?_
        refine S_ald hC hK hP (aS1 _ _ _ _ _) (j := k) (by decide) (rfl) (by omega) dX0_way_32 ?_
        refine lv_istore (lv' := [(8, .int (u.2.1 1 k)), (0, .ref o), (1, .int (bI rd)), (2, .int fi), (3, .int la), (4, .int wy), (5, .ref (R 1)), (6, .int 12), (7, .int (nI k))]) hx hb dX0_way_33 hl (by decide) rfl (fun ls hl => ?_)
        refine lv_iload hx hb dX0_way_35 (lv_at hl 0 rfl) ?_
        refine lv_iconst (v := (-1)) hx hb dX0_way_37 (by decide) ?_
        refine lv_icmp_ne (tgt := 44) hx hb dX0_way_38 (by decide) (fun c38 => ?_) (fun c38 => ?_)
        · refine lv_iload hx hb dX0_way_44 (lv_at hl 5 rfl) ?_
          refine lv_iload_n hx hb dX0_way_46 rfl (lv_at hl 4 rfl) ?_
          refine lv_iconst (v := (-1)) hx hb dX0_way_47 (by decide) ?_
          refine lv_icmp_ne (tgt := 55) hx hb dX0_way_48 (by decide) (fun c48 => ?_) (fun c48 => ?_)
          · refine lv_iload hx hb dX0_way_55 (lv_at hl 0 rfl) ?_
            refine lv_iload_n hx hb dX0_way_57 rfl (lv_at hl 4 rfl) ?_
            refine lv_isub hx hb dX0_way_58 ?_
            refine S_abs hC hl q1026 q916 q120 q917 (room_m hRm rfl) rfl dX0_way_59 ?_
            refine lv_iadd hx hb dX0_way_62 ?_
            refine lv_istore (lv' := [(4, .int (wy + (abI ((u.2.1 1 k) - la)))), (8, .int (u.2.1 1 k)), (0, .ref o), (1, .int (bI rd)), (2, .int fi), (3, .int la), (5, .ref (R 1)), (6, .int 12), (7, .int (nI k))]) hx hb dX0_way_63 hl (by decide) rfl (fun ls hl => ?_)
            refine lv_iload_n hx hb dX0_way_65 rfl (lv_at hl 4 rfl) ?_
            refine lv_iconst (v := (-1)) hx hb dX0_way_66 (by decide) ?_
            refine lv_icmp_ne (tgt := 75) hx hb dX0_way_67 (by decide) (fun c67 => ?_) (fun c67 => ?_)
            · refine lv_iload_n hx hb dX0_way_75 rfl (lv_at hl 4 rfl) ?_
              refine lv_istore_n (lv' := [(2, .int fi), (4, .int (wy + (abI ((u.2.1 1 k) - la)))), (8, .int (u.2.1 1 k)), (0, .ref o), (1, .int (bI rd)), (3, .int la), (5, .ref (R 1)), (6, .int 12), (7, .int (nI k))]) hx hb dX0_way_76 rfl hl (by decide) rfl (fun ls hl => ?_)
              refine lv_iload hx hb dX0_way_77 (lv_at hl 2 rfl) ?_
              refine lv_istore_n (lv' := [(3, .int (u.2.1 1 k)), (2, .int fi), (4, .int (wy + (abI ((u.2.1 1 k) - la)))), (8, .int (u.2.1 1 k)), (0, .ref o), (1, .int (bI rd)), (5, .ref (R 1)), (6, .int 12), (7, .int (nI k))]) hx hb dX0_way_79 rfl hl (by decide) rfl (fun ls hl => ?_)
              refine lv_iinc (v := (nI (k + 1))) (lv' := [(7, .int (nI (k + 1))), (3, .int (u.2.1 1 k)), (2, .int fi), (4, .int (wy + (abI ((u.2.1 1 k) - la)))), (8, .int (u.2.1 1 k)), (0, .ref o), (1, .int (bI rd)), (5, .ref (R 1)), (6, .int 12)]) hx hb dX0_way_80 hl (k := 8) rfl (nI_inc k) (by decide) rfl (fun ls hl => ?_)
              refine lv_goto (tgt := 21) hx hb dX0_way_83 (by decide) ?_
              exact ih21 (k + 1) (wy + (abI ((u.2.1 1 k) - la))) (u.2.1 1 k) fi ls (by omega) (by first | omega | assumption | rfl | (simp_all; done) | grind) (by (clear hq hK hts hC hx hb ho hRm hl hP ih21); grind [wayS]) (by (clear hq hK hts hC hx hb ho hRm hl hP ih21); grind [wayS]) (by (clear hq hK hts hC hx hb ho hRm hl hP ih21); grind [wayS])  (lv_sub hl [5, 6, 2, 1, 3, 7, 8, 0] rfl)
            · refine lv_iload hx hb dX0_way_70 (lv_at hl 1 rfl) ?_
              refine lv_goto (tgt := 76) hx hb dX0_way_72 (by decide) ?_
              refine lv_istore_n (lv' := [(2, .int (u.2.1 1 k)), (4, .int (wy + (abI ((u.2.1 1 k) - la)))), (8, .int (u.2.1 1 k)), (0, .ref o), (1, .int (bI rd)), (3, .int la), (5, .ref (R 1)), (6, .int 12), (7, .int (nI k))]) hx hb dX0_way_76 rfl hl (by decide) rfl (fun ls hl => ?_)
              refine lv_iload hx hb dX0_way_77 (lv_at hl 2 rfl) ?_
              refine lv_istore_n (lv' := [(3, .int (u.2.1 1 k)), (2, .int (u.2.1 1 k)), (4, .int (wy + (abI ((u.2.1 1 k) - la)))), (8, .int (u.2.1 1 k)), (0, .ref o), (1, .int (bI rd)), (5, .ref (R 1)), (6, .int 12), (7, .int (nI k))]) hx hb dX0_way_79 rfl hl (by decide) rfl (fun ls hl => ?_)
              refine lv_iinc (v := (nI (k + 1))) (lv' := [(7, .int (nI (k + 1))), (3, .int (u.2.1 1 k)), (2, .int (u.2.1 1 k)), (4, .int (wy + (abI ((u.2.1 1 k) - la)))), (8, .int (u.2.1 1 k)), (0, .ref o), (1, .int (bI rd)), (5, .ref (R 1)), (6, .int 12)]) hx hb dX0_way_80 hl (k := 8) rfl (nI_inc k) (by decide) rfl (fun ls hl => ?_)
              refine lv_goto (tgt := 21) hx hb dX0_way_83 (by decide) ?_
              exact ih21 (k + 1) (wy + (abI ((u.2.1 1 k) - la))) (u.2.1 1 k) (u.2.1 1 k) ls (by omega) (by first | omega | assumption | rfl | (simp_all; done) | grind) (by (clear hq hK hts hC hx hb ho hRm hl hP ih21); grind [wayS]) (by (clear hq hK hts hC hx hb ho hRm hl hP ih21); grind [wayS]) (by (clear hq hK hts hC hx hb ho hRm hl hP ih21); grind [wayS])  (lv_sub hl [5, 6, 2, 1, 3, 7, 8, 0] rfl)
          · refine lv_iconst (v := 0) hx hb dX0_way_51 (by decide) ?_
            refine lv_goto (tgt := 62) hx hb dX0_way_52 (by decide) ?_
            refine lv_iadd hx hb dX0_way_62 ?_
            refine W_top (y := wy) (add0 _) ?_
            refine lv_istore (lv' := [(4, .int wy), (8, .int (u.2.1 1 k)), (0, .ref o), (1, .int (bI rd)), (2, .int fi), (3, .int la), (5, .ref (R 1)), (6, .int 12), (7, .int (nI k))]) hx hb dX0_way_63 hl (by decide) rfl (fun ls hl => ?_)
            refine lv_iload_n hx hb dX0_way_65 rfl (lv_at hl 4 rfl) ?_
            refine lv_iconst (v := (-1)) hx hb dX0_way_66 (by decide) ?_
            refine lv_icmp_ne (tgt := 75) hx hb dX0_way_67 (by decide) (fun c67 => ?_) (fun c67 => ?_)
            · refine lv_iload_n hx hb dX0_way_75 rfl (lv_at hl 4 rfl) ?_
              refine lv_istore_n (lv' := [(2, .int fi), (4, .int wy), (8, .int (u.2.1 1 k)), (0, .ref o), (1, .int (bI rd)), (3, .int la), (5, .ref (R 1)), (6, .int 12), (7, .int (nI k))]) hx hb dX0_way_76 rfl hl (by decide) rfl (fun ls hl => ?_)
              refine lv_iload hx hb dX0_way_77 (lv_at hl 2 rfl) ?_
              refine lv_istore_n (lv' := [(3, .int (u.2.1 1 k)), (2, .int fi), (4, .int wy), (8, .int (u.2.1 1 k)), (0, .ref o), (1, .int (bI rd)), (5, .ref (R 1)), (6, .int 12), (7, .int (nI k))]) hx hb dX0_way_79 rfl hl (by decide) rfl (fun ls hl => ?_)
              refine lv_iinc (v := (nI (k + 1))) (lv' := [(7, .int (nI (k + 1))), (3, .int (u.2.1 1 k)), (2, .int fi), (4, .int wy), (8, .int (u.2.1 1 k)), (0, .ref o), (1, .int (bI rd)), (5, .ref (R 1)), (6, .int 12)]) hx hb dX0_way_80 hl (k := 8) rfl (nI_inc k) (by decide) rfl (fun ls hl => ?_)
              refine lv_goto (tgt := 21) hx hb dX0_way_83 (by decide) ?_
              exact ih21 (k + 1) wy (u.2.1 1 k) fi ls (by omega) (by first | omega | assumption | rfl | (simp_all; done) | grind) (by (clear hq hK hts hC hx hb ho hRm hl hP ih21); grind [wayS]) (by (clear hq hK hts hC hx hb ho hRm hl hP ih21); grind [wayS]) (by (clear hq hK hts hC hx hb ho hRm hl hP ih21); grind [wayS])  (lv_sub hl [5, 6, 2, 1, 3, 7, 8, 0] rfl)
            · refine lv_iload hx hb dX0_way_70 (lv_at hl 1 rfl) ?_
              refine lv_goto (tgt := 76) hx hb dX0_way_72 (by decide) ?_
              refine lv_istore_n (lv' := [(2, .int (u.2.1 1 k)), (4, .int wy), (8, .int (u.2.1 1 k)), (0, .ref o), (1, .int (bI rd)), (3, .int la), (5, .ref (R 1)), (6, .int 12), (7, .int (nI k))]) hx hb dX0_way_76 rfl hl (by decide) rfl (fun ls hl => ?_)
              refine lv_iload hx hb dX0_way_77 (lv_at hl 2 rfl) ?_
              refine lv_istore_n (lv' := [(3, .int (u.2.1 1 k)), (2, .int (u.2.1 1 k)), (4, .int wy), (8, .int (u.2.1 1 k)), (0, .ref o), (1, .int (bI rd)), (5, .ref (R 1)), (6, .int 12), (7, .int (nI k))]) hx hb dX0_way_79 rfl hl (by decide) rfl (fun ls hl => ?_)
              refine lv_iinc (v := (nI (k + 1))) (lv' := [(7, .int (nI (k + 1))), (3, .int (u.2.1 1 k)), (2, .int (u.2.1 1 k)), (4, .int wy), (8, .int (u.2.1 1 k)), (0, .ref o), (1, .int (bI rd)), (5, .ref (R 1)), (6, .int 12)]) hx hb dX0_way_80 hl (k := 8) rfl (nI_inc k) (by decide) rfl (fun ls hl => ?_)
              refine lv_goto (tgt := 21) hx hb dX0_way_83 (by decide) ?_
              exact ih21 (k + 1) wy (u.2.1 1 k) (u.2.1 1 k) ls (by omega) (by first | omega | assumption | rfl | (simp_all; done) | grind) (by (clear hq hK hts hC hx hb ho hRm hl hP ih21); grind [wayS]) (by (clear hq hK hts hC hx hb ho hRm hl hP ih21); grind [wayS]) (by (clear hq hK hts hC hx hb ho hRm hl hP ih21); grind [wayS])  (lv_sub hl [5, 6, 2, 1, 3, 7, 8, 0] rfl)
        · refine lv_goto (tgt := 80) hx hb dX0_way_41 (by decide) ?_
          refine lv_iinc (v := (nI (k + 1))) (lv' := [(7, .int (nI (k + 1))), (8, .int (u.2.1 1 k)), (0, .ref o), (1, .int (bI rd)), (2, .int fi), (3, .int la), (4, .int wy), (5, .ref (R 1)), (6, .int 12)]) hx hb dX0_way_80 hl (k := 8) rfl (nI_inc k) (by decide) rfl (fun ls hl => ?_)
          refine lv_goto (tgt := 21) hx hb dX0_way_83 (by decide) ?_
          exact ih21 (k + 1) wy la fi ls (by omega) (by first | omega | assumption | rfl | (simp_all; done) | grind) (by (clear hq hK hts hC hx hb ho hRm hl hP ih21); grind [wayS]) (by (clear hq hK hts hC hx hb ho hRm hl hP ih21); grind [wayS]) (by (clear hq hK hts hC hx hb ho hRm hl hP ih21); grind [wayS])  (lv_sub hl [2, 3, 4, 5, 6, 7, 8, 0] rfl)
  exact LP21 _ 0 0 (-1) (-1) ls (Nat.lt_succ_self _) (by first | omega | assumption | rfl | (simp_all; done) | grind) (rfl) (rfl) (rfl)  (lv_sub hl [6, 7, 5, 4, 3, 2, 1, 0] rfl)
set_option maxHeartbeats 4000000 in
theorem c_X0_seenByAll (G : GG) (l : Launch) (o : Nat) (R : Nat → Nat) (tx : Nat) (u : MS) (hw : WOK (u.2.1 1)) (hsd : PB (u.2.1 21)) (hfc : PB (u.2.1 20)) : CIs G l yX0_seenByAll cX0_seenByAll 3 .int 5 95 [.ref o] (PwS G o R tx u) (byRotaS (u.2.1 1) (snS (u.1 25) (u.2.1 21) (u.2.1 22) (u.2.1 23) (u.2.1 20)) 12) := by
  refine CIs.mk RX0 pnX0 rfl (rfl) (Nat.le_of_ble_eq_true rfl) (fun pg en Rm sg mm ar bw mth cd QQ ls hC hRm hK hX hl hq => ?_)
  have hx := hC.1; have hb := hC.2.1; have ho := hC.2.2.2.1; have hts := hC.2.2.2.2
  have hP : PwS G o R tx u sg.heap := hX
  have hl : lv_has ls 3 [(0, .ref o)] := hl
  refine lv_iconst (v := 0) hx hb dX0_seenByAll_0 (by decide) ?_
  refine lv_istore_n (lv' := [(1, .int 0), (0, .ref o)]) hx hb dX0_seenByAll_1 rfl hl (by decide) rfl (fun ls hl => ?_)
  refine lv_iconst (v := 0) hx hb dX0_seenByAll_2 (by decide) ?_
  refine lv_istore_n (lv' := [(2, .int 0), (1, .int 0), (0, .ref o)]) hx hb dX0_seenByAll_3 rfl hl (by decide) rfl (fun ls hl => ?_)
  have LP4 : ∀ (fu4 : Nat) (k : Nat) (set : Int32) (ls : Array Slot), 12 - k < fu4 → k ≤ 12 → set = byRotaS (u.2.1 1) (snS (u.1 25) (u.2.1 21) (u.2.1 22) (u.2.1 23) (u.2.1 20)) k → lv_has ls 3 [(0, .ref o), (1, .int set), (2, .int (nI k))] → W pg l en Rm sg mm ar bw mth cd sg.heap [] 0 0 QQ (F0 mm 4 ls []) := by
    intro fu4
    induction fu4 with
    | zero => intro k set ls hm4 hk hset hl; exact absurd hm4 (Nat.not_lt_zero _)
    | succ fu4 ih4 =>
      intro k set ls hm4 hk hset hl
      refine lv_iload_n hx hb dX0_seenByAll_4 rfl (lv_at hl 2 rfl) ?_
      refine lv_bipush (v := 12) hx hb dX0_seenByAll_5 (by decide) ?_
      refine lv_icmp_ge (tgt := 47) hx hb dX0_seenByAll_7 (by decide) (fun c7 => ?_) (fun c7 => ?_)
      · have c7 : 12 ≤ k := (nI_leI (a := 12) (b := k) (by omega) (by omega)).mp c7
        refine lv_iload_n hx hb dX0_seenByAll_47 rfl (lv_at hl 1 rfl) ?_
        exact hq _ _ _ dX0_seenByAll_48 (by have hfin : k = 12 := (by omega); subst hfin; exact hset)
      · have c7 : ¬ (12 ≤ k) := mt (nI_leI (a := 12) (b := k) (by omega) (by omega)).mpr c7
        refine lv_iload_n hx hb dX0_seenByAll_10 rfl (lv_at hl 1 rfl) ?_
        refine lv_aload_n hx hb dX0_seenByAll_11 rfl (lv_at hl 0 rfl) ?_
        refine S_get hC hK hP (oS_main _ _ _ _ _) clX0 in_X0 1 (by decide) (fD1 _ _ _ _) q293 dX0_seenByAll_12 ?_
        refine lv_iload_n hx hb dX0_seenByAll_15 rfl (lv_at hl 2 rfl) ?_
        refine S_ald hC hK hP (aS1 _ _ _ _ _) (j := k) (by decide) (rfl) (by omega) dX0_seenByAll_16 ?_
        refine lv_iconst (v := (-1)) hx hb dX0_seenByAll_17 (by decide) ?_
        refine lv_icmp_ne (tgt := 25) hx hb dX0_seenByAll_18 (by decide) (fun c18 => ?_) (fun c18 => ?_)
        · refine lv_aload_n hx hb dX0_seenByAll_25 rfl (lv_at hl 0 rfl) ?_
          refine S_get hC hK hP (oS_main _ _ _ _ _) clX0 in_X0 0 (by decide) (fD0 _ _ _ _) q291 dX0_seenByAll_26 ?_
          refine lv_aload_n hx hb dX0_seenByAll_29 rfl (lv_at hl 0 rfl) ?_
          refine S_get hC hK hP (oS_main _ _ _ _ _) clX0 in_X0 1 (by decide) (fD1 _ _ _ _) q293 dX0_seenByAll_30 ?_
          refine lv_iload_n hx hb dX0_seenByAll_33 rfl (lv_at hl 2 rfl) ?_
          refine S_ald hC hK hP (aS1 _ _ _ _ _) (j := k) (by decide) (rfl) (by omega) dX0_seenByAll_34 ?_
          refine W_top (y := (nI (ix ((u.2.1 1) k)))) ((hw.ix (t := k) (by omega) (by assumption)).1) ?_
          refine lv_iload_n hx hb dX0_seenByAll_35 rfl (lv_at hl 2 rfl) ?_
          refine CIs.go (rcV hC hl (c_X1_seen_plan G l o R tx u (ix ((u.2.1 1) k)) (nI k) ((hw.ix (t := k) (by omega) (by assumption)).2) (by first | assumption | omega | rfl | (simp_all; done)) (by first | assumption | omega | rfl | (simp_all; done))) hK hP (va_recv hK.1 hP clX1 (oS_plan _ _ _ _ _)) q1000 q894 q895 q111 q896 mdX1_seen (room_s hRm rfl) rfl rfl dX0_seenByAll_36) ?_
          refine lv_ior hx hb dX0_seenByAll_39 ?_
          refine lv_istore_n (lv' := [(1, .int (set ||| (seenS (u.1 25) (u.2.1 21) (u.2.1 22) (u.2.1 23) ((u.2.1 20) (ix ((u.2.1 1) k))) (nI k)))), (0, .ref o), (2, .int (nI k))]) hx hb dX0_seenByAll_40 rfl hl (by decide) rfl (fun ls hl => ?_)
          refine lv_iinc (v := (nI (k + 1))) (lv' := [(2, .int (nI (k + 1))), (1, .int (set ||| (seenS (u.1 25) (u.2.1 21) (u.2.1 22) (u.2.1 23) ((u.2.1 20) (ix ((u.2.1 1) k))) (nI k)))), (0, .ref o)]) hx hb dX0_seenByAll_41 hl (k := 2) rfl (nI_inc k) (by decide) rfl (fun ls hl => ?_)
          refine lv_goto (tgt := 4) hx hb dX0_seenByAll_44 (by decide) ?_
          exact ih4 (k + 1) (set ||| (seenS (u.1 25) (u.2.1 21) (u.2.1 22) (u.2.1 23) ((u.2.1 20) (ix ((u.2.1 1) k))) (nI k))) ls (by omega) (by first | omega | assumption | rfl | (simp_all; done) | grind) (by (clear hq hK hts hC hx hb ho hRm hl hP ih4); grind [byRotaS, snS])  (lv_sub hl [2, 1, 0] rfl)
        · refine lv_iconst (v := 0) hx hb dX0_seenByAll_21 (by decide) ?_
          refine lv_goto (tgt := 39) hx hb dX0_seenByAll_22 (by decide) ?_
          refine lv_ior hx hb dX0_seenByAll_39 ?_
          refine W_top (y := set) (or0 _) ?_
          refine lv_istore_n (lv' := [(1, .int set), (0, .ref o), (2, .int (nI k))]) hx hb dX0_seenByAll_40 rfl hl (by decide) rfl (fun ls hl => ?_)
          refine lv_iinc (v := (nI (k + 1))) (lv' := [(2, .int (nI (k + 1))), (1, .int set), (0, .ref o)]) hx hb dX0_seenByAll_41 hl (k := 2) rfl (nI_inc k) (by decide) rfl (fun ls hl => ?_)
          refine lv_goto (tgt := 4) hx hb dX0_seenByAll_44 (by decide) ?_
          exact ih4 (k + 1) set ls (by omega) (by first | omega | assumption | rfl | (simp_all; done) | grind) (by (clear hq hK hts hC hx hb ho hRm hl hP ih4); grind [byRotaS, snS])  (lv_sub hl [2, 1, 0] rfl)
  exact LP4 _ 0 0 ls (Nat.lt_succ_self _) (by first | omega | assumption | rfl | (simp_all; done) | grind) (rfl)  (lv_sub hl [2, 1, 0] rfl)
set_option maxHeartbeats 4000000 in
theorem c_X0_rotaIs (G : GG) (l : Launch) (o : Nat) (R : Nat → Nat) (tx : Nat) (u : MS) (k : Int32) (hw : WOK (u.2.1 1)) (hsd : PB (u.2.1 21)) (hfc : PB (u.2.1 20)) : CIs G l yX0_rotaIs cX0_rotaIs 2 .int 6 117 [.ref o, .int k] (PwS G o R tx u) (rotaI (u.2.1 1) (snS (u.1 25) (u.2.1 21) (u.2.1 22) (u.2.1 23) (u.2.1 20)) k) := by
  refine CIs.mk RX0 pnX0 rfl (rfl) (Nat.le_of_ble_eq_true rfl) (fun pg en Rm sg mm ar bw mth cd QQ ls hC hRm hK hX hl hq => ?_)
  have hx := hC.1; have hb := hC.2.1; have ho := hC.2.2.2.1; have hts := hC.2.2.2.2
  have hP : PwS G o R tx u sg.heap := hX
  have hl : lv_has ls 2 [(0, .ref o), (1, .int k)] := hl
  refine lv_iload_n hx hb dX0_rotaIs_0 rfl (lv_at hl 1 rfl) ?_
  refine CIs.go (rcS hC hl (c_X0_isTurn G l k ) hK trivial q363 q364 q110 q365 mdX0_isTurn (room_s hRm rfl) rfl rfl dX0_rotaIs_1) ?_
  refine lv_if_eq (tgt := 17) hx hb dX0_rotaIs_4 (by decide) (fun c4 => ?_) (fun c4 => ?_)
  · have c4 : (isTurnB k) = false := bI_0.mp c4
    refine lv_iload_n hx hb dX0_rotaIs_17 rfl (lv_at hl 1 rfl) ?_
    refine lv_bipush (v := 100) hx hb dX0_rotaIs_18 (by decide) ?_
    refine lv_icmp_ne (tgt := 31) hx hb dX0_rotaIs_20 (by decide) (fun c20 => ?_) (fun c20 => ?_)
    · refine lv_iload_n hx hb dX0_rotaIs_31 rfl (lv_at hl 1 rfl) ?_
      refine lv_bipush (v := 101) hx hb dX0_rotaIs_32 (by decide) ?_
      refine lv_icmp_ne (tgt := 45) hx hb dX0_rotaIs_34 (by decide) (fun c34 => ?_) (fun c34 => ?_)
      · refine lv_iload_n hx hb dX0_rotaIs_45 rfl (lv_at hl 1 rfl) ?_
        refine lv_bipush (v := 102) hx hb dX0_rotaIs_46 (by decide) ?_
        refine lv_icmp_ne (tgt := 58) hx hb dX0_rotaIs_48 (by decide) (fun c48 => ?_) (fun c48 => ?_)
        · refine lv_iconst (v := (-1)) hx hb dX0_rotaIs_58 (by decide) ?_
          exact hq _ _ _ dX0_rotaIs_59 (by grind [rotaI])
        · refine lv_aload_n hx hb dX0_rotaIs_51 rfl (lv_at hl 0 rfl) ?_
          refine CIs.go (rcV hC hl (c_X0_seenByAll G l o R tx u  (by first | assumption | omega | rfl | (simp_all; done)) (by first | assumption | omega | rfl | (simp_all; done)) (by first | assumption | omega | rfl | (simp_all; done))) hK hP (va_recv hK.1 hP clX0 (oS_main _ _ _ _ _)) q1027 q1029 qs31 q110 q1030 mdX0_seenByAll (room_s hRm rfl) rfl rfl dX0_rotaIs_52) ?_
          refine lv_goto (tgt := 59) hx hb dX0_rotaIs_55 (by decide) ?_
          exact hq _ _ _ dX0_rotaIs_59 (by grind [rotaI])
      · refine lv_aload_n hx hb dX0_rotaIs_37 rfl (lv_at hl 0 rfl) ?_
        refine lv_iconst (v := 1) hx hb dX0_rotaIs_38 (by decide) ?_
        refine CIs.go (rcV hC hl (c_X0_way G l o R tx u true ) hK hP (va_recv hK.1 hP clX0 (oS_main _ _ _ _ _)) q1022 q1024 qs30 q110 q1025 mdX0_way (room_s hRm rfl) rfl rfl dX0_rotaIs_39) ?_
        refine lv_goto (tgt := 59) hx hb dX0_rotaIs_42 (by decide) ?_
        exact hq _ _ _ dX0_rotaIs_59 (by grind [rotaI])
    · refine lv_aload_n hx hb dX0_rotaIs_23 rfl (lv_at hl 0 rfl) ?_
      refine lv_iconst (v := 0) hx hb dX0_rotaIs_24 (by decide) ?_
      refine CIs.go (rcV hC hl (c_X0_way G l o R tx u false ) hK hP (va_recv hK.1 hP clX0 (oS_main _ _ _ _ _)) q1022 q1024 qs30 q110 q1025 mdX0_way (room_s hRm rfl) rfl rfl dX0_rotaIs_25) ?_
      refine lv_goto (tgt := 59) hx hb dX0_rotaIs_28 (by decide) ?_
      exact hq _ _ _ dX0_rotaIs_59 (by grind [rotaI])
  · have c4 : (isTurnB k) = true := bI_1.mp c4
    obtain ⟨j, hj, rfl, hjx⟩ := isTurnB_nI c4
    have hl : lv_has ls 2 [(0, .ref o), (1, .int (nI j))] := hl
    refine lv_aload_n hx hb dX0_rotaIs_7 rfl (lv_at hl 0 rfl) ?_
    refine S_get hC hK hP (oS_main _ _ _ _ _) clX0 in_X0 1 (by decide) (fD1 _ _ _ _) q293 dX0_rotaIs_8 ?_
    refine lv_iload_n hx hb dX0_rotaIs_11 rfl (lv_at hl 1 rfl) ?_
    refine S_ald hC hK hP (aS1 _ _ _ _ _) (j := j) (by decide) (rfl) (by omega) dX0_rotaIs_12 ?_
    refine CIs.go (rcS hC hl (c_X0_orNobody G l (u.2.1 1 j) ) hK trivial q989 q990 q110 q991 mdX0_orNobody (room_s hRm rfl) rfl rfl dX0_rotaIs_13) ?_
    exact hq _ _ _ dX0_rotaIs_16 (by grind [rotaI])
set_option maxHeartbeats 4000000 in
theorem c_X0_next (G : GG) (l : Launch) (o : Nat) (R : Nat → Nat) (tx : Nat) (u : MS) (h : Int32) (th : Int32) (t : Int32) (hsd : PB (u.2.1 21)) (hfc : PB (u.2.1 20)) : CIs G l yX0_next cX0_next 6 .int 5 95 [.ref o, .int h, .int th, .int t] (PwS G o R tx u) (nextI (u.1 24) (u.1 25) (u.2.1 1) (snS (u.1 25) (u.2.1 21) (u.2.1 22) (u.2.1 23) (u.2.1 20)) h th t) := by
  refine CIs.mk RX0 pnX0 rfl (rfl) (Nat.le_of_ble_eq_true rfl) (fun pg en Rm sg mm ar bw mth cd QQ ls hC hRm hK hX hl hq => ?_)
  have hx := hC.1; have hb := hC.2.1; have ho := hC.2.2.2.1; have hts := hC.2.2.2.2
  have hP : PwS G o R tx u sg.heap := hX
  have hl : lv_has ls 6 [(0, .ref o), (1, .int h), (2, .int th), (3, .int t)] := hl
  refine lv_aload_n hx hb dX0_next_0 rfl (lv_at hl 0 rfl) ?_
  refine S_get hC hK hP (oS_main _ _ _ _ _) clX0 in_X0 0 (by decide) (fD0 _ _ _ _) q291 dX0_next_1 ?_
  refine lv_iload_n hx hb dX0_next_4 rfl (lv_at hl 1 rfl) ?_
  refine CIs.go (rcV hC hl (c_X1_isHouse_plan G l o R tx u h ) hK hP (va_recv hK.1 hP clX1 (oS_plan _ _ _ _ _)) q369 q370 q371 q111 q372 mdX1_isHouse (room_s hRm rfl) rfl rfl dX0_next_5) ?_
  refine lv_if_eq (tgt := 29) hx hb dX0_next_8 (by decide) (fun c8 => ?_) (fun c8 => ?_)
  · have c8 : (isHouseB (u.1 24) h) = false := bI_0.mp c8
    refine lv_iconst (v := (-1)) hx hb dX0_next_29 (by decide) ?_
    exact hq _ _ _ dX0_next_30 (by (clear hq hK hts hC hx hb ho hRm hl hP); grind [nextI])
  · have c8 : (isHouseB (u.1 24) h) = true := bI_1.mp c8
    obtain ⟨j, hj, rfl, hjx⟩ := isHouseB_nI c8
    have hl : lv_has ls 6 [(0, .ref o), (1, .int (nI j)), (2, .int th), (3, .int t)] := hl
    refine lv_aload_n hx hb dX0_next_11 rfl (lv_at hl 0 rfl) ?_
    refine S_get hC hK hP (oS_main _ _ _ _ _) clX0 in_X0 0 (by decide) (fD0 _ _ _ _) q291 dX0_next_12 ?_
    refine lv_iload_n hx hb dX0_next_15 rfl (lv_at hl 2 rfl) ?_
    refine CIs.go (rcV hC hl (c_X1_isThing_plan G l o R tx u th ) hK hP (va_recv hK.1 hP clX1 (oS_plan _ _ _ _ _)) q1035 q732 q733 q111 q734 mdX1_isThing (room_s hRm rfl) rfl rfl dX0_next_16) ?_
    refine lv_if_eq (tgt := 29) hx hb dX0_next_19 (by decide) (fun c19 => ?_) (fun c19 => ?_)
    · have c19 : (isHouseB (u.1 25) th) = false := bI_0.mp c19
      refine lv_iconst (v := (-1)) hx hb dX0_next_29 (by decide) ?_
      exact hq _ _ _ dX0_next_30 (by (clear hq hK hts hC hx hb ho hRm hl hP); grind [nextI])
    · have c19 : (isHouseB (u.1 25) th) = true := bI_1.mp c19
      obtain ⟨a, ha, rfl, hax⟩ := isHouseB_nI c19
      have hl : lv_has ls 6 [(0, .ref o), (1, .int (nI j)), (2, .int (nI a)), (3, .int t)] := hl
      refine lv_iload_n hx hb dX0_next_22 rfl (lv_at hl 3 rfl) ?_
      refine CIs.go (rcS hC hl (c_X0_isTurn G l t ) hK trivial q363 q364 q110 q365 mdX0_isTurn (room_s hRm rfl) rfl rfl dX0_next_23) ?_
      refine lv_if_ne (tgt := 31) hx hb dX0_next_26 (by decide) (fun c26 => ?_) (fun c26 => ?_)
      · have c26 : (isTurnB t) = true := bI_1.mp c26
        obtain ⟨tj, htj, rfl, htjx⟩ := isTurnB_nI c26
        have hl : lv_has ls 6 [(0, .ref o), (1, .int (nI j)), (2, .int (nI a)), (3, .int (nI tj))] := hl
        refine lv_iconst (v := 0) hx hb dX0_next_31 (by decide) ?_
        refine lv_istore (lv' := [(4, .int 0), (0, .ref o), (1, .int (nI j)), (2, .int (nI a)), (3, .int (nI tj))]) hx hb dX0_next_32 hl (by decide) rfl (fun ls hl => ?_)
        have LP34 : ∀ (fu34 : Nat) (k : Nat) (ls : Array Slot), 12 - k < fu34 → k ≤ 12 → firstS (fun k => decide ((u.2.1 1) ((tj + k) % 12) = nI j) && hasB ((snS (u.1 25) (u.2.1 21) (u.2.1 22) (u.2.1 23) (u.2.1 20)) j (nI ((tj + k) % 12))) (nI a)) 12 0 = firstS (fun k => decide ((u.2.1 1) ((tj + k) % 12) = nI j) && hasB ((snS (u.1 25) (u.2.1 21) (u.2.1 22) (u.2.1 23) (u.2.1 20)) j (nI ((tj + k) % 12))) (nI a)) (12 - k) k → lv_has ls 6 [(0, .ref o), (1, .int (nI j)), (2, .int (nI a)), (3, .int (nI tj)), (4, .int (nI k))] → W pg l en Rm sg mm ar bw mth cd sg.heap [] 0 0 QQ (F0 mm 34 ls []) := by
          intro fu34
          induction fu34 with
          | zero => intro k ls hm34 hk hf hl; exact absurd hm34 (Nat.not_lt_zero _)
          | succ fu34 ih34 =>
            intro k ls hm34 hk hf hl
            refine lv_iload hx hb dX0_next_34 (lv_at hl 4 rfl) ?_
            refine lv_bipush (v := 12) hx hb dX0_next_36 (by decide) ?_
            refine lv_icmp_ge (tgt := 87) hx hb dX0_next_38 (by decide) (fun c38 => ?_) (fun c38 => ?_)
            · have c38 : 12 ≤ k := (nI_leI (a := 12) (b := k) (by omega) (by omega)).mp c38
              refine lv_bipush (v := (-2)) hx hb dX0_next_87 (by decide) ?_
              exact hq _ _ _ dX0_next_89 (by rw [nextI, if_pos (by simp [*]), hjx, htjx, hf, firstS_e (by omega)])
            · have c38 : ¬ (12 ≤ k) := mt (nI_leI (a := 12) (b := k) (by omega) (by omega)).mpr c38
              refine lv_iload_n hx hb dX0_next_41 rfl (lv_at hl 3 rfl) ?_
              refine lv_iload hx hb dX0_next_42 (lv_at hl 4 rfl) ?_
              refine lv_iadd hx hb dX0_next_44 ?_
              refine W_top (nI_add tj k) ?_
              refine lv_bipush (v := 12) hx hb dX0_next_45 (by decide) ?_
              refine lv_irem hx hb dX0_next_47 (by decide) ?_
              refine W_top (pk_rem (a := (tj + k)) (d := 12) (by omega) (by omega) (by omega)) ?_
              refine lv_istore (lv' := [(5, .int (nI ((tj + k) % 12))), (0, .ref o), (1, .int (nI j)), (2, .int (nI a)), (3, .int (nI tj)), (4, .int (nI k))]) hx hb dX0_next_48 hl (by decide) rfl (fun ls hl => ?_)
              refine lv_aload_n hx hb dX0_next_50 rfl (lv_at hl 1 rfl) ?_
              refine S_get hC hK hP (oS_main _ _ _ _ _) clX0 in_X0 1 (by decide) (fD1 _ _ _ _) q293 dX0_next_51 ?_
              refine lv_iload hx hb dX0_next_54 (lv_at hl 0 rfl) ?_
              refine S_ald hC hK hP (aS1 _ _ _ _ _) (j := ((tj + k) % 12)) (by decide) (rfl) (by omega) dX0_next_56 ?_
              refine lv_iload_n hx hb dX0_next_57 rfl (lv_at hl 2 rfl) ?_
              refine lv_icmp_ne (tgt := 81) hx hb dX0_next_58 (by decide) (fun c58 => ?_) (fun c58 => ?_)
              · refine lv_iinc (v := (nI (k + 1))) (lv' := [(4, .int (nI (k + 1))), (5, .int (nI ((tj + k) % 12))), (0, .ref o), (1, .int (nI j)), (2, .int (nI a)), (3, .int (nI tj))]) hx hb dX0_next_81 hl (k := 5) rfl (nI_inc k) (by decide) rfl (fun ls hl => ?_)
                refine lv_goto (tgt := 34) hx hb dX0_next_84 (by decide) ?_
                exact ih34 (k + 1) ls (by omega) (by first | omega | assumption | rfl | (simp_all; done) | grind) (by rw [hf]; refine firstS_f (by omega) ?_; simp only [snS]; (clear hq hK hts hC hx hb ho hRm hl hP ih34); grind)  (lv_sub hl [2, 3, 4, 5, 0] rfl)
              · refine lv_aload_n hx hb dX0_next_61 rfl (lv_at hl 1 rfl) ?_
                refine S_get hC hK hP (oS_main _ _ _ _ _) clX0 in_X0 0 (by decide) (fD0 _ _ _ _) q291 dX0_next_62 ?_
                refine lv_iload_n hx hb dX0_next_65 rfl (lv_at hl 2 rfl) ?_
                refine lv_iload hx hb dX0_next_66 (lv_at hl 0 rfl) ?_
                refine CIs.go (rcV hC hl (c_X1_seen_plan G l o R tx u j (nI ((tj + k) % 12)) (by first | assumption | omega | rfl | (simp_all; done)) (by first | assumption | omega | rfl | (simp_all; done)) (by first | assumption | omega | rfl | (simp_all; done))) hK hP (va_recv hK.1 hP clX1 (oS_plan _ _ _ _ _)) q1000 q894 q895 q111 q896 mdX1_seen (room_s hRm rfl) rfl rfl dX0_next_68) ?_
                refine lv_iload_n hx hb dX0_next_71 rfl (lv_at hl 3 rfl) ?_
                refine CIs.go (rcS hC hl (c_X0_has G l (seenS (u.1 25) (u.2.1 21) (u.2.1 22) (u.2.1 23) ((u.2.1 20) j) (nI ((tj + k) % 12))) (nI a) ) hK trivial q1036 q1037 q110 q1038 mdX0_has (room_s hRm rfl) rfl rfl dX0_next_72) ?_
                refine lv_if_eq (tgt := 81) hx hb dX0_next_75 (by decide) (fun c75 => ?_) (fun c75 => ?_)
                · have c75 : (hasB (seenS (u.1 25) (u.2.1 21) (u.2.1 22) (u.2.1 23) ((u.2.1 20) j) (nI ((tj + k) % 12))) (nI a)) = false := bI_0.mp c75
                  refine lv_iinc (v := (nI (k + 1))) (lv' := [(4, .int (nI (k + 1))), (5, .int (nI ((tj + k) % 12))), (0, .ref o), (1, .int (nI j)), (2, .int (nI a)), (3, .int (nI tj))]) hx hb dX0_next_81 hl (k := 5) rfl (nI_inc k) (by decide) rfl (fun ls hl => ?_)
                  refine lv_goto (tgt := 34) hx hb dX0_next_84 (by decide) ?_
                  exact ih34 (k + 1) ls (by omega) (by first | omega | assumption | rfl | (simp_all; done) | grind) (by rw [hf]; refine firstS_f (by omega) ?_; simp only [snS]; (clear hq hK hts hC hx hb ho hRm hl hP ih34); grind)  (lv_sub hl [2, 3, 4, 5, 0] rfl)
                · have c75 : (hasB (seenS (u.1 25) (u.2.1 21) (u.2.1 22) (u.2.1 23) ((u.2.1 20) j) (nI ((tj + k) % 12))) (nI a)) = true := bI_1.mp c75
                  refine lv_iload hx hb dX0_next_78 (lv_at hl 5 rfl) ?_
                  exact hq _ _ _ dX0_next_80 (by rw [nextI, if_pos (by simp [*]), hjx, htjx, hf, firstS_t (by omega) (by simp only [snS]; simp [*])])
        exact LP34 _ 0 ls (Nat.lt_succ_self _) (by first | omega | assumption | rfl | (simp_all; done) | grind) (rfl)  (lv_sub hl [1, 2, 3, 4, 0] rfl)
      · have c26 : (isTurnB t) = false := bI_0.mp c26
        refine lv_iconst (v := (-1)) hx hb dX0_next_29 (by decide) ?_
        exact hq _ _ _ dX0_next_30 (by (clear hq hK hts hC hx hb ho hRm hl hP); grind [nextI])
set_option maxHeartbeats 4000000 in
theorem c_X0_light (G : GG) (l : Launch) (o : Nat) (R : Nat → Nat) (tx : Nat) (u : MS) (h : Int32) (k0 : Int32) (hsd : PB (u.2.1 21)) (hfc : PB (u.2.1 20)) : CIs G l yX0_light cX0_light 8 .int 5 95 [.ref o, .int h, .int k0] (PwS G o R tx u) (lightI (u.1 24) (snS (u.1 25) (u.2.1 21) (u.2.1 22) (u.2.1 23) (u.2.1 20)) h k0) := by
  refine CIs.mk RX0 pnX0 rfl (rfl) (Nat.le_of_ble_eq_true rfl) (fun pg en Rm sg mm ar bw mth cd QQ ls hC hRm hK hX hl hq => ?_)
  have hx := hC.1; have hb := hC.2.1; have ho := hC.2.2.2.1; have hts := hC.2.2.2.2
  have hP : PwS G o R tx u sg.heap := hX
  have hl : lv_has ls 8 [(0, .ref o), (1, .int h), (2, .int k0)] := hl
  refine lv_aload_n hx hb dX0_light_0 rfl (lv_at hl 0 rfl) ?_
  refine S_get hC hK hP (oS_main _ _ _ _ _) clX0 in_X0 0 (by decide) (fD0 _ _ _ _) q291 dX0_light_1 ?_
  refine lv_iload_n hx hb dX0_light_4 rfl (lv_at hl 1 rfl) ?_
  refine CIs.go (rcV hC hl (c_X1_isHouse_plan G l o R tx u h ) hK hP (va_recv hK.1 hP clX1 (oS_plan _ _ _ _ _)) q369 q370 q371 q111 q372 mdX1_isHouse (room_s hRm rfl) rfl rfl dX0_light_5) ?_
  refine lv_if_eq (tgt := 19) hx hb dX0_light_8 (by decide) (fun c8 => ?_) (fun c8 => ?_)
  · have c8 : (isHouseB (u.1 24) h) = false := bI_0.mp c8
    refine lv_iconst (v := (-1)) hx hb dX0_light_19 (by decide) ?_
    exact hq _ _ _ dX0_light_20 (by (clear hq hK hts hC hx hb ho hRm hl hP); grind [lightI])
  · have c8 : (isHouseB (u.1 24) h) = true := bI_1.mp c8
    obtain ⟨j, hj, rfl, hjx⟩ := isHouseB_nI c8
    have hl : lv_has ls 8 [(0, .ref o), (1, .int (nI j)), (2, .int k0)] := hl
    refine lv_iload_n hx hb dX0_light_11 rfl (lv_at hl 2 rfl) ?_
    refine lv_iconst (v := 2) hx hb dX0_light_12 (by decide) ?_
    refine CIs.go (rcS hC hl (c_X0_in G l k0 2 1 (by decide)) hK trivial q366 q367 q110 q368 mdX0_in (room_s hRm rfl) rfl rfl dX0_light_13) ?_
    refine lv_if_ne (tgt := 21) hx hb dX0_light_16 (by decide) (fun c16 => ?_) (fun c16 => ?_)
    · have c16 : (inB k0 0 1) = true := bI_1.mp c16
      refine lv_iconst (v := 0) hx hb dX0_light_21 (by decide) ?_
      refine lv_istore_n (lv' := [(3, .int 0), (0, .ref o), (1, .int (nI j)), (2, .int k0)]) hx hb dX0_light_22 rfl hl (by decide) rfl (fun ls hl => ?_)
      refine lv_iconst (v := 0) hx hb dX0_light_23 (by decide) ?_
      refine lv_istore (lv' := [(4, .int 0), (3, .int 0), (0, .ref o), (1, .int (nI j)), (2, .int k0)]) hx hb dX0_light_24 hl (by decide) rfl (fun ls hl => ?_)
      refine lv_iconst (v := 0) hx hb dX0_light_26 (by decide) ?_
      refine lv_istore (lv' := [(5, .int 0), (4, .int 0), (3, .int 0), (0, .ref o), (1, .int (nI j)), (2, .int k0)]) hx hb dX0_light_27 hl (by decide) rfl (fun ls hl => ?_)
      refine lv_iconst (v := 0) hx hb dX0_light_29 (by decide) ?_
      refine lv_istore (lv' := [(6, .int 0), (5, .int 0), (4, .int 0), (3, .int 0), (0, .ref o), (1, .int (nI j)), (2, .int k0)]) hx hb dX0_light_30 hl (by decide) rfl (fun ls hl => ?_)
      have LP32 : ∀ (fu32 : Nat) (k : Nat) (ru : Nat) (mu : Nat) (n : Int32) (ls : Array Slot), 24 - k < fu32 → k ≤ 24 → ru = ruN (lightC (snS (u.1 25) (u.2.1 21) (u.2.1 22) (u.2.1 23) (u.2.1 20)) j) k → mu = muN (lightC (snS (u.1 25) (u.2.1 21) (u.2.1 22) (u.2.1 23) (u.2.1 20)) j) k → n = cntC (lightC (snS (u.1 25) (u.2.1 21) (u.2.1 22) (u.2.1 23) (u.2.1 20)) j) (min k 12) → lv_has ls 8 [(0, .ref o), (1, .int (nI j)), (2, .int k0), (3, .int n), (4, .int (nI ru)), (5, .int (nI mu)), (6, .int (nI k))] → W pg l en Rm sg mm ar bw mth cd sg.heap [] 0 0 QQ (F0 mm 32 ls []) := by
        intro fu32
        induction fu32 with
        | zero => intro k ru mu n ls hm32 hk hru hmu hn hl; exact absurd hm32 (Nat.not_lt_zero _)
        | succ fu32 ih32 =>
          intro k ru mu n ls hm32 hk hru hmu hn hl
          have hb1 := ruN_le (lightC (snS (u.1 25) (u.2.1 21) (u.2.1 22) (u.2.1 23) (u.2.1 20)) j) k
          have hb2 := muN_le (lightC (snS (u.1 25) (u.2.1 21) (u.2.1 22) (u.2.1 23) (u.2.1 20)) j) k
          refine lv_iload hx hb dX0_light_32 (lv_at hl 6 rfl) ?_
          refine lv_bipush (v := 24) hx hb dX0_light_34 (by decide) ?_
          refine lv_icmp_ge (tgt := 112) hx hb dX0_light_36 (by decide) (fun c36 => ?_) (fun c36 => ?_)
          · have c36 : 24 ≤ k := (nI_leI (a := 24) (b := k) (by omega) (by omega)).mp c36
            refine lv_iload_n hx hb dX0_light_112 rfl (lv_at hl 2 rfl) ?_
            refine lv_if_ne (tgt := 120) hx hb dX0_light_113 (by decide) (fun c113 => ?_) (fun c113 => ?_)
            · refine lv_iload hx hb dX0_light_120 (lv_at hl 5 rfl) ?_
              refine lv_bipush (v := 12) hx hb dX0_light_122 (by decide) ?_
              refine S_min hC hl q977 q468 q120 q469 (room_m hRm rfl) rfl dX0_light_124 ?_
              exact hq _ _ _ dX0_light_127 (by have hfin : k = 24 := (by omega); subst hfin; rw [lightI, if_pos ⟨c8, c16⟩]; first | (rw [if_pos c113, hjx, hn]; rfl) | (rw [if_neg c113, hjx, hmu]; exact long_mu _))
            · refine lv_iload_n hx hb dX0_light_116 rfl (lv_at hl 3 rfl) ?_
              refine lv_goto (tgt := 127) hx hb dX0_light_117 (by decide) ?_
              exact hq _ _ _ dX0_light_127 (by have hfin : k = 24 := (by omega); subst hfin; rw [lightI, if_pos ⟨c8, c16⟩]; first | (rw [if_pos c113, hjx, hn]; rfl) | (rw [if_neg c113, hjx, hmu]; exact long_mu _))
          · have c36 : ¬ (24 ≤ k) := mt (nI_leI (a := 24) (b := k) (by omega) (by omega)).mpr c36
            refine lv_aload_n hx hb dX0_light_39 rfl (lv_at hl 0 rfl) ?_
            refine S_get hC hK hP (oS_main _ _ _ _ _) clX0 in_X0 0 (by decide) (fD0 _ _ _ _) q291 dX0_light_40 ?_
            refine lv_iload_n hx hb dX0_light_43 rfl (lv_at hl 1 rfl) ?_
            refine lv_iload hx hb dX0_light_44 (lv_at hl 6 rfl) ?_
            refine lv_bipush (v := 12) hx hb dX0_light_46 (by decide) ?_
            refine lv_irem hx hb dX0_light_48 (by decide) ?_
            refine W_top (pk_rem (a := k) (d := 12) (by omega) (by omega) (by omega)) ?_
            refine CIs.go (rcV hC hl (c_X1_seen_plan G l o R tx u j (nI (k % 12)) (by first | assumption | omega | rfl | (simp_all; done)) (by first | assumption | omega | rfl | (simp_all; done)) (by first | assumption | omega | rfl | (simp_all; done))) hK hP (va_recv hK.1 hP clX1 (oS_plan _ _ _ _ _)) q1000 q894 q895 q111 q896 mdX1_seen (room_s hRm rfl) rfl rfl dX0_light_49) ?_
            refine lv_if_eq (tgt := 59) hx hb dX0_light_52 (by decide) (fun c52 => ?_) (fun c52 => ?_)
            · refine lv_iconst (v := 0) hx hb dX0_light_59 (by decide) ?_
              refine lv_istore (lv' := [(7, .int 0), (0, .ref o), (1, .int (nI j)), (2, .int k0), (3, .int n), (4, .int (nI ru)), (5, .int (nI mu)), (6, .int (nI k))]) hx hb dX0_light_60 hl (by decide) rfl (fun ls hl => ?_)
              refine lv_iload_n hx hb dX0_light_62 rfl (lv_at hl 4 rfl) ?_
              refine lv_iload hx hb dX0_light_63 (lv_at hl 0 rfl) ?_
              refine lv_if_eq (tgt := 79) hx hb dX0_light_65 (by decide) (fun c65 => ?_) (fun c65 => ?_)
              · refine lv_iconst (v := 0) hx hb dX0_light_79 (by decide) ?_
                refine lv_iadd hx hb dX0_light_80 ?_
                refine W_top (y := n) (add0 _) ?_
                refine lv_istore_n (lv' := [(3, .int n), (7, .int 0), (0, .ref o), (1, .int (nI j)), (2, .int k0), (4, .int (nI ru)), (5, .int (nI mu)), (6, .int (nI k))]) hx hb dX0_light_81 rfl hl (by decide) rfl (fun ls hl => ?_)
                refine lv_iload hx hb dX0_light_82 (lv_at hl 1 rfl) ?_
                refine lv_if_eq (tgt := 94) hx hb dX0_light_84 (by decide) (fun c84 => ?_) (fun c84 => ?_)
                · refine lv_iconst (v := 0) hx hb dX0_light_94 (by decide) ?_
                  refine lv_istore (lv' := [(4, .int 0), (3, .int n), (7, .int 0), (0, .ref o), (1, .int (nI j)), (2, .int k0), (5, .int (nI mu)), (6, .int (nI k))]) hx hb dX0_light_95 hl (by decide) rfl (fun ls hl => ?_)
                  refine lv_iload hx hb dX0_light_97 (lv_at hl 6 rfl) ?_
                  refine lv_iload hx hb dX0_light_99 (lv_at hl 0 rfl) ?_
                  refine S_max hC hl q978 q465 q120 q466 (room_m hRm rfl) rfl dX0_light_101 ?_
                  refine W_top (y := (nI (max mu 0))) (mxI_nI (a := mu) (b := 0) (by omega) (by omega)) ?_
                  refine lv_istore (lv' := [(5, .int (nI (max mu 0))), (4, .int 0), (3, .int n), (7, .int 0), (0, .ref o), (1, .int (nI j)), (2, .int k0), (6, .int (nI k))]) hx hb dX0_light_104 hl (by decide) rfl (fun ls hl => ?_)
                  refine lv_iinc (v := (nI (k + 1))) (lv' := [(6, .int (nI (k + 1))), (5, .int (nI (max mu 0))), (4, .int 0), (3, .int n), (7, .int 0), (0, .ref o), (1, .int (nI j)), (2, .int k0)]) hx hb dX0_light_106 hl (k := 7) rfl (nI_inc k) (by decide) rfl (fun ls hl => ?_)
                  refine lv_goto (tgt := 32) hx hb dX0_light_109 (by decide) ?_
                  exact ih32 (k + 1) 0 (max mu 0) n ls (by omega) (by first | omega | assumption | rfl | (simp_all; done) | grind) (by first | (rw [ru_t (by simp [lightC, snS, c52]), hru]) | (rw [ru_f (by simp [lightC, snS, c52])])) (by first | (show _ = max (muN _ k) (ruN _ (k + 1)); rw [ru_t (by simp [lightC, snS, c52]), hru, hmu]) | (show _ = max (muN _ k) (ruN _ (k + 1)); rw [ru_f (by simp [lightC, snS, c52]), hmu])) (by first | exact cnt24_t (by simp [lightC, snS, c52]) (by omega) hn | exact cnt24_f (Or.inr (by omega)) hn | exact cnt24_f (Or.inl (by simp [lightC, snS, c52])) hn)  (lv_sub hl [5, 6, 7, 3, 2, 1, 0] rfl)
                · exact absurd c84 (by decide)
              · exact absurd c65 (by decide)
            · refine lv_iconst (v := 1) hx hb dX0_light_55 (by decide) ?_
              refine lv_goto (tgt := 60) hx hb dX0_light_56 (by decide) ?_
              refine lv_istore (lv' := [(7, .int 1), (0, .ref o), (1, .int (nI j)), (2, .int k0), (3, .int n), (4, .int (nI ru)), (5, .int (nI mu)), (6, .int (nI k))]) hx hb dX0_light_60 hl (by decide) rfl (fun ls hl => ?_)
              refine lv_iload_n hx hb dX0_light_62 rfl (lv_at hl 4 rfl) ?_
              refine lv_iload hx hb dX0_light_63 (lv_at hl 0 rfl) ?_
              refine lv_if_eq (tgt := 79) hx hb dX0_light_65 (by decide) (fun c65 => ?_) (fun c65 => ?_)
              · exact absurd c65 (by decide)
              · refine lv_iload hx hb dX0_light_68 (lv_at hl 7 rfl) ?_
                refine lv_bipush (v := 12) hx hb dX0_light_70 (by decide) ?_
                refine lv_icmp_ge (tgt := 79) hx hb dX0_light_72 (by decide) (fun c72 => ?_) (fun c72 => ?_)
                · have c72 : 12 ≤ k := (nI_leI (a := 12) (b := k) (by omega) (by omega)).mp c72
                  refine lv_iconst (v := 0) hx hb dX0_light_79 (by decide) ?_
                  refine lv_iadd hx hb dX0_light_80 ?_
                  refine W_top (y := n) (add0 _) ?_
                  refine lv_istore_n (lv' := [(3, .int n), (7, .int 1), (0, .ref o), (1, .int (nI j)), (2, .int k0), (4, .int (nI ru)), (5, .int (nI mu)), (6, .int (nI k))]) hx hb dX0_light_81 rfl hl (by decide) rfl (fun ls hl => ?_)
                  refine lv_iload hx hb dX0_light_82 (lv_at hl 1 rfl) ?_
                  refine lv_if_eq (tgt := 94) hx hb dX0_light_84 (by decide) (fun c84 => ?_) (fun c84 => ?_)
                  · exact absurd c84 (by decide)
                  · refine lv_iload hx hb dX0_light_87 (lv_at hl 5 rfl) ?_
                    refine lv_iconst (v := 1) hx hb dX0_light_89 (by decide) ?_
                    refine lv_iadd hx hb dX0_light_90 ?_
                    refine W_top (nI_add ru 1) ?_
                    refine lv_goto (tgt := 95) hx hb dX0_light_91 (by decide) ?_
                    refine lv_istore (lv' := [(4, .int (nI (ru + 1))), (3, .int n), (7, .int 1), (0, .ref o), (1, .int (nI j)), (2, .int k0), (5, .int (nI mu)), (6, .int (nI k))]) hx hb dX0_light_95 hl (by decide) rfl (fun ls hl => ?_)
                    refine lv_iload hx hb dX0_light_97 (lv_at hl 6 rfl) ?_
                    refine lv_iload hx hb dX0_light_99 (lv_at hl 0 rfl) ?_
                    refine S_max hC hl q978 q465 q120 q466 (room_m hRm rfl) rfl dX0_light_101 ?_
                    refine W_top (y := (nI (max mu (ru + 1)))) (mxI_nI (a := mu) (b := (ru + 1)) (by omega) (by omega)) ?_
                    refine lv_istore (lv' := [(5, .int (nI (max mu (ru + 1)))), (4, .int (nI (ru + 1))), (3, .int n), (7, .int 1), (0, .ref o), (1, .int (nI j)), (2, .int k0), (6, .int (nI k))]) hx hb dX0_light_104 hl (by decide) rfl (fun ls hl => ?_)
                    refine lv_iinc (v := (nI (k + 1))) (lv' := [(6, .int (nI (k + 1))), (5, .int (nI (max mu (ru + 1)))), (4, .int (nI (ru + 1))), (3, .int n), (7, .int 1), (0, .ref o), (1, .int (nI j)), (2, .int k0)]) hx hb dX0_light_106 hl (k := 7) rfl (nI_inc k) (by decide) rfl (fun ls hl => ?_)
                    refine lv_goto (tgt := 32) hx hb dX0_light_109 (by decide) ?_
                    exact ih32 (k + 1) (ru + 1) (max mu (ru + 1)) n ls (by omega) (by first | omega | assumption | rfl | (simp_all; done) | grind) (by first | (rw [ru_t (by simp [lightC, snS, c52]), hru]) | (rw [ru_f (by simp [lightC, snS, c52])])) (by first | (show _ = max (muN _ k) (ruN _ (k + 1)); rw [ru_t (by simp [lightC, snS, c52]), hru, hmu]) | (show _ = max (muN _ k) (ruN _ (k + 1)); rw [ru_f (by simp [lightC, snS, c52]), hmu])) (by first | exact cnt24_t (by simp [lightC, snS, c52]) (by omega) hn | exact cnt24_f (Or.inr (by omega)) hn | exact cnt24_f (Or.inl (by simp [lightC, snS, c52])) hn)  (lv_sub hl [5, 6, 7, 3, 2, 1, 0] rfl)
                · have c72 : ¬ (12 ≤ k) := mt (nI_leI (a := 12) (b := k) (by omega) (by omega)).mpr c72
                  refine lv_iconst (v := 1) hx hb dX0_light_75 (by decide) ?_
                  refine lv_goto (tgt := 80) hx hb dX0_light_76 (by decide) ?_
                  refine lv_iadd hx hb dX0_light_80 ?_
                  refine lv_istore_n (lv' := [(3, .int (n + 1)), (7, .int 1), (0, .ref o), (1, .int (nI j)), (2, .int k0), (4, .int (nI ru)), (5, .int (nI mu)), (6, .int (nI k))]) hx hb dX0_light_81 rfl hl (by decide) rfl (fun ls hl => ?_)
                  refine lv_iload hx hb dX0_light_82 (lv_at hl 1 rfl) ?_
                  refine lv_if_eq (tgt := 94) hx hb dX0_light_84 (by decide) (fun c84 => ?_) (fun c84 => ?_)
                  · exact absurd c84 (by decide)
                  · refine lv_iload hx hb dX0_light_87 (lv_at hl 5 rfl) ?_
                    refine lv_iconst (v := 1) hx hb dX0_light_89 (by decide) ?_
                    refine lv_iadd hx hb dX0_light_90 ?_
                    refine W_top (nI_add ru 1) ?_
                    refine lv_goto (tgt := 95) hx hb dX0_light_91 (by decide) ?_
                    refine lv_istore (lv' := [(4, .int (nI (ru + 1))), (3, .int (n + 1)), (7, .int 1), (0, .ref o), (1, .int (nI j)), (2, .int k0), (5, .int (nI mu)), (6, .int (nI k))]) hx hb dX0_light_95 hl (by decide) rfl (fun ls hl => ?_)
                    refine lv_iload hx hb dX0_light_97 (lv_at hl 6 rfl) ?_
                    refine lv_iload hx hb dX0_light_99 (lv_at hl 0 rfl) ?_
                    refine S_max hC hl q978 q465 q120 q466 (room_m hRm rfl) rfl dX0_light_101 ?_
                    refine W_top (y := (nI (max mu (ru + 1)))) (mxI_nI (a := mu) (b := (ru + 1)) (by omega) (by omega)) ?_
                    refine lv_istore (lv' := [(5, .int (nI (max mu (ru + 1)))), (4, .int (nI (ru + 1))), (3, .int (n + 1)), (7, .int 1), (0, .ref o), (1, .int (nI j)), (2, .int k0), (6, .int (nI k))]) hx hb dX0_light_104 hl (by decide) rfl (fun ls hl => ?_)
                    refine lv_iinc (v := (nI (k + 1))) (lv' := [(6, .int (nI (k + 1))), (5, .int (nI (max mu (ru + 1)))), (4, .int (nI (ru + 1))), (3, .int (n + 1)), (7, .int 1), (0, .ref o), (1, .int (nI j)), (2, .int k0)]) hx hb dX0_light_106 hl (k := 7) rfl (nI_inc k) (by decide) rfl (fun ls hl => ?_)
                    refine lv_goto (tgt := 32) hx hb dX0_light_109 (by decide) ?_
                    exact ih32 (k + 1) (ru + 1) (max mu (ru + 1)) (n + 1) ls (by omega) (by first | omega | assumption | rfl | (simp_all; done) | grind) (by first | (rw [ru_t (by simp [lightC, snS, c52]), hru]) | (rw [ru_f (by simp [lightC, snS, c52])])) (by first | (show _ = max (muN _ k) (ruN _ (k + 1)); rw [ru_t (by simp [lightC, snS, c52]), hru, hmu]) | (show _ = max (muN _ k) (ruN _ (k + 1)); rw [ru_f (by simp [lightC, snS, c52]), hmu])) (by first | exact cnt24_t (by simp [lightC, snS, c52]) (by omega) hn | exact cnt24_f (Or.inr (by omega)) hn | exact cnt24_f (Or.inl (by simp [lightC, snS, c52])) hn)  (lv_sub hl [5, 6, 7, 3, 2, 1, 0] rfl)
      exact LP32 _ 0 0 0 0 ls (Nat.lt_succ_self _) (by first | omega | assumption | rfl | (simp_all; done) | grind) (rfl) (rfl) (rfl)  (lv_sub hl [4, 5, 6, 3, 2, 1, 0] rfl)
    · have c16 : (inB k0 0 1) = false := bI_0.mp c16
      refine lv_iconst (v := (-1)) hx hb dX0_light_19 (by decide) ?_
      exact hq _ _ _ dX0_light_20 (by (clear hq hK hts hC hx hb ho hRm hl hP); grind [lightI])
set_option maxHeartbeats 4000000 in
theorem c_X0_seers (G : GG) (l : Launch) (o : Nat) (R : Nat → Nat) (tx : Nat) (u : MS) (th : Int32) (hsd : PB (u.2.1 21)) (hfc : PB (u.2.1 20)) : CIs G l yX0_seers cX0_seers 4 .int 6 118 [.ref o, .int th] (PwS G o R tx u) (seersI (u.1 24) (u.1 25) (snS (u.1 25) (u.2.1 21) (u.2.1 22) (u.2.1 23) (u.2.1 20)) th) := by
  refine CIs.mk RX0 pnX0 rfl (rfl) (Nat.le_of_ble_eq_true rfl) (fun pg en Rm sg mm ar bw mth cd QQ ls hC hRm hK hX hl hq => ?_)
  have hx := hC.1; have hb := hC.2.1; have ho := hC.2.2.2.1; have hts := hC.2.2.2.2
  have hP : PwS G o R tx u sg.heap := hX
  have hl : lv_has ls 4 [(0, .ref o), (1, .int th)] := hl
  refine lv_aload_n hx hb dX0_seers_0 rfl (lv_at hl 0 rfl) ?_
  refine S_get hC hK hP (oS_main _ _ _ _ _) clX0 in_X0 0 (by decide) (fD0 _ _ _ _) q291 dX0_seers_1 ?_
  refine lv_iload_n hx hb dX0_seers_4 rfl (lv_at hl 1 rfl) ?_
  refine CIs.go (rcV hC hl (c_X1_isThing_plan G l o R tx u th ) hK hP (va_recv hK.1 hP clX1 (oS_plan _ _ _ _ _)) q1035 q732 q733 q111 q734 mdX1_isThing (room_s hRm rfl) rfl rfl dX0_seers_5) ?_
  refine lv_if_ne (tgt := 13) hx hb dX0_seers_8 (by decide) (fun c8 => ?_) (fun c8 => ?_)
  · have c8 : (isHouseB (u.1 25) th) = true := bI_1.mp c8
    obtain ⟨a, ha, rfl, hax⟩ := isHouseB_nI c8
    have hl : lv_has ls 4 [(0, .ref o), (1, .int (nI a))] := hl
    refine lv_iconst (v := 0) hx hb dX0_seers_13 (by decide) ?_
    refine lv_istore_n (lv' := [(2, .int 0), (0, .ref o), (1, .int (nI a))]) hx hb dX0_seers_14 rfl hl (by decide) rfl (fun ls hl => ?_)
    refine lv_iconst (v := 0) hx hb dX0_seers_15 (by decide) ?_
    refine lv_istore_n (lv' := [(3, .int 0), (2, .int 0), (0, .ref o), (1, .int (nI a))]) hx hb dX0_seers_16 rfl hl (by decide) rfl (fun ls hl => ?_)
    have LP17 : ∀ (fu17 : Nat) (k : Nat) (set : Int32) (ls : Array Slot), 16 - k < fu17 → k ≤ 16 → set = orN (fun h => isHouseB (u.1 24) (nI h) && hasB (everI (snS (u.1 25) (u.2.1 21) (u.2.1 22) (u.2.1 23) (u.2.1 20)) h) (nI a)) k → lv_has ls 4 [(0, .ref o), (1, .int (nI a)), (2, .int set), (3, .int (nI k))] → W pg l en Rm sg mm ar bw mth cd sg.heap [] 0 0 QQ (F0 mm 17 ls []) := by
      intro fu17
      induction fu17 with
      | zero => intro k set ls hm17 hk hset hl; exact absurd hm17 (Nat.not_lt_zero _)
      | succ fu17 ih17 =>
        intro k set ls hm17 hk hset hl
        refine lv_iload_n hx hb dX0_seers_17 rfl (lv_at hl 3 rfl) ?_
        refine lv_bipush (v := 16) hx hb dX0_seers_18 (by decide) ?_
        refine lv_icmp_ge (tgt := 65) hx hb dX0_seers_20 (by decide) (fun c20 => ?_) (fun c20 => ?_)
        · have c20 : 16 ≤ k := (nI_leI (a := 16) (b := k) (by omega) (by omega)).mp c20
          refine lv_iload_n hx hb dX0_seers_65 rfl (lv_at hl 2 rfl) ?_
          exact hq _ _ _ dX0_seers_66 (by have hfin : k = 16 := (by omega); subst hfin; (clear hq hK hts hC hx hb ho hRm hl hP ih17); grind [seersI])
        · have c20 : ¬ (16 ≤ k) := mt (nI_leI (a := 16) (b := k) (by omega) (by omega)).mpr c20
          refine lv_iload_n hx hb dX0_seers_23 rfl (lv_at hl 2 rfl) ?_
          refine lv_aload_n hx hb dX0_seers_24 rfl (lv_at hl 0 rfl) ?_
          refine S_get hC hK hP (oS_main _ _ _ _ _) clX0 in_X0 0 (by decide) (fD0 _ _ _ _) q291 dX0_seers_25 ?_
          refine lv_iload_n hx hb dX0_seers_28 rfl (lv_at hl 3 rfl) ?_
          refine CIs.go (rcV hC hl (c_X1_isHouse_plan G l o R tx u (nI k) ) hK hP (va_recv hK.1 hP clX1 (oS_plan _ _ _ _ _)) q369 q370 q371 q111 q372 mdX1_isHouse (room_s hRm rfl) rfl rfl dX0_seers_29) ?_
          refine lv_if_eq (tgt := 56) hx hb dX0_seers_32 (by decide) (fun c32 => ?_) (fun c32 => ?_)
          · have c32 : (isHouseB (u.1 24) (nI k)) = false := bI_0.mp c32
            refine lv_iconst (v := 0) hx hb dX0_seers_56 (by decide) ?_
            refine lv_ior hx hb dX0_seers_57 ?_
            refine W_top (y := set) (or0 _) ?_
            refine lv_istore_n (lv' := [(2, .int set), (0, .ref o), (1, .int (nI a)), (3, .int (nI k))]) hx hb dX0_seers_58 rfl hl (by decide) rfl (fun ls hl => ?_)
            refine lv_iinc (v := (nI (k + 1))) (lv' := [(3, .int (nI (k + 1))), (2, .int set), (0, .ref o), (1, .int (nI a))]) hx hb dX0_seers_59 hl (k := 3) rfl (nI_inc k) (by decide) rfl (fun ls hl => ?_)
            refine lv_goto (tgt := 17) hx hb dX0_seers_62 (by decide) ?_
            exact ih17 (k + 1) set ls (by omega) (by first | omega | assumption | rfl | (simp_all; done) | grind) (by (clear hq hK hts hC hx hb ho hRm hl hP ih17); grind [orN, bitI, everS_eq])  (lv_sub hl [2, 3, 1, 0] rfl)
          · have c32 : (isHouseB (u.1 24) (nI k)) = true := bI_1.mp c32
            refine lv_aload_n hx hb dX0_seers_35 rfl (lv_at hl 0 rfl) ?_
            refine S_get hC hK hP (oS_main _ _ _ _ _) clX0 in_X0 0 (by decide) (fD0 _ _ _ _) q291 dX0_seers_36 ?_
            refine lv_iload_n hx hb dX0_seers_39 rfl (lv_at hl 3 rfl) ?_
            refine CIs.go (rcV hC hl (c_X1_seenEver_plan G l o R tx u k (by first | assumption | omega | rfl | (simp_all; done)) (by first | assumption | omega | rfl | (simp_all; done)) (by first | assumption | omega | rfl | (simp_all; done))) hK hP (va_recv hK.1 hP clX1 (oS_plan _ _ _ _ _)) q1013 q1014 q1015 q111 q1016 mdX1_seenEver (room_s hRm rfl) rfl rfl dX0_seers_40) ?_
            refine lv_iload_n hx hb dX0_seers_43 rfl (lv_at hl 1 rfl) ?_
            refine CIs.go (rcS hC hl (c_X0_has G l (everS (u.1 25) (u.2.1 21) (u.2.1 22) (u.2.1 23) ((u.2.1 20) k)) (nI a) ) hK trivial q1036 q1037 q110 q1038 mdX0_has (room_s hRm rfl) rfl rfl dX0_seers_44) ?_
            refine lv_if_eq (tgt := 56) hx hb dX0_seers_47 (by decide) (fun c47 => ?_) (fun c47 => ?_)
            · have c47 : (hasB (everS (u.1 25) (u.2.1 21) (u.2.1 22) (u.2.1 23) ((u.2.1 20) k)) (nI a)) = false := bI_0.mp c47
              refine lv_iconst (v := 0) hx hb dX0_seers_56 (by decide) ?_
              refine lv_ior hx hb dX0_seers_57 ?_
              refine W_top (y := set) (or0 _) ?_
              refine lv_istore_n (lv' := [(2, .int set), (0, .ref o), (1, .int (nI a)), (3, .int (nI k))]) hx hb dX0_seers_58 rfl hl (by decide) rfl (fun ls hl => ?_)
              refine lv_iinc (v := (nI (k + 1))) (lv' := [(3, .int (nI (k + 1))), (2, .int set), (0, .ref o), (1, .int (nI a))]) hx hb dX0_seers_59 hl (k := 3) rfl (nI_inc k) (by decide) rfl (fun ls hl => ?_)
              refine lv_goto (tgt := 17) hx hb dX0_seers_62 (by decide) ?_
              exact ih17 (k + 1) set ls (by omega) (by first | omega | assumption | rfl | (simp_all; done) | grind) (by (clear hq hK hts hC hx hb ho hRm hl hP ih17); grind [orN, bitI, everS_eq])  (lv_sub hl [2, 3, 1, 0] rfl)
            · have c47 : (hasB (everS (u.1 25) (u.2.1 21) (u.2.1 22) (u.2.1 23) ((u.2.1 20) k)) (nI a)) = true := bI_1.mp c47
              refine lv_iconst (v := 1) hx hb dX0_seers_50 (by decide) ?_
              refine lv_iload_n hx hb dX0_seers_51 rfl (lv_at hl 3 rfl) ?_
              refine lv_ishl hx hb dX0_seers_52 ?_
              refine lv_goto (tgt := 57) hx hb dX0_seers_53 (by decide) ?_
              refine lv_ior hx hb dX0_seers_57 ?_
              refine lv_istore_n (lv' := [(2, .int (set ||| (1 <<< ((nI k) &&& 31)))), (0, .ref o), (1, .int (nI a)), (3, .int (nI k))]) hx hb dX0_seers_58 rfl hl (by decide) rfl (fun ls hl => ?_)
              refine lv_iinc (v := (nI (k + 1))) (lv' := [(3, .int (nI (k + 1))), (2, .int (set ||| (1 <<< ((nI k) &&& 31)))), (0, .ref o), (1, .int (nI a))]) hx hb dX0_seers_59 hl (k := 3) rfl (nI_inc k) (by decide) rfl (fun ls hl => ?_)
              refine lv_goto (tgt := 17) hx hb dX0_seers_62 (by decide) ?_
              exact ih17 (k + 1) (set ||| (1 <<< ((nI k) &&& 31))) ls (by omega) (by first | omega | assumption | rfl | (simp_all; done) | grind) (by (clear hq hK hts hC hx hb ho hRm hl hP ih17); grind [orN, bitI, everS_eq])  (lv_sub hl [2, 3, 1, 0] rfl)
    exact LP17 _ 0 0 ls (Nat.lt_succ_self _) (by first | omega | assumption | rfl | (simp_all; done) | grind) (rfl)  (lv_sub hl [2, 3, 1, 0] rfl)
  · have c8 : (isHouseB (u.1 25) th) = false := bI_0.mp c8
    refine lv_iconst (v := (-1)) hx hb dX0_seers_11 (by decide) ?_
    exact hq _ _ _ dX0_seers_12 (by (clear hq hK hts hC hx hb ho hRm hl hP); grind [seersI])
set_option maxHeartbeats 4000000 in
theorem c_X0_exchanges (G : GG) (l : Launch) (o : Nat) (R : Nat → Nat) (tx : Nat) (u : MS) (a : Nat) (b : Nat) (ha : a < 12) (hb2 : b < 12) (hD : DwS o R) : CXv G l (PwS G o R tx) (AwS o R) yX0_exchanges cX0_exchanges 4 2 24 0 0 [.ref o, .int (nI a), .int (nI b)] (PwS G o R tx u) (fun w => w = (mA (mA u 1 a ((u.2.1 1) b)) 1 b ((u.2.1 1) a))) := by
  refine CXv.mk RX0 pnX0 rfl (Nat.le_of_ble_eq_true rfl) (fun pg en Rm sg mm ar bw mth cd QQ ls hC hRm hK hX hS hl hq => ?_)
  have hx := hC.1; have hb := hC.2.1; have ho := hC.2.2.2.1; have hts := hC.2.2.2.2
  have hP : PwS G o R tx u sg.heap := hX
  have hl : lv_has ls 4 [(0, .ref o), (1, .int (nI a)), (2, .int (nI b))] := hl
  refine lv_aload_n hx hb dX0_exchanges_0 rfl (lv_at hl 0 rfl) ?_
  refine S_get hC hK hP (oS_main _ _ _ _ _) clX0 in_X0 1 (by decide) (fD1 _ _ _ _) q293 dX0_exchanges_1 ?_
  refine lv_iload_n hx hb dX0_exchanges_4 rfl (lv_at hl 1 rfl) ?_
  refine S_ald hC hK hP (aS1 _ _ _ _ _) (j := a) (by decide) (rfl) (by omega) dX0_exchanges_5 ?_
  refine lv_istore_n (lv' := [(3, .int (u.2.1 1 a)), (0, .ref o), (1, .int (nI a)), (2, .int (nI b))]) hx hb dX0_exchanges_6 rfl hl (by decide) rfl (fun ls hl => ?_)
  refine lv_aload_n hx hb dX0_exchanges_7 rfl (lv_at hl 1 rfl) ?_
  refine S_get hC hK hP (oS_main _ _ _ _ _) clX0 in_X0 1 (by decide) (fD1 _ _ _ _) q293 dX0_exchanges_8 ?_
  refine lv_iload_n hx hb dX0_exchanges_11 rfl (lv_at hl 2 rfl) ?_
  refine lv_aload_n hx hb dX0_exchanges_12 rfl (lv_at hl 1 rfl) ?_
  refine S_get hC hK hP (oS_main _ _ _ _ _) clX0 in_X0 1 (by decide) (fD1 _ _ _ _) q293 dX0_exchanges_13 ?_
  refine lv_iload_n hx hb dX0_exchanges_16 rfl (lv_at hl 3 rfl) ?_
  refine S_ald hC hK hP (aS1 _ _ _ _ _) (j := b) (by decide) (rfl) (by omega) dX0_exchanges_17 ?_
  refine S_ast hC hK hP (hD _ _ _) hS (aS1 _ _ _ _ _) (bS1 _ _ _ _ _ _ _) (j := a) (by decide) (rfl) (by omega) dX0_exchanges_18 (fun H locs hP hS => ?_)
  refine lv_aload_n hx hb dX0_exchanges_19 rfl (lv_at hl 1 rfl) ?_
  refine S_get hC hK hP (oS_main _ _ _ _ _) clX0 in_X0 1 (by decide) (fD1 _ _ _ _) q293 dX0_exchanges_20 ?_
  refine lv_iload_n hx hb dX0_exchanges_23 rfl (lv_at hl 3 rfl) ?_
  refine lv_iload_n hx hb dX0_exchanges_24 rfl (lv_at hl 0 rfl) ?_
  refine S_ast hC hK hP (hD _ _ _) hS (aS1 _ _ _ _ _) (bS1 _ _ _ _ _ _ _) (j := b) (by decide) (rfl) (by omega) dX0_exchanges_25 (fun H locs hP hS => ?_)
  exact hq _ _ _ _ _ _ _ dX0_exchanges_26 hP hS (by exact rfl) (by decide) (by decide)
set_option maxHeartbeats 4000000 in
theorem c_X0_ifSwapped (G : GG) (l : Launch) (o : Nat) (R : Nat → Nat) (tx : Nat) (u : MS) (a : Int32) (b2 : Int32) (hD : DwS o R) : CXi G l (PwS G o R tx) (AwS o R) yX0_ifSwapped cX0_ifSwapped 4 .int 4 65 0 0 [.ref o, .int a, .int b2] (PwS G o R tx u) (fun r w => r = (ifSwI (u.2.1 1) a b2) ∧ w = u) := by
  refine CXi.mk RX0 pnX0 rfl (Nat.le_of_ble_eq_true rfl) (fun pg en Rm sg mm ar bw mth cd QQ ls hC hRm hK hX hS hl hq => ?_)
  have hx := hC.1; have hb := hC.2.1; have ho := hC.2.2.2.1; have hts := hC.2.2.2.2
  have hP : PwS G o R tx u sg.heap := hX
  have hl : lv_has ls 4 [(0, .ref o), (1, .int a), (2, .int b2)] := hl
  refine lv_iload_n hx hb dX0_ifSwapped_0 rfl (lv_at hl 1 rfl) ?_
  refine CIs.go (rcS hC hl (c_X0_isTurn G l a ) hK trivial q363 q364 q110 q365 mdX0_isTurn (room_s hRm rfl) rfl rfl dX0_ifSwapped_1) ?_
  refine lv_if_eq (tgt := 14) hx hb dX0_ifSwapped_4 (by decide) (fun c4 => ?_) (fun c4 => ?_)
  · have c4 : (isTurnB a) = false := bI_0.mp c4
    refine lv_iconst (v := (-1)) hx hb dX0_ifSwapped_14 (by decide) ?_
    exact hq _ _ _ _ _ _ _ _ dX0_ifSwapped_15 hP hS (rfl) (by exact ⟨by first | (simp [ifSwI, c4]; done) | (simp [ifSwI, c11]; done), rfl⟩) (by decide) (by decide)
  · have c4 : (isTurnB a) = true := bI_1.mp c4
    obtain ⟨j, hj, rfl, hjx⟩ := isTurnB_nI c4
    have hl : lv_has ls 4 [(0, .ref o), (1, .int (nI j)), (2, .int b2)] := hl
    refine lv_iload_n hx hb dX0_ifSwapped_7 rfl (lv_at hl 2 rfl) ?_
    refine CIs.go (rcS hC hl (c_X0_isTurn G l b2 ) hK trivial q363 q364 q110 q365 mdX0_isTurn (room_s hRm rfl) rfl rfl dX0_ifSwapped_8) ?_
    refine lv_if_ne (tgt := 16) hx hb dX0_ifSwapped_11 (by decide) (fun c11 => ?_) (fun c11 => ?_)
    · have c11 : (isTurnB b2) = true := bI_1.mp c11
      obtain ⟨i, hi, rfl, hix⟩ := isTurnB_nI c11
      have hl : lv_has ls 4 [(0, .ref o), (1, .int (nI j)), (2, .int (nI i))] := hl
      refine lv_aload_n hx hb dX0_ifSwapped_16 rfl (lv_at hl 0 rfl) ?_
      refine lv_iload_n hx hb dX0_ifSwapped_17 rfl (lv_at hl 1 rfl) ?_
      refine lv_iload_n hx hb dX0_ifSwapped_18 rfl (lv_at hl 2 rfl) ?_
      refine CXv.go (rcV hC hl (c_X0_exchanges G l o R tx u j i (by first | assumption | omega | rfl | (simp_all; done)) (by first | assumption | omega | rfl | (simp_all; done)) hD) hK hP (va_recv hK.1 hP clX0 (oS_main _ _ _ _ _)) q1051 q1053 qs32 q110 q1054 mdX0_exchanges (room_s hRm rfl) rfl rfl dX0_ifSwapped_19) hS (fun q h => h) (fun w19 H locs hpo hP _ _ hS => ?_)
      have ew19 := hpo
      rw [ew19] at hP
      refine lv_aload_n hx hb dX0_ifSwapped_22 rfl (lv_at hl 0 rfl) ?_
      refine lv_iconst (v := 0) hx hb dX0_ifSwapped_23 (by decide) ?_
      refine CIs.go (rcV hC hl (c_X0_way G l o R tx (mA (mA u 1 j ((u.2.1 1) i)) 1 i ((u.2.1 1) j)) false ) hK hP (va_recv hK.1 hP clX0 (oS_main _ _ _ _ _)) q1022 q1024 qs30 q110 q1025 mdX0_way (room_s hRm rfl) rfl rfl dX0_ifSwapped_24) ?_
      refine lv_istore_n (lv' := [(3, .int (wayI ((mA (mA u 1 j ((u.2.1 1) i)) 1 i ((u.2.1 1) j)).2.1 1) false)), (0, .ref o), (1, .int (nI j)), (2, .int (nI i))]) hx hb dX0_ifSwapped_27 rfl hl (by decide) rfl (fun ls hl => ?_)
      refine lv_aload_n hx hb dX0_ifSwapped_28 rfl (lv_at hl 1 rfl) ?_
      refine lv_iload_n hx hb dX0_ifSwapped_29 rfl (lv_at hl 2 rfl) ?_
      refine lv_iload_n hx hb dX0_ifSwapped_30 rfl (lv_at hl 3 rfl) ?_
      refine CXv.go (rcV hC hl (c_X0_exchanges G l o R tx (mA (mA u 1 j ((u.2.1 1) i)) 1 i ((u.2.1 1) j)) j i (by first | assumption | omega | rfl | (simp_all; done)) (by first | assumption | omega | rfl | (simp_all; done)) hD) hK hP (va_recv hK.1 hP clX0 (oS_main _ _ _ _ _)) q1051 q1053 qs32 q110 q1054 mdX0_exchanges (room_s hRm rfl) rfl rfl dX0_ifSwapped_31) hS (fun q h => h) (fun w31 H locs hpo hP _ _ hS => ?_)
      have ew31 := hpo
      rw [ew31] at hP
      refine lv_iload_n hx hb dX0_ifSwapped_34 rfl (lv_at hl 0 rfl) ?_
      exact hq _ _ _ _ _ _ _ _ dX0_ifSwapped_35 hP hS (rfl) (by exact ⟨by rw [ifSwI, if_pos ⟨c4, c11⟩, hjx, hix]; rfl, swap_backS u _ j i⟩) (by decide) (by decide)
    · have c11 : (isTurnB b2) = false := bI_0.mp c11
      refine lv_iconst (v := (-1)) hx hb dX0_ifSwapped_14 (by decide) ?_
      exact hq _ _ _ _ _ _ _ _ dX0_ifSwapped_15 hP hS (rfl) (by exact ⟨by first | (simp [ifSwI, c4]; done) | (simp [ifSwI, c11]; done), rfl⟩) (by decide) (by decide)
set_option maxHeartbeats 4000000 in
theorem c_X0_spread (G : GG) (l : Launch) (o : Nat) (R : Nat → Nat) (tx : Nat) (u : MS) : CIs G l yX0_spread cX0_spread 4 .int 3 50 [.ref o] (PwS G o R tx u) (spreadI (u.1 24) (u.2.1 1)) := by
  refine CIs.mk RX0 pnX0 rfl (rfl) (Nat.le_of_ble_eq_true rfl) (fun pg en Rm sg mm ar bw mth cd QQ ls hC hRm hK hX hl hq => ?_)
  have hx := hC.1; have hb := hC.2.1; have ho := hC.2.2.2.1; have hts := hC.2.2.2.2
  have hP : PwS G o R tx u sg.heap := hX
  have hl : lv_has ls 4 [(0, .ref o)] := hl
  refine lv_iconst (v := 0) hx hb dX0_spread_0 (by decide) ?_
  refine lv_istore_n (lv' := [(1, .int 0), (0, .ref o)]) hx hb dX0_spread_1 rfl hl (by decide) rfl (fun ls hl => ?_)
  refine lv_bipush (v := 12) hx hb dX0_spread_2 (by decide) ?_
  refine lv_istore_n (lv' := [(2, .int 12), (1, .int 0), (0, .ref o)]) hx hb dX0_spread_4 rfl hl (by decide) rfl (fun ls hl => ?_)
  refine lv_iconst (v := 0) hx hb dX0_spread_5 (by decide) ?_
  refine lv_istore_n (lv' := [(3, .int 0), (2, .int 12), (1, .int 0), (0, .ref o)]) hx hb dX0_spread_6 rfl hl (by decide) rfl (fun ls hl => ?_)
  have LP7 : ∀ (fu7 : Nat) (k : Nat) (mo : Int32) (fe : Int32) (ls : Array Slot), 16 - k < fu7 → k ≤ 16 → mo = mostT (u.1 24) (u.2.1 1) k → fe = fewT (u.1 24) (u.2.1 1) k → lv_has ls 4 [(0, .ref o), (1, .int mo), (2, .int fe), (3, .int (nI k))] → W pg l en Rm sg mm ar bw mth cd sg.heap [] 0 0 QQ (F0 mm 7 ls []) := by
    intro fu7
    induction fu7 with
    | zero => intro k mo fe ls hm7 hk hmo hfe hl; exact absurd hm7 (Nat.not_lt_zero _)
    | succ fu7 ih7 =>
      intro k mo fe ls hm7 hk hmo hfe hl
      refine lv_iload_n hx hb dX0_spread_7 rfl (lv_at hl 3 rfl) ?_
      refine lv_bipush (v := 16) hx hb dX0_spread_8 (by decide) ?_
      refine lv_icmp_ge (tgt := 69) hx hb dX0_spread_10 (by decide) (fun c10 => ?_) (fun c10 => ?_)
      · have c10 : 16 ≤ k := (nI_leI (a := 16) (b := k) (by omega) (by omega)).mp c10
        refine lv_aload_n hx hb dX0_spread_69 rfl (lv_at hl 0 rfl) ?_
        refine S_get hC hK hP (oS_main _ _ _ _ _) clX0 in_X0 0 (by decide) (fD0 _ _ _ _) q291 dX0_spread_70 ?_
        refine S_getN (v := .int (u.1 24)) hC hK hP (oS_plan _ _ _ _ _) clX1 in_X1 4 (by decide) (fD24 _ _ _ _) nq161 dX0_spread_73 ?_
        refine lv_if_ne (tgt := 83) hx hb dX0_spread_76 (by decide) (fun c76 => ?_) (fun c76 => ?_)
        · refine lv_iload_n hx hb dX0_spread_83 rfl (lv_at hl 1 rfl) ?_
          refine lv_iload_n hx hb dX0_spread_84 rfl (lv_at hl 2 rfl) ?_
          refine lv_isub hx hb dX0_spread_85 ?_
          exact hq _ _ _ dX0_spread_86 (by have hfin : k = 16 := (by omega); subst hfin; (clear hq hK hts hC hx hb ho hRm hl hP ih7); grind [spreadI])
        · refine lv_iconst (v := 0) hx hb dX0_spread_79 (by decide) ?_
          refine lv_goto (tgt := 86) hx hb dX0_spread_80 (by decide) ?_
          exact hq _ _ _ dX0_spread_86 (by have hfin : k = 16 := (by omega); subst hfin; (clear hq hK hts hC hx hb ho hRm hl hP ih7); grind [spreadI])
      · have c10 : ¬ (16 ≤ k) := mt (nI_leI (a := 16) (b := k) (by omega) (by omega)).mpr c10
        refine lv_aload_n hx hb dX0_spread_13 rfl (lv_at hl 0 rfl) ?_
        refine S_get hC hK hP (oS_main _ _ _ _ _) clX0 in_X0 0 (by decide) (fD0 _ _ _ _) q291 dX0_spread_14 ?_
        refine lv_iload_n hx hb dX0_spread_17 rfl (lv_at hl 3 rfl) ?_
        refine CIs.go (rcV hC hl (c_X1_isHouse_plan G l o R tx u (nI k) ) hK hP (va_recv hK.1 hP clX1 (oS_plan _ _ _ _ _)) q369 q370 q371 q111 q372 mdX1_isHouse (room_s hRm rfl) rfl rfl dX0_spread_18) ?_
        refine lv_if_eq (tgt := 36) hx hb dX0_spread_21 (by decide) (fun c21 => ?_) (fun c21 => ?_)
        · have c21 : (isHouseB (u.1 24) (nI k)) = false := bI_0.mp c21
          refine lv_iload_n hx hb dX0_spread_36 rfl (lv_at hl 1 rfl) ?_
          refine lv_istore_n (lv' := [(1, .int mo), (0, .ref o), (2, .int fe), (3, .int (nI k))]) hx hb dX0_spread_37 rfl hl (by decide) rfl (fun ls hl => ?_)
          refine lv_aload_n hx hb dX0_spread_38 rfl (lv_at hl 1 rfl) ?_
          refine S_get hC hK hP (oS_main _ _ _ _ _) clX0 in_X0 0 (by decide) (fD0 _ _ _ _) q291 dX0_spread_39 ?_
          refine lv_iload_n hx hb dX0_spread_42 rfl (lv_at hl 3 rfl) ?_
          refine CIs.go (rcV hC hl (c_X1_isHouse_plan G l o R tx u (nI k) ) hK hP (va_recv hK.1 hP clX1 (oS_plan _ _ _ _ _)) q369 q370 q371 q111 q372 mdX1_isHouse (room_s hRm rfl) rfl rfl dX0_spread_43) ?_
          refine lv_if_eq (tgt := 61) hx hb dX0_spread_46 (by decide) (fun c46 => ?_) (fun c46 => ?_)
          · have c46 : (isHouseB (u.1 24) (nI k)) = false := bI_0.mp c46
            refine lv_iload_n hx hb dX0_spread_61 rfl (lv_at hl 2 rfl) ?_
            refine lv_istore_n (lv' := [(2, .int fe), (1, .int mo), (0, .ref o), (3, .int (nI k))]) hx hb dX0_spread_62 rfl hl (by decide) rfl (fun ls hl => ?_)
            refine lv_iinc (v := (nI (k + 1))) (lv' := [(3, .int (nI (k + 1))), (2, .int fe), (1, .int mo), (0, .ref o)]) hx hb dX0_spread_63 hl (k := 3) rfl (nI_inc k) (by decide) rfl (fun ls hl => ?_)
            refine lv_goto (tgt := 7) hx hb dX0_spread_66 (by decide) ?_
            exact ih7 (k + 1) mo fe ls (by omega) (by first | omega | assumption | rfl | (simp_all; done) | grind) (by (clear hq hK hts hC hx hb ho hRm hl hP ih7); grind [mostT]) (by (clear hq hK hts hC hx hb ho hRm hl hP ih7); grind [fewT])  (lv_sub hl [3, 2, 1, 0] rfl)
          · have c46 : (isHouseB (u.1 24) (nI k)) = true := bI_1.mp c46
            refine lv_iload_n hx hb dX0_spread_49 rfl (lv_at hl 2 rfl) ?_
            refine lv_aload_n hx hb dX0_spread_50 rfl (lv_at hl 1 rfl) ?_
            refine lv_iload_n hx hb dX0_spread_51 rfl (lv_at hl 3 rfl) ?_
            refine CIs.go (rcV hC hl (c_X0_turnsOf G l o R tx u (nI k) ) hK hP (va_recv hK.1 hP clX0 (oS_main _ _ _ _ _)) q1005 q1007 qs28 q110 q1008 mdX0_turnsOf (room_s hRm rfl) rfl rfl dX0_spread_52) ?_
            refine S_min hC hl q977 q468 q120 q469 (room_m hRm rfl) rfl dX0_spread_55 ?_
            refine lv_goto (tgt := 62) hx hb dX0_spread_58 (by decide) ?_
            refine lv_istore_n (lv' := [(2, .int (mnI fe (turnsS (u.2.1 1) (nI k) 12))), (1, .int mo), (0, .ref o), (3, .int (nI k))]) hx hb dX0_spread_62 rfl hl (by decide) rfl (fun ls hl => ?_)
            refine lv_iinc (v := (nI (k + 1))) (lv' := [(3, .int (nI (k + 1))), (2, .int (mnI fe (turnsS (u.2.1 1) (nI k) 12))), (1, .int mo), (0, .ref o)]) hx hb dX0_spread_63 hl (k := 3) rfl (nI_inc k) (by decide) rfl (fun ls hl => ?_)
            refine lv_goto (tgt := 7) hx hb dX0_spread_66 (by decide) ?_
            exact ih7 (k + 1) mo (mnI fe (turnsS (u.2.1 1) (nI k) 12)) ls (by omega) (by first | omega | assumption | rfl | (simp_all; done) | grind) (by (clear hq hK hts hC hx hb ho hRm hl hP ih7); grind [mostT]) (by (clear hq hK hts hC hx hb ho hRm hl hP ih7); grind [fewT])  (lv_sub hl [3, 2, 1, 0] rfl)
        · have c21 : (isHouseB (u.1 24) (nI k)) = true := bI_1.mp c21
          refine lv_iload_n hx hb dX0_spread_24 rfl (lv_at hl 1 rfl) ?_
          refine lv_aload_n hx hb dX0_spread_25 rfl (lv_at hl 0 rfl) ?_
          refine lv_iload_n hx hb dX0_spread_26 rfl (lv_at hl 3 rfl) ?_
          refine CIs.go (rcV hC hl (c_X0_turnsOf G l o R tx u (nI k) ) hK hP (va_recv hK.1 hP clX0 (oS_main _ _ _ _ _)) q1005 q1007 qs28 q110 q1008 mdX0_turnsOf (room_s hRm rfl) rfl rfl dX0_spread_27) ?_
          refine S_max hC hl q978 q465 q120 q466 (room_m hRm rfl) rfl dX0_spread_30 ?_
          refine lv_goto (tgt := 37) hx hb dX0_spread_33 (by decide) ?_
          refine lv_istore_n (lv' := [(1, .int (mxI mo (turnsS (u.2.1 1) (nI k) 12))), (0, .ref o), (2, .int fe), (3, .int (nI k))]) hx hb dX0_spread_37 rfl hl (by decide) rfl (fun ls hl => ?_)
          refine lv_aload_n hx hb dX0_spread_38 rfl (lv_at hl 1 rfl) ?_
          refine S_get hC hK hP (oS_main _ _ _ _ _) clX0 in_X0 0 (by decide) (fD0 _ _ _ _) q291 dX0_spread_39 ?_
          refine lv_iload_n hx hb dX0_spread_42 rfl (lv_at hl 3 rfl) ?_
          refine CIs.go (rcV hC hl (c_X1_isHouse_plan G l o R tx u (nI k) ) hK hP (va_recv hK.1 hP clX1 (oS_plan _ _ _ _ _)) q369 q370 q371 q111 q372 mdX1_isHouse (room_s hRm rfl) rfl rfl dX0_spread_43) ?_
          refine lv_if_eq (tgt := 61) hx hb dX0_spread_46 (by decide) (fun c46 => ?_) (fun c46 => ?_)
          · have c46 : (isHouseB (u.1 24) (nI k)) = false := bI_0.mp c46
            refine lv_iload_n hx hb dX0_spread_61 rfl (lv_at hl 2 rfl) ?_
            refine lv_istore_n (lv' := [(2, .int fe), (1, .int (mxI mo (turnsS (u.2.1 1) (nI k) 12))), (0, .ref o), (3, .int (nI k))]) hx hb dX0_spread_62 rfl hl (by decide) rfl (fun ls hl => ?_)
            refine lv_iinc (v := (nI (k + 1))) (lv' := [(3, .int (nI (k + 1))), (2, .int fe), (1, .int (mxI mo (turnsS (u.2.1 1) (nI k) 12))), (0, .ref o)]) hx hb dX0_spread_63 hl (k := 3) rfl (nI_inc k) (by decide) rfl (fun ls hl => ?_)
            refine lv_goto (tgt := 7) hx hb dX0_spread_66 (by decide) ?_
            exact ih7 (k + 1) (mxI mo (turnsS (u.2.1 1) (nI k) 12)) fe ls (by omega) (by first | omega | assumption | rfl | (simp_all; done) | grind) (by (clear hq hK hts hC hx hb ho hRm hl hP ih7); grind [mostT]) (by (clear hq hK hts hC hx hb ho hRm hl hP ih7); grind [fewT])  (lv_sub hl [3, 2, 1, 0] rfl)
          · have c46 : (isHouseB (u.1 24) (nI k)) = true := bI_1.mp c46
            refine lv_iload_n hx hb dX0_spread_49 rfl (lv_at hl 2 rfl) ?_
            refine lv_aload_n hx hb dX0_spread_50 rfl (lv_at hl 1 rfl) ?_
            refine lv_iload_n hx hb dX0_spread_51 rfl (lv_at hl 3 rfl) ?_
            refine CIs.go (rcV hC hl (c_X0_turnsOf G l o R tx u (nI k) ) hK hP (va_recv hK.1 hP clX0 (oS_main _ _ _ _ _)) q1005 q1007 qs28 q110 q1008 mdX0_turnsOf (room_s hRm rfl) rfl rfl dX0_spread_52) ?_
            refine S_min hC hl q977 q468 q120 q469 (room_m hRm rfl) rfl dX0_spread_55 ?_
            refine lv_goto (tgt := 62) hx hb dX0_spread_58 (by decide) ?_
            refine lv_istore_n (lv' := [(2, .int (mnI fe (turnsS (u.2.1 1) (nI k) 12))), (1, .int (mxI mo (turnsS (u.2.1 1) (nI k) 12))), (0, .ref o), (3, .int (nI k))]) hx hb dX0_spread_62 rfl hl (by decide) rfl (fun ls hl => ?_)
            refine lv_iinc (v := (nI (k + 1))) (lv' := [(3, .int (nI (k + 1))), (2, .int (mnI fe (turnsS (u.2.1 1) (nI k) 12))), (1, .int (mxI mo (turnsS (u.2.1 1) (nI k) 12))), (0, .ref o)]) hx hb dX0_spread_63 hl (k := 3) rfl (nI_inc k) (by decide) rfl (fun ls hl => ?_)
            refine lv_goto (tgt := 7) hx hb dX0_spread_66 (by decide) ?_
            exact ih7 (k + 1) (mxI mo (turnsS (u.2.1 1) (nI k) 12)) (mnI fe (turnsS (u.2.1 1) (nI k) 12)) ls (by omega) (by first | omega | assumption | rfl | (simp_all; done) | grind) (by (clear hq hK hts hC hx hb ho hRm hl hP ih7); grind [mostT]) (by (clear hq hK hts hC hx hb ho hRm hl hP ih7); grind [fewT])  (lv_sub hl [3, 2, 1, 0] rfl)
  exact LP7 _ 0 0 12 ls (Nat.lt_succ_self _) (by first | omega | assumption | rfl | (simp_all; done) | grind) (rfl) (rfl)  (lv_sub hl [3, 2, 1, 0] rfl)
set_option maxHeartbeats 4000000 in
theorem c_X0_readers (G : GG) (l : Launch) (o : Nat) (R : Nat → Nat) (tx : Nat) (u : MS) (t : Int32) (n : Int32) (hw : WOK (u.2.1 1)) (hsd : PB (u.2.1 21)) (hfc : PB (u.2.1 20)) : CIs G l yX0_readers cX0_readers 6 .int 5 95 [.ref o, .int t, .int n] (PwS G o R tx u) (readersI (u.2.1 1) (snS (u.1 25) (u.2.1 21) (u.2.1 22) (u.2.1 23) (u.2.1 20)) t n) := by
  refine CIs.mk RX0 pnX0 rfl (rfl) (Nat.le_of_ble_eq_true rfl) (fun pg en Rm sg mm ar bw mth cd QQ ls hC hRm hK hX hl hq => ?_)
  have hx := hC.1; have hb := hC.2.1; have ho := hC.2.2.2.1; have hts := hC.2.2.2.2
  have hP : PwS G o R tx u sg.heap := hX
  have hl : lv_has ls 6 [(0, .ref o), (1, .int t), (2, .int n)] := hl
  refine lv_iload_n hx hb dX0_readers_0 rfl (lv_at hl 1 rfl) ?_
  refine CIs.go (rcS hC hl (c_X0_isTurn G l t ) hK trivial q363 q364 q110 q365 mdX0_isTurn (room_s hRm rfl) rfl rfl dX0_readers_1) ?_
  refine lv_if_eq (tgt := 17) hx hb dX0_readers_4 (by decide) (fun c4 => ?_) (fun c4 => ?_)
  · have c4 : (isTurnB t) = false := bI_0.mp c4
    refine lv_iconst (v := (-1)) hx hb dX0_readers_17 (by decide) ?_
    exact hq _ _ _ dX0_readers_18 (by (clear hq hK hts hC hx hb ho hRm hl hP); grind [readersI])
  · have c4 : (isTurnB t) = true := bI_1.mp c4
    obtain ⟨j, hj, rfl, hjx⟩ := isTurnB_nI c4
    have hl : lv_has ls 6 [(0, .ref o), (1, .int (nI j)), (2, .int n)] := hl
    refine lv_iload_n hx hb dX0_readers_7 rfl (lv_at hl 2 rfl) ?_
    refine lv_iconst (v := 0) hx hb dX0_readers_8 (by decide) ?_
    refine lv_bipush (v := 12) hx hb dX0_readers_9 (by decide) ?_
    refine CIs.go (rcS hC hl (c_X0_within G l n 0 12 ) hK trivial q385 q386 q110 q387 mdX0_within (room_s hRm rfl) rfl rfl dX0_readers_11) ?_
    refine lv_if_ne (tgt := 19) hx hb dX0_readers_14 (by decide) (fun c14 => ?_) (fun c14 => ?_)
    · have c14 : (inB n 0 12) = true := bI_1.mp c14
      obtain ⟨nj, hnj, rfl⟩ := inB_nI 12 (by decide) c14
      have hl : lv_has ls 6 [(0, .ref o), (1, .int (nI j)), (2, .int (nI nj))] := hl
      refine lv_iconst (v := 0) hx hb dX0_readers_19 (by decide) ?_
      refine lv_istore_n (lv' := [(3, .int 0), (0, .ref o), (1, .int (nI j)), (2, .int (nI nj))]) hx hb dX0_readers_20 rfl hl (by decide) rfl (fun ls hl => ?_)
      refine lv_iconst (v := 1) hx hb dX0_readers_21 (by decide) ?_
      refine lv_istore (lv' := [(4, .int 1), (3, .int 0), (0, .ref o), (1, .int (nI j)), (2, .int (nI nj))]) hx hb dX0_readers_22 hl (by decide) rfl (fun ls hl => ?_)
      have LP24 : ∀ (fu24 : Nat) (k : Nat) (set : Int32) (ls : Array Slot), nj + 1 - k < fu24 → k ≤ nj + 1 → 1 ≤ k → rdI (u.2.1 1) (snS (u.1 25) (u.2.1 21) (u.2.1 22) (u.2.1 23) (u.2.1 20)) j nj = rdS (u.2.1 1) (snS (u.1 25) (u.2.1 21) (u.2.1 22) (u.2.1 23) (u.2.1 20)) j (nj + 1 - k) k set → lv_has ls 6 [(0, .ref o), (1, .int (nI j)), (2, .int (nI nj)), (3, .int set), (4, .int (nI k))] → W pg l en Rm sg mm ar bw mth cd sg.heap [] 0 0 QQ (F0 mm 24 ls []) := by
        intro fu24
        induction fu24 with
        | zero => intro k set ls hm24 hk h1 hs hl; exact absurd hm24 (Nat.not_lt_zero _)
        | succ fu24 ih24 =>
          intro k set ls hm24 hk h1 hs hl
          refine lv_iload hx hb dX0_readers_24 (lv_at hl 4 rfl) ?_
          refine lv_iload_n hx hb dX0_readers_26 rfl (lv_at hl 2 rfl) ?_
          refine lv_icmp_gt (tgt := 92) hx hb dX0_readers_27 (by decide) (fun c27 => ?_) (fun c27 => ?_)
          · have c27 : nj < k := (nI_ltI (a := nj) (b := k) (by omega) (by omega)).mp c27
            refine lv_iload_n hx hb dX0_readers_92 rfl (lv_at hl 3 rfl) ?_
            exact hq _ _ _ dX0_readers_93 (by rw [readersI, if_pos ⟨c4, c14⟩, hjx, ixn (by omega), hs, show nj + 1 - k = 0 by omega]; rfl)
          · have c27 : ¬ (nj < k) := mt (nI_ltI (a := nj) (b := k) (by omega) (by omega)).mpr c27
            refine lv_iload_n hx hb dX0_readers_30 rfl (lv_at hl 1 rfl) ?_
            refine lv_iload hx hb dX0_readers_31 (lv_at hl 4 rfl) ?_
            refine lv_iadd hx hb dX0_readers_33 ?_
            refine W_top (nI_add j k) ?_
            refine lv_bipush (v := 12) hx hb dX0_readers_34 (by decide) ?_
            refine lv_irem hx hb dX0_readers_36 (by decide) ?_
            refine W_top (pk_rem (a := (j + k)) (d := 12) (by omega) (by omega) (by omega)) ?_
            refine lv_istore (lv' := [(5, .int (nI ((j + k) % 12))), (0, .ref o), (1, .int (nI j)), (2, .int (nI nj)), (3, .int set), (4, .int (nI k))]) hx hb dX0_readers_37 hl (by decide) rfl (fun ls hl => ?_)
            refine lv_aload_n hx hb dX0_readers_39 rfl (lv_at hl 1 rfl) ?_
            refine S_get hC hK hP (oS_main _ _ _ _ _) clX0 in_X0 1 (by decide) (fD1 _ _ _ _) q293 dX0_readers_40 ?_
            refine lv_iload hx hb dX0_readers_43 (lv_at hl 0 rfl) ?_
            refine S_ald hC hK hP (aS1 _ _ _ _ _) (j := ((j + k) % 12)) (by decide) (rfl) (by omega) dX0_readers_45 ?_
            refine lv_iconst (v := (-1)) hx hb dX0_readers_46 (by decide) ?_
            refine lv_icmp_ne (tgt := 53) hx hb dX0_readers_47 (by decide) (fun c47 => ?_) (fun c47 => ?_)
            · refine lv_iload_n hx hb dX0_readers_53 rfl (lv_at hl 4 rfl) ?_
              refine lv_iconst (v := 1) hx hb dX0_readers_54 (by decide) ?_
              refine lv_aload_n hx hb dX0_readers_55 rfl (lv_at hl 1 rfl) ?_
              refine S_get hC hK hP (oS_main _ _ _ _ _) clX0 in_X0 1 (by decide) (fD1 _ _ _ _) q293 dX0_readers_56 ?_
              refine lv_iload hx hb dX0_readers_59 (lv_at hl 0 rfl) ?_
              refine S_ald hC hK hP (aS1 _ _ _ _ _) (j := ((j + k) % 12)) (by decide) (rfl) (by omega) dX0_readers_61 ?_
              refine W_top (y := (nI (ix ((u.2.1 1) ((j + k) % 12))))) ((hw.ix (t := ((j + k) % 12)) (by omega) (by assumption)).1) ?_
              refine lv_ishl hx hb dX0_readers_62 ?_
              refine lv_ior hx hb dX0_readers_63 ?_
              refine lv_istore_n (lv' := [(3, .int (set ||| (1 <<< ((nI (ix ((u.2.1 1) ((j + k) % 12)))) &&& 31)))), (5, .int (nI ((j + k) % 12))), (0, .ref o), (1, .int (nI j)), (2, .int (nI nj)), (4, .int (nI k))]) hx hb dX0_readers_64 rfl hl (by decide) rfl (fun ls hl => ?_)
              refine lv_aload_n hx hb dX0_readers_65 rfl (lv_at hl 2 rfl) ?_
              refine S_get hC hK hP (oS_main _ _ _ _ _) clX0 in_X0 0 (by decide) (fD0 _ _ _ _) q291 dX0_readers_66 ?_
              refine lv_aload_n hx hb dX0_readers_69 rfl (lv_at hl 2 rfl) ?_
              refine S_get hC hK hP (oS_main _ _ _ _ _) clX0 in_X0 1 (by decide) (fD1 _ _ _ _) q293 dX0_readers_70 ?_
              refine lv_iload hx hb dX0_readers_73 (lv_at hl 1 rfl) ?_
              refine S_ald hC hK hP (aS1 _ _ _ _ _) (j := ((j + k) % 12)) (by decide) (rfl) (by omega) dX0_readers_75 ?_
              refine W_top (y := (nI (ix ((u.2.1 1) ((j + k) % 12))))) ((hw.ix (t := ((j + k) % 12)) (by omega) (by assumption)).1) ?_
              refine lv_iload hx hb dX0_readers_76 (lv_at hl 1 rfl) ?_
              refine CIs.go (rcV hC hl (c_X1_seen_plan G l o R tx u (ix ((u.2.1 1) ((j + k) % 12))) (nI ((j + k) % 12)) ((hw.ix (t := ((j + k) % 12)) (by omega) (by assumption)).2) (by first | assumption | omega | rfl | (simp_all; done)) (by first | assumption | omega | rfl | (simp_all; done))) hK hP (va_recv hK.1 hP clX1 (oS_plan _ _ _ _ _)) q1000 q894 q895 q111 q896 mdX1_seen (room_s hRm rfl) rfl rfl dX0_readers_78) ?_
              refine lv_if_ne (tgt := 86) hx hb dX0_readers_81 (by decide) (fun c81 => ?_) (fun c81 => ?_)
              · refine lv_iinc (v := (nI (k + 1))) (lv' := [(4, .int (nI (k + 1))), (3, .int (set ||| (1 <<< ((nI (ix ((u.2.1 1) ((j + k) % 12)))) &&& 31)))), (5, .int (nI ((j + k) % 12))), (0, .ref o), (1, .int (nI j)), (2, .int (nI nj))]) hx hb dX0_readers_86 hl (k := 5) rfl (nI_inc k) (by decide) rfl (fun ls hl => ?_)
                refine lv_goto (tgt := 24) hx hb dX0_readers_89 (by decide) ?_
                exact ih24 (k + 1) (set ||| (1 <<< ((nI (ix ((u.2.1 1) ((j + k) % 12)))) &&& 31))) ls (by omega) (by first | omega | assumption | rfl | (simp_all; done) | grind) (by first | omega | assumption | rfl | (simp_all; done) | grind) (by rw [hs, rdS_s (by omega)]; (clear hq hK hts hC hx hb ho hRm hl hP ih24); grind [bitI, snS])  (lv_sub hl [3, 4, 5, 1, 0] rfl)
              · refine lv_iload_n hx hb dX0_readers_84 rfl (lv_at hl 0 rfl) ?_
                exact hq _ _ _ dX0_readers_85 (by rw [readersI, if_pos ⟨c4, c14⟩, hjx, ixn (by omega), hs, rdS_s (by omega)]; (clear hq hK hts hC hx hb ho hRm hl hP ih24); grind [bitI, snS])
            · refine lv_goto (tgt := 86) hx hb dX0_readers_50 (by decide) ?_
              refine lv_iinc (v := (nI (k + 1))) (lv' := [(4, .int (nI (k + 1))), (5, .int (nI ((j + k) % 12))), (0, .ref o), (1, .int (nI j)), (2, .int (nI nj)), (3, .int set)]) hx hb dX0_readers_86 hl (k := 5) rfl (nI_inc k) (by decide) rfl (fun ls hl => ?_)
              refine lv_goto (tgt := 24) hx hb dX0_readers_89 (by decide) ?_
              exact ih24 (k + 1) set ls (by omega) (by first | omega | assumption | rfl | (simp_all; done) | grind) (by first | omega | assumption | rfl | (simp_all; done) | grind) (by rw [hs, rdS_s (by omega)]; (clear hq hK hts hC hx hb ho hRm hl hP ih24); grind [bitI, snS])  (lv_sub hl [2, 3, 4, 5, 0] rfl)
      exact LP24 _ 1 0 ls (Nat.lt_succ_self _) (by first | omega | assumption | rfl | (simp_all; done) | grind) (by first | omega | assumption | rfl | (simp_all; done) | grind) (rfl)  (lv_sub hl [2, 3, 4, 1, 0] rfl)
    · have c14 : (inB n 0 12) = false := bI_0.mp c14
      refine lv_iconst (v := (-1)) hx hb dX0_readers_17 (by decide) ?_
      exact hq _ _ _ dX0_readers_18 (by (clear hq hK hts hC hx hb ho hRm hl hP); grind [readersI])
set_option maxHeartbeats 4000000 in
theorem c_X0_othersReading (G : GG) (l : Launch) (o : Nat) (R : Nat → Nat) (tx : Nat) (u : MS) (j : Nat) (t : Nat) (hw : WOK (u.2.1 1)) (ht : t < 12) (hsd : PB (u.2.1 21)) (hfc : PB (u.2.1 20)) : CIs G l yX0_othersReading cX0_othersReading 3 .int 6 120 [.ref o, .int (nI j), .int (nI t)] (PwS G o R tx u) (othI (u.2.1 1) (snS (u.1 25) (u.2.1 21) (u.2.1 22) (u.2.1 23) (u.2.1 20)) j t) := by
  refine CIs.mk RX0 pnX0 rfl (rfl) (Nat.le_of_ble_eq_true rfl) (fun pg en Rm sg mm ar bw mth cd QQ ls hC hRm hK hX hl hq => ?_)
  have hx := hC.1; have hb := hC.2.1; have ho := hC.2.2.2.1; have hts := hC.2.2.2.2
  have hP : PwS G o R tx u sg.heap := hX
  have hl : lv_has ls 3 [(0, .ref o), (1, .int (nI j)), (2, .int (nI t))] := hl
  refine lv_aload_n hx hb dX0_othersReading_0 rfl (lv_at hl 0 rfl) ?_
  refine lv_iload_n hx hb dX0_othersReading_1 rfl (lv_at hl 2 rfl) ?_
  refine lv_bipush (v := 12) hx hb dX0_othersReading_2 (by decide) ?_
  refine CIs.go (rcV hC hl (c_X0_readers G l o R tx u (nI t) 12 (by first | assumption | omega | rfl | (simp_all; done)) (by first | assumption | omega | rfl | (simp_all; done)) (by first | assumption | omega | rfl | (simp_all; done))) hK hP (va_recv hK.1 hP clX0 (oS_main _ _ _ _ _)) q1067 q1068 q1069 q110 q1070 mdX0_readers (room_s hRm rfl) rfl rfl dX0_othersReading_4) ?_
  refine W_top (y := (rdI (u.2.1 1) (snS (u.1 25) (u.2.1 21) (u.2.1 22) (u.2.1 23) (u.2.1 20)) t 12)) (readersI_t ht) ?_
  refine lv_iconst (v := 1) hx hb dX0_othersReading_7 (by decide) ?_
  refine lv_iload_n hx hb dX0_othersReading_8 rfl (lv_at hl 1 rfl) ?_
  refine lv_ishl hx hb dX0_othersReading_9 ?_
  refine lv_iconst (v := (-1)) hx hb dX0_othersReading_10 (by decide) ?_
  refine lv_ixor hx hb dX0_othersReading_11 ?_
  refine lv_iand hx hb dX0_othersReading_12 ?_
  refine CIs.go (rcS hC hl (c_J6_bitCount G l ((rdI (u.2.1 1) (snS (u.1 25) (u.2.1 21) (u.2.1 22) (u.2.1 23) (u.2.1 20)) t 12) &&& ((1 <<< ((nI j) &&& 31)) ^^^ (-1))) (sB_and _ (sB_rd hw _ _ _ sB_0))) hK trivial q1071 q906 q135 q907 mdJ6_bitCount (room_s hRm rfl) rfl rfl dX0_othersReading_13) ?_
  exact hq _ _ _ dX0_othersReading_16 (by rfl)
set_option maxHeartbeats 4000000 in
theorem c_X0_bestBreath (G : GG) (l : Launch) (o : Nat) (R : Nat → Nat) (tx : Nat) (u : MS) (h : Int32) (k0 : Int32) (hw : WOK (u.2.1 1)) (hsd : PB (u.2.1 21)) (hfc : PB (u.2.1 20)) : CIs G l yX0_bestBreath cX0_bestBreath 5 .int 7 142 [.ref o, .int h, .int k0] (PwS G o R tx u) (bbI (u.1 24) (u.2.1 1) (snS (u.1 25) (u.2.1 21) (u.2.1 22) (u.2.1 23) (u.2.1 20)) h k0) := by
  refine CIs.mk RX0 pnX0 rfl (rfl) (Nat.le_of_ble_eq_true rfl) (fun pg en Rm sg mm ar bw mth cd QQ ls hC hRm hK hX hl hq => ?_)
  have hx := hC.1; have hb := hC.2.1; have ho := hC.2.2.2.1; have hts := hC.2.2.2.2
  have hP : PwS G o R tx u sg.heap := hX
  have hl : lv_has ls 5 [(0, .ref o), (1, .int h), (2, .int k0)] := hl
  refine lv_aload_n hx hb dX0_bestBreath_0 rfl (lv_at hl 0 rfl) ?_
  refine S_get hC hK hP (oS_main _ _ _ _ _) clX0 in_X0 0 (by decide) (fD0 _ _ _ _) q291 dX0_bestBreath_1 ?_
  refine lv_iload_n hx hb dX0_bestBreath_4 rfl (lv_at hl 1 rfl) ?_
  refine CIs.go (rcV hC hl (c_X1_isHouse_plan G l o R tx u h ) hK hP (va_recv hK.1 hP clX1 (oS_plan _ _ _ _ _)) q369 q370 q371 q111 q372 mdX1_isHouse (room_s hRm rfl) rfl rfl dX0_bestBreath_5) ?_
  refine lv_if_eq (tgt := 19) hx hb dX0_bestBreath_8 (by decide) (fun c8 => ?_) (fun c8 => ?_)
  · have c8 : (isHouseB (u.1 24) h) = false := bI_0.mp c8
    refine lv_iconst (v := (-1)) hx hb dX0_bestBreath_19 (by decide) ?_
    exact hq _ _ _ dX0_bestBreath_20 (by (clear hq hK hts hC hx hb ho hRm hl hP); grind [bbI])
  · have c8 : (isHouseB (u.1 24) h) = true := bI_1.mp c8
    obtain ⟨j, hj, rfl, hjx⟩ := isHouseB_nI c8
    have hl : lv_has ls 5 [(0, .ref o), (1, .int (nI j)), (2, .int k0)] := hl
    refine lv_iload_n hx hb dX0_bestBreath_11 rfl (lv_at hl 2 rfl) ?_
    refine lv_iconst (v := 2) hx hb dX0_bestBreath_12 (by decide) ?_
    refine CIs.go (rcS hC hl (c_X0_in G l k0 2 1 (by decide)) hK trivial q366 q367 q110 q368 mdX0_in (room_s hRm rfl) rfl rfl dX0_bestBreath_13) ?_
    refine lv_if_ne (tgt := 21) hx hb dX0_bestBreath_16 (by decide) (fun c16 => ?_) (fun c16 => ?_)
    · have c16 : (inB k0 0 1) = true := bI_1.mp c16
      refine lv_bipush (v := (-2)) hx hb dX0_bestBreath_21 (by decide) ?_
      refine lv_istore_n (lv' := [(3, .int (-2)), (0, .ref o), (1, .int (nI j)), (2, .int k0)]) hx hb dX0_bestBreath_23 rfl hl (by decide) rfl (fun ls hl => ?_)
      refine lv_iconst (v := 0) hx hb dX0_bestBreath_24 (by decide) ?_
      refine lv_istore (lv' := [(4, .int 0), (3, .int (-2)), (0, .ref o), (1, .int (nI j)), (2, .int k0)]) hx hb dX0_bestBreath_25 hl (by decide) rfl (fun ls hl => ?_)
      have LP27 : ∀ (fu27 : Nat) (k : Nat) (be : Int32) (ls : Array Slot), 12 - k < fu27 → k ≤ 12 → be = obI (bbS (u.2.1 1) (snS (u.1 25) (u.2.1 21) (u.2.1 22) (u.2.1 23) (u.2.1 20)) j k) → lv_has ls 5 [(0, .ref o), (1, .int (nI j)), (2, .int k0), (3, .int be), (4, .int (nI k))] → W pg l en Rm sg mm ar bw mth cd sg.heap [] 0 0 QQ (F0 mm 27 ls []) := by
        intro fu27
        induction fu27 with
        | zero => intro k be ls hm27 hk hbe hl; exact absurd hm27 (Nat.not_lt_zero _)
        | succ fu27 ih27 =>
          intro k be ls hm27 hk hbe hl
          refine lv_iload hx hb dX0_bestBreath_27 (lv_at hl 4 rfl) ?_
          refine lv_bipush (v := 12) hx hb dX0_bestBreath_29 (by decide) ?_
          refine lv_icmp_ge (tgt := 76) hx hb dX0_bestBreath_31 (by decide) (fun c31 => ?_) (fun c31 => ?_)
          · have c31 : 12 ≤ k := (nI_leI (a := 12) (b := k) (by omega) (by omega)).mp c31
            rcases hbb : (bbS (u.2.1 1) (snS (u.1 25) (u.2.1 21) (u.2.1 22) (u.2.1 23) (u.2.1 20)) j k) with _ | b
            · have hbe : be = -2 := by rw [hbe, hbb]; rfl
              subst hbe
              have hl : lv_has ls 5 [(0, .ref o), (1, .int (nI j)), (2, .int k0), (3, .int (-2)), (4, .int (nI k))] := hl
              refine lv_iload_n hx hb dX0_bestBreath_76 rfl (lv_at hl 2 rfl) ?_
              refine lv_if_ne (tgt := 84) hx hb dX0_bestBreath_77 (by decide) (fun c77 => ?_) (fun c77 => ?_)
              · refine lv_iload_n hx hb dX0_bestBreath_84 rfl (lv_at hl 3 rfl) ?_
                refine lv_bipush (v := (-2)) hx hb dX0_bestBreath_85 (by decide) ?_
                refine lv_icmp_ne (tgt := 94) hx hb dX0_bestBreath_87 (by decide) (fun c87 => ?_) (fun c87 => ?_)
                · exact absurd c87 (by decide)
                · refine lv_iconst (v := 0) hx hb dX0_bestBreath_90 (by decide) ?_
                  refine lv_goto (tgt := 100) hx hb dX0_bestBreath_91 (by decide) ?_
                  exact hq _ _ _ dX0_bestBreath_100 (by have hfin : k = 12 := (by omega); subst hfin; (clear hq hK hts hC hx hb ho hRm hl hP ih27); grind [bbI, obI])
              · refine lv_iload_n hx hb dX0_bestBreath_80 rfl (lv_at hl 3 rfl) ?_
                refine lv_goto (tgt := 100) hx hb dX0_bestBreath_81 (by decide) ?_
                exact hq _ _ _ dX0_bestBreath_100 (by have hfin : k = 12 := (by omega); subst hfin; (clear hq hK hts hC hx hb ho hRm hl hP ih27); grind [bbI, obI])
            · have hbe : be = nI b := by rw [hbe, hbb]; rfl
              subst hbe
              have hblt := bbS_lt hbb
              have hl : lv_has ls 5 [(0, .ref o), (1, .int (nI j)), (2, .int k0), (3, .int (nI b)), (4, .int (nI k))] := hl
              refine lv_iload_n hx hb dX0_bestBreath_76 rfl (lv_at hl 2 rfl) ?_
              refine lv_if_ne (tgt := 84) hx hb dX0_bestBreath_77 (by decide) (fun c77 => ?_) (fun c77 => ?_)
              · refine lv_iload_n hx hb dX0_bestBreath_84 rfl (lv_at hl 3 rfl) ?_
                refine lv_bipush (v := (-2)) hx hb dX0_bestBreath_85 (by decide) ?_
                refine lv_icmp_ne (tgt := 94) hx hb dX0_bestBreath_87 (by decide) (fun c87 => ?_) (fun c87 => ?_)
                · refine lv_aload_n hx hb dX0_bestBreath_94 rfl (lv_at hl 0 rfl) ?_
                  refine lv_iload_n hx hb dX0_bestBreath_95 rfl (lv_at hl 1 rfl) ?_
                  refine lv_iload_n hx hb dX0_bestBreath_96 rfl (lv_at hl 3 rfl) ?_
                  refine CIs.go (rcV hC hl (c_X0_othersReading G l o R tx u j b (by first | assumption | omega | rfl | (simp_all; done)) (by first | assumption | omega | rfl | (simp_all; done)) (by first | assumption | omega | rfl | (simp_all; done)) (by first | assumption | omega | rfl | (simp_all; done))) hK hP (va_recv hK.1 hP clX0 (oS_main _ _ _ _ _)) q1063 q1065 qs33 q110 q1066 mdX0_othersReading (room_s hRm rfl) rfl rfl dX0_bestBreath_97) ?_
                  exact hq _ _ _ dX0_bestBreath_100 (by have hfin : k = 12 := (by omega); subst hfin; (clear hq hK hts hC hx hb ho hRm hl hP ih27); grind [bbI, obI])
                · exact absurd c87 (nI_neg (by omega) (by decide))
              · refine lv_iload_n hx hb dX0_bestBreath_80 rfl (lv_at hl 3 rfl) ?_
                refine lv_goto (tgt := 100) hx hb dX0_bestBreath_81 (by decide) ?_
                exact hq _ _ _ dX0_bestBreath_100 (by have hfin : k = 12 := (by omega); subst hfin; (clear hq hK hts hC hx hb ho hRm hl hP ih27); grind [bbI, obI])
          · have c31 : ¬ (12 ≤ k) := mt (nI_leI (a := 12) (b := k) (by omega) (by omega)).mpr c31
            refine lv_aload_n hx hb dX0_bestBreath_34 rfl (lv_at hl 0 rfl) ?_
            refine S_get hC hK hP (oS_main _ _ _ _ _) clX0 in_X0 1 (by decide) (fD1 _ _ _ _) q293 dX0_bestBreath_35 ?_
            refine lv_iload hx hb dX0_bestBreath_38 (lv_at hl 4 rfl) ?_
            refine S_ald hC hK hP (aS1 _ _ _ _ _) (j := k) (by decide) (rfl) (by omega) dX0_bestBreath_40 ?_
            refine lv_iload_n hx hb dX0_bestBreath_41 rfl (lv_at hl 1 rfl) ?_
            refine lv_icmp_ne (tgt := 70) hx hb dX0_bestBreath_42 (by decide) (fun c42 => ?_) (fun c42 => ?_)
            · refine lv_iinc (v := (nI (k + 1))) (lv' := [(4, .int (nI (k + 1))), (0, .ref o), (1, .int (nI j)), (2, .int k0), (3, .int be)]) hx hb dX0_bestBreath_70 hl (k := 4) rfl (nI_inc k) (by decide) rfl (fun ls hl => ?_)
              refine lv_goto (tgt := 27) hx hb dX0_bestBreath_73 (by decide) ?_
              exact ih27 (k + 1) be ls (by omega) (by first | omega | assumption | rfl | (simp_all; done) | grind) (by first | (rw [bbS_u c42, ← hbe]; done) | (rw [bbS_n c42 hbb]; rfl) | (rw [bbS_s c42 hbb]; (clear hq hK hts hC hx hb ho hRm hl hP ih27); grind [obI]) | (rw [bbS_u c42, hbb]; rfl))  (lv_sub hl [1, 2, 3, 4, 0] rfl)
            · rcases hbb : (bbS (u.2.1 1) (snS (u.1 25) (u.2.1 21) (u.2.1 22) (u.2.1 23) (u.2.1 20)) j k) with _ | b
              · have hbe : be = -2 := by rw [hbe, hbb]; rfl
                subst hbe
                have hl : lv_has ls 5 [(0, .ref o), (1, .int (nI j)), (2, .int k0), (3, .int (-2)), (4, .int (nI k))] := hl
                refine lv_iload_n hx hb dX0_bestBreath_45 rfl (lv_at hl 3 rfl) ?_
                refine lv_bipush (v := (-2)) hx hb dX0_bestBreath_46 (by decide) ?_
                refine lv_icmp_eq (tgt := 67) hx hb dX0_bestBreath_48 (by decide) (fun c48 => ?_) (fun c48 => ?_)
                · refine lv_iload hx hb dX0_bestBreath_67 (lv_at hl 4 rfl) ?_
                  refine lv_istore_n (lv' := [(3, .int (nI k)), (0, .ref o), (1, .int (nI j)), (2, .int k0), (4, .int (nI k))]) hx hb dX0_bestBreath_69 rfl hl (by decide) rfl (fun ls hl => ?_)
                  refine lv_iinc (v := (nI (k + 1))) (lv' := [(4, .int (nI (k + 1))), (3, .int (nI k)), (0, .ref o), (1, .int (nI j)), (2, .int k0)]) hx hb dX0_bestBreath_70 hl (k := 4) rfl (nI_inc k) (by decide) rfl (fun ls hl => ?_)
                  refine lv_goto (tgt := 27) hx hb dX0_bestBreath_73 (by decide) ?_
                  exact ih27 (k + 1) (nI k) ls (by omega) (by first | omega | assumption | rfl | (simp_all; done) | grind) (by first | (rw [bbS_u c42, ← hbe]; done) | (rw [bbS_n c42 hbb]; rfl) | (rw [bbS_s c42 hbb]; (clear hq hK hts hC hx hb ho hRm hl hP ih27); grind [obI]) | (rw [bbS_u c42, hbb]; rfl))  (lv_sub hl [2, 3, 4, 1, 0] rfl)
                · exact absurd c48 (by decide)
              · have hbe : be = nI b := by rw [hbe, hbb]; rfl
                subst hbe
                have hblt := bbS_lt hbb
                have hl : lv_has ls 5 [(0, .ref o), (1, .int (nI j)), (2, .int k0), (3, .int (nI b)), (4, .int (nI k))] := hl
                refine lv_iload_n hx hb dX0_bestBreath_45 rfl (lv_at hl 3 rfl) ?_
                refine lv_bipush (v := (-2)) hx hb dX0_bestBreath_46 (by decide) ?_
                refine lv_icmp_eq (tgt := 67) hx hb dX0_bestBreath_48 (by decide) (fun c48 => ?_) (fun c48 => ?_)
                · exact absurd c48 (nI_neg (by omega) (by decide))
                · refine lv_aload_n hx hb dX0_bestBreath_51 rfl (lv_at hl 0 rfl) ?_
                  refine lv_iload_n hx hb dX0_bestBreath_52 rfl (lv_at hl 1 rfl) ?_
                  refine lv_iload hx hb dX0_bestBreath_53 (lv_at hl 4 rfl) ?_
                  refine CIs.go (rcV hC hl (c_X0_othersReading G l o R tx u j k (by first | assumption | omega | rfl | (simp_all; done)) (by first | assumption | omega | rfl | (simp_all; done)) (by first | assumption | omega | rfl | (simp_all; done)) (by first | assumption | omega | rfl | (simp_all; done))) hK hP (va_recv hK.1 hP clX0 (oS_main _ _ _ _ _)) q1063 q1065 qs33 q110 q1066 mdX0_othersReading (room_s hRm rfl) rfl rfl dX0_bestBreath_55) ?_
                  refine lv_aload_n hx hb dX0_bestBreath_58 rfl (lv_at hl 0 rfl) ?_
                  refine lv_iload_n hx hb dX0_bestBreath_59 rfl (lv_at hl 1 rfl) ?_
                  refine lv_iload_n hx hb dX0_bestBreath_60 rfl (lv_at hl 3 rfl) ?_
                  refine CIs.go (rcV hC hl (c_X0_othersReading G l o R tx u j b (by first | assumption | omega | rfl | (simp_all; done)) (by first | assumption | omega | rfl | (simp_all; done)) (by first | assumption | omega | rfl | (simp_all; done)) (by first | assumption | omega | rfl | (simp_all; done))) hK hP (va_recv hK.1 hP clX0 (oS_main _ _ _ _ _)) q1063 q1065 qs33 q110 q1066 mdX0_othersReading (room_s hRm rfl) rfl rfl dX0_bestBreath_61) ?_
                  refine lv_icmp_le (tgt := 70) hx hb dX0_bestBreath_64 (by decide) (fun c64 => ?_) (fun c64 => ?_)
                  · refine lv_iinc (v := (nI (k + 1))) (lv' := [(4, .int (nI (k + 1))), (0, .ref o), (1, .int (nI j)), (2, .int k0), (3, .int (nI b))]) hx hb dX0_bestBreath_70 hl (k := 4) rfl (nI_inc k) (by decide) rfl (fun ls hl => ?_)
                    refine lv_goto (tgt := 27) hx hb dX0_bestBreath_73 (by decide) ?_
                    exact ih27 (k + 1) (nI b) ls (by omega) (by first | omega | assumption | rfl | (simp_all; done) | grind) (by first | (rw [bbS_u c42, ← hbe]; done) | (rw [bbS_n c42 hbb]; rfl) | (rw [bbS_s c42 hbb]; (clear hq hK hts hC hx hb ho hRm hl hP ih27); grind [obI]) | (rw [bbS_u c42, hbb]; rfl))  (lv_sub hl [1, 2, 3, 4, 0] rfl)
                  · refine lv_iload hx hb dX0_bestBreath_67 (lv_at hl 4 rfl) ?_
                    refine lv_istore_n (lv' := [(3, .int (nI k)), (0, .ref o), (1, .int (nI j)), (2, .int k0), (4, .int (nI k))]) hx hb dX0_bestBreath_69 rfl hl (by decide) rfl (fun ls hl => ?_)
                    refine lv_iinc (v := (nI (k + 1))) (lv' := [(4, .int (nI (k + 1))), (3, .int (nI k)), (0, .ref o), (1, .int (nI j)), (2, .int k0)]) hx hb dX0_bestBreath_70 hl (k := 4) rfl (nI_inc k) (by decide) rfl (fun ls hl => ?_)
                    refine lv_goto (tgt := 27) hx hb dX0_bestBreath_73 (by decide) ?_
                    exact ih27 (k + 1) (nI k) ls (by omega) (by first | omega | assumption | rfl | (simp_all; done) | grind) (by first | (rw [bbS_u c42, ← hbe]; done) | (rw [bbS_n c42 hbb]; rfl) | (rw [bbS_s c42 hbb]; (clear hq hK hts hC hx hb ho hRm hl hP ih27); grind [obI]) | (rw [bbS_u c42, hbb]; rfl))  (lv_sub hl [2, 3, 4, 1, 0] rfl)
      exact LP27 _ 0 (-2) ls (Nat.lt_succ_self _) (by first | omega | assumption | rfl | (simp_all; done) | grind) (rfl)  (lv_sub hl [2, 3, 4, 1, 0] rfl)
    · have c16 : (inB k0 0 1) = false := bI_0.mp c16
      refine lv_iconst (v := (-1)) hx hb dX0_bestBreath_19 (by decide) ?_
      exact hq _ _ _ dX0_bestBreath_20 (by (clear hq hK hts hC hx hb ho hRm hl hP); grind [bbI])
set_option maxHeartbeats 4000000 in
theorem c_X0_clearIn (G : GG) (l : Launch) (o : Nat) (R : Nat → Nat) (tx : Nat) (u : MS) (t : Int32) (hsd : PB (u.2.1 21)) (hfc : PB (u.2.1 20)) : CIs G l yX0_clearIn cX0_clearIn 4 .int 5 95 [.ref o, .int t] (PwS G o R tx u) (twosS (u.1 24) (snS (u.1 25) (u.2.1 21) (u.2.1 22) (u.2.1 23) (u.2.1 20)) t 16) := by
  refine CIs.mk RX0 pnX0 rfl (rfl) (Nat.le_of_ble_eq_true rfl) (fun pg en Rm sg mm ar bw mth cd QQ ls hC hRm hK hX hl hq => ?_)
  have hx := hC.1; have hb := hC.2.1; have ho := hC.2.2.2.1; have hts := hC.2.2.2.2
  have hP : PwS G o R tx u sg.heap := hX
  have hl : lv_has ls 4 [(0, .ref o), (1, .int t)] := hl
  refine lv_iconst (v := 0) hx hb dX0_clearIn_0 (by decide) ?_
  refine lv_istore_n (lv' := [(2, .int 0), (0, .ref o), (1, .int t)]) hx hb dX0_clearIn_1 rfl hl (by decide) rfl (fun ls hl => ?_)
  refine lv_iconst (v := 0) hx hb dX0_clearIn_2 (by decide) ?_
  refine lv_istore_n (lv' := [(3, .int 0), (2, .int 0), (0, .ref o), (1, .int t)]) hx hb dX0_clearIn_3 rfl hl (by decide) rfl (fun ls hl => ?_)
  have LP4 : ∀ (fu4 : Nat) (k : Nat) (n : Int32) (ls : Array Slot), 16 - k < fu4 → k ≤ 16 → n = twosS (u.1 24) (snS (u.1 25) (u.2.1 21) (u.2.1 22) (u.2.1 23) (u.2.1 20)) t k → lv_has ls 4 [(0, .ref o), (1, .int t), (2, .int n), (3, .int (nI k))] → W pg l en Rm sg mm ar bw mth cd sg.heap [] 0 0 QQ (F0 mm 4 ls []) := by
    intro fu4
    induction fu4 with
    | zero => intro k n ls hm4 hk hn hl; exact absurd hm4 (Nat.not_lt_zero _)
    | succ fu4 ih4 =>
      intro k n ls hm4 hk hn hl
      refine lv_iload_n hx hb dX0_clearIn_4 rfl (lv_at hl 3 rfl) ?_
      refine lv_bipush (v := 16) hx hb dX0_clearIn_5 (by decide) ?_
      refine lv_icmp_ge (tgt := 46) hx hb dX0_clearIn_7 (by decide) (fun c7 => ?_) (fun c7 => ?_)
      · have c7 : 16 ≤ k := (nI_leI (a := 16) (b := k) (by omega) (by omega)).mp c7
        refine lv_iload_n hx hb dX0_clearIn_46 rfl (lv_at hl 2 rfl) ?_
        exact hq _ _ _ dX0_clearIn_47 (by have hfin : k = 16 := (by omega); subst hfin; exact hn)
      · have c7 : ¬ (16 ≤ k) := mt (nI_leI (a := 16) (b := k) (by omega) (by omega)).mpr c7
        refine lv_iload_n hx hb dX0_clearIn_10 rfl (lv_at hl 2 rfl) ?_
        refine lv_aload_n hx hb dX0_clearIn_11 rfl (lv_at hl 0 rfl) ?_
        refine S_get hC hK hP (oS_main _ _ _ _ _) clX0 in_X0 0 (by decide) (fD0 _ _ _ _) q291 dX0_clearIn_12 ?_
        refine lv_iload_n hx hb dX0_clearIn_15 rfl (lv_at hl 3 rfl) ?_
        refine CIs.go (rcV hC hl (c_X1_isHouse_plan G l o R tx u (nI k) ) hK hP (va_recv hK.1 hP clX1 (oS_plan _ _ _ _ _)) q369 q370 q371 q111 q372 mdX1_isHouse (room_s hRm rfl) rfl rfl dX0_clearIn_16) ?_
        refine lv_if_eq (tgt := 37) hx hb dX0_clearIn_19 (by decide) (fun c19 => ?_) (fun c19 => ?_)
        · have c19 : (isHouseB (u.1 24) (nI k)) = false := bI_0.mp c19
          refine lv_iconst (v := 0) hx hb dX0_clearIn_37 (by decide) ?_
          refine lv_iadd hx hb dX0_clearIn_38 ?_
          refine W_top (y := n) (add0 _) ?_
          refine lv_istore_n (lv' := [(2, .int n), (0, .ref o), (1, .int t), (3, .int (nI k))]) hx hb dX0_clearIn_39 rfl hl (by decide) rfl (fun ls hl => ?_)
          refine lv_iinc (v := (nI (k + 1))) (lv' := [(3, .int (nI (k + 1))), (2, .int n), (0, .ref o), (1, .int t)]) hx hb dX0_clearIn_40 hl (k := 3) rfl (nI_inc k) (by decide) rfl (fun ls hl => ?_)
          refine lv_goto (tgt := 4) hx hb dX0_clearIn_43 (by decide) ?_
          exact ih4 (k + 1) n ls (by omega) (by first | omega | assumption | rfl | (simp_all; done) | grind) (by (clear hq hK hts hC hx hb ho hRm hl hP ih4); grind [twosS, snS])  (lv_sub hl [2, 3, 1, 0] rfl)
        · have c19 : (isHouseB (u.1 24) (nI k)) = true := bI_1.mp c19
          refine lv_aload_n hx hb dX0_clearIn_22 rfl (lv_at hl 0 rfl) ?_
          refine S_get hC hK hP (oS_main _ _ _ _ _) clX0 in_X0 0 (by decide) (fD0 _ _ _ _) q291 dX0_clearIn_23 ?_
          refine lv_iload_n hx hb dX0_clearIn_26 rfl (lv_at hl 3 rfl) ?_
          refine lv_iload_n hx hb dX0_clearIn_27 rfl (lv_at hl 1 rfl) ?_
          refine CIs.go (rcV hC hl (c_X1_seen_plan G l o R tx u k t (by first | assumption | omega | rfl | (simp_all; done)) (by first | assumption | omega | rfl | (simp_all; done)) (by first | assumption | omega | rfl | (simp_all; done))) hK hP (va_recv hK.1 hP clX1 (oS_plan _ _ _ _ _)) q1000 q894 q895 q111 q896 mdX1_seen (room_s hRm rfl) rfl rfl dX0_clearIn_28) ?_
          refine CIs.go (rcS hC hl (c_J6_bitCount G l (seenS (u.1 25) (u.2.1 21) (u.2.1 22) (u.2.1 23) ((u.2.1 20) k) t) (sB_seenS _ _ _ _ _ _)) hK trivial q1071 q906 q135 q907 mdJ6_bitCount (room_s hRm rfl) rfl rfl dX0_clearIn_31) ?_
          refine lv_goto (tgt := 38) hx hb dX0_clearIn_34 (by decide) ?_
          refine lv_iadd hx hb dX0_clearIn_38 ?_
          refine lv_istore_n (lv' := [(2, .int (n + (bitsI (seenS (u.1 25) (u.2.1 21) (u.2.1 22) (u.2.1 23) ((u.2.1 20) k) t)))), (0, .ref o), (1, .int t), (3, .int (nI k))]) hx hb dX0_clearIn_39 rfl hl (by decide) rfl (fun ls hl => ?_)
          refine lv_iinc (v := (nI (k + 1))) (lv' := [(3, .int (nI (k + 1))), (2, .int (n + (bitsI (seenS (u.1 25) (u.2.1 21) (u.2.1 22) (u.2.1 23) ((u.2.1 20) k) t)))), (0, .ref o), (1, .int t)]) hx hb dX0_clearIn_40 hl (k := 3) rfl (nI_inc k) (by decide) rfl (fun ls hl => ?_)
          refine lv_goto (tgt := 4) hx hb dX0_clearIn_43 (by decide) ?_
          exact ih4 (k + 1) (n + (bitsI (seenS (u.1 25) (u.2.1 21) (u.2.1 22) (u.2.1 23) ((u.2.1 20) k) t))) ls (by omega) (by first | omega | assumption | rfl | (simp_all; done) | grind) (by (clear hq hK hts hC hx hb ho hRm hl hP ih4); grind [twosS, snS])  (lv_sub hl [2, 3, 1, 0] rfl)
  exact LP4 _ 0 0 ls (Nat.lt_succ_self _) (by first | omega | assumption | rfl | (simp_all; done) | grind) (rfl)  (lv_sub hl [2, 3, 1, 0] rfl)
set_option maxHeartbeats 4000000 in
theorem c_X0_clearest (G : GG) (l : Launch) (o : Nat) (R : Nat → Nat) (tx : Nat) (u : MS) (k0 : Int32) (hsd : PB (u.2.1 21)) (hfc : PB (u.2.1 20)) : CIs G l yX0_clearest cX0_clearest 4 .int 6 118 [.ref o, .int k0] (PwS G o R tx u) (clrI (u.1 24) (snS (u.1 25) (u.2.1 21) (u.2.1 22) (u.2.1 23) (u.2.1 20)) k0) := by
  refine CIs.mk RX0 pnX0 rfl (rfl) (Nat.le_of_ble_eq_true rfl) (fun pg en Rm sg mm ar bw mth cd QQ ls hC hRm hK hX hl hq => ?_)
  have hx := hC.1; have hb := hC.2.1; have ho := hC.2.2.2.1; have hts := hC.2.2.2.2
  have hP : PwS G o R tx u sg.heap := hX
  have hl : lv_has ls 4 [(0, .ref o), (1, .int k0)] := hl
  refine lv_iload_n hx hb dX0_clearest_0 rfl (lv_at hl 1 rfl) ?_
  refine lv_iconst (v := 2) hx hb dX0_clearest_1 (by decide) ?_
  refine CIs.go (rcS hC hl (c_X0_in G l k0 2 1 (by decide)) hK trivial q366 q367 q110 q368 mdX0_in (room_s hRm rfl) rfl rfl dX0_clearest_2) ?_
  refine lv_if_ne (tgt := 10) hx hb dX0_clearest_5 (by decide) (fun c5 => ?_) (fun c5 => ?_)
  · have c5 : (inB k0 0 1) = true := bI_1.mp c5
    refine lv_iconst (v := 0) hx hb dX0_clearest_10 (by decide) ?_
    refine lv_istore_n (lv' := [(2, .int 0), (0, .ref o), (1, .int k0)]) hx hb dX0_clearest_11 rfl hl (by decide) rfl (fun ls hl => ?_)
    refine lv_iconst (v := 1) hx hb dX0_clearest_12 (by decide) ?_
    refine lv_istore_n (lv' := [(3, .int 1), (2, .int 0), (0, .ref o), (1, .int k0)]) hx hb dX0_clearest_13 rfl hl (by decide) rfl (fun ls hl => ?_)
    have LP14 : ∀ (fu14 : Nat) (k : Nat) (be : Nat) (ls : Array Slot), 12 - k < fu14 → k ≤ 12 → 1 ≤ k → be = clrS (fun t => twosS (u.1 24) (snS (u.1 25) (u.2.1 21) (u.2.1 22) (u.2.1 23) (u.2.1 20)) (nI t) 16) (k - 1) → be < 12 → lv_has ls 4 [(0, .ref o), (1, .int k0), (2, .int (nI be)), (3, .int (nI k))] → W pg l en Rm sg mm ar bw mth cd sg.heap [] 0 0 QQ (F0 mm 14 ls []) := by
      intro fu14
      induction fu14 with
      | zero => intro k be ls hm14 hk h1 hbe hb2 hl; exact absurd hm14 (Nat.not_lt_zero _)
      | succ fu14 ih14 =>
        intro k be ls hm14 hk h1 hbe hb2 hl
        refine lv_iload_n hx hb dX0_clearest_14 rfl (lv_at hl 3 rfl) ?_
        refine lv_bipush (v := 12) hx hb dX0_clearest_15 (by decide) ?_
        refine lv_icmp_ge (tgt := 41) hx hb dX0_clearest_17 (by decide) (fun c17 => ?_) (fun c17 => ?_)
        · have c17 : 12 ≤ k := (nI_leI (a := 12) (b := k) (by omega) (by omega)).mp c17
          refine lv_iload_n hx hb dX0_clearest_41 rfl (lv_at hl 1 rfl) ?_
          refine lv_if_ne (tgt := 49) hx hb dX0_clearest_42 (by decide) (fun c42 => ?_) (fun c42 => ?_)
          · refine lv_aload_n hx hb dX0_clearest_49 rfl (lv_at hl 0 rfl) ?_
            refine lv_iload_n hx hb dX0_clearest_50 rfl (lv_at hl 2 rfl) ?_
            refine CIs.go (rcV hC hl (c_X0_clearIn G l o R tx u (nI be) (by first | assumption | omega | rfl | (simp_all; done)) (by first | assumption | omega | rfl | (simp_all; done))) hK hP (va_recv hK.1 hP clX0 (oS_main _ _ _ _ _)) q1076 q1078 qs34 q110 q1079 mdX0_clearIn (room_s hRm rfl) rfl rfl dX0_clearest_51) ?_
            exact hq _ _ _ dX0_clearest_54 (by have hfin : k = 12 := (by omega); subst hfin; (clear hq hK hts hC hx hb ho hRm hl hP ih14); grind [clrI])
          · refine lv_iload_n hx hb dX0_clearest_45 rfl (lv_at hl 2 rfl) ?_
            refine lv_goto (tgt := 54) hx hb dX0_clearest_46 (by decide) ?_
            exact hq _ _ _ dX0_clearest_54 (by have hfin : k = 12 := (by omega); subst hfin; (clear hq hK hts hC hx hb ho hRm hl hP ih14); grind [clrI])
        · have c17 : ¬ (12 ≤ k) := mt (nI_leI (a := 12) (b := k) (by omega) (by omega)).mpr c17
          refine lv_aload_n hx hb dX0_clearest_20 rfl (lv_at hl 0 rfl) ?_
          refine lv_iload_n hx hb dX0_clearest_21 rfl (lv_at hl 3 rfl) ?_
          refine CIs.go (rcV hC hl (c_X0_clearIn G l o R tx u (nI k) (by first | assumption | omega | rfl | (simp_all; done)) (by first | assumption | omega | rfl | (simp_all; done))) hK hP (va_recv hK.1 hP clX0 (oS_main _ _ _ _ _)) q1076 q1078 qs34 q110 q1079 mdX0_clearIn (room_s hRm rfl) rfl rfl dX0_clearest_22) ?_
          refine lv_aload_n hx hb dX0_clearest_25 rfl (lv_at hl 0 rfl) ?_
          refine lv_iload_n hx hb dX0_clearest_26 rfl (lv_at hl 2 rfl) ?_
          refine CIs.go (rcV hC hl (c_X0_clearIn G l o R tx u (nI be) (by first | assumption | omega | rfl | (simp_all; done)) (by first | assumption | omega | rfl | (simp_all; done))) hK hP (va_recv hK.1 hP clX0 (oS_main _ _ _ _ _)) q1076 q1078 qs34 q110 q1079 mdX0_clearIn (room_s hRm rfl) rfl rfl dX0_clearest_27) ?_
          refine lv_icmp_le (tgt := 35) hx hb dX0_clearest_30 (by decide) (fun c30 => ?_) (fun c30 => ?_)
          · refine lv_iinc (v := (nI (k + 1))) (lv' := [(3, .int (nI (k + 1))), (0, .ref o), (1, .int k0), (2, .int (nI be))]) hx hb dX0_clearest_35 hl (k := 3) rfl (nI_inc k) (by decide) rfl (fun ls hl => ?_)
            refine lv_goto (tgt := 14) hx hb dX0_clearest_38 (by decide) ?_
            exact ih14 (k + 1) be ls (by omega) (by first | omega | assumption | rfl | (simp_all; done) | grind) (by first | omega | assumption | rfl | (simp_all; done) | grind) (by obtain ⟨q, rfl⟩ : ∃ q, k = q + 1 := ⟨k - 1, by omega⟩; (clear hq hK hts hC hx hb ho hRm hl hP ih14); grind [clrS]) (by first | omega | assumption | rfl | (simp_all; done) | grind)  (lv_sub hl [1, 2, 3, 0] rfl)
          · refine lv_iload_n hx hb dX0_clearest_33 rfl (lv_at hl 3 rfl) ?_
            refine lv_istore_n (lv' := [(2, .int (nI k)), (0, .ref o), (1, .int k0), (3, .int (nI k))]) hx hb dX0_clearest_34 rfl hl (by decide) rfl (fun ls hl => ?_)
            refine lv_iinc (v := (nI (k + 1))) (lv' := [(3, .int (nI (k + 1))), (2, .int (nI k)), (0, .ref o), (1, .int k0)]) hx hb dX0_clearest_35 hl (k := 3) rfl (nI_inc k) (by decide) rfl (fun ls hl => ?_)
            refine lv_goto (tgt := 14) hx hb dX0_clearest_38 (by decide) ?_
            exact ih14 (k + 1) k ls (by omega) (by first | omega | assumption | rfl | (simp_all; done) | grind) (by first | omega | assumption | rfl | (simp_all; done) | grind) (by obtain ⟨q, rfl⟩ : ∃ q, k = q + 1 := ⟨k - 1, by omega⟩; (clear hq hK hts hC hx hb ho hRm hl hP ih14); grind [clrS]) (by first | omega | assumption | rfl | (simp_all; done) | grind)  (lv_sub hl [2, 3, 1, 0] rfl)
    exact LP14 _ 1 0 ls (Nat.lt_succ_self _) (by first | omega | assumption | rfl | (simp_all; done) | grind) (by first | omega | assumption | rfl | (simp_all; done) | grind) (rfl) (by first | omega | assumption | rfl | (simp_all; done) | grind)  (lv_sub hl [2, 3, 1, 0] rfl)
  · have c5 : (inB k0 0 1) = false := bI_0.mp c5
    refine lv_iconst (v := (-1)) hx hb dX0_clearest_8 (by decide) ?_
    exact hq _ _ _ dX0_clearest_9 (by (clear hq hK hts hC hx hb ho hRm hl hP); grind [clrI])
set_option maxHeartbeats 4000000 in
theorem c_X0_whoHad (G : GG) (l : Launch) (o : Nat) (R : Nat → Nat) (tx : Nat) (u : MS) (t : Int32) (so : Int32) (hsd : PB (u.2.1 21)) (hfc : PB (u.2.1 20)) : CIs G l yX0_whoHad cX0_whoHad 5 .int 5 95 [.ref o, .int t, .int so] (PwS G o R tx u) (hadI (u.1 24) (snS (u.1 25) (u.2.1 21) (u.2.1 22) (u.2.1 23) (u.2.1 20)) t so) := by
  refine CIs.mk RX0 pnX0 rfl (rfl) (Nat.le_of_ble_eq_true rfl) (fun pg en Rm sg mm ar bw mth cd QQ ls hC hRm hK hX hl hq => ?_)
  have hx := hC.1; have hb := hC.2.1; have ho := hC.2.2.2.1; have hts := hC.2.2.2.2
  have hP : PwS G o R tx u sg.heap := hX
  have hl : lv_has ls 5 [(0, .ref o), (1, .int t), (2, .int so)] := hl
  refine lv_iload_n hx hb dX0_whoHad_0 rfl (lv_at hl 1 rfl) ?_
  refine CIs.go (rcS hC hl (c_X0_isTurn G l t ) hK trivial q363 q364 q110 q365 mdX0_isTurn (room_s hRm rfl) rfl rfl dX0_whoHad_1) ?_
  refine lv_if_eq (tgt := 16) hx hb dX0_whoHad_4 (by decide) (fun c4 => ?_) (fun c4 => ?_)
  · have c4 : (isTurnB t) = false := bI_0.mp c4
    refine lv_iconst (v := (-1)) hx hb dX0_whoHad_16 (by decide) ?_
    exact hq _ _ _ dX0_whoHad_17 (by (clear hq hK hts hC hx hb ho hRm hl hP); grind [hadI])
  · have c4 : (isTurnB t) = true := bI_1.mp c4
    refine lv_iload_n hx hb dX0_whoHad_7 rfl (lv_at hl 2 rfl) ?_
    refine lv_ldc (own := RX0) (v := 65536) hx hb ho (hts _ q1105) dX0_whoHad_8 ?_
    refine CIs.go (rcS hC hl (c_X0_in G l so 65536 65535 (by decide)) hK trivial q366 q367 q110 q368 mdX0_in (room_s hRm rfl) rfl rfl dX0_whoHad_10) ?_
    refine lv_if_ne (tgt := 18) hx hb dX0_whoHad_13 (by decide) (fun c13 => ?_) (fun c13 => ?_)
    · have c13 : (inB so 0 65535) = true := bI_1.mp c13
      refine lv_iconst (v := 0) hx hb dX0_whoHad_18 (by decide) ?_
      refine lv_istore_n (lv' := [(3, .int 0), (0, .ref o), (1, .int t), (2, .int so)]) hx hb dX0_whoHad_19 rfl hl (by decide) rfl (fun ls hl => ?_)
      refine lv_iconst (v := 0) hx hb dX0_whoHad_20 (by decide) ?_
      refine lv_istore (lv' := [(4, .int 0), (3, .int 0), (0, .ref o), (1, .int t), (2, .int so)]) hx hb dX0_whoHad_21 hl (by decide) rfl (fun ls hl => ?_)
      have LP23 : ∀ (fu23 : Nat) (k : Nat) (set : Int32) (ls : Array Slot), 16 - k < fu23 → k ≤ 16 → set = orN (fun h => isHouseB (u.1 24) (nI h) && decide ((snS (u.1 25) (u.2.1 21) (u.2.1 22) (u.2.1 23) (u.2.1 20)) h t = so)) k → lv_has ls 5 [(0, .ref o), (1, .int t), (2, .int so), (3, .int set), (4, .int (nI k))] → W pg l en Rm sg mm ar bw mth cd sg.heap [] 0 0 QQ (F0 mm 23 ls []) := by
        intro fu23
        induction fu23 with
        | zero => intro k set ls hm23 hk hset hl; exact absurd hm23 (Nat.not_lt_zero _)
        | succ fu23 ih23 =>
          intro k set ls hm23 hk hset hl
          refine lv_iload hx hb dX0_whoHad_23 (lv_at hl 4 rfl) ?_
          refine lv_bipush (v := 16) hx hb dX0_whoHad_25 (by decide) ?_
          refine lv_icmp_ge (tgt := 73) hx hb dX0_whoHad_27 (by decide) (fun c27 => ?_) (fun c27 => ?_)
          · have c27 : 16 ≤ k := (nI_leI (a := 16) (b := k) (by omega) (by omega)).mp c27
            refine lv_iload_n hx hb dX0_whoHad_73 rfl (lv_at hl 3 rfl) ?_
            exact hq _ _ _ dX0_whoHad_74 (by have hfin : k = 16 := (by omega); subst hfin; (clear hq hK hts hC hx hb ho hRm hl hP ih23); grind [hadI])
          · have c27 : ¬ (16 ≤ k) := mt (nI_leI (a := 16) (b := k) (by omega) (by omega)).mpr c27
            refine lv_iload_n hx hb dX0_whoHad_30 rfl (lv_at hl 3 rfl) ?_
            refine lv_aload_n hx hb dX0_whoHad_31 rfl (lv_at hl 0 rfl) ?_
            refine S_get hC hK hP (oS_main _ _ _ _ _) clX0 in_X0 0 (by decide) (fD0 _ _ _ _) q291 dX0_whoHad_32 ?_
            refine lv_iload hx hb dX0_whoHad_35 (lv_at hl 4 rfl) ?_
            refine CIs.go (rcV hC hl (c_X1_isHouse_plan G l o R tx u (nI k) ) hK hP (va_recv hK.1 hP clX1 (oS_plan _ _ _ _ _)) q369 q370 q371 q111 q372 mdX1_isHouse (room_s hRm rfl) rfl rfl dX0_whoHad_37) ?_
            refine lv_if_eq (tgt := 64) hx hb dX0_whoHad_40 (by decide) (fun c40 => ?_) (fun c40 => ?_)
            · have c40 : (isHouseB (u.1 24) (nI k)) = false := bI_0.mp c40
              refine lv_iconst (v := 0) hx hb dX0_whoHad_64 (by decide) ?_
              refine lv_ior hx hb dX0_whoHad_65 ?_
              refine W_top (y := set) (or0 _) ?_
              refine lv_istore_n (lv' := [(3, .int set), (0, .ref o), (1, .int t), (2, .int so), (4, .int (nI k))]) hx hb dX0_whoHad_66 rfl hl (by decide) rfl (fun ls hl => ?_)
              refine lv_iinc (v := (nI (k + 1))) (lv' := [(4, .int (nI (k + 1))), (3, .int set), (0, .ref o), (1, .int t), (2, .int so)]) hx hb dX0_whoHad_67 hl (k := 4) rfl (nI_inc k) (by decide) rfl (fun ls hl => ?_)
              refine lv_goto (tgt := 23) hx hb dX0_whoHad_70 (by decide) ?_
              exact ih23 (k + 1) set ls (by omega) (by first | omega | assumption | rfl | (simp_all; done) | grind) (by (clear hq hK hts hC hx hb ho hRm hl hP ih23); grind [orN, bitI, snS])  (lv_sub hl [2, 3, 4, 1, 0] rfl)
            · have c40 : (isHouseB (u.1 24) (nI k)) = true := bI_1.mp c40
              refine lv_aload_n hx hb dX0_whoHad_43 rfl (lv_at hl 0 rfl) ?_
              refine S_get hC hK hP (oS_main _ _ _ _ _) clX0 in_X0 0 (by decide) (fD0 _ _ _ _) q291 dX0_whoHad_44 ?_
              refine lv_iload hx hb dX0_whoHad_47 (lv_at hl 4 rfl) ?_
              refine lv_iload_n hx hb dX0_whoHad_49 rfl (lv_at hl 1 rfl) ?_
              refine CIs.go (rcV hC hl (c_X1_seen_plan G l o R tx u k t (by first | assumption | omega | rfl | (simp_all; done)) (by first | assumption | omega | rfl | (simp_all; done)) (by first | assumption | omega | rfl | (simp_all; done))) hK hP (va_recv hK.1 hP clX1 (oS_plan _ _ _ _ _)) q1000 q894 q895 q111 q896 mdX1_seen (room_s hRm rfl) rfl rfl dX0_whoHad_50) ?_
              refine lv_iload_n hx hb dX0_whoHad_53 rfl (lv_at hl 2 rfl) ?_
              refine lv_icmp_ne (tgt := 64) hx hb dX0_whoHad_54 (by decide) (fun c54 => ?_) (fun c54 => ?_)
              · refine lv_iconst (v := 0) hx hb dX0_whoHad_64 (by decide) ?_
                refine lv_ior hx hb dX0_whoHad_65 ?_
                refine W_top (y := set) (or0 _) ?_
                refine lv_istore_n (lv' := [(3, .int set), (0, .ref o), (1, .int t), (2, .int so), (4, .int (nI k))]) hx hb dX0_whoHad_66 rfl hl (by decide) rfl (fun ls hl => ?_)
                refine lv_iinc (v := (nI (k + 1))) (lv' := [(4, .int (nI (k + 1))), (3, .int set), (0, .ref o), (1, .int t), (2, .int so)]) hx hb dX0_whoHad_67 hl (k := 4) rfl (nI_inc k) (by decide) rfl (fun ls hl => ?_)
                refine lv_goto (tgt := 23) hx hb dX0_whoHad_70 (by decide) ?_
                exact ih23 (k + 1) set ls (by omega) (by first | omega | assumption | rfl | (simp_all; done) | grind) (by (clear hq hK hts hC hx hb ho hRm hl hP ih23); grind [orN, bitI, snS])  (lv_sub hl [2, 3, 4, 1, 0] rfl)
              · refine lv_iconst (v := 1) hx hb dX0_whoHad_57 (by decide) ?_
                refine lv_iload hx hb dX0_whoHad_58 (lv_at hl 4 rfl) ?_
                refine lv_ishl hx hb dX0_whoHad_60 ?_
                refine lv_goto (tgt := 65) hx hb dX0_whoHad_61 (by decide) ?_
                refine lv_ior hx hb dX0_whoHad_65 ?_
                refine lv_istore_n (lv' := [(3, .int (set ||| (1 <<< ((nI k) &&& 31)))), (0, .ref o), (1, .int t), (2, .int so), (4, .int (nI k))]) hx hb dX0_whoHad_66 rfl hl (by decide) rfl (fun ls hl => ?_)
                refine lv_iinc (v := (nI (k + 1))) (lv' := [(4, .int (nI (k + 1))), (3, .int (set ||| (1 <<< ((nI k) &&& 31)))), (0, .ref o), (1, .int t), (2, .int so)]) hx hb dX0_whoHad_67 hl (k := 4) rfl (nI_inc k) (by decide) rfl (fun ls hl => ?_)
                refine lv_goto (tgt := 23) hx hb dX0_whoHad_70 (by decide) ?_
                exact ih23 (k + 1) (set ||| (1 <<< ((nI k) &&& 31))) ls (by omega) (by first | omega | assumption | rfl | (simp_all; done) | grind) (by (clear hq hK hts hC hx hb ho hRm hl hP ih23); grind [orN, bitI, snS])  (lv_sub hl [2, 3, 4, 1, 0] rfl)
      exact LP23 _ 0 0 ls (Nat.lt_succ_self _) (by first | omega | assumption | rfl | (simp_all; done) | grind) (rfl)  (lv_sub hl [2, 3, 4, 1, 0] rfl)
    · have c13 : (inB so 0 65535) = false := bI_0.mp c13
      refine lv_iconst (v := (-1)) hx hb dX0_whoHad_16 (by decide) ?_
      exact hq _ _ _ dX0_whoHad_17 (by (clear hq hK hts hC hx hb ho hRm hl hP); grind [hadI])
set_option maxHeartbeats 4000000 in
theorem c_X0_turn (G : GG) (l : Launch) (o : Nat) (R : Nat → Nat) (tx : Nat) (u : MS) (t : Int32) (h : Int32) (hD : DwS o R) : CXi G l (PwS G o R tx) (AwS o R) yX0_turn cX0_turn 3 .boolean 4 65 0 0 [.ref o, .int t, .int h] (PwS G o R tx u) (fun r w => r = (bI (turnG (u.1 24) t h)) ∧ w = (if turnG (u.1 24) t h = true then mA u 1 (ix t) h else u)) := by
  refine CXi.mk RX0 pnX0 rfl (Nat.le_of_ble_eq_true rfl) (fun pg en Rm sg mm ar bw mth cd QQ ls hC hRm hK hX hS hl hq => ?_)
  have hx := hC.1; have hb := hC.2.1; have ho := hC.2.2.2.1; have hts := hC.2.2.2.2
  have hP : PwS G o R tx u sg.heap := hX
  have hl : lv_has ls 3 [(0, .ref o), (1, .int t), (2, .int h)] := hl
  refine lv_iload_n hx hb dX0_turn_0 rfl (lv_at hl 1 rfl) ?_
  refine CIs.go (rcS hC hl (c_X0_isTurn G l t ) hK trivial q363 q364 q110 q365 mdX0_isTurn (room_s hRm rfl) rfl rfl dX0_turn_1) ?_
  refine lv_if_eq (tgt := 23) hx hb dX0_turn_4 (by decide) (fun c4 => ?_) (fun c4 => ?_)
  · have c4 : (isTurnB t) = false := bI_0.mp c4
    refine lv_iconst (v := 0) hx hb dX0_turn_23 (by decide) ?_
    exact hq _ _ _ _ _ _ _ _ dX0_turn_24 hP hS (by first | rfl | exact bI_nar _) (by exact ⟨by (clear hq hK hts hC hx hb ho hRm hl hP hS); grind [turnG, bI], by (clear hq hK hts hC hx hb ho hRm hl hP hS); grind [turnG]⟩) (by decide) (by decide)
  · have c4 : (isTurnB t) = true := bI_1.mp c4
    obtain ⟨j, hj, rfl, hjx⟩ := isTurnB_nI c4
    have hl : lv_has ls 3 [(0, .ref o), (1, .int (nI j)), (2, .int h)] := hl
    refine lv_iload_n hx hb dX0_turn_7 rfl (lv_at hl 2 rfl) ?_
    refine lv_iconst (v := (-1)) hx hb dX0_turn_8 (by decide) ?_
    refine lv_icmp_eq (tgt := 25) hx hb dX0_turn_9 (by decide) (fun c9 => ?_) (fun c9 => ?_)
    · refine lv_aload_n hx hb dX0_turn_25 rfl (lv_at hl 0 rfl) ?_
      refine S_get hC hK hP (oS_main _ _ _ _ _) clX0 in_X0 1 (by decide) (fD1 _ _ _ _) q293 dX0_turn_26 ?_
      refine lv_iload_n hx hb dX0_turn_29 rfl (lv_at hl 1 rfl) ?_
      refine lv_iload_n hx hb dX0_turn_30 rfl (lv_at hl 2 rfl) ?_
      refine S_ast hC hK hP (hD _ _ _) hS (aS1 _ _ _ _ _) (bS1 _ _ _ _ _ _ _) (j := j) (by decide) (rfl) (by omega) dX0_turn_31 (fun H locs hP hS => ?_)
      refine lv_iconst (v := 1) hx hb dX0_turn_32 (by decide) ?_
      exact hq _ _ _ _ _ _ _ _ dX0_turn_33 hP hS (by first | rfl | exact bI_nar _) (by exact ⟨by (clear hq hK hts hC hx hb ho hRm hl hP hS); grind [turnG, bI], by (clear hq hK hts hC hx hb ho hRm hl hP hS); grind [turnG]⟩) (by decide) (by decide)
    · refine lv_aload_n hx hb dX0_turn_12 rfl (lv_at hl 0 rfl) ?_
      refine S_get hC hK hP (oS_main _ _ _ _ _) clX0 in_X0 0 (by decide) (fD0 _ _ _ _) q291 dX0_turn_13 ?_
      refine lv_iload_n hx hb dX0_turn_16 rfl (lv_at hl 2 rfl) ?_
      refine CIs.go (rcV hC hl (c_X1_isHouse_plan G l o R tx u h ) hK hP (va_recv hK.1 hP clX1 (oS_plan _ _ _ _ _)) q369 q370 q371 q111 q372 mdX1_isHouse (room_s hRm rfl) rfl rfl dX0_turn_17) ?_
      refine lv_if_ne (tgt := 25) hx hb dX0_turn_20 (by decide) (fun c20 => ?_) (fun c20 => ?_)
      · have c20 : (isHouseB (u.1 24) h) = true := bI_1.mp c20
        refine lv_aload_n hx hb dX0_turn_25 rfl (lv_at hl 0 rfl) ?_
        refine S_get hC hK hP (oS_main _ _ _ _ _) clX0 in_X0 1 (by decide) (fD1 _ _ _ _) q293 dX0_turn_26 ?_
        refine lv_iload_n hx hb dX0_turn_29 rfl (lv_at hl 1 rfl) ?_
        refine lv_iload_n hx hb dX0_turn_30 rfl (lv_at hl 2 rfl) ?_
        refine S_ast hC hK hP (hD _ _ _) hS (aS1 _ _ _ _ _) (bS1 _ _ _ _ _ _ _) (j := j) (by decide) (rfl) (by omega) dX0_turn_31 (fun H locs hP hS => ?_)
        refine lv_iconst (v := 1) hx hb dX0_turn_32 (by decide) ?_
        exact hq _ _ _ _ _ _ _ _ dX0_turn_33 hP hS (by first | rfl | exact bI_nar _) (by exact ⟨by (clear hq hK hts hC hx hb ho hRm hl hP hS); grind [turnG, bI], by (clear hq hK hts hC hx hb ho hRm hl hP hS); grind [turnG]⟩) (by decide) (by decide)
      · have c20 : (isHouseB (u.1 24) h) = false := bI_0.mp c20
        refine lv_iconst (v := 0) hx hb dX0_turn_23 (by decide) ?_
        exact hq _ _ _ _ _ _ _ _ dX0_turn_24 hP hS (by first | rfl | exact bI_nar _) (by exact ⟨by (clear hq hK hts hC hx hb ho hRm hl hP hS); grind [turnG, bI], by (clear hq hK hts hC hx hb ho hRm hl hP hS); grind [turnG]⟩) (by decide) (by decide)
set_option maxHeartbeats 4000000 in
theorem c_X0_seed (G : GG) (l : Launch) (o : Nat) (R : Nat → Nat) (tx : Nat) (u : MS) (v : Int32) (hD : DwS o R) : CXi G l (PwS G o R tx) (AwS o R) yX0_seed cX0_seed 2 .boolean 3 45 0 0 [.ref o, .int v] (PwS G o R tx u) (fun r w => r = (bI (inB v 0 65535)) ∧ w = (if inB v 0 65535 = true then mV u 45 v else u)) := by
  refine CXi.mk RX0 pnX0 rfl (Nat.le_of_ble_eq_true rfl) (fun pg en Rm sg mm ar bw mth cd QQ ls hC hRm hK hX hS hl hq => ?_)
  have hx := hC.1; have hb := hC.2.1; have ho := hC.2.2.2.1; have hts := hC.2.2.2.2
  have hP : PwS G o R tx u sg.heap := hX
  have hl : lv_has ls 2 [(0, .ref o), (1, .int v)] := hl
  refine lv_iload_n hx hb dX0_seed_0 rfl (lv_at hl 1 rfl) ?_
  refine lv_ldc (own := RX0) (v := 65536) hx hb ho (hts _ q1105) dX0_seed_1 ?_
  refine CIs.go (rcS hC hl (c_X0_in G l v 65536 65535 (by decide)) hK trivial q366 q367 q110 q368 mdX0_in (room_s hRm rfl) rfl rfl dX0_seed_3) ?_
  refine lv_if_ne (tgt := 11) hx hb dX0_seed_6 (by decide) (fun c6 => ?_) (fun c6 => ?_)
  · have c6 : (inB v 0 65535) = true := bI_1.mp c6
    refine lv_aload_n hx hb dX0_seed_11 rfl (lv_at hl 0 rfl) ?_
    refine S_get hC hK hP (oS_main _ _ _ _ _) clX0 in_X0 3 (by decide) (fD3 _ _ _ _) q297 dX0_seed_12 ?_
    refine lv_iload_n hx hb dX0_seed_15 rfl (lv_at hl 1 rfl) ?_
    refine S_putN hC hK hP (hD _ _ _) hS (oS_street _ _ _ _ _) clX4 in_X4 tyX4_ok nmX4 5 (by decide) (pS45 _ _ _ _ _ _) nq238 rfl rfl rfl rfl (Nat.le_of_ble_eq_true rfl) dX0_seed_16 (fun H locs hP hS => ?_)
    refine lv_iconst (v := 1) hx hb dX0_seed_19 (by decide) ?_
    exact hq _ _ _ _ _ _ _ _ dX0_seed_20 hP hS (by first | rfl | exact bI_nar _) (by exact ⟨by (clear hq hK hts hC hx hb ho hRm hl hP hS); grind [bI], by (clear hq hK hts hC hx hb ho hRm hl hP hS); grind⟩) (by decide) (by decide)
  · have c6 : (inB v 0 65535) = false := bI_0.mp c6
    refine lv_iconst (v := 0) hx hb dX0_seed_9 (by decide) ?_
    exact hq _ _ _ _ _ _ _ _ dX0_seed_10 hP hS (by first | rfl | exact bI_nar _) (by exact ⟨by (clear hq hK hts hC hx hb ho hRm hl hP hS); grind [bI], by (clear hq hK hts hC hx hb ho hRm hl hP hS); grind⟩) (by decide) (by decide)
set_option maxHeartbeats 4000000 in
theorem c_X0_fed (G : GG) (l : Launch) (o : Nat) (R : Nat → Nat) (tx : Nat) (u : MS) (k : Nat) (hk : k < 260) : CIs G l yX0_fed cX0_fed 2 .int 2 24 [.ref o, .int (nI k)] (PwS G o R tx u) (nI (ocN (u.2.1 6) k)) := by
  refine CIs.mk RX0 pnX0 rfl (rfl) (Nat.le_of_ble_eq_true rfl) (fun pg en Rm sg mm ar bw mth cd QQ ls hC hRm hK hX hl hq => ?_)
  have hx := hC.1; have hb := hC.2.1; have ho := hC.2.2.2.1; have hts := hC.2.2.2.2
  have hP : PwS G o R tx u sg.heap := hX
  have hl : lv_has ls 2 [(0, .ref o), (1, .int (nI k))] := hl
  refine lv_aload_n hx hb dX0_fed_0 rfl (lv_at hl 0 rfl) ?_
  refine S_get hC hK hP (oS_main _ _ _ _ _) clX0 in_X0 6 (by decide) (fD6 _ _ _ _) q302 dX0_fed_1 ?_
  refine lv_iload_n hx hb dX0_fed_4 rfl (lv_at hl 1 rfl) ?_
  refine S_bald hC hK hP (aS6 _ _ _ _ _) (j := k) (by decide) (rfl) (by omega) dX0_fed_5 ?_
  refine lv_sipush (v := 255) hx hb dX0_fed_6 (by decide) ?_
  refine lv_iand hx hb dX0_fed_9 ?_
  exact hq _ _ _ dX0_fed_10 (by exact pk_and _ 8 (by decide))
