set_option maxRecDepth 100000
set_option maxHeartbeats 4000000 in
theorem c_X6_areTold (G : GG) (l : Launch) (o : Nat) (R : Nat → Nat) (u : MS) (m : Nat) (row : Nat → Int32) (pls : Nat → Nat) (hm : (u.1 46) = nI m) (hm12 : m ≤ 12) (hrw : rowsR row pls m (u.2.1 41) (u.2.1 42)) (hD : DM o R) : CMi G l o R yX6_areTold cX6_areTold 2 .boolean 4 59 [] u (fun r w => ∃ ok : Bool, ∃ fa : Int32, (tdPost (u.1 8) row pls m ok fa) ∧ r = (bI ok) ∧ w = (rE u (u.1 12) fa (u.1 13) (u.1 17) (u.1 19) (u.1 11) (nI m) (u.1 47) (u.1 48) (u.1 49) (u.2.1 41) (u.2.1 42) (u.2.1 43) (u.2.1 44) (u.2.1 45) (u.2.1 3))) := by
  refine CMi.mk pnX6 rfl (Nat.le_of_ble_eq_true rfl) (fun pg en Rm sg mm ar bw mth cd QQ ls hC hRm hK hP hS hl hq => ?_)
  have hx := hC.1; have hb := hC.2.1; have ho := hC.2.2.2.1; have hts := hC.2.2.2.2
  have hl : lv_has ls 2 [(0, .ref o)] := hl
  have hP : PM G o R (rE u (u.1 12) (u.1 14) (u.1 13) (u.1 17) (u.1 19) (u.1 11) (u.1 46) (u.1 47) (u.1 48) (u.1 49) (u.2.1 41) (u.2.1 42) (u.2.1 43) (u.2.1 44) (u.2.1 45) (u.2.1 3)) sg.heap := by rw [rE_self]; exact hP
  rw [hm] at hP
  refine lv_iconst (v := 0) hx hb dX6_areTold_0 (by decide) ?_
  refine lv_istore_n (lv' := [(1, .int 0), (0, .ref o)]) hx hb dX6_areTold_1 rfl hl (by decide) rfl (fun ls hl => ?_)
  have LP2 : ∀ (fu2 : Nat) (k : Nat) (ls : Array Slot), m - k < fu2 → k ≤ m → fstN (toldC (u.1 8) row) k = none → lv_has ls 2 [(0, .ref o), (1, .int (nI k))] → W pg l en Rm sg mm ar bw mth cd sg.heap [] 0 0 QQ (F0 mm 2 ls []) := by
    intro fu2
    induction fu2 with
    | zero => intro k ls hm2 hk hf hl; exact absurd hm2 (Nat.not_lt_zero _)
    | succ fu2 ih2 =>
      intro k ls hm2 hk hf hl
      refine lv_iload_n hx hb dX6_areTold_2 rfl (lv_at hl 1 rfl) ?_
      refine lv_aload_n hx hb dX6_areTold_3 rfl (lv_at hl 0 rfl) ?_
      refine M_get hC hK hP 46 (by decide) (fM46 _ _) q1247 dX6_areTold_4 ?_
      refine W_top (y := (nI m)) (by rw [rE_f46]) ?_
      refine lv_icmp_ge (tgt := 52) hx hb dX6_areTold_7 (by decide) (fun c7 => ?_) (fun c7 => ?_)
      · have c7 : m ≤ k := (nI_leI (a := m) (b := k) (by omega) (by omega)).mp c7
        refine lv_iconst (v := 1) hx hb dX6_areTold_52 (by decide) ?_
        exact hq _ _ _ _ _ _ dX6_areTold_53 hP hS (by first | rfl | exact bI_nar _) (by have e : k = m := (by omega); subst e; exact ⟨true, _, by unfold tdPost; rw [hf], rfl, rfl⟩)
      · have c7 : ¬ (m ≤ k) := mt (nI_leI (a := m) (b := k) (by omega) (by omega)).mpr c7
        refine lv_aload_n hx hb dX6_areTold_10 rfl (lv_at hl 0 rfl) ?_
        refine M_get hC hK hP 41 (by decide) (fM41 _ _) q1242 dX6_areTold_11 ?_
        refine lv_iload_n hx hb dX6_areTold_14 rfl (lv_at hl 1 rfl) ?_
        refine M_ald hC hK hP 41 27 12 k (aM41 _ _ _ _) (by decide) (rfl) (by omega) dX6_areTold_15 ?_
        refine W_top (y := ((u.2.1 41) k)) (by rw [rE_g41]) ?_
        refine W_top (y := (row k)) ((hrw k (by omega)).1) ?_
        refine lv_iconst (v := (-1)) hx hb dX6_areTold_16 (by decide) ?_
        refine lv_icmp_eq (tgt := 46) hx hb dX6_areTold_17 (by decide) (fun c17 => ?_) (fun c17 => ?_)
        · refine lv_iinc (v := (nI (k + 1))) (lv' := [(1, .int (nI (k + 1))), (0, .ref o)]) hx hb dX6_areTold_46 hl (k := 1) rfl (nI_inc k) (by decide) rfl (fun ls hl => ?_)
          refine lv_goto (tgt := 2) hx hb dX6_areTold_49 (by decide) ?_
          exact ih2 (k + 1) ls (by omega) (by first | omega | assumption | rfl | (simp_all; done) | grind) (fstN_s hf (by unfold toldC; first | (rw [c30]; simp; done) | (rw [decide_eq_true c17]; rfl)))  (lv_sub hl [1, 0] rfl)
        · refine lv_aload_n hx hb dX6_areTold_20 rfl (lv_at hl 0 rfl) ?_
          refine lv_aload_n hx hb dX6_areTold_21 rfl (lv_at hl 0 rfl) ?_
          refine M_get hC hK hP 41 (by decide) (fM41 _ _) q1242 dX6_areTold_22 ?_
          refine lv_iload_n hx hb dX6_areTold_25 rfl (lv_at hl 1 rfl) ?_
          refine M_ald hC hK hP 41 27 12 k (aM41 _ _ _ _) (by decide) (rfl) (by omega) dX6_areTold_26 ?_
          refine W_top (y := ((u.2.1 41) k)) (by rw [rE_g41]) ?_
          refine W_top (y := (row k)) ((hrw k (by omega)).1) ?_
          refine CI.callV hC hK hl (c_X6_isHouse G l o R (rE u (u.1 12) (u.1 14) (u.1 13) (u.1 17) (u.1 19) (u.1 11) (nI m) (u.1 47) (u.1 48) (u.1 49) (u.2.1 41) (u.2.1 42) (u.2.1 43) (u.2.1 44) (u.2.1 45) (u.2.1 3)) (row k) ) hP (hP.recv hK) q1395 q1397 qs45 q116 q1398 mdX6_isHouse (room_ok hRm rfl) rfl rfl dX6_areTold_27 ?_
          refine W_top (y := (bI (isHouseB (u.1 8) (row k)))) (by simp only [rE_f8]) ?_
          refine lv_if_ne (tgt := 46) hx hb dX6_areTold_30 (by decide) (fun c30 => ?_) (fun c30 => ?_)
          · have c30 : (isHouseB (u.1 8) (row k)) = true := bI_1.mp c30
            refine lv_iinc (v := (nI (k + 1))) (lv' := [(1, .int (nI (k + 1))), (0, .ref o)]) hx hb dX6_areTold_46 hl (k := 1) rfl (nI_inc k) (by decide) rfl (fun ls hl => ?_)
            refine lv_goto (tgt := 2) hx hb dX6_areTold_49 (by decide) ?_
            exact ih2 (k + 1) ls (by omega) (by first | omega | assumption | rfl | (simp_all; done) | grind) (fstN_s hf (by unfold toldC; first | (rw [c30]; simp; done) | (rw [decide_eq_true c17]; rfl)))  (lv_sub hl [1, 0] rfl)
          · have c30 : (isHouseB (u.1 8) (row k)) = false := bI_0.mp c30
            refine lv_aload_n hx hb dX6_areTold_33 rfl (lv_at hl 0 rfl) ?_
            refine lv_bipush (v := 7) hx hb dX6_areTold_34 (by decide) ?_
            refine lv_aload_n hx hb dX6_areTold_36 rfl (lv_at hl 0 rfl) ?_
            refine M_get hC hK hP 42 (by decide) (fM42 _ _) q1243 dX6_areTold_37 ?_
            refine lv_iload_n hx hb dX6_areTold_40 rfl (lv_at hl 1 rfl) ?_
            refine M_ald hC hK hP 42 28 12 k (aM42 _ _ _ _) (by decide) (rfl) (by omega) dX6_areTold_41 ?_
            refine W_top (y := ((u.2.1 42) k)) (by rw [rE_g42]) ?_
            refine W_top (y := (nI (pls k))) ((hrw k (by omega)).2) ?_
            refine CMi.call hC hK hS (fun q h => h) hl (c_X6_wrongAt G l o R (rE u (u.1 12) (u.1 14) (u.1 13) (u.1 17) (u.1 19) (u.1 11) (nI m) (u.1 47) (u.1 48) (u.1 49) (u.2.1 41) (u.2.1 42) (u.2.1 43) (u.2.1 44) (u.2.1 45) (u.2.1 3)) 7 (pls k)  hD) hP rfl q1442 q1444 qs53 q116 q1445 mdX6_wrongAt (room_ok hRm rfl) rfl rfl dX6_areTold_42 (fun r42 w42 H locs hpo hP _ _ hS => ?_)
            obtain ⟨er42, ew42⟩ := hpo
            rw [ew42] at hP
            refine W_top (y := (bI false)) er42 ?_
            rw [rE_V14] at hP
            exact hq _ _ _ _ _ _ dX6_areTold_45 hP hS (by first | rfl | exact bI_nar _) (by exact ⟨false, _, by unfold tdPost; rw [fstN_t hf (by unfold toldC; rw [c30, decide_eq_false c17]; rfl) (show k < m by omega)]; exact ⟨rfl, rfl⟩, rfl, rfl⟩)
  exact LP2 _ 0 ls (Nat.lt_succ_self _) (by first | omega | assumption | rfl | (simp_all; done) | grind) (rfl)  (lv_sub hl [1, 0] rfl)
set_option maxHeartbeats 4000000 in
theorem c_X6_rota (G : GG) (l : Launch) (o : Nat) (R : Nat → Nat) (u : MS) (n0 : Int32) (hD : DM o R) : CMi G l o R yX6_rota cX6_rota 4 .int 5 86 [.int n0] u (fun r w => ∃ pl : Int32, ∃ fa : Int32, ∃ le : Int32, ∃ cm : Int32, ∃ sm : Int32, ∃ tp : Int32, ∃ tm : Int32, ∃ rd : Int32, ∃ i1 : Int32, ∃ i2 : Int32, ∃ x : Nat → Int32, ∃ y : Nat → Int32, ∃ F : Nat → Int32, ∃ A : Nat → Int32, ∃ T : Nat → Int32, ∃ ro : Nat → Int32, (roOut (roR (u.2.1 10) (u.1 11) n0 (u.1 8)) (u.2.1 3) ro) ∧ (tp = if roG (u.1 11) n0 = true then 0 else (u.1 11)) ∧ r = (roV (roR (u.2.1 10) (u.1 11) n0 (u.1 8))) ∧ w = (rE u pl fa le cm sm tp tm rd i1 i2 x y F A T ro)) := by
  refine CMi.mk pnX6 rfl (Nat.le_of_ble_eq_true rfl) (fun pg en Rm sg mm ar bw mth cd QQ ls hC hRm hK hP hS hl hq => ?_)
  have hx := hC.1; have hb := hC.2.1; have ho := hC.2.2.2.1; have hts := hC.2.2.2.2
  have hl : lv_has ls 4 [(0, .ref o), (1, .int n0)] := hl
  have hP : PM G o R (rE u (u.1 12) (u.1 14) (u.1 13) (u.1 17) (u.1 19) (u.1 11) (u.1 46) (u.1 47) (u.1 48) (u.1 49) (u.2.1 41) (u.2.1 42) (u.2.1 43) (u.2.1 44) (u.2.1 45) (u.2.1 3)) sg.heap := by rw [rE_self]; exact hP
  refine lv_iload_n hx hb dX6_rota_0 rfl (lv_at hl 1 rfl) ?_
  refine lv_iconst (v := 1) hx hb dX6_rota_1 (by decide) ?_
  refine lv_bipush (v := 60) hx hb dX6_rota_2 (by decide) ?_
  refine CI.callS hC hK hl (c_X6_in G l n0 1 60 ) trivial q1392 q1393 q116 q1394 mdX6_in (room_ok hRm rfl) rfl rfl dX6_rota_4 ?_
  refine lv_if_eq (tgt := 18) hx hb dX6_rota_7 (by decide) (fun c7 => ?_) (fun c7 => ?_)
  · have c7 : (inB n0 1 60) = false := bI_0.mp c7
    refine lv_iconst (v := (-1)) hx hb dX6_rota_18 (by decide) ?_
    exact hq _ _ _ _ _ _ dX6_rota_19 hP hS (rfl) (by have hg : ¬ roG (u.1 11) n0 = true := (by simp [roG, c7]); exact ⟨(u.1 12), (u.1 14), (u.1 13), (u.1 17), (u.1 19), (u.1 11), (u.1 46), (u.1 47), (u.1 48), (u.1 49), (u.2.1 41), (u.2.1 42), (u.2.1 43), (u.2.1 44), (u.2.1 45), (u.2.1 3), by rw [roR, if_neg hg]; rfl, by rw [if_neg hg], by rw [roR, if_neg hg]; rfl, rfl⟩)
  · have c7 : (inB n0 1 60) = true := bI_1.mp c7
    obtain ⟨n, hn1, hn, rfl, hnx⟩ := inB_nI2 1 60 (by decide) (by decide) c7
    have hl : lv_has ls 4 [(0, .ref o), (1, .int (nI n))] := hl
    refine lv_iload_n hx hb dX6_rota_10 rfl (lv_at hl 1 rfl) ?_
    refine lv_aload_n hx hb dX6_rota_11 rfl (lv_at hl 0 rfl) ?_
    refine M_get hC hK hP 11 (by decide) (fM11 _ _) q1212 dX6_rota_12 ?_
    refine W_top (y := (u.1 11)) (by rw [rE_f11]) ?_
    refine lv_icmp_le (tgt := 20) hx hb dX6_rota_15 (by decide) (fun c15 => ?_) (fun c15 => ?_)
    · have hg : roG (u.1 11) (nI n) = true := by simp [roG, c7, c15]
      refine lv_aload_n hx hb dX6_rota_20 rfl (lv_at hl 0 rfl) ?_
      refine lv_iload_n hx hb dX6_rota_21 rfl (lv_at hl 1 rfl) ?_
      refine CMv.call hC hK hS (fun q h => h) hl (c_X6_beginsText G l o R (rE u (u.1 12) (u.1 14) (u.1 13) (u.1 17) (u.1 19) (u.1 11) (u.1 46) (u.1 47) (u.1 48) (u.1 49) (u.2.1 41) (u.2.1 42) (u.2.1 43) (u.2.1 44) (u.2.1 45) (u.2.1 3)) n  hD) hP rfl q1430 q1432 qs50 q116 q1433 mdX6_beginsText (room_ok hRm rfl) rfl rfl dX6_rota_22 (fun w22 H locs hpo hP _ _ hS => ?_)
      have ew22 := hpo
      rw [ew22] at hP
      rw [rE_V12] at hP
      rw [rE_V13] at hP
      rw [rE_V17] at hP
      rw [rE_V19] at hP
      refine lv_aload_n hx hb dX6_rota_25 rfl (lv_at hl 0 rfl) ?_
      refine lv_iconst (v := 0) hx hb dX6_rota_26 (by decide) ?_
      refine M_put hC hK hD hP hS 46 (by decide) (sM46 _ _ _) q1247 rfl dX6_rota_27 (fun H locs hP hS => ?_)
      rw [rE_V46] at hP
      refine lv_aload_n hx hb dX6_rota_30 rfl (lv_at hl 0 rfl) ?_
      refine lv_iconst (v := 0) hx hb dX6_rota_31 (by decide) ?_
      refine M_put hC hK hD hP hS 47 (by decide) (sM47 _ _ _) q1248 rfl dX6_rota_32 (fun H locs hP hS => ?_)
      rw [rE_V47] at hP
      refine lv_aload_n hx hb dX6_rota_35 rfl (lv_at hl 0 rfl) ?_
      refine CMi.call hC hK hS (fun q h => h) hl (c_X6_readsTurn G l o R (rE u 0 (u.1 14) (nI n) 0 0 (u.1 11) 0 0 (u.1 48) (u.1 49) (u.2.1 41) (u.2.1 42) (u.2.1 43) (u.2.1 44) (u.2.1 45) (u.2.1 3)) n 0 0 (2 * n + 3) (fun _ => 0) (fun _ => 0) ([] : List Rnd) (clkW (u.2.1 10) n) (rfl) (rfl) (by omega) (by omega) (rfl) (by omega) (rfl) (fun k hk => absurd hk (Nat.not_lt_zero k)) (trivial) (⟨by decide, fun x hx => by cases hx⟩) (rfl) (by omega) hD) hP rfl q1537 q1539 qs73 q116 q1540 mdX6_readsTurn (room_ok hRm rfl) rfl rfl dX6_rota_36 (fun r36 w36 H locs hpo hP _ _ hS => ?_)
      obtain ⟨ok_1, pl_2, fa_3, tm_4, rd_5, i1_6, i2_7, x_8, y_9, F_10, A_11, T_12, f36_0, er36, ew36⟩ := hpo
      rw [ew36] at hP
      refine W_top (y := (bI ok_1)) er36 ?_
      rw [rE_again] at hP
      simp only [rE_f11, rE_f13, rE_f17, rE_f19, rE_g3] at hP
      have hI36 : tnPost (clkW (u.2.1 10) n) (u.2.1 10) n (n - 0) ok_1 pl_2 fa_3 tm_4 rd_5 x_8 y_9 F_10 A_11 T_12 := f36_0
      refine lv_istore_n (lv' := [(2, .int (bI ok_1)), (0, .ref o), (1, .int (nI n))]) hx hb dX6_rota_39 rfl hl (by decide) rfl (fun ls hl => ?_)
      have LP40 : ∀ (fu40 : Nat) (bb : Nat) (ok : Bool) (pl : Int32) (fa : Int32) (tm : Int32) (rd : Int32) (i1 : Int32) (i2 : Int32) (x : Nat → Int32) (y : Nat → Int32) (F : Nat → Int32) (A : Nat → Int32) (T : Nat → Int32) (H : Heap) (locs : List Loc) (ls : Array Slot), bb < fu40 → tnPost (clkW (u.2.1 10) n) (u.2.1 10) n bb ok pl fa tm rd x y F A T → PM G o R (rE u pl fa (nI n) 0 0 (u.1 11) tm rd i1 i2 x y F A T (u.2.1 3)) H → va_S (AM o R) sg.heap H locs → lv_has ls 4 [(0, .ref o), (1, .int (nI n)), (2, .int (bI ok))] → W pg l en Rm sg mm ar bw mth cd H locs 0 0 QQ (F0 mm 40 ls []) := by
        intro fu40
        induction fu40 with
        | zero => intro bb ok pl fa tm rd i1 i2 x y F A T H locs ls hm40 hI hP hS hl; exact absurd hm40 (Nat.not_lt_zero _)
        | succ fu40 ih40 =>
          intro bb ok pl fa tm rd i1 i2 x y F A T H locs ls hm40 hI hP hS hl
          refine lv_iload_n hx hb dX6_rota_40 rfl (lv_at hl 2 rfl) ?_
          refine lv_if_eq (tgt := 70) hx hb dX6_rota_41 (by decide) (fun c41 => ?_) (fun c41 => ?_)
          · have c41 : ok = false := bI_0.mp c41
            obtain ⟨e0, hR, rfl⟩ := tnP_f hI c41
            refine lv_iload_n hx hb dX6_rota_70 rfl (lv_at hl 2 rfl) ?_
            refine lv_if_eq (tgt := 85) hx hb dX6_rota_71 (by decide) (fun c71 => ?_) (fun c71 => ?_)
            · have c71 : ok = false := bI_0.mp c71
              refine lv_iconst (v := 0) hx hb dX6_rota_85 (by decide) ?_
              refine lv_istore_n (lv' := [(2, .int 0), (0, .ref o), (1, .int (nI n))]) hx hb dX6_rota_86 rfl hl (by decide) rfl (fun ls hl => ?_)
              refine lv_aload_n hx hb dX6_rota_87 rfl (lv_at hl 1 rfl) ?_
              refine lv_iconst (v := 0) hx hb dX6_rota_88 (by decide) ?_
              refine M_put hC hK hD hP hS 11 (by decide) (sM11 _ _ _) q1212 rfl dX6_rota_89 (fun H locs hP hS => ?_)
              rw [rE_V11] at hP
              refine lv_iload_n hx hb dX6_rota_92 rfl (lv_at hl 0 rfl) ?_
              refine lv_if_ne (tgt := 101) hx hb dX6_rota_93 (by decide) (fun c93 => ?_) (fun c93 => ?_)
              · exact absurd c93 (by decide)
              · refine lv_aload_n hx hb dX6_rota_96 rfl (lv_at hl 1 rfl) ?_
                refine M_get hC hK hP 14 (by decide) (fM14 _ _) q1215 dX6_rota_97 ?_
                refine W_top (y := (wrI e0.1 e0.2)) (by rw [rE_f14]) ?_
                exact hq _ _ _ _ _ _ dX6_rota_100 hP hS (rfl) (by have hW : roW (u.2.1 10) n (u.1 8) = .inl e0 := roW_f hR; exact ⟨pl, (wrI e0.1 e0.2), (nI n), 0, 0, 0, tm, rd, i1, i2, x, y, F, A, T, (u.2.1 3), by rw [roR, if_pos hg, hnx, hW]; rfl, by rw [if_pos hg], by rw [roR, if_pos hg, hnx, hW]; rfl, rfl⟩)
            · have c71 : ok = true := bI_1.mp c71
              rw [c41] at c71; exact Bool.noConfusion c71
          · have c41 : ok = true := bI_1.mp c41
            obtain ⟨p, m, row, pls, sk, fu, hR, hfu, hpn, hm12, rfl, rfl, rfl, hrw, hsk, hG, hnc, hpb⟩ := tnP_t hI c41
            have hsl := hG.1
            refine lv_aload_n hx hb dX6_rota_44 rfl (lv_at hl 0 rfl) ?_
            refine M_get hC hK hP 12 (by decide) (fM12 _ _) q1213 dX6_rota_45 ?_
            refine W_top (y := (nI p)) (by rw [rE_f12]) ?_
            refine lv_aload_n hx hb dX6_rota_48 rfl (lv_at hl 0 rfl) ?_
            refine M_get hC hK hP 13 (by decide) (fM13 _ _) q1214 dX6_rota_49 ?_
            refine W_top (y := (nI n)) (by rw [rE_f13]) ?_
            refine lv_icmp_lt (tgt := 62) hx hb dX6_rota_52 (by decide) (fun c52 => ?_) (fun c52 => ?_)
            · have c52 : p < n := (nI_ltI (a := p) (b := n) (by first | omega | exact ocN_b _ _ | exact hbN_b _ _ _) (by first | omega | exact ocN_b _ _ | exact hbN_b _ _ _)).mp c52
              have hgo := clk_go (f := (u.2.1 10)) (n := n) (row := row) (pls := pls) (m := m) (show 1 ≤ fu by omega) hnc (by first | exact Or.inl (by omega) | exact Or.inr (fun z => by subst z; exact absurd c59 (by decide)))
              refine lv_aload_n hx hb dX6_rota_62 rfl (lv_at hl 0 rfl) ?_
              refine CMi.call hC hK hS (fun q h => h) hl (c_X6_readsTurn G l o R (rE u (nI p) fa (nI n) 0 0 (u.1 11) (nI m) (nI sk.length) i1 i2 x y F A T (u.2.1 3)) n p m (fu - 1) row pls sk (clkW (u.2.1 10) n) (rfl) (rfl) (by omega) (hpn) (rfl) (hm12) (rfl) (hrw) (hsk) (hG) (hR.trans hgo) (by omega) hD) hP rfl q1537 q1539 qs73 q116 q1540 mdX6_readsTurn (room_ok hRm rfl) rfl rfl dX6_rota_63 (fun r63 w63 H locs hpo hP _ _ hS => ?_)
              obtain ⟨ok_13, pl_14, fa_15, tm_16, rd_17, i1_18, i2_19, x_20, y_21, F_22, A_23, T_24, f63_0, er63, ew63⟩ := hpo
              rw [ew63] at hP
              refine W_top (y := (bI ok_13)) er63 ?_
              rw [rE_again] at hP
              simp only [rE_f11, rE_f13, rE_f17, rE_f19, rE_g3] at hP
              have hI63 : tnPost (clkW (u.2.1 10) n) (u.2.1 10) n (n - p) ok_13 pl_14 fa_15 tm_16 rd_17 x_20 y_21 F_22 A_23 T_24 := f63_0
              refine lv_istore_n (lv' := [(2, .int (bI ok_13)), (0, .ref o), (1, .int (nI n))]) hx hb dX6_rota_66 rfl hl (by decide) rfl (fun ls hl => ?_)
              refine lv_goto (tgt := 40) hx hb dX6_rota_67 (by decide) ?_
              exact ih40 (n - p) ok_13 pl_14 fa_15 tm_16 rd_17 i1_18 i2_19 x_20 y_21 F_22 A_23 T_24 _ _ ls (by omega) (hI63) hP hS (lv_sub hl [1, 2, 0] rfl)
            · have c52 : ¬ (p < n) := mt (nI_ltI (a := p) (b := n) (by first | omega | exact ocN_b _ _ | exact hbN_b _ _ _) (by first | omega | exact ocN_b _ _ | exact hbN_b _ _ _)).mpr c52
              refine lv_aload_n hx hb dX6_rota_55 rfl (lv_at hl 0 rfl) ?_
              refine M_get hC hK hP 47 (by decide) (fM47 _ _) q1248 dX6_rota_56 ?_
              refine W_top (y := (nI sk.length)) (by rw [rE_f47]) ?_
              refine lv_if_le (tgt := 70) hx hb dX6_rota_59 (by decide) (fun c59 => ?_) (fun c59 => ?_)
              · have c59 : sk.length ≤ 0 := (nI_leI (a := sk.length) (b := 0) (by first | omega | exact ocN_b _ _ | exact hbN_b _ _ _) (by first | omega | exact ocN_b _ _ | exact hbN_b _ _ _)).mp c59
                refine lv_iload_n hx hb dX6_rota_70 rfl (lv_at hl 2 rfl) ?_
                refine lv_if_eq (tgt := 85) hx hb dX6_rota_71 (by decide) (fun c71 => ?_) (fun c71 => ?_)
                · have c71 : ok = false := bI_0.mp c71
                  rw [c41] at c71; exact Bool.noConfusion c71
                · have c71 : ok = true := bI_1.mp c71
                  have hR2 : (clkW (u.2.1 10) n) = .inr (m, row, pls) := by rw [hR]; exact clk_end (by omega) (fun z => z.elim (fun z => by omega) (fun z => z (List.length_eq_zero_iff.mp (by omega))))
                  refine lv_aload_n hx hb dX6_rota_74 rfl (lv_at hl 0 rfl) ?_
                  refine CMi.call hC hK hS (fun q h => h) hl (c_X6_areTold G l o R (rE u (nI p) fa (nI n) 0 0 (u.1 11) (nI m) (nI sk.length) i1 i2 x y F A T (u.2.1 3)) m row pls (rfl) (hm12) (hrw) hD) hP rfl q1549 q1551 qs76 q116 q1552 mdX6_areTold (room_ok hRm rfl) rfl rfl dX6_rota_75 (fun r75 w75 H locs hpo hP _ _ hS => ?_)
                  obtain ⟨ok_25, fa_26, f75_0, er75, ew75⟩ := hpo
                  rw [ew75] at hP
                  refine W_top (y := (bI ok_25)) er75 ?_
                  rw [rE_again] at hP
                  simp only [rE_f11, rE_f12, rE_f13, rE_f17, rE_f19, rE_f47, rE_f48, rE_f49, rE_g3, rE_g41, rE_g42, rE_g43, rE_g44, rE_g45] at hP
                  refine lv_if_eq (tgt := 85) hx hb dX6_rota_78 (by decide) (fun c78 => ?_) (fun c78 => ?_)
                  · have c78 : ok_25 = false := bI_0.mp c78
                    obtain ⟨j, hj, rfl⟩ := tdP_f f75_0 c78
                    refine lv_iconst (v := 0) hx hb dX6_rota_85 (by decide) ?_
                    refine lv_istore_n (lv' := [(2, .int 0), (0, .ref o), (1, .int (nI n))]) hx hb dX6_rota_86 rfl hl (by decide) rfl (fun ls hl => ?_)
                    refine lv_aload_n hx hb dX6_rota_87 rfl (lv_at hl 1 rfl) ?_
                    refine lv_iconst (v := 0) hx hb dX6_rota_88 (by decide) ?_
                    refine M_put hC hK hD hP hS 11 (by decide) (sM11 _ _ _) q1212 rfl dX6_rota_89 (fun H locs hP hS => ?_)
                    rw [rE_V11] at hP
                    refine lv_iload_n hx hb dX6_rota_92 rfl (lv_at hl 0 rfl) ?_
                    refine lv_if_ne (tgt := 101) hx hb dX6_rota_93 (by decide) (fun c93 => ?_) (fun c93 => ?_)
                    · exact absurd c93 (by decide)
                    · refine lv_aload_n hx hb dX6_rota_96 rfl (lv_at hl 1 rfl) ?_
                      refine M_get hC hK hP 14 (by decide) (fM14 _ _) q1215 dX6_rota_97 ?_
                      refine W_top (y := (wrI 7 (pls j))) (by rw [rE_f14]) ?_
                      exact hq _ _ _ _ _ _ dX6_rota_100 hP hS (rfl) (by have hW : roW (u.2.1 10) n (u.1 8) = .inl (7, pls j) := roW_7 hR2 hj; exact ⟨(nI p), (wrI 7 (pls j)), (nI n), 0, 0, 0, (nI m), (nI sk.length), i1, i2, x, y, F, A, T, (u.2.1 3), by rw [roR, if_pos hg, hnx, hW]; rfl, by rw [if_pos hg], by rw [roR, if_pos hg, hnx, hW]; rfl, rfl⟩)
                  · have c78 : ok_25 = true := bI_1.mp c78
                    have htd := tdP_t f75_0 c78
                    refine lv_iconst (v := 1) hx hb dX6_rota_81 (by decide) ?_
                    refine lv_goto (tgt := 86) hx hb dX6_rota_82 (by decide) ?_
                    refine lv_istore_n (lv' := [(2, .int 1), (0, .ref o), (1, .int (nI n))]) hx hb dX6_rota_86 rfl hl (by decide) rfl (fun ls hl => ?_)
                    refine lv_aload_n hx hb dX6_rota_87 rfl (lv_at hl 1 rfl) ?_
                    refine lv_iconst (v := 0) hx hb dX6_rota_88 (by decide) ?_
                    refine M_put hC hK hD hP hS 11 (by decide) (sM11 _ _ _) q1212 rfl dX6_rota_89 (fun H locs hP hS => ?_)
                    rw [rE_V11] at hP
                    refine lv_iload_n hx hb dX6_rota_92 rfl (lv_at hl 0 rfl) ?_
                    refine lv_if_ne (tgt := 101) hx hb dX6_rota_93 (by decide) (fun c93 => ?_) (fun c93 => ?_)
                    · refine lv_iconst (v := 0) hx hb dX6_rota_101 (by decide) ?_
                      refine lv_istore_n (lv' := [(3, .int 0), (2, .int 1), (0, .ref o), (1, .int (nI n))]) hx hb dX6_rota_102 rfl hl (by decide) rfl (fun ls hl => ?_)
                      have LP103 : ∀ (fu103 : Nat) (t : Nat) (ro : Nat → Int32) (H : Heap) (locs : List Loc) (ls : Array Slot), 12 - t < fu103 → t ≤ 12 → roC row m t ro → PM G o R (rE u (nI p) fa_26 (nI n) 0 0 0 (nI m) (nI sk.length) i1 i2 x y F A T ro) H → va_S (AM o R) sg.heap H locs → lv_has ls 4 [(0, .ref o), (1, .int (nI n)), (2, .int 1), (3, .int (nI t))] → W pg l en Rm sg mm ar bw mth cd H locs 0 0 QQ (F0 mm 103 ls []) := by
                        intro fu103
                        induction fu103 with
                        | zero => intro t ro H locs ls hm103 ht hro hP hS hl; exact absurd hm103 (Nat.not_lt_zero _)
                        | succ fu103 ih103 =>
                          intro t ro H locs ls hm103 ht hro hP hS hl
                          refine lv_iload_n hx hb dX6_rota_103 rfl (lv_at hl 3 rfl) ?_
                          refine lv_bipush (v := 12) hx hb dX6_rota_104 (by decide) ?_
                          refine lv_icmp_ge (tgt := 139) hx hb dX6_rota_106 (by decide) (fun c106 => ?_) (fun c106 => ?_)
                          · have c106 : 12 ≤ t := (nI_leI (a := 12) (b := t) (by first | omega | exact ocN_b _ _ | exact hbN_b _ _ _) (by first | omega | exact ocN_b _ _ | exact hbN_b _ _ _)).mp c106
                            refine lv_aload_n hx hb dX6_rota_139 rfl (lv_at hl 0 rfl) ?_
                            refine M_get hC hK hP 46 (by decide) (fM46 _ _) q1247 dX6_rota_140 ?_
                            refine W_top (y := (nI m)) (by rw [rE_f46]) ?_
                            exact hq _ _ _ _ _ _ dX6_rota_143 hP hS (rfl) (by have e12 : t = 12 := (by omega); subst e12; have hW : roW (u.2.1 10) n (u.1 8) = .inr (m, row, pls) := roW_t hR2 htd; exact ⟨(nI p), fa_26, (nI n), 0, 0, 0, (nI m), (nI sk.length), i1, i2, x, y, F, A, T, ro, by rw [roR, if_pos hg, hnx, hW]; exact hro, by rw [if_pos hg], by rw [roR, if_pos hg, hnx, hW]; rfl, rfl⟩)
                          · have c106 : ¬ (12 ≤ t) := mt (nI_leI (a := 12) (b := t) (by first | omega | exact ocN_b _ _ | exact hbN_b _ _ _) (by first | omega | exact ocN_b _ _ | exact hbN_b _ _ _)).mpr c106
                            refine lv_aload_n hx hb dX6_rota_109 rfl (lv_at hl 0 rfl) ?_
                            refine M_get hC hK hP 3 (by decide) (fM3 _ _) q1204 dX6_rota_110 ?_
                            refine lv_iload_n hx hb dX6_rota_113 rfl (lv_at hl 3 rfl) ?_
                            refine lv_iload_n hx hb dX6_rota_114 rfl (lv_at hl 3 rfl) ?_
                            refine lv_aload_n hx hb dX6_rota_115 rfl (lv_at hl 0 rfl) ?_
                            refine M_get hC hK hP 46 (by decide) (fM46 _ _) q1247 dX6_rota_116 ?_
                            refine W_top (y := (nI m)) (by rw [rE_f46]) ?_
                            refine lv_icmp_ge (tgt := 131) hx hb dX6_rota_119 (by decide) (fun c119 => ?_) (fun c119 => ?_)
                            · have c119 : m ≤ t := (nI_leI (a := m) (b := t) (by first | omega | exact ocN_b _ _ | exact hbN_b _ _ _) (by first | omega | exact ocN_b _ _ | exact hbN_b _ _ _)).mp c119
                              refine lv_iconst (v := (-1)) hx hb dX6_rota_131 (by decide) ?_
                              refine M_ast hC hK hD hP hS 3 4 12 t (aM3 _ _ _ _) (bM3 _ _ _ _ _ _) (by decide) (rfl) (by omega) dX6_rota_132 (fun H locs hP hS => ?_)
                              rw [rE_A3] at hP
                              refine lv_iinc (v := (nI (t + 1))) (lv' := [(3, .int (nI (t + 1))), (0, .ref o), (1, .int (nI n)), (2, .int 1)]) hx hb dX6_rota_133 hl (k := 3) rfl (nI_inc t) (by decide) rfl (fun ls hl => ?_)
                              refine lv_goto (tgt := 103) hx hb dX6_rota_136 (by decide) ?_
                              exact ih103 (t + 1) (upd ro t (-1)) _ _ ls (by omega) (by first | omega | assumption | rfl | (simp_all; done) | grind) (by first | exact roC_s hro (if_pos (by omega)).symm | exact roC_s hro (if_neg (by omega)).symm) hP hS (lv_sub hl [1, 2, 3, 0] rfl)
                            · have c119 : ¬ (m ≤ t) := mt (nI_leI (a := m) (b := t) (by first | omega | exact ocN_b _ _ | exact hbN_b _ _ _) (by first | omega | exact ocN_b _ _ | exact hbN_b _ _ _)).mpr c119
                              refine lv_aload_n hx hb dX6_rota_122 rfl (lv_at hl 0 rfl) ?_
                              refine M_get hC hK hP 41 (by decide) (fM41 _ _) q1242 dX6_rota_123 ?_
                              refine lv_iload_n hx hb dX6_rota_126 rfl (lv_at hl 3 rfl) ?_
                              refine M_ald hC hK hP 41 27 12 t (aM41 _ _ _ _) (by decide) (rfl) (by omega) dX6_rota_127 ?_
                              refine W_top (y := (x t)) (by rw [rE_g41]) ?_
                              refine W_top (y := (row t)) ((hrw t (by omega)).1) ?_
                              refine lv_goto (tgt := 132) hx hb dX6_rota_128 (by decide) ?_
                              refine M_ast hC hK hD hP hS 3 4 12 t (aM3 _ _ _ _) (bM3 _ _ _ _ _ _) (by decide) (rfl) (by omega) dX6_rota_132 (fun H locs hP hS => ?_)
                              rw [rE_A3] at hP
                              refine lv_iinc (v := (nI (t + 1))) (lv' := [(3, .int (nI (t + 1))), (0, .ref o), (1, .int (nI n)), (2, .int 1)]) hx hb dX6_rota_133 hl (k := 3) rfl (nI_inc t) (by decide) rfl (fun ls hl => ?_)
                              refine lv_goto (tgt := 103) hx hb dX6_rota_136 (by decide) ?_
                              exact ih103 (t + 1) (upd ro t (row t)) _ _ ls (by omega) (by first | omega | assumption | rfl | (simp_all; done) | grind) (by first | exact roC_s hro (if_pos (by omega)).symm | exact roC_s hro (if_neg (by omega)).symm) hP hS (lv_sub hl [1, 2, 3, 0] rfl)
                      exact LP103 _ 0 (u.2.1 3) _ _ ls (Nat.lt_succ_self _) (by first | omega | assumption | rfl | (simp_all; done) | grind) (fun t h => absurd h (Nat.not_lt_zero t)) hP hS (lv_sub hl [2, 3, 1, 0] rfl)
                    · exact absurd c93 (by decide)
              · have c59 : ¬ (sk.length ≤ 0) := mt (nI_leI (a := sk.length) (b := 0) (by first | omega | exact ocN_b _ _ | exact hbN_b _ _ _) (by first | omega | exact ocN_b _ _ | exact hbN_b _ _ _)).mpr c59
                have hgo := clk_go (f := (u.2.1 10)) (n := n) (row := row) (pls := pls) (m := m) (show 1 ≤ fu by omega) hnc (by first | exact Or.inl (by omega) | exact Or.inr (fun z => by subst z; exact absurd c59 (by decide)))
                refine lv_aload_n hx hb dX6_rota_62 rfl (lv_at hl 0 rfl) ?_
                refine CMi.call hC hK hS (fun q h => h) hl (c_X6_readsTurn G l o R (rE u (nI p) fa (nI n) 0 0 (u.1 11) (nI m) (nI sk.length) i1 i2 x y F A T (u.2.1 3)) n p m (fu - 1) row pls sk (clkW (u.2.1 10) n) (rfl) (rfl) (by omega) (hpn) (rfl) (hm12) (rfl) (hrw) (hsk) (hG) (hR.trans hgo) (by omega) hD) hP rfl q1537 q1539 qs73 q116 q1540 mdX6_readsTurn (room_ok hRm rfl) rfl rfl dX6_rota_63 (fun r63 w63 H locs hpo hP _ _ hS => ?_)
                obtain ⟨ok_27, pl_28, fa_29, tm_30, rd_31, i1_32, i2_33, x_34, y_35, F_36, A_37, T_38, f63_0, er63, ew63⟩ := hpo
                rw [ew63] at hP
                refine W_top (y := (bI ok_27)) er63 ?_
                rw [rE_again] at hP
                simp only [rE_f11, rE_f13, rE_f17, rE_f19, rE_g3] at hP
                have hI63 : tnPost (clkW (u.2.1 10) n) (u.2.1 10) n (n - p) ok_27 pl_28 fa_29 tm_30 rd_31 x_34 y_35 F_36 A_37 T_38 := f63_0
                refine lv_istore_n (lv' := [(2, .int (bI ok_27)), (0, .ref o), (1, .int (nI n))]) hx hb dX6_rota_66 rfl hl (by decide) rfl (fun ls hl => ?_)
                refine lv_goto (tgt := 40) hx hb dX6_rota_67 (by decide) ?_
                exact ih40 (n - p) ok_27 pl_28 fa_29 tm_30 rd_31 i1_32 i2_33 x_34 y_35 F_36 A_37 T_38 _ _ ls (by omega) (hI63) hP hS (lv_sub hl [1, 2, 0] rfl)
      exact LP40 _ (n - 0) ok_1 pl_2 fa_3 tm_4 rd_5 i1_6 i2_7 x_8 y_9 F_10 A_11 T_12 _ _ ls (Nat.lt_succ_self _) (hI36) hP hS (lv_sub hl [1, 2, 0] rfl)
    · refine lv_iconst (v := (-1)) hx hb dX6_rota_18 (by decide) ?_
      exact hq _ _ _ _ _ _ dX6_rota_19 hP hS (rfl) (by have hg : ¬ roG (u.1 11) (nI n) = true := (by simp [roG, c7, c15]); exact ⟨(u.1 12), (u.1 14), (u.1 13), (u.1 17), (u.1 19), (u.1 11), (u.1 46), (u.1 47), (u.1 48), (u.1 49), (u.2.1 41), (u.2.1 42), (u.2.1 43), (u.2.1 44), (u.2.1 45), (u.2.1 3), by rw [roR, if_neg hg]; rfl, by rw [if_neg hg], by rw [roR, if_neg hg]; rfl, rfl⟩)
