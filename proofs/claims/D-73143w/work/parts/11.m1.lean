set_option maxRecDepth 100000
set_option maxHeartbeats 4000000 in
theorem c_X6_in (G : GG) (l : Launch) (v : Int32) (lo : Int32) (hi : Int32) : CI G l yX6_in cX6_in 3 .boolean 2 16 [.int v, .int lo, .int hi] (fun _ => True) (bI (inB v lo hi)) := by
  refine CI.mk RX6 pnX6 rfl (bI_nar _) (Nat.le_of_ble_eq_true rfl) (fun pg en Rm sg mm ar bw mth cd QQ ls hC hRm hK hP hl hq => ?_)
  have hx := hC.1; have hb := hC.2.1; have ho := hC.2.2.2.1; have hts := hC.2.2.2.2
  have hl : lv_has ls 3 [(0, .int v), (1, .int lo), (2, .int hi)] := hl
  refine lv_iload_n hx hb dX6_in_0 rfl (lv_at hl 0 rfl) ?_
  refine lv_iload_n hx hb dX6_in_1 rfl (lv_at hl 1 rfl) ?_
  refine lv_icmp_lt (tgt := 14) hx hb dX6_in_2 (by decide) (fun c2 => ?_) (fun c2 => ?_)
  · refine lv_iconst (v := 0) hx hb dX6_in_14 (by decide) ?_
    exact hq _ _ _ dX6_in_15 (by grind [inB, bI])
  · refine lv_iload_n hx hb dX6_in_5 rfl (lv_at hl 0 rfl) ?_
    refine lv_iload_n hx hb dX6_in_6 rfl (lv_at hl 2 rfl) ?_
    refine lv_icmp_gt (tgt := 14) hx hb dX6_in_7 (by decide) (fun c7 => ?_) (fun c7 => ?_)
    · refine lv_iconst (v := 0) hx hb dX6_in_14 (by decide) ?_
      exact hq _ _ _ dX6_in_15 (by grind [inB, bI])
    · refine lv_iconst (v := 1) hx hb dX6_in_10 (by decide) ?_
      refine lv_goto (tgt := 15) hx hb dX6_in_11 (by decide) ?_
      exact hq _ _ _ dX6_in_15 (by grind [inB, bI])
set_option maxHeartbeats 4000000 in
theorem c_X6_min (G : GG) (l : Launch) (a : Int32) (b : Int32) : CI G l yX6_min cX6_min 2 .int 2 16 [.int a, .int b] (fun _ => True) (mnI a b) := by
  refine CI.mk RX6 pnX6 rfl (rfl) (Nat.le_of_ble_eq_true rfl) (fun pg en Rm sg mm ar bw mth cd QQ ls hC hRm hK hP hl hq => ?_)
  have hx := hC.1; have hb := hC.2.1; have ho := hC.2.2.2.1; have hts := hC.2.2.2.2
  have hl : lv_has ls 2 [(0, .int a), (1, .int b)] := hl
  refine lv_iload_n hx hb dX6_min_0 rfl (lv_at hl 0 rfl) ?_
  refine lv_iload_n hx hb dX6_min_1 rfl (lv_at hl 1 rfl) ?_
  refine lv_icmp_ge (tgt := 9) hx hb dX6_min_2 (by decide) (fun c2 => ?_) (fun c2 => ?_)
  · refine lv_iload_n hx hb dX6_min_9 rfl (lv_at hl 1 rfl) ?_
    exact hq _ _ _ dX6_min_10 (by grind [mnI])
  · refine lv_iload_n hx hb dX6_min_5 rfl (lv_at hl 0 rfl) ?_
    refine lv_goto (tgt := 10) hx hb dX6_min_6 (by decide) ?_
    exact hq _ _ _ dX6_min_10 (by grind [mnI])
set_option maxHeartbeats 4000000 in
theorem c_X6_max (G : GG) (l : Launch) (a : Int32) (b : Int32) : CI G l yX6_max cX6_max 2 .int 2 16 [.int a, .int b] (fun _ => True) (mxI a b) := by
  refine CI.mk RX6 pnX6 rfl (rfl) (Nat.le_of_ble_eq_true rfl) (fun pg en Rm sg mm ar bw mth cd QQ ls hC hRm hK hP hl hq => ?_)
  have hx := hC.1; have hb := hC.2.1; have ho := hC.2.2.2.1; have hts := hC.2.2.2.2
  have hl : lv_has ls 2 [(0, .int a), (1, .int b)] := hl
  refine lv_iload_n hx hb dX6_max_0 rfl (lv_at hl 0 rfl) ?_
  refine lv_iload_n hx hb dX6_max_1 rfl (lv_at hl 1 rfl) ?_
  refine lv_icmp_le (tgt := 9) hx hb dX6_max_2 (by decide) (fun c2 => ?_) (fun c2 => ?_)
  · refine lv_iload_n hx hb dX6_max_9 rfl (lv_at hl 1 rfl) ?_
    exact hq _ _ _ dX6_max_10 (by grind [mxI])
  · refine lv_iload_n hx hb dX6_max_5 rfl (lv_at hl 0 rfl) ?_
    refine lv_goto (tgt := 10) hx hb dX6_max_6 (by decide) ?_
    exact hq _ _ _ dX6_max_10 (by grind [mxI])
set_option maxHeartbeats 4000000 in
theorem c_X6_size (G : GG) (l : Launch) (a : Int32) : CI G l yX6_size cX6_size 1 .int 2 16 [.int a] (fun _ => True) (abI a) := by
  refine CI.mk RX6 pnX6 rfl (rfl) (Nat.le_of_ble_eq_true rfl) (fun pg en Rm sg mm ar bw mth cd QQ ls hC hRm hK hP hl hq => ?_)
  have hx := hC.1; have hb := hC.2.1; have ho := hC.2.2.2.1; have hts := hC.2.2.2.2
  have hl : lv_has ls 1 [(0, .int a)] := hl
  refine lv_iload_n hx hb dX6_size_0 rfl (lv_at hl 0 rfl) ?_
  refine lv_if_ge (tgt := 9) hx hb dX6_size_1 (by decide) (fun c1 => ?_) (fun c1 => ?_)
  · refine lv_iload_n hx hb dX6_size_9 rfl (lv_at hl 0 rfl) ?_
    exact hq _ _ _ dX6_size_10 (by grind [abI])
  · refine lv_iload_n hx hb dX6_size_4 rfl (lv_at hl 0 rfl) ?_
    refine lv_ineg hx hb dX6_size_5 ?_
    refine lv_goto (tgt := 10) hx hb dX6_size_6 (by decide) ?_
    exact hq _ _ _ dX6_size_10 (by grind [abI])
set_option maxHeartbeats 4000000 in
theorem c_X6_has (G : GG) (l : Launch) (set : Int32) (k : Int32) : CI G l yX6_has cX6_has 2 .boolean 2 16 [.int set, .int k] (fun _ => True) (bI (hasB set k)) := by
  refine CI.mk RX6 pnX6 rfl (bI_nar _) (Nat.le_of_ble_eq_true rfl) (fun pg en Rm sg mm ar bw mth cd QQ ls hC hRm hK hP hl hq => ?_)
  have hx := hC.1; have hb := hC.2.1; have ho := hC.2.2.2.1; have hts := hC.2.2.2.2
  have hl : lv_has ls 2 [(0, .int set), (1, .int k)] := hl
  refine lv_iload_n hx hb dX6_has_0 rfl (lv_at hl 0 rfl) ?_
  refine lv_iload_n hx hb dX6_has_1 rfl (lv_at hl 1 rfl) ?_
  refine lv_ishr hx hb dX6_has_2 ?_
  refine lv_iconst (v := 1) hx hb dX6_has_3 (by decide) ?_
  refine lv_iand hx hb dX6_has_4 ?_
  refine lv_iconst (v := 1) hx hb dX6_has_5 (by decide) ?_
  refine lv_icmp_ne (tgt := 13) hx hb dX6_has_6 (by decide) (fun c6 => ?_) (fun c6 => ?_)
  · refine lv_iconst (v := 0) hx hb dX6_has_13 (by decide) ?_
    exact hq _ _ _ dX6_has_14 (by grind [hasB, bI])
  · refine lv_iconst (v := 1) hx hb dX6_has_9 (by decide) ?_
    refine lv_goto (tgt := 14) hx hb dX6_has_10 (by decide) ?_
    exact hq _ _ _ dX6_has_14 (by grind [hasB, bI])
set_option maxHeartbeats 4000000 in
theorem c_X6_isTurn (G : GG) (l : Launch) (t : Int32) : CI G l yX6_isTurn cX6_isTurn 1 .boolean 3 38 [.int t] (fun _ => True) (bI (isTurnB t)) := by
  refine CI.mk RX6 pnX6 rfl (bI_nar _) (Nat.le_of_ble_eq_true rfl) (fun pg en Rm sg mm ar bw mth cd QQ ls hC hRm hK hP hl hq => ?_)
  have hx := hC.1; have hb := hC.2.1; have ho := hC.2.2.2.1; have hts := hC.2.2.2.2
  have hl : lv_has ls 1 [(0, .int t)] := hl
  refine lv_iload_n hx hb dX6_isTurn_0 rfl (lv_at hl 0 rfl) ?_
  refine lv_iconst (v := 0) hx hb dX6_isTurn_1 (by decide) ?_
  refine lv_bipush (v := 11) hx hb dX6_isTurn_2 (by decide) ?_
  refine CI.callS hC hK hl (c_X6_in G l t 0 11 ) trivial q1392 q1393 q116 q1394 mdX6_in (room_ok hRm rfl) rfl rfl dX6_isTurn_4 ?_
  exact hq _ _ _ dX6_isTurn_7 (by exact rfl)
set_option maxHeartbeats 4000000 in
theorem c_X6_isHouse (G : GG) (l : Launch) (o : Nat) (R : Nat → Nat) (u : MS) (h : Int32) : CI G l yX6_isHouse cX6_isHouse 2 .boolean 3 38 [.ref o, .int h] (PM G o R u) (bI (isHouseB (u.1 8) h)) := by
  refine CI.mk RX6 pnX6 rfl (bI_nar _) (Nat.le_of_ble_eq_true rfl) (fun pg en Rm sg mm ar bw mth cd QQ ls hC hRm hK hP hl hq => ?_)
  have hx := hC.1; have hb := hC.2.1; have ho := hC.2.2.2.1; have hts := hC.2.2.2.2
  have hl : lv_has ls 2 [(0, .ref o), (1, .int h)] := hl
  refine lv_iload_n hx hb dX6_isHouse_0 rfl (lv_at hl 1 rfl) ?_
  refine lv_iconst (v := 0) hx hb dX6_isHouse_1 (by decide) ?_
  refine lv_bipush (v := 15) hx hb dX6_isHouse_2 (by decide) ?_
  refine CI.callS hC hK hl (c_X6_in G l h 0 15 ) trivial q1392 q1393 q116 q1394 mdX6_in (room_ok hRm rfl) rfl rfl dX6_isHouse_4 ?_
  refine lv_if_eq (tgt := 25) hx hb dX6_isHouse_7 (by decide) (fun c7 => ?_) (fun c7 => ?_)
  · have c7 : (inB h 0 15) = false := bI_0.mp c7
    refine lv_iconst (v := 0) hx hb dX6_isHouse_25 (by decide) ?_
    exact hq _ _ _ dX6_isHouse_26 (by grind [isHouseB, bI])
  · have c7 : (inB h 0 15) = true := bI_1.mp c7
    refine lv_aload_n hx hb dX6_isHouse_10 rfl (lv_at hl 0 rfl) ?_
    refine M_get (v := .int (u.1 8)) hC hK hP 8 (by decide) (fM8 _ _) q1209 dX6_isHouse_11 ?_
    refine lv_iload_n hx hb dX6_isHouse_14 rfl (lv_at hl 1 rfl) ?_
    refine CI.callS hC hK hl (c_X6_has G l (u.1 8) h ) trivial q1399 q1400 q116 q1401 mdX6_has (room_ok hRm rfl) rfl rfl dX6_isHouse_15 ?_
    refine lv_if_eq (tgt := 25) hx hb dX6_isHouse_18 (by decide) (fun c18 => ?_) (fun c18 => ?_)
    · have c18 : (hasB (u.1 8) h) = false := bI_0.mp c18
      refine lv_iconst (v := 0) hx hb dX6_isHouse_25 (by decide) ?_
      exact hq _ _ _ dX6_isHouse_26 (by grind [isHouseB, bI])
    · have c18 : (hasB (u.1 8) h) = true := bI_1.mp c18
      refine lv_iconst (v := 1) hx hb dX6_isHouse_21 (by decide) ?_
      refine lv_goto (tgt := 26) hx hb dX6_isHouse_22 (by decide) ?_
      exact hq _ _ _ dX6_isHouse_26 (by grind [isHouseB, bI])
set_option maxHeartbeats 4000000 in
theorem c_X6_isThing (G : GG) (l : Launch) (o : Nat) (R : Nat → Nat) (u : MS) (h : Int32) : CI G l yX6_isThing cX6_isThing 2 .boolean 3 38 [.ref o, .int h] (PM G o R u) (bI (isHouseB (u.1 9) h)) := by
  refine CI.mk RX6 pnX6 rfl (bI_nar _) (Nat.le_of_ble_eq_true rfl) (fun pg en Rm sg mm ar bw mth cd QQ ls hC hRm hK hP hl hq => ?_)
  have hx := hC.1; have hb := hC.2.1; have ho := hC.2.2.2.1; have hts := hC.2.2.2.2
  have hl : lv_has ls 2 [(0, .ref o), (1, .int h)] := hl
  refine lv_iload_n hx hb dX6_isThing_0 rfl (lv_at hl 1 rfl) ?_
  refine lv_iconst (v := 0) hx hb dX6_isThing_1 (by decide) ?_
  refine lv_bipush (v := 15) hx hb dX6_isThing_2 (by decide) ?_
  refine CI.callS hC hK hl (c_X6_in G l h 0 15 ) trivial q1392 q1393 q116 q1394 mdX6_in (room_ok hRm rfl) rfl rfl dX6_isThing_4 ?_
  refine lv_if_eq (tgt := 25) hx hb dX6_isThing_7 (by decide) (fun c7 => ?_) (fun c7 => ?_)
  · have c7 : (inB h 0 15) = false := bI_0.mp c7
    refine lv_iconst (v := 0) hx hb dX6_isThing_25 (by decide) ?_
    exact hq _ _ _ dX6_isThing_26 (by grind [isHouseB, bI])
  · have c7 : (inB h 0 15) = true := bI_1.mp c7
    refine lv_aload_n hx hb dX6_isThing_10 rfl (lv_at hl 0 rfl) ?_
    refine M_get (v := .int (u.1 9)) hC hK hP 9 (by decide) (fM9 _ _) q1210 dX6_isThing_11 ?_
    refine lv_iload_n hx hb dX6_isThing_14 rfl (lv_at hl 1 rfl) ?_
    refine CI.callS hC hK hl (c_X6_has G l (u.1 9) h ) trivial q1399 q1400 q116 q1401 mdX6_has (room_ok hRm rfl) rfl rfl dX6_isThing_15 ?_
    refine lv_if_eq (tgt := 25) hx hb dX6_isThing_18 (by decide) (fun c18 => ?_) (fun c18 => ?_)
    · have c18 : (hasB (u.1 9) h) = false := bI_0.mp c18
      refine lv_iconst (v := 0) hx hb dX6_isThing_25 (by decide) ?_
      exact hq _ _ _ dX6_isThing_26 (by grind [isHouseB, bI])
    · have c18 : (hasB (u.1 9) h) = true := bI_1.mp c18
      refine lv_iconst (v := 1) hx hb dX6_isThing_21 (by decide) ?_
      refine lv_goto (tgt := 26) hx hb dX6_isThing_22 (by decide) ?_
      exact hq _ _ _ dX6_isThing_26 (by grind [isHouseB, bI])
set_option maxHeartbeats 4000000 in
theorem c_X6_bits (G : GG) (l : Launch) (set : Int32) : CI G l yX6_bits cX6_bits 3 .int 2 16 [.int set] (fun _ => True) (bitsI set) := by
  refine CI.mk RX6 pnX6 rfl (rfl) (Nat.le_of_ble_eq_true rfl) (fun pg en Rm sg mm ar bw mth cd QQ ls hC hRm hK hP hl hq => ?_)
  have hx := hC.1; have hb := hC.2.1; have ho := hC.2.2.2.1; have hts := hC.2.2.2.2
  have hl : lv_has ls 3 [(0, .int set)] := hl
  refine lv_iconst (v := 0) hx hb dX6_bits_0 (by decide) ?_
  refine lv_istore_n (lv' := [(1, .int 0), (0, .int set)]) hx hb dX6_bits_1 rfl hl (by decide) rfl (fun ls hl => ?_)
  refine lv_iconst (v := 0) hx hb dX6_bits_2 (by decide) ?_
  refine lv_istore_n (lv' := [(2, .int 0), (1, .int 0), (0, .int set)]) hx hb dX6_bits_3 rfl hl (by decide) rfl (fun ls hl => ?_)
  have LP4 : ∀ (fu4 : Nat) (k : Nat) (n : Int32) (ls : Array Slot), 16 - k < fu4 → k ≤ 16 → n = bitsN set k → lv_has ls 3 [(0, .int set), (1, .int n), (2, .int (nI k))] → W pg l en Rm sg mm ar bw mth cd sg.heap [] 0 0 QQ (F0 mm 4 ls []) := by
    intro fu4
    induction fu4 with
    | zero => intro k n ls hm4 hk hn hl; exact absurd hm4 (Nat.not_lt_zero _)
    | succ fu4 ih4 =>
      intro k n ls hm4 hk hn hl
      refine lv_iload_n hx hb dX6_bits_4 rfl (lv_at hl 2 rfl) ?_
      refine lv_bipush (v := 16) hx hb dX6_bits_5 (by decide) ?_
      refine lv_icmp_ge (tgt := 24) hx hb dX6_bits_7 (by decide) (fun c7 => ?_) (fun c7 => ?_)
      · have c7 : 16 ≤ k := (nI_leI (a := 16) (b := k) (by omega) (by omega)).mp c7
        refine lv_iload_n hx hb dX6_bits_24 rfl (lv_at hl 1 rfl) ?_
        exact hq _ _ _ dX6_bits_25 (by have hfin : k = 16 := (by omega); subst hfin; exact hn)
      · have c7 : ¬ (16 ≤ k) := mt (nI_leI (a := 16) (b := k) (by omega) (by omega)).mpr c7
        refine lv_iload_n hx hb dX6_bits_10 rfl (lv_at hl 1 rfl) ?_
        refine lv_iload_n hx hb dX6_bits_11 rfl (lv_at hl 0 rfl) ?_
        refine lv_iload_n hx hb dX6_bits_12 rfl (lv_at hl 2 rfl) ?_
        refine lv_ishr hx hb dX6_bits_13 ?_
        refine lv_iconst (v := 1) hx hb dX6_bits_14 (by decide) ?_
        refine lv_iand hx hb dX6_bits_15 ?_
        refine lv_iadd hx hb dX6_bits_16 ?_
        refine lv_istore_n (lv' := [(1, .int (n + ((set >>> ((nI k) &&& 31)) &&& 1))), (0, .int set), (2, .int (nI k))]) hx hb dX6_bits_17 rfl hl (by decide) rfl (fun ls hl => ?_)
        refine lv_iinc (v := (nI (k + 1))) (lv' := [(2, .int (nI (k + 1))), (1, .int (n + ((set >>> ((nI k) &&& 31)) &&& 1))), (0, .int set)]) hx hb dX6_bits_18 hl (k := 2) rfl (nI_inc k) (by decide) rfl (fun ls hl => ?_)
        refine lv_goto (tgt := 4) hx hb dX6_bits_21 (by decide) ?_
        exact ih4 (k + 1) (n + ((set >>> ((nI k) &&& 31)) &&& 1)) ls (by omega) (by first | omega | assumption | rfl | (simp_all; done) | grind) (by rw [hn]; rfl)  (lv_sub hl [2, 1, 0] rfl)
  exact LP4 _ 0 0 ls (Nat.lt_succ_self _) (by first | omega | assumption | rfl | (simp_all; done) | grind) (rfl)  (lv_sub hl [2, 1, 0] rfl)
set_option maxHeartbeats 4000000 in
theorem c_X6_lowest (G : GG) (l : Launch) (set : Int32) (j : Nat) (hj : j < 16 ∧ hasB set (nI j) = true ∧ ∀ i, i < j → hasB set (nI i) = false) : CI G l yX6_lowest cX6_lowest 2 .int 3 37 [.int set] (fun _ => True) (nI j) := by
  refine CI.mk RX6 pnX6 rfl (rfl) (Nat.le_of_ble_eq_true rfl) (fun pg en Rm sg mm ar bw mth cd QQ ls hC hRm hK hP hl hq => ?_)
  have hx := hC.1; have hb := hC.2.1; have ho := hC.2.2.2.1; have hts := hC.2.2.2.2
  have hl : lv_has ls 2 [(0, .int set)] := hl
  refine lv_iconst (v := 0) hx hb dX6_lowest_0 (by decide) ?_
  refine lv_istore_n (lv' := [(1, .int 0), (0, .int set)]) hx hb dX6_lowest_1 rfl hl (by decide) rfl (fun ls hl => ?_)
  have LP2 : ∀ (fu2 : Nat) (k : Nat) (ls : Array Slot), j - k < fu2 → k ≤ j → lv_has ls 2 [(0, .int set), (1, .int (nI k))] → W pg l en Rm sg mm ar bw mth cd sg.heap [] 0 0 QQ (F0 mm 2 ls []) := by
    intro fu2
    induction fu2 with
    | zero => intro k ls hm2 i2_0 hl; exact absurd hm2 (Nat.not_lt_zero _)
    | succ fu2 ih2 =>
      intro k ls hm2 i2_0 hl
      refine lv_iload_n hx hb dX6_lowest_2 rfl (lv_at hl 0 rfl) ?_
      refine lv_iload_n hx hb dX6_lowest_3 rfl (lv_at hl 1 rfl) ?_
      refine CI.callS hC hK hl (c_X6_has G l set (nI k) ) trivial q1399 q1400 q116 q1401 mdX6_has (room_ok hRm rfl) rfl rfl dX6_lowest_4 ?_
      refine lv_if_ne (tgt := 17) hx hb dX6_lowest_7 (by decide) (fun c7 => ?_) (fun c7 => ?_)
      · have c7 : (hasB set (nI k)) = true := bI_1.mp c7
        refine lv_iload_n hx hb dX6_lowest_17 rfl (lv_at hl 1 rfl) ?_
        exact hq _ _ _ dX6_lowest_18 (by have : k = j := (by have h := hj.2.2 k; (clear hq hP hK hts hC hx hb ho hRm hl ih2); grind); subst this; rfl)
      · have c7 : (hasB set (nI k)) = false := bI_0.mp c7
        refine lv_iload_n hx hb dX6_lowest_10 rfl (lv_at hl 1 rfl) ?_
        refine lv_iconst (v := 1) hx hb dX6_lowest_11 (by decide) ?_
        refine lv_iadd hx hb dX6_lowest_12 ?_
        refine W_top (nI_add k 1) ?_
        refine lv_istore_n (lv' := [(1, .int (nI (k + 1))), (0, .int set)]) hx hb dX6_lowest_13 rfl hl (by decide) rfl (fun ls hl => ?_)
        refine lv_goto (tgt := 2) hx hb dX6_lowest_14 (by decide) ?_
        exact ih2 (k + 1) ls (by have hkj : k ≠ j := (by intro h; subst h; simp_all); omega) (by (have hkj : k ≠ j := (by intro h; subst h; simp_all)); omega)  (lv_sub hl [1, 0] rfl)
  exact LP2 _ 0 ls (Nat.lt_succ_self _) (by first | omega | assumption | rfl | (simp_all; done) | grind)  (lv_sub hl [1, 0] rfl)
set_option maxHeartbeats 4000000 in
theorem c_X6_octet (G : GG) (l : Launch) (o : Nat) (R : Nat → Nat) (u : MS) (k : Nat) (hk : k < 260) : CI G l yX6_octet cX6_octet 2 .int 2 16 [.ref o, .int (nI k)] (PM G o R u) (nI (ocN (u.2.1 10) k)) := by
  refine CI.mk RX6 pnX6 rfl (rfl) (Nat.le_of_ble_eq_true rfl) (fun pg en Rm sg mm ar bw mth cd QQ ls hC hRm hK hP hl hq => ?_)
  have hx := hC.1; have hb := hC.2.1; have ho := hC.2.2.2.1; have hts := hC.2.2.2.2
  have hl : lv_has ls 2 [(0, .ref o), (1, .int (nI k))] := hl
  refine lv_aload_n hx hb dX6_octet_0 rfl (lv_at hl 0 rfl) ?_
  refine M_get hC hK hP 10 (by decide) (fM10 _ _) q1211 dX6_octet_1 ?_
  refine lv_iload_n hx hb dX6_octet_4 rfl (lv_at hl 1 rfl) ?_
  refine M_bald hC hK hP 10 9 260 k (aM10 _ _ _ _) (by decide) (rfl) (by omega) dX6_octet_5 ?_
  refine lv_sipush (v := 255) hx hb dX6_octet_6 (by decide) ?_
  refine lv_iand hx hb dX6_octet_9 ?_
  exact hq _ _ _ dX6_octet_10 (by exact pk_and _ 8 (by decide))
set_option maxHeartbeats 4000000 in
theorem c_X6_isSeen (G : GG) (l : Launch) (o : Nat) (R : Nat → Nat) (u : MS) (h : Nat) (p : Nat) (t : Int32) (hh : h < 16) (hp : p < 16) : CI G l yX6_isSeen cX6_isSeen 7 .boolean 3 38 [.ref o, .int (nI h), .int (nI p), .int t] (PM G o R u) (bI (isSeenB ((u.2.1 5) p) ((u.2.1 4) h) ((u.2.1 6) p) ((u.2.1 7) p) t)) := by
  refine CI.mk RX6 pnX6 rfl (bI_nar _) (Nat.le_of_ble_eq_true rfl) (fun pg en Rm sg mm ar bw mth cd QQ ls hC hRm hK hP hl hq => ?_)
  have hx := hC.1; have hb := hC.2.1; have ho := hC.2.2.2.1; have hts := hC.2.2.2.2
  have hl : lv_has ls 7 [(0, .ref o), (1, .int (nI h)), (2, .int (nI p)), (3, .int t)] := hl
  refine lv_aload_n hx hb dX6_isSeen_0 rfl (lv_at hl 0 rfl) ?_
  refine M_get hC hK hP 5 (by decide) (fM5 _ _) q1206 dX6_isSeen_1 ?_
  refine lv_iload_n hx hb dX6_isSeen_4 rfl (lv_at hl 2 rfl) ?_
  refine M_ald hC hK hP 5 6 16 p (aM5 _ _ _ _) (by decide) (rfl) (by omega) dX6_isSeen_5 ?_
  refine lv_aload_n hx hb dX6_isSeen_6 rfl (lv_at hl 0 rfl) ?_
  refine M_get hC hK hP 4 (by decide) (fM4 _ _) q1205 dX6_isSeen_7 ?_
  refine lv_iload_n hx hb dX6_isSeen_10 rfl (lv_at hl 1 rfl) ?_
  refine M_ald hC hK hP 4 5 16 h (aM4 _ _ _ _) (by decide) (rfl) (by omega) dX6_isSeen_11 ?_
  refine lv_isub hx hb dX6_isSeen_12 ?_
  refine lv_bipush (v := 12) hx hb dX6_isSeen_13 (by decide) ?_
  refine lv_iadd hx hb dX6_isSeen_15 ?_
  refine lv_bipush (v := 12) hx hb dX6_isSeen_16 (by decide) ?_
  refine lv_irem hx hb dX6_isSeen_18 (by decide) ?_
  refine lv_istore (lv' := [(4, .int ((((u.2.1 5 p) - (u.2.1 4 h)) + 12) - (((u.2.1 5 p) - (u.2.1 4 h)) + 12) / 12 * 12)), (0, .ref o), (1, .int (nI h)), (2, .int (nI p)), (3, .int t)]) hx hb dX6_isSeen_19 hl (by decide) rfl (fun ls hl => ?_)
  refine lv_iload hx hb dX6_isSeen_21 (lv_at hl 0 rfl) ?_
  refine lv_iconst (v := 2) hx hb dX6_isSeen_23 (by decide) ?_
  refine lv_icmp_lt (tgt := 34) hx hb dX6_isSeen_24 (by decide) (fun c24 => ?_) (fun c24 => ?_)
  · refine lv_iconst (v := 1) hx hb dX6_isSeen_34 (by decide) ?_
    refine lv_goto (tgt := 39) hx hb dX6_isSeen_35 (by decide) ?_
    refine lv_istore (lv' := [(5, .int 1), (4, .int ((((u.2.1 5 p) - (u.2.1 4 h)) + 12) - (((u.2.1 5 p) - (u.2.1 4 h)) + 12) / 12 * 12)), (0, .ref o), (1, .int (nI h)), (2, .int (nI p)), (3, .int t)]) hx hb dX6_isSeen_39 hl (by decide) rfl (fun ls hl => ?_)
    refine lv_aload_n hx hb dX6_isSeen_41 rfl (lv_at hl 2 rfl) ?_
    refine M_get hC hK hP 6 (by decide) (fM6 _ _) q1207 dX6_isSeen_42 ?_
    refine lv_iload_n hx hb dX6_isSeen_45 rfl (lv_at hl 4 rfl) ?_
    refine M_ald hC hK hP 6 7 16 p (aM6 _ _ _ _) (by decide) (rfl) (by omega) dX6_isSeen_46 ?_
    refine lv_aload_n hx hb dX6_isSeen_47 rfl (lv_at hl 2 rfl) ?_
    refine M_get hC hK hP 7 (by decide) (fM7 _ _) q1208 dX6_isSeen_48 ?_
    refine lv_iload_n hx hb dX6_isSeen_51 rfl (lv_at hl 4 rfl) ?_
    refine M_ald hC hK hP 7 8 16 p (aM7 _ _ _ _) (by decide) (rfl) (by omega) dX6_isSeen_52 ?_
    refine lv_icmp_gt (tgt := 75) hx hb dX6_isSeen_53 (by decide) (fun c53 => ?_) (fun c53 => ?_)
    · refine lv_iload_n hx hb dX6_isSeen_75 rfl (lv_at hl 5 rfl) ?_
      refine lv_aload_n hx hb dX6_isSeen_76 rfl (lv_at hl 2 rfl) ?_
      refine M_get hC hK hP 6 (by decide) (fM6 _ _) q1207 dX6_isSeen_77 ?_
      refine lv_iload_n hx hb dX6_isSeen_80 rfl (lv_at hl 4 rfl) ?_
      refine M_ald hC hK hP 6 7 16 p (aM6 _ _ _ _) (by decide) (rfl) (by omega) dX6_isSeen_81 ?_
      refine lv_icmp_ge (tgt := 95) hx hb dX6_isSeen_82 (by decide) (fun c82 => ?_) (fun c82 => ?_)
      · refine lv_iconst (v := 1) hx hb dX6_isSeen_95 (by decide) ?_
        refine lv_goto (tgt := 100) hx hb dX6_isSeen_96 (by decide) ?_
        refine lv_istore (lv' := [(6, .int 1), (5, .int 1), (4, .int ((((u.2.1 5 p) - (u.2.1 4 h)) + 12) - (((u.2.1 5 p) - (u.2.1 4 h)) + 12) / 12 * 12)), (0, .ref o), (1, .int (nI h)), (2, .int (nI p)), (3, .int t)]) hx hb dX6_isSeen_100 hl (by decide) rfl (fun ls hl => ?_)
        refine lv_iload hx hb dX6_isSeen_102 (lv_at hl 1 rfl) ?_
        refine lv_if_eq (tgt := 116) hx hb dX6_isSeen_104 (by decide) (fun c104 => ?_) (fun c104 => ?_)
        · exact absurd c104 (by decide)
        · refine lv_iload hx hb dX6_isSeen_107 (lv_at hl 0 rfl) ?_
          refine lv_if_eq (tgt := 116) hx hb dX6_isSeen_109 (by decide) (fun c109 => ?_) (fun c109 => ?_)
          · exact absurd c109 (by decide)
          · refine lv_iconst (v := 1) hx hb dX6_isSeen_112 (by decide) ?_
            refine lv_goto (tgt := 117) hx hb dX6_isSeen_113 (by decide) ?_
            exact hq _ _ _ dX6_isSeen_117 (by grind [isSeenB, besideB, thenB, offI, remI, bI])
      · refine lv_iload_n hx hb dX6_isSeen_85 rfl (lv_at hl 5 rfl) ?_
        refine lv_aload_n hx hb dX6_isSeen_86 rfl (lv_at hl 2 rfl) ?_
        refine M_get hC hK hP 7 (by decide) (fM7 _ _) q1208 dX6_isSeen_87 ?_
        refine lv_iload_n hx hb dX6_isSeen_90 rfl (lv_at hl 4 rfl) ?_
        refine M_ald hC hK hP 7 8 16 p (aM7 _ _ _ _) (by decide) (rfl) (by omega) dX6_isSeen_91 ?_
        refine lv_icmp_gt (tgt := 99) hx hb dX6_isSeen_92 (by decide) (fun c92 => ?_) (fun c92 => ?_)
        · refine lv_iconst (v := 0) hx hb dX6_isSeen_99 (by decide) ?_
          refine lv_istore (lv' := [(6, .int 0), (5, .int 1), (4, .int ((((u.2.1 5 p) - (u.2.1 4 h)) + 12) - (((u.2.1 5 p) - (u.2.1 4 h)) + 12) / 12 * 12)), (0, .ref o), (1, .int (nI h)), (2, .int (nI p)), (3, .int t)]) hx hb dX6_isSeen_100 hl (by decide) rfl (fun ls hl => ?_)
          refine lv_iload hx hb dX6_isSeen_102 (lv_at hl 1 rfl) ?_
          refine lv_if_eq (tgt := 116) hx hb dX6_isSeen_104 (by decide) (fun c104 => ?_) (fun c104 => ?_)
          · exact absurd c104 (by decide)
          · refine lv_iload hx hb dX6_isSeen_107 (lv_at hl 0 rfl) ?_
            refine lv_if_eq (tgt := 116) hx hb dX6_isSeen_109 (by decide) (fun c109 => ?_) (fun c109 => ?_)
            · refine lv_iconst (v := 0) hx hb dX6_isSeen_116 (by decide) ?_
              exact hq _ _ _ dX6_isSeen_117 (by grind [isSeenB, besideB, thenB, offI, remI, bI])
            · exact absurd c109 (by decide)
        · refine lv_iconst (v := 1) hx hb dX6_isSeen_95 (by decide) ?_
          refine lv_goto (tgt := 100) hx hb dX6_isSeen_96 (by decide) ?_
          refine lv_istore (lv' := [(6, .int 1), (5, .int 1), (4, .int ((((u.2.1 5 p) - (u.2.1 4 h)) + 12) - (((u.2.1 5 p) - (u.2.1 4 h)) + 12) / 12 * 12)), (0, .ref o), (1, .int (nI h)), (2, .int (nI p)), (3, .int t)]) hx hb dX6_isSeen_100 hl (by decide) rfl (fun ls hl => ?_)
          refine lv_iload hx hb dX6_isSeen_102 (lv_at hl 1 rfl) ?_
          refine lv_if_eq (tgt := 116) hx hb dX6_isSeen_104 (by decide) (fun c104 => ?_) (fun c104 => ?_)
          · exact absurd c104 (by decide)
          · refine lv_iload hx hb dX6_isSeen_107 (lv_at hl 0 rfl) ?_
            refine lv_if_eq (tgt := 116) hx hb dX6_isSeen_109 (by decide) (fun c109 => ?_) (fun c109 => ?_)
            · exact absurd c109 (by decide)
            · refine lv_iconst (v := 1) hx hb dX6_isSeen_112 (by decide) ?_
              refine lv_goto (tgt := 117) hx hb dX6_isSeen_113 (by decide) ?_
              exact hq _ _ _ dX6_isSeen_117 (by grind [isSeenB, besideB, thenB, offI, remI, bI])
    · refine lv_iload_n hx hb dX6_isSeen_56 rfl (lv_at hl 5 rfl) ?_
      refine lv_aload_n hx hb dX6_isSeen_57 rfl (lv_at hl 2 rfl) ?_
      refine M_get hC hK hP 6 (by decide) (fM6 _ _) q1207 dX6_isSeen_58 ?_
      refine lv_iload_n hx hb dX6_isSeen_61 rfl (lv_at hl 4 rfl) ?_
      refine M_ald hC hK hP 6 7 16 p (aM6 _ _ _ _) (by decide) (rfl) (by omega) dX6_isSeen_62 ?_
      refine lv_aload_n hx hb dX6_isSeen_63 rfl (lv_at hl 2 rfl) ?_
      refine M_get hC hK hP 7 (by decide) (fM7 _ _) q1208 dX6_isSeen_64 ?_
      refine lv_iload_n hx hb dX6_isSeen_67 rfl (lv_at hl 4 rfl) ?_
      refine M_ald hC hK hP 7 8 16 p (aM7 _ _ _ _) (by decide) (rfl) (by omega) dX6_isSeen_68 ?_
      refine CI.callS hC hK hl (c_X6_in G l t (u.2.1 6 p) (u.2.1 7 p) ) trivial q1392 q1393 q116 q1394 mdX6_in (room_ok hRm rfl) rfl rfl dX6_isSeen_69 ?_
      refine lv_goto (tgt := 100) hx hb dX6_isSeen_72 (by decide) ?_
      refine lv_istore (lv' := [(6, .int (bI (inB t (u.2.1 6 p) (u.2.1 7 p)))), (5, .int 1), (4, .int ((((u.2.1 5 p) - (u.2.1 4 h)) + 12) - (((u.2.1 5 p) - (u.2.1 4 h)) + 12) / 12 * 12)), (0, .ref o), (1, .int (nI h)), (2, .int (nI p)), (3, .int t)]) hx hb dX6_isSeen_100 hl (by decide) rfl (fun ls hl => ?_)
      refine lv_iload hx hb dX6_isSeen_102 (lv_at hl 1 rfl) ?_
      refine lv_if_eq (tgt := 116) hx hb dX6_isSeen_104 (by decide) (fun c104 => ?_) (fun c104 => ?_)
      · exact absurd c104 (by decide)
      · refine lv_iload hx hb dX6_isSeen_107 (lv_at hl 0 rfl) ?_
        refine lv_if_eq (tgt := 116) hx hb dX6_isSeen_109 (by decide) (fun c109 => ?_) (fun c109 => ?_)
        · have c109 : (inB t (u.2.1 6 p) (u.2.1 7 p)) = false := bI_0.mp c109
          refine lv_iconst (v := 0) hx hb dX6_isSeen_116 (by decide) ?_
          exact hq _ _ _ dX6_isSeen_117 (by grind [isSeenB, besideB, thenB, offI, remI, bI])
        · have c109 : (inB t (u.2.1 6 p) (u.2.1 7 p)) = true := bI_1.mp c109
          refine lv_iconst (v := 1) hx hb dX6_isSeen_112 (by decide) ?_
          refine lv_goto (tgt := 117) hx hb dX6_isSeen_113 (by decide) ?_
          exact hq _ _ _ dX6_isSeen_117 (by grind [isSeenB, besideB, thenB, offI, remI, bI])
  · refine lv_iload hx hb dX6_isSeen_27 (lv_at hl 0 rfl) ?_
    refine lv_bipush (v := 11) hx hb dX6_isSeen_29 (by decide) ?_
    refine lv_icmp_ne (tgt := 38) hx hb dX6_isSeen_31 (by decide) (fun c31 => ?_) (fun c31 => ?_)
    · refine lv_iconst (v := 0) hx hb dX6_isSeen_38 (by decide) ?_
      refine lv_istore (lv' := [(5, .int 0), (4, .int ((((u.2.1 5 p) - (u.2.1 4 h)) + 12) - (((u.2.1 5 p) - (u.2.1 4 h)) + 12) / 12 * 12)), (0, .ref o), (1, .int (nI h)), (2, .int (nI p)), (3, .int t)]) hx hb dX6_isSeen_39 hl (by decide) rfl (fun ls hl => ?_)
      refine lv_aload_n hx hb dX6_isSeen_41 rfl (lv_at hl 2 rfl) ?_
      refine M_get hC hK hP 6 (by decide) (fM6 _ _) q1207 dX6_isSeen_42 ?_
      refine lv_iload_n hx hb dX6_isSeen_45 rfl (lv_at hl 4 rfl) ?_
      refine M_ald hC hK hP 6 7 16 p (aM6 _ _ _ _) (by decide) (rfl) (by omega) dX6_isSeen_46 ?_
      refine lv_aload_n hx hb dX6_isSeen_47 rfl (lv_at hl 2 rfl) ?_
      refine M_get hC hK hP 7 (by decide) (fM7 _ _) q1208 dX6_isSeen_48 ?_
      refine lv_iload_n hx hb dX6_isSeen_51 rfl (lv_at hl 4 rfl) ?_
      refine M_ald hC hK hP 7 8 16 p (aM7 _ _ _ _) (by decide) (rfl) (by omega) dX6_isSeen_52 ?_
      refine lv_icmp_gt (tgt := 75) hx hb dX6_isSeen_53 (by decide) (fun c53 => ?_) (fun c53 => ?_)
      · refine lv_iload_n hx hb dX6_isSeen_75 rfl (lv_at hl 5 rfl) ?_
        refine lv_aload_n hx hb dX6_isSeen_76 rfl (lv_at hl 2 rfl) ?_
        refine M_get hC hK hP 6 (by decide) (fM6 _ _) q1207 dX6_isSeen_77 ?_
        refine lv_iload_n hx hb dX6_isSeen_80 rfl (lv_at hl 4 rfl) ?_
        refine M_ald hC hK hP 6 7 16 p (aM6 _ _ _ _) (by decide) (rfl) (by omega) dX6_isSeen_81 ?_
        refine lv_icmp_ge (tgt := 95) hx hb dX6_isSeen_82 (by decide) (fun c82 => ?_) (fun c82 => ?_)
        · refine lv_iconst (v := 1) hx hb dX6_isSeen_95 (by decide) ?_
          refine lv_goto (tgt := 100) hx hb dX6_isSeen_96 (by decide) ?_
          refine lv_istore (lv' := [(6, .int 1), (5, .int 0), (4, .int ((((u.2.1 5 p) - (u.2.1 4 h)) + 12) - (((u.2.1 5 p) - (u.2.1 4 h)) + 12) / 12 * 12)), (0, .ref o), (1, .int (nI h)), (2, .int (nI p)), (3, .int t)]) hx hb dX6_isSeen_100 hl (by decide) rfl (fun ls hl => ?_)
          refine lv_iload hx hb dX6_isSeen_102 (lv_at hl 1 rfl) ?_
          refine lv_if_eq (tgt := 116) hx hb dX6_isSeen_104 (by decide) (fun c104 => ?_) (fun c104 => ?_)
          · refine lv_iconst (v := 0) hx hb dX6_isSeen_116 (by decide) ?_
            exact hq _ _ _ dX6_isSeen_117 (by grind [isSeenB, besideB, thenB, offI, remI, bI])
          · exact absurd c104 (by decide)
        · refine lv_iload_n hx hb dX6_isSeen_85 rfl (lv_at hl 5 rfl) ?_
          refine lv_aload_n hx hb dX6_isSeen_86 rfl (lv_at hl 2 rfl) ?_
          refine M_get hC hK hP 7 (by decide) (fM7 _ _) q1208 dX6_isSeen_87 ?_
          refine lv_iload_n hx hb dX6_isSeen_90 rfl (lv_at hl 4 rfl) ?_
          refine M_ald hC hK hP 7 8 16 p (aM7 _ _ _ _) (by decide) (rfl) (by omega) dX6_isSeen_91 ?_
          refine lv_icmp_gt (tgt := 99) hx hb dX6_isSeen_92 (by decide) (fun c92 => ?_) (fun c92 => ?_)
          · refine lv_iconst (v := 0) hx hb dX6_isSeen_99 (by decide) ?_
            refine lv_istore (lv' := [(6, .int 0), (5, .int 0), (4, .int ((((u.2.1 5 p) - (u.2.1 4 h)) + 12) - (((u.2.1 5 p) - (u.2.1 4 h)) + 12) / 12 * 12)), (0, .ref o), (1, .int (nI h)), (2, .int (nI p)), (3, .int t)]) hx hb dX6_isSeen_100 hl (by decide) rfl (fun ls hl => ?_)
            refine lv_iload hx hb dX6_isSeen_102 (lv_at hl 1 rfl) ?_
            refine lv_if_eq (tgt := 116) hx hb dX6_isSeen_104 (by decide) (fun c104 => ?_) (fun c104 => ?_)
            · refine lv_iconst (v := 0) hx hb dX6_isSeen_116 (by decide) ?_
              exact hq _ _ _ dX6_isSeen_117 (by grind [isSeenB, besideB, thenB, offI, remI, bI])
            · exact absurd c104 (by decide)
          · refine lv_iconst (v := 1) hx hb dX6_isSeen_95 (by decide) ?_
            refine lv_goto (tgt := 100) hx hb dX6_isSeen_96 (by decide) ?_
            refine lv_istore (lv' := [(6, .int 1), (5, .int 0), (4, .int ((((u.2.1 5 p) - (u.2.1 4 h)) + 12) - (((u.2.1 5 p) - (u.2.1 4 h)) + 12) / 12 * 12)), (0, .ref o), (1, .int (nI h)), (2, .int (nI p)), (3, .int t)]) hx hb dX6_isSeen_100 hl (by decide) rfl (fun ls hl => ?_)
            refine lv_iload hx hb dX6_isSeen_102 (lv_at hl 1 rfl) ?_
            refine lv_if_eq (tgt := 116) hx hb dX6_isSeen_104 (by decide) (fun c104 => ?_) (fun c104 => ?_)
            · refine lv_iconst (v := 0) hx hb dX6_isSeen_116 (by decide) ?_
              exact hq _ _ _ dX6_isSeen_117 (by grind [isSeenB, besideB, thenB, offI, remI, bI])
            · exact absurd c104 (by decide)
      · refine lv_iload_n hx hb dX6_isSeen_56 rfl (lv_at hl 5 rfl) ?_
        refine lv_aload_n hx hb dX6_isSeen_57 rfl (lv_at hl 2 rfl) ?_
        refine M_get hC hK hP 6 (by decide) (fM6 _ _) q1207 dX6_isSeen_58 ?_
        refine lv_iload_n hx hb dX6_isSeen_61 rfl (lv_at hl 4 rfl) ?_
        refine M_ald hC hK hP 6 7 16 p (aM6 _ _ _ _) (by decide) (rfl) (by omega) dX6_isSeen_62 ?_
        refine lv_aload_n hx hb dX6_isSeen_63 rfl (lv_at hl 2 rfl) ?_
        refine M_get hC hK hP 7 (by decide) (fM7 _ _) q1208 dX6_isSeen_64 ?_
        refine lv_iload_n hx hb dX6_isSeen_67 rfl (lv_at hl 4 rfl) ?_
        refine M_ald hC hK hP 7 8 16 p (aM7 _ _ _ _) (by decide) (rfl) (by omega) dX6_isSeen_68 ?_
        refine CI.callS hC hK hl (c_X6_in G l t (u.2.1 6 p) (u.2.1 7 p) ) trivial q1392 q1393 q116 q1394 mdX6_in (room_ok hRm rfl) rfl rfl dX6_isSeen_69 ?_
        refine lv_goto (tgt := 100) hx hb dX6_isSeen_72 (by decide) ?_
        refine lv_istore (lv' := [(6, .int (bI (inB t (u.2.1 6 p) (u.2.1 7 p)))), (5, .int 0), (4, .int ((((u.2.1 5 p) - (u.2.1 4 h)) + 12) - (((u.2.1 5 p) - (u.2.1 4 h)) + 12) / 12 * 12)), (0, .ref o), (1, .int (nI h)), (2, .int (nI p)), (3, .int t)]) hx hb dX6_isSeen_100 hl (by decide) rfl (fun ls hl => ?_)
        refine lv_iload hx hb dX6_isSeen_102 (lv_at hl 1 rfl) ?_
        refine lv_if_eq (tgt := 116) hx hb dX6_isSeen_104 (by decide) (fun c104 => ?_) (fun c104 => ?_)
        · refine lv_iconst (v := 0) hx hb dX6_isSeen_116 (by decide) ?_
          exact hq _ _ _ dX6_isSeen_117 (by grind [isSeenB, besideB, thenB, offI, remI, bI])
        · exact absurd c104 (by decide)
    · refine lv_iconst (v := 1) hx hb dX6_isSeen_34 (by decide) ?_
      refine lv_goto (tgt := 39) hx hb dX6_isSeen_35 (by decide) ?_
      refine lv_istore (lv' := [(5, .int 1), (4, .int ((((u.2.1 5 p) - (u.2.1 4 h)) + 12) - (((u.2.1 5 p) - (u.2.1 4 h)) + 12) / 12 * 12)), (0, .ref o), (1, .int (nI h)), (2, .int (nI p)), (3, .int t)]) hx hb dX6_isSeen_39 hl (by decide) rfl (fun ls hl => ?_)
      refine lv_aload_n hx hb dX6_isSeen_41 rfl (lv_at hl 2 rfl) ?_
      refine M_get hC hK hP 6 (by decide) (fM6 _ _) q1207 dX6_isSeen_42 ?_
      refine lv_iload_n hx hb dX6_isSeen_45 rfl (lv_at hl 4 rfl) ?_
      refine M_ald hC hK hP 6 7 16 p (aM6 _ _ _ _) (by decide) (rfl) (by omega) dX6_isSeen_46 ?_
      refine lv_aload_n hx hb dX6_isSeen_47 rfl (lv_at hl 2 rfl) ?_
      refine M_get hC hK hP 7 (by decide) (fM7 _ _) q1208 dX6_isSeen_48 ?_
      refine lv_iload_n hx hb dX6_isSeen_51 rfl (lv_at hl 4 rfl) ?_
      refine M_ald hC hK hP 7 8 16 p (aM7 _ _ _ _) (by decide) (rfl) (by omega) dX6_isSeen_52 ?_
      refine lv_icmp_gt (tgt := 75) hx hb dX6_isSeen_53 (by decide) (fun c53 => ?_) (fun c53 => ?_)
      · refine lv_iload_n hx hb dX6_isSeen_75 rfl (lv_at hl 5 rfl) ?_
        refine lv_aload_n hx hb dX6_isSeen_76 rfl (lv_at hl 2 rfl) ?_
        refine M_get hC hK hP 6 (by decide) (fM6 _ _) q1207 dX6_isSeen_77 ?_
        refine lv_iload_n hx hb dX6_isSeen_80 rfl (lv_at hl 4 rfl) ?_
        refine M_ald hC hK hP 6 7 16 p (aM6 _ _ _ _) (by decide) (rfl) (by omega) dX6_isSeen_81 ?_
        refine lv_icmp_ge (tgt := 95) hx hb dX6_isSeen_82 (by decide) (fun c82 => ?_) (fun c82 => ?_)
        · refine lv_iconst (v := 1) hx hb dX6_isSeen_95 (by decide) ?_
          refine lv_goto (tgt := 100) hx hb dX6_isSeen_96 (by decide) ?_
          refine lv_istore (lv' := [(6, .int 1), (5, .int 1), (4, .int ((((u.2.1 5 p) - (u.2.1 4 h)) + 12) - (((u.2.1 5 p) - (u.2.1 4 h)) + 12) / 12 * 12)), (0, .ref o), (1, .int (nI h)), (2, .int (nI p)), (3, .int t)]) hx hb dX6_isSeen_100 hl (by decide) rfl (fun ls hl => ?_)
          refine lv_iload hx hb dX6_isSeen_102 (lv_at hl 1 rfl) ?_
          refine lv_if_eq (tgt := 116) hx hb dX6_isSeen_104 (by decide) (fun c104 => ?_) (fun c104 => ?_)
          · exact absurd c104 (by decide)
          · refine lv_iload hx hb dX6_isSeen_107 (lv_at hl 0 rfl) ?_
            refine lv_if_eq (tgt := 116) hx hb dX6_isSeen_109 (by decide) (fun c109 => ?_) (fun c109 => ?_)
            · exact absurd c109 (by decide)
            · refine lv_iconst (v := 1) hx hb dX6_isSeen_112 (by decide) ?_
              refine lv_goto (tgt := 117) hx hb dX6_isSeen_113 (by decide) ?_
              exact hq _ _ _ dX6_isSeen_117 (by grind [isSeenB, besideB, thenB, offI, remI, bI])
        · refine lv_iload_n hx hb dX6_isSeen_85 rfl (lv_at hl 5 rfl) ?_
          refine lv_aload_n hx hb dX6_isSeen_86 rfl (lv_at hl 2 rfl) ?_
          refine M_get hC hK hP 7 (by decide) (fM7 _ _) q1208 dX6_isSeen_87 ?_
          refine lv_iload_n hx hb dX6_isSeen_90 rfl (lv_at hl 4 rfl) ?_
          refine M_ald hC hK hP 7 8 16 p (aM7 _ _ _ _) (by decide) (rfl) (by omega) dX6_isSeen_91 ?_
          refine lv_icmp_gt (tgt := 99) hx hb dX6_isSeen_92 (by decide) (fun c92 => ?_) (fun c92 => ?_)
          · refine lv_iconst (v := 0) hx hb dX6_isSeen_99 (by decide) ?_
            refine lv_istore (lv' := [(6, .int 0), (5, .int 1), (4, .int ((((u.2.1 5 p) - (u.2.1 4 h)) + 12) - (((u.2.1 5 p) - (u.2.1 4 h)) + 12) / 12 * 12)), (0, .ref o), (1, .int (nI h)), (2, .int (nI p)), (3, .int t)]) hx hb dX6_isSeen_100 hl (by decide) rfl (fun ls hl => ?_)
            refine lv_iload hx hb dX6_isSeen_102 (lv_at hl 1 rfl) ?_
            refine lv_if_eq (tgt := 116) hx hb dX6_isSeen_104 (by decide) (fun c104 => ?_) (fun c104 => ?_)
            · exact absurd c104 (by decide)
            · refine lv_iload hx hb dX6_isSeen_107 (lv_at hl 0 rfl) ?_
              refine lv_if_eq (tgt := 116) hx hb dX6_isSeen_109 (by decide) (fun c109 => ?_) (fun c109 => ?_)
              · refine lv_iconst (v := 0) hx hb dX6_isSeen_116 (by decide) ?_
                exact hq _ _ _ dX6_isSeen_117 (by grind [isSeenB, besideB, thenB, offI, remI, bI])
              · exact absurd c109 (by decide)
          · refine lv_iconst (v := 1) hx hb dX6_isSeen_95 (by decide) ?_
            refine lv_goto (tgt := 100) hx hb dX6_isSeen_96 (by decide) ?_
            refine lv_istore (lv' := [(6, .int 1), (5, .int 1), (4, .int ((((u.2.1 5 p) - (u.2.1 4 h)) + 12) - (((u.2.1 5 p) - (u.2.1 4 h)) + 12) / 12 * 12)), (0, .ref o), (1, .int (nI h)), (2, .int (nI p)), (3, .int t)]) hx hb dX6_isSeen_100 hl (by decide) rfl (fun ls hl => ?_)
            refine lv_iload hx hb dX6_isSeen_102 (lv_at hl 1 rfl) ?_
            refine lv_if_eq (tgt := 116) hx hb dX6_isSeen_104 (by decide) (fun c104 => ?_) (fun c104 => ?_)
            · exact absurd c104 (by decide)
            · refine lv_iload hx hb dX6_isSeen_107 (lv_at hl 0 rfl) ?_
              refine lv_if_eq (tgt := 116) hx hb dX6_isSeen_109 (by decide) (fun c109 => ?_) (fun c109 => ?_)
              · exact absurd c109 (by decide)
              · refine lv_iconst (v := 1) hx hb dX6_isSeen_112 (by decide) ?_
                refine lv_goto (tgt := 117) hx hb dX6_isSeen_113 (by decide) ?_
                exact hq _ _ _ dX6_isSeen_117 (by grind [isSeenB, besideB, thenB, offI, remI, bI])
      · refine lv_iload_n hx hb dX6_isSeen_56 rfl (lv_at hl 5 rfl) ?_
        refine lv_aload_n hx hb dX6_isSeen_57 rfl (lv_at hl 2 rfl) ?_
        refine M_get hC hK hP 6 (by decide) (fM6 _ _) q1207 dX6_isSeen_58 ?_
        refine lv_iload_n hx hb dX6_isSeen_61 rfl (lv_at hl 4 rfl) ?_
        refine M_ald hC hK hP 6 7 16 p (aM6 _ _ _ _) (by decide) (rfl) (by omega) dX6_isSeen_62 ?_
        refine lv_aload_n hx hb dX6_isSeen_63 rfl (lv_at hl 2 rfl) ?_
        refine M_get hC hK hP 7 (by decide) (fM7 _ _) q1208 dX6_isSeen_64 ?_
        refine lv_iload_n hx hb dX6_isSeen_67 rfl (lv_at hl 4 rfl) ?_
        refine M_ald hC hK hP 7 8 16 p (aM7 _ _ _ _) (by decide) (rfl) (by omega) dX6_isSeen_68 ?_
        refine CI.callS hC hK hl (c_X6_in G l t (u.2.1 6 p) (u.2.1 7 p) ) trivial q1392 q1393 q116 q1394 mdX6_in (room_ok hRm rfl) rfl rfl dX6_isSeen_69 ?_
        refine lv_goto (tgt := 100) hx hb dX6_isSeen_72 (by decide) ?_
        refine lv_istore (lv' := [(6, .int (bI (inB t (u.2.1 6 p) (u.2.1 7 p)))), (5, .int 1), (4, .int ((((u.2.1 5 p) - (u.2.1 4 h)) + 12) - (((u.2.1 5 p) - (u.2.1 4 h)) + 12) / 12 * 12)), (0, .ref o), (1, .int (nI h)), (2, .int (nI p)), (3, .int t)]) hx hb dX6_isSeen_100 hl (by decide) rfl (fun ls hl => ?_)
        refine lv_iload hx hb dX6_isSeen_102 (lv_at hl 1 rfl) ?_
        refine lv_if_eq (tgt := 116) hx hb dX6_isSeen_104 (by decide) (fun c104 => ?_) (fun c104 => ?_)
        · exact absurd c104 (by decide)
        · refine lv_iload hx hb dX6_isSeen_107 (lv_at hl 0 rfl) ?_
          refine lv_if_eq (tgt := 116) hx hb dX6_isSeen_109 (by decide) (fun c109 => ?_) (fun c109 => ?_)
          · have c109 : (inB t (u.2.1 6 p) (u.2.1 7 p)) = false := bI_0.mp c109
            refine lv_iconst (v := 0) hx hb dX6_isSeen_116 (by decide) ?_
            exact hq _ _ _ dX6_isSeen_117 (by grind [isSeenB, besideB, thenB, offI, remI, bI])
          · have c109 : (inB t (u.2.1 6 p) (u.2.1 7 p)) = true := bI_1.mp c109
            refine lv_iconst (v := 1) hx hb dX6_isSeen_112 (by decide) ?_
            refine lv_goto (tgt := 117) hx hb dX6_isSeen_113 (by decide) ?_
            exact hq _ _ _ dX6_isSeen_117 (by grind [isSeenB, besideB, thenB, offI, remI, bI])
set_option maxHeartbeats 4000000 in
theorem c_X6_seenBy (G : GG) (l : Launch) (o : Nat) (R : Nat → Nat) (u : MS) (h : Nat) (t : Int32) (hh : h < 16) : CI G l yX6_seenBy cX6_seenBy 5 .int 4 64 [.ref o, .int (nI h), .int t] (PM G o R u) (seenS (u.1 9) (u.2.1 5) (u.2.1 6) (u.2.1 7) ((u.2.1 4) h) t) := by
  refine CI.mk RX6 pnX6 rfl (rfl) (Nat.le_of_ble_eq_true rfl) (fun pg en Rm sg mm ar bw mth cd QQ ls hC hRm hK hP hl hq => ?_)
  have hx := hC.1; have hb := hC.2.1; have ho := hC.2.2.2.1; have hts := hC.2.2.2.2
  have hl : lv_has ls 5 [(0, .ref o), (1, .int (nI h)), (2, .int t)] := hl
  refine lv_iconst (v := 0) hx hb dX6_seenBy_0 (by decide) ?_
  refine lv_istore_n (lv' := [(3, .int 0), (0, .ref o), (1, .int (nI h)), (2, .int t)]) hx hb dX6_seenBy_1 rfl hl (by decide) rfl (fun ls hl => ?_)
  refine lv_iconst (v := 0) hx hb dX6_seenBy_2 (by decide) ?_
  refine lv_istore (lv' := [(4, .int 0), (3, .int 0), (0, .ref o), (1, .int (nI h)), (2, .int t)]) hx hb dX6_seenBy_3 hl (by decide) rfl (fun ls hl => ?_)
  have LP5 : ∀ (fu5 : Nat) (k : Nat) (set : Int32) (ls : Array Slot), 16 - k < fu5 → k ≤ 16 → set = orN (fun p => isHouseB (u.1 9) (nI p) && isSeenB ((u.2.1 5) p) ((u.2.1 4) h) ((u.2.1 6) p) ((u.2.1 7) p) t) k → lv_has ls 5 [(0, .ref o), (1, .int (nI h)), (2, .int t), (3, .int set), (4, .int (nI k))] → W pg l en Rm sg mm ar bw mth cd sg.heap [] 0 0 QQ (F0 mm 5 ls []) := by
    intro fu5
    induction fu5 with
    | zero => intro k set ls hm5 hk hset hl; exact absurd hm5 (Nat.not_lt_zero _)
    | succ fu5 ih5 =>
      intro k set ls hm5 hk hset hl
      refine lv_iload hx hb dX6_seenBy_5 (lv_at hl 4 rfl) ?_
      refine lv_bipush (v := 16) hx hb dX6_seenBy_7 (by decide) ?_
      refine lv_icmp_ge (tgt := 45) hx hb dX6_seenBy_9 (by decide) (fun c9 => ?_) (fun c9 => ?_)
      · have c9 : 16 ≤ k := (nI_leI (a := 16) (b := k) (by omega) (by omega)).mp c9
        refine lv_iload_n hx hb dX6_seenBy_45 rfl (lv_at hl 3 rfl) ?_
        exact hq _ _ _ dX6_seenBy_46 (by have hfin : k = 16 := (by omega); subst hfin; exact hset)
      · have c9 : ¬ (16 ≤ k) := mt (nI_leI (a := 16) (b := k) (by omega) (by omega)).mpr c9
        refine lv_aload_n hx hb dX6_seenBy_12 rfl (lv_at hl 0 rfl) ?_
        refine lv_iload hx hb dX6_seenBy_13 (lv_at hl 4 rfl) ?_
        refine CI.callV hC hK hl (c_X6_isThing G l o R u (nI k) ) hP (hP.recv hK) q1410 q1412 qs47 q116 q1413 mdX6_isThing (room_ok hRm rfl) rfl rfl dX6_seenBy_15 ?_
        refine lv_if_eq (tgt := 39) hx hb dX6_seenBy_18 (by decide) (fun c18 => ?_) (fun c18 => ?_)
        · have c18 : (isHouseB (u.1 9) (nI k)) = false := bI_0.mp c18
          refine lv_iinc (v := (nI (k + 1))) (lv' := [(4, .int (nI (k + 1))), (0, .ref o), (1, .int (nI h)), (2, .int t), (3, .int set)]) hx hb dX6_seenBy_39 hl (k := 4) rfl (nI_inc k) (by decide) rfl (fun ls hl => ?_)
          refine lv_goto (tgt := 5) hx hb dX6_seenBy_42 (by decide) ?_
          exact ih5 (k + 1) set ls (by omega) (by first | omega | assumption | rfl | (simp_all; done) | grind) (by (clear hq hP hK hts hC hx hb ho hRm hl ih5); grind [orN, bitI])  (lv_sub hl [1, 2, 3, 4, 0] rfl)
        · have c18 : (isHouseB (u.1 9) (nI k)) = true := bI_1.mp c18
          refine lv_aload_n hx hb dX6_seenBy_21 rfl (lv_at hl 0 rfl) ?_
          refine lv_iload_n hx hb dX6_seenBy_22 rfl (lv_at hl 1 rfl) ?_
          refine lv_iload hx hb dX6_seenBy_23 (lv_at hl 4 rfl) ?_
          refine lv_iload_n hx hb dX6_seenBy_25 rfl (lv_at hl 2 rfl) ?_
          refine CI.callV hC hK hl (c_X6_isSeen G l o R u h k t (by first | assumption | omega | rfl | (simp_all; done)) (by first | assumption | omega | rfl | (simp_all; done))) hP (hP.recv hK) q1414 q1416 qs48 q116 q1417 mdX6_isSeen (room_ok hRm rfl) rfl rfl dX6_seenBy_26 ?_
          refine lv_if_eq (tgt := 39) hx hb dX6_seenBy_29 (by decide) (fun c29 => ?_) (fun c29 => ?_)
          · have c29 : (isSeenB ((u.2.1 5) k) ((u.2.1 4) h) ((u.2.1 6) k) ((u.2.1 7) k) t) = false := bI_0.mp c29
            refine lv_iinc (v := (nI (k + 1))) (lv' := [(4, .int (nI (k + 1))), (0, .ref o), (1, .int (nI h)), (2, .int t), (3, .int set)]) hx hb dX6_seenBy_39 hl (k := 4) rfl (nI_inc k) (by decide) rfl (fun ls hl => ?_)
            refine lv_goto (tgt := 5) hx hb dX6_seenBy_42 (by decide) ?_
            exact ih5 (k + 1) set ls (by omega) (by first | omega | assumption | rfl | (simp_all; done) | grind) (by (clear hq hP hK hts hC hx hb ho hRm hl ih5); grind [orN, bitI])  (lv_sub hl [1, 2, 3, 4, 0] rfl)
          · have c29 : (isSeenB ((u.2.1 5) k) ((u.2.1 4) h) ((u.2.1 6) k) ((u.2.1 7) k) t) = true := bI_1.mp c29
            refine lv_iload_n hx hb dX6_seenBy_32 rfl (lv_at hl 3 rfl) ?_
            refine lv_iconst (v := 1) hx hb dX6_seenBy_33 (by decide) ?_
            refine lv_iload hx hb dX6_seenBy_34 (lv_at hl 4 rfl) ?_
            refine lv_ishl hx hb dX6_seenBy_36 ?_
            refine lv_ior hx hb dX6_seenBy_37 ?_
            refine lv_istore_n (lv' := [(3, .int (set ||| (1 <<< ((nI k) &&& 31)))), (0, .ref o), (1, .int (nI h)), (2, .int t), (4, .int (nI k))]) hx hb dX6_seenBy_38 rfl hl (by decide) rfl (fun ls hl => ?_)
            refine lv_iinc (v := (nI (k + 1))) (lv' := [(4, .int (nI (k + 1))), (3, .int (set ||| (1 <<< ((nI k) &&& 31)))), (0, .ref o), (1, .int (nI h)), (2, .int t)]) hx hb dX6_seenBy_39 hl (k := 4) rfl (nI_inc k) (by decide) rfl (fun ls hl => ?_)
            refine lv_goto (tgt := 5) hx hb dX6_seenBy_42 (by decide) ?_
            exact ih5 (k + 1) (set ||| (1 <<< ((nI k) &&& 31))) ls (by omega) (by first | omega | assumption | rfl | (simp_all; done) | grind) (by (clear hq hP hK hts hC hx hb ho hRm hl ih5); grind [orN, bitI])  (lv_sub hl [2, 3, 4, 1, 0] rfl)
  exact LP5 _ 0 0 ls (Nat.lt_succ_self _) (by first | omega | assumption | rfl | (simp_all; done) | grind) (rfl)  (lv_sub hl [2, 3, 4, 1, 0] rfl)
set_option maxHeartbeats 4000000 in
theorem c_X6_everSeenBy (G : GG) (l : Launch) (o : Nat) (R : Nat → Nat) (u : MS) (h : Nat) (hh : h < 16) : CI G l yX6_everSeenBy cX6_everSeenBy 4 .int 5 88 [.ref o, .int (nI h)] (PM G o R u) (everS (u.1 9) (u.2.1 5) (u.2.1 6) (u.2.1 7) ((u.2.1 4) h)) := by
  refine CI.mk RX6 pnX6 rfl (rfl) (Nat.le_of_ble_eq_true rfl) (fun pg en Rm sg mm ar bw mth cd QQ ls hC hRm hK hP hl hq => ?_)
  have hx := hC.1; have hb := hC.2.1; have ho := hC.2.2.2.1; have hts := hC.2.2.2.2
  have hl : lv_has ls 4 [(0, .ref o), (1, .int (nI h))] := hl
  refine lv_iconst (v := 0) hx hb dX6_everSeenBy_0 (by decide) ?_
  refine lv_istore_n (lv' := [(2, .int 0), (0, .ref o), (1, .int (nI h))]) hx hb dX6_everSeenBy_1 rfl hl (by decide) rfl (fun ls hl => ?_)
  refine lv_iconst (v := 0) hx hb dX6_everSeenBy_2 (by decide) ?_
  refine lv_istore_n (lv' := [(3, .int 0), (2, .int 0), (0, .ref o), (1, .int (nI h))]) hx hb dX6_everSeenBy_3 rfl hl (by decide) rfl (fun ls hl => ?_)
  have LP4 : ∀ (fu4 : Nat) (k : Nat) (set : Int32) (ls : Array Slot), 12 - k < fu4 → k ≤ 12 → set = orI (fun t => seenS (u.1 9) (u.2.1 5) (u.2.1 6) (u.2.1 7) ((u.2.1 4) h) (nI t)) k → lv_has ls 4 [(0, .ref o), (1, .int (nI h)), (2, .int set), (3, .int (nI k))] → W pg l en Rm sg mm ar bw mth cd sg.heap [] 0 0 QQ (F0 mm 4 ls []) := by
    intro fu4
    induction fu4 with
    | zero => intro k set ls hm4 hk hset hl; exact absurd hm4 (Nat.not_lt_zero _)
    | succ fu4 ih4 =>
      intro k set ls hm4 hk hset hl
      refine lv_iload_n hx hb dX6_everSeenBy_4 rfl (lv_at hl 3 rfl) ?_
      refine lv_bipush (v := 12) hx hb dX6_everSeenBy_5 (by decide) ?_
      refine lv_icmp_ge (tgt := 25) hx hb dX6_everSeenBy_7 (by decide) (fun c7 => ?_) (fun c7 => ?_)
      · have c7 : 12 ≤ k := (nI_leI (a := 12) (b := k) (by omega) (by omega)).mp c7
        refine lv_iload_n hx hb dX6_everSeenBy_25 rfl (lv_at hl 2 rfl) ?_
        exact hq _ _ _ dX6_everSeenBy_26 (by have hfin : k = 12 := (by omega); subst hfin; exact hset)
      · have c7 : ¬ (12 ≤ k) := mt (nI_leI (a := 12) (b := k) (by omega) (by omega)).mpr c7
        refine lv_iload_n hx hb dX6_everSeenBy_10 rfl (lv_at hl 2 rfl) ?_
        refine lv_aload_n hx hb dX6_everSeenBy_11 rfl (lv_at hl 0 rfl) ?_
        refine lv_iload_n hx hb dX6_everSeenBy_12 rfl (lv_at hl 1 rfl) ?_
        refine lv_iload_n hx hb dX6_everSeenBy_13 rfl (lv_at hl 3 rfl) ?_
        refine CI.callV hC hK hl (c_X6_seenBy G l o R u h (nI k) (by first | assumption | omega | rfl | (simp_all; done))) hP (hP.recv hK) q1406 q1408 qs46 q116 q1409 mdX6_seenBy (room_ok hRm rfl) rfl rfl dX6_everSeenBy_14 ?_
        refine lv_ior hx hb dX6_everSeenBy_17 ?_
        refine lv_istore_n (lv' := [(2, .int (set ||| (seenS (u.1 9) (u.2.1 5) (u.2.1 6) (u.2.1 7) ((u.2.1 4) h) (nI k)))), (0, .ref o), (1, .int (nI h)), (3, .int (nI k))]) hx hb dX6_everSeenBy_18 rfl hl (by decide) rfl (fun ls hl => ?_)
        refine lv_iinc (v := (nI (k + 1))) (lv' := [(3, .int (nI (k + 1))), (2, .int (set ||| (seenS (u.1 9) (u.2.1 5) (u.2.1 6) (u.2.1 7) ((u.2.1 4) h) (nI k)))), (0, .ref o), (1, .int (nI h))]) hx hb dX6_everSeenBy_19 hl (k := 3) rfl (nI_inc k) (by decide) rfl (fun ls hl => ?_)
        refine lv_goto (tgt := 4) hx hb dX6_everSeenBy_22 (by decide) ?_
        exact ih4 (k + 1) (set ||| (seenS (u.1 9) (u.2.1 5) (u.2.1 6) (u.2.1 7) ((u.2.1 4) h) (nI k))) ls (by omega) (by first | omega | assumption | rfl | (simp_all; done) | grind) (by (clear hq hP hK hts hC hx hb ho hRm hl ih4); grind [orI])  (lv_sub hl [2, 3, 1, 0] rfl)
  exact LP4 _ 0 0 ls (Nat.lt_succ_self _) (by first | omega | assumption | rfl | (simp_all; done) | grind) (rfl)  (lv_sub hl [2, 3, 1, 0] rfl)
