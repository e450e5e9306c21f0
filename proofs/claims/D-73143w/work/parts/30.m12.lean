set_option maxRecDepth 100000
set_option maxHeartbeats 4000000 in
theorem c_X6_stateOf (G : GG) (l : Launch) (a : Nat) (c : Nat) : CI G l yX6_stateOf cX6_stateOf 2 .int 2 16 [.int (nI a), .int (nI c)] (fun _ => True) (nI (17 * a + c)) := by
  refine CI.mk RX6 pnX6 rfl (rfl) (Nat.le_of_ble_eq_true rfl) (fun pg en Rm sg mm ar bw mth cd QQ ls hC hRm hK hP hl hq => ?_)
  have hx := hC.1; have hb := hC.2.1; have ho := hC.2.2.2.1; have hts := hC.2.2.2.2
  have hl : lv_has ls 2 [(0, .int (nI a)), (1, .int (nI c))] := hl
  refine lv_bipush (v := 17) hx hb dX6_stateOf_0 (by decide) ?_
  refine lv_iload_n hx hb dX6_stateOf_2 rfl (lv_at hl 0 rfl) ?_
  refine lv_imul hx hb dX6_stateOf_3 ?_
  refine W_top (pk_mul 17 a) ?_
  refine lv_iload_n hx hb dX6_stateOf_4 rfl (lv_at hl 1 rfl) ?_
  refine lv_iadd hx hb dX6_stateOf_5 ?_
  refine W_top (nI_add (17 * a) c) ?_
  exact hq _ _ _ dX6_stateOf_6 (by rfl)
set_option maxHeartbeats 4000000 in
theorem c_X6_metBy (G : GG) (l : Launch) (o : Nat) (R : Nat → Nat) (u : MS) (h : Nat) (n : Nat) (t : Int32) (hh : h < 16) (hn : n ≤ 6) (hth : ∀ k, k < n → ocN (u.2.1 10) (2 * k + 1) < 16) : CI G l yX6_metBy cX6_metBy 6 .int 4 64 [.ref o, .int (nI h), .int t, .int (nI n)] (PM G o R u) (nI (orT (metC (u.2.1 10) (u.2.1 5) (u.2.1 6) (u.2.1 7) (u.2.1 4) h t) n)) := by
  refine CI.mk RX6 pnX6 rfl (rfl) (Nat.le_of_ble_eq_true rfl) (fun pg en Rm sg mm ar bw mth cd QQ ls hC hRm hK hP hl hq => ?_)
  have hx := hC.1; have hb := hC.2.1; have ho := hC.2.2.2.1; have hts := hC.2.2.2.2
  have hl : lv_has ls 6 [(0, .ref o), (1, .int (nI h)), (2, .int t), (3, .int (nI n))] := hl
  refine lv_iconst (v := 0) hx hb dX6_metBy_0 (by decide) ?_
  refine lv_istore (lv' := [(4, .int 0), (0, .ref o), (1, .int (nI h)), (2, .int t), (3, .int (nI n))]) hx hb dX6_metBy_1 hl (by decide) rfl (fun ls hl => ?_)
  refine lv_iconst (v := 0) hx hb dX6_metBy_3 (by decide) ?_
  refine lv_istore (lv' := [(5, .int 0), (4, .int 0), (0, .ref o), (1, .int (nI h)), (2, .int t), (3, .int (nI n))]) hx hb dX6_metBy_4 hl (by decide) rfl (fun ls hl => ?_)
  have LP6 : ∀ (fu6 : Nat) (k : Nat) (ss : Nat) (ls : Array Slot), n - k < fu6 → k ≤ n → ss = orT (metC (u.2.1 10) (u.2.1 5) (u.2.1 6) (u.2.1 7) (u.2.1 4) h t) k → lv_has ls 6 [(0, .ref o), (1, .int (nI h)), (2, .int t), (3, .int (nI n)), (4, .int (nI ss)), (5, .int (nI k))] → W pg l en Rm sg mm ar bw mth cd sg.heap [] 0 0 QQ (F0 mm 6 ls []) := by
    intro fu6
    induction fu6 with
    | zero => intro k ss ls hm6 hk hss hl; exact absurd hm6 (Nat.not_lt_zero _)
    | succ fu6 ih6 =>
      intro k ss ls hm6 hk hss hl
      refine lv_iload hx hb dX6_metBy_6 (lv_at hl 5 rfl) ?_
      refine lv_iload_n hx hb dX6_metBy_8 rfl (lv_at hl 3 rfl) ?_
      refine lv_icmp_ge (tgt := 58) hx hb dX6_metBy_9 (by decide) (fun c9 => ?_) (fun c9 => ?_)
      · have c9 : n ≤ k := (nI_leI (a := n) (b := k) (by first | omega | exact ocN_b _ _ | exact hbN_b _ _ _) (by first | omega | exact ocN_b _ _ | exact hbN_b _ _ _)).mp c9
        refine lv_iload hx hb dX6_metBy_58 (lv_at hl 4 rfl) ?_
        exact hq _ _ _ dX6_metBy_60 (by have hfin : k = n := (by omega); subst hfin; rw [hss])
      · have c9 : ¬ (n ≤ k) := mt (nI_leI (a := n) (b := k) (by first | omega | exact ocN_b _ _ | exact hbN_b _ _ _) (by first | omega | exact ocN_b _ _ | exact hbN_b _ _ _)).mpr c9
        refine lv_aload_n hx hb dX6_metBy_12 rfl (lv_at hl 0 rfl) ?_
        refine lv_iconst (v := 2) hx hb dX6_metBy_13 (by decide) ?_
        refine lv_iload hx hb dX6_metBy_14 (lv_at hl 5 rfl) ?_
        refine lv_imul hx hb dX6_metBy_16 ?_
        refine W_top (pk_mul 2 k) ?_
        refine CI.callV hC hK hl (c_X6_octet G l o R u (2 * k) (by first | assumption | omega | rfl | (simp_all; done))) hP (hP.recv hK) q1711 q1713 qs96 q116 q1714 mdX6_octet (room_ok hRm rfl) rfl rfl dX6_metBy_17 ?_
        refine lv_iload_n hx hb dX6_metBy_20 rfl (lv_at hl 1 rfl) ?_
        refine lv_icmp_ne (tgt := 52) hx hb dX6_metBy_21 (by decide) (fun c21 => ?_) (fun c21 => ?_)
        · have c21 : ¬ ((ocN (u.2.1 10) (2 * k)) = h) := mt (nI_eq (a := (ocN (u.2.1 10) (2 * k))) (b := h) (by first | omega | exact ocN_b _ _ | exact hbN_b _ _ _) (by first | omega | exact ocN_b _ _ | exact hbN_b _ _ _)).mpr c21
          refine lv_iinc (v := (nI (k + 1))) (lv' := [(5, .int (nI (k + 1))), (0, .ref o), (1, .int (nI h)), (2, .int t), (3, .int (nI n)), (4, .int (nI ss))]) hx hb dX6_metBy_52 hl (k := 5) rfl (nI_inc k) (by decide) rfl (fun ls hl => ?_)
          refine lv_goto (tgt := 6) hx hb dX6_metBy_55 (by decide) ?_
          exact ih6 (k + 1) ss ls (by omega) (by first | omega | assumption | rfl | (simp_all; done) | grind) (by (clear hq hP hK hts hC hx hb ho hRm hl ih6); grind [orT, metC])  (lv_sub hl [1, 2, 3, 4, 5, 0] rfl)
        · have c21 : (ocN (u.2.1 10) (2 * k)) = h := (nI_eq (a := (ocN (u.2.1 10) (2 * k))) (b := h) (by first | omega | exact ocN_b _ _ | exact hbN_b _ _ _) (by first | omega | exact ocN_b _ _ | exact hbN_b _ _ _)).mp c21
          refine lv_aload_n hx hb dX6_metBy_24 rfl (lv_at hl 0 rfl) ?_
          refine lv_iload_n hx hb dX6_metBy_25 rfl (lv_at hl 1 rfl) ?_
          refine lv_aload_n hx hb dX6_metBy_26 rfl (lv_at hl 0 rfl) ?_
          refine lv_iconst (v := 2) hx hb dX6_metBy_27 (by decide) ?_
          refine lv_iload hx hb dX6_metBy_28 (lv_at hl 5 rfl) ?_
          refine lv_imul hx hb dX6_metBy_30 ?_
          refine W_top (pk_mul 2 k) ?_
          refine lv_iconst (v := 1) hx hb dX6_metBy_31 (by decide) ?_
          refine lv_iadd hx hb dX6_metBy_32 ?_
          refine W_top (nI_add (2 * k) 1) ?_
          refine CI.callV hC hK hl (c_X6_octet G l o R u ((2 * k) + 1) (by first | assumption | omega | rfl | (simp_all; done))) hP (hP.recv hK) q1711 q1713 qs96 q116 q1714 mdX6_octet (room_ok hRm rfl) rfl rfl dX6_metBy_33 ?_
          refine lv_iload_n hx hb dX6_metBy_36 rfl (lv_at hl 2 rfl) ?_
          refine CI.callV hC hK hl (c_X6_isSeen G l o R u h (ocN (u.2.1 10) ((2 * k) + 1)) t (by first | assumption | omega | rfl | (simp_all; done)) (hth k (by omega))) hP (hP.recv hK) q1414 q1416 qs48 q116 q1417 mdX6_isSeen (room_ok hRm rfl) rfl rfl dX6_metBy_37 ?_
          refine lv_if_eq (tgt := 52) hx hb dX6_metBy_40 (by decide) (fun c40 => ?_) (fun c40 => ?_)
          · have c40 : (isSeenB ((u.2.1 5) (ocN (u.2.1 10) ((2 * k) + 1))) ((u.2.1 4) h) ((u.2.1 6) (ocN (u.2.1 10) ((2 * k) + 1))) ((u.2.1 7) (ocN (u.2.1 10) ((2 * k) + 1))) t) = false := bI_0.mp c40
            refine lv_iinc (v := (nI (k + 1))) (lv' := [(5, .int (nI (k + 1))), (0, .ref o), (1, .int (nI h)), (2, .int t), (3, .int (nI n)), (4, .int (nI ss))]) hx hb dX6_metBy_52 hl (k := 5) rfl (nI_inc k) (by decide) rfl (fun ls hl => ?_)
            refine lv_goto (tgt := 6) hx hb dX6_metBy_55 (by decide) ?_
            exact ih6 (k + 1) ss ls (by omega) (by first | omega | assumption | rfl | (simp_all; done) | grind) (by (clear hq hP hK hts hC hx hb ho hRm hl ih6); grind [orT, metC])  (lv_sub hl [1, 2, 3, 4, 5, 0] rfl)
          · have c40 : (isSeenB ((u.2.1 5) (ocN (u.2.1 10) ((2 * k) + 1))) ((u.2.1 4) h) ((u.2.1 6) (ocN (u.2.1 10) ((2 * k) + 1))) ((u.2.1 7) (ocN (u.2.1 10) ((2 * k) + 1))) t) = true := bI_1.mp c40
            refine lv_iload hx hb dX6_metBy_43 (lv_at hl 4 rfl) ?_
            refine lv_iconst (v := 1) hx hb dX6_metBy_45 (by decide) ?_
            refine lv_iload hx hb dX6_metBy_46 (lv_at hl 5 rfl) ?_
            refine lv_ishl hx hb dX6_metBy_48 ?_
            refine W_top (y := (nI (2 ^ k))) (shl1 k (by omega)) ?_
            refine lv_ior hx hb dX6_metBy_49 ?_
            refine W_top (y := (nI (ss ||| 2 ^ k))) (nI_or _ _) ?_
            refine lv_istore (lv' := [(4, .int (nI (ss ||| 2 ^ k))), (0, .ref o), (1, .int (nI h)), (2, .int t), (3, .int (nI n)), (5, .int (nI k))]) hx hb dX6_metBy_50 hl (by decide) rfl (fun ls hl => ?_)
            refine lv_iinc (v := (nI (k + 1))) (lv' := [(5, .int (nI (k + 1))), (4, .int (nI (ss ||| 2 ^ k))), (0, .ref o), (1, .int (nI h)), (2, .int t), (3, .int (nI n))]) hx hb dX6_metBy_52 hl (k := 5) rfl (nI_inc k) (by decide) rfl (fun ls hl => ?_)
            refine lv_goto (tgt := 6) hx hb dX6_metBy_55 (by decide) ?_
            exact ih6 (k + 1) (ss ||| 2 ^ k) ls (by omega) (by first | omega | assumption | rfl | (simp_all; done) | grind) (by (clear hq hP hK hts hC hx hb ho hRm hl ih6); grind [orT, metC])  (lv_sub hl [2, 3, 4, 5, 1, 0] rfl)
  exact LP6 _ 0 0 ls (Nat.lt_succ_self _) (by first | omega | assumption | rfl | (simp_all; done) | grind) (rfl)  (lv_sub hl [2, 3, 4, 5, 1, 0] rfl)
set_option maxHeartbeats 4000000 in
theorem c_X6_choosesHouse (G : GG) (l : Launch) (o : Nat) (R : Nat → Nat) (u : MS) (h : Nat) (n : Nat) (t : Int32) (T : Nat → Nat) (A : Nat → Nat) (hh : h < 16) (hn : n ≤ 6) (hth : ∀ k, k < n → ocN (u.2.1 10) (2 * k + 1) < 16) (hT : ∀ i, T i ≤ FARN) (hA : ∀ i, A i ≤ FARN) (hgT : ∀ i, i < 1088 → (u.2.1 51) i = nI (T i)) (hgA : ∀ i, i < 1088 → (u.2.1 52) i = nI (A i)) (hD : DM o R) : CMv G l o R yX6_choosesHouse cX6_choosesHouse 10 5 89 [.int (nI h), .int t, .int (nI n)] u (fun w => ∃ g : Nat → Int32, (∀ i, i < 1088 → g i = nI (chN T A h (orT (metC (u.2.1 10) (u.2.1 5) (u.2.1 6) (u.2.1 7) (u.2.1 4) h t) n) n i)) ∧ w = (mS u 52 g)) := by
  refine CMv.mk pnX6 rfl (Nat.le_of_ble_eq_true rfl) (fun pg en Rm sg mm ar bw mth cd QQ ls hC hRm hK hP hS hl hq => ?_)
  have hx := hC.1; have hb := hC.2.1; have ho := hC.2.2.2.1; have hts := hC.2.2.2.2
  have hl : lv_has ls 10 [(0, .ref o), (1, .int (nI h)), (2, .int t), (3, .int (nI n))] := hl
  have hp2 : 2 ^ n ≤ 64 := Nat.pow_le_pow_right (n := 2) (by decide) hn
  obtain ⟨m, hm⟩ : ∃ m, m = orT (metC (u.2.1 10) (u.2.1 5) (u.2.1 6) (u.2.1 7) (u.2.1 4) h t) n := ⟨_, rfl⟩
  have hmlt : m < 2 ^ n := by rw [hm]; exact orT_lt _ _
  refine lv_aload_n hx hb dX6_choosesHouse_0 rfl (lv_at hl 0 rfl) ?_
  refine lv_iload_n hx hb dX6_choosesHouse_1 rfl (lv_at hl 1 rfl) ?_
  refine lv_iload_n hx hb dX6_choosesHouse_2 rfl (lv_at hl 2 rfl) ?_
  refine lv_iload_n hx hb dX6_choosesHouse_3 rfl (lv_at hl 3 rfl) ?_
  refine CI.callV hC hK hl (c_X6_metBy G l o R u h n t (by first | assumption | omega | rfl | (simp_all; done)) (by first | assumption | omega | rfl | (simp_all; done)) (hth)) hP (hP.recv hK) q1727 q1729 qs99 q116 q1730 mdX6_metBy (room_ok hRm rfl) rfl rfl dX6_choosesHouse_4 ?_
  refine W_top (y := (nI m)) (by rw [hm]) ?_
  refine lv_istore (lv' := [(4, .int (nI m)), (0, .ref o), (1, .int (nI h)), (2, .int t), (3, .int (nI n))]) hx hb dX6_choosesHouse_7 hl (by decide) rfl (fun ls hl => ?_)
  refine lv_iload hx hb dX6_choosesHouse_9 (lv_at hl 0 rfl) ?_
  refine lv_if_ne (tgt := 15) hx hb dX6_choosesHouse_11 (by decide) (fun c11 => ?_) (fun c11 => ?_)
  · have c11 : ¬ (m = 0) := mt (nI_eq (a := m) (b := 0) (by omega) (by omega)).mpr c11
    refine lv_iconst (v := 0) hx hb dX6_choosesHouse_15 (by decide) ?_
    refine lv_istore (lv' := [(5, .int 0), (4, .int (nI m)), (0, .ref o), (1, .int (nI h)), (2, .int t), (3, .int (nI n))]) hx hb dX6_choosesHouse_16 hl (by decide) rfl (fun ls hl => ?_)
    have hP : PM G o R (mS u 52 (u.2.1 52)) sg.heap := by rw [show (u.2.1 52) = (u.2.1 52) from rfl, mS_self]; exact hP
    have LP18 : ∀ (fu18 : Nat) (met : Nat) (g : Nat → Int32) (H : Heap) (locs : List Loc) (ls : Array Slot), 2 ^ n - met < fu18 → met ≤ 2 ^ n → (∀ i, i < 1088 → g i = nI (chM T h m A met i)) → PM G o R (mS u 52 g) H → va_S (AM o R) sg.heap H locs → lv_has ls 10 [(0, .ref o), (1, .int (nI h)), (2, .int t), (3, .int (nI n)), (4, .int (nI m)), (5, .int (nI met))] → W pg l en Rm sg mm ar bw mth cd H locs 0 0 QQ (F0 mm 18 ls []) := by
      intro fu18
      induction fu18 with
      | zero => intro met g H locs ls hm18 hm1 hg hP hS hl; exact absurd hm18 (Nat.not_lt_zero _)
      | succ fu18 ih18 =>
        intro met g H locs ls hm18 hm1 hg hP hS hl
        refine lv_iload hx hb dX6_choosesHouse_18 (lv_at hl 5 rfl) ?_
        refine lv_iconst (v := 1) hx hb dX6_choosesHouse_20 (by decide) ?_
        refine lv_iload_n hx hb dX6_choosesHouse_21 rfl (lv_at hl 3 rfl) ?_
        refine lv_ishl hx hb dX6_choosesHouse_22 ?_
        refine W_top (y := (nI (2 ^ n))) (shl1 n (by omega)) ?_
        refine lv_icmp_ge (tgt := 129) hx hb dX6_choosesHouse_23 (by decide) (fun c23 => ?_) (fun c23 => ?_)
        · have c23 : (2 ^ n) ≤ met := (nI_leI (a := (2 ^ n)) (b := met) (by omega) (by omega)).mp c23
          exact hq _ _ _ _ _ dX6_choosesHouse_129 hP hS (by exact ⟨g, by have e : met = 2 ^ n := (by omega); subst e; rw [← hm, chN, if_neg c11]; exact hg, rfl⟩)
        · have c23 : ¬ ((2 ^ n) ≤ met) := mt (nI_leI (a := (2 ^ n)) (b := met) (by omega) (by omega)).mpr c23
          refine lv_iconst (v := 0) hx hb dX6_choosesHouse_26 (by decide) ?_
          refine lv_istore (lv' := [(6, .int 0), (0, .ref o), (1, .int (nI h)), (2, .int t), (3, .int (nI n)), (4, .int (nI m)), (5, .int (nI met))]) hx hb dX6_choosesHouse_27 hl (by decide) rfl (fun ls hl => ?_)
          have LP29 : ∀ (fu29 : Nat) (la : Nat) (g : Nat → Int32) (H : Heap) (locs : List Loc) (ls : Array Slot), 17 - la < fu29 → la ≤ 17 → (∀ i, i < 1088 → g i = nI ((chL T h m met (chM T h m A met) la i))) → PM G o R (mS u 52 g) H → va_S (AM o R) sg.heap H locs → lv_has ls 10 [(0, .ref o), (1, .int (nI h)), (2, .int t), (3, .int (nI n)), (4, .int (nI m)), (5, .int (nI met)), (6, .int (nI la))] → W pg l en Rm sg mm ar bw mth cd H locs 0 0 QQ (F0 mm 29 ls []) := by
            intro fu29
            induction fu29 with
            | zero => intro la g H locs ls hm29 hla hg2 hP hS hl; exact absurd hm29 (Nat.not_lt_zero _)
            | succ fu29 ih29 =>
              intro la g H locs ls hm29 hla hg2 hP hS hl
              refine lv_iload hx hb dX6_choosesHouse_29 (lv_at hl 6 rfl) ?_
              refine lv_bipush (v := 16) hx hb dX6_choosesHouse_31 (by decide) ?_
              refine lv_icmp_gt (tgt := 123) hx hb dX6_choosesHouse_33 (by decide) (fun c33 => ?_) (fun c33 => ?_)
              · have c33 : 16 < la := (nI_ltI (a := 16) (b := la) (by omega) (by omega)).mp c33
                refine lv_iinc (v := (nI (met + 1))) (lv' := [(5, .int (nI (met + 1))), (0, .ref o), (1, .int (nI h)), (2, .int t), (3, .int (nI n)), (4, .int (nI m)), (6, .int (nI la))]) hx hb dX6_choosesHouse_123 hl (k := 5) rfl (nI_inc met) (by decide) rfl (fun ls hl => ?_)
                refine lv_goto (tgt := 18) hx hb dX6_choosesHouse_126 (by decide) ?_
                exact ih18 (met + 1) g _ _ ls (by omega) (by first | omega | assumption | rfl | (simp_all; done) | grind) (by have e : la = 17 := (by omega); subst e; exact hg2) hP hS (lv_sub hl [1, 2, 3, 4, 5, 0] rfl)
              · have c33 : ¬ (16 < la) := mt (nI_ltI (a := 16) (b := la) (by omega) (by omega)).mpr c33
                refine lv_aload_n hx hb dX6_choosesHouse_36 rfl (lv_at hl 0 rfl) ?_
                refine M_get hC hK hP 51 (by decide) (fM51 _ _) q1252 dX6_choosesHouse_37 ?_
                refine lv_iload hx hb dX6_choosesHouse_40 (lv_at hl 5 rfl) ?_
                refine lv_iload hx hb dX6_choosesHouse_42 (lv_at hl 6 rfl) ?_
                refine CI.callS hC hK hl (c_X6_stateOf G l met la ) trivial q1720 q1721 q116 q1722 mdX6_stateOf (room_ok hRm rfl) rfl rfl dX6_choosesHouse_44 ?_
                refine W_top (y := (nI (17 * met + la))) rfl ?_
                have hTb : T (17 * met + la) ≤ 100000000 := hT (17 * met + la)
                refine M_ald hC hK hP 51 32 1088 (17 * met + la) (aM51 _ _ _ _) (by decide) (rfl) (by omega) dX6_choosesHouse_47 ?_
                refine W_top (y := (u.2.1 51 (17 * met + la))) rfl ?_
                refine W_top (y := (nI (T (17 * met + la)))) (hgT _ (by omega)) ?_
                refine lv_istore (lv' := [(7, .int (nI (T (17 * met + la)))), (0, .ref o), (1, .int (nI h)), (2, .int t), (3, .int (nI n)), (4, .int (nI m)), (5, .int (nI met)), (6, .int (nI la))]) hx hb dX6_choosesHouse_48 hl (by decide) rfl (fun ls hl => ?_)
                refine lv_iload hx hb dX6_choosesHouse_50 (lv_at hl 0 rfl) ?_
                refine lv_ldcw (own := RX6) (v := 100000000) hx hb ho (hts _ q1719) dX6_choosesHouse_52 ?_
                refine lv_icmp_lt (tgt := 61) hx hb dX6_choosesHouse_55 (by decide) (fun c55 => ?_) (fun c55 => ?_)
                · have c55 : (T (17 * met + la)) < 100000000 := (nI_ltI (a := (T (17 * met + la))) (b := 100000000) (by omega) (by omega)).mp c55
                  refine lv_iload hx hb dX6_choosesHouse_61 (lv_at hl 7 rfl) ?_
                  refine lv_bipush (v := 16) hx hb dX6_choosesHouse_63 (by decide) ?_
                  refine lv_icmp_ne (tgt := 72) hx hb dX6_choosesHouse_65 (by decide) (fun c65 => ?_) (fun c65 => ?_)
                  · have c65 : ¬ (la = 16) := mt (nI_eq (a := la) (b := 16) (by omega) (by omega)).mpr c65
                    refine lv_iload hx hb dX6_choosesHouse_72 (lv_at hl 0 rfl) ?_
                    refine lv_bipush (v := 32) hx hb dX6_choosesHouse_74 (by decide) ?_
                    refine lv_iload_n hx hb dX6_choosesHouse_76 rfl (lv_at hl 2 rfl) ?_
                    refine lv_iload hx hb dX6_choosesHouse_77 (lv_at hl 7 rfl) ?_
                    refine lv_isub hx hb dX6_choosesHouse_79 ?_
                    refine CI.callS hC hK hl (c_X6_size G l ((nI h) - (nI la)) ) trivial q1577 q1578 q116 q1579 mdX6_size (room_ok hRm rfl) rfl rfl dX6_choosesHouse_80 ?_
                    refine W_top (y := (abI ((nI h) - (nI la)))) rfl ?_
                    refine W_top (y := (nI (absN h la))) (abI_nI (by omega) (by omega)) ?_
                    refine lv_imul hx hb dX6_choosesHouse_83 ?_
                    refine W_top (pk_mul 32 (absN h la)) ?_
                    refine lv_iadd hx hb dX6_choosesHouse_84 ?_
                    refine W_top (nI_add (T (17 * met + la)) (32 * (absN h la))) ?_
                    refine W_top (y := (nI (thenN h la (T (17 * met + la))))) (by first | (rw [thenN, if_pos c65]) | (rw [thenN, if_neg c65])) ?_
                    refine lv_istore (lv' := [(8, .int (nI (thenN h la (T (17 * met + la))))), (7, .int (nI (T (17 * met + la)))), (0, .ref o), (1, .int (nI h)), (2, .int t), (3, .int (nI n)), (4, .int (nI m)), (5, .int (nI met)), (6, .int (nI la))]) hx hb dX6_choosesHouse_85 hl (by decide) rfl (fun ls hl => ?_)
                    have hor : met ||| m < 2 ^ n := Nat.or_lt_two_pow (by omega) hmlt
                    have hb1 : (chL T h m met (chM T h m A met) la (17 * (met ||| m) + h)) ≤ 100000000 := chL_le (chM_le hA met) la _
                    have hb2 := thenN_b (h := h) (la := la) hh (by omega) hTb
                    refine lv_iload hx hb dX6_choosesHouse_87 (lv_at hl 7 rfl) ?_
                    refine lv_iload hx hb dX6_choosesHouse_89 (lv_at hl 6 rfl) ?_
                    refine lv_ior hx hb dX6_choosesHouse_91 ?_
                    refine W_top (y := (nI (met ||| m))) (nI_or _ _) ?_
                    refine lv_iload_n hx hb dX6_choosesHouse_92 rfl (lv_at hl 3 rfl) ?_
                    refine CI.callS hC hK hl (c_X6_stateOf G l (met ||| m) h ) trivial q1720 q1721 q116 q1722 mdX6_stateOf (room_ok hRm rfl) rfl rfl dX6_choosesHouse_93 ?_
                    refine W_top (y := (nI (17 * (met ||| m) + h))) rfl ?_
                    refine lv_istore (lv' := [(9, .int (nI (17 * (met ||| m) + h))), (8, .int (nI (thenN h la (T (17 * met + la))))), (7, .int (nI (T (17 * met + la)))), (0, .ref o), (1, .int (nI h)), (2, .int t), (3, .int (nI n)), (4, .int (nI m)), (5, .int (nI met)), (6, .int (nI la))]) hx hb dX6_choosesHouse_96 hl (by decide) rfl (fun ls hl => ?_)
                    refine lv_aload_n hx hb dX6_choosesHouse_98 rfl (lv_at hl 3 rfl) ?_
                    refine M_get hC hK hP 52 (by decide) (fM52 _ _) q1253 dX6_choosesHouse_99 ?_
                    refine lv_iload hx hb dX6_choosesHouse_102 (lv_at hl 0 rfl) ?_
                    refine lv_aload_n hx hb dX6_choosesHouse_104 rfl (lv_at hl 3 rfl) ?_
                    refine M_get hC hK hP 52 (by decide) (fM52 _ _) q1253 dX6_choosesHouse_105 ?_
                    refine lv_iload hx hb dX6_choosesHouse_108 (lv_at hl 0 rfl) ?_
                    refine M_ald hC hK hP 52 33 1088 (17 * (met ||| m) + h) (aM52 _ _ _ _) (by decide) (rfl) (by omega) dX6_choosesHouse_110 ?_
                    refine W_top (y := (g (17 * (met ||| m) + h))) rfl ?_
                    refine W_top (y := (nI (chL T h m met (chM T h m A met) la (17 * (met ||| m) + h)))) (hg2 _ (by omega)) ?_
                    refine lv_iload hx hb dX6_choosesHouse_111 (lv_at hl 1 rfl) ?_
                    refine CI.callS hC hK hl (c_X6_min G l (nI (chL T h m met (chM T h m A met) la (17 * (met ||| m) + h))) (nI (thenN h la (T (17 * met + la)))) ) trivial q1598 q1599 q116 q1600 mdX6_min (room_ok hRm rfl) rfl rfl dX6_choosesHouse_113 ?_
                    refine W_top (y := (mnI (nI (chL T h m met (chM T h m A met) la (17 * (met ||| m) + h))) (nI (thenN h la (T (17 * met + la)))))) rfl ?_
                    refine W_top (y := (nI (min (chL T h m met (chM T h m A met) la (17 * (met ||| m) + h)) (thenN h la (T (17 * met + la)))))) (mnI_nI (by omega) (by omega)) ?_
                    refine M_ast hC hK hD hP hS 52 33 1088 (17 * (met ||| m) + h) (aM52 _ _ _ _) (bM52 _ _ _ _ _ _) (by decide) (rfl) (by omega) dX6_choosesHouse_116 (fun H locs hP hS => ?_)
                    rw [mS_A] at hP
                    refine lv_iinc (v := (nI (la + 1))) (lv' := [(6, .int (nI (la + 1))), (9, .int (nI (17 * (met ||| m) + h))), (8, .int (nI (thenN h la (T (17 * met + la))))), (7, .int (nI (T (17 * met + la)))), (0, .ref o), (1, .int (nI h)), (2, .int t), (3, .int (nI n)), (4, .int (nI m)), (5, .int (nI met))]) hx hb dX6_choosesHouse_117 hl (k := 9) rfl (nI_inc la) (by decide) rfl (fun ls hl => ?_)
                    refine lv_goto (tgt := 29) hx hb dX6_choosesHouse_120 (by decide) ?_
                    exact ih29 (la + 1) (upd g (17 * (met ||| m) + h) (nI (min (chL T h m met (chM T h m A met) la (17 * (met ||| m) + h)) (thenN h la (T (17 * met + la)))))) _ _ ls (by omega) (by first | omega | assumption | rfl | (simp_all; done) | grind) (by first | (rw [chL_f (show 100000000 ≤ T (17 * met + la) by omega)]; exact hg2) | (rw [chL_n (show ¬ 100000000 ≤ T (17 * met + la) by omega)]; exact upd_updN g _ _ _ 1088 hg2)) hP hS (lv_sub hl [4, 5, 6, 7, 8, 9, 0] rfl)
                  · have c65 : la = 16 := (nI_eq (a := la) (b := 16) (by omega) (by omega)).mp c65
                    refine lv_iload_n hx hb dX6_choosesHouse_68 rfl (lv_at hl 2 rfl) ?_
                    refine lv_goto (tgt := 85) hx hb dX6_choosesHouse_69 (by decide) ?_
                    refine W_top (y := (nI (thenN h la (T (17 * met + la))))) (by first | (rw [thenN, if_pos c65]) | (rw [thenN, if_neg c65])) ?_
                    refine lv_istore (lv' := [(8, .int (nI (thenN h la (T (17 * met + la))))), (7, .int (nI (T (17 * met + la)))), (0, .ref o), (1, .int (nI h)), (2, .int t), (3, .int (nI n)), (4, .int (nI m)), (5, .int (nI met)), (6, .int (nI la))]) hx hb dX6_choosesHouse_85 hl (by decide) rfl (fun ls hl => ?_)
                    have hor : met ||| m < 2 ^ n := Nat.or_lt_two_pow (by omega) hmlt
                    have hb1 : (chL T h m met (chM T h m A met) la (17 * (met ||| m) + h)) ≤ 100000000 := chL_le (chM_le hA met) la _
                    have hb2 := thenN_b (h := h) (la := la) hh (by omega) hTb
                    refine lv_iload hx hb dX6_choosesHouse_87 (lv_at hl 7 rfl) ?_
                    refine lv_iload hx hb dX6_choosesHouse_89 (lv_at hl 6 rfl) ?_
                    refine lv_ior hx hb dX6_choosesHouse_91 ?_
                    refine W_top (y := (nI (met ||| m))) (nI_or _ _) ?_
                    refine lv_iload_n hx hb dX6_choosesHouse_92 rfl (lv_at hl 3 rfl) ?_
                    refine CI.callS hC hK hl (c_X6_stateOf G l (met ||| m) h ) trivial q1720 q1721 q116 q1722 mdX6_stateOf (room_ok hRm rfl) rfl rfl dX6_choosesHouse_93 ?_
                    refine W_top (y := (nI (17 * (met ||| m) + h))) rfl ?_
                    refine lv_istore (lv' := [(9, .int (nI (17 * (met ||| m) + h))), (8, .int (nI (thenN h la (T (17 * met + la))))), (7, .int (nI (T (17 * met + la)))), (0, .ref o), (1, .int (nI h)), (2, .int t), (3, .int (nI n)), (4, .int (nI m)), (5, .int (nI met)), (6, .int (nI la))]) hx hb dX6_choosesHouse_96 hl (by decide) rfl (fun ls hl => ?_)
                    refine lv_aload_n hx hb dX6_choosesHouse_98 rfl (lv_at hl 3 rfl) ?_
                    refine M_get hC hK hP 52 (by decide) (fM52 _ _) q1253 dX6_choosesHouse_99 ?_
                    refine lv_iload hx hb dX6_choosesHouse_102 (lv_at hl 0 rfl) ?_
                    refine lv_aload_n hx hb dX6_choosesHouse_104 rfl (lv_at hl 3 rfl) ?_
                    refine M_get hC hK hP 52 (by decide) (fM52 _ _) q1253 dX6_choosesHouse_105 ?_
                    refine lv_iload hx hb dX6_choosesHouse_108 (lv_at hl 0 rfl) ?_
                    refine M_ald hC hK hP 52 33 1088 (17 * (met ||| m) + h) (aM52 _ _ _ _) (by decide) (rfl) (by omega) dX6_choosesHouse_110 ?_
                    refine W_top (y := (g (17 * (met ||| m) + h))) rfl ?_
                    refine W_top (y := (nI (chL T h m met (chM T h m A met) la (17 * (met ||| m) + h)))) (hg2 _ (by omega)) ?_
                    refine lv_iload hx hb dX6_choosesHouse_111 (lv_at hl 1 rfl) ?_
                    refine CI.callS hC hK hl (c_X6_min G l (nI (chL T h m met (chM T h m A met) la (17 * (met ||| m) + h))) (nI (thenN h la (T (17 * met + la)))) ) trivial q1598 q1599 q116 q1600 mdX6_min (room_ok hRm rfl) rfl rfl dX6_choosesHouse_113 ?_
                    refine W_top (y := (mnI (nI (chL T h m met (chM T h m A met) la (17 * (met ||| m) + h))) (nI (thenN h la (T (17 * met + la)))))) rfl ?_
                    refine W_top (y := (nI (min (chL T h m met (chM T h m A met) la (17 * (met ||| m) + h)) (thenN h la (T (17 * met + la)))))) (mnI_nI (by omega) (by omega)) ?_
                    refine M_ast hC hK hD hP hS 52 33 1088 (17 * (met ||| m) + h) (aM52 _ _ _ _) (bM52 _ _ _ _ _ _) (by decide) (rfl) (by omega) dX6_choosesHouse_116 (fun H locs hP hS => ?_)
                    rw [mS_A] at hP
                    refine lv_iinc (v := (nI (la + 1))) (lv' := [(6, .int (nI (la + 1))), (9, .int (nI (17 * (met ||| m) + h))), (8, .int (nI (thenN h la (T (17 * met + la))))), (7, .int (nI (T (17 * met + la)))), (0, .ref o), (1, .int (nI h)), (2, .int t), (3, .int (nI n)), (4, .int (nI m)), (5, .int (nI met))]) hx hb dX6_choosesHouse_117 hl (k := 9) rfl (nI_inc la) (by decide) rfl (fun ls hl => ?_)
                    refine lv_goto (tgt := 29) hx hb dX6_choosesHouse_120 (by decide) ?_
                    exact ih29 (la + 1) (upd g (17 * (met ||| m) + h) (nI (min (chL T h m met (chM T h m A met) la (17 * (met ||| m) + h)) (thenN h la (T (17 * met + la)))))) _ _ ls (by omega) (by first | omega | assumption | rfl | (simp_all; done) | grind) (by first | (rw [chL_f (show 100000000 ≤ T (17 * met + la) by omega)]; exact hg2) | (rw [chL_n (show ¬ 100000000 ≤ T (17 * met + la) by omega)]; exact upd_updN g _ _ _ 1088 hg2)) hP hS (lv_sub hl [4, 5, 6, 7, 8, 9, 0] rfl)
                · have c55 : ¬ ((T (17 * met + la)) < 100000000) := mt (nI_ltI (a := (T (17 * met + la))) (b := 100000000) (by omega) (by omega)).mpr c55
                  refine lv_goto (tgt := 117) hx hb dX6_choosesHouse_58 (by decide) ?_
                  refine lv_iinc (v := (nI (la + 1))) (lv' := [(6, .int (nI (la + 1))), (7, .int (nI (T (17 * met + la)))), (0, .ref o), (1, .int (nI h)), (2, .int t), (3, .int (nI n)), (4, .int (nI m)), (5, .int (nI met))]) hx hb dX6_choosesHouse_117 hl (k := 7) rfl (nI_inc la) (by decide) rfl (fun ls hl => ?_)
                  refine lv_goto (tgt := 29) hx hb dX6_choosesHouse_120 (by decide) ?_
                  exact ih29 (la + 1) g _ _ ls (by omega) (by first | omega | assumption | rfl | (simp_all; done) | grind) (by first | (rw [chL_f (show 100000000 ≤ T (17 * met + la) by omega)]; exact hg2) | (rw [chL_n (show ¬ 100000000 ≤ T (17 * met + la) by omega)]; exact upd_updN g _ _ _ 1088 hg2)) hP hS (lv_sub hl [2, 3, 4, 5, 6, 7, 0] rfl)
          exact LP29 _ 0 g _ _ ls (Nat.lt_succ_self _) (by first | omega | assumption | rfl | (simp_all; done) | grind) (hg) hP hS (lv_sub hl [1, 2, 3, 4, 5, 6, 0] rfl)
    exact LP18 _ 0 (u.2.1 52) _ _ ls (Nat.lt_succ_self _) (by first | omega | assumption | rfl | (simp_all; done) | grind) (hgA) hP hS (lv_sub hl [2, 3, 4, 5, 1, 0] rfl)
  · have c11 : m = 0 := (nI_eq (a := m) (b := 0) (by omega) (by omega)).mp c11
    exact hq _ _ _ _ _ dX6_choosesHouse_14 hP hS (by exact ⟨(u.2.1 52), by rw [← hm, chN, if_pos c11]; exact hgA, (mS_self u 52).symm⟩)
set_option maxHeartbeats 4000000 in
theorem c_X6_leastOfAll (G : GG) (l : Launch) (o : Nat) (R : Nat → Nat) (u : MS) (n : Nat) (hn1 : 1 ≤ n) (hn : n ≤ 6) (hth : ∀ k, k < n → ocN (u.2.1 10) (2 * k + 1) < 16) (hD : DM o R) : CMi G l o R yX6_leastOfAll cX6_leastOfAll 4 .int 6 118 [.int (nI n)] u (fun r w => ∃ g1 : Nat → Int32, ∃ g2 : Nat → Int32, r = (nI (shortV (u.1 8) (fun t h => orT (metC (u.2.1 10) (u.2.1 5) (u.2.1 6) (u.2.1 7) (u.2.1 4) h (nI t)) n) n)) ∧ w = (mS (mS u 51 g1) 52 g2)) := by
  refine CMi.mk pnX6 rfl (Nat.le_of_ble_eq_true rfl) (fun pg en Rm sg mm ar bw mth cd QQ ls hC hRm hK hP hS hl hq => ?_)
  have hx := hC.1; have hb := hC.2.1; have ho := hC.2.2.2.1; have hts := hC.2.2.2.2
  have hl : lv_has ls 4 [(0, .ref o), (1, .int (nI n))] := hl
  have hp2 : 2 ^ n ≤ 64 := Nat.pow_le_pow_right (n := 2) (by decide) hn
  have hp3 := Nat.two_pow_pos n
  refine lv_iconst (v := 0) hx hb dX6_leastOfAll_0 (by decide) ?_
  refine lv_istore_n (lv' := [(2, .int 0), (0, .ref o), (1, .int (nI n))]) hx hb dX6_leastOfAll_1 rfl hl (by decide) rfl (fun ls hl => ?_)
  have hP : PM G o R (mS u 51 (u.2.1 51)) sg.heap := by rw [show (u.2.1 51) = (u.2.1 51) from rfl, mS_self]; exact hP
  have LP2 : ∀ (fu2 : Nat) (c : Nat) (g1 : Nat → Int32) (H : Heap) (locs : List Loc) (ls : Array Slot), 1088 - c < fu2 → c ≤ 1088 → (∀ i, i < c → g1 i = 100000000) → PM G o R (mS u 51 g1) H → va_S (AM o R) sg.heap H locs → lv_has ls 4 [(0, .ref o), (1, .int (nI n)), (2, .int (nI c))] → W pg l en Rm sg mm ar bw mth cd H locs 0 0 QQ (F0 mm 2 ls []) := by
    intro fu2
    induction fu2 with
    | zero => intro c g1 H locs ls hm2 hc h0 hP hS hl; exact absurd hm2 (Nat.not_lt_zero _)
    | succ fu2 ih2 =>
      intro c g1 H locs ls hm2 hc h0 hP hS hl
      refine lv_iload_n hx hb dX6_leastOfAll_2 rfl (lv_at hl 2 rfl) ?_
      refine lv_sipush (v := 1088) hx hb dX6_leastOfAll_3 (by decide) ?_
      refine lv_icmp_ge (tgt := 24) hx hb dX6_leastOfAll_6 (by decide) (fun c6 => ?_) (fun c6 => ?_)
      · have c6 : 1088 ≤ c := (nI_leI (a := 1088) (b := c) (by omega) (by omega)).mp c6
        refine lv_aload_n hx hb dX6_leastOfAll_24 rfl (lv_at hl 0 rfl) ?_
        refine M_get hC hK hP 51 (by decide) (fM51 _ _) q1252 dX6_leastOfAll_25 ?_
        refine lv_iconst (v := 0) hx hb dX6_leastOfAll_28 (by decide) ?_
        refine lv_bipush (v := 16) hx hb dX6_leastOfAll_29 (by decide) ?_
        refine CI.callS hC hK hl (c_X6_stateOf G l 0 16 ) trivial q1720 q1721 q116 q1722 mdX6_stateOf (room_ok hRm rfl) rfl rfl dX6_leastOfAll_31 ?_
        refine W_top (y := (nI (17 * 0 + 16))) rfl ?_
        refine lv_iconst (v := 0) hx hb dX6_leastOfAll_34 (by decide) ?_
        refine M_ast hC hK hD hP hS 51 32 1088 (17 * 0 + 16) (aM51 _ _ _ _) (bM51 _ _ _ _ _ _) (by decide) (rfl) (by omega) dX6_leastOfAll_35 (fun H locs hP hS => ?_)
        rw [mS_A] at hP
        refine lv_iconst (v := 0) hx hb dX6_leastOfAll_36 (by decide) ?_
        refine lv_istore_n (lv' := [(2, .int 0), (0, .ref o), (1, .int (nI n))]) hx hb dX6_leastOfAll_37 rfl hl (by decide) rfl (fun ls hl => ?_)
        have hP : PM G o R (mS (mS u 51 (upd g1 (17 * 0 + 16) 0)) 52 (u.2.1 52)) H := by rw [show (u.2.1 52) = ((mS u 51 (upd g1 (17 * 0 + 16) 0)).2.1 52) from rfl, mS_self]; exact hP
        have LP38 : ∀ (fu38 : Nat) (t : Nat) (g1 : Nat → Int32) (g2 : Nat → Int32) (H : Heap) (locs : List Loc) (ls : Array Slot), 12 - t < fu38 → t ≤ 12 → (∀ i, i < 1088 → g1 i = nI ((tabN (u.1 8) (fun t h => orT (metC (u.2.1 10) (u.2.1 5) (u.2.1 6) (u.2.1 7) (u.2.1 4) h (nI t)) n) n t i))) → PM G o R (mS (mS u 51 g1) 52 g2) H → va_S (AM o R) sg.heap H locs → lv_has ls 4 [(0, .ref o), (1, .int (nI n)), (2, .int (nI t))] → W pg l en Rm sg mm ar bw mth cd H locs 0 0 QQ (F0 mm 38 ls []) := by
          intro fu38
          induction fu38 with
          | zero => intro t g1 g2 H locs ls hm38 ht h1 hP hS hl; exact absurd hm38 (Nat.not_lt_zero _)
          | succ fu38 ih38 =>
            intro t g1 g2 H locs ls hm38 ht h1 hP hS hl
            refine lv_iload_n hx hb dX6_leastOfAll_38 rfl (lv_at hl 2 rfl) ?_
            refine lv_bipush (v := 12) hx hb dX6_leastOfAll_39 (by decide) ?_
            refine lv_icmp_ge (tgt := 133) hx hb dX6_leastOfAll_41 (by decide) (fun c41 => ?_) (fun c41 => ?_)
            · have c41 : 12 ≤ t := (nI_leI (a := 12) (b := t) (by omega) (by omega)).mp c41
              have e12 : t = 12 := by omega
              subst e12
              have h1t := h1
              refine lv_ldcw (own := RX6) (v := 100000000) hx hb ho (hts _ q1719) dX6_leastOfAll_133 ?_
              refine lv_istore_n (lv' := [(2, .int 100000000), (0, .ref o), (1, .int (nI n))]) hx hb dX6_leastOfAll_136 rfl hl (by decide) rfl (fun ls hl => ?_)
              refine lv_iconst (v := 0) hx hb dX6_leastOfAll_137 (by decide) ?_
              refine lv_istore_n (lv' := [(3, .int 0), (2, .int 100000000), (0, .ref o), (1, .int (nI n))]) hx hb dX6_leastOfAll_138 rfl hl (by decide) rfl (fun ls hl => ?_)
              have LP139 : ∀ (fu139 : Nat) (k : Nat) (ls : Array Slot), 16 - k < fu139 → k ≤ 16 → lv_has ls 4 [(0, .ref o), (1, .int (nI n)), (2, .int (nI (leaN (tabN (u.1 8) (fun t h => orT (metC (u.2.1 10) (u.2.1 5) (u.2.1 6) (u.2.1 7) (u.2.1 4) h (nI t)) n) n 12) n k))), (3, .int (nI k))] → W pg l en Rm sg mm ar bw mth cd H locs 0 0 QQ (F0 mm 139 ls []) := by
                intro fu139
                induction fu139 with
                | zero => intro k ls hm139 hk hl; exact absurd hm139 (Nat.not_lt_zero _)
                | succ fu139 ih139 =>
                  intro k ls hm139 hk hl
                  refine lv_iload_n hx hb dX6_leastOfAll_139 rfl (lv_at hl 3 rfl) ?_
                  refine lv_bipush (v := 16) hx hb dX6_leastOfAll_140 (by decide) ?_
                  refine lv_icmp_ge (tgt := 170) hx hb dX6_leastOfAll_142 (by decide) (fun c142 => ?_) (fun c142 => ?_)
                  · have c142 : 16 ≤ k := (nI_leI (a := 16) (b := k) (by omega) (by omega)).mp c142
                    refine lv_iload_n hx hb dX6_leastOfAll_170 rfl (lv_at hl 2 rfl) ?_
                    exact hq _ _ _ _ _ _ dX6_leastOfAll_171 hP hS (rfl) (by exact ⟨g1, g2, by rw [show k = 16 by omega]; rfl, rfl⟩)
                  · have c142 : ¬ (16 ≤ k) := mt (nI_leI (a := 16) (b := k) (by omega) (by omega)).mpr c142
                    refine lv_iload_n hx hb dX6_leastOfAll_145 rfl (lv_at hl 2 rfl) ?_
                    refine lv_aload_n hx hb dX6_leastOfAll_146 rfl (lv_at hl 0 rfl) ?_
                    refine M_get hC hK hP 51 (by decide) (fM51 _ _) q1252 dX6_leastOfAll_147 ?_
                    refine lv_iconst (v := 1) hx hb dX6_leastOfAll_150 (by decide) ?_
                    refine lv_iload_n hx hb dX6_leastOfAll_151 rfl (lv_at hl 1 rfl) ?_
                    refine lv_ishl hx hb dX6_leastOfAll_152 ?_
                    refine W_top (y := (nI (2 ^ n))) (shl1 n (by omega)) ?_
                    refine lv_iconst (v := 1) hx hb dX6_leastOfAll_153 (by decide) ?_
                    refine lv_isub hx hb dX6_leastOfAll_154 ?_
                    refine W_top (y := (nI (2 ^ n - 1))) (pk_sub (a := 2 ^ n) (b := 1) (by omega)) ?_
                    refine lv_iload_n hx hb dX6_leastOfAll_155 rfl (lv_at hl 3 rfl) ?_
                    refine CI.callS hC hK hl (c_X6_stateOf G l (2 ^ n - 1) k ) trivial q1720 q1721 q116 q1722 mdX6_stateOf (room_ok hRm rfl) rfl rfl dX6_leastOfAll_156 ?_
                    refine W_top (y := (nI (17 * (2 ^ n - 1) + k))) rfl ?_
                    refine M_ald hC hK hP 51 32 1088 (17 * (2 ^ n - 1) + k) (aM51 _ _ _ _) (by decide) (rfl) (by omega) dX6_leastOfAll_159 ?_
                    refine W_top (y := (g1 (17 * (2 ^ n - 1) + k))) rfl ?_
                    refine W_top (y := (nI ((tabN (u.1 8) (fun t h => orT (metC (u.2.1 10) (u.2.1 5) (u.2.1 6) (u.2.1 7) (u.2.1 4) h (nI t)) n) n 12) (17 * (2 ^ n - 1) + k)))) (h1t _ (by omega)) ?_
                    have hb1 : (leaN (tabN (u.1 8) (fun t h => orT (metC (u.2.1 10) (u.2.1 5) (u.2.1 6) (u.2.1 7) (u.2.1 4) h (nI t)) n) n 12) n k) ≤ 100000000 := leaN_le _ _ _
                    have hb2 : (tabN (u.1 8) (fun t h => orT (metC (u.2.1 10) (u.2.1 5) (u.2.1 6) (u.2.1 7) (u.2.1 4) h (nI t)) n) n 12) (17 * (2 ^ n - 1) + k) ≤ 100000000 := tabN_le _ _ _ _ _
                    refine CI.callS hC hK hl (c_X6_min G l (nI (leaN (tabN (u.1 8) (fun t h => orT (metC (u.2.1 10) (u.2.1 5) (u.2.1 6) (u.2.1 7) (u.2.1 4) h (nI t)) n) n 12) n k)) (nI ((tabN (u.1 8) (fun t h => orT (metC (u.2.1 10) (u.2.1 5) (u.2.1 6) (u.2.1 7) (u.2.1 4) h (nI t)) n) n 12) (17 * (2 ^ n - 1) + k))) ) trivial q1598 q1599 q116 q1600 mdX6_min (room_ok hRm rfl) rfl rfl dX6_leastOfAll_160 ?_
                    refine W_top (y := (mnI (nI (leaN (tabN (u.1 8) (fun t h => orT (metC (u.2.1 10) (u.2.1 5) (u.2.1 6) (u.2.1 7) (u.2.1 4) h (nI t)) n) n 12) n k)) (nI ((tabN (u.1 8) (fun t h => orT (metC (u.2.1 10) (u.2.1 5) (u.2.1 6) (u.2.1 7) (u.2.1 4) h (nI t)) n) n 12) (17 * (2 ^ n - 1) + k))))) rfl ?_
                    refine W_top (y := (nI (leaN (tabN (u.1 8) (fun t h => orT (metC (u.2.1 10) (u.2.1 5) (u.2.1 6) (u.2.1 7) (u.2.1 4) h (nI t)) n) n 12) n (k + 1)))) (by rw [mnI_nI (by omega) (by omega)]; rfl) ?_
                    refine lv_istore_n (lv' := [(2, .int (nI (leaN (tabN (u.1 8) (fun t h => orT (metC (u.2.1 10) (u.2.1 5) (u.2.1 6) (u.2.1 7) (u.2.1 4) h (nI t)) n) n 12) n (k + 1)))), (0, .ref o), (1, .int (nI n)), (3, .int (nI k))]) hx hb dX6_leastOfAll_163 rfl hl (by decide) rfl (fun ls hl => ?_)
                    refine lv_iinc (v := (nI (k + 1))) (lv' := [(3, .int (nI (k + 1))), (2, .int (nI (leaN (tabN (u.1 8) (fun t h => orT (metC (u.2.1 10) (u.2.1 5) (u.2.1 6) (u.2.1 7) (u.2.1 4) h (nI t)) n) n 12) n (k + 1)))), (0, .ref o), (1, .int (nI n))]) hx hb dX6_leastOfAll_164 hl (k := 3) rfl (nI_inc k) (by decide) rfl (fun ls hl => ?_)
                    refine lv_goto (tgt := 139) hx hb dX6_leastOfAll_167 (by decide) ?_
                    exact ih139 (k + 1) ls (by omega) (by first | omega | assumption | rfl | (simp_all; done) | grind)  (lv_sub hl [2, 3, 1, 0] rfl)
              exact LP139 _ 0 ls (Nat.lt_succ_self _) (by first | omega | assumption | rfl | (simp_all; done) | grind)  (lv_sub hl [2, 3, 1, 0] rfl)
            · have c41 : ¬ (12 ≤ t) := mt (nI_leI (a := 12) (b := t) (by omega) (by omega)).mpr c41
              refine lv_iconst (v := 0) hx hb dX6_leastOfAll_44 (by decide) ?_
              refine lv_istore_n (lv' := [(3, .int 0), (0, .ref o), (1, .int (nI n)), (2, .int (nI t))]) hx hb dX6_leastOfAll_45 rfl hl (by decide) rfl (fun ls hl => ?_)
              have LP46 : ∀ (fu46 : Nat) (c : Nat) (g2 : Nat → Int32) (H : Heap) (locs : List Loc) (ls : Array Slot), 1088 - c < fu46 → c ≤ 1088 → (∀ i, i < c → g2 i = g1 i) → PM G o R (mS (mS u 51 g1) 52 g2) H → va_S (AM o R) sg.heap H locs → lv_has ls 4 [(0, .ref o), (1, .int (nI n)), (2, .int (nI t)), (3, .int (nI c))] → W pg l en Rm sg mm ar bw mth cd H locs 0 0 QQ (F0 mm 46 ls []) := by
                intro fu46
                induction fu46 with
                | zero => intro c g2 H locs ls hm46 hc2 h2 hP hS hl; exact absurd hm46 (Nat.not_lt_zero _)
                | succ fu46 ih46 =>
                  intro c g2 H locs ls hm46 hc2 h2 hP hS hl
                  refine lv_iload_n hx hb dX6_leastOfAll_46 rfl (lv_at hl 3 rfl) ?_
                  refine lv_sipush (v := 1088) hx hb dX6_leastOfAll_47 (by decide) ?_
                  refine lv_icmp_ge (tgt := 71) hx hb dX6_leastOfAll_50 (by decide) (fun c50 => ?_) (fun c50 => ?_)
                  · have c50 : 1088 ≤ c := (nI_leI (a := 1088) (b := c) (by omega) (by omega)).mp c50
                    refine lv_iconst (v := 0) hx hb dX6_leastOfAll_71 (by decide) ?_
                    refine lv_istore_n (lv' := [(3, .int 0), (0, .ref o), (1, .int (nI n)), (2, .int (nI t))]) hx hb dX6_leastOfAll_72 rfl hl (by decide) rfl (fun ls hl => ?_)
                    have LP73 : ∀ (fu73 : Nat) (h : Nat) (g2 : Nat → Int32) (H : Heap) (locs : List Loc) (ls : Array Slot), 16 - h < fu73 → h ≤ 16 → (∀ i, i < 1088 → g2 i = nI ((layN (u.1 8) ((fun t h => orT (metC (u.2.1 10) (u.2.1 5) (u.2.1 6) (u.2.1 7) (u.2.1 4) h (nI t)) n) t) (tabN (u.1 8) (fun t h => orT (metC (u.2.1 10) (u.2.1 5) (u.2.1 6) (u.2.1 7) (u.2.1 4) h (nI t)) n) n t) n h i))) → PM G o R (mS (mS u 51 g1) 52 g2) H → va_S (AM o R) sg.heap H locs → lv_has ls 4 [(0, .ref o), (1, .int (nI n)), (2, .int (nI t)), (3, .int (nI h))] → W pg l en Rm sg mm ar bw mth cd H locs 0 0 QQ (F0 mm 73 ls []) := by
                      intro fu73
                      induction fu73 with
                      | zero => intro h g2 H locs ls hm73 hh h3 hP hS hl; exact absurd hm73 (Nat.not_lt_zero _)
                      | succ fu73 ih73 =>
                        intro h g2 H locs ls hm73 hh h3 hP hS hl
                        refine lv_iload_n hx hb dX6_leastOfAll_73 rfl (lv_at hl 3 rfl) ?_
                        refine lv_bipush (v := 16) hx hb dX6_leastOfAll_74 (by decide) ?_
                        refine lv_icmp_ge (tgt := 100) hx hb dX6_leastOfAll_76 (by decide) (fun c76 => ?_) (fun c76 => ?_)
                        · have c76 : 16 ≤ h := (nI_leI (a := 16) (b := h) (by omega) (by omega)).mp c76
                          refine lv_iconst (v := 0) hx hb dX6_leastOfAll_100 (by decide) ?_
                          refine lv_istore_n (lv' := [(3, .int 0), (0, .ref o), (1, .int (nI n)), (2, .int (nI t))]) hx hb dX6_leastOfAll_101 rfl hl (by decide) rfl (fun ls hl => ?_)
                          have LP102 : ∀ (fu102 : Nat) (c : Nat) (g1 : Nat → Int32) (H : Heap) (locs : List Loc) (ls : Array Slot), 1088 - c < fu102 → c ≤ 1088 → (∀ i, i < c → g1 i = g2 i) → (∀ i, i < 1088 → g2 i = nI ((layN (u.1 8) ((fun t h => orT (metC (u.2.1 10) (u.2.1 5) (u.2.1 6) (u.2.1 7) (u.2.1 4) h (nI t)) n) t) (tabN (u.1 8) (fun t h => orT (metC (u.2.1 10) (u.2.1 5) (u.2.1 6) (u.2.1 7) (u.2.1 4) h (nI t)) n) n t) n 16 i))) → PM G o R (mS (mS u 51 g1) 52 g2) H → va_S (AM o R) sg.heap H locs → lv_has ls 4 [(0, .ref o), (1, .int (nI n)), (2, .int (nI t)), (3, .int (nI c))] → W pg l en Rm sg mm ar bw mth cd H locs 0 0 QQ (F0 mm 102 ls []) := by
                            intro fu102
                            induction fu102 with
                            | zero => intro c g1 H locs ls hm102 hc4 h4 h3c hP hS hl; exact absurd hm102 (Nat.not_lt_zero _)
                            | succ fu102 ih102 =>
                              intro c g1 H locs ls hm102 hc4 h4 h3c hP hS hl
                              refine lv_iload_n hx hb dX6_leastOfAll_102 rfl (lv_at hl 3 rfl) ?_
                              refine lv_sipush (v := 1088) hx hb dX6_leastOfAll_103 (by decide) ?_
                              refine lv_icmp_ge (tgt := 127) hx hb dX6_leastOfAll_106 (by decide) (fun c106 => ?_) (fun c106 => ?_)
                              · have c106 : 1088 ≤ c := (nI_leI (a := 1088) (b := c) (by omega) (by omega)).mp c106
                                refine lv_iinc (v := (nI (t + 1))) (lv' := [(2, .int (nI (t + 1))), (0, .ref o), (1, .int (nI n)), (3, .int (nI c))]) hx hb dX6_leastOfAll_127 hl (k := 2) rfl (nI_inc t) (by decide) rfl (fun ls hl => ?_)
                                refine lv_goto (tgt := 38) hx hb dX6_leastOfAll_130 (by decide) ?_
                                exact ih38 (t + 1) g1 g2 _ _ ls (by omega) (by first | omega | assumption | rfl | (simp_all; done) | grind) (fun i hi => (h4 i (by omega)).trans (h3c i hi)) hP hS (lv_sub hl [1, 2, 0] rfl)
                              · have c106 : ¬ (1088 ≤ c) := mt (nI_leI (a := 1088) (b := c) (by omega) (by omega)).mpr c106
                                refine lv_aload_n hx hb dX6_leastOfAll_109 rfl (lv_at hl 0 rfl) ?_
                                refine M_get hC hK hP 51 (by decide) (fM51 _ _) q1252 dX6_leastOfAll_110 ?_
                                refine lv_iload_n hx hb dX6_leastOfAll_113 rfl (lv_at hl 3 rfl) ?_
                                refine lv_aload_n hx hb dX6_leastOfAll_114 rfl (lv_at hl 0 rfl) ?_
                                refine M_get hC hK hP 52 (by decide) (fM52 _ _) q1253 dX6_leastOfAll_115 ?_
                                refine lv_iload_n hx hb dX6_leastOfAll_118 rfl (lv_at hl 3 rfl) ?_
                                refine M_ald hC hK hP 52 33 1088 c (aM52 _ _ _ _) (by decide) (rfl) (by omega) dX6_leastOfAll_119 ?_
                                refine W_top (y := (g2 c)) rfl ?_
                                refine M_ast hC hK hD hP hS 51 32 1088 c (aM51 _ _ _ _) (bM51 _ _ _ _ _ _) (by decide) (rfl) (by omega) dX6_leastOfAll_120 (fun H locs hP hS => ?_)
                                rw [mS_A2 _ _ _ _ _ _ _ (by decide)] at hP
                                refine lv_iinc (v := (nI (c + 1))) (lv' := [(3, .int (nI (c + 1))), (0, .ref o), (1, .int (nI n)), (2, .int (nI t))]) hx hb dX6_leastOfAll_121 hl (k := 3) rfl (nI_inc c) (by decide) rfl (fun ls hl => ?_)
                                refine lv_goto (tgt := 102) hx hb dX6_leastOfAll_124 (by decide) ?_
                                exact ih102 (c + 1) (upd g1 c (g2 c)) _ _ ls (by omega) (by first | omega | assumption | rfl | (simp_all; done) | grind) (by intro i hi; by_cases e : i = c; (rw [e, upd_s]); (rw [upd_n _ e]; exact h4 i (by omega))) (by first | omega | assumption | rfl | (simp_all; done) | grind) hP hS (lv_sub hl [1, 2, 3, 0] rfl)
                          exact LP102 _ 0 g1 _ _ ls (Nat.lt_succ_self _) (by first | omega | assumption | rfl | (simp_all; done) | grind) (fun i hi => absurd hi (Nat.not_lt_zero i)) (by have e : h = 16 := (by omega); subst e; exact h3) hP hS (lv_sub hl [1, 2, 3, 0] rfl)
                        · have c76 : ¬ (16 ≤ h) := mt (nI_leI (a := 16) (b := h) (by omega) (by omega)).mpr c76
                          refine lv_aload_n hx hb dX6_leastOfAll_79 rfl (lv_at hl 0 rfl) ?_
                          refine lv_iload_n hx hb dX6_leastOfAll_80 rfl (lv_at hl 3 rfl) ?_
                          refine CI.callV hC hK hl (c_X6_isHouse G l o R (mS (mS u 51 g1) 52 g2) (nI h) ) hP (hP.recv hK) q1395 q1397 qs45 q116 q1398 mdX6_isHouse (room_ok hRm rfl) rfl rfl dX6_leastOfAll_81 ?_
                          refine W_top (y := (bI (isHouseB (u.1 8) (nI h)))) rfl ?_
                          refine lv_if_eq (tgt := 94) hx hb dX6_leastOfAll_84 (by decide) (fun c84 => ?_) (fun c84 => ?_)
                          · have c84 : (isHouseB (u.1 8) (nI h)) = false := bI_0.mp c84
                            refine lv_iinc (v := (nI (h + 1))) (lv' := [(3, .int (nI (h + 1))), (0, .ref o), (1, .int (nI n)), (2, .int (nI t))]) hx hb dX6_leastOfAll_94 hl (k := 3) rfl (nI_inc h) (by decide) rfl (fun ls hl => ?_)
                            refine lv_goto (tgt := 73) hx hb dX6_leastOfAll_97 (by decide) ?_
                            exact ih73 (h + 1) g2 _ _ ls (by omega) (by first | omega | assumption | rfl | (simp_all; done) | grind) (by first | (rw [layN_t c84]; exact f91_0) | (rw [layN_f c84]; exact h3)) hP hS (lv_sub hl [1, 2, 3, 0] rfl)
                          · have c84 : (isHouseB (u.1 8) (nI h)) = true := bI_1.mp c84
                            refine lv_aload_n hx hb dX6_leastOfAll_87 rfl (lv_at hl 0 rfl) ?_
                            refine lv_iload_n hx hb dX6_leastOfAll_88 rfl (lv_at hl 3 rfl) ?_
                            refine lv_iload_n hx hb dX6_leastOfAll_89 rfl (lv_at hl 2 rfl) ?_
                            refine lv_iload_n hx hb dX6_leastOfAll_90 rfl (lv_at hl 1 rfl) ?_
                            refine CMv.call hC hK hS (fun q h => h) hl (c_X6_choosesHouse G l o R (mS (mS u 51 g1) 52 g2) h n (nI t) (tabN (u.1 8) (fun t h => orT (metC (u.2.1 10) (u.2.1 5) (u.2.1 6) (u.2.1 7) (u.2.1 4) h (nI t)) n) n t) (layN (u.1 8) ((fun t h => orT (metC (u.2.1 10) (u.2.1 5) (u.2.1 6) (u.2.1 7) (u.2.1 4) h (nI t)) n) t) (tabN (u.1 8) (fun t h => orT (metC (u.2.1 10) (u.2.1 5) (u.2.1 6) (u.2.1 7) (u.2.1 4) h (nI t)) n) n t) n h) (by first | assumption | omega | rfl | (simp_all; done)) (by first | assumption | omega | rfl | (simp_all; done)) (hth) (tabN_le _ _ _ _) (layN_le (tabN_le _ _ _ _) _) (h1) (h3) hD) hP rfl q1723 q1725 qs98 q116 q1726 mdX6_choosesHouse (room_ok hRm rfl) rfl rfl dX6_leastOfAll_91 (fun w91 H locs hpo hP _ _ hS => ?_)
                            obtain ⟨g_1, f91_0, ew91⟩ := hpo
                            rw [ew91] at hP
                            rw [mS_S] at hP
                            refine lv_iinc (v := (nI (h + 1))) (lv' := [(3, .int (nI (h + 1))), (0, .ref o), (1, .int (nI n)), (2, .int (nI t))]) hx hb dX6_leastOfAll_94 hl (k := 3) rfl (nI_inc h) (by decide) rfl (fun ls hl => ?_)
                            refine lv_goto (tgt := 73) hx hb dX6_leastOfAll_97 (by decide) ?_
                            exact ih73 (h + 1) g_1 _ _ ls (by omega) (by first | omega | assumption | rfl | (simp_all; done) | grind) (by first | (rw [layN_t c84]; exact f91_0) | (rw [layN_f c84]; exact h3)) hP hS (lv_sub hl [1, 2, 3, 0] rfl)
                    exact LP73 _ 0 g2 _ _ ls (Nat.lt_succ_self _) (by first | omega | assumption | rfl | (simp_all; done) | grind) (fun i hi => (h2 i (by omega)).trans (h1 i hi)) hP hS (lv_sub hl [1, 2, 3, 0] rfl)
                  · have c50 : ¬ (1088 ≤ c) := mt (nI_leI (a := 1088) (b := c) (by omega) (by omega)).mpr c50
                    refine lv_aload_n hx hb dX6_leastOfAll_53 rfl (lv_at hl 0 rfl) ?_
                    refine M_get hC hK hP 52 (by decide) (fM52 _ _) q1253 dX6_leastOfAll_54 ?_
                    refine lv_iload_n hx hb dX6_leastOfAll_57 rfl (lv_at hl 3 rfl) ?_
                    refine lv_aload_n hx hb dX6_leastOfAll_58 rfl (lv_at hl 0 rfl) ?_
                    refine M_get hC hK hP 51 (by decide) (fM51 _ _) q1252 dX6_leastOfAll_59 ?_
                    refine lv_iload_n hx hb dX6_leastOfAll_62 rfl (lv_at hl 3 rfl) ?_
                    refine M_ald hC hK hP 51 32 1088 c (aM51 _ _ _ _) (by decide) (rfl) (by omega) dX6_leastOfAll_63 ?_
                    refine W_top (y := (g1 c)) rfl ?_
                    refine M_ast hC hK hD hP hS 52 33 1088 c (aM52 _ _ _ _) (bM52 _ _ _ _ _ _) (by decide) (rfl) (by omega) dX6_leastOfAll_64 (fun H locs hP hS => ?_)
                    rw [mS_A] at hP
                    refine lv_iinc (v := (nI (c + 1))) (lv' := [(3, .int (nI (c + 1))), (0, .ref o), (1, .int (nI n)), (2, .int (nI t))]) hx hb dX6_leastOfAll_65 hl (k := 3) rfl (nI_inc c) (by decide) rfl (fun ls hl => ?_)
                    refine lv_goto (tgt := 46) hx hb dX6_leastOfAll_68 (by decide) ?_
                    exact ih46 (c + 1) (upd g2 c (g1 c)) _ _ ls (by omega) (by first | omega | assumption | rfl | (simp_all; done) | grind) (by intro i hi; by_cases e : i = c; (rw [e, upd_s]); (rw [upd_n _ e]; exact h2 i (by omega))) hP hS (lv_sub hl [1, 2, 3, 0] rfl)
              exact LP46 _ 0 g2 _ _ ls (Nat.lt_succ_self _) (by first | omega | assumption | rfl | (simp_all; done) | grind) (fun i hi => absurd hi (Nat.not_lt_zero i)) hP hS (lv_sub hl [1, 2, 3, 0] rfl)
        exact LP38 _ 0 (upd g1 (17 * 0 + 16) 0) (u.2.1 52) _ _ ls (Nat.lt_succ_self _) (by first | omega | assumption | rfl | (simp_all; done) | grind) (by intro i hi; show _ = nI (if i = 16 then 0 else FARN); by_cases e : i = 16; (rw [if_pos e, e]; exact upd_s _ _ _); (rw [if_neg e, upd_n _ (by omega), h0 i (by omega)]; rfl)) hP hS (lv_sub hl [1, 2, 0] rfl)
      · have c6 : ¬ (1088 ≤ c) := mt (nI_leI (a := 1088) (b := c) (by omega) (by omega)).mpr c6
        refine lv_aload_n hx hb dX6_leastOfAll_9 rfl (lv_at hl 0 rfl) ?_
        refine M_get hC hK hP 51 (by decide) (fM51 _ _) q1252 dX6_leastOfAll_10 ?_
        refine lv_iload_n hx hb dX6_leastOfAll_13 rfl (lv_at hl 2 rfl) ?_
        refine lv_ldcw (own := RX6) (v := 100000000) hx hb ho (hts _ q1719) dX6_leastOfAll_14 ?_
        refine M_ast hC hK hD hP hS 51 32 1088 c (aM51 _ _ _ _) (bM51 _ _ _ _ _ _) (by decide) (rfl) (by omega) dX6_leastOfAll_17 (fun H locs hP hS => ?_)
        rw [mS_A] at hP
        refine lv_iinc (v := (nI (c + 1))) (lv' := [(2, .int (nI (c + 1))), (0, .ref o), (1, .int (nI n))]) hx hb dX6_leastOfAll_18 hl (k := 2) rfl (nI_inc c) (by decide) rfl (fun ls hl => ?_)
        refine lv_goto (tgt := 2) hx hb dX6_leastOfAll_21 (by decide) ?_
        exact ih2 (c + 1) (upd g1 c 100000000) _ _ ls (by omega) (by first | omega | assumption | rfl | (simp_all; done) | grind) (by intro i hi; by_cases e : i = c; (rw [e, upd_s]); (rw [upd_n _ e]; exact h0 i (by omega))) hP hS (lv_sub hl [1, 2, 0] rfl)
  exact LP2 _ 0 (u.2.1 51) _ _ ls (Nat.lt_succ_self _) (by first | omega | assumption | rfl | (simp_all; done) | grind) (fun i hi => absurd hi (Nat.not_lt_zero i)) hP hS (lv_sub hl [1, 2, 0] rfl)
set_option maxHeartbeats 4000000 in
theorem c_X6_shortest (G : GG) (l : Launch) (o : Nat) (R : Nat → Nat) (u : MS) (n0 : Int32) (k0 : Int32) (hD : DM o R) : CMi G l o R yX6_shortest cX6_shortest 4 .int 7 141 [.int n0, .int k0] u (fun r w => ∃ g1 : Nat → Int32, ∃ g2 : Nat → Int32, r = (shortI (u.1 8) (u.1 9) (u.2.1 10) (u.2.1 5) (u.2.1 6) (u.2.1 7) (u.2.1 4) (u.1 11) n0 k0) ∧ w = (if crackG1 (u.1 11) n0 k0 = true then mS (mS (mV u 11 0) 51 g1) 52 g2 else u)) := by
  refine CMi.mk pnX6 rfl (Nat.le_of_ble_eq_true rfl) (fun pg en Rm sg mm ar bw mth cd QQ ls hC hRm hK hP hS hl hq => ?_)
  have hx := hC.1; have hb := hC.2.1; have ho := hC.2.2.2.1; have hts := hC.2.2.2.2
  have hl : lv_has ls 4 [(0, .ref o), (1, .int n0), (2, .int k0)] := hl
  refine lv_iload_n hx hb dX6_shortest_0 rfl (lv_at hl 1 rfl) ?_
  refine lv_iconst (v := 1) hx hb dX6_shortest_1 (by decide) ?_
  refine lv_bipush (v := 6) hx hb dX6_shortest_2 (by decide) ?_
  refine CI.callS hC hK hl (c_X6_in G l n0 1 6 ) trivial q1392 q1393 q116 q1394 mdX6_in (room_ok hRm rfl) rfl rfl dX6_shortest_4 ?_
  refine lv_if_eq (tgt := 29) hx hb dX6_shortest_7 (by decide) (fun c7 => ?_) (fun c7 => ?_)
  · have c7 : (inB n0 1 6) = false := bI_0.mp c7
    refine lv_iconst (v := (-1)) hx hb dX6_shortest_29 (by decide) ?_
    exact hq _ _ _ _ _ _ dX6_shortest_30 hP hS (rfl) (by exact ⟨u.2.1 0, u.2.1 0, by first | (simp [shortI, crackG1, c7]; done) | (simp [shortI, crackG1, c7, c16]; done) | (simp [shortI, crackG1, c7, c16, c26]; done), by first | (simp [crackG1, c7]; done) | (simp [crackG1, c7, c16]; done) | (simp [crackG1, c7, c16, c26]; done)⟩)
  · have c7 : (inB n0 1 6) = true := bI_1.mp c7
    obtain ⟨n, hn1, hn, rfl, hnx⟩ := inB_nI2 1 6 (by decide) (by decide) c7
    have hl : lv_has ls 4 [(0, .ref o), (1, .int (nI n)), (2, .int k0)] := hl
    refine lv_iload_n hx hb dX6_shortest_10 rfl (lv_at hl 2 rfl) ?_
    refine lv_iconst (v := 0) hx hb dX6_shortest_11 (by decide) ?_
    refine lv_iconst (v := 1) hx hb dX6_shortest_12 (by decide) ?_
    refine CI.callS hC hK hl (c_X6_in G l k0 0 1 ) trivial q1392 q1393 q116 q1394 mdX6_in (room_ok hRm rfl) rfl rfl dX6_shortest_13 ?_
    refine lv_if_eq (tgt := 29) hx hb dX6_shortest_16 (by decide) (fun c16 => ?_) (fun c16 => ?_)
    · have c16 : (inB k0 0 1) = false := bI_0.mp c16
      refine lv_iconst (v := (-1)) hx hb dX6_shortest_29 (by decide) ?_
      exact hq _ _ _ _ _ _ dX6_shortest_30 hP hS (rfl) (by exact ⟨u.2.1 0, u.2.1 0, by first | (simp [shortI, crackG1, c7]; done) | (simp [shortI, crackG1, c7, c16]; done) | (simp [shortI, crackG1, c7, c16, c26]; done), by first | (simp [crackG1, c7]; done) | (simp [crackG1, c7, c16]; done) | (simp [crackG1, c7, c16, c26]; done)⟩)
    · have c16 : (inB k0 0 1) = true := bI_1.mp c16
      refine lv_iconst (v := 2) hx hb dX6_shortest_19 (by decide) ?_
      refine lv_iload_n hx hb dX6_shortest_20 rfl (lv_at hl 1 rfl) ?_
      refine lv_imul hx hb dX6_shortest_21 ?_
      refine lv_aload_n hx hb dX6_shortest_22 rfl (lv_at hl 0 rfl) ?_
      refine M_get (v := .int (u.1 11)) hC hK hP 11 (by decide) (fM11 _ _) q1212 dX6_shortest_23 ?_
      refine lv_icmp_le (tgt := 31) hx hb dX6_shortest_26 (by decide) (fun c26 => ?_) (fun c26 => ?_)
      · refine lv_aload_n hx hb dX6_shortest_31 rfl (lv_at hl 0 rfl) ?_
        refine lv_iconst (v := 0) hx hb dX6_shortest_32 (by decide) ?_
        refine M_put hC hK hD hP hS 11 (by decide) (sM11 _ _ _) q1212 rfl dX6_shortest_33 (fun H locs hP hS => ?_)
        refine lv_iconst (v := 0) hx hb dX6_shortest_36 (by decide) ?_
        refine lv_istore_n (lv' := [(3, .int 0), (0, .ref o), (1, .int (nI n)), (2, .int k0)]) hx hb dX6_shortest_37 rfl hl (by decide) rfl (fun ls hl => ?_)
        have LP38 : ∀ (fu38 : Nat) (k : Nat) (ls : Array Slot), n - k < fu38 → k ≤ n → allC (wishC (u.1 8) (u.1 9) (u.2.1 10)) k = true → lv_has ls 4 [(0, .ref o), (1, .int (nI n)), (2, .int k0), (3, .int (nI k))] → W pg l en Rm sg mm ar bw mth cd H locs 0 0 QQ (F0 mm 38 ls []) := by
          intro fu38
          induction fu38 with
          | zero => intro k ls hm38 hk ha hl; exact absurd hm38 (Nat.not_lt_zero _)
          | succ fu38 ih38 =>
            intro k ls hm38 hk ha hl
            refine lv_iload_n hx hb dX6_shortest_38 rfl (lv_at hl 3 rfl) ?_
            refine lv_iload_n hx hb dX6_shortest_39 rfl (lv_at hl 1 rfl) ?_
            refine lv_icmp_ge (tgt := 82) hx hb dX6_shortest_40 (by decide) (fun c40 => ?_) (fun c40 => ?_)
            · have c40 : n ≤ k := (nI_leI (a := n) (b := k) (by first | omega | exact ocN_b _ _ | exact hbN_b _ _ _) (by first | omega | exact ocN_b _ _ | exact hbN_b _ _ _)).mp c40
              have hal : allC (wishC (u.1 8) (u.1 9) (u.2.1 10)) n = true := by rw [← show k = n by omega]; exact ha
              refine lv_aload_n hx hb dX6_shortest_82 rfl (lv_at hl 0 rfl) ?_
              refine lv_iload_n hx hb dX6_shortest_83 rfl (lv_at hl 1 rfl) ?_
              refine CMi.call hC hK hS (fun q h => h) hl (c_X6_leastOfAll G l o R (mV u 11 0) n (by first | assumption | omega | rfl | (simp_all; done)) (by first | assumption | omega | rfl | (simp_all; done)) (fun k hk => isHouseB_lt (ocN_b _ _) (by have h := (allC_iff.mp hal) k hk; simp only [wishC, Bool.and_eq_true] at h; exact h.2)) hD) hP rfl q1715 q1717 qs97 q116 q1718 mdX6_leastOfAll (room_ok hRm rfl) rfl rfl dX6_shortest_84 (fun r84 w84 H locs hpo hP _ _ hS => ?_)
              obtain ⟨g1_1, g2_2, er84, ew84⟩ := hpo
              rw [ew84] at hP
              refine W_top (y := (nI (shortV (u.1 8) (fun t h => orT (metC (u.2.1 10) (u.2.1 5) (u.2.1 6) (u.2.1 7) (u.2.1 4) h (nI t)) n) n))) er84 ?_
              obtain ⟨sv, hsv⟩ : ∃ sv, shortV (u.1 8) (fun t h => orT (metC (u.2.1 10) (u.2.1 5) (u.2.1 6) (u.2.1 7) (u.2.1 4) h (nI t)) n) n = sv := ⟨_, rfl⟩
              refine W_top (y := (nI sv)) (by rw [hsv]) ?_
              have hwb : sv ≤ 100000000 := by rw [← hsv]; exact leaN_le _ _ _
              refine lv_istore_n (lv' := [(3, .int (nI sv)), (0, .ref o), (1, .int (nI n)), (2, .int k0)]) hx hb dX6_shortest_87 rfl hl (by decide) rfl (fun ls hl => ?_)
              refine lv_iload_n hx hb dX6_shortest_88 rfl (lv_at hl 0 rfl) ?_
              refine lv_ldcw (own := RX6) (v := 100000000) hx hb ho (hts _ q1719) dX6_shortest_89 ?_
              refine lv_icmp_lt (tgt := 100) hx hb dX6_shortest_92 (by decide) (fun c92 => ?_) (fun c92 => ?_)
              · have c92 : sv < 100000000 := (nI_ltI (a := sv) (b := 100000000) (by first | omega | exact ocN_b _ _ | exact hbN_b _ _ _) (by first | omega | exact ocN_b _ _ | exact hbN_b _ _ _)).mp c92
                refine lv_iload_n hx hb dX6_shortest_100 rfl (lv_at hl 3 rfl) ?_
                refine lv_if_ne (tgt := 111) hx hb dX6_shortest_101 (by decide) (fun c101 => ?_) (fun c101 => ?_)
                · refine lv_iload_n hx hb dX6_shortest_111 rfl (lv_at hl 0 rfl) ?_
                  refine lv_bipush (v := 32) hx hb dX6_shortest_112 (by decide) ?_
                  refine lv_irem hx hb dX6_shortest_114 (by decide) ?_
                  refine W_top (pk_rem (a := sv) (d := 32) (by omega) (by omega) (by omega)) ?_
                  exact hq _ _ _ _ _ _ dX6_shortest_115 hP hS (rfl) (by have hg : crackG1 (u.1 11) (nI n) k0 = true := (by simp [crackG1, c7, c16, c26]); exact ⟨g1_1, g2_2, by first | exact (shortI_1 hg (by rw [hnx]; exact hal) (by rw [hnx]; exact hsv) c92).symm | exact (shortI_2 hg (by rw [hnx]; exact hal) (by rw [hnx]; exact hsv) c92 c101).symm | exact (shortI_3 hg (by rw [hnx]; exact hal) (by rw [hnx]; exact hsv) c92 c101).symm, by rw [if_pos hg]⟩)
                · refine lv_iload_n hx hb dX6_shortest_104 rfl (lv_at hl 0 rfl) ?_
                  refine lv_bipush (v := 32) hx hb dX6_shortest_105 (by decide) ?_
                  refine lv_idiv hx hb dX6_shortest_107 (by decide) ?_
                  refine W_top (pk_div (a := sv) (d := 32) (by omega) (by omega) (by omega)) ?_
                  refine lv_goto (tgt := 115) hx hb dX6_shortest_108 (by decide) ?_
                  exact hq _ _ _ _ _ _ dX6_shortest_115 hP hS (rfl) (by have hg : crackG1 (u.1 11) (nI n) k0 = true := (by simp [crackG1, c7, c16, c26]); exact ⟨g1_1, g2_2, by first | exact (shortI_1 hg (by rw [hnx]; exact hal) (by rw [hnx]; exact hsv) c92).symm | exact (shortI_2 hg (by rw [hnx]; exact hal) (by rw [hnx]; exact hsv) c92 c101).symm | exact (shortI_3 hg (by rw [hnx]; exact hal) (by rw [hnx]; exact hsv) c92 c101).symm, by rw [if_pos hg]⟩)
              · have c92 : ¬ (sv < 100000000) := mt (nI_ltI (a := sv) (b := 100000000) (by first | omega | exact ocN_b _ _ | exact hbN_b _ _ _) (by first | omega | exact ocN_b _ _ | exact hbN_b _ _ _)).mpr c92
                refine lv_bipush (v := (-2)) hx hb dX6_shortest_95 (by decide) ?_
                refine lv_goto (tgt := 115) hx hb dX6_shortest_97 (by decide) ?_
                exact hq _ _ _ _ _ _ dX6_shortest_115 hP hS (rfl) (by have hg : crackG1 (u.1 11) (nI n) k0 = true := (by simp [crackG1, c7, c16, c26]); exact ⟨g1_1, g2_2, by first | exact (shortI_1 hg (by rw [hnx]; exact hal) (by rw [hnx]; exact hsv) c92).symm | exact (shortI_2 hg (by rw [hnx]; exact hal) (by rw [hnx]; exact hsv) c92 c101).symm | exact (shortI_3 hg (by rw [hnx]; exact hal) (by rw [hnx]; exact hsv) c92 c101).symm, by rw [if_pos hg]⟩)
            · have c40 : ¬ (n ≤ k) := mt (nI_leI (a := n) (b := k) (by first | omega | exact ocN_b _ _ | exact hbN_b _ _ _) (by first | omega | exact ocN_b _ _ | exact hbN_b _ _ _)).mpr c40
              refine lv_aload_n hx hb dX6_shortest_43 rfl (lv_at hl 0 rfl) ?_
              refine lv_aload_n hx hb dX6_shortest_44 rfl (lv_at hl 0 rfl) ?_
              refine lv_iconst (v := 2) hx hb dX6_shortest_45 (by decide) ?_
              refine lv_iload_n hx hb dX6_shortest_46 rfl (lv_at hl 3 rfl) ?_
              refine lv_imul hx hb dX6_shortest_47 ?_
              refine W_top (pk_mul 2 k) ?_
              refine CI.callV hC hK hl (c_X6_octet G l o R (mV u 11 0) (2 * k) (by first | assumption | omega | rfl | (simp_all; done))) hP (hP.recv hK) q1711 q1713 qs96 q116 q1714 mdX6_octet (room_ok hRm rfl) rfl rfl dX6_shortest_48 ?_
              refine W_top (y := (nI (ocN (u.2.1 10) (2 * k)))) rfl ?_
              refine CI.callV hC hK hl (c_X6_isHouse G l o R (mV u 11 0) (nI (ocN (u.2.1 10) (2 * k))) ) hP (hP.recv hK) q1395 q1397 qs45 q116 q1398 mdX6_isHouse (room_ok hRm rfl) rfl rfl dX6_shortest_51 ?_
              refine W_top (y := (bI (isHouseB (u.1 8) (nI (ocN (u.2.1 10) (2 * k)))))) rfl ?_
              refine lv_if_eq (tgt := 73) hx hb dX6_shortest_54 (by decide) (fun c54 => ?_) (fun c54 => ?_)
              · have c54 : (isHouseB (u.1 8) (nI (ocN (u.2.1 10) (2 * k)))) = false := bI_0.mp c54
                refine lv_bipush (v := (-3)) hx hb dX6_shortest_73 (by decide) ?_
                exact hq _ _ _ _ _ _ dX6_shortest_75 hP hS (rfl) (by have hg : crackG1 (u.1 11) (nI n) k0 = true := (by simp [crackG1, c7, c16, c26]); have hbad : allC (wishC (u.1 8) (u.1 9) (u.2.1 10)) n = false := allC_f (k := k) (by omega) (by first | (simp [wishC, c54]; done) | (simp [wishC, c70]; done)); exact ⟨(u.2.1 51), (u.2.1 52), by rw [shortI, if_pos hg, hnx, if_neg (by rw [hbad]; decide)], by rw [if_pos hg, show (mS (mV u 11 0) 51 (u.2.1 51)) = mV u 11 0 from mS_self (mV u 11 0) 51]; exact (mS_self (mV u 11 0) 52).symm⟩)
              · have c54 : (isHouseB (u.1 8) (nI (ocN (u.2.1 10) (2 * k)))) = true := bI_1.mp c54
                refine lv_aload_n hx hb dX6_shortest_57 rfl (lv_at hl 0 rfl) ?_
                refine lv_aload_n hx hb dX6_shortest_58 rfl (lv_at hl 0 rfl) ?_
                refine lv_iconst (v := 2) hx hb dX6_shortest_59 (by decide) ?_
                refine lv_iload_n hx hb dX6_shortest_60 rfl (lv_at hl 3 rfl) ?_
                refine lv_imul hx hb dX6_shortest_61 ?_
                refine W_top (pk_mul 2 k) ?_
                refine lv_iconst (v := 1) hx hb dX6_shortest_62 (by decide) ?_
                refine lv_iadd hx hb dX6_shortest_63 ?_
                refine W_top (nI_add (2 * k) 1) ?_
                refine CI.callV hC hK hl (c_X6_octet G l o R (mV u 11 0) ((2 * k) + 1) (by first | assumption | omega | rfl | (simp_all; done))) hP (hP.recv hK) q1711 q1713 qs96 q116 q1714 mdX6_octet (room_ok hRm rfl) rfl rfl dX6_shortest_64 ?_
                refine W_top (y := (nI (ocN (u.2.1 10) ((2 * k) + 1)))) rfl ?_
                refine CI.callV hC hK hl (c_X6_isThing G l o R (mV u 11 0) (nI (ocN (u.2.1 10) ((2 * k) + 1))) ) hP (hP.recv hK) q1410 q1412 qs47 q116 q1413 mdX6_isThing (room_ok hRm rfl) rfl rfl dX6_shortest_67 ?_
                refine W_top (y := (bI (isHouseB (u.1 9) (nI (ocN (u.2.1 10) ((2 * k) + 1)))))) rfl ?_
                refine lv_if_ne (tgt := 76) hx hb dX6_shortest_70 (by decide) (fun c70 => ?_) (fun c70 => ?_)
                · have c70 : (isHouseB (u.1 9) (nI (ocN (u.2.1 10) ((2 * k) + 1)))) = true := bI_1.mp c70
                  refine lv_iinc (v := (nI (k + 1))) (lv' := [(3, .int (nI (k + 1))), (0, .ref o), (1, .int (nI n)), (2, .int k0)]) hx hb dX6_shortest_76 hl (k := 3) rfl (nI_inc k) (by decide) rfl (fun ls hl => ?_)
                  refine lv_goto (tgt := 38) hx hb dX6_shortest_79 (by decide) ?_
                  exact ih38 (k + 1) ls (by omega) (by first | omega | assumption | rfl | (simp_all; done) | grind) (by show (allC _ k && wishC _ _ _ k) = true; rw [ha]; simp [wishC, c54, c70])  (lv_sub hl [1, 2, 3, 0] rfl)
                · have c70 : (isHouseB (u.1 9) (nI (ocN (u.2.1 10) ((2 * k) + 1)))) = false := bI_0.mp c70
                  refine lv_bipush (v := (-3)) hx hb dX6_shortest_73 (by decide) ?_
                  exact hq _ _ _ _ _ _ dX6_shortest_75 hP hS (rfl) (by have hg : crackG1 (u.1 11) (nI n) k0 = true := (by simp [crackG1, c7, c16, c26]); have hbad : allC (wishC (u.1 8) (u.1 9) (u.2.1 10)) n = false := allC_f (k := k) (by omega) (by first | (simp [wishC, c54]; done) | (simp [wishC, c70]; done)); exact ⟨(u.2.1 51), (u.2.1 52), by rw [shortI, if_pos hg, hnx, if_neg (by rw [hbad]; decide)], by rw [if_pos hg, show (mS (mV u 11 0) 51 (u.2.1 51)) = mV u 11 0 from mS_self (mV u 11 0) 51]; exact (mS_self (mV u 11 0) 52).symm⟩)
        exact LP38 _ 0 ls (Nat.lt_succ_self _) (by first | omega | assumption | rfl | (simp_all; done) | grind) (rfl)  (lv_sub hl [1, 2, 3, 0] rfl)
      · refine lv_iconst (v := (-1)) hx hb dX6_shortest_29 (by decide) ?_
        exact hq _ _ _ _ _ _ dX6_shortest_30 hP hS (rfl) (by exact ⟨u.2.1 0, u.2.1 0, by first | (simp [shortI, crackG1, c7]; done) | (simp [shortI, crackG1, c7, c16]; done) | (simp [shortI, crackG1, c7, c16, c26]; done), by first | (simp [crackG1, c7]; done) | (simp [crackG1, c7, c16]; done) | (simp [crackG1, c7, c16, c26]; done)⟩)
