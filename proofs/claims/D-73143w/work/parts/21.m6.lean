set_option maxRecDepth 100000
set_option maxHeartbeats 4000000 in
theorem c_X6_count (G : GG) (l : Launch) (o : Nat) (R : Nat → Nat) (u : MS) (k : Int32) : CI G l yX6_count cX6_count 2 .int 5 81 [.ref o, .int k] (PM G o R u) (countI (u.1 8) (u.1 9) (u.1 20) (u.1 11) (u.2.1 0) (u.2.1 3) k) := by
  refine CI.mk RX6 pnX6 rfl (rfl) (Nat.le_of_ble_eq_true rfl) (fun pg en Rm sg mm ar bw mth cd QQ ls hC hRm hK hP hl hq => ?_)
  have hx := hC.1; have hb := hC.2.1; have ho := hC.2.2.2.1; have hts := hC.2.2.2.2
  have hl : lv_has ls 2 [(0, .ref o), (1, .int k)] := hl
  refine lv_iload_n hx hb dX6_count_0 rfl (lv_at hl 1 rfl) ?_
  by_cases s1_0 : k = 0
  · refine lv_tableIn (tgt := 64) hx hb dX6_count_1 (by rw [s1_0]; decide) (by rw [s1_0]; decide) (by rw [s1_0]; rfl) (by decide) ?_
    refine lv_aload_n hx hb dX6_count_64 rfl (lv_at hl 0 rfl) ?_
    refine M_get hC hK hP 0 (by decide) (fM0 _ _) q1201 dX6_count_65 ?_
    refine lv_bipush (v := 19) hx hb dX6_count_68 (by decide) ?_
    refine M_ald hC hK hP 0 1 21 19 (aM0 _ _ _ _) (by decide) (by decide) (by omega) dX6_count_70 ?_
    exact hq _ _ _ dX6_count_71 (by grind [countI])
  by_cases s1_1 : k = 1
  · refine lv_tableIn (tgt := 72) hx hb dX6_count_1 (by rw [s1_1]; decide) (by rw [s1_1]; decide) (by rw [s1_1]; rfl) (by decide) ?_
    refine lv_aload_n hx hb dX6_count_72 rfl (lv_at hl 0 rfl) ?_
    refine M_get (v := .int (u.1 8)) hC hK hP 8 (by decide) (fM8 _ _) q1209 dX6_count_73 ?_
    exact hq _ _ _ dX6_count_76 (by grind [countI])
  by_cases s1_2 : k = 2
  · refine lv_tableIn (tgt := 77) hx hb dX6_count_1 (by rw [s1_2]; decide) (by rw [s1_2]; decide) (by rw [s1_2]; rfl) (by decide) ?_
    refine lv_aload_n hx hb dX6_count_77 rfl (lv_at hl 0 rfl) ?_
    refine M_get (v := .int (u.1 9)) hC hK hP 9 (by decide) (fM9 _ _) q1210 dX6_count_78 ?_
    exact hq _ _ _ dX6_count_81 (by grind [countI])
  by_cases s1_3 : k = 3
  · refine lv_tableIn (tgt := 82) hx hb dX6_count_1 (by rw [s1_3]; decide) (by rw [s1_3]; decide) (by rw [s1_3]; rfl) (by decide) ?_
    refine lv_aload_n hx hb dX6_count_82 rfl (lv_at hl 0 rfl) ?_
    refine M_get hC hK hP 0 (by decide) (fM0 _ _) q1201 dX6_count_83 ?_
    refine lv_bipush (v := 16) hx hb dX6_count_86 (by decide) ?_
    refine M_ald hC hK hP 0 1 21 16 (aM0 _ _ _ _) (by decide) (by decide) (by omega) dX6_count_88 ?_
    refine CI.callS hC hK hl (c_X6_orNone G l (u.2.1 0 16) ) trivial q1609 q1610 q116 q1611 mdX6_orNone (room_ok hRm rfl) rfl rfl dX6_count_89 ?_
    exact hq _ _ _ dX6_count_92 (by grind [countI])
  by_cases s1_4 : k = 4
  · refine lv_tableIn (tgt := 93) hx hb dX6_count_1 (by rw [s1_4]; decide) (by rw [s1_4]; decide) (by rw [s1_4]; rfl) (by decide) ?_
    refine lv_aload_n hx hb dX6_count_93 rfl (lv_at hl 0 rfl) ?_
    refine M_get hC hK hP 0 (by decide) (fM0 _ _) q1201 dX6_count_94 ?_
    refine lv_bipush (v := 17) hx hb dX6_count_97 (by decide) ?_
    refine M_ald hC hK hP 0 1 21 17 (aM0 _ _ _ _) (by decide) (by decide) (by omega) dX6_count_99 ?_
    exact hq _ _ _ dX6_count_100 (by grind [countI])
  by_cases s1_5 : k = 5
  · refine lv_tableIn (tgt := 101) hx hb dX6_count_1 (by rw [s1_5]; decide) (by rw [s1_5]; decide) (by rw [s1_5]; rfl) (by decide) ?_
    refine lv_aload_n hx hb dX6_count_101 rfl (lv_at hl 0 rfl) ?_
    refine M_get hC hK hP 0 (by decide) (fM0 _ _) q1201 dX6_count_102 ?_
    refine lv_bipush (v := 18) hx hb dX6_count_105 (by decide) ?_
    refine M_ald hC hK hP 0 1 21 18 (aM0 _ _ _ _) (by decide) (by decide) (by omega) dX6_count_107 ?_
    exact hq _ _ _ dX6_count_108 (by grind [countI])
  by_cases s1_6 : k = 6
  · refine lv_tableIn (tgt := 109) hx hb dX6_count_1 (by rw [s1_6]; decide) (by rw [s1_6]; decide) (by rw [s1_6]; rfl) (by decide) ?_
    refine lv_aload_n hx hb dX6_count_109 rfl (lv_at hl 0 rfl) ?_
    refine M_get (v := .int (u.1 20)) hC hK hP 20 (by decide) (fM20 _ _) q1221 dX6_count_110 ?_
    exact hq _ _ _ dX6_count_113 (by grind [countI])
  by_cases s1_7 : k = 7
  · refine lv_tableIn (tgt := 114) hx hb dX6_count_1 (by rw [s1_7]; decide) (by rw [s1_7]; decide) (by rw [s1_7]; rfl) (by decide) ?_
    refine lv_aload_n hx hb dX6_count_114 rfl (lv_at hl 0 rfl) ?_
    refine M_get (v := .int (u.1 11)) hC hK hP 11 (by decide) (fM11 _ _) q1212 dX6_count_115 ?_
    exact hq _ _ _ dX6_count_118 (by grind [countI])
  by_cases s1_8 : k = 8
  · refine lv_tableIn (tgt := 119) hx hb dX6_count_1 (by rw [s1_8]; decide) (by rw [s1_8]; decide) (by rw [s1_8]; rfl) (by decide) ?_
    refine lv_aload_n hx hb dX6_count_119 rfl (lv_at hl 0 rfl) ?_
    refine M_get hC hK hP 0 (by decide) (fM0 _ _) q1201 dX6_count_120 ?_
    refine lv_bipush (v := 20) hx hb dX6_count_123 (by decide) ?_
    refine M_ald hC hK hP 0 1 21 20 (aM0 _ _ _ _) (by decide) (by decide) (by omega) dX6_count_125 ?_
    exact hq _ _ _ dX6_count_126 (by grind [countI])
  by_cases s1_9 : k = 9
  · refine lv_tableIn (tgt := 127) hx hb dX6_count_1 (by rw [s1_9]; decide) (by rw [s1_9]; decide) (by rw [s1_9]; rfl) (by decide) ?_
    refine lv_aload_n hx hb dX6_count_127 rfl (lv_at hl 0 rfl) ?_
    refine CI.callV hC hK hl (c_X6_joyOfAll G l o R u  ) hP (hP.recv hK) q1612 q1614 qs85 q116 q1615 mdX6_joyOfAll (room_ok hRm rfl) rfl rfl dX6_count_128 ?_
    exact hq _ _ _ dX6_count_131 (by grind [countI])
  by_cases s1_10 : k = 10
  · refine lv_tableIn (tgt := 132) hx hb dX6_count_1 (by rw [s1_10]; decide) (by rw [s1_10]; decide) (by rw [s1_10]; rfl) (by decide) ?_
    refine lv_aload_n hx hb dX6_count_132 rfl (lv_at hl 0 rfl) ?_
    refine M_get hC hK hP 0 (by decide) (fM0 _ _) q1201 dX6_count_133 ?_
    refine lv_bipush (v := 17) hx hb dX6_count_136 (by decide) ?_
    refine M_ald hC hK hP 0 1 21 17 (aM0 _ _ _ _) (by decide) (by decide) (by omega) dX6_count_138 ?_
    refine CI.callS hC hK hl (c_X6_bits G l (u.2.1 0 17) ) trivial q1580 q1581 q116 q1582 mdX6_bits (room_ok hRm rfl) rfl rfl dX6_count_139 ?_
    exact hq _ _ _ dX6_count_142 (by grind [countI])
  by_cases s1_11 : k = 11
  · refine lv_tableIn (tgt := 143) hx hb dX6_count_1 (by rw [s1_11]; decide) (by rw [s1_11]; decide) (by rw [s1_11]; rfl) (by decide) ?_
    refine lv_bipush (v := 12) hx hb dX6_count_143 (by decide) ?_
    refine lv_aload_n hx hb dX6_count_145 rfl (lv_at hl 0 rfl) ?_
    refine lv_iconst (v := (-1)) hx hb dX6_count_146 (by decide) ?_
    refine CI.callV hC hK hl (c_X6_turnsOf G l o R u (-1) ) hP (hP.recv hK) q1620 q1622 qs86 q116 q1623 mdX6_turnsOf (room_ok hRm rfl) rfl rfl dX6_count_147 ?_
    refine lv_isub hx hb dX6_count_150 ?_
    exact hq _ _ _ dX6_count_151 (by grind [countI])
  refine lv_tableOut (tgt := 152) hx hb dX6_count_1 (sw_out (x := k) (lo := 0) (hi := 11) (fun v h1 h2 => by rcases (show v = 0 ∨ v = 1 ∨ v = 2 ∨ v = 3 ∨ v = 4 ∨ v = 5 ∨ v = 6 ∨ v = 7 ∨ v = 8 ∨ v = 9 ∨ v = 10 ∨ v = 11 by omega) with rfl | rfl | rfl | rfl | rfl | rfl | rfl | rfl | rfl | rfl | rfl | rfl <;> first | exact s1_0 | exact s1_1 | exact s1_2 | exact s1_3 | exact s1_4 | exact s1_5 | exact s1_6 | exact s1_7 | exact s1_8 | exact s1_9 | exact s1_10 | exact s1_11)) (by decide) ?_
  refine lv_iconst (v := (-1)) hx hb dX6_count_152 (by decide) ?_
  exact hq _ _ _ dX6_count_153 (by grind [countI])
set_option maxHeartbeats 4000000 in
theorem c_X6_sumFrom (G : GG) (l : Launch) (o : Nat) (R : Nat → Nat) (u : MS) (a : Nat) (c : Nat) (hc : a ≤ c + 1) (hc2 : c < 260) : CI G l yX6_sumFrom cX6_sumFrom 5 .int 3 37 [.ref o, .int (nI a), .int (nI c)] (PM G o R u) (nI (smN (u.2.1 10) a (c + 1 - a))) := by
  refine CI.mk RX6 pnX6 rfl (rfl) (Nat.le_of_ble_eq_true rfl) (fun pg en Rm sg mm ar bw mth cd QQ ls hC hRm hK hP hl hq => ?_)
  have hx := hC.1; have hb := hC.2.1; have ho := hC.2.2.2.1; have hts := hC.2.2.2.2
  have hl : lv_has ls 5 [(0, .ref o), (1, .int (nI a)), (2, .int (nI c))] := hl
  refine lv_iconst (v := 0) hx hb dX6_sumFrom_0 (by decide) ?_
  refine lv_istore_n (lv' := [(3, .int 0), (0, .ref o), (1, .int (nI a)), (2, .int (nI c))]) hx hb dX6_sumFrom_1 rfl hl (by decide) rfl (fun ls hl => ?_)
  refine lv_iload_n hx hb dX6_sumFrom_2 rfl (lv_at hl 2 rfl) ?_
  refine lv_istore (lv' := [(4, .int (nI a)), (3, .int 0), (0, .ref o), (1, .int (nI a)), (2, .int (nI c))]) hx hb dX6_sumFrom_3 hl (by decide) rfl (fun ls hl => ?_)
  have LP5 : ∀ (fu5 : Nat) (k : Nat) (ls : Array Slot), c + 1 - k < fu5 → k ≤ c + 1 → a ≤ k → lv_has ls 5 [(0, .ref o), (1, .int (nI a)), (2, .int (nI c)), (3, .int (nI (smN (u.2.1 10) a (k - a)))), (4, .int (nI k))] → W pg l en Rm sg mm ar bw mth cd sg.heap [] 0 0 QQ (F0 mm 5 ls []) := by
    intro fu5
    induction fu5 with
    | zero => intro k ls hm5 hk hka hl; exact absurd hm5 (Nat.not_lt_zero _)
    | succ fu5 ih5 =>
      intro k ls hm5 hk hka hl
      refine lv_iload hx hb dX6_sumFrom_5 (lv_at hl 4 rfl) ?_
      refine lv_iload_n hx hb dX6_sumFrom_7 rfl (lv_at hl 2 rfl) ?_
      refine lv_icmp_gt (tgt := 26) hx hb dX6_sumFrom_8 (by decide) (fun c8 => ?_) (fun c8 => ?_)
      · have c8 : c < k := (nI_ltI (a := c) (b := k) (by first | omega | exact ocN_b _ _ | exact hbN_b _ _ _) (by first | omega | exact ocN_b _ _ | exact hbN_b _ _ _)).mp c8
        refine lv_iload_n hx hb dX6_sumFrom_26 rfl (lv_at hl 3 rfl) ?_
        exact hq _ _ _ dX6_sumFrom_27 (by rw [show k = c + 1 by omega])
      · have c8 : ¬ (c < k) := mt (nI_ltI (a := c) (b := k) (by first | omega | exact ocN_b _ _ | exact hbN_b _ _ _) (by first | omega | exact ocN_b _ _ | exact hbN_b _ _ _)).mpr c8
        refine lv_iload_n hx hb dX6_sumFrom_11 rfl (lv_at hl 3 rfl) ?_
        refine lv_aload_n hx hb dX6_sumFrom_12 rfl (lv_at hl 0 rfl) ?_
        refine lv_iload hx hb dX6_sumFrom_13 (lv_at hl 4 rfl) ?_
        refine CI.callV hC hK hl (c_X6_octet G l o R u k (by first | assumption | omega | rfl | (simp_all; done))) hP (hP.recv hK) q1711 q1713 qs96 q116 q1714 mdX6_octet (room_ok hRm rfl) rfl rfl dX6_sumFrom_15 ?_
        refine lv_iadd hx hb dX6_sumFrom_18 ?_
        refine W_top (y := (nI (smN (u.2.1 10) a (k + 1 - a)))) (by rw [nI_add, show k + 1 - a = (k - a) + 1 by omega]; show _ = nI (smN _ _ (k - a) + ocN _ (a + (k - a))); rw [show a + (k - a) = k by omega]) ?_
        refine lv_istore_n (lv' := [(3, .int (nI (smN (u.2.1 10) a (k + 1 - a)))), (0, .ref o), (1, .int (nI a)), (2, .int (nI c)), (4, .int (nI k))]) hx hb dX6_sumFrom_19 rfl hl (by decide) rfl (fun ls hl => ?_)
        refine lv_iinc (v := (nI (k + 1))) (lv' := [(4, .int (nI (k + 1))), (3, .int (nI (smN (u.2.1 10) a (k + 1 - a)))), (0, .ref o), (1, .int (nI a)), (2, .int (nI c))]) hx hb dX6_sumFrom_20 hl (k := 4) rfl (nI_inc k) (by decide) rfl (fun ls hl => ?_)
        refine lv_goto (tgt := 5) hx hb dX6_sumFrom_23 (by decide) ?_
        exact ih5 (k + 1) ls (by omega) (by first | omega | assumption | rfl | (simp_all; done) | grind) (by first | omega | assumption | rfl | (simp_all; done) | grind)  (lv_sub hl [2, 3, 4, 1, 0] rfl)
  have hl : lv_has ls 5 [(4, .int (nI a)), (3, .int (nI (smN (u.2.1 10) a (a - a)))), (0, .ref o), (1, .int (nI a)), (2, .int (nI c))] := by rw [Nat.sub_self]; exact hl
  exact LP5 _ a ls (Nat.lt_succ_self _) (by first | omega | assumption | rfl | (simp_all; done) | grind) (by first | omega | assumption | rfl | (simp_all; done) | grind)  (lv_sub hl [2, 3, 4, 1, 0] rfl)
