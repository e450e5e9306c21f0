set_option maxRecDepth 100000
set_option maxHeartbeats 4000000 in
theorem c_X0_second (G : GG) (l : Launch) (o : Nat) (R : Nat → Nat) (tx : Nat) (u : MS) (k0 : Int32) (hs : Nat) (hhs : (u.1 24) = nI hs) (hhs2 : hs < 65536) (hsd : PB (u.2.1 21)) (hfc : PB (u.2.1 20)) (hD : DwS o R) : CXi G l (PwS G o R tx) (AwS o R) yX0_second cX0_second 8 .int 6 118 0 0 [.ref o, .int k0] (PwS G o R tx u) (fun r w => ∃ g1 : Nat → Int32, r = (secondI hs (evS (u.1 24) (everI (snS (u.1 25) (u.2.1 21) (u.2.1 22) (u.2.1 23) (u.2.1 20)))) k0) ∧ w = (if inB k0 0 1 = true then mS u 14 g1 else u)) := by
  refine CXi.mk RX0 pnX0 rfl (Nat.le_of_ble_eq_true rfl) (fun pg en Rm sg mm ar bw mth cd QQ ls hC hRm hK hX hS hl hq => ?_)
  have hx := hC.1; have hb := hC.2.1; have ho := hC.2.2.2.1; have hts := hC.2.2.2.2
  have hP : PwS G o R tx u sg.heap := hX
  have hl : lv_has ls 8 [(0, .ref o), (1, .int k0)] := hl
  refine lv_iload_n hx hb dX0_second_0 rfl (lv_at hl 1 rfl) ?_
  refine lv_iconst (v := 2) hx hb dX0_second_1 (by decide) ?_
  refine CIs.go (rcS hC hl (c_X0_in G l k0 2 1 (by decide)) hK trivial q366 q367 q110 q368 mdX0_in (room_s hRm rfl) rfl rfl dX0_second_2) ?_
  refine lv_if_ne (tgt := 10) hx hb dX0_second_5 (by decide) (fun c5 => ?_) (fun c5 => ?_)
  · have c5 : (inB k0 0 1) = true := bI_1.mp c5
    refine lv_iconst (v := 0) hx hb dX0_second_10 (by decide) ?_
    refine lv_istore_n (lv' := [(2, .int 0), (0, .ref o), (1, .int k0)]) hx hb dX0_second_11 rfl hl (by decide) rfl (fun ls hl => ?_)
    refine lv_iconst (v := 0) hx hb dX0_second_12 (by decide) ?_
    refine lv_istore_n (lv' := [(3, .int 0), (2, .int 0), (0, .ref o), (1, .int k0)]) hx hb dX0_second_13 rfl hl (by decide) rfl (fun ls hl => ?_)
    have hP : PwS G o R tx (mS u 14 (u.2.1 14)) sg.heap := by rw [show (u.2.1 14) = (u.2.1 14) from rfl, mS_self]; exact hP
    have LP14 : ∀ (fu14 : Nat) (h : Nat) (al : Int32) (g1 : Nat → Int32) (H : Heap) (locs : List Loc) (ls : Array Slot), 16 - h < fu14 → h ≤ 16 → al = orI (evS (u.1 24) (everI (snS (u.1 25) (u.2.1 21) (u.2.1 22) (u.2.1 23) (u.2.1 20)))) h → (∀ i, i < h → g1 i = (evS (u.1 24) (everI (snS (u.1 25) (u.2.1 21) (u.2.1 22) (u.2.1 23) (u.2.1 20)))) i) → PwS G o R tx (mS u 14 g1) H → va_S (AwS o R) sg.heap H locs → lv_has ls 8 [(0, .ref o), (1, .int k0), (2, .int al), (3, .int (nI h))] → W pg l en Rm sg mm ar bw mth cd H locs 0 0 QQ (F0 mm 14 ls []) := by
      intro fu14
      induction fu14 with
      | zero => intro h al g1 H locs ls hm14 hh hal h1 hP hS hl; exact absurd hm14 (Nat.not_lt_zero _)
      | succ fu14 ih14 =>
        intro h al g1 H locs ls hm14 hh hal h1 hP hS hl
        refine lv_iload_n hx hb dX0_second_14 rfl (lv_at hl 3 rfl) ?_
        refine lv_bipush (v := 16) hx hb dX0_second_15 (by decide) ?_
        refine lv_icmp_ge (tgt := 64) hx hb dX0_second_17 (by decide) (fun c17 => ?_) (fun c17 => ?_)
        · have c17 : 16 ≤ h := (nI_leI (a := 16) (b := h) (by first | omega | (have := cntN_le s; have := cntN_le be; omega)) (by first | omega | (have := cntN_le s; have := cntN_le be; omega))).mp c17
          have e16 : h = 16 := by omega
          subst e16
          have h1e := h1
          refine lv_aload_n hx hb dX0_second_64 rfl (lv_at hl 0 rfl) ?_
          refine S_get hC hK hP (oS_main _ _ _ _ _) clX0 in_X0 0 (by decide) (fD0 _ _ _ _) q291 dX0_second_65 ?_
          refine S_getN (v := .int (u.1 24)) hC hK hP (oS_plan _ _ _ _ _) clX1 in_X1 4 (by decide) (fD24 _ _ _ _) nq161 dX0_second_68 ?_
          refine W_top hhs ?_
          refine lv_istore_n (lv' := [(3, .int (nI hs)), (0, .ref o), (1, .int k0), (2, .int al)]) hx hb dX0_second_71 rfl hl (by decide) rfl (fun ls hl => ?_)
          refine lv_iconst (v := 0) hx hb dX0_second_72 (by decide) ?_
          refine lv_istore (lv' := [(4, .int 0), (3, .int (nI hs)), (0, .ref o), (1, .int k0), (2, .int al)]) hx hb dX0_second_73 hl (by decide) rfl (fun ls hl => ?_)
          have LP75 : ∀ (fu75 : Nat) (s : Nat) (be : Nat) (ls : Array Slot), 65536 - s < fu75 → s ≤ 65536 → be = bsA hs (evS (u.1 24) (everI (snS (u.1 25) (u.2.1 21) (u.2.1 22) (u.2.1 23) (u.2.1 20)))) al s → be < 65536 → lv_has ls 8 [(0, .ref o), (1, .int k0), (2, .int al), (3, .int (nI be)), (4, .int (nI s))] → W pg l en Rm sg mm ar bw mth cd H locs 0 0 QQ (F0 mm 75 ls []) := by
            intro fu75
            induction fu75 with
            | zero => intro s be ls hm75 hs6 hbe hbe2 hl; exact absurd hm75 (Nat.not_lt_zero _)
            | succ fu75 ih75 =>
              intro s be ls hm75 hs6 hbe hbe2 hl
              refine lv_iload hx hb dX0_second_75 (lv_at hl 4 rfl) ?_
              refine lv_ldc (own := RX0) (v := 65536) hx hb ho (hts _ q1105) dX0_second_77 ?_
              refine lv_icmp_ge (tgt := 188) hx hb dX0_second_79 (by decide) (fun c79 => ?_) (fun c79 => ?_)
              · have c79 : 65536 ≤ s := (nI_leI (a := 65536) (b := s) (by first | omega | (have := cntN_le s; have := cntN_le be; omega)) (by first | omega | (have := cntN_le s; have := cntN_le be; omega))).mp c79
                have es6 : s = 65536 := by omega
                subst es6
                refine lv_iload_n hx hb dX0_second_188 rfl (lv_at hl 1 rfl) ?_
                refine lv_if_ne (tgt := 199) hx hb dX0_second_189 (by decide) (fun c189 => ?_) (fun c189 => ?_)
                · refine lv_iload_n hx hb dX0_second_199 rfl (lv_at hl 3 rfl) ?_
                  exact hq _ _ _ _ _ _ _ _ dX0_second_200 hP hS (rfl) (by have hbn : be = bestN hs (evS (u.1 24) (everI (snS (u.1 25) (u.2.1 21) (u.2.1 22) (u.2.1 23) (u.2.1 20)))) := (by rw [hbe, hal, hhs]; exact bs_eq hhs2 (bs_valid hhs2 _)); exact ⟨g1, by rw [secondI, if_pos c5]; first | (rw [if_pos c189, hbn]; done) | (rw [if_neg c189, hbn]), by rw [if_pos c5]⟩) (by decide) (by decide)
                · refine lv_iload_n hx hb dX0_second_192 rfl (lv_at hl 3 rfl) ?_
                  refine CIs.go (rcS hC hl (c_J6_bitCount G l (nI be) (sB_nI hbe2)) hK trivial q1071 q906 q135 q907 mdJ6_bitCount (room_s hRm rfl) rfl rfl dX0_second_193) ?_
                  refine W_top (y := (nI (cntN be))) (bitsI_nI be) ?_
                  refine lv_goto (tgt := 200) hx hb dX0_second_196 (by decide) ?_
                  exact hq _ _ _ _ _ _ _ _ dX0_second_200 hP hS (rfl) (by have hbn : be = bestN hs (evS (u.1 24) (everI (snS (u.1 25) (u.2.1 21) (u.2.1 22) (u.2.1 23) (u.2.1 20)))) := (by rw [hbe, hal, hhs]; exact bs_eq hhs2 (bs_valid hhs2 _)); exact ⟨g1, by rw [secondI, if_pos c5]; first | (rw [if_pos c189, hbn]; done) | (rw [if_neg c189, hbn]), by rw [if_pos c5]⟩) (by decide) (by decide)
              · have c79 : ¬ (65536 ≤ s) := mt (nI_leI (a := 65536) (b := s) (by first | omega | (have := cntN_le s; have := cntN_le be; omega)) (by first | omega | (have := cntN_le s; have := cntN_le be; omega))).mpr c79
                have hcs := cntN_le s
                have hcb := cntN_le be
                refine lv_iload hx hb dX0_second_82 (lv_at hl 4 rfl) ?_
                refine CIs.go (rcS hC hl (c_J6_bitCount G l (nI s) (sB_nI (by omega))) hK trivial q1071 q906 q135 q907 mdJ6_bitCount (room_s hRm rfl) rfl rfl dX0_second_84) ?_
                refine W_top (y := (nI (cntN s))) (bitsI_nI s) ?_
                refine lv_iload_n hx hb dX0_second_87 rfl (lv_at hl 3 rfl) ?_
                refine CIs.go (rcS hC hl (c_J6_bitCount G l (nI be) (sB_nI (by omega))) hK trivial q1071 q906 q135 q907 mdJ6_bitCount (room_s hRm rfl) rfl rfl dX0_second_88) ?_
                refine W_top (y := (nI (cntN be))) (bitsI_nI be) ?_
                refine lv_isub hx hb dX0_second_91 ?_
                refine lv_istore (lv' := [(5, .int ((nI (cntN s)) - (nI (cntN be)))), (0, .ref o), (1, .int k0), (2, .int al), (3, .int (nI be)), (4, .int (nI s))]) hx hb dX0_second_92 hl (by decide) rfl (fun ls hl => ?_)
                refine lv_iload hx hb dX0_second_94 (lv_at hl 5 rfl) ?_
                refine lv_aload_n hx hb dX0_second_96 rfl (lv_at hl 1 rfl) ?_
                refine S_get hC hK hP (oS_main _ _ _ _ _) clX0 in_X0 0 (by decide) (fD0 _ _ _ _) q291 dX0_second_97 ?_
                refine S_getN (v := .int (u.1 24)) hC hK hP (oS_plan _ _ _ _ _) clX1 in_X1 4 (by decide) (fD24 _ _ _ _) nq161 dX0_second_100 ?_
                refine W_top hhs ?_
                refine lv_iconst (v := (-1)) hx hb dX0_second_103 (by decide) ?_
                refine lv_ixor hx hb dX0_second_104 ?_
                refine lv_iand hx hb dX0_second_105 ?_
                refine lv_if_ne (tgt := 182) hx hb dX0_second_106 (by decide) (fun c106 => ?_) (fun c106 => ?_)
                · refine lv_iinc (v := (nI (s + 1))) (lv' := [(4, .int (nI (s + 1))), (5, .int ((nI (cntN s)) - (nI (cntN be)))), (0, .ref o), (1, .int k0), (2, .int al), (3, .int (nI be))]) hx hb dX0_second_182 hl (k := 5) rfl (nI_inc s) (by decide) rfl (fun ls hl => ?_)
                  refine lv_goto (tgt := 75) hx hb dX0_second_185 (by decide) ?_
                  exact ih75 (s + 1) be ls (by omega) (by first | omega | assumption | rfl | (simp_all; done) | grind) (by first | exact (bsA_t c106 (by rw [← hsv2]; first | exact c176 | exact Classical.not_not.mp c176) (by rw [← hbe]; omega)).symm | (rw [hbe]; exact (bsA_n (fun z => c106 z.1.1)).symm) | (rw [hbe]; exact (bsA_n (fun z => c176 (hsv2.trans z.1.2))).symm) | (rw [bsA_n (fun z => absurd z.2 (by rw [← hbe]; omega))]; exact hbe)) (by first | omega | assumption | rfl | (simp_all; done) | grind)  (lv_sub hl [2, 3, 4, 5, 0] rfl)
                · refine lv_iload hx hb dX0_second_109 (lv_at hl 0 rfl) ?_
                  refine lv_if_gt (tgt := 182) hx hb dX0_second_111 (by decide) (fun c111 => ?_) (fun c111 => ?_)
                  · have c111 : cntN be < cntN s := (sub_gt (by omega) (by omega)).mp c111
                    refine lv_iinc (v := (nI (s + 1))) (lv' := [(4, .int (nI (s + 1))), (5, .int ((nI (cntN s)) - (nI (cntN be)))), (0, .ref o), (1, .int k0), (2, .int al), (3, .int (nI be))]) hx hb dX0_second_182 hl (k := 5) rfl (nI_inc s) (by decide) rfl (fun ls hl => ?_)
                    refine lv_goto (tgt := 75) hx hb dX0_second_185 (by decide) ?_
                    exact ih75 (s + 1) be ls (by omega) (by first | omega | assumption | rfl | (simp_all; done) | grind) (by first | exact (bsA_t c106 (by rw [← hsv2]; first | exact c176 | exact Classical.not_not.mp c176) (by rw [← hbe]; omega)).symm | (rw [hbe]; exact (bsA_n (fun z => c106 z.1.1)).symm) | (rw [hbe]; exact (bsA_n (fun z => c176 (hsv2.trans z.1.2))).symm) | (rw [bsA_n (fun z => absurd z.2 (by rw [← hbe]; omega))]; exact hbe)) (by first | omega | assumption | rfl | (simp_all; done) | grind)  (lv_sub hl [2, 3, 4, 5, 0] rfl)
                  · have c111 : ¬ cntN be < cntN s := mt (sub_gt (by omega) (by omega)).mpr c111
                    refine lv_iload hx hb dX0_second_114 (lv_at hl 0 rfl) ?_
                    refine lv_if_ne (tgt := 128) hx hb dX0_second_116 (by decide) (fun c116 => ?_) (fun c116 => ?_)
                    · have c116 : ¬ cntN s = cntN be := mt (sub_eq (by omega) (by omega)).mpr c116
                      refine lv_iconst (v := 0) hx hb dX0_second_128 (by decide) ?_
                      refine lv_istore (lv' := [(6, .int 0), (5, .int ((nI (cntN s)) - (nI (cntN be)))), (0, .ref o), (1, .int k0), (2, .int al), (3, .int (nI be)), (4, .int (nI s))]) hx hb dX0_second_129 hl (by decide) rfl (fun ls hl => ?_)
                      refine lv_iconst (v := 0) hx hb dX0_second_131 (by decide) ?_
                      refine lv_istore (lv' := [(7, .int 0), (6, .int 0), (5, .int ((nI (cntN s)) - (nI (cntN be)))), (0, .ref o), (1, .int k0), (2, .int al), (3, .int (nI be)), (4, .int (nI s))]) hx hb dX0_second_132 hl (by decide) rfl (fun ls hl => ?_)
                      have LP134 : ∀ (fu134 : Nat) (hh : Nat) (sv : Int32) (ls : Array Slot), 16 - hh < fu134 → hh ≤ 16 → sv = orI (fun h => if s.testBit h = true then (evS (u.1 24) (everI (snS (u.1 25) (u.2.1 21) (u.2.1 22) (u.2.1 23) (u.2.1 20)))) h else 0) hh → lv_has ls 8 [(0, .ref o), (1, .int k0), (2, .int al), (3, .int (nI be)), (4, .int (nI s)), (5, .int ((nI (cntN s)) - (nI (cntN be)))), (6, .int sv), (7, .int (nI hh))] → W pg l en Rm sg mm ar bw mth cd H locs 0 0 QQ (F0 mm 134 ls []) := by
                        intro fu134
                        induction fu134 with
                        | zero => intro hh sv ls hm134 hh6 hsv hl; exact absurd hm134 (Nat.not_lt_zero _)
                        | succ fu134 ih134 =>
                          intro hh sv ls hm134 hh6 hsv hl
                          refine lv_iload hx hb dX0_second_134 (lv_at hl 7 rfl) ?_
                          refine lv_bipush (v := 16) hx hb dX0_second_136 (by decide) ?_
                          refine lv_icmp_ge (tgt := 173) hx hb dX0_second_138 (by decide) (fun c138 => ?_) (fun c138 => ?_)
                          · have c138 : 16 ≤ hh := (nI_leI (a := 16) (b := hh) (by first | omega | (have := cntN_le s; have := cntN_le be; omega)) (by first | omega | (have := cntN_le s; have := cntN_le be; omega))).mp c138
                            have hsv2 : sv = svS (evS (u.1 24) (everI (snS (u.1 25) (u.2.1 21) (u.2.1 22) (u.2.1 23) (u.2.1 20)))) s := by rw [hsv, show hh = 16 by omega]; rfl
                            refine lv_iload hx hb dX0_second_173 (lv_at hl 6 rfl) ?_
                            refine lv_iload_n hx hb dX0_second_175 rfl (lv_at hl 2 rfl) ?_
                            refine lv_icmp_ne (tgt := 182) hx hb dX0_second_176 (by decide) (fun c176 => ?_) (fun c176 => ?_)
                            · refine lv_iinc (v := (nI (s + 1))) (lv' := [(4, .int (nI (s + 1))), (0, .ref o), (1, .int k0), (2, .int al), (3, .int (nI be)), (5, .int ((nI (cntN s)) - (nI (cntN be)))), (6, .int sv), (7, .int (nI hh))]) hx hb dX0_second_182 hl (k := 4) rfl (nI_inc s) (by decide) rfl (fun ls hl => ?_)
                              refine lv_goto (tgt := 75) hx hb dX0_second_185 (by decide) ?_
                              exact ih75 (s + 1) be ls (by omega) (by first | omega | assumption | rfl | (simp_all; done) | grind) (by first | exact (bsA_t c106 (by rw [← hsv2]; first | exact c176 | exact Classical.not_not.mp c176) (by rw [← hbe]; omega)).symm | (rw [hbe]; exact (bsA_n (fun z => c106 z.1.1)).symm) | (rw [hbe]; exact (bsA_n (fun z => c176 (hsv2.trans z.1.2))).symm) | (rw [bsA_n (fun z => absurd z.2 (by rw [← hbe]; omega))]; exact hbe)) (by first | omega | assumption | rfl | (simp_all; done) | grind)  (lv_sub hl [1, 2, 3, 4, 0] rfl)
                            · refine lv_iload hx hb dX0_second_179 (lv_at hl 4 rfl) ?_
                              refine lv_istore_n (lv' := [(3, .int (nI s)), (0, .ref o), (1, .int k0), (2, .int al), (4, .int (nI s)), (5, .int ((nI (cntN s)) - (nI (cntN be)))), (6, .int sv), (7, .int (nI hh))]) hx hb dX0_second_181 rfl hl (by decide) rfl (fun ls hl => ?_)
                              refine lv_iinc (v := (nI (s + 1))) (lv' := [(4, .int (nI (s + 1))), (3, .int (nI s)), (0, .ref o), (1, .int k0), (2, .int al), (5, .int ((nI (cntN s)) - (nI (cntN be)))), (6, .int sv), (7, .int (nI hh))]) hx hb dX0_second_182 hl (k := 4) rfl (nI_inc s) (by decide) rfl (fun ls hl => ?_)
                              refine lv_goto (tgt := 75) hx hb dX0_second_185 (by decide) ?_
                              exact ih75 (s + 1) s ls (by omega) (by first | omega | assumption | rfl | (simp_all; done) | grind) (by first | exact (bsA_t c106 (by rw [← hsv2]; first | exact c176 | exact Classical.not_not.mp c176) (by rw [← hbe]; omega)).symm | (rw [hbe]; exact (bsA_n (fun z => c106 z.1.1)).symm) | (rw [hbe]; exact (bsA_n (fun z => c176 (hsv2.trans z.1.2))).symm) | (rw [bsA_n (fun z => absurd z.2 (by rw [← hbe]; omega))]; exact hbe)) (by first | omega | assumption | rfl | (simp_all; done) | grind)  (lv_sub hl [2, 3, 4, 1, 0] rfl)
                          · have c138 : ¬ (16 ≤ hh) := mt (nI_leI (a := 16) (b := hh) (by first | omega | (have := cntN_le s; have := cntN_le be; omega)) (by first | omega | (have := cntN_le s; have := cntN_le be; omega))).mpr c138
                            refine lv_iload hx hb dX0_second_141 (lv_at hl 6 rfl) ?_
                            refine lv_iload hx hb dX0_second_143 (lv_at hl 4 rfl) ?_
                            refine lv_iload hx hb dX0_second_145 (lv_at hl 7 rfl) ?_
                            refine CIs.go (rcS hC hl (c_X0_has G l (nI s) (nI hh) ) hK trivial q1036 q1037 q110 q1038 mdX0_has (room_s hRm rfl) rfl rfl dX0_second_147) ?_
                            refine lv_if_eq (tgt := 163) hx hb dX0_second_150 (by decide) (fun c150 => ?_) (fun c150 => ?_)
                            · have c150 : (hasB (nI s) (nI hh)) = false := bI_0.mp c150
                              rw [hasB_nI _ (by omega)] at c150
                              refine lv_iconst (v := 0) hx hb dX0_second_163 (by decide) ?_
                              refine lv_ior hx hb dX0_second_164 ?_
                              refine W_top (y := sv) (or0 _) ?_
                              refine lv_istore (lv' := [(6, .int sv), (0, .ref o), (1, .int k0), (2, .int al), (3, .int (nI be)), (4, .int (nI s)), (5, .int ((nI (cntN s)) - (nI (cntN be)))), (7, .int (nI hh))]) hx hb dX0_second_165 hl (by decide) rfl (fun ls hl => ?_)
                              refine lv_iinc (v := (nI (hh + 1))) (lv' := [(7, .int (nI (hh + 1))), (6, .int sv), (0, .ref o), (1, .int k0), (2, .int al), (3, .int (nI be)), (4, .int (nI s)), (5, .int ((nI (cntN s)) - (nI (cntN be))))]) hx hb dX0_second_167 hl (k := 7) rfl (nI_inc hh) (by decide) rfl (fun ls hl => ?_)
                              refine lv_goto (tgt := 134) hx hb dX0_second_170 (by decide) ?_
                              exact ih134 (hh + 1) sv ls (by omega) (by first | omega | assumption | rfl | (simp_all; done) | grind) (by rw [hsv]; show _ = orI _ hh ||| (if s.testBit hh = true then _ else 0); first | (rw [if_pos c150]; done) | (rw [if_neg (by rw [c150]; decide), or0]))  (lv_sub hl [2, 3, 4, 5, 6, 7, 1, 0] rfl)
                            · have c150 : (hasB (nI s) (nI hh)) = true := bI_1.mp c150
                              rw [hasB_nI _ (by omega)] at c150
                              refine lv_aload_n hx hb dX0_second_153 rfl (lv_at hl 0 rfl) ?_
                              refine S_get hC hK hP (oS_main _ _ _ _ _) clX0 in_X0 14 (by decide) (fD14 _ _ _ _) q311 dX0_second_154 ?_
                              refine lv_iload hx hb dX0_second_157 (lv_at hl 7 rfl) ?_
                              refine S_ald hC hK hP (aS14 _ _ _ _ _) (j := hh) (by decide) (rfl) (by omega) dX0_second_159 ?_
                              refine W_top (y := (g1 hh)) rfl ?_
                              refine W_top (y := ((evS (u.1 24) (everI (snS (u.1 25) (u.2.1 21) (u.2.1 22) (u.2.1 23) (u.2.1 20)))) hh)) (h1e _ (by omega)) ?_
                              refine lv_goto (tgt := 164) hx hb dX0_second_160 (by decide) ?_
                              refine lv_ior hx hb dX0_second_164 ?_
                              refine lv_istore (lv' := [(6, .int (sv ||| ((evS (u.1 24) (everI (snS (u.1 25) (u.2.1 21) (u.2.1 22) (u.2.1 23) (u.2.1 20)))) hh))), (0, .ref o), (1, .int k0), (2, .int al), (3, .int (nI be)), (4, .int (nI s)), (5, .int ((nI (cntN s)) - (nI (cntN be)))), (7, .int (nI hh))]) hx hb dX0_second_165 hl (by decide) rfl (fun ls hl => ?_)
                              refine lv_iinc (v := (nI (hh + 1))) (lv' := [(7, .int (nI (hh + 1))), (6, .int (sv ||| ((evS (u.1 24) (everI (snS (u.1 25) (u.2.1 21) (u.2.1 22) (u.2.1 23) (u.2.1 20)))) hh))), (0, .ref o), (1, .int k0), (2, .int al), (3, .int (nI be)), (4, .int (nI s)), (5, .int ((nI (cntN s)) - (nI (cntN be))))]) hx hb dX0_second_167 hl (k := 7) rfl (nI_inc hh) (by decide) rfl (fun ls hl => ?_)
                              refine lv_goto (tgt := 134) hx hb dX0_second_170 (by decide) ?_
                              exact ih134 (hh + 1) (sv ||| ((evS (u.1 24) (everI (snS (u.1 25) (u.2.1 21) (u.2.1 22) (u.2.1 23) (u.2.1 20)))) hh)) ls (by omega) (by first | omega | assumption | rfl | (simp_all; done) | grind) (by rw [hsv]; show _ = orI _ hh ||| (if s.testBit hh = true then _ else 0); first | (rw [if_pos c150]; done) | (rw [if_neg (by rw [c150]; decide), or0]))  (lv_sub hl [2, 3, 4, 5, 6, 7, 1, 0] rfl)
                      exact LP134 _ 0 0 ls (Nat.lt_succ_self _) (by first | omega | assumption | rfl | (simp_all; done) | grind) (rfl)  (lv_sub hl [3, 4, 5, 6, 7, 2, 1, 0] rfl)
                    · have c116 : cntN s = cntN be := (sub_eq (by omega) (by omega)).mp (by first | exact c116 | exact Classical.not_not.mp c116)
                      refine lv_iload hx hb dX0_second_119 (lv_at hl 5 rfl) ?_
                      refine lv_iload_n hx hb dX0_second_121 rfl (lv_at hl 4 rfl) ?_
                      refine lv_icmp_lt (tgt := 128) hx hb dX0_second_122 (by decide) (fun c122 => ?_) (fun c122 => ?_)
                      · have c122 : s < be := (nI_ltI (a := s) (b := be) (by first | omega | (have := cntN_le s; have := cntN_le be; omega)) (by first | omega | (have := cntN_le s; have := cntN_le be; omega))).mp c122
                        refine lv_iconst (v := 0) hx hb dX0_second_128 (by decide) ?_
                        refine lv_istore (lv' := [(6, .int 0), (5, .int ((nI (cntN s)) - (nI (cntN be)))), (0, .ref o), (1, .int k0), (2, .int al), (3, .int (nI be)), (4, .int (nI s))]) hx hb dX0_second_129 hl (by decide) rfl (fun ls hl => ?_)
                        refine lv_iconst (v := 0) hx hb dX0_second_131 (by decide) ?_
                        refine lv_istore (lv' := [(7, .int 0), (6, .int 0), (5, .int ((nI (cntN s)) - (nI (cntN be)))), (0, .ref o), (1, .int k0), (2, .int al), (3, .int (nI be)), (4, .int (nI s))]) hx hb dX0_second_132 hl (by decide) rfl (fun ls hl => ?_)
                        have LP134 : ∀ (fu134 : Nat) (hh : Nat) (sv : Int32) (ls : Array Slot), 16 - hh < fu134 → hh ≤ 16 → sv = orI (fun h => if s.testBit h = true then (evS (u.1 24) (everI (snS (u.1 25) (u.2.1 21) (u.2.1 22) (u.2.1 23) (u.2.1 20)))) h else 0) hh → lv_has ls 8 [(0, .ref o), (1, .int k0), (2, .int al), (3, .int (nI be)), (4, .int (nI s)), (5, .int ((nI (cntN s)) - (nI (cntN be)))), (6, .int sv), (7, .int (nI hh))] → W pg l en Rm sg mm ar bw mth cd H locs 0 0 QQ (F0 mm 134 ls []) := by
                          intro fu134
                          induction fu134 with
                          | zero => intro hh sv ls hm134 hh6 hsv hl; exact absurd hm134 (Nat.not_lt_zero _)
                          | succ fu134 ih134 =>
                            intro hh sv ls hm134 hh6 hsv hl
                            refine lv_iload hx hb dX0_second_134 (lv_at hl 7 rfl) ?_
                            refine lv_bipush (v := 16) hx hb dX0_second_136 (by decide) ?_
                            refine lv_icmp_ge (tgt := 173) hx hb dX0_second_138 (by decide) (fun c138 => ?_) (fun c138 => ?_)
                            · have c138 : 16 ≤ hh := (nI_leI (a := 16) (b := hh) (by first | omega | (have := cntN_le s; have := cntN_le be; omega)) (by first | omega | (have := cntN_le s; have := cntN_le be; omega))).mp c138
                              have hsv2 : sv = svS (evS (u.1 24) (everI (snS (u.1 25) (u.2.1 21) (u.2.1 22) (u.2.1 23) (u.2.1 20)))) s := by rw [hsv, show hh = 16 by omega]; rfl
                              refine lv_iload hx hb dX0_second_173 (lv_at hl 6 rfl) ?_
                              refine lv_iload_n hx hb dX0_second_175 rfl (lv_at hl 2 rfl) ?_
                              refine lv_icmp_ne (tgt := 182) hx hb dX0_second_176 (by decide) (fun c176 => ?_) (fun c176 => ?_)
                              · refine lv_iinc (v := (nI (s + 1))) (lv' := [(4, .int (nI (s + 1))), (0, .ref o), (1, .int k0), (2, .int al), (3, .int (nI be)), (5, .int ((nI (cntN s)) - (nI (cntN be)))), (6, .int sv), (7, .int (nI hh))]) hx hb dX0_second_182 hl (k := 4) rfl (nI_inc s) (by decide) rfl (fun ls hl => ?_)
                                refine lv_goto (tgt := 75) hx hb dX0_second_185 (by decide) ?_
                                exact ih75 (s + 1) be ls (by omega) (by first | omega | assumption | rfl | (simp_all; done) | grind) (by first | exact (bsA_t c106 (by rw [← hsv2]; first | exact c176 | exact Classical.not_not.mp c176) (by rw [← hbe]; omega)).symm | (rw [hbe]; exact (bsA_n (fun z => c106 z.1.1)).symm) | (rw [hbe]; exact (bsA_n (fun z => c176 (hsv2.trans z.1.2))).symm) | (rw [bsA_n (fun z => absurd z.2 (by rw [← hbe]; omega))]; exact hbe)) (by first | omega | assumption | rfl | (simp_all; done) | grind)  (lv_sub hl [1, 2, 3, 4, 0] rfl)
                              · refine lv_iload hx hb dX0_second_179 (lv_at hl 4 rfl) ?_
                                refine lv_istore_n (lv' := [(3, .int (nI s)), (0, .ref o), (1, .int k0), (2, .int al), (4, .int (nI s)), (5, .int ((nI (cntN s)) - (nI (cntN be)))), (6, .int sv), (7, .int (nI hh))]) hx hb dX0_second_181 rfl hl (by decide) rfl (fun ls hl => ?_)
                                refine lv_iinc (v := (nI (s + 1))) (lv' := [(4, .int (nI (s + 1))), (3, .int (nI s)), (0, .ref o), (1, .int k0), (2, .int al), (5, .int ((nI (cntN s)) - (nI (cntN be)))), (6, .int sv), (7, .int (nI hh))]) hx hb dX0_second_182 hl (k := 4) rfl (nI_inc s) (by decide) rfl (fun ls hl => ?_)
                                refine lv_goto (tgt := 75) hx hb dX0_second_185 (by decide) ?_
                                exact ih75 (s + 1) s ls (by omega) (by first | omega | assumption | rfl | (simp_all; done) | grind) (by first | exact (bsA_t c106 (by rw [← hsv2]; first | exact c176 | exact Classical.not_not.mp c176) (by rw [← hbe]; omega)).symm | (rw [hbe]; exact (bsA_n (fun z => c106 z.1.1)).symm) | (rw [hbe]; exact (bsA_n (fun z => c176 (hsv2.trans z.1.2))).symm) | (rw [bsA_n (fun z => absurd z.2 (by rw [← hbe]; omega))]; exact hbe)) (by first | omega | assumption | rfl | (simp_all; done) | grind)  (lv_sub hl [2, 3, 4, 1, 0] rfl)
                            · have c138 : ¬ (16 ≤ hh) := mt (nI_leI (a := 16) (b := hh) (by first | omega | (have := cntN_le s; have := cntN_le be; omega)) (by first | omega | (have := cntN_le s; have := cntN_le be; omega))).mpr c138
                              refine lv_iload hx hb dX0_second_141 (lv_at hl 6 rfl) ?_
                              refine lv_iload hx hb dX0_second_143 (lv_at hl 4 rfl) ?_
                              refine lv_iload hx hb dX0_second_145 (lv_at hl 7 rfl) ?_
                              refine CIs.go (rcS hC hl (c_X0_has G l (nI s) (nI hh) ) hK trivial q1036 q1037 q110 q1038 mdX0_has (room_s hRm rfl) rfl rfl dX0_second_147) ?_
                              refine lv_if_eq (tgt := 163) hx hb dX0_second_150 (by decide) (fun c150 => ?_) (fun c150 => ?_)
                              · have c150 : (hasB (nI s) (nI hh)) = false := bI_0.mp c150
                                rw [hasB_nI _ (by omega)] at c150
                                refine lv_iconst (v := 0) hx hb dX0_second_163 (by decide) ?_
                                refine lv_ior hx hb dX0_second_164 ?_
                                refine W_top (y := sv) (or0 _) ?_
                                refine lv_istore (lv' := [(6, .int sv), (0, .ref o), (1, .int k0), (2, .int al), (3, .int (nI be)), (4, .int (nI s)), (5, .int ((nI (cntN s)) - (nI (cntN be)))), (7, .int (nI hh))]) hx hb dX0_second_165 hl (by decide) rfl (fun ls hl => ?_)
                                refine lv_iinc (v := (nI (hh + 1))) (lv' := [(7, .int (nI (hh + 1))), (6, .int sv), (0, .ref o), (1, .int k0), (2, .int al), (3, .int (nI be)), (4, .int (nI s)), (5, .int ((nI (cntN s)) - (nI (cntN be))))]) hx hb dX0_second_167 hl (k := 7) rfl (nI_inc hh) (by decide) rfl (fun ls hl => ?_)
                                refine lv_goto (tgt := 134) hx hb dX0_second_170 (by decide) ?_
                                exact ih134 (hh + 1) sv ls (by omega) (by first | omega | assumption | rfl | (simp_all; done) | grind) (by rw [hsv]; show _ = orI _ hh ||| (if s.testBit hh = true then _ else 0); first | (rw [if_pos c150]; done) | (rw [if_neg (by rw [c150]; decide), or0]))  (lv_sub hl [2, 3, 4, 5, 6, 7, 1, 0] rfl)
                              · have c150 : (hasB (nI s) (nI hh)) = true := bI_1.mp c150
                                rw [hasB_nI _ (by omega)] at c150
                                refine lv_aload_n hx hb dX0_second_153 rfl (lv_at hl 0 rfl) ?_
                                refine S_get hC hK hP (oS_main _ _ _ _ _) clX0 in_X0 14 (by decide) (fD14 _ _ _ _) q311 dX0_second_154 ?_
                                refine lv_iload hx hb dX0_second_157 (lv_at hl 7 rfl) ?_
                                refine S_ald hC hK hP (aS14 _ _ _ _ _) (j := hh) (by decide) (rfl) (by omega) dX0_second_159 ?_
                                refine W_top (y := (g1 hh)) rfl ?_
                                refine W_top (y := ((evS (u.1 24) (everI (snS (u.1 25) (u.2.1 21) (u.2.1 22) (u.2.1 23) (u.2.1 20)))) hh)) (h1e _ (by omega)) ?_
                                refine lv_goto (tgt := 164) hx hb dX0_second_160 (by decide) ?_
                                refine lv_ior hx hb dX0_second_164 ?_
                                refine lv_istore (lv' := [(6, .int (sv ||| ((evS (u.1 24) (everI (snS (u.1 25) (u.2.1 21) (u.2.1 22) (u.2.1 23) (u.2.1 20)))) hh))), (0, .ref o), (1, .int k0), (2, .int al), (3, .int (nI be)), (4, .int (nI s)), (5, .int ((nI (cntN s)) - (nI (cntN be)))), (7, .int (nI hh))]) hx hb dX0_second_165 hl (by decide) rfl (fun ls hl => ?_)
                                refine lv_iinc (v := (nI (hh + 1))) (lv' := [(7, .int (nI (hh + 1))), (6, .int (sv ||| ((evS (u.1 24) (everI (snS (u.1 25) (u.2.1 21) (u.2.1 22) (u.2.1 23) (u.2.1 20)))) hh))), (0, .ref o), (1, .int k0), (2, .int al), (3, .int (nI be)), (4, .int (nI s)), (5, .int ((nI (cntN s)) - (nI (cntN be))))]) hx hb dX0_second_167 hl (k := 7) rfl (nI_inc hh) (by decide) rfl (fun ls hl => ?_)
                                refine lv_goto (tgt := 134) hx hb dX0_second_170 (by decide) ?_
                                exact ih134 (hh + 1) (sv ||| ((evS (u.1 24) (everI (snS (u.1 25) (u.2.1 21) (u.2.1 22) (u.2.1 23) (u.2.1 20)))) hh)) ls (by omega) (by first | omega | assumption | rfl | (simp_all; done) | grind) (by rw [hsv]; show _ = orI _ hh ||| (if s.testBit hh = true then _ else 0); first | (rw [if_pos c150]; done) | (rw [if_neg (by rw [c150]; decide), or0]))  (lv_sub hl [2, 3, 4, 5, 6, 7, 1, 0] rfl)
                        exact LP134 _ 0 0 ls (Nat.lt_succ_self _) (by first | omega | assumption | rfl | (simp_all; done) | grind) (rfl)  (lv_sub hl [3, 4, 5, 6, 7, 2, 1, 0] rfl)
                      · have c122 : ¬ (s < be) := mt (nI_ltI (a := s) (b := be) (by first | omega | (have := cntN_le s; have := cntN_le be; omega)) (by first | omega | (have := cntN_le s; have := cntN_le be; omega))).mpr c122
                        refine lv_goto (tgt := 182) hx hb dX0_second_125 (by decide) ?_
                        refine lv_iinc (v := (nI (s + 1))) (lv' := [(4, .int (nI (s + 1))), (5, .int ((nI (cntN s)) - (nI (cntN be)))), (0, .ref o), (1, .int k0), (2, .int al), (3, .int (nI be))]) hx hb dX0_second_182 hl (k := 5) rfl (nI_inc s) (by decide) rfl (fun ls hl => ?_)
                        refine lv_goto (tgt := 75) hx hb dX0_second_185 (by decide) ?_
                        exact ih75 (s + 1) be ls (by omega) (by first | omega | assumption | rfl | (simp_all; done) | grind) (by first | exact (bsA_t c106 (by rw [← hsv2]; first | exact c176 | exact Classical.not_not.mp c176) (by rw [← hbe]; omega)).symm | (rw [hbe]; exact (bsA_n (fun z => c106 z.1.1)).symm) | (rw [hbe]; exact (bsA_n (fun z => c176 (hsv2.trans z.1.2))).symm) | (rw [bsA_n (fun z => absurd z.2 (by rw [← hbe]; omega))]; exact hbe)) (by first | omega | assumption | rfl | (simp_all; done) | grind)  (lv_sub hl [2, 3, 4, 5, 0] rfl)
          exact LP75 _ 0 hs ls (Nat.lt_succ_self _) (by first | omega | assumption | rfl | (simp_all; done) | grind) (rfl) (by first | omega | assumption | rfl | (simp_all; done) | grind)  (lv_sub hl [2, 3, 4, 1, 0] rfl)
        · have c17 : ¬ (16 ≤ h) := mt (nI_leI (a := 16) (b := h) (by first | omega | (have := cntN_le s; have := cntN_le be; omega)) (by first | omega | (have := cntN_le s; have := cntN_le be; omega))).mpr c17
          refine lv_aload_n hx hb dX0_second_20 rfl (lv_at hl 0 rfl) ?_
          refine S_get hC hK hP (oS_main _ _ _ _ _) clX0 in_X0 14 (by decide) (fD14 _ _ _ _) q311 dX0_second_21 ?_
          refine lv_iload_n hx hb dX0_second_24 rfl (lv_at hl 3 rfl) ?_
          refine lv_aload_n hx hb dX0_second_25 rfl (lv_at hl 0 rfl) ?_
          refine S_get hC hK hP (oS_main _ _ _ _ _) clX0 in_X0 0 (by decide) (fD0 _ _ _ _) q291 dX0_second_26 ?_
          refine lv_iload_n hx hb dX0_second_29 rfl (lv_at hl 3 rfl) ?_
          refine CIs.go (rcV hC hl (c_X1_isHouse_plan G l o R tx (mS u 14 g1) (nI h) ) hK hP (va_recv hK.1 hP clX1 (oS_plan _ _ _ _ _)) q369 q370 q371 q111 q372 mdX1_isHouse (room_s hRm rfl) rfl rfl dX0_second_30) ?_
          refine W_top (y := (bI (isHouseB (u.1 24) (nI h)))) rfl ?_
          refine lv_if_eq (tgt := 47) hx hb dX0_second_33 (by decide) (fun c33 => ?_) (fun c33 => ?_)
          · have c33 : (isHouseB (u.1 24) (nI h)) = false := bI_0.mp c33
            refine lv_iconst (v := 0) hx hb dX0_second_47 (by decide) ?_
            refine S_ast hC hK hP (hD _ _ _) hS (aS14 _ _ _ _ _) (bS14 _ _ _ _ _ _ _) (j := h) (by decide) (rfl) (by omega) dX0_second_48 (fun H locs hP hS => ?_)
            rw [mS_A] at hP
            refine lv_iload_n hx hb dX0_second_49 rfl (lv_at hl 2 rfl) ?_
            refine lv_aload_n hx hb dX0_second_50 rfl (lv_at hl 0 rfl) ?_
            refine S_get hC hK hP (oS_main _ _ _ _ _) clX0 in_X0 14 (by decide) (fD14 _ _ _ _) q311 dX0_second_51 ?_
            refine lv_iload_n hx hb dX0_second_54 rfl (lv_at hl 3 rfl) ?_
            refine S_ald hC hK hP (aS14 _ _ _ _ _) (j := h) (by decide) (rfl) (by omega) dX0_second_55 ?_
            refine W_top (y := 0) (if_pos rfl) ?_
            refine lv_ior hx hb dX0_second_56 ?_
            refine W_top (y := al) (or0 _) ?_
            refine lv_istore_n (lv' := [(2, .int al), (0, .ref o), (1, .int k0), (3, .int (nI h))]) hx hb dX0_second_57 rfl hl (by decide) rfl (fun ls hl => ?_)
            refine lv_iinc (v := (nI (h + 1))) (lv' := [(3, .int (nI (h + 1))), (2, .int al), (0, .ref o), (1, .int k0)]) hx hb dX0_second_58 hl (k := 3) rfl (nI_inc h) (by decide) rfl (fun ls hl => ?_)
            refine lv_goto (tgt := 14) hx hb dX0_second_61 (by decide) ?_
            exact ih14 (h + 1) al (upd g1 h 0) _ _ ls (by omega) (by first | omega | assumption | rfl | (simp_all; done) | grind) (by rw [hal]; show _ = orI _ h ||| evS _ _ h; first | (rw [evS, if_pos c33]; rfl) | (rw [evS, if_neg (by rw [c33]; decide), or0])) (by intro i hi; by_cases e : i = h; (rw [e, upd_s]; first | (rw [evS, if_pos c33]; rfl) | (rw [evS, if_neg (by rw [c33]; decide)])); (rw [upd_n _ e]; exact h1 i (by omega))) hP hS (lv_sub hl [2, 3, 1, 0] rfl)
          · have c33 : (isHouseB (u.1 24) (nI h)) = true := bI_1.mp c33
            refine lv_aload_n hx hb dX0_second_36 rfl (lv_at hl 0 rfl) ?_
            refine S_get hC hK hP (oS_main _ _ _ _ _) clX0 in_X0 0 (by decide) (fD0 _ _ _ _) q291 dX0_second_37 ?_
            refine lv_iload_n hx hb dX0_second_40 rfl (lv_at hl 3 rfl) ?_
            refine CIs.go (rcV hC hl (c_X1_seenEver_plan G l o R tx (mS u 14 g1) h (by first | assumption | omega | rfl | (simp_all; done)) (by first | assumption | omega | rfl | (simp_all; done)) (by first | assumption | omega | rfl | (simp_all; done))) hK hP (va_recv hK.1 hP clX1 (oS_plan _ _ _ _ _)) q1013 q1014 q1015 q111 q1016 mdX1_seenEver (room_s hRm rfl) rfl rfl dX0_second_41) ?_
            refine W_top (y := (everS (u.1 25) (u.2.1 21) (u.2.1 22) (u.2.1 23) ((u.2.1 20) h))) rfl ?_
            refine lv_goto (tgt := 48) hx hb dX0_second_44 (by decide) ?_
            refine S_ast hC hK hP (hD _ _ _) hS (aS14 _ _ _ _ _) (bS14 _ _ _ _ _ _ _) (j := h) (by decide) (rfl) (by omega) dX0_second_48 (fun H locs hP hS => ?_)
            rw [mS_A] at hP
            refine lv_iload_n hx hb dX0_second_49 rfl (lv_at hl 2 rfl) ?_
            refine lv_aload_n hx hb dX0_second_50 rfl (lv_at hl 0 rfl) ?_
            refine S_get hC hK hP (oS_main _ _ _ _ _) clX0 in_X0 14 (by decide) (fD14 _ _ _ _) q311 dX0_second_51 ?_
            refine lv_iload_n hx hb dX0_second_54 rfl (lv_at hl 3 rfl) ?_
            refine S_ald hC hK hP (aS14 _ _ _ _ _) (j := h) (by decide) (rfl) (by omega) dX0_second_55 ?_
            refine W_top (y := (everS (u.1 25) (u.2.1 21) (u.2.1 22) (u.2.1 23) ((u.2.1 20) h))) (if_pos rfl) ?_
            refine lv_ior hx hb dX0_second_56 ?_
            refine lv_istore_n (lv' := [(2, .int (al ||| (everS (u.1 25) (u.2.1 21) (u.2.1 22) (u.2.1 23) ((u.2.1 20) h)))), (0, .ref o), (1, .int k0), (3, .int (nI h))]) hx hb dX0_second_57 rfl hl (by decide) rfl (fun ls hl => ?_)
            refine lv_iinc (v := (nI (h + 1))) (lv' := [(3, .int (nI (h + 1))), (2, .int (al ||| (everS (u.1 25) (u.2.1 21) (u.2.1 22) (u.2.1 23) ((u.2.1 20) h)))), (0, .ref o), (1, .int k0)]) hx hb dX0_second_58 hl (k := 3) rfl (nI_inc h) (by decide) rfl (fun ls hl => ?_)
            refine lv_goto (tgt := 14) hx hb dX0_second_61 (by decide) ?_
            exact ih14 (h + 1) (al ||| (everS (u.1 25) (u.2.1 21) (u.2.1 22) (u.2.1 23) ((u.2.1 20) h))) (upd g1 h (everS (u.1 25) (u.2.1 21) (u.2.1 22) (u.2.1 23) ((u.2.1 20) h))) _ _ ls (by omega) (by first | omega | assumption | rfl | (simp_all; done) | grind) (by rw [hal]; show _ = orI _ h ||| evS _ _ h; first | (rw [evS, if_pos c33]; rfl) | (rw [evS, if_neg (by rw [c33]; decide), or0])) (by intro i hi; by_cases e : i = h; (rw [e, upd_s]; first | (rw [evS, if_pos c33]; rfl) | (rw [evS, if_neg (by rw [c33]; decide)])); (rw [upd_n _ e]; exact h1 i (by omega))) hP hS (lv_sub hl [2, 3, 1, 0] rfl)
    exact LP14 _ 0 0 (u.2.1 14) _ _ ls (Nat.lt_succ_self _) (by first | omega | assumption | rfl | (simp_all; done) | grind) (rfl) (fun i hi => absurd hi (Nat.not_lt_zero i)) hP hS (lv_sub hl [2, 3, 1, 0] rfl)
  · have c5 : (inB k0 0 1) = false := bI_0.mp c5
    refine lv_iconst (v := (-1)) hx hb dX0_second_8 (by decide) ?_
    exact hq _ _ _ _ _ _ _ _ dX0_second_9 hP hS (rfl) (by exact ⟨(u.2.1 14), by simp [secondI, c5], by simp [c5]⟩) (by decide) (by decide)
