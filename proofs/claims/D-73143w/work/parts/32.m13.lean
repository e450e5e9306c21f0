set_option maxRecDepth 100000
set_option maxHeartbeats 4000000 in
theorem c_X6_bestSet (G : GG) (l : Launch) (o : Nat) (R : Nat → Nat) (u : MS) (hs : Nat) (hhs : (u.1 8) = nI hs) (hhs2 : hs < 65536) (hD : DM o R) : CMi G l o R yX6_bestSet cX6_bestSet 4 .int 6 111 [] u (fun r w => ∃ g1 : Nat → Int32, ∃ g2 : Nat → Int32, r = (nI (bestN hs (evS (u.1 8) (everI (snS (u.1 9) (u.2.1 5) (u.2.1 6) (u.2.1 7) (u.2.1 4)))))) ∧ w = (mS (mS u 53 g1) 54 g2)) := by
  refine CMi.mk pnX6 rfl (Nat.le_of_ble_eq_true rfl) (fun pg en Rm sg mm ar bw mth cd QQ ls hC hRm hK hP hS hl hq => ?_)
  have hx := hC.1; have hb := hC.2.1; have ho := hC.2.2.2.1; have hts := hC.2.2.2.2
  have hl : lv_has ls 4 [(0, .ref o)] := hl
  refine lv_iconst (v := 0) hx hb dX6_bestSet_0 (by decide) ?_
  refine lv_istore_n (lv' := [(1, .int 0), (0, .ref o)]) hx hb dX6_bestSet_1 rfl hl (by decide) rfl (fun ls hl => ?_)
  refine lv_iconst (v := 0) hx hb dX6_bestSet_2 (by decide) ?_
  refine lv_istore_n (lv' := [(2, .int 0), (1, .int 0), (0, .ref o)]) hx hb dX6_bestSet_3 rfl hl (by decide) rfl (fun ls hl => ?_)
  have hP : PM G o R (mS u 53 (u.2.1 53)) sg.heap := by rw [show (u.2.1 53) = (u.2.1 53) from rfl, mS_self]; exact hP
  have LP4 : ∀ (fu4 : Nat) (h : Nat) (al : Int32) (g1 : Nat → Int32) (H : Heap) (locs : List Loc) (ls : Array Slot), 16 - h < fu4 → h ≤ 16 → al = orI (evS (u.1 8) (everI (snS (u.1 9) (u.2.1 5) (u.2.1 6) (u.2.1 7) (u.2.1 4)))) h → (∀ i, i < h → g1 i = (evS (u.1 8) (everI (snS (u.1 9) (u.2.1 5) (u.2.1 6) (u.2.1 7) (u.2.1 4)))) i) → PM G o R (mS u 53 g1) H → va_S (AM o R) sg.heap H locs → lv_has ls 4 [(0, .ref o), (1, .int al), (2, .int (nI h))] → W pg l en Rm sg mm ar bw mth cd H locs 0 0 QQ (F0 mm 4 ls []) := by
    intro fu4
    induction fu4 with
    | zero => intro h al g1 H locs ls hm4 hh hal h1 hP hS hl; exact absurd hm4 (Nat.not_lt_zero _)
    | succ fu4 ih4 =>
      intro h al g1 H locs ls hm4 hh hal h1 hP hS hl
      refine lv_iload_n hx hb dX6_bestSet_4 rfl (lv_at hl 2 rfl) ?_
      refine lv_bipush (v := 16) hx hb dX6_bestSet_5 (by decide) ?_
      refine lv_icmp_ge (tgt := 48) hx hb dX6_bestSet_7 (by decide) (fun c7 => ?_) (fun c7 => ?_)
      · have c7 : 16 ≤ h := (nI_leI (a := 16) (b := h) (by first | omega | (have := cntN_le s; have := cntN_le be; omega)) (by first | omega | (have := cntN_le s; have := cntN_le be; omega))).mp c7
        have e16 : h = 16 := by omega
        subst e16
        have h1e := h1
        refine lv_aload_n hx hb dX6_bestSet_48 rfl (lv_at hl 0 rfl) ?_
        refine M_get (v := .int (u.1 8)) hC hK hP 8 (by decide) (fM8 _ _) q1209 dX6_bestSet_49 ?_
        refine W_top hhs ?_
        refine lv_istore_n (lv' := [(2, .int (nI hs)), (0, .ref o), (1, .int al)]) hx hb dX6_bestSet_52 rfl hl (by decide) rfl (fun ls hl => ?_)
        refine lv_aload_n hx hb dX6_bestSet_53 rfl (lv_at hl 1 rfl) ?_
        refine M_get hC hK hP 54 (by decide) (fM54 _ _) q1255 dX6_bestSet_54 ?_
        refine lv_iconst (v := 0) hx hb dX6_bestSet_57 (by decide) ?_
        refine lv_iconst (v := 0) hx hb dX6_bestSet_58 (by decide) ?_
        refine M_ast hC hK hD hP hS 54 35 65536 0 (aM54 _ _ _ _) (bM54 _ _ _ _ _ _) (by decide) (by decide) (by omega) dX6_bestSet_59 (fun H locs hP hS => ?_)
        refine lv_iconst (v := 1) hx hb dX6_bestSet_60 (by decide) ?_
        refine lv_istore_n (lv' := [(3, .int 1), (2, .int (nI hs)), (0, .ref o), (1, .int al)]) hx hb dX6_bestSet_61 rfl hl (by decide) rfl (fun ls hl => ?_)
        have hP : PM G o R (mS (mA (mS u 53 g1) 54 0 0) 54 ((mA (mS u 53 g1) 54 0 0).2.1 54)) H := by rw [show ((mA (mS u 53 g1) 54 0 0).2.1 54) = ((mA (mS u 53 g1) 54 0 0).2.1 54) from rfl, mS_self]; exact hP
        have LP62 : ∀ (fu62 : Nat) (s : Nat) (g2 : Nat → Int32) (H : Heap) (locs : List Loc) (ls : Array Slot), 65536 - s < fu62 → 1 ≤ s → s ≤ 65536 → (∀ i, i < s → g2 i = svS (evS (u.1 8) (everI (snS (u.1 9) (u.2.1 5) (u.2.1 6) (u.2.1 7) (u.2.1 4)))) i) → PM G o R (mS (mS u 53 g1) 54 g2) H → va_S (AM o R) sg.heap H locs → lv_has ls 4 [(0, .ref o), (1, .int al), (2, .int (nI hs)), (3, .int (nI s))] → W pg l en Rm sg mm ar bw mth cd H locs 0 0 QQ (F0 mm 62 ls []) := by
          intro fu62
          induction fu62 with
          | zero => intro s g2 H locs ls hm62 hs1 hs2 h2 hP hS hl; exact absurd hm62 (Nat.not_lt_zero _)
          | succ fu62 ih62 =>
            intro s g2 H locs ls hm62 hs1 hs2 h2 hP hS hl
            refine lv_iload_n hx hb dX6_bestSet_62 rfl (lv_at hl 3 rfl) ?_
            refine lv_ldc (own := RX6) (v := 65536) hx hb ho (hts _ q1200) dX6_bestSet_63 ?_
            refine lv_icmp_ge (tgt := 100) hx hb dX6_bestSet_65 (by decide) (fun c65 => ?_) (fun c65 => ?_)
            · have c65 : 65536 ≤ s := (nI_leI (a := 65536) (b := s) (by first | omega | (have := cntN_le s; have := cntN_le be; omega)) (by first | omega | (have := cntN_le s; have := cntN_le be; omega))).mp c65
              have h2e : ∀ i, i < 65536 → g2 i = svS (evS (u.1 8) (everI (snS (u.1 9) (u.2.1 5) (u.2.1 6) (u.2.1 7) (u.2.1 4)))) i := fun i hi => h2 i (by omega)
              refine lv_ldcw (own := RX6) (v := 65535) hx hb ho (hts _ q1706) dX6_bestSet_100 ?_
              refine lv_istore_n (lv' := [(3, .int 65535), (0, .ref o), (1, .int al), (2, .int (nI hs))]) hx hb dX6_bestSet_103 rfl hl (by decide) rfl (fun ls hl => ?_)
              have LP104 : ∀ (fu104 : Nat) (q : Nat) (be : Nat) (x : Int32) (ls : Array Slot), q < fu104 → q ≤ 65536 → x = nI q - 1 → be = bsB hs (evS (u.1 8) (everI (snS (u.1 9) (u.2.1 5) (u.2.1 6) (u.2.1 7) (u.2.1 4)))) al (65536 - q) → lv_has ls 4 [(0, .ref o), (1, .int al), (2, .int (nI be)), (3, .int x)] → W pg l en Rm sg mm ar bw mth cd H locs 0 0 QQ (F0 mm 104 ls []) := by
                intro fu104
                induction fu104 with
                | zero => intro q be x ls hm104 hq2 hxq hbe hl; exact absurd hm104 (Nat.not_lt_zero _)
                | succ fu104 ih104 =>
                  intro q be x ls hm104 hq2 hxq hbe hl
                  rcases q with _ | s
                  · have hx0 : x = -1 := by rw [hxq]; rfl
                    subst hx0
                    have hl : lv_has ls 4 [(0, .ref o), (1, .int al), (2, .int (nI be)), (3, .int (-1))] := hl
                    refine lv_iload_n hx hb dX6_bestSet_104 rfl (lv_at hl 3 rfl) ?_
                    refine lv_if_lt (tgt := 148) hx hb dX6_bestSet_105 (by decide) (fun c105 => ?_) (fun c105 => ?_)
                    · refine lv_iload_n hx hb dX6_bestSet_148 rfl (lv_at hl 2 rfl) ?_
                      exact hq _ _ _ _ _ _ dX6_bestSet_149 hP hS (rfl) (by exact ⟨g1, g2, by rw [hbe, hal]; rfl, rfl⟩)
                    · exact absurd c105 (by decide)
                  · have hx0 : x = nI s := by rw [hxq]; exact nI_pred s
                    subst hx0
                    have hbe2 : be < 65536 := by rw [hbe]; exact bsB_lt hhs2 _
                    have hl : lv_has ls 4 [(0, .ref o), (1, .int al), (2, .int (nI be)), (3, .int (nI s))] := hl
                    refine lv_iload_n hx hb dX6_bestSet_104 rfl (lv_at hl 3 rfl) ?_
                    refine lv_if_lt (tgt := 148) hx hb dX6_bestSet_105 (by decide) (fun c105 => ?_) (fun c105 => ?_)
                    · exact absurd c105 (nI_pos (by omega))
                    · refine lv_iload_n hx hb dX6_bestSet_108 rfl (lv_at hl 3 rfl) ?_
                      refine lv_aload_n hx hb dX6_bestSet_109 rfl (lv_at hl 0 rfl) ?_
                      refine M_get (v := .int (u.1 8)) hC hK hP 8 (by decide) (fM8 _ _) q1209 dX6_bestSet_110 ?_
                      refine W_top hhs ?_
                      refine lv_iconst (v := (-1)) hx hb dX6_bestSet_113 (by decide) ?_
                      refine lv_ixor hx hb dX6_bestSet_114 ?_
                      refine lv_iand hx hb dX6_bestSet_115 ?_
                      refine lv_if_ne (tgt := 142) hx hb dX6_bestSet_116 (by decide) (fun c116 => ?_) (fun c116 => ?_)
                      · refine lv_iinc (v := ((nI s) + (-1))) (lv' := [(3, .int ((nI s) + (-1))), (0, .ref o), (1, .int al), (2, .int (nI be))]) hx hb dX6_bestSet_142 hl (k := 3) rfl (rfl) (by decide) rfl (fun ls hl => ?_)
                        refine lv_goto (tgt := 104) hx hb dX6_bestSet_145 (by decide) ?_
                        exact ih104 s be ((nI s) + (-1)) ls (by omega) (by first | omega | assumption | rfl | (simp_all; done) | grind) (by rw [Int32.sub_eq_add_neg]) (by first | exact (bsB_t (by omega) ⟨⟨c116, c126⟩, by rw [← hbe]; omega⟩).symm | (rw [hbe]; exact (bsB_n (by omega) (fun z => c116 z.1.1)).symm) | (rw [hbe]; exact (bsB_n (by omega) (fun z => c126 z.1.2)).symm) | (rw [bsB_n (by omega) (fun z => absurd z.2 (by rw [← hbe]; omega))]; exact hbe))  (lv_sub hl [1, 2, 3, 0] rfl)
                      · refine lv_aload_n hx hb dX6_bestSet_119 rfl (lv_at hl 0 rfl) ?_
                        refine M_get hC hK hP 54 (by decide) (fM54 _ _) q1255 dX6_bestSet_120 ?_
                        refine lv_iload_n hx hb dX6_bestSet_123 rfl (lv_at hl 3 rfl) ?_
                        refine M_ald hC hK hP 54 35 65536 s (aM54 _ _ _ _) (by decide) (rfl) (by omega) dX6_bestSet_124 ?_
                        refine W_top (y := (g2 s)) rfl ?_
                        refine W_top (y := (svS (evS (u.1 8) (everI (snS (u.1 9) (u.2.1 5) (u.2.1 6) (u.2.1 7) (u.2.1 4)))) s)) (h2e s (by omega)) ?_
                        refine lv_iload_n hx hb dX6_bestSet_125 rfl (lv_at hl 1 rfl) ?_
                        refine lv_icmp_ne (tgt := 142) hx hb dX6_bestSet_126 (by decide) (fun c126 => ?_) (fun c126 => ?_)
                        · refine lv_iinc (v := ((nI s) + (-1))) (lv' := [(3, .int ((nI s) + (-1))), (0, .ref o), (1, .int al), (2, .int (nI be))]) hx hb dX6_bestSet_142 hl (k := 3) rfl (rfl) (by decide) rfl (fun ls hl => ?_)
                          refine lv_goto (tgt := 104) hx hb dX6_bestSet_145 (by decide) ?_
                          exact ih104 s be ((nI s) + (-1)) ls (by omega) (by first | omega | assumption | rfl | (simp_all; done) | grind) (by rw [Int32.sub_eq_add_neg]) (by first | exact (bsB_t (by omega) ⟨⟨c116, c126⟩, by rw [← hbe]; omega⟩).symm | (rw [hbe]; exact (bsB_n (by omega) (fun z => c116 z.1.1)).symm) | (rw [hbe]; exact (bsB_n (by omega) (fun z => c126 z.1.2)).symm) | (rw [bsB_n (by omega) (fun z => absurd z.2 (by rw [← hbe]; omega))]; exact hbe))  (lv_sub hl [1, 2, 3, 0] rfl)
                        · refine lv_iload_n hx hb dX6_bestSet_129 rfl (lv_at hl 3 rfl) ?_
                          refine CI.callS hC hK hl (c_X6_bits G l (nI s) ) trivial q1580 q1581 q116 q1582 mdX6_bits (room_ok hRm rfl) rfl rfl dX6_bestSet_130 ?_
                          refine W_top (y := (bitsI (nI s))) rfl ?_
                          refine W_top (y := (nI (cntN s))) (bitsI_nI s) ?_
                          refine lv_iload_n hx hb dX6_bestSet_133 rfl (lv_at hl 2 rfl) ?_
                          refine CI.callS hC hK hl (c_X6_bits G l (nI be) ) trivial q1580 q1581 q116 q1582 mdX6_bits (room_ok hRm rfl) rfl rfl dX6_bestSet_134 ?_
                          refine W_top (y := (bitsI (nI be))) rfl ?_
                          refine W_top (y := (nI (cntN be))) (bitsI_nI be) ?_
                          refine lv_icmp_gt (tgt := 142) hx hb dX6_bestSet_137 (by decide) (fun c137 => ?_) (fun c137 => ?_)
                          · have c137 : (cntN be) < (cntN s) := (nI_ltI (a := (cntN be)) (b := (cntN s)) (by first | omega | (have := cntN_le s; have := cntN_le be; omega)) (by first | omega | (have := cntN_le s; have := cntN_le be; omega))).mp c137
                            refine lv_iinc (v := ((nI s) + (-1))) (lv' := [(3, .int ((nI s) + (-1))), (0, .ref o), (1, .int al), (2, .int (nI be))]) hx hb dX6_bestSet_142 hl (k := 3) rfl (rfl) (by decide) rfl (fun ls hl => ?_)
                            refine lv_goto (tgt := 104) hx hb dX6_bestSet_145 (by decide) ?_
                            exact ih104 s be ((nI s) + (-1)) ls (by omega) (by first | omega | assumption | rfl | (simp_all; done) | grind) (by rw [Int32.sub_eq_add_neg]) (by first | exact (bsB_t (by omega) ⟨⟨c116, c126⟩, by rw [← hbe]; omega⟩).symm | (rw [hbe]; exact (bsB_n (by omega) (fun z => c116 z.1.1)).symm) | (rw [hbe]; exact (bsB_n (by omega) (fun z => c126 z.1.2)).symm) | (rw [bsB_n (by omega) (fun z => absurd z.2 (by rw [← hbe]; omega))]; exact hbe))  (lv_sub hl [1, 2, 3, 0] rfl)
                          · have c137 : ¬ ((cntN be) < (cntN s)) := mt (nI_ltI (a := (cntN be)) (b := (cntN s)) (by first | omega | (have := cntN_le s; have := cntN_le be; omega)) (by first | omega | (have := cntN_le s; have := cntN_le be; omega))).mpr c137
                            refine lv_iload_n hx hb dX6_bestSet_140 rfl (lv_at hl 3 rfl) ?_
                            refine lv_istore_n (lv' := [(2, .int (nI s)), (0, .ref o), (1, .int al), (3, .int (nI s))]) hx hb dX6_bestSet_141 rfl hl (by decide) rfl (fun ls hl => ?_)
                            refine lv_iinc (v := ((nI s) + (-1))) (lv' := [(3, .int ((nI s) + (-1))), (2, .int (nI s)), (0, .ref o), (1, .int al)]) hx hb dX6_bestSet_142 hl (k := 3) rfl (rfl) (by decide) rfl (fun ls hl => ?_)
                            refine lv_goto (tgt := 104) hx hb dX6_bestSet_145 (by decide) ?_
                            exact ih104 s s ((nI s) + (-1)) ls (by omega) (by first | omega | assumption | rfl | (simp_all; done) | grind) (by rw [Int32.sub_eq_add_neg]) (by first | exact (bsB_t (by omega) ⟨⟨c116, c126⟩, by rw [← hbe]; omega⟩).symm | (rw [hbe]; exact (bsB_n (by omega) (fun z => c116 z.1.1)).symm) | (rw [hbe]; exact (bsB_n (by omega) (fun z => c126 z.1.2)).symm) | (rw [bsB_n (by omega) (fun z => absurd z.2 (by rw [← hbe]; omega))]; exact hbe))  (lv_sub hl [2, 3, 1, 0] rfl)
              exact LP104 _ 65536 hs 65535 ls (Nat.lt_succ_self _) (by first | omega | assumption | rfl | (simp_all; done) | grind) (by decide) (by rw [Nat.sub_self]; rfl)  (lv_sub hl [1, 2, 3, 0] rfl)
            · have c65 : ¬ (65536 ≤ s) := mt (nI_leI (a := 65536) (b := s) (by first | omega | (have := cntN_le s; have := cntN_le be; omega)) (by first | omega | (have := cntN_le s; have := cntN_le be; omega))).mpr c65
              refine lv_aload_n hx hb dX6_bestSet_68 rfl (lv_at hl 0 rfl) ?_
              refine M_get hC hK hP 54 (by decide) (fM54 _ _) q1255 dX6_bestSet_69 ?_
              refine lv_iload_n hx hb dX6_bestSet_72 rfl (lv_at hl 3 rfl) ?_
              refine lv_aload_n hx hb dX6_bestSet_73 rfl (lv_at hl 0 rfl) ?_
              refine M_get hC hK hP 54 (by decide) (fM54 _ _) q1255 dX6_bestSet_74 ?_
              have hs0 : s ≠ 0 := by omega
              obtain ⟨hlo, hlo16, hlow⟩ := lowN_spec hs0 (show s < 2 ^ 16 by omega)
              have hcl := clrB_lt hlo
              refine lv_iload_n hx hb dX6_bestSet_77 rfl (lv_at hl 3 rfl) ?_
              refine lv_iload_n hx hb dX6_bestSet_78 rfl (lv_at hl 3 rfl) ?_
              refine lv_iconst (v := 1) hx hb dX6_bestSet_79 (by decide) ?_
              refine lv_isub hx hb dX6_bestSet_80 ?_
              refine W_top (y := (nI (s - 1))) (pk_sub (a := s) (b := 1) (by omega)) ?_
              refine lv_iand hx hb dX6_bestSet_81 ?_
              refine W_top (y := (nI (clrB s (lowN s)))) (by rw [nI_and, and_pred hs0 (show s < 2 ^ 16 by omega)]) ?_
              refine M_ald hC hK hP 54 35 65536 (clrB s (lowN s)) (aM54 _ _ _ _) (by decide) (rfl) (by omega) dX6_bestSet_82 ?_
              refine W_top (y := (g2 (clrB s (lowN s)))) rfl ?_
              refine W_top (y := (svS (evS (u.1 8) (everI (snS (u.1 9) (u.2.1 5) (u.2.1 6) (u.2.1 7) (u.2.1 4)))) (clrB s (lowN s)))) (h2 _ (by omega)) ?_
              refine lv_aload_n hx hb dX6_bestSet_83 rfl (lv_at hl 0 rfl) ?_
              refine M_get hC hK hP 53 (by decide) (fM53 _ _) q1254 dX6_bestSet_84 ?_
              refine lv_iload_n hx hb dX6_bestSet_87 rfl (lv_at hl 3 rfl) ?_
              refine CI.callS hC hK hl (c_X6_lowest G l (nI s) (lowN s) (⟨hlo16, by rw [hasB_nI _ (by omega)]; exact hlo, fun i hi => by rw [hasB_nI _ (by omega)]; exact hlow i hi⟩)) trivial q1739 q1740 q116 q1741 mdX6_lowest (room_ok hRm rfl) rfl rfl dX6_bestSet_88 ?_
              refine W_top (y := (nI (lowN s))) rfl ?_
              refine M_ald hC hK hP 53 34 16 (lowN s) (aM53 _ _ _ _) (by decide) (rfl) (by omega) dX6_bestSet_91 ?_
              refine W_top (y := (g1 (lowN s))) rfl ?_
              refine W_top (y := ((evS (u.1 8) (everI (snS (u.1 9) (u.2.1 5) (u.2.1 6) (u.2.1 7) (u.2.1 4)))) (lowN s))) (h1e _ (by omega)) ?_
              refine lv_ior hx hb dX6_bestSet_92 ?_
              refine M_ast hC hK hD hP hS 54 35 65536 s (aM54 _ _ _ _) (bM54 _ _ _ _ _ _) (by decide) (rfl) (by omega) dX6_bestSet_93 (fun H locs hP hS => ?_)
              rw [mS_A] at hP
              refine lv_iinc (v := (nI (s + 1))) (lv' := [(3, .int (nI (s + 1))), (0, .ref o), (1, .int al), (2, .int (nI hs))]) hx hb dX6_bestSet_94 hl (k := 3) rfl (nI_inc s) (by decide) rfl (fun ls hl => ?_)
              refine lv_goto (tgt := 62) hx hb dX6_bestSet_97 (by decide) ?_
              exact ih62 (s + 1) (upd g2 s ((svS (evS (u.1 8) (everI (snS (u.1 9) (u.2.1 5) (u.2.1 6) (u.2.1 7) (u.2.1 4)))) (clrB s (lowN s))) ||| ((evS (u.1 8) (everI (snS (u.1 9) (u.2.1 5) (u.2.1 6) (u.2.1 7) (u.2.1 4)))) (lowN s)))) _ _ ls (by omega) (by first | omega | assumption | rfl | (simp_all; done) | grind) (by first | omega | assumption | rfl | (simp_all; done) | grind) (by intro i hi; by_cases e : i = s; (rw [e, upd_s]; exact (svS_low hs0 (show s < 2 ^ 16 by omega)).symm); (rw [upd_n _ e]; exact h2 i (by omega))) hP hS (lv_sub hl [1, 2, 3, 0] rfl)
        exact LP62 _ 1 ((mA (mS u 53 g1) 54 0 0).2.1 54) _ _ ls (Nat.lt_succ_self _) (by first | omega | assumption | rfl | (simp_all; done) | grind) (by first | omega | assumption | rfl | (simp_all; done) | grind) (by intro i hi; rw [show i = 0 by omega, svS_0]; rfl) hP hS (lv_sub hl [2, 3, 1, 0] rfl)
      · have c7 : ¬ (16 ≤ h) := mt (nI_leI (a := 16) (b := h) (by first | omega | (have := cntN_le s; have := cntN_le be; omega)) (by first | omega | (have := cntN_le s; have := cntN_le be; omega))).mpr c7
        refine lv_aload_n hx hb dX6_bestSet_10 rfl (lv_at hl 0 rfl) ?_
        refine M_get hC hK hP 53 (by decide) (fM53 _ _) q1254 dX6_bestSet_11 ?_
        refine lv_iload_n hx hb dX6_bestSet_14 rfl (lv_at hl 2 rfl) ?_
        refine lv_aload_n hx hb dX6_bestSet_15 rfl (lv_at hl 0 rfl) ?_
        refine lv_iload_n hx hb dX6_bestSet_16 rfl (lv_at hl 2 rfl) ?_
        refine CI.callV hC hK hl (c_X6_isHouse G l o R (mS u 53 g1) (nI h) ) hP (hP.recv hK) q1395 q1397 qs45 q116 q1398 mdX6_isHouse (room_ok hRm rfl) rfl rfl dX6_bestSet_17 ?_
        refine W_top (y := (bI (isHouseB (u.1 8) (nI h)))) rfl ?_
        refine lv_if_eq (tgt := 31) hx hb dX6_bestSet_20 (by decide) (fun c20 => ?_) (fun c20 => ?_)
        · have c20 : (isHouseB (u.1 8) (nI h)) = false := bI_0.mp c20
          refine lv_iconst (v := 0) hx hb dX6_bestSet_31 (by decide) ?_
          refine M_ast hC hK hD hP hS 53 34 16 h (aM53 _ _ _ _) (bM53 _ _ _ _ _ _) (by decide) (rfl) (by omega) dX6_bestSet_32 (fun H locs hP hS => ?_)
          rw [mS_A] at hP
          refine lv_iload_n hx hb dX6_bestSet_33 rfl (lv_at hl 1 rfl) ?_
          refine lv_aload_n hx hb dX6_bestSet_34 rfl (lv_at hl 0 rfl) ?_
          refine M_get hC hK hP 53 (by decide) (fM53 _ _) q1254 dX6_bestSet_35 ?_
          refine lv_iload_n hx hb dX6_bestSet_38 rfl (lv_at hl 2 rfl) ?_
          refine M_ald hC hK hP 53 34 16 h (aM53 _ _ _ _) (by decide) (rfl) (by omega) dX6_bestSet_39 ?_
          refine W_top (y := 0) (if_pos rfl) ?_
          refine lv_ior hx hb dX6_bestSet_40 ?_
          refine lv_istore_n (lv' := [(1, .int (al ||| 0)), (0, .ref o), (2, .int (nI h))]) hx hb dX6_bestSet_41 rfl hl (by decide) rfl (fun ls hl => ?_)
          refine lv_iinc (v := (nI (h + 1))) (lv' := [(2, .int (nI (h + 1))), (1, .int (al ||| 0)), (0, .ref o)]) hx hb dX6_bestSet_42 hl (k := 2) rfl (nI_inc h) (by decide) rfl (fun ls hl => ?_)
          refine lv_goto (tgt := 4) hx hb dX6_bestSet_45 (by decide) ?_
          exact ih4 (h + 1) (al ||| 0) (upd g1 h 0) _ _ ls (by omega) (by first | omega | assumption | rfl | (simp_all; done) | grind) (by rw [hal]; show _ = orI _ h ||| evS _ _ h; first | (rw [evS, if_pos c20]; rfl) | (rw [evS, if_neg (by rw [c20]; decide)])) (by intro i hi; by_cases e : i = h; (rw [e, upd_s]; first | (rw [evS, if_pos c20]; rfl) | (rw [evS, if_neg (by rw [c20]; decide)])); (rw [upd_n _ e]; exact h1 i (by omega))) hP hS (lv_sub hl [2, 1, 0] rfl)
        · have c20 : (isHouseB (u.1 8) (nI h)) = true := bI_1.mp c20
          refine lv_aload_n hx hb dX6_bestSet_23 rfl (lv_at hl 0 rfl) ?_
          refine lv_iload_n hx hb dX6_bestSet_24 rfl (lv_at hl 2 rfl) ?_
          refine CI.callV hC hK hl (c_X6_everSeenBy G l o R (mS u 53 g1) h (by first | assumption | omega | rfl | (simp_all; done))) hP (hP.recv hK) q1634 q1636 qs88 q116 q1637 mdX6_everSeenBy (room_ok hRm rfl) rfl rfl dX6_bestSet_25 ?_
          refine W_top (y := (everS (u.1 9) (u.2.1 5) (u.2.1 6) (u.2.1 7) ((u.2.1 4) h))) rfl ?_
          refine lv_goto (tgt := 32) hx hb dX6_bestSet_28 (by decide) ?_
          refine M_ast hC hK hD hP hS 53 34 16 h (aM53 _ _ _ _) (bM53 _ _ _ _ _ _) (by decide) (rfl) (by omega) dX6_bestSet_32 (fun H locs hP hS => ?_)
          rw [mS_A] at hP
          refine lv_iload_n hx hb dX6_bestSet_33 rfl (lv_at hl 1 rfl) ?_
          refine lv_aload_n hx hb dX6_bestSet_34 rfl (lv_at hl 0 rfl) ?_
          refine M_get hC hK hP 53 (by decide) (fM53 _ _) q1254 dX6_bestSet_35 ?_
          refine lv_iload_n hx hb dX6_bestSet_38 rfl (lv_at hl 2 rfl) ?_
          refine M_ald hC hK hP 53 34 16 h (aM53 _ _ _ _) (by decide) (rfl) (by omega) dX6_bestSet_39 ?_
          refine W_top (y := (everS (u.1 9) (u.2.1 5) (u.2.1 6) (u.2.1 7) ((u.2.1 4) h))) (if_pos rfl) ?_
          refine lv_ior hx hb dX6_bestSet_40 ?_
          refine lv_istore_n (lv' := [(1, .int (al ||| (everS (u.1 9) (u.2.1 5) (u.2.1 6) (u.2.1 7) ((u.2.1 4) h)))), (0, .ref o), (2, .int (nI h))]) hx hb dX6_bestSet_41 rfl hl (by decide) rfl (fun ls hl => ?_)
          refine lv_iinc (v := (nI (h + 1))) (lv' := [(2, .int (nI (h + 1))), (1, .int (al ||| (everS (u.1 9) (u.2.1 5) (u.2.1 6) (u.2.1 7) ((u.2.1 4) h)))), (0, .ref o)]) hx hb dX6_bestSet_42 hl (k := 2) rfl (nI_inc h) (by decide) rfl (fun ls hl => ?_)
          refine lv_goto (tgt := 4) hx hb dX6_bestSet_45 (by decide) ?_
          exact ih4 (h + 1) (al ||| (everS (u.1 9) (u.2.1 5) (u.2.1 6) (u.2.1 7) ((u.2.1 4) h))) (upd g1 h (everS (u.1 9) (u.2.1 5) (u.2.1 6) (u.2.1 7) ((u.2.1 4) h))) _ _ ls (by omega) (by first | omega | assumption | rfl | (simp_all; done) | grind) (by rw [hal]; show _ = orI _ h ||| evS _ _ h; first | (rw [evS, if_pos c20]; rfl) | (rw [evS, if_neg (by rw [c20]; decide)])) (by intro i hi; by_cases e : i = h; (rw [e, upd_s]; first | (rw [evS, if_pos c20]; rfl) | (rw [evS, if_neg (by rw [c20]; decide)])); (rw [upd_n _ e]; exact h1 i (by omega))) hP hS (lv_sub hl [2, 1, 0] rfl)
  exact LP4 _ 0 0 (u.2.1 53) _ _ ls (Nat.lt_succ_self _) (by first | omega | assumption | rfl | (simp_all; done) | grind) (rfl) (fun i hi => absurd hi (Nat.not_lt_zero i)) hP hS (lv_sub hl [2, 1, 0] rfl)
set_option maxHeartbeats 4000000 in
theorem c_X6_second (G : GG) (l : Launch) (o : Nat) (R : Nat → Nat) (u : MS) (k0 : Int32) (hs : Nat) (hhs : (u.1 8) = nI hs) (hhs2 : hs < 65536) (hD : DM o R) : CMi G l o R yX6_second cX6_second 3 .int 7 134 [.int k0] u (fun r w => ∃ g1 : Nat → Int32, ∃ g2 : Nat → Int32, r = (secondI hs (evS (u.1 8) (everI (snS (u.1 9) (u.2.1 5) (u.2.1 6) (u.2.1 7) (u.2.1 4)))) k0) ∧ w = (if inB k0 0 1 = true then mS (mS u 53 g1) 54 g2 else u)) := by
  refine CMi.mk pnX6 rfl (Nat.le_of_ble_eq_true rfl) (fun pg en Rm sg mm ar bw mth cd QQ ls hC hRm hK hP hS hl hq => ?_)
  have hx := hC.1; have hb := hC.2.1; have ho := hC.2.2.2.1; have hts := hC.2.2.2.2
  have hl : lv_has ls 3 [(0, .ref o), (1, .int k0)] := hl
  refine lv_iload_n hx hb dX6_second_0 rfl (lv_at hl 1 rfl) ?_
  refine lv_iconst (v := 0) hx hb dX6_second_1 (by decide) ?_
  refine lv_iconst (v := 1) hx hb dX6_second_2 (by decide) ?_
  refine CI.callS hC hK hl (c_X6_in G l k0 0 1 ) trivial q1392 q1393 q116 q1394 mdX6_in (room_ok hRm rfl) rfl rfl dX6_second_3 ?_
  refine lv_if_ne (tgt := 11) hx hb dX6_second_6 (by decide) (fun c6 => ?_) (fun c6 => ?_)
  · have c6 : (inB k0 0 1) = true := bI_1.mp c6
    refine lv_aload_n hx hb dX6_second_11 rfl (lv_at hl 0 rfl) ?_
    refine CMi.call hC hK hS (fun q h => h) hl (c_X6_bestSet G l o R u hs (by first | assumption | omega | rfl | (simp_all; done)) (by first | assumption | omega | rfl | (simp_all; done)) hD) hP rfl q1735 q1737 qs100 q116 q1738 mdX6_bestSet (room_ok hRm rfl) rfl rfl dX6_second_12 (fun r12 w12 H locs hpo hP _ _ hS => ?_)
    obtain ⟨g1_1, g2_2, er12, ew12⟩ := hpo
    rw [ew12] at hP
    refine W_top (y := (nI (bestN hs (evS (u.1 8) (everI (snS (u.1 9) (u.2.1 5) (u.2.1 6) (u.2.1 7) (u.2.1 4))))))) er12 ?_
    refine lv_istore_n (lv' := [(2, .int (nI (bestN hs (evS (u.1 8) (everI (snS (u.1 9) (u.2.1 5) (u.2.1 6) (u.2.1 7) (u.2.1 4))))))), (0, .ref o), (1, .int k0)]) hx hb dX6_second_15 rfl hl (by decide) rfl (fun ls hl => ?_)
    refine lv_iload_n hx hb dX6_second_16 rfl (lv_at hl 2 rfl) ?_
    refine lv_if_ne (tgt := 27) hx hb dX6_second_17 (by decide) (fun c17 => ?_) (fun c17 => ?_)
    · refine lv_iload_n hx hb dX6_second_27 rfl (lv_at hl 0 rfl) ?_
      exact hq _ _ _ _ _ _ dX6_second_28 hP hS (rfl) (by exact ⟨g1_1, g2_2, by rw [secondI, if_pos c6]; first | rw [if_pos c17] | rw [if_neg c17], by rw [if_pos c6]⟩)
    · refine lv_iload_n hx hb dX6_second_20 rfl (lv_at hl 0 rfl) ?_
      refine CI.callS hC hK hl (c_X6_bits G l (nI (bestN hs (evS (u.1 8) (everI (snS (u.1 9) (u.2.1 5) (u.2.1 6) (u.2.1 7) (u.2.1 4)))))) ) trivial q1580 q1581 q116 q1582 mdX6_bits (room_ok hRm rfl) rfl rfl dX6_second_21 ?_
      refine W_top (y := (nI (cntN (bestN hs (evS (u.1 8) (everI (snS (u.1 9) (u.2.1 5) (u.2.1 6) (u.2.1 7) (u.2.1 4)))))))) (bitsI_nI _) ?_
      refine lv_goto (tgt := 28) hx hb dX6_second_24 (by decide) ?_
      exact hq _ _ _ _ _ _ dX6_second_28 hP hS (rfl) (by exact ⟨g1_1, g2_2, by rw [secondI, if_pos c6]; first | rw [if_pos c17] | rw [if_neg c17], by rw [if_pos c6]⟩)
  · have c6 : (inB k0 0 1) = false := bI_0.mp c6
    refine lv_iconst (v := (-1)) hx hb dX6_second_9 (by decide) ?_
    exact hq _ _ _ _ _ _ dX6_second_10 hP hS (rfl) (by exact ⟨(u.2.1 53), (u.2.1 53), by first | (simp [secondI, if_neg, c6]; done), by first | (simp [if_neg, c6]; done)⟩)
