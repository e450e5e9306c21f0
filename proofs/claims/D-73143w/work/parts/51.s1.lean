set_option maxRecDepth 100000
set_option maxHeartbeats 4000000 in
theorem c_J2_floorMod (G : GG) (l : Launch) (x : Int32) : CIs G l yJ2_floorMod cJ2_floorMod 3 .int 2 24 [.int x, .int 12] (fun _ => True) (fmI x 12) := by
  refine CIs.mkF RJ2 (by decide +kernel) rfl (rfl) (Nat.le_of_ble_eq_true rfl) (fun pg en Rm sg mm ar bw mth cd QQ ls hC hRm hK hX hl hq => ?_)
  have hx := hC.1; have hb := hC.2.1; have ho := hC.2.2.2.1; have hts := hC.2.2.2.2
  have hl : lv_has ls 3 [(0, .int x), (1, .int 12)] := hl
  refine lv_iload_n hx hb dJ2_floorMod_0 rfl (lv_at hl 0 rfl) ?_
  refine lv_iload_n hx hb dJ2_floorMod_1 rfl (lv_at hl 1 rfl) ?_
  refine lv_irem hx hb dJ2_floorMod_2 (by decide) ?_
  refine lv_istore_n (lv' := [(2, .int (x - x / 12 * 12)), (0, .int x), (1, .int 12)]) hx hb dJ2_floorMod_3 rfl hl (by decide) rfl (fun ls hl => ?_)
  refine lv_iload_n hx hb dJ2_floorMod_4 rfl (lv_at hl 1 rfl) ?_
  refine lv_iload_n hx hb dJ2_floorMod_5 rfl (lv_at hl 2 rfl) ?_
  refine lv_ixor hx hb dJ2_floorMod_6 ?_
  refine lv_if_ge (tgt := 18) hx hb dJ2_floorMod_7 (by decide) (fun c7 => ?_) (fun c7 => ?_)
  · refine lv_iload_n hx hb dJ2_floorMod_18 rfl (lv_at hl 0 rfl) ?_
    exact hq _ _ _ dJ2_floorMod_19 (by simp only [fmI, remI]; grind)
  · refine lv_iload_n hx hb dJ2_floorMod_10 rfl (lv_at hl 0 rfl) ?_
    refine lv_if_eq (tgt := 18) hx hb dJ2_floorMod_11 (by decide) (fun c11 => ?_) (fun c11 => ?_)
    · refine lv_iload_n hx hb dJ2_floorMod_18 rfl (lv_at hl 0 rfl) ?_
      exact hq _ _ _ dJ2_floorMod_19 (by simp only [fmI, remI]; grind)
    · refine lv_iload_n hx hb dJ2_floorMod_14 rfl (lv_at hl 0 rfl) ?_
      refine lv_iload_n hx hb dJ2_floorMod_15 rfl (lv_at hl 2 rfl) ?_
      refine lv_iadd hx hb dJ2_floorMod_16 ?_
      exact hq _ _ _ dJ2_floorMod_17 (by simp only [fmI, remI]; grind)
set_option maxHeartbeats 4000000 in
theorem c_J6_bitCount (G : GG) (l : Launch) (x : Int32) (hx16 : sB x) : CIs G l yJ6_bitCount cJ6_bitCount 1 .int 2 24 [.int x] (fun _ => True) (bitsI x) := by
  refine CIs.mkF RJ6 (by decide +kernel) rfl (rfl) (Nat.le_of_ble_eq_true rfl) (fun pg en Rm sg mm ar bw mth cd QQ ls hC hRm hK hX hl hq => ?_)
  have hx := hC.1; have hb := hC.2.1; have ho := hC.2.2.2.1; have hts := hC.2.2.2.2
  have hl : lv_has ls 1 [(0, .int x)] := hl
  obtain ⟨n, hn, rfl⟩ : ∃ n, n < 65536 ∧ x = nI n := ⟨ix x, hx16.2, hx16.1⟩; obtain ⟨hb1, hb2, hb3, hb4, hb5⟩ := pa_b hn
  have hl : lv_has ls 1 [(0, .int (nI n))] := hl
  refine lv_iload_n hx hb dJ6_bitCount_0 rfl (lv_at hl 0 rfl) ?_
  refine lv_iload_n hx hb dJ6_bitCount_1 rfl (lv_at hl 0 rfl) ?_
  refine lv_iconst (v := 1) hx hb dJ6_bitCount_2 (by decide) ?_
  refine lv_iushr (v := (ushr (nI n) 1)) hx hb dJ6_bitCount_3 rfl ?_
  refine W_top (y := (nI (n / 2 ^ 1))) (pk_ushrN (by omega) 1 1 (by decide)) ?_
  refine lv_ldcw (own := RJ6) (v := 1431655765) hx hb ho (hts _ q908) dJ6_bitCount_4 ?_
  refine lv_iand hx hb dJ6_bitCount_7 ?_
  refine W_top (y := (nI (n / 2 ^ 1 &&& 1431655765))) (and_nI _ 1431655765) ?_
  refine lv_isub hx hb dJ6_bitCount_8 ?_
  refine W_top (y := (nI (pa1 n))) (pk_sub (by have := @Nat.and_le_left (n / 2 ^ 1) 1431655765; omega)) ?_
  refine lv_istore_n (lv' := [(0, .int (nI (pa1 n)))]) hx hb dJ6_bitCount_9 rfl hl (by decide) rfl (fun ls hl => ?_)
  refine lv_iload_n hx hb dJ6_bitCount_10 rfl (lv_at hl 0 rfl) ?_
  refine lv_ldcw (own := RJ6) (v := 858993459) hx hb ho (hts _ q909) dJ6_bitCount_11 ?_
  refine lv_iand hx hb dJ6_bitCount_14 ?_
  refine W_top (y := (nI (pa1 n &&& 858993459))) (and_nI _ 858993459) ?_
  refine lv_iload_n hx hb dJ6_bitCount_15 rfl (lv_at hl 0 rfl) ?_
  refine lv_iconst (v := 2) hx hb dJ6_bitCount_16 (by decide) ?_
  refine lv_iushr (v := (ushr (nI (pa1 n)) 2)) hx hb dJ6_bitCount_17 rfl ?_
  refine W_top (y := (nI (pa1 n / 2 ^ 2))) (pk_ushrN (by omega) 2 2 (by decide)) ?_
  refine lv_ldcw (own := RJ6) (v := 858993459) hx hb ho (hts _ q909) dJ6_bitCount_18 ?_
  refine lv_iand hx hb dJ6_bitCount_21 ?_
  refine W_top (y := (nI (pa1 n / 2 ^ 2 &&& 858993459))) (and_nI _ 858993459) ?_
  refine lv_iadd hx hb dJ6_bitCount_22 ?_
  refine W_top (y := (nI (pa2 n))) (nI_add _ _) ?_
  refine lv_istore_n (lv' := [(0, .int (nI (pa2 n)))]) hx hb dJ6_bitCount_23 rfl hl (by decide) rfl (fun ls hl => ?_)
  refine lv_iload_n hx hb dJ6_bitCount_24 rfl (lv_at hl 0 rfl) ?_
  refine lv_iload_n hx hb dJ6_bitCount_25 rfl (lv_at hl 0 rfl) ?_
  refine lv_iconst (v := 4) hx hb dJ6_bitCount_26 (by decide) ?_
  refine lv_iushr (v := (ushr (nI (pa2 n)) 4)) hx hb dJ6_bitCount_27 rfl ?_
  refine W_top (y := (nI (pa2 n / 2 ^ 4))) (pk_ushrN (by omega) 4 4 (by decide)) ?_
  refine lv_iadd hx hb dJ6_bitCount_28 ?_
  refine W_top (y := (nI (pa2 n + pa2 n / 2 ^ 4))) (nI_add _ _) ?_
  refine lv_ldcw (own := RJ6) (v := 252645135) hx hb ho (hts _ q910) dJ6_bitCount_29 ?_
  refine lv_iand hx hb dJ6_bitCount_32 ?_
  refine W_top (y := (nI (pa3 n))) (and_nI _ 252645135) ?_
  refine lv_istore_n (lv' := [(0, .int (nI (pa3 n)))]) hx hb dJ6_bitCount_33 rfl hl (by decide) rfl (fun ls hl => ?_)
  refine lv_iload_n hx hb dJ6_bitCount_34 rfl (lv_at hl 0 rfl) ?_
  refine lv_iload_n hx hb dJ6_bitCount_35 rfl (lv_at hl 0 rfl) ?_
  refine lv_bipush (v := 8) hx hb dJ6_bitCount_36 (by decide) ?_
  refine lv_iushr (v := (ushr (nI (pa3 n)) 8)) hx hb dJ6_bitCount_38 rfl ?_
  refine W_top (y := (nI (pa3 n / 2 ^ 8))) (pk_ushrN (by omega) 8 8 (by decide)) ?_
  refine lv_iadd hx hb dJ6_bitCount_39 ?_
  refine W_top (y := (nI (pa4 n))) (nI_add _ _) ?_
  refine lv_istore_n (lv' := [(0, .int (nI (pa4 n)))]) hx hb dJ6_bitCount_40 rfl hl (by decide) rfl (fun ls hl => ?_)
  refine lv_iload_n hx hb dJ6_bitCount_41 rfl (lv_at hl 0 rfl) ?_
  refine lv_iload_n hx hb dJ6_bitCount_42 rfl (lv_at hl 0 rfl) ?_
  refine lv_bipush (v := 16) hx hb dJ6_bitCount_43 (by decide) ?_
  refine lv_iushr (v := (ushr (nI (pa4 n)) 16)) hx hb dJ6_bitCount_45 rfl ?_
  refine W_top (y := (nI (pa4 n / 2 ^ 16))) (pk_ushrN (by omega) 16 16 (by decide)) ?_
  refine lv_iadd hx hb dJ6_bitCount_46 ?_
  refine W_top (y := (nI (pa5 n))) (nI_add _ _) ?_
  refine lv_istore_n (lv' := [(0, .int (nI (pa5 n)))]) hx hb dJ6_bitCount_47 rfl hl (by decide) rfl (fun ls hl => ?_)
  refine lv_iload_n hx hb dJ6_bitCount_48 rfl (lv_at hl 0 rfl) ?_
  refine lv_bipush (v := 63) hx hb dJ6_bitCount_49 (by decide) ?_
  refine lv_iand hx hb dJ6_bitCount_51 ?_
  refine W_top (y := (nI (pa5 n % 2 ^ 6))) (pk_andN (by omega) 6 (by decide)) ?_
  exact hq _ _ _ dJ6_bitCount_52 (by rw [pc_eq hn, bitsI_nI])
set_option maxHeartbeats 4000000 in
theorem c_J6_numberOfTrailingZeros (G : GG) (l : Launch) (s : Nat) (hs : s < 256) (hs0 : s ≠ 0) : CIs G l yJ6_numberOfTrailingZeros cJ6_numberOfTrailingZeros 2 .int 2 24 [.int (nI s)] (fun _ => True) (nI (lowN s)) := by
  refine CIs.mkF RJ6 (by decide +kernel) rfl (rfl) (Nat.le_of_ble_eq_true rfl) (fun pg en Rm sg mm ar bw mth cd QQ ls hC hRm hK hX hl hq => ?_)
  have hx := hC.1; have hb := hC.2.1; have ho := hC.2.2.2.1; have hts := hC.2.2.2.2
  have hl : lv_has ls 2 [(0, .int (nI s))] := hl
  obtain ⟨hk8, hnt⟩ := nt_eq s hs hs0
  refine lv_iload_n hx hb dJ6_numberOfTrailingZeros_0 rfl (lv_at hl 0 rfl) ?_
  refine lv_iconst (v := (-1)) hx hb dJ6_numberOfTrailingZeros_1 (by decide) ?_
  refine lv_ixor hx hb dJ6_numberOfTrailingZeros_2 ?_
  refine lv_iload_n hx hb dJ6_numberOfTrailingZeros_3 rfl (lv_at hl 0 rfl) ?_
  refine lv_iconst (v := 1) hx hb dJ6_numberOfTrailingZeros_4 (by decide) ?_
  refine lv_isub hx hb dJ6_numberOfTrailingZeros_5 ?_
  refine lv_iand hx hb dJ6_numberOfTrailingZeros_6 ?_
  refine W_top (y := (nI (2 ^ lowN s - 1))) (hnt) ?_
  refine lv_istore_n (lv' := [(0, .int (nI (2 ^ lowN s - 1)))]) hx hb dJ6_numberOfTrailingZeros_7 rfl hl (by decide) rfl (fun ls hl => ?_)
  rcases (show lowN s = 0 ∨ lowN s = 1 ∨ lowN s = 2 ∨ lowN s = 3 ∨ lowN s = 4 ∨ lowN s = 5 ∨ lowN s = 6 ∨ lowN s = 7 by omega) with hk | hk | hk | hk | hk | hk | hk | hk
  · have hl : lv_has ls 2 [(0, .int 0)] := by rw [show (0 : Int32) = nI (2 ^ lowN s - 1) by rw [hk]; rfl]; exact hl
    have hl : lv_has ls 2 [(0, .int 0)] := hl
    refine lv_iload_n hx hb dJ6_numberOfTrailingZeros_8 rfl (lv_at hl 0 rfl) ?_
    refine lv_if_gt (tgt := 17) hx hb dJ6_numberOfTrailingZeros_9 (by decide) (fun c9 => ?_) (fun c9 => ?_)
    · exact absurd c9 (by decide)
    · refine lv_iload_n hx hb dJ6_numberOfTrailingZeros_12 rfl (lv_at hl 0 rfl) ?_
      refine lv_bipush (v := 32) hx hb dJ6_numberOfTrailingZeros_13 (by decide) ?_
      refine lv_iand hx hb dJ6_numberOfTrailingZeros_15 ?_
      exact hq _ _ _ dJ6_numberOfTrailingZeros_16 (by rw [hk]; decide)
  · have hl : lv_has ls 2 [(0, .int 1)] := by rw [show (1 : Int32) = nI (2 ^ lowN s - 1) by rw [hk]; rfl]; exact hl
    have hl : lv_has ls 2 [(0, .int 1)] := hl
    refine lv_iload_n hx hb dJ6_numberOfTrailingZeros_8 rfl (lv_at hl 0 rfl) ?_
    refine lv_if_gt (tgt := 17) hx hb dJ6_numberOfTrailingZeros_9 (by decide) (fun c9 => ?_) (fun c9 => ?_)
    · refine lv_iconst (v := 1) hx hb dJ6_numberOfTrailingZeros_17 (by decide) ?_
      refine lv_istore_n (lv' := [(1, .int 1), (0, .int 1)]) hx hb dJ6_numberOfTrailingZeros_18 rfl hl (by decide) rfl (fun ls hl => ?_)
      refine lv_iload_n hx hb dJ6_numberOfTrailingZeros_19 rfl (lv_at hl 1 rfl) ?_
      refine lv_ldcw (own := RJ6) (v := 65536) hx hb ho (hts _ q1130) dJ6_numberOfTrailingZeros_20 ?_
      refine lv_icmp_le (tgt := 34) hx hb dJ6_numberOfTrailingZeros_23 (by decide) (fun c23 => ?_) (fun c23 => ?_)
      · refine lv_iload_n hx hb dJ6_numberOfTrailingZeros_34 rfl (lv_at hl 1 rfl) ?_
        refine lv_sipush (v := 256) hx hb dJ6_numberOfTrailingZeros_35 (by decide) ?_
        refine lv_icmp_le (tgt := 49) hx hb dJ6_numberOfTrailingZeros_38 (by decide) (fun c38 => ?_) (fun c38 => ?_)
        · refine lv_iload_n hx hb dJ6_numberOfTrailingZeros_49 rfl (lv_at hl 1 rfl) ?_
          refine lv_bipush (v := 16) hx hb dJ6_numberOfTrailingZeros_50 (by decide) ?_
          refine lv_icmp_le (tgt := 62) hx hb dJ6_numberOfTrailingZeros_52 (by decide) (fun c52 => ?_) (fun c52 => ?_)
          · refine lv_iload_n hx hb dJ6_numberOfTrailingZeros_62 rfl (lv_at hl 1 rfl) ?_
            refine lv_iconst (v := 4) hx hb dJ6_numberOfTrailingZeros_63 (by decide) ?_
            refine lv_icmp_le (tgt := 74) hx hb dJ6_numberOfTrailingZeros_64 (by decide) (fun c64 => ?_) (fun c64 => ?_)
            · refine lv_iload_n hx hb dJ6_numberOfTrailingZeros_74 rfl (lv_at hl 0 rfl) ?_
              refine lv_iload_n hx hb dJ6_numberOfTrailingZeros_75 rfl (lv_at hl 1 rfl) ?_
              refine lv_iconst (v := 1) hx hb dJ6_numberOfTrailingZeros_76 (by decide) ?_
              refine lv_iushr (v := (ushr 1 1)) hx hb dJ6_numberOfTrailingZeros_77 rfl ?_
              refine W_top (y := 0) (by decide) ?_
              refine lv_iadd hx hb dJ6_numberOfTrailingZeros_78 ?_
              refine W_top (y := 1) (by decide) ?_
              exact hq _ _ _ dJ6_numberOfTrailingZeros_79 (by rw [hk]; decide)
            · exact absurd c64 (by decide)
          · exact absurd c52 (by decide)
        · exact absurd c38 (by decide)
      · exact absurd c23 (by decide)
    · exact absurd c9 (by decide)
  · have hl : lv_has ls 2 [(0, .int 3)] := by rw [show (3 : Int32) = nI (2 ^ lowN s - 1) by rw [hk]; rfl]; exact hl
    have hl : lv_has ls 2 [(0, .int 3)] := hl
    refine lv_iload_n hx hb dJ6_numberOfTrailingZeros_8 rfl (lv_at hl 0 rfl) ?_
    refine lv_if_gt (tgt := 17) hx hb dJ6_numberOfTrailingZeros_9 (by decide) (fun c9 => ?_) (fun c9 => ?_)
    · refine lv_iconst (v := 1) hx hb dJ6_numberOfTrailingZeros_17 (by decide) ?_
      refine lv_istore_n (lv' := [(1, .int 1), (0, .int 3)]) hx hb dJ6_numberOfTrailingZeros_18 rfl hl (by decide) rfl (fun ls hl => ?_)
      refine lv_iload_n hx hb dJ6_numberOfTrailingZeros_19 rfl (lv_at hl 1 rfl) ?_
      refine lv_ldcw (own := RJ6) (v := 65536) hx hb ho (hts _ q1130) dJ6_numberOfTrailingZeros_20 ?_
      refine lv_icmp_le (tgt := 34) hx hb dJ6_numberOfTrailingZeros_23 (by decide) (fun c23 => ?_) (fun c23 => ?_)
      · refine lv_iload_n hx hb dJ6_numberOfTrailingZeros_34 rfl (lv_at hl 1 rfl) ?_
        refine lv_sipush (v := 256) hx hb dJ6_numberOfTrailingZeros_35 (by decide) ?_
        refine lv_icmp_le (tgt := 49) hx hb dJ6_numberOfTrailingZeros_38 (by decide) (fun c38 => ?_) (fun c38 => ?_)
        · refine lv_iload_n hx hb dJ6_numberOfTrailingZeros_49 rfl (lv_at hl 1 rfl) ?_
          refine lv_bipush (v := 16) hx hb dJ6_numberOfTrailingZeros_50 (by decide) ?_
          refine lv_icmp_le (tgt := 62) hx hb dJ6_numberOfTrailingZeros_52 (by decide) (fun c52 => ?_) (fun c52 => ?_)
          · refine lv_iload_n hx hb dJ6_numberOfTrailingZeros_62 rfl (lv_at hl 1 rfl) ?_
            refine lv_iconst (v := 4) hx hb dJ6_numberOfTrailingZeros_63 (by decide) ?_
            refine lv_icmp_le (tgt := 74) hx hb dJ6_numberOfTrailingZeros_64 (by decide) (fun c64 => ?_) (fun c64 => ?_)
            · refine lv_iload_n hx hb dJ6_numberOfTrailingZeros_74 rfl (lv_at hl 0 rfl) ?_
              refine lv_iload_n hx hb dJ6_numberOfTrailingZeros_75 rfl (lv_at hl 1 rfl) ?_
              refine lv_iconst (v := 1) hx hb dJ6_numberOfTrailingZeros_76 (by decide) ?_
              refine lv_iushr (v := (ushr 3 1)) hx hb dJ6_numberOfTrailingZeros_77 rfl ?_
              refine W_top (y := 1) (by decide) ?_
              refine lv_iadd hx hb dJ6_numberOfTrailingZeros_78 ?_
              refine W_top (y := 2) (by decide) ?_
              exact hq _ _ _ dJ6_numberOfTrailingZeros_79 (by rw [hk]; decide)
            · exact absurd c64 (by decide)
          · exact absurd c52 (by decide)
        · exact absurd c38 (by decide)
      · exact absurd c23 (by decide)
    · exact absurd c9 (by decide)
  · have hl : lv_has ls 2 [(0, .int 7)] := by rw [show (7 : Int32) = nI (2 ^ lowN s - 1) by rw [hk]; rfl]; exact hl
    have hl : lv_has ls 2 [(0, .int 7)] := hl
    refine lv_iload_n hx hb dJ6_numberOfTrailingZeros_8 rfl (lv_at hl 0 rfl) ?_
    refine lv_if_gt (tgt := 17) hx hb dJ6_numberOfTrailingZeros_9 (by decide) (fun c9 => ?_) (fun c9 => ?_)
    · refine lv_iconst (v := 1) hx hb dJ6_numberOfTrailingZeros_17 (by decide) ?_
      refine lv_istore_n (lv' := [(1, .int 1), (0, .int 7)]) hx hb dJ6_numberOfTrailingZeros_18 rfl hl (by decide) rfl (fun ls hl => ?_)
      refine lv_iload_n hx hb dJ6_numberOfTrailingZeros_19 rfl (lv_at hl 1 rfl) ?_
      refine lv_ldcw (own := RJ6) (v := 65536) hx hb ho (hts _ q1130) dJ6_numberOfTrailingZeros_20 ?_
      refine lv_icmp_le (tgt := 34) hx hb dJ6_numberOfTrailingZeros_23 (by decide) (fun c23 => ?_) (fun c23 => ?_)
      · refine lv_iload_n hx hb dJ6_numberOfTrailingZeros_34 rfl (lv_at hl 1 rfl) ?_
        refine lv_sipush (v := 256) hx hb dJ6_numberOfTrailingZeros_35 (by decide) ?_
        refine lv_icmp_le (tgt := 49) hx hb dJ6_numberOfTrailingZeros_38 (by decide) (fun c38 => ?_) (fun c38 => ?_)
        · refine lv_iload_n hx hb dJ6_numberOfTrailingZeros_49 rfl (lv_at hl 1 rfl) ?_
          refine lv_bipush (v := 16) hx hb dJ6_numberOfTrailingZeros_50 (by decide) ?_
          refine lv_icmp_le (tgt := 62) hx hb dJ6_numberOfTrailingZeros_52 (by decide) (fun c52 => ?_) (fun c52 => ?_)
          · refine lv_iload_n hx hb dJ6_numberOfTrailingZeros_62 rfl (lv_at hl 1 rfl) ?_
            refine lv_iconst (v := 4) hx hb dJ6_numberOfTrailingZeros_63 (by decide) ?_
            refine lv_icmp_le (tgt := 74) hx hb dJ6_numberOfTrailingZeros_64 (by decide) (fun c64 => ?_) (fun c64 => ?_)
            · exact absurd c64 (by decide)
            · refine lv_iinc (v := 3) (lv' := [(1, .int 3), (0, .int 7)]) hx hb dJ6_numberOfTrailingZeros_67 hl (k := 0) rfl (by decide) (by decide) rfl (fun ls hl => ?_)
              refine lv_iload_n hx hb dJ6_numberOfTrailingZeros_70 rfl (lv_at hl 1 rfl) ?_
              refine lv_iconst (v := 2) hx hb dJ6_numberOfTrailingZeros_71 (by decide) ?_
              refine lv_iushr (v := (ushr 7 2)) hx hb dJ6_numberOfTrailingZeros_72 rfl ?_
              refine W_top (y := 1) (by decide) ?_
              refine lv_istore_n (lv' := [(0, .int 1), (1, .int 3)]) hx hb dJ6_numberOfTrailingZeros_73 rfl hl (by decide) rfl (fun ls hl => ?_)
              refine lv_iload_n hx hb dJ6_numberOfTrailingZeros_74 rfl (lv_at hl 1 rfl) ?_
              refine lv_iload_n hx hb dJ6_numberOfTrailingZeros_75 rfl (lv_at hl 0 rfl) ?_
              refine lv_iconst (v := 1) hx hb dJ6_numberOfTrailingZeros_76 (by decide) ?_
              refine lv_iushr (v := (ushr 1 1)) hx hb dJ6_numberOfTrailingZeros_77 rfl ?_
              refine W_top (y := 0) (by decide) ?_
              refine lv_iadd hx hb dJ6_numberOfTrailingZeros_78 ?_
              refine W_top (y := 3) (by decide) ?_
              exact hq _ _ _ dJ6_numberOfTrailingZeros_79 (by rw [hk]; decide)
          · exact absurd c52 (by decide)
        · exact absurd c38 (by decide)
      · exact absurd c23 (by decide)
    · exact absurd c9 (by decide)
  · have hl : lv_has ls 2 [(0, .int 15)] := by rw [show (15 : Int32) = nI (2 ^ lowN s - 1) by rw [hk]; rfl]; exact hl
    have hl : lv_has ls 2 [(0, .int 15)] := hl
    refine lv_iload_n hx hb dJ6_numberOfTrailingZeros_8 rfl (lv_at hl 0 rfl) ?_
    refine lv_if_gt (tgt := 17) hx hb dJ6_numberOfTrailingZeros_9 (by decide) (fun c9 => ?_) (fun c9 => ?_)
    · refine lv_iconst (v := 1) hx hb dJ6_numberOfTrailingZeros_17 (by decide) ?_
      refine lv_istore_n (lv' := [(1, .int 1), (0, .int 15)]) hx hb dJ6_numberOfTrailingZeros_18 rfl hl (by decide) rfl (fun ls hl => ?_)
      refine lv_iload_n hx hb dJ6_numberOfTrailingZeros_19 rfl (lv_at hl 1 rfl) ?_
      refine lv_ldcw (own := RJ6) (v := 65536) hx hb ho (hts _ q1130) dJ6_numberOfTrailingZeros_20 ?_
      refine lv_icmp_le (tgt := 34) hx hb dJ6_numberOfTrailingZeros_23 (by decide) (fun c23 => ?_) (fun c23 => ?_)
      · refine lv_iload_n hx hb dJ6_numberOfTrailingZeros_34 rfl (lv_at hl 1 rfl) ?_
        refine lv_sipush (v := 256) hx hb dJ6_numberOfTrailingZeros_35 (by decide) ?_
        refine lv_icmp_le (tgt := 49) hx hb dJ6_numberOfTrailingZeros_38 (by decide) (fun c38 => ?_) (fun c38 => ?_)
        · refine lv_iload_n hx hb dJ6_numberOfTrailingZeros_49 rfl (lv_at hl 1 rfl) ?_
          refine lv_bipush (v := 16) hx hb dJ6_numberOfTrailingZeros_50 (by decide) ?_
          refine lv_icmp_le (tgt := 62) hx hb dJ6_numberOfTrailingZeros_52 (by decide) (fun c52 => ?_) (fun c52 => ?_)
          · refine lv_iload_n hx hb dJ6_numberOfTrailingZeros_62 rfl (lv_at hl 1 rfl) ?_
            refine lv_iconst (v := 4) hx hb dJ6_numberOfTrailingZeros_63 (by decide) ?_
            refine lv_icmp_le (tgt := 74) hx hb dJ6_numberOfTrailingZeros_64 (by decide) (fun c64 => ?_) (fun c64 => ?_)
            · exact absurd c64 (by decide)
            · refine lv_iinc (v := 3) (lv' := [(1, .int 3), (0, .int 15)]) hx hb dJ6_numberOfTrailingZeros_67 hl (k := 0) rfl (by decide) (by decide) rfl (fun ls hl => ?_)
              refine lv_iload_n hx hb dJ6_numberOfTrailingZeros_70 rfl (lv_at hl 1 rfl) ?_
              refine lv_iconst (v := 2) hx hb dJ6_numberOfTrailingZeros_71 (by decide) ?_
              refine lv_iushr (v := (ushr 15 2)) hx hb dJ6_numberOfTrailingZeros_72 rfl ?_
              refine W_top (y := 3) (by decide) ?_
              refine lv_istore_n (lv' := [(0, .int 3), (1, .int 3)]) hx hb dJ6_numberOfTrailingZeros_73 rfl hl (by decide) rfl (fun ls hl => ?_)
              refine lv_iload_n hx hb dJ6_numberOfTrailingZeros_74 rfl (lv_at hl 1 rfl) ?_
              refine lv_iload_n hx hb dJ6_numberOfTrailingZeros_75 rfl (lv_at hl 0 rfl) ?_
              refine lv_iconst (v := 1) hx hb dJ6_numberOfTrailingZeros_76 (by decide) ?_
              refine lv_iushr (v := (ushr 3 1)) hx hb dJ6_numberOfTrailingZeros_77 rfl ?_
              refine W_top (y := 1) (by decide) ?_
              refine lv_iadd hx hb dJ6_numberOfTrailingZeros_78 ?_
              refine W_top (y := 4) (by decide) ?_
              exact hq _ _ _ dJ6_numberOfTrailingZeros_79 (by rw [hk]; decide)
          · exact absurd c52 (by decide)
        · exact absurd c38 (by decide)
      · exact absurd c23 (by decide)
    · exact absurd c9 (by decide)
  · have hl : lv_has ls 2 [(0, .int 31)] := by rw [show (31 : Int32) = nI (2 ^ lowN s - 1) by rw [hk]; rfl]; exact hl
    have hl : lv_has ls 2 [(0, .int 31)] := hl
    refine lv_iload_n hx hb dJ6_numberOfTrailingZeros_8 rfl (lv_at hl 0 rfl) ?_
    refine lv_if_gt (tgt := 17) hx hb dJ6_numberOfTrailingZeros_9 (by decide) (fun c9 => ?_) (fun c9 => ?_)
    · refine lv_iconst (v := 1) hx hb dJ6_numberOfTrailingZeros_17 (by decide) ?_
      refine lv_istore_n (lv' := [(1, .int 1), (0, .int 31)]) hx hb dJ6_numberOfTrailingZeros_18 rfl hl (by decide) rfl (fun ls hl => ?_)
      refine lv_iload_n hx hb dJ6_numberOfTrailingZeros_19 rfl (lv_at hl 1 rfl) ?_
      refine lv_ldcw (own := RJ6) (v := 65536) hx hb ho (hts _ q1130) dJ6_numberOfTrailingZeros_20 ?_
      refine lv_icmp_le (tgt := 34) hx hb dJ6_numberOfTrailingZeros_23 (by decide) (fun c23 => ?_) (fun c23 => ?_)
      · refine lv_iload_n hx hb dJ6_numberOfTrailingZeros_34 rfl (lv_at hl 1 rfl) ?_
        refine lv_sipush (v := 256) hx hb dJ6_numberOfTrailingZeros_35 (by decide) ?_
        refine lv_icmp_le (tgt := 49) hx hb dJ6_numberOfTrailingZeros_38 (by decide) (fun c38 => ?_) (fun c38 => ?_)
        · refine lv_iload_n hx hb dJ6_numberOfTrailingZeros_49 rfl (lv_at hl 1 rfl) ?_
          refine lv_bipush (v := 16) hx hb dJ6_numberOfTrailingZeros_50 (by decide) ?_
          refine lv_icmp_le (tgt := 62) hx hb dJ6_numberOfTrailingZeros_52 (by decide) (fun c52 => ?_) (fun c52 => ?_)
          · exact absurd c52 (by decide)
          · refine lv_iinc (v := 5) (lv' := [(1, .int 5), (0, .int 31)]) hx hb dJ6_numberOfTrailingZeros_55 hl (k := 0) rfl (by decide) (by decide) rfl (fun ls hl => ?_)
            refine lv_iload_n hx hb dJ6_numberOfTrailingZeros_58 rfl (lv_at hl 1 rfl) ?_
            refine lv_iconst (v := 4) hx hb dJ6_numberOfTrailingZeros_59 (by decide) ?_
            refine lv_iushr (v := (ushr 31 4)) hx hb dJ6_numberOfTrailingZeros_60 rfl ?_
            refine W_top (y := 1) (by decide) ?_
            refine lv_istore_n (lv' := [(0, .int 1), (1, .int 5)]) hx hb dJ6_numberOfTrailingZeros_61 rfl hl (by decide) rfl (fun ls hl => ?_)
            refine lv_iload_n hx hb dJ6_numberOfTrailingZeros_62 rfl (lv_at hl 0 rfl) ?_
            refine lv_iconst (v := 4) hx hb dJ6_numberOfTrailingZeros_63 (by decide) ?_
            refine lv_icmp_le (tgt := 74) hx hb dJ6_numberOfTrailingZeros_64 (by decide) (fun c64 => ?_) (fun c64 => ?_)
            · refine lv_iload_n hx hb dJ6_numberOfTrailingZeros_74 rfl (lv_at hl 1 rfl) ?_
              refine lv_iload_n hx hb dJ6_numberOfTrailingZeros_75 rfl (lv_at hl 0 rfl) ?_
              refine lv_iconst (v := 1) hx hb dJ6_numberOfTrailingZeros_76 (by decide) ?_
              refine lv_iushr (v := (ushr 1 1)) hx hb dJ6_numberOfTrailingZeros_77 rfl ?_
              refine W_top (y := 0) (by decide) ?_
              refine lv_iadd hx hb dJ6_numberOfTrailingZeros_78 ?_
              refine W_top (y := 5) (by decide) ?_
              exact hq _ _ _ dJ6_numberOfTrailingZeros_79 (by rw [hk]; decide)
            · exact absurd c64 (by decide)
        · exact absurd c38 (by decide)
      · exact absurd c23 (by decide)
    · exact absurd c9 (by decide)
  · have hl : lv_has ls 2 [(0, .int 63)] := by rw [show (63 : Int32) = nI (2 ^ lowN s - 1) by rw [hk]; rfl]; exact hl
    have hl : lv_has ls 2 [(0, .int 63)] := hl
    refine lv_iload_n hx hb dJ6_numberOfTrailingZeros_8 rfl (lv_at hl 0 rfl) ?_
    refine lv_if_gt (tgt := 17) hx hb dJ6_numberOfTrailingZeros_9 (by decide) (fun c9 => ?_) (fun c9 => ?_)
    · refine lv_iconst (v := 1) hx hb dJ6_numberOfTrailingZeros_17 (by decide) ?_
      refine lv_istore_n (lv' := [(1, .int 1), (0, .int 63)]) hx hb dJ6_numberOfTrailingZeros_18 rfl hl (by decide) rfl (fun ls hl => ?_)
      refine lv_iload_n hx hb dJ6_numberOfTrailingZeros_19 rfl (lv_at hl 1 rfl) ?_
      refine lv_ldcw (own := RJ6) (v := 65536) hx hb ho (hts _ q1130) dJ6_numberOfTrailingZeros_20 ?_
      refine lv_icmp_le (tgt := 34) hx hb dJ6_numberOfTrailingZeros_23 (by decide) (fun c23 => ?_) (fun c23 => ?_)
      · refine lv_iload_n hx hb dJ6_numberOfTrailingZeros_34 rfl (lv_at hl 1 rfl) ?_
        refine lv_sipush (v := 256) hx hb dJ6_numberOfTrailingZeros_35 (by decide) ?_
        refine lv_icmp_le (tgt := 49) hx hb dJ6_numberOfTrailingZeros_38 (by decide) (fun c38 => ?_) (fun c38 => ?_)
        · refine lv_iload_n hx hb dJ6_numberOfTrailingZeros_49 rfl (lv_at hl 1 rfl) ?_
          refine lv_bipush (v := 16) hx hb dJ6_numberOfTrailingZeros_50 (by decide) ?_
          refine lv_icmp_le (tgt := 62) hx hb dJ6_numberOfTrailingZeros_52 (by decide) (fun c52 => ?_) (fun c52 => ?_)
          · exact absurd c52 (by decide)
          · refine lv_iinc (v := 5) (lv' := [(1, .int 5), (0, .int 63)]) hx hb dJ6_numberOfTrailingZeros_55 hl (k := 0) rfl (by decide) (by decide) rfl (fun ls hl => ?_)
            refine lv_iload_n hx hb dJ6_numberOfTrailingZeros_58 rfl (lv_at hl 1 rfl) ?_
            refine lv_iconst (v := 4) hx hb dJ6_numberOfTrailingZeros_59 (by decide) ?_
            refine lv_iushr (v := (ushr 63 4)) hx hb dJ6_numberOfTrailingZeros_60 rfl ?_
            refine W_top (y := 3) (by decide) ?_
            refine lv_istore_n (lv' := [(0, .int 3), (1, .int 5)]) hx hb dJ6_numberOfTrailingZeros_61 rfl hl (by decide) rfl (fun ls hl => ?_)
            refine lv_iload_n hx hb dJ6_numberOfTrailingZeros_62 rfl (lv_at hl 0 rfl) ?_
            refine lv_iconst (v := 4) hx hb dJ6_numberOfTrailingZeros_63 (by decide) ?_
            refine lv_icmp_le (tgt := 74) hx hb dJ6_numberOfTrailingZeros_64 (by decide) (fun c64 => ?_) (fun c64 => ?_)
            · refine lv_iload_n hx hb dJ6_numberOfTrailingZeros_74 rfl (lv_at hl 1 rfl) ?_
              refine lv_iload_n hx hb dJ6_numberOfTrailingZeros_75 rfl (lv_at hl 0 rfl) ?_
              refine lv_iconst (v := 1) hx hb dJ6_numberOfTrailingZeros_76 (by decide) ?_
              refine lv_iushr (v := (ushr 3 1)) hx hb dJ6_numberOfTrailingZeros_77 rfl ?_
              refine W_top (y := 1) (by decide) ?_
              refine lv_iadd hx hb dJ6_numberOfTrailingZeros_78 ?_
              refine W_top (y := 6) (by decide) ?_
              exact hq _ _ _ dJ6_numberOfTrailingZeros_79 (by rw [hk]; decide)
            · exact absurd c64 (by decide)
        · exact absurd c38 (by decide)
      · exact absurd c23 (by decide)
    · exact absurd c9 (by decide)
  · have hl : lv_has ls 2 [(0, .int 127)] := by rw [show (127 : Int32) = nI (2 ^ lowN s - 1) by rw [hk]; rfl]; exact hl
    have hl : lv_has ls 2 [(0, .int 127)] := hl
    refine lv_iload_n hx hb dJ6_numberOfTrailingZeros_8 rfl (lv_at hl 0 rfl) ?_
    refine lv_if_gt (tgt := 17) hx hb dJ6_numberOfTrailingZeros_9 (by decide) (fun c9 => ?_) (fun c9 => ?_)
    · refine lv_iconst (v := 1) hx hb dJ6_numberOfTrailingZeros_17 (by decide) ?_
      refine lv_istore_n (lv' := [(1, .int 1), (0, .int 127)]) hx hb dJ6_numberOfTrailingZeros_18 rfl hl (by decide) rfl (fun ls hl => ?_)
      refine lv_iload_n hx hb dJ6_numberOfTrailingZeros_19 rfl (lv_at hl 1 rfl) ?_
      refine lv_ldcw (own := RJ6) (v := 65536) hx hb ho (hts _ q1130) dJ6_numberOfTrailingZeros_20 ?_
      refine lv_icmp_le (tgt := 34) hx hb dJ6_numberOfTrailingZeros_23 (by decide) (fun c23 => ?_) (fun c23 => ?_)
      · refine lv_iload_n hx hb dJ6_numberOfTrailingZeros_34 rfl (lv_at hl 1 rfl) ?_
        refine lv_sipush (v := 256) hx hb dJ6_numberOfTrailingZeros_35 (by decide) ?_
        refine lv_icmp_le (tgt := 49) hx hb dJ6_numberOfTrailingZeros_38 (by decide) (fun c38 => ?_) (fun c38 => ?_)
        · refine lv_iload_n hx hb dJ6_numberOfTrailingZeros_49 rfl (lv_at hl 1 rfl) ?_
          refine lv_bipush (v := 16) hx hb dJ6_numberOfTrailingZeros_50 (by decide) ?_
          refine lv_icmp_le (tgt := 62) hx hb dJ6_numberOfTrailingZeros_52 (by decide) (fun c52 => ?_) (fun c52 => ?_)
          · exact absurd c52 (by decide)
          · refine lv_iinc (v := 5) (lv' := [(1, .int 5), (0, .int 127)]) hx hb dJ6_numberOfTrailingZeros_55 hl (k := 0) rfl (by decide) (by decide) rfl (fun ls hl => ?_)
            refine lv_iload_n hx hb dJ6_numberOfTrailingZeros_58 rfl (lv_at hl 1 rfl) ?_
            refine lv_iconst (v := 4) hx hb dJ6_numberOfTrailingZeros_59 (by decide) ?_
            refine lv_iushr (v := (ushr 127 4)) hx hb dJ6_numberOfTrailingZeros_60 rfl ?_
            refine W_top (y := 7) (by decide) ?_
            refine lv_istore_n (lv' := [(0, .int 7), (1, .int 5)]) hx hb dJ6_numberOfTrailingZeros_61 rfl hl (by decide) rfl (fun ls hl => ?_)
            refine lv_iload_n hx hb dJ6_numberOfTrailingZeros_62 rfl (lv_at hl 0 rfl) ?_
            refine lv_iconst (v := 4) hx hb dJ6_numberOfTrailingZeros_63 (by decide) ?_
            refine lv_icmp_le (tgt := 74) hx hb dJ6_numberOfTrailingZeros_64 (by decide) (fun c64 => ?_) (fun c64 => ?_)
            · exact absurd c64 (by decide)
            · refine lv_iinc (v := 7) (lv' := [(1, .int 7), (0, .int 7)]) hx hb dJ6_numberOfTrailingZeros_67 hl (k := 1) rfl (by decide) (by decide) rfl (fun ls hl => ?_)
              refine lv_iload_n hx hb dJ6_numberOfTrailingZeros_70 rfl (lv_at hl 1 rfl) ?_
              refine lv_iconst (v := 2) hx hb dJ6_numberOfTrailingZeros_71 (by decide) ?_
              refine lv_iushr (v := (ushr 7 2)) hx hb dJ6_numberOfTrailingZeros_72 rfl ?_
              refine W_top (y := 1) (by decide) ?_
              refine lv_istore_n (lv' := [(0, .int 1), (1, .int 7)]) hx hb dJ6_numberOfTrailingZeros_73 rfl hl (by decide) rfl (fun ls hl => ?_)
              refine lv_iload_n hx hb dJ6_numberOfTrailingZeros_74 rfl (lv_at hl 1 rfl) ?_
              refine lv_iload_n hx hb dJ6_numberOfTrailingZeros_75 rfl (lv_at hl 0 rfl) ?_
              refine lv_iconst (v := 1) hx hb dJ6_numberOfTrailingZeros_76 (by decide) ?_
              refine lv_iushr (v := (ushr 1 1)) hx hb dJ6_numberOfTrailingZeros_77 rfl ?_
              refine W_top (y := 0) (by decide) ?_
              refine lv_iadd hx hb dJ6_numberOfTrailingZeros_78 ?_
              refine W_top (y := 7) (by decide) ?_
              exact hq _ _ _ dJ6_numberOfTrailingZeros_79 (by rw [hk]; decide)
        · exact absurd c38 (by decide)
      · exact absurd c23 (by decide)
    · exact absurd c9 (by decide)
set_option maxHeartbeats 4000000 in
theorem c_X0_in (G : GG) (l : Launch) (v : Int32) (n : Int32) (m : Int32) (hm : n.toInt = m.toInt + 1) : CIs G l yX0_in cX0_in 2 .boolean 2 24 [.int v, .int n] (fun _ => True) (bI (inB v 0 m)) := by
  refine CIs.mk RX0 pnX0 rfl (bI_nar _) (Nat.le_of_ble_eq_true rfl) (fun pg en Rm sg mm ar bw mth cd QQ ls hC hRm hK hX hl hq => ?_)
  have hx := hC.1; have hb := hC.2.1; have ho := hC.2.2.2.1; have hts := hC.2.2.2.2
  have hl : lv_has ls 2 [(0, .int v), (1, .int n)] := hl
  refine lv_iload_n hx hb dX0_in_0 rfl (lv_at hl 0 rfl) ?_
  refine lv_if_lt (tgt := 13) hx hb dX0_in_1 (by decide) (fun c1 => ?_) (fun c1 => ?_)
  · refine lv_iconst (v := 0) hx hb dX0_in_13 (by decide) ?_
    exact hq _ _ _ dX0_in_14 (by rw [← inL_c hm]; grind [inL, bI])
  · refine lv_iload_n hx hb dX0_in_4 rfl (lv_at hl 0 rfl) ?_
    refine lv_iload_n hx hb dX0_in_5 rfl (lv_at hl 1 rfl) ?_
    refine lv_icmp_ge (tgt := 13) hx hb dX0_in_6 (by decide) (fun c6 => ?_) (fun c6 => ?_)
    · refine lv_iconst (v := 0) hx hb dX0_in_13 (by decide) ?_
      exact hq _ _ _ dX0_in_14 (by rw [← inL_c hm]; grind [inL, bI])
    · refine lv_iconst (v := 1) hx hb dX0_in_9 (by decide) ?_
      refine lv_goto (tgt := 14) hx hb dX0_in_10 (by decide) ?_
      exact hq _ _ _ dX0_in_14 (by rw [← inL_c hm]; grind [inL, bI])
set_option maxHeartbeats 4000000 in
theorem c_X0_within (G : GG) (l : Launch) (v : Int32) (a : Int32) (b : Int32) : CIs G l yX0_within cX0_within 3 .boolean 2 24 [.int v, .int a, .int b] (fun _ => True) (bI (inB v a b)) := by
  refine CIs.mk RX0 pnX0 rfl (bI_nar _) (Nat.le_of_ble_eq_true rfl) (fun pg en Rm sg mm ar bw mth cd QQ ls hC hRm hK hX hl hq => ?_)
  have hx := hC.1; have hb := hC.2.1; have ho := hC.2.2.2.1; have hts := hC.2.2.2.2
  have hl : lv_has ls 3 [(0, .int v), (1, .int a), (2, .int b)] := hl
  refine lv_iload_n hx hb dX0_within_0 rfl (lv_at hl 0 rfl) ?_
  refine lv_iload_n hx hb dX0_within_1 rfl (lv_at hl 1 rfl) ?_
  refine lv_icmp_lt (tgt := 14) hx hb dX0_within_2 (by decide) (fun c2 => ?_) (fun c2 => ?_)
  · refine lv_iconst (v := 0) hx hb dX0_within_14 (by decide) ?_
    exact hq _ _ _ dX0_within_15 (by grind [inB, bI])
  · refine lv_iload_n hx hb dX0_within_5 rfl (lv_at hl 0 rfl) ?_
    refine lv_iload_n hx hb dX0_within_6 rfl (lv_at hl 2 rfl) ?_
    refine lv_icmp_gt (tgt := 14) hx hb dX0_within_7 (by decide) (fun c7 => ?_) (fun c7 => ?_)
    · refine lv_iconst (v := 0) hx hb dX0_within_14 (by decide) ?_
      exact hq _ _ _ dX0_within_15 (by grind [inB, bI])
    · refine lv_iconst (v := 1) hx hb dX0_within_10 (by decide) ?_
      refine lv_goto (tgt := 15) hx hb dX0_within_11 (by decide) ?_
      exact hq _ _ _ dX0_within_15 (by grind [inB, bI])
set_option maxHeartbeats 4000000 in
theorem c_X0_has (G : GG) (l : Launch) (set : Int32) (k : Int32) : CIs G l yX0_has cX0_has 2 .boolean 2 24 [.int set, .int k] (fun _ => True) (bI (hasB set k)) := by
  refine CIs.mk RX0 pnX0 rfl (bI_nar _) (Nat.le_of_ble_eq_true rfl) (fun pg en Rm sg mm ar bw mth cd QQ ls hC hRm hK hX hl hq => ?_)
  have hx := hC.1; have hb := hC.2.1; have ho := hC.2.2.2.1; have hts := hC.2.2.2.2
  have hl : lv_has ls 2 [(0, .int set), (1, .int k)] := hl
  refine lv_iload_n hx hb dX0_has_0 rfl (lv_at hl 0 rfl) ?_
  refine lv_iload_n hx hb dX0_has_1 rfl (lv_at hl 1 rfl) ?_
  refine lv_ishr hx hb dX0_has_2 ?_
  refine lv_iconst (v := 1) hx hb dX0_has_3 (by decide) ?_
  refine lv_iand hx hb dX0_has_4 ?_
  refine lv_iconst (v := 1) hx hb dX0_has_5 (by decide) ?_
  refine lv_icmp_ne (tgt := 13) hx hb dX0_has_6 (by decide) (fun c6 => ?_) (fun c6 => ?_)
  · refine lv_iconst (v := 0) hx hb dX0_has_13 (by decide) ?_
    exact hq _ _ _ dX0_has_14 (by grind [hasB, bI])
  · refine lv_iconst (v := 1) hx hb dX0_has_9 (by decide) ?_
    refine lv_goto (tgt := 14) hx hb dX0_has_10 (by decide) ?_
    exact hq _ _ _ dX0_has_14 (by grind [hasB, bI])
set_option maxHeartbeats 4000000 in
theorem c_X0_held (G : GG) (l : Launch) (v : Int32) (m : Int32) : CIs G l yX0_held cX0_held 2 .int 2 24 [.int v, .int m] (fun _ => True) (mxI 0 (mnI m v)) := by
  refine CIs.mk RX0 pnX0 rfl (rfl) (Nat.le_of_ble_eq_true rfl) (fun pg en Rm sg mm ar bw mth cd QQ ls hC hRm hK hX hl hq => ?_)
  have hx := hC.1; have hb := hC.2.1; have ho := hC.2.2.2.1; have hts := hC.2.2.2.2
  have hl : lv_has ls 2 [(0, .int v), (1, .int m)] := hl
  refine lv_iconst (v := 0) hx hb dX0_held_0 (by decide) ?_
  refine lv_iload_n hx hb dX0_held_1 rfl (lv_at hl 1 rfl) ?_
  refine lv_iload_n hx hb dX0_held_2 rfl (lv_at hl 0 rfl) ?_
  refine S_min hC hl q977 q468 q120 q469 (room_m hRm rfl) rfl dX0_held_3 ?_
  refine S_max hC hl q978 q465 q120 q466 (room_m hRm rfl) rfl dX0_held_6 ?_
  exact hq _ _ _ dX0_held_9 (by exact rfl)
set_option maxHeartbeats 4000000 in
theorem c_X0_orNobody (G : GG) (l : Launch) (v : Int32) : CIs G l yX0_orNobody cX0_orNobody 1 .int 2 24 [.int v] (fun _ => True) (orNoneS v) := by
  refine CIs.mk RX0 pnX0 rfl (rfl) (Nat.le_of_ble_eq_true rfl) (fun pg en Rm sg mm ar bw mth cd QQ ls hC hRm hK hX hl hq => ?_)
  have hx := hC.1; have hb := hC.2.1; have ho := hC.2.2.2.1; have hts := hC.2.2.2.2
  have hl : lv_has ls 1 [(0, .int v)] := hl
  refine lv_iload_n hx hb dX0_orNobody_0 rfl (lv_at hl 0 rfl) ?_
  refine lv_iconst (v := (-1)) hx hb dX0_orNobody_1 (by decide) ?_
  refine lv_icmp_ne (tgt := 10) hx hb dX0_orNobody_2 (by decide) (fun c2 => ?_) (fun c2 => ?_)
  · refine lv_iload_n hx hb dX0_orNobody_10 rfl (lv_at hl 0 rfl) ?_
    exact hq _ _ _ dX0_orNobody_11 (by grind [orNoneS])
  · refine lv_bipush (v := (-2)) hx hb dX0_orNobody_5 (by decide) ?_
    refine lv_goto (tgt := 11) hx hb dX0_orNobody_7 (by decide) ?_
    exact hq _ _ _ dX0_orNobody_11 (by grind [orNoneS])
set_option maxHeartbeats 4000000 in
theorem c_X0_isTurn (G : GG) (l : Launch) (t : Int32) : CIs G l yX0_isTurn cX0_isTurn 1 .boolean 3 45 [.int t] (fun _ => True) (bI (isTurnB t)) := by
  refine CIs.mk RX0 pnX0 rfl (bI_nar _) (Nat.le_of_ble_eq_true rfl) (fun pg en Rm sg mm ar bw mth cd QQ ls hC hRm hK hX hl hq => ?_)
  have hx := hC.1; have hb := hC.2.1; have ho := hC.2.2.2.1; have hts := hC.2.2.2.2
  have hl : lv_has ls 1 [(0, .int t)] := hl
  refine lv_iload_n hx hb dX0_isTurn_0 rfl (lv_at hl 0 rfl) ?_
  refine lv_bipush (v := 12) hx hb dX0_isTurn_1 (by decide) ?_
  refine CIs.go (rcS hC hl (c_X0_in G l t 12 11 (by decide)) hK trivial q366 q367 q110 q368 mdX0_in (room_s hRm rfl) rfl rfl dX0_isTurn_3) ?_
  exact hq _ _ _ dX0_isTurn_6 (by exact rfl)
set_option maxHeartbeats 4000000 in
theorem c_X1_isHouse_plan (G : GG) (l : Launch) (o : Nat) (R : Nat → Nat) (tx : Nat) (u : MS) (h : Int32) : CIs G l yX1_isHouse cX1_isHouse 2 .boolean 2 24 [.ref (R 0), .int h] (PwS G o R tx u) (bI (isHouseB (u.1 24) h)) := by
  refine CIs.mk RX1 pnX1 rfl (bI_nar _) (Nat.le_of_ble_eq_true rfl) (fun pg en Rm sg mm ar bw mth cd QQ ls hC hRm hK hX hl hq => ?_)
  have hx := hC.1; have hb := hC.2.1; have ho := hC.2.2.2.1; have hts := hC.2.2.2.2
  have hP : PwS G o R tx u sg.heap := hX
  have hl : lv_has ls 2 [(0, .ref (R 0)), (1, .int h)] := hl
  have h16 := lt_c (v := h) 16 15 (by decide)
  refine lv_iload_n hx hb dX1_isHouse_0 rfl (lv_at hl 1 rfl) ?_
  refine lv_if_lt (tgt := 26) hx hb dX1_isHouse_1 (by decide) (fun c1 => ?_) (fun c1 => ?_)
  · refine lv_iconst (v := 0) hx hb dX1_isHouse_26 (by decide) ?_
    exact hq _ _ _ dX1_isHouse_27 (by simp only [isHouseB, inB, hasB]; grind [bI])
  · refine lv_iload_n hx hb dX1_isHouse_4 rfl (lv_at hl 1 rfl) ?_
    refine lv_bipush (v := 16) hx hb dX1_isHouse_5 (by decide) ?_
    refine lv_icmp_ge (tgt := 26) hx hb dX1_isHouse_7 (by decide) (fun c7 => ?_) (fun c7 => ?_)
    · refine lv_iconst (v := 0) hx hb dX1_isHouse_26 (by decide) ?_
      exact hq _ _ _ dX1_isHouse_27 (by simp only [isHouseB, inB, hasB]; grind [bI])
    · refine lv_aload_n hx hb dX1_isHouse_10 rfl (lv_at hl 0 rfl) ?_
      refine S_get (v := .int (u.1 24)) hC hK hP (oS_plan _ _ _ _ _) clX1 in_X1 4 (by decide) (fD24 _ _ _ _) q159 dX1_isHouse_11 ?_
      refine lv_iload_n hx hb dX1_isHouse_14 rfl (lv_at hl 1 rfl) ?_
      refine lv_ishr hx hb dX1_isHouse_15 ?_
      refine lv_iconst (v := 1) hx hb dX1_isHouse_16 (by decide) ?_
      refine lv_iand hx hb dX1_isHouse_17 ?_
      refine lv_iconst (v := 1) hx hb dX1_isHouse_18 (by decide) ?_
      refine lv_icmp_ne (tgt := 26) hx hb dX1_isHouse_19 (by decide) (fun c19 => ?_) (fun c19 => ?_)
      · refine lv_iconst (v := 0) hx hb dX1_isHouse_26 (by decide) ?_
        exact hq _ _ _ dX1_isHouse_27 (by simp only [isHouseB, inB, hasB]; grind [bI])
      · refine lv_iconst (v := 1) hx hb dX1_isHouse_22 (by decide) ?_
        refine lv_goto (tgt := 27) hx hb dX1_isHouse_23 (by decide) ?_
        exact hq _ _ _ dX1_isHouse_27 (by simp only [isHouseB, inB, hasB]; grind [bI])
set_option maxHeartbeats 4000000 in
theorem c_X1_isThing_plan (G : GG) (l : Launch) (o : Nat) (R : Nat → Nat) (tx : Nat) (u : MS) (h : Int32) : CIs G l yX1_isThing cX1_isThing 2 .boolean 2 24 [.ref (R 0), .int h] (PwS G o R tx u) (bI (isHouseB (u.1 25) h)) := by
  refine CIs.mk RX1 pnX1 rfl (bI_nar _) (Nat.le_of_ble_eq_true rfl) (fun pg en Rm sg mm ar bw mth cd QQ ls hC hRm hK hX hl hq => ?_)
  have hx := hC.1; have hb := hC.2.1; have ho := hC.2.2.2.1; have hts := hC.2.2.2.2
  have hP : PwS G o R tx u sg.heap := hX
  have hl : lv_has ls 2 [(0, .ref (R 0)), (1, .int h)] := hl
  have h16 := lt_c (v := h) 16 15 (by decide)
  refine lv_iload_n hx hb dX1_isThing_0 rfl (lv_at hl 1 rfl) ?_
  refine lv_if_lt (tgt := 26) hx hb dX1_isThing_1 (by decide) (fun c1 => ?_) (fun c1 => ?_)
  · refine lv_iconst (v := 0) hx hb dX1_isThing_26 (by decide) ?_
    exact hq _ _ _ dX1_isThing_27 (by simp only [isHouseB, inB, hasB]; grind [bI])
  · refine lv_iload_n hx hb dX1_isThing_4 rfl (lv_at hl 1 rfl) ?_
    refine lv_bipush (v := 16) hx hb dX1_isThing_5 (by decide) ?_
    refine lv_icmp_ge (tgt := 26) hx hb dX1_isThing_7 (by decide) (fun c7 => ?_) (fun c7 => ?_)
    · refine lv_iconst (v := 0) hx hb dX1_isThing_26 (by decide) ?_
      exact hq _ _ _ dX1_isThing_27 (by simp only [isHouseB, inB, hasB]; grind [bI])
    · refine lv_aload_n hx hb dX1_isThing_10 rfl (lv_at hl 0 rfl) ?_
      refine S_get (v := .int (u.1 25)) hC hK hP (oS_plan _ _ _ _ _) clX1 in_X1 5 (by decide) (fD25 _ _ _ _) q162 dX1_isThing_11 ?_
      refine lv_iload_n hx hb dX1_isThing_14 rfl (lv_at hl 1 rfl) ?_
      refine lv_ishr hx hb dX1_isThing_15 ?_
      refine lv_iconst (v := 1) hx hb dX1_isThing_16 (by decide) ?_
      refine lv_iand hx hb dX1_isThing_17 ?_
      refine lv_iconst (v := 1) hx hb dX1_isThing_18 (by decide) ?_
      refine lv_icmp_ne (tgt := 26) hx hb dX1_isThing_19 (by decide) (fun c19 => ?_) (fun c19 => ?_)
      · refine lv_iconst (v := 0) hx hb dX1_isThing_26 (by decide) ?_
        exact hq _ _ _ dX1_isThing_27 (by simp only [isHouseB, inB, hasB]; grind [bI])
      · refine lv_iconst (v := 1) hx hb dX1_isThing_22 (by decide) ?_
        refine lv_goto (tgt := 27) hx hb dX1_isThing_23 (by decide) ?_
        exact hq _ _ _ dX1_isThing_27 (by simp only [isHouseB, inB, hasB]; grind [bI])
set_option maxHeartbeats 4000000 in
theorem c_X1_isSeen_plan (G : GG) (l : Launch) (o : Nat) (R : Nat → Nat) (tx : Nat) (u : MS) (h : Nat) (p : Nat) (t : Int32) (hh : h < 16) (hp : p < 16) (hsd : PB (u.2.1 21)) (hfc : PB (u.2.1 20)) : CIs G l yX1_isSeen cX1_isSeen 6 .boolean 3 46 [.ref (R 0), .int (nI h), .int (nI p), .int t] (PwS G o R tx u) (bI (isSeenB ((u.2.1 21) p) ((u.2.1 20) h) ((u.2.1 22) p) ((u.2.1 23) p) t)) := by
  refine CIs.mk RX1 pnX1 rfl (bI_nar _) (Nat.le_of_ble_eq_true rfl) (fun pg en Rm sg mm ar bw mth cd QQ ls hC hRm hK hX hl hq => ?_)
  have hx := hC.1; have hb := hC.2.1; have ho := hC.2.2.2.1; have hts := hC.2.2.2.2
  have hP : PwS G o R tx u sg.heap := hX
  have hl : lv_has ls 6 [(0, .ref (R 0)), (1, .int (nI h)), (2, .int (nI p)), (3, .int t)] := hl
  have hbb := fm_bb hsd hfc hp hh
  refine lv_aload_n hx hb dX1_isSeen_0 rfl (lv_at hl 0 rfl) ?_
  refine S_get hC hK hP (oS_plan _ _ _ _ _) clX1 in_X1 1 (by decide) (fD21 _ _ _ _) q153 dX1_isSeen_1 ?_
  refine lv_iload_n hx hb dX1_isSeen_4 rfl (lv_at hl 2 rfl) ?_
  refine S_ald hC hK hP (aS21 _ _ _ _ _) (j := p) (by decide) (rfl) (by omega) dX1_isSeen_5 ?_
  refine lv_aload_n hx hb dX1_isSeen_6 rfl (lv_at hl 0 rfl) ?_
  refine S_get hC hK hP (oS_plan _ _ _ _ _) clX1 in_X1 0 (by decide) (fD20 _ _ _ _) q150 dX1_isSeen_7 ?_
  refine lv_iload_n hx hb dX1_isSeen_10 rfl (lv_at hl 1 rfl) ?_
  refine S_ald hC hK hP (aS20 _ _ _ _ _) (j := h) (by decide) (rfl) (by omega) dX1_isSeen_11 ?_
  refine lv_isub hx hb dX1_isSeen_12 ?_
  refine lv_iconst (v := 1) hx hb dX1_isSeen_13 (by decide) ?_
  refine lv_iadd hx hb dX1_isSeen_14 ?_
  refine lv_bipush (v := 12) hx hb dX1_isSeen_15 (by decide) ?_
  refine CIs.go (rcS hC hl (c_J2_floorMod G l (((u.2.1 21 p) - (u.2.1 20 h)) + 1) ) hK trivial q902 q903 q120 q904 mdJ2_floorMod (room_s hRm rfl) rfl rfl dX1_isSeen_17) ?_
  refine lv_istore (lv' := [(4, .int (fmI (((u.2.1 21 p) - (u.2.1 20 h)) + 1) 12)), (0, .ref (R 0)), (1, .int (nI h)), (2, .int (nI p)), (3, .int t)]) hx hb dX1_isSeen_20 hl (by decide) rfl (fun ls hl => ?_)
  refine lv_aload_n hx hb dX1_isSeen_22 rfl (lv_at hl 1 rfl) ?_
  refine S_get hC hK hP (oS_plan _ _ _ _ _) clX1 in_X1 2 (by decide) (fD22 _ _ _ _) q155 dX1_isSeen_23 ?_
  refine lv_iload_n hx hb dX1_isSeen_26 rfl (lv_at hl 3 rfl) ?_
  refine S_ald hC hK hP (aS22 _ _ _ _ _) (j := p) (by decide) (rfl) (by omega) dX1_isSeen_27 ?_
  refine lv_aload_n hx hb dX1_isSeen_28 rfl (lv_at hl 1 rfl) ?_
  refine S_get hC hK hP (oS_plan _ _ _ _ _) clX1 in_X1 3 (by decide) (fD23 _ _ _ _) q157 dX1_isSeen_29 ?_
  refine lv_iload_n hx hb dX1_isSeen_32 rfl (lv_at hl 3 rfl) ?_
  refine S_ald hC hK hP (aS23 _ _ _ _ _) (j := p) (by decide) (rfl) (by omega) dX1_isSeen_33 ?_
  refine lv_icmp_gt (tgt := 65) hx hb dX1_isSeen_34 (by decide) (fun c34 => ?_) (fun c34 => ?_)
  · refine lv_iload_n hx hb dX1_isSeen_65 rfl (lv_at hl 4 rfl) ?_
    refine lv_aload_n hx hb dX1_isSeen_66 rfl (lv_at hl 1 rfl) ?_
    refine S_get hC hK hP (oS_plan _ _ _ _ _) clX1 in_X1 2 (by decide) (fD22 _ _ _ _) q155 dX1_isSeen_67 ?_
    refine lv_iload_n hx hb dX1_isSeen_70 rfl (lv_at hl 3 rfl) ?_
    refine S_ald hC hK hP (aS22 _ _ _ _ _) (j := p) (by decide) (rfl) (by omega) dX1_isSeen_71 ?_
    refine lv_icmp_ge (tgt := 85) hx hb dX1_isSeen_72 (by decide) (fun c72 => ?_) (fun c72 => ?_)
    · refine lv_iconst (v := 1) hx hb dX1_isSeen_85 (by decide) ?_
      refine lv_goto (tgt := 90) hx hb dX1_isSeen_86 (by decide) ?_
      refine lv_istore (lv' := [(5, .int 1), (4, .int (fmI (((u.2.1 21 p) - (u.2.1 20 h)) + 1) 12)), (0, .ref (R 0)), (1, .int (nI h)), (2, .int (nI p)), (3, .int t)]) hx hb dX1_isSeen_90 hl (by decide) rfl (fun ls hl => ?_)
      refine lv_iload hx hb dX1_isSeen_92 (lv_at hl 0 rfl) ?_
      refine lv_if_eq (tgt := 107) hx hb dX1_isSeen_94 (by decide) (fun c94 => ?_) (fun c94 => ?_)
      · exact absurd c94 (by decide)
      · refine lv_iload hx hb dX1_isSeen_97 (lv_at hl 1 rfl) ?_
        refine lv_iconst (v := 3) hx hb dX1_isSeen_99 (by decide) ?_
        refine lv_icmp_ge (tgt := 107) hx hb dX1_isSeen_100 (by decide) (fun c100 => ?_) (fun c100 => ?_)
        · refine lv_iconst (v := 0) hx hb dX1_isSeen_107 (by decide) ?_
          exact hq _ _ _ dX1_isSeen_108 (by simp only [isSeenB, ← hbb, thenB, inB]; grind [bI])
        · refine lv_iconst (v := 1) hx hb dX1_isSeen_103 (by decide) ?_
          refine lv_goto (tgt := 108) hx hb dX1_isSeen_104 (by decide) ?_
          exact hq _ _ _ dX1_isSeen_108 (by simp only [isSeenB, ← hbb, thenB, inB]; grind [bI])
    · refine lv_iload_n hx hb dX1_isSeen_75 rfl (lv_at hl 4 rfl) ?_
      refine lv_aload_n hx hb dX1_isSeen_76 rfl (lv_at hl 1 rfl) ?_
      refine S_get hC hK hP (oS_plan _ _ _ _ _) clX1 in_X1 3 (by decide) (fD23 _ _ _ _) q157 dX1_isSeen_77 ?_
      refine lv_iload_n hx hb dX1_isSeen_80 rfl (lv_at hl 3 rfl) ?_
      refine S_ald hC hK hP (aS23 _ _ _ _ _) (j := p) (by decide) (rfl) (by omega) dX1_isSeen_81 ?_
      refine lv_icmp_gt (tgt := 89) hx hb dX1_isSeen_82 (by decide) (fun c82 => ?_) (fun c82 => ?_)
      · refine lv_iconst (v := 0) hx hb dX1_isSeen_89 (by decide) ?_
        refine lv_istore (lv' := [(5, .int 0), (4, .int (fmI (((u.2.1 21 p) - (u.2.1 20 h)) + 1) 12)), (0, .ref (R 0)), (1, .int (nI h)), (2, .int (nI p)), (3, .int t)]) hx hb dX1_isSeen_90 hl (by decide) rfl (fun ls hl => ?_)
        refine lv_iload hx hb dX1_isSeen_92 (lv_at hl 0 rfl) ?_
        refine lv_if_eq (tgt := 107) hx hb dX1_isSeen_94 (by decide) (fun c94 => ?_) (fun c94 => ?_)
        · refine lv_iconst (v := 0) hx hb dX1_isSeen_107 (by decide) ?_
          exact hq _ _ _ dX1_isSeen_108 (by simp only [isSeenB, ← hbb, thenB, inB]; grind [bI])
        · exact absurd c94 (by decide)
      · refine lv_iconst (v := 1) hx hb dX1_isSeen_85 (by decide) ?_
        refine lv_goto (tgt := 90) hx hb dX1_isSeen_86 (by decide) ?_
        refine lv_istore (lv' := [(5, .int 1), (4, .int (fmI (((u.2.1 21 p) - (u.2.1 20 h)) + 1) 12)), (0, .ref (R 0)), (1, .int (nI h)), (2, .int (nI p)), (3, .int t)]) hx hb dX1_isSeen_90 hl (by decide) rfl (fun ls hl => ?_)
        refine lv_iload hx hb dX1_isSeen_92 (lv_at hl 0 rfl) ?_
        refine lv_if_eq (tgt := 107) hx hb dX1_isSeen_94 (by decide) (fun c94 => ?_) (fun c94 => ?_)
        · exact absurd c94 (by decide)
        · refine lv_iload hx hb dX1_isSeen_97 (lv_at hl 1 rfl) ?_
          refine lv_iconst (v := 3) hx hb dX1_isSeen_99 (by decide) ?_
          refine lv_icmp_ge (tgt := 107) hx hb dX1_isSeen_100 (by decide) (fun c100 => ?_) (fun c100 => ?_)
          · refine lv_iconst (v := 0) hx hb dX1_isSeen_107 (by decide) ?_
            exact hq _ _ _ dX1_isSeen_108 (by simp only [isSeenB, ← hbb, thenB, inB]; grind [bI])
          · refine lv_iconst (v := 1) hx hb dX1_isSeen_103 (by decide) ?_
            refine lv_goto (tgt := 108) hx hb dX1_isSeen_104 (by decide) ?_
            exact hq _ _ _ dX1_isSeen_108 (by simp only [isSeenB, ← hbb, thenB, inB]; grind [bI])
  · refine lv_iload_n hx hb dX1_isSeen_37 rfl (lv_at hl 4 rfl) ?_
    refine lv_aload_n hx hb dX1_isSeen_38 rfl (lv_at hl 1 rfl) ?_
    refine S_get hC hK hP (oS_plan _ _ _ _ _) clX1 in_X1 2 (by decide) (fD22 _ _ _ _) q155 dX1_isSeen_39 ?_
    refine lv_iload_n hx hb dX1_isSeen_42 rfl (lv_at hl 3 rfl) ?_
    refine S_ald hC hK hP (aS22 _ _ _ _ _) (j := p) (by decide) (rfl) (by omega) dX1_isSeen_43 ?_
    refine lv_icmp_lt (tgt := 61) hx hb dX1_isSeen_44 (by decide) (fun c44 => ?_) (fun c44 => ?_)
    · refine lv_iconst (v := 0) hx hb dX1_isSeen_61 (by decide) ?_
      refine lv_goto (tgt := 90) hx hb dX1_isSeen_62 (by decide) ?_
      refine lv_istore (lv' := [(5, .int 0), (4, .int (fmI (((u.2.1 21 p) - (u.2.1 20 h)) + 1) 12)), (0, .ref (R 0)), (1, .int (nI h)), (2, .int (nI p)), (3, .int t)]) hx hb dX1_isSeen_90 hl (by decide) rfl (fun ls hl => ?_)
      refine lv_iload hx hb dX1_isSeen_92 (lv_at hl 0 rfl) ?_
      refine lv_if_eq (tgt := 107) hx hb dX1_isSeen_94 (by decide) (fun c94 => ?_) (fun c94 => ?_)
      · refine lv_iconst (v := 0) hx hb dX1_isSeen_107 (by decide) ?_
        exact hq _ _ _ dX1_isSeen_108 (by simp only [isSeenB, ← hbb, thenB, inB]; grind [bI])
      · exact absurd c94 (by decide)
    · refine lv_iload_n hx hb dX1_isSeen_47 rfl (lv_at hl 4 rfl) ?_
      refine lv_aload_n hx hb dX1_isSeen_48 rfl (lv_at hl 1 rfl) ?_
      refine S_get hC hK hP (oS_plan _ _ _ _ _) clX1 in_X1 3 (by decide) (fD23 _ _ _ _) q157 dX1_isSeen_49 ?_
      refine lv_iload_n hx hb dX1_isSeen_52 rfl (lv_at hl 3 rfl) ?_
      refine S_ald hC hK hP (aS23 _ _ _ _ _) (j := p) (by decide) (rfl) (by omega) dX1_isSeen_53 ?_
      refine lv_icmp_gt (tgt := 61) hx hb dX1_isSeen_54 (by decide) (fun c54 => ?_) (fun c54 => ?_)
      · refine lv_iconst (v := 0) hx hb dX1_isSeen_61 (by decide) ?_
        refine lv_goto (tgt := 90) hx hb dX1_isSeen_62 (by decide) ?_
        refine lv_istore (lv' := [(5, .int 0), (4, .int (fmI (((u.2.1 21 p) - (u.2.1 20 h)) + 1) 12)), (0, .ref (R 0)), (1, .int (nI h)), (2, .int (nI p)), (3, .int t)]) hx hb dX1_isSeen_90 hl (by decide) rfl (fun ls hl => ?_)
        refine lv_iload hx hb dX1_isSeen_92 (lv_at hl 0 rfl) ?_
        refine lv_if_eq (tgt := 107) hx hb dX1_isSeen_94 (by decide) (fun c94 => ?_) (fun c94 => ?_)
        · refine lv_iconst (v := 0) hx hb dX1_isSeen_107 (by decide) ?_
          exact hq _ _ _ dX1_isSeen_108 (by simp only [isSeenB, ← hbb, thenB, inB]; grind [bI])
        · exact absurd c94 (by decide)
      · refine lv_iconst (v := 1) hx hb dX1_isSeen_57 (by decide) ?_
        refine lv_goto (tgt := 90) hx hb dX1_isSeen_58 (by decide) ?_
        refine lv_istore (lv' := [(5, .int 1), (4, .int (fmI (((u.2.1 21 p) - (u.2.1 20 h)) + 1) 12)), (0, .ref (R 0)), (1, .int (nI h)), (2, .int (nI p)), (3, .int t)]) hx hb dX1_isSeen_90 hl (by decide) rfl (fun ls hl => ?_)
        refine lv_iload hx hb dX1_isSeen_92 (lv_at hl 0 rfl) ?_
        refine lv_if_eq (tgt := 107) hx hb dX1_isSeen_94 (by decide) (fun c94 => ?_) (fun c94 => ?_)
        · exact absurd c94 (by decide)
        · refine lv_iload hx hb dX1_isSeen_97 (lv_at hl 1 rfl) ?_
          refine lv_iconst (v := 3) hx hb dX1_isSeen_99 (by decide) ?_
          refine lv_icmp_ge (tgt := 107) hx hb dX1_isSeen_100 (by decide) (fun c100 => ?_) (fun c100 => ?_)
          · refine lv_iconst (v := 0) hx hb dX1_isSeen_107 (by decide) ?_
            exact hq _ _ _ dX1_isSeen_108 (by simp only [isSeenB, ← hbb, thenB, inB]; grind [bI])
          · refine lv_iconst (v := 1) hx hb dX1_isSeen_103 (by decide) ?_
            refine lv_goto (tgt := 108) hx hb dX1_isSeen_104 (by decide) ?_
            exact hq _ _ _ dX1_isSeen_108 (by simp only [isSeenB, ← hbb, thenB, inB]; grind [bI])
set_option maxHeartbeats 4000000 in
theorem c_X1_seen_plan (G : GG) (l : Launch) (o : Nat) (R : Nat → Nat) (tx : Nat) (u : MS) (h : Nat) (t : Int32) (hh : h < 16) (hsd : PB (u.2.1 21)) (hfc : PB (u.2.1 20)) : CIs G l yX1_seen cX1_seen 5 .int 4 71 [.ref (R 0), .int (nI h), .int t] (PwS G o R tx u) (seenS (u.1 25) (u.2.1 21) (u.2.1 22) (u.2.1 23) ((u.2.1 20) h) t) := by
  refine CIs.mk RX1 pnX1 rfl (rfl) (Nat.le_of_ble_eq_true rfl) (fun pg en Rm sg mm ar bw mth cd QQ ls hC hRm hK hX hl hq => ?_)
  have hx := hC.1; have hb := hC.2.1; have ho := hC.2.2.2.1; have hts := hC.2.2.2.2
  have hP : PwS G o R tx u sg.heap := hX
  have hl : lv_has ls 5 [(0, .ref (R 0)), (1, .int (nI h)), (2, .int t)] := hl
  refine lv_iconst (v := 0) hx hb dX1_seen_0 (by decide) ?_
  refine lv_istore_n (lv' := [(3, .int 0), (0, .ref (R 0)), (1, .int (nI h)), (2, .int t)]) hx hb dX1_seen_1 rfl hl (by decide) rfl (fun ls hl => ?_)
  refine lv_iconst (v := 0) hx hb dX1_seen_2 (by decide) ?_
  refine lv_istore (lv' := [(4, .int 0), (3, .int 0), (0, .ref (R 0)), (1, .int (nI h)), (2, .int t)]) hx hb dX1_seen_3 hl (by decide) rfl (fun ls hl => ?_)
  have LP5 : ∀ (fu5 : Nat) (k : Nat) (set : Int32) (ls : Array Slot), 16 - k < fu5 → k ≤ 16 → set = orN (fun p => isHouseB (u.1 25) (nI p) && isSeenB ((u.2.1 21) p) ((u.2.1 20) h) ((u.2.1 22) p) ((u.2.1 23) p) t) k → lv_has ls 5 [(0, .ref (R 0)), (1, .int (nI h)), (2, .int t), (3, .int set), (4, .int (nI k))] → W pg l en Rm sg mm ar bw mth cd sg.heap [] 0 0 QQ (F0 mm 5 ls []) := by
    intro fu5
    induction fu5 with
    | zero => intro k set ls hm5 hk hset hl; exact absurd hm5 (Nat.not_lt_zero _)
    | succ fu5 ih5 =>
      intro k set ls hm5 hk hset hl
      refine lv_iload hx hb dX1_seen_5 (lv_at hl 4 rfl) ?_
      refine lv_bipush (v := 16) hx hb dX1_seen_7 (by decide) ?_
      refine lv_icmp_ge (tgt := 49) hx hb dX1_seen_9 (by decide) (fun c9 => ?_) (fun c9 => ?_)
      · have c9 : 16 ≤ k := (nI_leI (a := 16) (b := k) (by omega) (by omega)).mp c9
        refine lv_iload_n hx hb dX1_seen_49 rfl (lv_at hl 3 rfl) ?_
        exact hq _ _ _ dX1_seen_50 (by have hfin : k = 16 := (by omega); subst hfin; exact hset)
      · have c9 : ¬ (16 ≤ k) := mt (nI_leI (a := 16) (b := k) (by omega) (by omega)).mpr c9
        refine lv_iload_n hx hb dX1_seen_12 rfl (lv_at hl 3 rfl) ?_
        refine lv_aload_n hx hb dX1_seen_13 rfl (lv_at hl 0 rfl) ?_
        refine lv_iload hx hb dX1_seen_14 (lv_at hl 4 rfl) ?_
        refine CIs.go (rcV hC hl (c_X1_isThing_plan G l o R tx u (nI k) ) hK hP (va_recv hK.1 hP clX1 (oS_plan _ _ _ _ _)) q897 q732 q733 q111 q734 mdX1_isThing (room_s hRm rfl) rfl rfl dX1_seen_16) ?_
        refine lv_if_eq (tgt := 40) hx hb dX1_seen_19 (by decide) (fun c19 => ?_) (fun c19 => ?_)
        · have c19 : (isHouseB (u.1 25) (nI k)) = false := bI_0.mp c19
          refine lv_iconst (v := 0) hx hb dX1_seen_40 (by decide) ?_
          refine lv_ior hx hb dX1_seen_41 ?_
          refine W_top (y := set) (or0 _) ?_
          refine lv_istore_n (lv' := [(3, .int set), (0, .ref (R 0)), (1, .int (nI h)), (2, .int t), (4, .int (nI k))]) hx hb dX1_seen_42 rfl hl (by decide) rfl (fun ls hl => ?_)
          refine lv_iinc (v := (nI (k + 1))) (lv' := [(4, .int (nI (k + 1))), (3, .int set), (0, .ref (R 0)), (1, .int (nI h)), (2, .int t)]) hx hb dX1_seen_43 hl (k := 4) rfl (nI_inc k) (by decide) rfl (fun ls hl => ?_)
          refine lv_goto (tgt := 5) hx hb dX1_seen_46 (by decide) ?_
          exact ih5 (k + 1) set ls (by omega) (by first | omega | assumption | rfl | (simp_all; done) | grind) (by (clear hq hK hts hC hx hb ho hRm hl hP ih5); grind [orN, bitI])  (lv_sub hl [2, 3, 4, 1, 0] rfl)
        · have c19 : (isHouseB (u.1 25) (nI k)) = true := bI_1.mp c19
          refine lv_aload_n hx hb dX1_seen_22 rfl (lv_at hl 0 rfl) ?_
          refine lv_iload_n hx hb dX1_seen_23 rfl (lv_at hl 1 rfl) ?_
          refine lv_iload hx hb dX1_seen_24 (lv_at hl 4 rfl) ?_
          refine lv_iload_n hx hb dX1_seen_26 rfl (lv_at hl 2 rfl) ?_
          refine CIs.go (rcV hC hl (c_X1_isSeen_plan G l o R tx u h k t (by first | assumption | omega | rfl | (simp_all; done)) (by first | assumption | omega | rfl | (simp_all; done)) (by first | assumption | omega | rfl | (simp_all; done)) (by first | assumption | omega | rfl | (simp_all; done))) hK hP (va_recv hK.1 hP clX1 (oS_plan _ _ _ _ _)) q898 q900 qs27 q111 q901 mdX1_isSeen (room_s hRm rfl) rfl rfl dX1_seen_27) ?_
          refine lv_if_eq (tgt := 40) hx hb dX1_seen_30 (by decide) (fun c30 => ?_) (fun c30 => ?_)
          · have c30 : (isSeenB ((u.2.1 21) k) ((u.2.1 20) h) ((u.2.1 22) k) ((u.2.1 23) k) t) = false := bI_0.mp c30
            refine lv_iconst (v := 0) hx hb dX1_seen_40 (by decide) ?_
            refine lv_ior hx hb dX1_seen_41 ?_
            refine W_top (y := set) (or0 _) ?_
            refine lv_istore_n (lv' := [(3, .int set), (0, .ref (R 0)), (1, .int (nI h)), (2, .int t), (4, .int (nI k))]) hx hb dX1_seen_42 rfl hl (by decide) rfl (fun ls hl => ?_)
            refine lv_iinc (v := (nI (k + 1))) (lv' := [(4, .int (nI (k + 1))), (3, .int set), (0, .ref (R 0)), (1, .int (nI h)), (2, .int t)]) hx hb dX1_seen_43 hl (k := 4) rfl (nI_inc k) (by decide) rfl (fun ls hl => ?_)
            refine lv_goto (tgt := 5) hx hb dX1_seen_46 (by decide) ?_
            exact ih5 (k + 1) set ls (by omega) (by first | omega | assumption | rfl | (simp_all; done) | grind) (by (clear hq hK hts hC hx hb ho hRm hl hP ih5); grind [orN, bitI])  (lv_sub hl [2, 3, 4, 1, 0] rfl)
          · have c30 : (isSeenB ((u.2.1 21) k) ((u.2.1 20) h) ((u.2.1 22) k) ((u.2.1 23) k) t) = true := bI_1.mp c30
            refine lv_iconst (v := 1) hx hb dX1_seen_33 (by decide) ?_
            refine lv_iload hx hb dX1_seen_34 (lv_at hl 4 rfl) ?_
            refine lv_ishl hx hb dX1_seen_36 ?_
            refine lv_goto (tgt := 41) hx hb dX1_seen_37 (by decide) ?_
            refine lv_ior hx hb dX1_seen_41 ?_
            refine lv_istore_n (lv' := [(3, .int (set ||| (1 <<< ((nI k) &&& 31)))), (0, .ref (R 0)), (1, .int (nI h)), (2, .int t), (4, .int (nI k))]) hx hb dX1_seen_42 rfl hl (by decide) rfl (fun ls hl => ?_)
            refine lv_iinc (v := (nI (k + 1))) (lv' := [(4, .int (nI (k + 1))), (3, .int (set ||| (1 <<< ((nI k) &&& 31)))), (0, .ref (R 0)), (1, .int (nI h)), (2, .int t)]) hx hb dX1_seen_43 hl (k := 4) rfl (nI_inc k) (by decide) rfl (fun ls hl => ?_)
            refine lv_goto (tgt := 5) hx hb dX1_seen_46 (by decide) ?_
            exact ih5 (k + 1) (set ||| (1 <<< ((nI k) &&& 31))) ls (by omega) (by first | omega | assumption | rfl | (simp_all; done) | grind) (by (clear hq hK hts hC hx hb ho hRm hl hP ih5); grind [orN, bitI])  (lv_sub hl [2, 3, 4, 1, 0] rfl)
  exact LP5 _ 0 0 ls (Nat.lt_succ_self _) (by first | omega | assumption | rfl | (simp_all; done) | grind) (rfl)  (lv_sub hl [2, 3, 4, 1, 0] rfl)
set_option maxHeartbeats 4000000 in
theorem c_X1_seenEver_plan (G : GG) (l : Launch) (o : Nat) (R : Nat → Nat) (tx : Nat) (u : MS) (h : Nat) (hh : h < 16) (hsd : PB (u.2.1 21)) (hfc : PB (u.2.1 20)) : CIs G l yX1_seenEver cX1_seenEver 4 .int 5 95 [.ref (R 0), .int (nI h)] (PwS G o R tx u) (everS (u.1 25) (u.2.1 21) (u.2.1 22) (u.2.1 23) ((u.2.1 20) h)) := by
  refine CIs.mk RX1 pnX1 rfl (rfl) (Nat.le_of_ble_eq_true rfl) (fun pg en Rm sg mm ar bw mth cd QQ ls hC hRm hK hX hl hq => ?_)
  have hx := hC.1; have hb := hC.2.1; have ho := hC.2.2.2.1; have hts := hC.2.2.2.2
  have hP : PwS G o R tx u sg.heap := hX
  have hl : lv_has ls 4 [(0, .ref (R 0)), (1, .int (nI h))] := hl
  refine lv_iconst (v := 0) hx hb dX1_seenEver_0 (by decide) ?_
  refine lv_istore_n (lv' := [(2, .int 0), (0, .ref (R 0)), (1, .int (nI h))]) hx hb dX1_seenEver_1 rfl hl (by decide) rfl (fun ls hl => ?_)
  refine lv_iconst (v := 0) hx hb dX1_seenEver_2 (by decide) ?_
  refine lv_istore_n (lv' := [(3, .int 0), (2, .int 0), (0, .ref (R 0)), (1, .int (nI h))]) hx hb dX1_seenEver_3 rfl hl (by decide) rfl (fun ls hl => ?_)
  have LP4 : ∀ (fu4 : Nat) (k : Nat) (set : Int32) (ls : Array Slot), 12 - k < fu4 → k ≤ 12 → set = orI (fun t => seenS (u.1 25) (u.2.1 21) (u.2.1 22) (u.2.1 23) ((u.2.1 20) h) (nI t)) k → lv_has ls 4 [(0, .ref (R 0)), (1, .int (nI h)), (2, .int set), (3, .int (nI k))] → W pg l en Rm sg mm ar bw mth cd sg.heap [] 0 0 QQ (F0 mm 4 ls []) := by
    intro fu4
    induction fu4 with
    | zero => intro k set ls hm4 hk hset hl; exact absurd hm4 (Nat.not_lt_zero _)
    | succ fu4 ih4 =>
      intro k set ls hm4 hk hset hl
      refine lv_iload_n hx hb dX1_seenEver_4 rfl (lv_at hl 3 rfl) ?_
      refine lv_bipush (v := 12) hx hb dX1_seenEver_5 (by decide) ?_
      refine lv_icmp_ge (tgt := 25) hx hb dX1_seenEver_7 (by decide) (fun c7 => ?_) (fun c7 => ?_)
      · have c7 : 12 ≤ k := (nI_leI (a := 12) (b := k) (by omega) (by omega)).mp c7
        refine lv_iload_n hx hb dX1_seenEver_25 rfl (lv_at hl 2 rfl) ?_
        exact hq _ _ _ dX1_seenEver_26 (by have hfin : k = 12 := (by omega); subst hfin; exact hset)
      · have c7 : ¬ (12 ≤ k) := mt (nI_leI (a := 12) (b := k) (by omega) (by omega)).mpr c7
        refine lv_iload_n hx hb dX1_seenEver_10 rfl (lv_at hl 2 rfl) ?_
        refine lv_aload_n hx hb dX1_seenEver_11 rfl (lv_at hl 0 rfl) ?_
        refine lv_iload_n hx hb dX1_seenEver_12 rfl (lv_at hl 1 rfl) ?_
        refine lv_iload_n hx hb dX1_seenEver_13 rfl (lv_at hl 3 rfl) ?_
        refine CIs.go (rcV hC hl (c_X1_seen_plan G l o R tx u h (nI k) (by first | assumption | omega | rfl | (simp_all; done)) (by first | assumption | omega | rfl | (simp_all; done)) (by first | assumption | omega | rfl | (simp_all; done))) hK hP (va_recv hK.1 hP clX1 (oS_plan _ _ _ _ _)) q1017 q894 q895 q111 q896 mdX1_seen (room_s hRm rfl) rfl rfl dX1_seenEver_14) ?_
        refine lv_ior hx hb dX1_seenEver_17 ?_
        refine lv_istore_n (lv' := [(2, .int (set ||| (seenS (u.1 25) (u.2.1 21) (u.2.1 22) (u.2.1 23) ((u.2.1 20) h) (nI k)))), (0, .ref (R 0)), (1, .int (nI h)), (3, .int (nI k))]) hx hb dX1_seenEver_18 rfl hl (by decide) rfl (fun ls hl => ?_)
        refine lv_iinc (v := (nI (k + 1))) (lv' := [(3, .int (nI (k + 1))), (2, .int (set ||| (seenS (u.1 25) (u.2.1 21) (u.2.1 22) (u.2.1 23) ((u.2.1 20) h) (nI k)))), (0, .ref (R 0)), (1, .int (nI h))]) hx hb dX1_seenEver_19 hl (k := 3) rfl (nI_inc k) (by decide) rfl (fun ls hl => ?_)
        refine lv_goto (tgt := 4) hx hb dX1_seenEver_22 (by decide) ?_
        exact ih4 (k + 1) (set ||| (seenS (u.1 25) (u.2.1 21) (u.2.1 22) (u.2.1 23) ((u.2.1 20) h) (nI k))) ls (by omega) (by first | omega | assumption | rfl | (simp_all; done) | grind) (by (clear hq hK hts hC hx hb ho hRm hl hP ih4); grind [orI])  (lv_sub hl [2, 3, 1, 0] rfl)
  exact LP4 _ 0 0 ls (Nat.lt_succ_self _) (by first | omega | assumption | rfl | (simp_all; done) | grind) (rfl)  (lv_sub hl [2, 3, 1, 0] rfl)
