set_option maxRecDepth 100000
set_option maxHeartbeats 4000000 in
theorem c_X6_swaps (G : GG) (l : Launch) (o : Nat) (R : Nat → Nat) (u : MS) (n0 : Int32) (k0 : Int32) (hD : DM o R) : CMi G l o R yX6_swaps cX6_swaps 6 .int 6 108 [.int n0, .int k0] u (fun r w => ∃ g : Nat → Int32, r = (swapsI (u.2.1 10) (u.1 11) n0 k0) ∧ w = (if swapsG (u.1 11) n0 k0 = true then mS (mV u 11 0) 56 g else u)) := by
  refine CMi.mk pnX6 rfl (Nat.le_of_ble_eq_true rfl) (fun pg en Rm sg mm ar bw mth cd QQ ls hC hRm hK hP hS hl hq => ?_)
  have hx := hC.1; have hb := hC.2.1; have ho := hC.2.2.2.1; have hts := hC.2.2.2.2
  have hl : lv_has ls 6 [(0, .ref o), (1, .int n0), (2, .int k0)] := hl
  refine lv_iload_n hx hb dX6_swaps_0 rfl (lv_at hl 1 rfl) ?_
  refine lv_iconst (v := 2) hx hb dX6_swaps_1 (by decide) ?_
  refine lv_bipush (v := 8) hx hb dX6_swaps_2 (by decide) ?_
  refine CI.callS hC hK hl (c_X6_in G l n0 2 8 ) trivial q1392 q1393 q116 q1394 mdX6_in (room_ok hRm rfl) rfl rfl dX6_swaps_4 ?_
  refine lv_if_eq (tgt := 29) hx hb dX6_swaps_7 (by decide) (fun c7 => ?_) (fun c7 => ?_)
  · have c7 : (inB n0 2 8) = false := bI_0.mp c7
    refine lv_iconst (v := (-1)) hx hb dX6_swaps_29 (by decide) ?_
    exact hq _ _ _ _ _ _ dX6_swaps_30 hP hS (rfl) (by exact ⟨u.2.1 0, by first | (simp [swapsI, swapsG, c7]; done) | (simp [swapsI, swapsG, c7, c16]; done) | (simp [swapsI, swapsG, c7, c16, c26]; done), by first | (simp [swapsG, c7]; done) | (simp [swapsG, c7, c16]; done) | (simp [swapsG, c7, c16, c26]; done)⟩)
  · have c7 : (inB n0 2 8) = true := bI_1.mp c7
    obtain ⟨n, hn1, hn, rfl, hnx⟩ := inB_nI2 2 8 (by decide) (by decide) c7
    have hl : lv_has ls 6 [(0, .ref o), (1, .int (nI n)), (2, .int k0)] := hl
    refine lv_iload_n hx hb dX6_swaps_10 rfl (lv_at hl 2 rfl) ?_
    refine lv_iconst (v := 0) hx hb dX6_swaps_11 (by decide) ?_
    refine lv_iconst (v := 1) hx hb dX6_swaps_12 (by decide) ?_
    refine CI.callS hC hK hl (c_X6_in G l k0 0 1 ) trivial q1392 q1393 q116 q1394 mdX6_in (room_ok hRm rfl) rfl rfl dX6_swaps_13 ?_
    refine lv_if_eq (tgt := 29) hx hb dX6_swaps_16 (by decide) (fun c16 => ?_) (fun c16 => ?_)
    · have c16 : (inB k0 0 1) = false := bI_0.mp c16
      refine lv_iconst (v := (-1)) hx hb dX6_swaps_29 (by decide) ?_
      exact hq _ _ _ _ _ _ dX6_swaps_30 hP hS (rfl) (by exact ⟨u.2.1 0, by first | (simp [swapsI, swapsG, c7]; done) | (simp [swapsI, swapsG, c7, c16]; done) | (simp [swapsI, swapsG, c7, c16, c26]; done), by first | (simp [swapsG, c7]; done) | (simp [swapsG, c7, c16]; done) | (simp [swapsG, c7, c16, c26]; done)⟩)
    · have c16 : (inB k0 0 1) = true := bI_1.mp c16
      refine lv_iload_n hx hb dX6_swaps_19 rfl (lv_at hl 1 rfl) ?_
      refine lv_iload_n hx hb dX6_swaps_20 rfl (lv_at hl 1 rfl) ?_
      refine lv_imul hx hb dX6_swaps_21 ?_
      refine lv_aload_n hx hb dX6_swaps_22 rfl (lv_at hl 0 rfl) ?_
      refine M_get (v := .int (u.1 11)) hC hK hP 11 (by decide) (fM11 _ _) q1212 dX6_swaps_23 ?_
      refine lv_icmp_le (tgt := 31) hx hb dX6_swaps_26 (by decide) (fun c26 => ?_) (fun c26 => ?_)
      · refine lv_aload_n hx hb dX6_swaps_31 rfl (lv_at hl 0 rfl) ?_
        refine lv_iconst (v := 0) hx hb dX6_swaps_32 (by decide) ?_
        refine M_put hC hK hD hP hS 11 (by decide) (sM11 _ _ _) q1212 rfl dX6_swaps_33 (fun H locs hP hS => ?_)
        refine lv_iload_n hx hb dX6_swaps_36 rfl (lv_at hl 2 rfl) ?_
        refine lv_iconst (v := 1) hx hb dX6_swaps_37 (by decide) ?_
        refine lv_icmp_ne (tgt := 47) hx hb dX6_swaps_38 (by decide) (fun c38 => ?_) (fun c38 => ?_)
        · refine lv_iconst (v := 0) hx hb dX6_swaps_47 (by decide) ?_
          refine lv_istore_n (lv' := [(3, .int 0), (0, .ref o), (1, .int (nI n)), (2, .int k0)]) hx hb dX6_swaps_48 rfl hl (by decide) rfl (fun ls hl => ?_)
          refine lv_iconst (v := 0) hx hb dX6_swaps_49 (by decide) ?_
          refine lv_istore (lv' := [(4, .int 0), (3, .int 0), (0, .ref o), (1, .int (nI n)), (2, .int k0)]) hx hb dX6_swaps_50 hl (by decide) rfl (fun ls hl => ?_)
          have LP52 : ∀ (fu52 : Nat) (aa : Nat) (ma : Int32) (ls : Array Slot), n - aa < fu52 → aa ≤ n → ma = twC (bothB (u.2.1 10) n) aa → lv_has ls 6 [(0, .ref o), (1, .int (nI n)), (2, .int k0), (3, .int ma), (4, .int (nI aa))] → W pg l en Rm sg mm ar bw mth cd H locs 0 0 QQ (F0 mm 52 ls []) := by
            intro fu52
            induction fu52 with
            | zero => intro aa ma ls hm52 haa hma hl; exact absurd hm52 (Nat.not_lt_zero _)
            | succ fu52 ih52 =>
              intro aa ma ls hm52 haa hma hl
              refine lv_iload hx hb dX6_swaps_52 (lv_at hl 4 rfl) ?_
              refine lv_iload_n hx hb dX6_swaps_54 rfl (lv_at hl 1 rfl) ?_
              refine lv_icmp_ge (tgt := 96) hx hb dX6_swaps_55 (by decide) (fun c55 => ?_) (fun c55 => ?_)
              · have c55 : n ≤ aa := (nI_leI (a := n) (b := aa) (by omega) (by omega)).mp c55
                refine lv_iload_n hx hb dX6_swaps_96 rfl (lv_at hl 3 rfl) ?_
                exact hq _ _ _ _ _ _ dX6_swaps_97 hP hS (rfl) (by have hg : swapsG (u.1 11) (nI n) k0 = true := (by simp [swapsG, c7, c16, c26]); have hf : aa = n := (by omega); subst hf; exact ⟨(u.2.1 56), by rw [swapsI, if_pos hg, if_neg c38, hnx, hma], by rw [if_pos hg]; exact (mS_self (mV u 11 0) 56).symm⟩)
              · have c55 : ¬ (n ≤ aa) := mt (nI_leI (a := n) (b := aa) (by omega) (by omega)).mpr c55
                refine lv_iconst (v := 0) hx hb dX6_swaps_58 (by decide) ?_
                refine lv_istore (lv' := [(5, .int 0), (0, .ref o), (1, .int (nI n)), (2, .int k0), (3, .int ma), (4, .int (nI aa))]) hx hb dX6_swaps_59 hl (by decide) rfl (fun ls hl => ?_)
                have LP61 : ∀ (fu61 : Nat) (kb : Nat) (mb : Int32) (ls : Array Slot), aa - kb < fu61 → kb ≤ aa → mb = twR (bothB (u.2.1 10) n) aa (twC (bothB (u.2.1 10) n) aa) kb → lv_has ls 6 [(0, .ref o), (1, .int (nI n)), (2, .int k0), (3, .int mb), (4, .int (nI aa)), (5, .int (nI kb))] → W pg l en Rm sg mm ar bw mth cd H locs 0 0 QQ (F0 mm 61 ls []) := by
                  intro fu61
                  induction fu61 with
                  | zero => intro kb mb ls hm61 hkb hmb hl; exact absurd hm61 (Nat.not_lt_zero _)
                  | succ fu61 ih61 =>
                    intro kb mb ls hm61 hkb hmb hl
                    refine lv_iload hx hb dX6_swaps_61 (lv_at hl 5 rfl) ?_
                    refine lv_iload hx hb dX6_swaps_63 (lv_at hl 4 rfl) ?_
                    refine lv_icmp_ge (tgt := 90) hx hb dX6_swaps_65 (by decide) (fun c65 => ?_) (fun c65 => ?_)
                    · have c65 : aa ≤ kb := (nI_leI (a := aa) (b := kb) (by omega) (by omega)).mp c65
                      refine lv_iinc (v := (nI (aa + 1))) (lv' := [(4, .int (nI (aa + 1))), (0, .ref o), (1, .int (nI n)), (2, .int k0), (3, .int mb), (5, .int (nI kb))]) hx hb dX6_swaps_90 hl (k := 4) rfl (nI_inc aa) (by decide) rfl (fun ls hl => ?_)
                      refine lv_goto (tgt := 52) hx hb dX6_swaps_93 (by decide) ?_
                      exact ih52 (aa + 1) mb ls (by omega) (by first | omega | assumption | rfl | (simp_all; done) | grind) (by rw [hmb, show kb = aa by omega]; rfl)  (lv_sub hl [1, 2, 3, 4, 0] rfl)
                    · have c65 : ¬ (aa ≤ kb) := mt (nI_leI (a := aa) (b := kb) (by omega) (by omega)).mpr c65
                      refine lv_aload_n hx hb dX6_swaps_68 rfl (lv_at hl 0 rfl) ?_
                      refine lv_iload_n hx hb dX6_swaps_69 rfl (lv_at hl 1 rfl) ?_
                      refine lv_iload hx hb dX6_swaps_70 (lv_at hl 4 rfl) ?_
                      refine lv_iload hx hb dX6_swaps_72 (lv_at hl 5 rfl) ?_
                      refine CI.callV hC hK hl (c_X6_bothWould G l o R (mV u 11 0) n aa kb (by first | assumption | omega | rfl | (simp_all; done)) (by first | assumption | omega | rfl | (simp_all; done)) (by first | assumption | omega | rfl | (simp_all; done))) hP (hP.recv hK) q1766 q1768 qs104 q116 q1769 mdX6_bothWould (room_ok hRm rfl) rfl rfl dX6_swaps_74 ?_
                      refine W_top (y := (bI (bothB (u.2.1 10) n aa kb))) rfl ?_
                      refine lv_if_eq (tgt := 84) hx hb dX6_swaps_77 (by decide) (fun c77 => ?_) (fun c77 => ?_)
                      · have c77 : (bothB (u.2.1 10) n aa kb) = false := bI_0.mp c77
                        refine lv_iinc (v := (nI (kb + 1))) (lv' := [(5, .int (nI (kb + 1))), (0, .ref o), (1, .int (nI n)), (2, .int k0), (3, .int mb), (4, .int (nI aa))]) hx hb dX6_swaps_84 hl (k := 5) rfl (nI_inc kb) (by decide) rfl (fun ls hl => ?_)
                        refine lv_goto (tgt := 61) hx hb dX6_swaps_87 (by decide) ?_
                        exact ih61 (kb + 1) mb ls (by omega) (by first | omega | assumption | rfl | (simp_all; done) | grind) (by (clear hq hP hK hts hC hx hb ho hRm hl hS ih52 ih61); grind [twR])  (lv_sub hl [1, 2, 3, 4, 5, 0] rfl)
                      · have c77 : (bothB (u.2.1 10) n aa kb) = true := bI_1.mp c77
                        refine lv_iload_n hx hb dX6_swaps_80 rfl (lv_at hl 3 rfl) ?_
                        refine lv_iconst (v := 1) hx hb dX6_swaps_81 (by decide) ?_
                        refine lv_iadd hx hb dX6_swaps_82 ?_
                        refine lv_istore_n (lv' := [(3, .int (mb + 1)), (0, .ref o), (1, .int (nI n)), (2, .int k0), (4, .int (nI aa)), (5, .int (nI kb))]) hx hb dX6_swaps_83 rfl hl (by decide) rfl (fun ls hl => ?_)
                        refine lv_iinc (v := (nI (kb + 1))) (lv' := [(5, .int (nI (kb + 1))), (3, .int (mb + 1)), (0, .ref o), (1, .int (nI n)), (2, .int k0), (4, .int (nI aa))]) hx hb dX6_swaps_84 hl (k := 5) rfl (nI_inc kb) (by decide) rfl (fun ls hl => ?_)
                        refine lv_goto (tgt := 61) hx hb dX6_swaps_87 (by decide) ?_
                        exact ih61 (kb + 1) (mb + 1) ls (by omega) (by first | omega | assumption | rfl | (simp_all; done) | grind) (by (clear hq hP hK hts hC hx hb ho hRm hl hS ih52 ih61); grind [twR])  (lv_sub hl [2, 3, 4, 1, 5, 0] rfl)
                exact LP61 _ 0 ma ls (Nat.lt_succ_self _) (by first | omega | assumption | rfl | (simp_all; done) | grind) (hma)  (lv_sub hl [1, 2, 3, 4, 5, 0] rfl)
          exact LP52 _ 0 0 ls (Nat.lt_succ_self _) (by first | omega | assumption | rfl | (simp_all; done) | grind) (rfl)  (lv_sub hl [2, 3, 4, 1, 0] rfl)
        · refine lv_aload_n hx hb dX6_swaps_41 rfl (lv_at hl 0 rfl) ?_
          refine lv_iload_n hx hb dX6_swaps_42 rfl (lv_at hl 1 rfl) ?_
          refine CMi.call hC hK hS (fun q h => h) hl (c_X6_mostAtOnce G l o R (mV u 11 0) n (by first | assumption | omega | rfl | (simp_all; done)) (by first | assumption | omega | rfl | (simp_all; done)) hD) hP rfl q1762 q1764 qs103 q116 q1765 mdX6_mostAtOnce (room_ok hRm rfl) rfl rfl dX6_swaps_43 (fun r43 w43 H locs hpo hP _ _ hS => ?_)
          obtain ⟨g_1, er43, ew43⟩ := hpo
          rw [ew43] at hP
          refine W_top (y := (nI (mwF (bothB (u.2.1 10) n) n (2 ^ n - 1)))) er43 ?_
          exact hq _ _ _ _ _ _ dX6_swaps_46 hP hS (rfl) (by have hg : swapsG (u.1 11) (nI n) k0 = true := (by simp [swapsG, c7, c16, c26]); exact ⟨_, by rw [swapsI, if_pos hg, if_pos c38, hnx], by rw [if_pos hg]⟩)
      · refine lv_iconst (v := (-1)) hx hb dX6_swaps_29 (by decide) ?_
        exact hq _ _ _ _ _ _ dX6_swaps_30 hP hS (rfl) (by exact ⟨u.2.1 0, by first | (simp [swapsI, swapsG, c7]; done) | (simp [swapsI, swapsG, c7, c16]; done) | (simp [swapsI, swapsG, c7, c16, c26]; done), by first | (simp [swapsG, c7]; done) | (simp [swapsG, c7, c16]; done) | (simp [swapsG, c7, c16, c26]; done)⟩)
set_option maxHeartbeats 4000000 in
theorem c_X6_laysSale (G : GG) (l : Launch) (o : Nat) (R : Nat → Nat) (u : MS) (n : Nat) (hn2 : 2 ≤ n) (hn : n ≤ 8) (hD : DM o R) : CMv G l o R yX6_laysSale cX6_laysSale 5 4 60 [.int (nI n)] u (fun w => ∃ g : Nat → Int32, (∀ i, i < 2 ^ n → g i = nI (slF (u.2.1 10) n i)) ∧ w = (mS u 56 g)) := by
  refine CMv.mk pnX6 rfl (Nat.le_of_ble_eq_true rfl) (fun pg en Rm sg mm ar bw mth cd QQ ls hC hRm hK hP hS hl hq => ?_)
  have hx := hC.1; have hb := hC.2.1; have ho := hC.2.2.2.1; have hts := hC.2.2.2.2
  have hl : lv_has ls 5 [(0, .ref o), (1, .int (nI n))] := hl
  have hp2 := pow_le8 hn
  have hp3 := Nat.two_pow_pos n
  refine lv_iconst (v := 1) hx hb dX6_laysSale_0 (by decide) ?_
  refine lv_iload_n hx hb dX6_laysSale_1 rfl (lv_at hl 1 rfl) ?_
  refine lv_ishl hx hb dX6_laysSale_2 ?_
  refine W_top (y := (nI (2 ^ n))) (shl1 n (by omega)) ?_
  refine lv_iconst (v := 1) hx hb dX6_laysSale_3 (by decide) ?_
  refine lv_isub hx hb dX6_laysSale_4 ?_
  refine lv_istore_n (lv' := [(2, .int ((nI (2 ^ n)) - 1)), (0, .ref o), (1, .int (nI n))]) hx hb dX6_laysSale_5 rfl hl (by decide) rfl (fun ls hl => ?_)
  have hP : PM G o R (mS u 56 (u.2.1 56)) sg.heap := by rw [show (u.2.1 56) = (u.2.1 56) from rfl, mS_self]; exact hP
  have LP6 : ∀ (fu6 : Nat) (q : Nat) (x : Int32) (g : Nat → Int32) (H : Heap) (locs : List Loc) (ls : Array Slot), q < fu6 → q ≤ 2 ^ n → x = nI q - 1 → (∀ i, q ≤ i → i < 2 ^ n → g i = nI (slF (u.2.1 10) n i)) → PM G o R (mS u 56 g) H → va_S (AM o R) sg.heap H locs → lv_has ls 5 [(0, .ref o), (1, .int (nI n)), (2, .int x)] → W pg l en Rm sg mm ar bw mth cd H locs 0 0 QQ (F0 mm 6 ls []) := by
    intro fu6
    induction fu6 with
    | zero => intro q x g H locs ls hm6 hq2 hxq hg hP hS hl; exact absurd hm6 (Nat.not_lt_zero _)
    | succ fu6 ih6 =>
      intro q x g H locs ls hm6 hq2 hxq hg hP hS hl
      rcases q with _ | s
      · have hx0 : x = -1 := by rw [hxq]; rfl
        subst hx0
        have hl : lv_has ls 5 [(0, .ref o), (1, .int (nI n)), (2, .int (-1))] := hl
        refine lv_iload_n hx hb dX6_laysSale_6 rfl (lv_at hl 2 rfl) ?_
        refine lv_if_lt (tgt := 87) hx hb dX6_laysSale_7 (by decide) (fun c7 => ?_) (fun c7 => ?_)
        · exact hq _ _ _ _ _ dX6_laysSale_87 hP hS (by exact ⟨g, fun i hi => hg i (Nat.zero_le _) hi, rfl⟩)
        · exact absurd c7 (by decide)
      · have hx0 : x = nI s := by rw [hxq]; exact nI_pred s
        subst hx0
        have hl : lv_has ls 5 [(0, .ref o), (1, .int (nI n)), (2, .int (nI s))] := hl
        refine lv_iload_n hx hb dX6_laysSale_6 rfl (lv_at hl 2 rfl) ?_
        refine lv_if_lt (tgt := 87) hx hb dX6_laysSale_7 (by decide) (fun c7 => ?_) (fun c7 => ?_)
        · exact absurd c7 (nI_pos (by omega))
        · refine lv_iload_n hx hb dX6_laysSale_10 rfl (lv_at hl 2 rfl) ?_
          refine CI.callS hC hK hl (c_X6_bits G l (nI s) ) trivial q1580 q1581 q116 q1582 mdX6_bits (room_ok hRm rfl) rfl rfl dX6_laysSale_11 ?_
          refine W_top (y := (bitsI (nI s))) rfl ?_
          refine W_top (y := (nI (cntN s))) (bitsI_nI s) ?_
          refine lv_istore_n (lv' := [(3, .int (nI (cntN s))), (0, .ref o), (1, .int (nI n)), (2, .int (nI s))]) hx hb dX6_laysSale_14 rfl hl (by decide) rfl (fun ls hl => ?_)
          refine lv_aload_n hx hb dX6_laysSale_15 rfl (lv_at hl 1 rfl) ?_
          refine M_get hC hK hP 56 (by decide) (fM56 _ _) q1257 dX6_laysSale_16 ?_
          refine lv_iload_n hx hb dX6_laysSale_19 rfl (lv_at hl 3 rfl) ?_
          refine lv_iconst (v := 0) hx hb dX6_laysSale_20 (by decide) ?_
          refine M_ast hC hK hD hP hS 56 37 256 s (aM56 _ _ _ _) (bM56 _ _ _ _ _ _) (by decide) (rfl) (by omega) dX6_laysSale_21 (fun H locs hP hS => ?_)
          rw [mS_A] at hP
          refine lv_iconst (v := 0) hx hb dX6_laysSale_22 (by decide) ?_
          refine lv_istore (lv' := [(4, .int 0), (3, .int (nI (cntN s))), (0, .ref o), (1, .int (nI n)), (2, .int (nI s))]) hx hb dX6_laysSale_23 hl (by decide) rfl (fun ls hl => ?_)
          have LP25 : ∀ (fu25 : Nat) (k : Nat) (g : Nat → Int32) (H : Heap) (locs : List Loc) (ls : Array Slot), n - k < fu25 → k ≤ n → (∀ i, s < i → i < 2 ^ n → g i = nI (slF (u.2.1 10) n i) ∧ True) → g s = nI (slI (u.2.1 10) n (slF (u.2.1 10) n) s k) → PM G o R (mS u 56 g) H → va_S (AM o R) sg.heap H locs → lv_has ls 5 [(0, .ref o), (1, .int (nI n)), (2, .int (nI s)), (3, .int (nI (cntN s))), (4, .int (nI k))] → W pg l en Rm sg mm ar bw mth cd H locs 0 0 QQ (F0 mm 25 ls []) := by
            intro fu25
            induction fu25 with
            | zero => intro k g H locs ls hm25 hk hgk hgs hP hS hl; exact absurd hm25 (Nat.not_lt_zero _)
            | succ fu25 ih25 =>
              intro k g H locs ls hm25 hk hgk hgs hP hS hl
              refine lv_iload hx hb dX6_laysSale_25 (lv_at hl 4 rfl) ?_
              refine lv_iload_n hx hb dX6_laysSale_27 rfl (lv_at hl 1 rfl) ?_
              refine lv_icmp_ge (tgt := 81) hx hb dX6_laysSale_28 (by decide) (fun c28 => ?_) (fun c28 => ?_)
              · have c28 : n ≤ k := (nI_leI (a := n) (b := k) (by omega) (by omega)).mp c28
                refine lv_iinc (v := ((nI s) + (-1))) (lv' := [(2, .int ((nI s) + (-1))), (0, .ref o), (1, .int (nI n)), (3, .int (nI (cntN s))), (4, .int (nI k))]) hx hb dX6_laysSale_81 hl (k := 2) rfl (rfl) (by decide) rfl (fun ls hl => ?_)
                refine lv_goto (tgt := 6) hx hb dX6_laysSale_84 (by decide) ?_
                exact ih6 s ((nI s) + (-1)) g _ _ ls (by omega) (by first | omega | assumption | rfl | (simp_all; done) | grind) (by rw [Int32.sub_eq_add_neg]) (by intro i h1 h2; by_cases e : i = s; (rw [e, hgs, show k = n by omega, ← slF_eq (show s < 2 ^ n by omega)]); exact (hgk i (by omega) h2).1) hP hS (lv_sub hl [1, 2, 0] rfl)
              · have c28 : ¬ (n ≤ k) := mt (nI_leI (a := n) (b := k) (by omega) (by omega)).mpr c28
                refine lv_iload_n hx hb dX6_laysSale_31 rfl (lv_at hl 2 rfl) ?_
                refine lv_iload hx hb dX6_laysSale_32 (lv_at hl 4 rfl) ?_
                refine CI.callS hC hK hl (c_X6_has G l (nI s) (nI k) ) trivial q1399 q1400 q116 q1401 mdX6_has (room_ok hRm rfl) rfl rfl dX6_laysSale_34 ?_
                refine W_top (y := (bI (hasB (nI s) (nI k)))) rfl ?_
                refine lv_if_ne (tgt := 75) hx hb dX6_laysSale_37 (by decide) (fun c37 => ?_) (fun c37 => ?_)
                · have c37 : (hasB (nI s) (nI k)) = true := bI_1.mp c37
                  rw [hasB_nI _ (by omega)] at c37
                  refine lv_iinc (v := (nI (k + 1))) (lv' := [(4, .int (nI (k + 1))), (0, .ref o), (1, .int (nI n)), (2, .int (nI s)), (3, .int (nI (cntN s)))]) hx hb dX6_laysSale_75 hl (k := 4) rfl (nI_inc k) (by decide) rfl (fun ls hl => ?_)
                  refine lv_goto (tgt := 25) hx hb dX6_laysSale_78 (by decide) ?_
                  exact ih25 (k + 1) g _ _ ls (by omega) (by first | omega | assumption | rfl | (simp_all; done) | grind) (by first | exact hgk | exact fun i h1 h2 => ⟨by rw [upd_n _ (by omega)]; exact (hgk i h1 h2).1, trivial⟩) (by first | (rw [hgs, slI_u c37]; done) | (rw [upd_s, slI_p c37]; done)) hP hS (lv_sub hl [1, 2, 3, 4, 0] rfl)
                · have c37 : (hasB (nI s) (nI k)) = false := bI_0.mp c37
                  rw [hasB_nI _ (by omega)] at c37
                  refine lv_aload_n hx hb dX6_laysSale_40 rfl (lv_at hl 0 rfl) ?_
                  refine M_get hC hK hP 56 (by decide) (fM56 _ _) q1257 dX6_laysSale_41 ?_
                  refine lv_iload_n hx hb dX6_laysSale_44 rfl (lv_at hl 2 rfl) ?_
                  refine lv_aload_n hx hb dX6_laysSale_45 rfl (lv_at hl 0 rfl) ?_
                  refine M_get hC hK hP 56 (by decide) (fM56 _ _) q1257 dX6_laysSale_46 ?_
                  refine lv_iload_n hx hb dX6_laysSale_49 rfl (lv_at hl 2 rfl) ?_
                  refine M_ald hC hK hP 56 37 256 s (aM56 _ _ _ _) (by decide) (rfl) (by omega) dX6_laysSale_50 ?_
                  refine W_top (y := (g s)) rfl ?_
                  refine W_top (y := (nI (slI (u.2.1 10) n (slF (u.2.1 10) n) s k))) (hgs) ?_
                  refine lv_aload_n hx hb dX6_laysSale_51 rfl (lv_at hl 0 rfl) ?_
                  refine lv_iload_n hx hb dX6_laysSale_52 rfl (lv_at hl 1 rfl) ?_
                  refine lv_iload_n hx hb dX6_laysSale_53 rfl (lv_at hl 3 rfl) ?_
                  refine lv_iload hx hb dX6_laysSale_54 (lv_at hl 4 rfl) ?_
                  have hcn := cntN_miss (n := n) (by omega) (show s < 2 ^ n by omega) (by omega) c37
                  have hw1 : n * cntN s + n ≤ n * n := by have := Nat.mul_le_mul (Nat.le_refl n) (show cntN s + 1 ≤ n from hcn); rw [Nat.mul_add, Nat.mul_one] at this; exact this
                  have hw2 := Nat.mul_le_mul hn hn
                  have hor := or_gt c37
                  have hol := or_lt (n := n) (show s < 2 ^ n by omega) (show k < n by omega)
                  refine CI.callV hC hK hl (c_X6_worth G l o R (mS u 56 g) n (cntN s) k (by first | assumption | omega | rfl | (simp_all; done))) hP (hP.recv hK) q1770 q1772 qs105 q116 q1773 mdX6_worth (room_ok hRm rfl) rfl rfl dX6_laysSale_56 ?_
                  refine W_top (y := (nI (worN (u.2.1 10) n (cntN s) k))) rfl ?_
                  refine lv_aload_n hx hb dX6_laysSale_59 rfl (lv_at hl 0 rfl) ?_
                  refine M_get hC hK hP 56 (by decide) (fM56 _ _) q1257 dX6_laysSale_60 ?_
                  refine lv_iload_n hx hb dX6_laysSale_63 rfl (lv_at hl 2 rfl) ?_
                  refine lv_iconst (v := 1) hx hb dX6_laysSale_64 (by decide) ?_
                  refine lv_iload hx hb dX6_laysSale_65 (lv_at hl 4 rfl) ?_
                  refine lv_ishl hx hb dX6_laysSale_67 ?_
                  refine W_top (y := (nI (2 ^ k))) (shl1 k (by omega)) ?_
                  refine lv_ior hx hb dX6_laysSale_68 ?_
                  refine W_top (y := (nI (s ||| 2 ^ k))) (nI_or _ _) ?_
                  refine M_ald hC hK hP 56 37 256 (s ||| 2 ^ k) (aM56 _ _ _ _) (by decide) (rfl) (by omega) dX6_laysSale_69 ?_
                  refine W_top (y := (g (s ||| 2 ^ k))) rfl ?_
                  refine W_top (y := (nI (slF (u.2.1 10) n (s ||| 2 ^ k)))) ((hgk _ hor hol).1) ?_
                  refine lv_iadd hx hb dX6_laysSale_70 ?_
                  refine W_top (nI_add (worN (u.2.1 10) n (cntN s) k) (slF (u.2.1 10) n (s ||| 2 ^ k))) ?_
                  have hb1 := rd_b (f := (u.2.1 10)) (n := n) (s := s) (t := k) hn (by omega) k
                  have hb2 := slF_b (u.2.1 10) (n := n) (s ||| 2 ^ k) hp2
                  have hb3 : worN (u.2.1 10) n (cntN s) k < 256 := ocN_lt _ _
                  refine CI.callS hC hK hl (c_X6_max G l (nI (slI (u.2.1 10) n (slF (u.2.1 10) n) s k)) (nI ((worN (u.2.1 10) n (cntN s) k) + (slF (u.2.1 10) n (s ||| 2 ^ k)))) ) trivial q1631 q1632 q116 q1633 mdX6_max (room_ok hRm rfl) rfl rfl dX6_laysSale_71 ?_
                  refine W_top (y := (mxI (nI (slI (u.2.1 10) n (slF (u.2.1 10) n) s k)) (nI ((worN (u.2.1 10) n (cntN s) k) + (slF (u.2.1 10) n (s ||| 2 ^ k)))))) rfl ?_
                  refine W_top (y := (nI (max (slI (u.2.1 10) n (slF (u.2.1 10) n) s k) (worN (u.2.1 10) n (cntN s) k + slF (u.2.1 10) n (s ||| 2 ^ k))))) (mxI_nI (by omega) (by omega)) ?_
                  refine M_ast hC hK hD hP hS 56 37 256 s (aM56 _ _ _ _) (bM56 _ _ _ _ _ _) (by decide) (rfl) (by omega) dX6_laysSale_74 (fun H locs hP hS => ?_)
                  rw [mS_A] at hP
                  refine lv_iinc (v := (nI (k + 1))) (lv' := [(4, .int (nI (k + 1))), (0, .ref o), (1, .int (nI n)), (2, .int (nI s)), (3, .int (nI (cntN s)))]) hx hb dX6_laysSale_75 hl (k := 4) rfl (nI_inc k) (by decide) rfl (fun ls hl => ?_)
                  refine lv_goto (tgt := 25) hx hb dX6_laysSale_78 (by decide) ?_
                  exact ih25 (k + 1) (upd g s (nI (max (slI (u.2.1 10) n (slF (u.2.1 10) n) s k) (worN (u.2.1 10) n (cntN s) k + slF (u.2.1 10) n (s ||| 2 ^ k))))) _ _ ls (by omega) (by first | omega | assumption | rfl | (simp_all; done) | grind) (by first | exact hgk | exact fun i h1 h2 => ⟨by rw [upd_n _ (by omega)]; exact (hgk i h1 h2).1, trivial⟩) (by first | (rw [hgs, slI_u c37]; done) | (rw [upd_s, slI_p c37]; done)) hP hS (lv_sub hl [1, 2, 3, 4, 0] rfl)
          exact LP25 _ 0 (upd g s 0) _ _ ls (Nat.lt_succ_self _) (by first | omega | assumption | rfl | (simp_all; done) | grind) (fun i h1 h2 => ⟨by rw [upd_n _ (by omega)]; exact hg i (by omega) h2, trivial⟩) (upd_s _ _ _) hP hS (lv_sub hl [2, 3, 4, 1, 0] rfl)
  exact LP6 _ (2 ^ n) ((nI (2 ^ n)) - 1) (u.2.1 56) _ _ ls (Nat.lt_succ_self _) (by first | omega | assumption | rfl | (simp_all; done) | grind) (rfl) (fun i h1 h2 => absurd h1 (by omega)) hP hS (lv_sub hl [1, 2, 0] rfl)
set_option maxHeartbeats 4000000 in
theorem c_X6_sale (G : GG) (l : Launch) (o : Nat) (R : Nat → Nat) (u : MS) (n0 : Int32) (k0 : Int32) (hD : DM o R) : CMi G l o R yX6_sale cX6_sale 6 .int 5 84 [.int n0, .int k0] u (fun r w => ∃ g : Nat → Int32, r = (saleI (u.2.1 10) (u.1 11) n0 k0) ∧ w = (if saleG (u.1 11) n0 k0 = true then mS (mV u 11 0) 56 g else u)) := by
  refine CMi.mk pnX6 rfl (Nat.le_of_ble_eq_true rfl) (fun pg en Rm sg mm ar bw mth cd QQ ls hC hRm hK hP hS hl hq => ?_)
  have hx := hC.1; have hb := hC.2.1; have ho := hC.2.2.2.1; have hts := hC.2.2.2.2
  have hl : lv_has ls 6 [(0, .ref o), (1, .int n0), (2, .int k0)] := hl
  refine lv_iload_n hx hb dX6_sale_0 rfl (lv_at hl 1 rfl) ?_
  refine lv_iconst (v := 2) hx hb dX6_sale_1 (by decide) ?_
  refine lv_bipush (v := 8) hx hb dX6_sale_2 (by decide) ?_
  refine CI.callS hC hK hl (c_X6_in G l n0 2 8 ) trivial q1392 q1393 q116 q1394 mdX6_in (room_ok hRm rfl) rfl rfl dX6_sale_4 ?_
  refine lv_if_eq (tgt := 37) hx hb dX6_sale_7 (by decide) (fun c7 => ?_) (fun c7 => ?_)
  · have c7 : (inB n0 2 8) = false := bI_0.mp c7
    refine lv_iconst (v := (-1)) hx hb dX6_sale_37 (by decide) ?_
    exact hq _ _ _ _ _ _ dX6_sale_38 hP hS (rfl) (by exact ⟨u.2.1 0, by first | (simp [saleI, saleG, c7]; done) | (simp [saleI, saleG, c7, c18, c24]; done) | (simp [saleI, saleG, c7, c18, c34]; done) | (simp [saleI, saleG, c7, c18, c24, c34]; done), by first | (simp [saleG, c7]; done) | (simp [saleG, c7, c18, c24]; done) | (simp [saleG, c7, c18, c34]; done) | (simp [saleG, c7, c18, c24, c34]; done)⟩)
  · have c7 : (inB n0 2 8) = true := bI_1.mp c7
    obtain ⟨n, hn1, hn, rfl, hnx⟩ := inB_nI2 2 8 (by decide) (by decide) c7
    have hl : lv_has ls 6 [(0, .ref o), (1, .int (nI n)), (2, .int k0)] := hl
    have hp2 := pow_le8 hn
    have hp3 := Nat.two_pow_pos n
    refine lv_iload_n hx hb dX6_sale_10 rfl (lv_at hl 2 rfl) ?_
    refine lv_iconst (v := 0) hx hb dX6_sale_11 (by decide) ?_
    refine lv_iload_n hx hb dX6_sale_12 rfl (lv_at hl 1 rfl) ?_
    refine lv_iconst (v := 1) hx hb dX6_sale_13 (by decide) ?_
    refine lv_isub hx hb dX6_sale_14 ?_
    refine CI.callS hC hK hl (c_X6_in G l k0 0 ((nI n) - 1) ) trivial q1392 q1393 q116 q1394 mdX6_in (room_ok hRm rfl) rfl rfl dX6_sale_15 ?_
    refine lv_if_ne (tgt := 27) hx hb dX6_sale_18 (by decide) (fun c18 => ?_) (fun c18 => ?_)
    · have c18 : (inB k0 0 ((nI n) - 1)) = true := bI_1.mp c18
      refine lv_iload_n hx hb dX6_sale_27 rfl (lv_at hl 1 rfl) ?_
      refine lv_iload_n hx hb dX6_sale_28 rfl (lv_at hl 1 rfl) ?_
      refine lv_imul hx hb dX6_sale_29 ?_
      refine lv_aload_n hx hb dX6_sale_30 rfl (lv_at hl 0 rfl) ?_
      refine M_get (v := .int (u.1 11)) hC hK hP 11 (by decide) (fM11 _ _) q1212 dX6_sale_31 ?_
      refine lv_icmp_le (tgt := 39) hx hb dX6_sale_34 (by decide) (fun c34 => ?_) (fun c34 => ?_)
      · refine lv_aload_n hx hb dX6_sale_39 rfl (lv_at hl 0 rfl) ?_
        refine lv_iconst (v := 0) hx hb dX6_sale_40 (by decide) ?_
        refine M_put hC hK hD hP hS 11 (by decide) (sM11 _ _ _) q1212 rfl dX6_sale_41 (fun H locs hP hS => ?_)
        refine lv_aload_n hx hb dX6_sale_44 rfl (lv_at hl 0 rfl) ?_
        refine lv_iload_n hx hb dX6_sale_45 rfl (lv_at hl 1 rfl) ?_
        refine CMv.call hC hK hS (fun q h => h) hl (c_X6_laysSale G l o R (mV u 11 0) n (by first | assumption | omega | rfl | (simp_all; done)) (by first | assumption | omega | rfl | (simp_all; done)) hD) hP rfl q1778 q1780 qs106 q116 q1781 mdX6_laysSale (room_ok hRm rfl) rfl rfl dX6_sale_46 (fun w46 H locs hpo hP _ _ hS => ?_)
        obtain ⟨g_1, f46_0, ew46⟩ := hpo
        rw [ew46] at hP
        refine lv_iload_n hx hb dX6_sale_49 rfl (lv_at hl 2 rfl) ?_
        refine lv_bipush (v := 100) hx hb dX6_sale_50 (by decide) ?_
        refine lv_icmp_ne (tgt := 62) hx hb dX6_sale_52 (by decide) (fun c52 => ?_) (fun c52 => ?_)
        · refine lv_iconst (v := 0) hx hb dX6_sale_62 (by decide) ?_
          refine lv_istore_n (lv' := [(3, .int 0), (0, .ref o), (1, .int (nI n)), (2, .int k0)]) hx hb dX6_sale_63 rfl hl (by decide) rfl (fun ls hl => ?_)
          refine lv_iconst (v := 0) hx hb dX6_sale_64 (by decide) ?_
          refine lv_istore (lv' := [(4, .int 0), (3, .int 0), (0, .ref o), (1, .int (nI n)), (2, .int k0)]) hx hb dX6_sale_65 hl (by decide) rfl (fun ls hl => ?_)
          have LP67 : ∀ (fu67 : Nat) (pp : Nat) (ls : Array Slot), n - pp < fu67 → pp ≤ n → whoN (u.2.1 10) n k0 n 0 = whoN (u.2.1 10) n k0 (n - pp) pp → lv_has ls 6 [(0, .ref o), (1, .int (nI n)), (2, .int k0), (3, .int (nI (picksN (u.2.1 10) n pp))), (4, .int (nI pp))] → W pg l en Rm sg mm ar bw mth cd H locs 0 0 QQ (F0 mm 67 ls []) := by
            intro fu67
            induction fu67 with
            | zero => intro pp ls hm67 hpp hwf hl; exact absurd hm67 (Nat.not_lt_zero _)
            | succ fu67 ih67 =>
              intro pp ls hm67 hpp hwf hl
              refine lv_iload hx hb dX6_sale_67 (lv_at hl 4 rfl) ?_
              refine lv_iload_n hx hb dX6_sale_69 rfl (lv_at hl 1 rfl) ?_
              refine lv_icmp_ge (tgt := 146) hx hb dX6_sale_70 (by decide) (fun c70 => ?_) (fun c70 => ?_)
              · have c70 : n ≤ pp := (nI_leI (a := n) (b := pp) (by first | omega | (unfold worN; exact ocN_b _ _)) (by first | omega | (unfold worN; exact ocN_b _ _))).mp c70
                refine lv_iconst (v := (-1)) hx hb dX6_sale_146 (by decide) ?_
                exact hq _ _ _ _ _ _ dX6_sale_147 hP hS (rfl) (by have hg0 : saleG (u.1 11) (nI n) k0 = true := (by first | (simp [saleG, c7, c18, c34]; done) | (simp [saleG, c7, c24, c34]; done)); exact ⟨_, by rw [saleI, if_pos hg0, if_neg c52, hnx, hwf, show n - pp = 0 by omega]; rfl, by rw [if_pos hg0]⟩)
              · have c70 : ¬ (n ≤ pp) := mt (nI_leI (a := n) (b := pp) (by first | omega | (unfold worN; exact ocN_b _ _)) (by first | omega | (unfold worN; exact ocN_b _ _))).mpr c70
                have hpk := picks_ok (f := (u.2.1 10)) hn pp hpp
                obtain ⟨jx, jx1, jx2, jx3⟩ := pick_ex (f := (u.2.1 10)) hn (show pp < n by omega)
                obtain ⟨⟨hq1, hq2⟩, hq3, hq4, hq5⟩ := pickN_spec (f := (u.2.1 10)) (n := n) (p := pp) (s := picksN (u.2.1 10) n pp) n 0 ⟨jx, by omega, by omega, jx2, jx3⟩
                have hw1 : n * pp + n ≤ n * n := by have := Nat.mul_le_mul (Nat.le_refl n) (show pp + 1 ≤ n by omega); rw [Nat.mul_add, Nat.mul_one] at this; exact this
                have hw2 := Nat.mul_le_mul hn hn
                refine lv_iconst (v := 0) hx hb dX6_sale_73 (by decide) ?_
                refine lv_istore (lv' := [(5, .int 0), (0, .ref o), (1, .int (nI n)), (2, .int k0), (3, .int (nI (picksN (u.2.1 10) n pp))), (4, .int (nI pp))]) hx hb dX6_sale_74 hl (by decide) rfl (fun ls hl => ?_)
                have LP76 : ∀ (fu76 : Nat) (t : Nat) (ls : Array Slot), (pickN (u.2.1 10) n pp (picksN (u.2.1 10) n pp) n 0) - t < fu76 → t ≤ (pickN (u.2.1 10) n pp (picksN (u.2.1 10) n pp) n 0) → lv_has ls 6 [(0, .ref o), (1, .int (nI n)), (2, .int k0), (3, .int (nI (picksN (u.2.1 10) n pp))), (4, .int (nI pp)), (5, .int (nI t))] → W pg l en Rm sg mm ar bw mth cd H locs 0 0 QQ (F0 mm 76 ls []) := by
                  intro fu76
                  induction fu76 with
                  | zero => intro t ls hm76 htt hl; exact absurd hm76 (Nat.not_lt_zero _)
                  | succ fu76 ih76 =>
                    intro t ls hm76 htt hl
                    refine lv_iload_n hx hb dX6_sale_76 rfl (lv_at hl 3 rfl) ?_
                    refine lv_iload hx hb dX6_sale_77 (lv_at hl 5 rfl) ?_
                    refine CI.callS hC hK hl (c_X6_has G l (nI (picksN (u.2.1 10) n pp)) (nI t) ) trivial q1399 q1400 q116 q1401 mdX6_has (room_ok hRm rfl) rfl rfl dX6_sale_79 ?_
                    refine W_top (y := (bI (hasB (nI (picksN (u.2.1 10) n pp)) (nI t)))) rfl ?_
                    refine lv_if_ne (tgt := 115) hx hb dX6_sale_82 (by decide) (fun c82 => ?_) (fun c82 => ?_)
                    · have c82 : (hasB (nI (picksN (u.2.1 10) n pp)) (nI t)) = true := bI_1.mp c82
                      rw [hasB_nI _ (by omega)] at c82
                      refine lv_iload hx hb dX6_sale_115 (lv_at hl 5 rfl) ?_
                      refine lv_iconst (v := 1) hx hb dX6_sale_117 (by decide) ?_
                      refine lv_iadd hx hb dX6_sale_118 ?_
                      refine W_top (nI_add t 1) ?_
                      refine lv_istore (lv' := [(5, .int (nI (t + 1))), (0, .ref o), (1, .int (nI n)), (2, .int k0), (3, .int (nI (picksN (u.2.1 10) n pp))), (4, .int (nI pp))]) hx hb dX6_sale_119 hl (by decide) rfl (fun ls hl => ?_)
                      refine lv_goto (tgt := 76) hx hb dX6_sale_121 (by decide) ?_
                      exact ih76 (t + 1) ls (by (have hne : t ≠ (pickN (u.2.1 10) n pp (picksN (u.2.1 10) n pp) n 0) := (by intro e; first | (rw [e, hq1] at c82; exact Bool.false_ne_true c82) | (rw [e] at c112; exact c112 hq2))); omega) (by (have hne : t ≠ (pickN (u.2.1 10) n pp (picksN (u.2.1 10) n pp) n 0) := (by intro e; first | (rw [e, hq1] at c82; exact Bool.false_ne_true c82) | (rw [e] at c112; exact c112 hq2))); omega)  (lv_sub hl [1, 2, 3, 4, 5, 0] rfl)
                    · have c82 : (hasB (nI (picksN (u.2.1 10) n pp)) (nI t)) = false := bI_0.mp c82
                      rw [hasB_nI _ (by omega)] at c82
                      refine lv_aload_n hx hb dX6_sale_85 rfl (lv_at hl 0 rfl) ?_
                      refine lv_iload_n hx hb dX6_sale_86 rfl (lv_at hl 1 rfl) ?_
                      refine lv_iload hx hb dX6_sale_87 (lv_at hl 4 rfl) ?_
                      refine lv_iload hx hb dX6_sale_89 (lv_at hl 5 rfl) ?_
                      have hol := or_lt (n := n) hpk.1 (show t < n by omega)
                      have hb1 := slF_b (u.2.1 10) (n := n) (picksN (u.2.1 10) n pp ||| 2 ^ t) hp2
                      have hb2 := slF_b (u.2.1 10) (n := n) (picksN (u.2.1 10) n pp) hp2
                      have hb3 : worN (u.2.1 10) n pp t < 256 := ocN_lt _ _
                      refine CI.callV hC hK hl (c_X6_worth G l o R (mS (mV u 11 0) 56 g_1) n pp t (by first | assumption | omega | rfl | (simp_all; done))) hP (hP.recv hK) q1770 q1772 qs105 q116 q1773 mdX6_worth (room_ok hRm rfl) rfl rfl dX6_sale_91 ?_
                      refine W_top (y := (nI (worN (u.2.1 10) n pp t))) rfl ?_
                      refine lv_aload_n hx hb dX6_sale_94 rfl (lv_at hl 0 rfl) ?_
                      refine M_get hC hK hP 56 (by decide) (fM56 _ _) q1257 dX6_sale_95 ?_
                      refine lv_iload_n hx hb dX6_sale_98 rfl (lv_at hl 3 rfl) ?_
                      refine lv_iconst (v := 1) hx hb dX6_sale_99 (by decide) ?_
                      refine lv_iload hx hb dX6_sale_100 (lv_at hl 5 rfl) ?_
                      refine lv_ishl hx hb dX6_sale_102 ?_
                      refine W_top (y := (nI (2 ^ t))) (shl1 t (by omega)) ?_
                      refine lv_ior hx hb dX6_sale_103 ?_
                      refine W_top (y := (nI (picksN (u.2.1 10) n pp ||| 2 ^ t))) (nI_or _ _) ?_
                      refine M_ald hC hK hP 56 37 256 (picksN (u.2.1 10) n pp ||| 2 ^ t) (aM56 _ _ _ _) (by decide) (rfl) (by omega) dX6_sale_104 ?_
                      refine W_top (y := (g_1 (picksN (u.2.1 10) n pp ||| 2 ^ t))) rfl ?_
                      refine W_top (y := (nI (slF (u.2.1 10) n (picksN (u.2.1 10) n pp ||| 2 ^ t)))) (f46_0 _ hol) ?_
                      refine lv_iadd hx hb dX6_sale_105 ?_
                      refine W_top (nI_add (worN (u.2.1 10) n pp t) (slF (u.2.1 10) n (picksN (u.2.1 10) n pp ||| 2 ^ t))) ?_
                      refine lv_aload_n hx hb dX6_sale_106 rfl (lv_at hl 0 rfl) ?_
                      refine M_get hC hK hP 56 (by decide) (fM56 _ _) q1257 dX6_sale_107 ?_
                      refine lv_iload_n hx hb dX6_sale_110 rfl (lv_at hl 3 rfl) ?_
                      refine M_ald hC hK hP 56 37 256 (picksN (u.2.1 10) n pp) (aM56 _ _ _ _) (by decide) (rfl) (by omega) dX6_sale_111 ?_
                      refine W_top (y := (g_1 (picksN (u.2.1 10) n pp))) rfl ?_
                      refine W_top (y := (nI (slF (u.2.1 10) n (picksN (u.2.1 10) n pp)))) (f46_0 _ hpk.1) ?_
                      refine lv_icmp_eq (tgt := 124) hx hb dX6_sale_112 (by decide) (fun c112 => ?_) (fun c112 => ?_)
                      · have c112 : ((worN (u.2.1 10) n pp t) + (slF (u.2.1 10) n (picksN (u.2.1 10) n pp ||| 2 ^ t))) = (slF (u.2.1 10) n (picksN (u.2.1 10) n pp)) := (nI_eq (a := ((worN (u.2.1 10) n pp t) + (slF (u.2.1 10) n (picksN (u.2.1 10) n pp ||| 2 ^ t)))) (b := (slF (u.2.1 10) n (picksN (u.2.1 10) n pp))) (by first | omega | (unfold worN; exact ocN_b _ _)) (by first | omega | (unfold worN; exact ocN_b _ _))).mp c112
                        have htq : t = (pickN (u.2.1 10) n pp (picksN (u.2.1 10) n pp) n 0) := (by rcases Nat.lt_or_ge t (pickN (u.2.1 10) n pp (picksN (u.2.1 10) n pp) n 0) with q | q; exact absurd c112 (by rcases hq5 t (Nat.zero_le _) q with z | z; (rw [c82] at z; cases z); exact z); omega)
                        subst htq
                        have hl : lv_has ls 6 [(0, .ref o), (1, .int (nI n)), (2, .int k0), (3, .int (nI (picksN (u.2.1 10) n pp))), (4, .int (nI pp)), (5, .int (nI (pickN (u.2.1 10) n pp (picksN (u.2.1 10) n pp) n 0)))] := hl
                        refine lv_iload hx hb dX6_sale_124 (lv_at hl 5 rfl) ?_
                        refine lv_iload_n hx hb dX6_sale_126 rfl (lv_at hl 2 rfl) ?_
                        refine lv_icmp_ne (tgt := 133) hx hb dX6_sale_127 (by decide) (fun c127 => ?_) (fun c127 => ?_)
                        · refine lv_iload_n hx hb dX6_sale_133 rfl (lv_at hl 3 rfl) ?_
                          refine lv_iconst (v := 1) hx hb dX6_sale_134 (by decide) ?_
                          refine lv_iload hx hb dX6_sale_135 (lv_at hl 5 rfl) ?_
                          refine lv_ishl hx hb dX6_sale_137 ?_
                          refine W_top (y := (nI (2 ^ (pickN (u.2.1 10) n pp (picksN (u.2.1 10) n pp) n 0)))) (shl1 _ (by omega)) ?_
                          refine lv_ior hx hb dX6_sale_138 ?_
                          refine W_top (y := (nI (picksN (u.2.1 10) n (pp + 1)))) (nI_or _ _) ?_
                          refine lv_istore_n (lv' := [(3, .int (nI (picksN (u.2.1 10) n (pp + 1)))), (0, .ref o), (1, .int (nI n)), (2, .int k0), (4, .int (nI pp)), (5, .int (nI (pickN (u.2.1 10) n pp (picksN (u.2.1 10) n pp) n 0)))]) hx hb dX6_sale_139 rfl hl (by decide) rfl (fun ls hl => ?_)
                          refine lv_iinc (v := (nI (pp + 1))) (lv' := [(4, .int (nI (pp + 1))), (3, .int (nI (picksN (u.2.1 10) n (pp + 1)))), (0, .ref o), (1, .int (nI n)), (2, .int k0), (5, .int (nI (pickN (u.2.1 10) n pp (picksN (u.2.1 10) n pp) n 0)))]) hx hb dX6_sale_140 hl (k := 4) rfl (nI_inc pp) (by decide) rfl (fun ls hl => ?_)
                          refine lv_goto (tgt := 67) hx hb dX6_sale_143 (by decide) ?_
                          exact ih67 (pp + 1) ls (by omega) (by first | omega | assumption | rfl | (simp_all; done) | grind) (by rw [hwf, whoN_f (by omega) c127])  (lv_sub hl [2, 3, 4, 1, 0] rfl)
                        · refine lv_iload hx hb dX6_sale_130 (lv_at hl 4 rfl) ?_
                          exact hq _ _ _ _ _ _ dX6_sale_132 hP hS (rfl) (by have hg0 : saleG (u.1 11) (nI n) k0 = true := (by first | (simp [saleG, c7, c18, c34]; done) | (simp [saleG, c7, c24, c34]; done)); exact ⟨_, by rw [saleI, if_pos hg0, if_neg c52, hnx, hwf, whoN_t (by omega) c127], by rw [if_pos hg0]⟩)
                      · have c112 : ¬ (((worN (u.2.1 10) n pp t) + (slF (u.2.1 10) n (picksN (u.2.1 10) n pp ||| 2 ^ t))) = (slF (u.2.1 10) n (picksN (u.2.1 10) n pp))) := mt (nI_eq (a := ((worN (u.2.1 10) n pp t) + (slF (u.2.1 10) n (picksN (u.2.1 10) n pp ||| 2 ^ t)))) (b := (slF (u.2.1 10) n (picksN (u.2.1 10) n pp))) (by first | omega | (unfold worN; exact ocN_b _ _)) (by first | omega | (unfold worN; exact ocN_b _ _))).mpr c112
                        refine lv_iload hx hb dX6_sale_115 (lv_at hl 5 rfl) ?_
                        refine lv_iconst (v := 1) hx hb dX6_sale_117 (by decide) ?_
                        refine lv_iadd hx hb dX6_sale_118 ?_
                        refine W_top (nI_add t 1) ?_
                        refine lv_istore (lv' := [(5, .int (nI (t + 1))), (0, .ref o), (1, .int (nI n)), (2, .int k0), (3, .int (nI (picksN (u.2.1 10) n pp))), (4, .int (nI pp))]) hx hb dX6_sale_119 hl (by decide) rfl (fun ls hl => ?_)
                        refine lv_goto (tgt := 76) hx hb dX6_sale_121 (by decide) ?_
                        exact ih76 (t + 1) ls (by (have hne : t ≠ (pickN (u.2.1 10) n pp (picksN (u.2.1 10) n pp) n 0) := (by intro e; first | (rw [e, hq1] at c82; exact Bool.false_ne_true c82) | (rw [e] at c112; exact c112 hq2))); omega) (by (have hne : t ≠ (pickN (u.2.1 10) n pp (picksN (u.2.1 10) n pp) n 0) := (by intro e; first | (rw [e, hq1] at c82; exact Bool.false_ne_true c82) | (rw [e] at c112; exact c112 hq2))); omega)  (lv_sub hl [1, 2, 3, 4, 5, 0] rfl)
                exact LP76 _ 0 ls (Nat.lt_succ_self _) (by first | omega | assumption | rfl | (simp_all; done) | grind)  (lv_sub hl [1, 2, 3, 4, 5, 0] rfl)
          exact LP67 _ 0 ls (Nat.lt_succ_self _) (by first | omega | assumption | rfl | (simp_all; done) | grind) (rfl)  (lv_sub hl [2, 3, 4, 1, 0] rfl)
        · refine lv_aload_n hx hb dX6_sale_55 rfl (lv_at hl 0 rfl) ?_
          refine M_get hC hK hP 56 (by decide) (fM56 _ _) q1257 dX6_sale_56 ?_
          refine lv_iconst (v := 0) hx hb dX6_sale_59 (by decide) ?_
          refine M_ald hC hK hP 56 37 256 0 (aM56 _ _ _ _) (by decide) (by decide) (by omega) dX6_sale_60 ?_
          refine W_top (y := (g_1 0)) rfl ?_
          refine W_top (y := (nI (slF (u.2.1 10) n 0))) (f46_0 0 (by omega)) ?_
          exact hq _ _ _ _ _ _ dX6_sale_61 hP hS (rfl) (by have hg0 : saleG (u.1 11) (nI n) k0 = true := (by first | (simp [saleG, c7, c18, c34]; done) | (simp [saleG, c7, c24, c34]; done)); exact ⟨_, by rw [saleI, if_pos hg0, if_pos c52, hnx], by rw [if_pos hg0]⟩)
      · refine lv_iconst (v := (-1)) hx hb dX6_sale_37 (by decide) ?_
        exact hq _ _ _ _ _ _ dX6_sale_38 hP hS (rfl) (by exact ⟨u.2.1 0, by first | (simp [saleI, saleG, c7]; done) | (simp [saleI, saleG, c7, c18, c24]; done) | (simp [saleI, saleG, c7, c18, c34]; done) | (simp [saleI, saleG, c7, c18, c24, c34]; done), by first | (simp [saleG, c7]; done) | (simp [saleG, c7, c18, c24]; done) | (simp [saleG, c7, c18, c34]; done) | (simp [saleG, c7, c18, c24, c34]; done)⟩)
    · have c18 : (inB k0 0 ((nI n) - 1)) = false := bI_0.mp c18
      refine lv_iload_n hx hb dX6_sale_21 rfl (lv_at hl 2 rfl) ?_
      refine lv_bipush (v := 100) hx hb dX6_sale_22 (by decide) ?_
      refine lv_icmp_ne (tgt := 37) hx hb dX6_sale_24 (by decide) (fun c24 => ?_) (fun c24 => ?_)
      · refine lv_iconst (v := (-1)) hx hb dX6_sale_37 (by decide) ?_
        exact hq _ _ _ _ _ _ dX6_sale_38 hP hS (rfl) (by exact ⟨u.2.1 0, by first | (simp [saleI, saleG, c7]; done) | (simp [saleI, saleG, c7, c18, c24]; done) | (simp [saleI, saleG, c7, c18, c34]; done) | (simp [saleI, saleG, c7, c18, c24, c34]; done), by first | (simp [saleG, c7]; done) | (simp [saleG, c7, c18, c24]; done) | (simp [saleG, c7, c18, c34]; done) | (simp [saleG, c7, c18, c24, c34]; done)⟩)
      · refine lv_iload_n hx hb dX6_sale_27 rfl (lv_at hl 1 rfl) ?_
        refine lv_iload_n hx hb dX6_sale_28 rfl (lv_at hl 1 rfl) ?_
        refine lv_imul hx hb dX6_sale_29 ?_
        refine lv_aload_n hx hb dX6_sale_30 rfl (lv_at hl 0 rfl) ?_
        refine M_get (v := .int (u.1 11)) hC hK hP 11 (by decide) (fM11 _ _) q1212 dX6_sale_31 ?_
        refine lv_icmp_le (tgt := 39) hx hb dX6_sale_34 (by decide) (fun c34 => ?_) (fun c34 => ?_)
        · refine lv_aload_n hx hb dX6_sale_39 rfl (lv_at hl 0 rfl) ?_
          refine lv_iconst (v := 0) hx hb dX6_sale_40 (by decide) ?_
          refine M_put hC hK hD hP hS 11 (by decide) (sM11 _ _ _) q1212 rfl dX6_sale_41 (fun H locs hP hS => ?_)
          refine lv_aload_n hx hb dX6_sale_44 rfl (lv_at hl 0 rfl) ?_
          refine lv_iload_n hx hb dX6_sale_45 rfl (lv_at hl 1 rfl) ?_
          refine CMv.call hC hK hS (fun q h => h) hl (c_X6_laysSale G l o R (mV u 11 0) n (by first | assumption | omega | rfl | (simp_all; done)) (by first | assumption | omega | rfl | (simp_all; done)) hD) hP rfl q1778 q1780 qs106 q116 q1781 mdX6_laysSale (room_ok hRm rfl) rfl rfl dX6_sale_46 (fun w46 H locs hpo hP _ _ hS => ?_)
          obtain ⟨g_2, f46_0, ew46⟩ := hpo
          rw [ew46] at hP
          refine lv_iload_n hx hb dX6_sale_49 rfl (lv_at hl 2 rfl) ?_
          refine lv_bipush (v := 100) hx hb dX6_sale_50 (by decide) ?_
          refine lv_icmp_ne (tgt := 62) hx hb dX6_sale_52 (by decide) (fun c52 => ?_) (fun c52 => ?_)
          · refine lv_iconst (v := 0) hx hb dX6_sale_62 (by decide) ?_
            refine lv_istore_n (lv' := [(3, .int 0), (0, .ref o), (1, .int (nI n)), (2, .int k0)]) hx hb dX6_sale_63 rfl hl (by decide) rfl (fun ls hl => ?_)
            refine lv_iconst (v := 0) hx hb dX6_sale_64 (by decide) ?_
            refine lv_istore (lv' := [(4, .int 0), (3, .int 0), (0, .ref o), (1, .int (nI n)), (2, .int k0)]) hx hb dX6_sale_65 hl (by decide) rfl (fun ls hl => ?_)
            have LP67 : ∀ (fu67 : Nat) (pp : Nat) (ls : Array Slot), n - pp < fu67 → pp ≤ n → whoN (u.2.1 10) n k0 n 0 = whoN (u.2.1 10) n k0 (n - pp) pp → lv_has ls 6 [(0, .ref o), (1, .int (nI n)), (2, .int k0), (3, .int (nI (picksN (u.2.1 10) n pp))), (4, .int (nI pp))] → W pg l en Rm sg mm ar bw mth cd H locs 0 0 QQ (F0 mm 67 ls []) := by
              intro fu67
              induction fu67 with
              | zero => intro pp ls hm67 hpp hwf hl; exact absurd hm67 (Nat.not_lt_zero _)
              | succ fu67 ih67 =>
                intro pp ls hm67 hpp hwf hl
                refine lv_iload hx hb dX6_sale_67 (lv_at hl 4 rfl) ?_
                refine lv_iload_n hx hb dX6_sale_69 rfl (lv_at hl 1 rfl) ?_
                refine lv_icmp_ge (tgt := 146) hx hb dX6_sale_70 (by decide) (fun c70 => ?_) (fun c70 => ?_)
                · have c70 : n ≤ pp := (nI_leI (a := n) (b := pp) (by first | omega | (unfold worN; exact ocN_b _ _)) (by first | omega | (unfold worN; exact ocN_b _ _))).mp c70
                  refine lv_iconst (v := (-1)) hx hb dX6_sale_146 (by decide) ?_
                  exact hq _ _ _ _ _ _ dX6_sale_147 hP hS (rfl) (by have hg0 : saleG (u.1 11) (nI n) k0 = true := (by first | (simp [saleG, c7, c18, c34]; done) | (simp [saleG, c7, c24, c34]; done)); exact ⟨_, by rw [saleI, if_pos hg0, if_neg c52, hnx, hwf, show n - pp = 0 by omega]; rfl, by rw [if_pos hg0]⟩)
                · have c70 : ¬ (n ≤ pp) := mt (nI_leI (a := n) (b := pp) (by first | omega | (unfold worN; exact ocN_b _ _)) (by first | omega | (unfold worN; exact ocN_b _ _))).mpr c70
                  have hpk := picks_ok (f := (u.2.1 10)) hn pp hpp
                  obtain ⟨jx, jx1, jx2, jx3⟩ := pick_ex (f := (u.2.1 10)) hn (show pp < n by omega)
                  obtain ⟨⟨hq1, hq2⟩, hq3, hq4, hq5⟩ := pickN_spec (f := (u.2.1 10)) (n := n) (p := pp) (s := picksN (u.2.1 10) n pp) n 0 ⟨jx, by omega, by omega, jx2, jx3⟩
                  have hw1 : n * pp + n ≤ n * n := by have := Nat.mul_le_mul (Nat.le_refl n) (show pp + 1 ≤ n by omega); rw [Nat.mul_add, Nat.mul_one] at this; exact this
                  have hw2 := Nat.mul_le_mul hn hn
                  refine lv_iconst (v := 0) hx hb dX6_sale_73 (by decide) ?_
                  refine lv_istore (lv' := [(5, .int 0), (0, .ref o), (1, .int (nI n)), (2, .int k0), (3, .int (nI (picksN (u.2.1 10) n pp))), (4, .int (nI pp))]) hx hb dX6_sale_74 hl (by decide) rfl (fun ls hl => ?_)
                  have LP76 : ∀ (fu76 : Nat) (t : Nat) (ls : Array Slot), (pickN (u.2.1 10) n pp (picksN (u.2.1 10) n pp) n 0) - t < fu76 → t ≤ (pickN (u.2.1 10) n pp (picksN (u.2.1 10) n pp) n 0) → lv_has ls 6 [(0, .ref o), (1, .int (nI n)), (2, .int k0), (3, .int (nI (picksN (u.2.1 10) n pp))), (4, .int (nI pp)), (5, .int (nI t))] → W pg l en Rm sg mm ar bw mth cd H locs 0 0 QQ (F0 mm 76 ls []) := by
                    intro fu76
                    induction fu76 with
                    | zero => intro t ls hm76 htt hl; exact absurd hm76 (Nat.not_lt_zero _)
                    | succ fu76 ih76 =>
                      intro t ls hm76 htt hl
                      refine lv_iload_n hx hb dX6_sale_76 rfl (lv_at hl 3 rfl) ?_
                      refine lv_iload hx hb dX6_sale_77 (lv_at hl 5 rfl) ?_
                      refine CI.callS hC hK hl (c_X6_has G l (nI (picksN (u.2.1 10) n pp)) (nI t) ) trivial q1399 q1400 q116 q1401 mdX6_has (room_ok hRm rfl) rfl rfl dX6_sale_79 ?_
                      refine W_top (y := (bI (hasB (nI (picksN (u.2.1 10) n pp)) (nI t)))) rfl ?_
                      refine lv_if_ne (tgt := 115) hx hb dX6_sale_82 (by decide) (fun c82 => ?_) (fun c82 => ?_)
                      · have c82 : (hasB (nI (picksN (u.2.1 10) n pp)) (nI t)) = true := bI_1.mp c82
                        rw [hasB_nI _ (by omega)] at c82
                        refine lv_iload hx hb dX6_sale_115 (lv_at hl 5 rfl) ?_
                        refine lv_iconst (v := 1) hx hb dX6_sale_117 (by decide) ?_
                        refine lv_iadd hx hb dX6_sale_118 ?_
                        refine W_top (nI_add t 1) ?_
                        refine lv_istore (lv' := [(5, .int (nI (t + 1))), (0, .ref o), (1, .int (nI n)), (2, .int k0), (3, .int (nI (picksN (u.2.1 10) n pp))), (4, .int (nI pp))]) hx hb dX6_sale_119 hl (by decide) rfl (fun ls hl => ?_)
                        refine lv_goto (tgt := 76) hx hb dX6_sale_121 (by decide) ?_
                        exact ih76 (t + 1) ls (by (have hne : t ≠ (pickN (u.2.1 10) n pp (picksN (u.2.1 10) n pp) n 0) := (by intro e; first | (rw [e, hq1] at c82; exact Bool.false_ne_true c82) | (rw [e] at c112; exact c112 hq2))); omega) (by (have hne : t ≠ (pickN (u.2.1 10) n pp (picksN (u.2.1 10) n pp) n 0) := (by intro e; first | (rw [e, hq1] at c82; exact Bool.false_ne_true c82) | (rw [e] at c112; exact c112 hq2))); omega)  (lv_sub hl [1, 2, 3, 4, 5, 0] rfl)
                      · have c82 : (hasB (nI (picksN (u.2.1 10) n pp)) (nI t)) = false := bI_0.mp c82
                        rw [hasB_nI _ (by omega)] at c82
                        refine lv_aload_n hx hb dX6_sale_85 rfl (lv_at hl 0 rfl) ?_
                        refine lv_iload_n hx hb dX6_sale_86 rfl (lv_at hl 1 rfl) ?_
                        refine lv_iload hx hb dX6_sale_87 (lv_at hl 4 rfl) ?_
                        refine lv_iload hx hb dX6_sale_89 (lv_at hl 5 rfl) ?_
                        have hol := or_lt (n := n) hpk.1 (show t < n by omega)
                        have hb1 := slF_b (u.2.1 10) (n := n) (picksN (u.2.1 10) n pp ||| 2 ^ t) hp2
                        have hb2 := slF_b (u.2.1 10) (n := n) (picksN (u.2.1 10) n pp) hp2
                        have hb3 : worN (u.2.1 10) n pp t < 256 := ocN_lt _ _
                        refine CI.callV hC hK hl (c_X6_worth G l o R (mS (mV u 11 0) 56 g_2) n pp t (by first | assumption | omega | rfl | (simp_all; done))) hP (hP.recv hK) q1770 q1772 qs105 q116 q1773 mdX6_worth (room_ok hRm rfl) rfl rfl dX6_sale_91 ?_
                        refine W_top (y := (nI (worN (u.2.1 10) n pp t))) rfl ?_
                        refine lv_aload_n hx hb dX6_sale_94 rfl (lv_at hl 0 rfl) ?_
                        refine M_get hC hK hP 56 (by decide) (fM56 _ _) q1257 dX6_sale_95 ?_
                        refine lv_iload_n hx hb dX6_sale_98 rfl (lv_at hl 3 rfl) ?_
                        refine lv_iconst (v := 1) hx hb dX6_sale_99 (by decide) ?_
                        refine lv_iload hx hb dX6_sale_100 (lv_at hl 5 rfl) ?_
                        refine lv_ishl hx hb dX6_sale_102 ?_
                        refine W_top (y := (nI (2 ^ t))) (shl1 t (by omega)) ?_
                        refine lv_ior hx hb dX6_sale_103 ?_
                        refine W_top (y := (nI (picksN (u.2.1 10) n pp ||| 2 ^ t))) (nI_or _ _) ?_
                        refine M_ald hC hK hP 56 37 256 (picksN (u.2.1 10) n pp ||| 2 ^ t) (aM56 _ _ _ _) (by decide) (rfl) (by omega) dX6_sale_104 ?_
                        refine W_top (y := (g_2 (picksN (u.2.1 10) n pp ||| 2 ^ t))) rfl ?_
                        refine W_top (y := (nI (slF (u.2.1 10) n (picksN (u.2.1 10) n pp ||| 2 ^ t)))) (f46_0 _ hol) ?_
                        refine lv_iadd hx hb dX6_sale_105 ?_
                        refine W_top (nI_add (worN (u.2.1 10) n pp t) (slF (u.2.1 10) n (picksN (u.2.1 10) n pp ||| 2 ^ t))) ?_
                        refine lv_aload_n hx hb dX6_sale_106 rfl (lv_at hl 0 rfl) ?_
                        refine M_get hC hK hP 56 (by decide) (fM56 _ _) q1257 dX6_sale_107 ?_
                        refine lv_iload_n hx hb dX6_sale_110 rfl (lv_at hl 3 rfl) ?_
                        refine M_ald hC hK hP 56 37 256 (picksN (u.2.1 10) n pp) (aM56 _ _ _ _) (by decide) (rfl) (by omega) dX6_sale_111 ?_
                        refine W_top (y := (g_2 (picksN (u.2.1 10) n pp))) rfl ?_
                        refine W_top (y := (nI (slF (u.2.1 10) n (picksN (u.2.1 10) n pp)))) (f46_0 _ hpk.1) ?_
                        refine lv_icmp_eq (tgt := 124) hx hb dX6_sale_112 (by decide) (fun c112 => ?_) (fun c112 => ?_)
                        · have c112 : ((worN (u.2.1 10) n pp t) + (slF (u.2.1 10) n (picksN (u.2.1 10) n pp ||| 2 ^ t))) = (slF (u.2.1 10) n (picksN (u.2.1 10) n pp)) := (nI_eq (a := ((worN (u.2.1 10) n pp t) + (slF (u.2.1 10) n (picksN (u.2.1 10) n pp ||| 2 ^ t)))) (b := (slF (u.2.1 10) n (picksN (u.2.1 10) n pp))) (by first | omega | (unfold worN; exact ocN_b _ _)) (by first | omega | (unfold worN; exact ocN_b _ _))).mp c112
                          have htq : t = (pickN (u.2.1 10) n pp (picksN (u.2.1 10) n pp) n 0) := (by rcases Nat.lt_or_ge t (pickN (u.2.1 10) n pp (picksN (u.2.1 10) n pp) n 0) with q | q; exact absurd c112 (by rcases hq5 t (Nat.zero_le _) q with z | z; (rw [c82] at z; cases z); exact z); omega)
                          subst htq
                          have hl : lv_has ls 6 [(0, .ref o), (1, .int (nI n)), (2, .int k0), (3, .int (nI (picksN (u.2.1 10) n pp))), (4, .int (nI pp)), (5, .int (nI (pickN (u.2.1 10) n pp (picksN (u.2.1 10) n pp) n 0)))] := hl
                          refine lv_iload hx hb dX6_sale_124 (lv_at hl 5 rfl) ?_
                          refine lv_iload_n hx hb dX6_sale_126 rfl (lv_at hl 2 rfl) ?_
                          refine lv_icmp_ne (tgt := 133) hx hb dX6_sale_127 (by decide) (fun c127 => ?_) (fun c127 => ?_)
                          · refine lv_iload_n hx hb dX6_sale_133 rfl (lv_at hl 3 rfl) ?_
                            refine lv_iconst (v := 1) hx hb dX6_sale_134 (by decide) ?_
                            refine lv_iload hx hb dX6_sale_135 (lv_at hl 5 rfl) ?_
                            refine lv_ishl hx hb dX6_sale_137 ?_
                            refine W_top (y := (nI (2 ^ (pickN (u.2.1 10) n pp (picksN (u.2.1 10) n pp) n 0)))) (shl1 _ (by omega)) ?_
                            refine lv_ior hx hb dX6_sale_138 ?_
                            refine W_top (y := (nI (picksN (u.2.1 10) n (pp + 1)))) (nI_or _ _) ?_
                            refine lv_istore_n (lv' := [(3, .int (nI (picksN (u.2.1 10) n (pp + 1)))), (0, .ref o), (1, .int (nI n)), (2, .int k0), (4, .int (nI pp)), (5, .int (nI (pickN (u.2.1 10) n pp (picksN (u.2.1 10) n pp) n 0)))]) hx hb dX6_sale_139 rfl hl (by decide) rfl (fun ls hl => ?_)
                            refine lv_iinc (v := (nI (pp + 1))) (lv' := [(4, .int (nI (pp + 1))), (3, .int (nI (picksN (u.2.1 10) n (pp + 1)))), (0, .ref o), (1, .int (nI n)), (2, .int k0), (5, .int (nI (pickN (u.2.1 10) n pp (picksN (u.2.1 10) n pp) n 0)))]) hx hb dX6_sale_140 hl (k := 4) rfl (nI_inc pp) (by decide) rfl (fun ls hl => ?_)
                            refine lv_goto (tgt := 67) hx hb dX6_sale_143 (by decide) ?_
                            exact ih67 (pp + 1) ls (by omega) (by first | omega | assumption | rfl | (simp_all; done) | grind) (by rw [hwf, whoN_f (by omega) c127])  (lv_sub hl [2, 3, 4, 1, 0] rfl)
                          · refine lv_iload hx hb dX6_sale_130 (lv_at hl 4 rfl) ?_
                            exact hq _ _ _ _ _ _ dX6_sale_132 hP hS (rfl) (by have hg0 : saleG (u.1 11) (nI n) k0 = true := (by first | (simp [saleG, c7, c18, c34]; done) | (simp [saleG, c7, c24, c34]; done)); exact ⟨_, by rw [saleI, if_pos hg0, if_neg c52, hnx, hwf, whoN_t (by omega) c127], by rw [if_pos hg0]⟩)
                        · have c112 : ¬ (((worN (u.2.1 10) n pp t) + (slF (u.2.1 10) n (picksN (u.2.1 10) n pp ||| 2 ^ t))) = (slF (u.2.1 10) n (picksN (u.2.1 10) n pp))) := mt (nI_eq (a := ((worN (u.2.1 10) n pp t) + (slF (u.2.1 10) n (picksN (u.2.1 10) n pp ||| 2 ^ t)))) (b := (slF (u.2.1 10) n (picksN (u.2.1 10) n pp))) (by first | omega | (unfold worN; exact ocN_b _ _)) (by first | omega | (unfold worN; exact ocN_b _ _))).mpr c112
                          refine lv_iload hx hb dX6_sale_115 (lv_at hl 5 rfl) ?_
                          refine lv_iconst (v := 1) hx hb dX6_sale_117 (by decide) ?_
                          refine lv_iadd hx hb dX6_sale_118 ?_
                          refine W_top (nI_add t 1) ?_
                          refine lv_istore (lv' := [(5, .int (nI (t + 1))), (0, .ref o), (1, .int (nI n)), (2, .int k0), (3, .int (nI (picksN (u.2.1 10) n pp))), (4, .int (nI pp))]) hx hb dX6_sale_119 hl (by decide) rfl (fun ls hl => ?_)
                          refine lv_goto (tgt := 76) hx hb dX6_sale_121 (by decide) ?_
                          exact ih76 (t + 1) ls (by (have hne : t ≠ (pickN (u.2.1 10) n pp (picksN (u.2.1 10) n pp) n 0) := (by intro e; first | (rw [e, hq1] at c82; exact Bool.false_ne_true c82) | (rw [e] at c112; exact c112 hq2))); omega) (by (have hne : t ≠ (pickN (u.2.1 10) n pp (picksN (u.2.1 10) n pp) n 0) := (by intro e; first | (rw [e, hq1] at c82; exact Bool.false_ne_true c82) | (rw [e] at c112; exact c112 hq2))); omega)  (lv_sub hl [1, 2, 3, 4, 5, 0] rfl)
                  exact LP76 _ 0 ls (Nat.lt_succ_self _) (by first | omega | assumption | rfl | (simp_all; done) | grind)  (lv_sub hl [1, 2, 3, 4, 5, 0] rfl)
            exact LP67 _ 0 ls (Nat.lt_succ_self _) (by first | omega | assumption | rfl | (simp_all; done) | grind) (rfl)  (lv_sub hl [2, 3, 4, 1, 0] rfl)
          · refine lv_aload_n hx hb dX6_sale_55 rfl (lv_at hl 0 rfl) ?_
            refine M_get hC hK hP 56 (by decide) (fM56 _ _) q1257 dX6_sale_56 ?_
            refine lv_iconst (v := 0) hx hb dX6_sale_59 (by decide) ?_
            refine M_ald hC hK hP 56 37 256 0 (aM56 _ _ _ _) (by decide) (by decide) (by omega) dX6_sale_60 ?_
            refine W_top (y := (g_2 0)) rfl ?_
            refine W_top (y := (nI (slF (u.2.1 10) n 0))) (f46_0 0 (by omega)) ?_
            exact hq _ _ _ _ _ _ dX6_sale_61 hP hS (rfl) (by have hg0 : saleG (u.1 11) (nI n) k0 = true := (by first | (simp [saleG, c7, c18, c34]; done) | (simp [saleG, c7, c24, c34]; done)); exact ⟨_, by rw [saleI, if_pos hg0, if_pos c52, hnx], by rw [if_pos hg0]⟩)
        · refine lv_iconst (v := (-1)) hx hb dX6_sale_37 (by decide) ?_
          exact hq _ _ _ _ _ _ dX6_sale_38 hP hS (rfl) (by exact ⟨u.2.1 0, by first | (simp [saleI, saleG, c7]; done) | (simp [saleI, saleG, c7, c18, c24]; done) | (simp [saleI, saleG, c7, c18, c34]; done) | (simp [saleI, saleG, c7, c18, c24, c34]; done), by first | (simp [saleG, c7]; done) | (simp [saleG, c7, c18, c24]; done) | (simp [saleG, c7, c18, c34]; done) | (simp [saleG, c7, c18, c24, c34]; done)⟩)
