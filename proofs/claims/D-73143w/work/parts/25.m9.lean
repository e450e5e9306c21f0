set_option maxRecDepth 100000
set_option maxHeartbeats 4000000 in
theorem c_X6_mostAtOnce (G : GG) (l : Launch) (o : Nat) (R : Nat → Nat) (u : MS) (n : Nat) (hn2 : 2 ≤ n) (hn : n ≤ 8) (hD : DM o R) : CMi G l o R yX6_mostAtOnce cX6_mostAtOnce 6 .int 5 83 [.int (nI n)] u (fun r w => ∃ g : Nat → Int32, r = (nI (mwF (bothB (u.2.1 10) n) n (2 ^ n - 1))) ∧ w = (mS u 56 g)) := by
  refine CMi.mk pnX6 rfl (Nat.le_of_ble_eq_true rfl) (fun pg en Rm sg mm ar bw mth cd QQ ls hC hRm hK hP hS hl hq => ?_)
  have hx := hC.1; have hb := hC.2.1; have ho := hC.2.2.2.1; have hts := hC.2.2.2.2
  have hl : lv_has ls 6 [(0, .ref o), (1, .int (nI n))] := hl
  have hp2 := pow_le8 hn
  have hp3 := Nat.two_pow_pos n
  refine lv_iconst (v := 0) hx hb dX6_mostAtOnce_0 (by decide) ?_
  refine lv_istore_n (lv' := [(2, .int 0), (0, .ref o), (1, .int (nI n))]) hx hb dX6_mostAtOnce_1 rfl hl (by decide) rfl (fun ls hl => ?_)
  have hP : PM G o R (mS u 56 (u.2.1 56)) sg.heap := by rw [show (u.2.1 56) = (u.2.1 56) from rfl, mS_self]; exact hP
  have LP2 : ∀ (fu2 : Nat) (s : Nat) (g : Nat → Int32) (H : Heap) (locs : List Loc) (ls : Array Slot), 2 ^ n - s < fu2 → s ≤ 2 ^ n → (∀ i, i < s → g i = nI (mwF (bothB (u.2.1 10) n) n i)) → PM G o R (mS u 56 g) H → va_S (AM o R) sg.heap H locs → lv_has ls 6 [(0, .ref o), (1, .int (nI n)), (2, .int (nI s))] → W pg l en Rm sg mm ar bw mth cd H locs 0 0 QQ (F0 mm 2 ls []) := by
    intro fu2
    induction fu2 with
    | zero => intro s g H locs ls hm2 hs hg hP hS hl; exact absurd hm2 (Nat.not_lt_zero _)
    | succ fu2 ih2 =>
      intro s g H locs ls hm2 hs hg hP hS hl
      refine lv_iload_n hx hb dX6_mostAtOnce_2 rfl (lv_at hl 2 rfl) ?_
      refine lv_iconst (v := 1) hx hb dX6_mostAtOnce_3 (by decide) ?_
      refine lv_iload_n hx hb dX6_mostAtOnce_4 rfl (lv_at hl 1 rfl) ?_
      refine lv_ishl hx hb dX6_mostAtOnce_5 ?_
      refine W_top (y := (nI (2 ^ n))) (shl1 n (by omega)) ?_
      refine lv_icmp_ge (tgt := 123) hx hb dX6_mostAtOnce_6 (by decide) (fun c6 => ?_) (fun c6 => ?_)
      · have c6 : (2 ^ n) ≤ s := (nI_leI (a := (2 ^ n)) (b := s) (by omega) (by omega)).mp c6
        refine lv_aload_n hx hb dX6_mostAtOnce_123 rfl (lv_at hl 0 rfl) ?_
        refine M_get hC hK hP 56 (by decide) (fM56 _ _) q1257 dX6_mostAtOnce_124 ?_
        refine lv_iconst (v := 1) hx hb dX6_mostAtOnce_127 (by decide) ?_
        refine lv_iload_n hx hb dX6_mostAtOnce_128 rfl (lv_at hl 1 rfl) ?_
        refine lv_ishl hx hb dX6_mostAtOnce_129 ?_
        refine W_top (y := (nI (2 ^ n))) (shl1 n (by omega)) ?_
        refine lv_iconst (v := 1) hx hb dX6_mostAtOnce_130 (by decide) ?_
        refine lv_isub hx hb dX6_mostAtOnce_131 ?_
        refine W_top (y := (nI (2 ^ n - 1))) (pk_sub (a := 2 ^ n) (b := 1) (by omega)) ?_
        refine M_ald hC hK hP 56 37 256 (2 ^ n - 1) (aM56 _ _ _ _) (by decide) (rfl) (by omega) dX6_mostAtOnce_132 ?_
        refine W_top (y := (g (2 ^ n - 1))) rfl ?_
        exact hq _ _ _ _ _ _ dX6_mostAtOnce_133 hP hS (rfl) (by exact ⟨g, hg _ (by omega), rfl⟩)
      · have c6 : ¬ ((2 ^ n) ≤ s) := mt (nI_leI (a := (2 ^ n)) (b := s) (by omega) (by omega)).mpr c6
        have hsn : s < 2 ^ n := by omega
        refine lv_aload_n hx hb dX6_mostAtOnce_9 rfl (lv_at hl 0 rfl) ?_
        refine M_get hC hK hP 56 (by decide) (fM56 _ _) q1257 dX6_mostAtOnce_10 ?_
        refine lv_iload_n hx hb dX6_mostAtOnce_13 rfl (lv_at hl 2 rfl) ?_
        refine lv_iconst (v := 0) hx hb dX6_mostAtOnce_14 (by decide) ?_
        refine M_ast hC hK hD hP hS 56 37 256 s (aM56 _ _ _ _) (bM56 _ _ _ _ _ _) (by decide) (rfl) (by omega) dX6_mostAtOnce_15 (fun H locs hP hS => ?_)
        rw [mS_A] at hP
        refine lv_iload_n hx hb dX6_mostAtOnce_16 rfl (lv_at hl 2 rfl) ?_
        refine lv_if_ne (tgt := 23) hx hb dX6_mostAtOnce_17 (by decide) (fun c17 => ?_) (fun c17 => ?_)
        · have c17 : ¬ (s = 0) := mt (nI_eq (a := s) (b := 0) (by omega) (by omega)).mpr c17
          refine lv_iload_n hx hb dX6_mostAtOnce_23 rfl (lv_at hl 2 rfl) ?_
          have hs0 : s ≠ 0 := c17
          obtain ⟨hlo, hlo16, hlow⟩ := lowN_spec hs0 (show s < 2 ^ 16 by omega)
          have hcl := clrB_lt hlo
          have hln := bit_lt hlo hsn
          refine CI.callS hC hK hl (c_X6_lowest G l (nI s) (lowN s) (⟨hlo16, by rw [hasB_nI _ (by omega)]; exact hlo, fun i hi => by rw [hasB_nI _ (by omega)]; exact hlow i hi⟩)) trivial q1739 q1740 q116 q1741 mdX6_lowest (room_ok hRm rfl) rfl rfl dX6_mostAtOnce_24 ?_
          refine W_top (y := (nI (lowN s))) rfl ?_
          refine lv_istore_n (lv' := [(3, .int (nI (lowN s))), (0, .ref o), (1, .int (nI n)), (2, .int (nI s))]) hx hb dX6_mostAtOnce_27 rfl hl (by decide) rfl (fun ls hl => ?_)
          refine lv_iload_n hx hb dX6_mostAtOnce_28 rfl (lv_at hl 3 rfl) ?_
          refine lv_iconst (v := 1) hx hb dX6_mostAtOnce_29 (by decide) ?_
          refine lv_iload_n hx hb dX6_mostAtOnce_30 rfl (lv_at hl 0 rfl) ?_
          refine lv_ishl hx hb dX6_mostAtOnce_31 ?_
          refine lv_iconst (v := (-1)) hx hb dX6_mostAtOnce_32 (by decide) ?_
          refine lv_ixor hx hb dX6_mostAtOnce_33 ?_
          refine lv_iand hx hb dX6_mostAtOnce_34 ?_
          refine W_top (y := (nI (clrB s (lowN s)))) (andnot s (by omega)) ?_
          refine lv_istore (lv' := [(4, .int (nI (clrB s (lowN s)))), (3, .int (nI (lowN s))), (0, .ref o), (1, .int (nI n)), (2, .int (nI s))]) hx hb dX6_mostAtOnce_35 hl (by decide) rfl (fun ls hl => ?_)
          refine lv_aload_n hx hb dX6_mostAtOnce_37 rfl (lv_at hl 2 rfl) ?_
          refine M_get hC hK hP 56 (by decide) (fM56 _ _) q1257 dX6_mostAtOnce_38 ?_
          refine lv_iload_n hx hb dX6_mostAtOnce_41 rfl (lv_at hl 4 rfl) ?_
          refine lv_aload_n hx hb dX6_mostAtOnce_42 rfl (lv_at hl 2 rfl) ?_
          refine M_get hC hK hP 56 (by decide) (fM56 _ _) q1257 dX6_mostAtOnce_43 ?_
          refine lv_iload hx hb dX6_mostAtOnce_46 (lv_at hl 0 rfl) ?_
          refine M_ald hC hK hP 56 37 256 (clrB s (lowN s)) (aM56 _ _ _ _) (by decide) (rfl) (by omega) dX6_mostAtOnce_48 ?_
          refine W_top (y := ((upd g s 0) (clrB s (lowN s)))) rfl ?_
          refine W_top (y := (nI (mwF (bothB (u.2.1 10) n) n (clrB s (lowN s))))) ((upd_n _ (by omega)).trans (hg _ (by omega))) ?_
          refine M_ast hC hK hD hP hS 56 37 256 s (aM56 _ _ _ _) (bM56 _ _ _ _ _ _) (by decide) (rfl) (by omega) dX6_mostAtOnce_49 (fun H locs hP hS => ?_)
          rw [mS_A] at hP
          refine lv_iconst (v := 0) hx hb dX6_mostAtOnce_50 (by decide) ?_
          refine lv_istore (lv' := [(5, .int 0), (4, .int (nI (clrB s (lowN s)))), (3, .int (nI (lowN s))), (0, .ref o), (1, .int (nI n)), (2, .int (nI s))]) hx hb dX6_mostAtOnce_51 hl (by decide) rfl (fun ls hl => ?_)
          have LP53 : ∀ (fu53 : Nat) (k : Nat) (g : Nat → Int32) (H : Heap) (locs : List Loc) (ls : Array Slot), n - k < fu53 → k ≤ n → (∀ i, i < s → g i = nI (mwF (bothB (u.2.1 10) n) n i) ∧ True) → g s = nI (mwI (bothB (u.2.1 10) n) (mwF (bothB (u.2.1 10) n) n) (lowN s) (clrB s (lowN s)) k) → PM G o R (mS u 56 g) H → va_S (AM o R) sg.heap H locs → lv_has ls 6 [(0, .ref o), (1, .int (nI n)), (2, .int (nI s)), (3, .int (nI (lowN s))), (4, .int (nI (clrB s (lowN s)))), (5, .int (nI k))] → W pg l en Rm sg mm ar bw mth cd H locs 0 0 QQ (F0 mm 53 ls []) := by
            intro fu53
            induction fu53 with
            | zero => intro k g H locs ls hm53 hk hgk hgs hP hS hl; exact absurd hm53 (Nat.not_lt_zero _)
            | succ fu53 ih53 =>
              intro k g H locs ls hm53 hk hgk hgs hP hS hl
              refine lv_iload hx hb dX6_mostAtOnce_53 (lv_at hl 5 rfl) ?_
              refine lv_iload_n hx hb dX6_mostAtOnce_55 rfl (lv_at hl 1 rfl) ?_
              refine lv_icmp_ge (tgt := 117) hx hb dX6_mostAtOnce_56 (by decide) (fun c56 => ?_) (fun c56 => ?_)
              · have c56 : n ≤ k := (nI_leI (a := n) (b := k) (by omega) (by omega)).mp c56
                refine lv_iinc (v := (nI (s + 1))) (lv' := [(2, .int (nI (s + 1))), (0, .ref o), (1, .int (nI n)), (3, .int (nI (lowN s))), (4, .int (nI (clrB s (lowN s)))), (5, .int (nI k))]) hx hb dX6_mostAtOnce_117 hl (k := 2) rfl (nI_inc s) (by decide) rfl (fun ls hl => ?_)
                refine lv_goto (tgt := 2) hx hb dX6_mostAtOnce_120 (by decide) ?_
                exact ih2 (s + 1) g _ _ ls (by omega) (by first | omega | assumption | rfl | (simp_all; done) | grind) (by first | (intro i hi; by_cases e : i = s; (subst e; rw [upd_s, c17]; rfl); (rw [upd_n _ e]; exact hg i (by omega))) | (intro i hi; by_cases e : i = s; (subst e; rw [hgs, mwF_eq hs0 (by omega), show n = k by omega]); exact (hgk i (by omega)).1)) hP hS (lv_sub hl [1, 2, 0] rfl)
              · have c56 : ¬ (n ≤ k) := mt (nI_leI (a := n) (b := k) (by omega) (by omega)).mpr c56
                refine lv_iload hx hb dX6_mostAtOnce_59 (lv_at hl 4 rfl) ?_
                refine lv_iload hx hb dX6_mostAtOnce_61 (lv_at hl 5 rfl) ?_
                refine CI.callS hC hK hl (c_X6_has G l (nI (clrB s (lowN s))) (nI k) ) trivial q1399 q1400 q116 q1401 mdX6_has (room_ok hRm rfl) rfl rfl dX6_mostAtOnce_63 ?_
                refine W_top (y := (bI (hasB (nI (clrB s (lowN s))) (nI k)))) rfl ?_
                refine lv_if_eq (tgt := 111) hx hb dX6_mostAtOnce_66 (by decide) (fun c66 => ?_) (fun c66 => ?_)
                · have c66 : (hasB (nI (clrB s (lowN s))) (nI k)) = false := bI_0.mp c66
                  rw [hasB_nI _ (by omega)] at c66
                  refine lv_iinc (v := (nI (k + 1))) (lv' := [(5, .int (nI (k + 1))), (0, .ref o), (1, .int (nI n)), (2, .int (nI s)), (3, .int (nI (lowN s))), (4, .int (nI (clrB s (lowN s))))]) hx hb dX6_mostAtOnce_111 hl (k := 5) rfl (nI_inc k) (by decide) rfl (fun ls hl => ?_)
                  refine lv_goto (tgt := 53) hx hb dX6_mostAtOnce_114 (by decide) ?_
                  exact ih53 (k + 1) g _ _ ls (by omega) (by first | omega | assumption | rfl | (simp_all; done) | grind) (by first | exact hgk | exact fun i hi => ⟨by rw [upd_n _ (by omega)]; exact (hgk i hi).1, trivial⟩) (by first | (rw [hgs, mwI_u1 c66]; done) | (rw [hgs, mwI_u2 c77]; done) | (rw [upd_s, mwI_p c66 c77]; done)) hP hS (lv_sub hl [1, 2, 3, 4, 5, 0] rfl)
                · have c66 : (hasB (nI (clrB s (lowN s))) (nI k)) = true := bI_1.mp c66
                  rw [hasB_nI _ (by omega)] at c66
                  have hkl : ¬ k = lowN s := by intro e; rw [e, clrB_bit] at c66; simp at c66
                  have hcl2 := clrB_le (clrB s (lowN s)) k
                  refine lv_aload_n hx hb dX6_mostAtOnce_69 rfl (lv_at hl 0 rfl) ?_
                  refine lv_iload_n hx hb dX6_mostAtOnce_70 rfl (lv_at hl 1 rfl) ?_
                  refine lv_iload_n hx hb dX6_mostAtOnce_71 rfl (lv_at hl 3 rfl) ?_
                  refine lv_iload hx hb dX6_mostAtOnce_72 (lv_at hl 5 rfl) ?_
                  refine CI.callV hC hK hl (c_X6_bothWould G l o R (mS u 56 g) n (lowN s) k (by first | assumption | omega | rfl | (simp_all; done)) (by first | assumption | omega | rfl | (simp_all; done)) (by first | assumption | omega | rfl | (simp_all; done))) hP (hP.recv hK) q1766 q1768 qs104 q116 q1769 mdX6_bothWould (room_ok hRm rfl) rfl rfl dX6_mostAtOnce_74 ?_
                  refine W_top (y := (bI (bothB (u.2.1 10) n (lowN s) k))) rfl ?_
                  refine lv_if_eq (tgt := 111) hx hb dX6_mostAtOnce_77 (by decide) (fun c77 => ?_) (fun c77 => ?_)
                  · have c77 : (bothB (u.2.1 10) n (lowN s) k) = false := bI_0.mp c77
                    refine lv_iinc (v := (nI (k + 1))) (lv' := [(5, .int (nI (k + 1))), (0, .ref o), (1, .int (nI n)), (2, .int (nI s)), (3, .int (nI (lowN s))), (4, .int (nI (clrB s (lowN s))))]) hx hb dX6_mostAtOnce_111 hl (k := 5) rfl (nI_inc k) (by decide) rfl (fun ls hl => ?_)
                    refine lv_goto (tgt := 53) hx hb dX6_mostAtOnce_114 (by decide) ?_
                    exact ih53 (k + 1) g _ _ ls (by omega) (by first | omega | assumption | rfl | (simp_all; done) | grind) (by first | exact hgk | exact fun i hi => ⟨by rw [upd_n _ (by omega)]; exact (hgk i hi).1, trivial⟩) (by first | (rw [hgs, mwI_u1 c66]; done) | (rw [hgs, mwI_u2 c77]; done) | (rw [upd_s, mwI_p c66 c77]; done)) hP hS (lv_sub hl [1, 2, 3, 4, 5, 0] rfl)
                  · have c77 : (bothB (u.2.1 10) n (lowN s) k) = true := bI_1.mp c77
                    refine lv_aload_n hx hb dX6_mostAtOnce_80 rfl (lv_at hl 0 rfl) ?_
                    refine M_get hC hK hP 56 (by decide) (fM56 _ _) q1257 dX6_mostAtOnce_81 ?_
                    refine lv_iload_n hx hb dX6_mostAtOnce_84 rfl (lv_at hl 2 rfl) ?_
                    refine lv_aload_n hx hb dX6_mostAtOnce_85 rfl (lv_at hl 0 rfl) ?_
                    refine M_get hC hK hP 56 (by decide) (fM56 _ _) q1257 dX6_mostAtOnce_86 ?_
                    refine lv_iload_n hx hb dX6_mostAtOnce_89 rfl (lv_at hl 2 rfl) ?_
                    refine M_ald hC hK hP 56 37 256 s (aM56 _ _ _ _) (by decide) (rfl) (by omega) dX6_mostAtOnce_90 ?_
                    refine W_top (y := (g s)) rfl ?_
                    refine W_top (y := (nI (mwI (bothB (u.2.1 10) n) (mwF (bothB (u.2.1 10) n) n) (lowN s) (clrB s (lowN s)) k))) (hgs) ?_
                    refine lv_iconst (v := 1) hx hb dX6_mostAtOnce_91 (by decide) ?_
                    refine lv_aload_n hx hb dX6_mostAtOnce_92 rfl (lv_at hl 0 rfl) ?_
                    refine M_get hC hK hP 56 (by decide) (fM56 _ _) q1257 dX6_mostAtOnce_93 ?_
                    refine lv_iload hx hb dX6_mostAtOnce_96 (lv_at hl 4 rfl) ?_
                    refine lv_iconst (v := 1) hx hb dX6_mostAtOnce_98 (by decide) ?_
                    refine lv_iload hx hb dX6_mostAtOnce_99 (lv_at hl 5 rfl) ?_
                    refine lv_ishl hx hb dX6_mostAtOnce_101 ?_
                    refine lv_iconst (v := (-1)) hx hb dX6_mostAtOnce_102 (by decide) ?_
                    refine lv_ixor hx hb dX6_mostAtOnce_103 ?_
                    refine lv_iand hx hb dX6_mostAtOnce_104 ?_
                    refine W_top (y := (nI (clrB (clrB s (lowN s)) k))) (andnot _ (by omega)) ?_
                    refine M_ald hC hK hP 56 37 256 (clrB (clrB s (lowN s)) k) (aM56 _ _ _ _) (by decide) (rfl) (by omega) dX6_mostAtOnce_105 ?_
                    refine W_top (y := (g (clrB (clrB s (lowN s)) k))) rfl ?_
                    refine W_top (y := (nI (mwF (bothB (u.2.1 10) n) n (clrB (clrB s (lowN s)) k)))) ((hgk _ (by omega)).1) ?_
                    refine lv_iadd hx hb dX6_mostAtOnce_106 ?_
                    refine W_top (nI_add 1 (mwF (bothB (u.2.1 10) n) n (clrB (clrB s (lowN s)) k))) ?_
                    have hb1 := mwI_n (c := (bothB (u.2.1 10) n)) (n := n) (s := s) (a := lowN s) (r := clrB s (lowN s)) (m := k) hn hsn (by omega)
                    have hb2 := mwF_n (bothB (u.2.1 10) n) (s := clrB (clrB s (lowN s)) k) hn (by omega)
                    refine CI.callS hC hK hl (c_X6_max G l (nI (mwI (bothB (u.2.1 10) n) (mwF (bothB (u.2.1 10) n) n) (lowN s) (clrB s (lowN s)) k)) (nI (1 + (mwF (bothB (u.2.1 10) n) n (clrB (clrB s (lowN s)) k)))) ) trivial q1631 q1632 q116 q1633 mdX6_max (room_ok hRm rfl) rfl rfl dX6_mostAtOnce_107 ?_
                    refine W_top (y := (mxI (nI (mwI (bothB (u.2.1 10) n) (mwF (bothB (u.2.1 10) n) n) (lowN s) (clrB s (lowN s)) k)) (nI (1 + (mwF (bothB (u.2.1 10) n) n (clrB (clrB s (lowN s)) k)))))) rfl ?_
                    refine W_top (y := (nI (max (mwI (bothB (u.2.1 10) n) (mwF (bothB (u.2.1 10) n) n) (lowN s) (clrB s (lowN s)) k) (1 + mwF (bothB (u.2.1 10) n) n (clrB (clrB s (lowN s)) k))))) (mxI_nI (by omega) (by omega)) ?_
                    refine M_ast hC hK hD hP hS 56 37 256 s (aM56 _ _ _ _) (bM56 _ _ _ _ _ _) (by decide) (rfl) (by omega) dX6_mostAtOnce_110 (fun H locs hP hS => ?_)
                    rw [mS_A] at hP
                    refine lv_iinc (v := (nI (k + 1))) (lv' := [(5, .int (nI (k + 1))), (0, .ref o), (1, .int (nI n)), (2, .int (nI s)), (3, .int (nI (lowN s))), (4, .int (nI (clrB s (lowN s))))]) hx hb dX6_mostAtOnce_111 hl (k := 5) rfl (nI_inc k) (by decide) rfl (fun ls hl => ?_)
                    refine lv_goto (tgt := 53) hx hb dX6_mostAtOnce_114 (by decide) ?_
                    exact ih53 (k + 1) (upd g s (nI (max (mwI (bothB (u.2.1 10) n) (mwF (bothB (u.2.1 10) n) n) (lowN s) (clrB s (lowN s)) k) (1 + mwF (bothB (u.2.1 10) n) n (clrB (clrB s (lowN s)) k))))) _ _ ls (by omega) (by first | omega | assumption | rfl | (simp_all; done) | grind) (by first | exact hgk | exact fun i hi => ⟨by rw [upd_n _ (by omega)]; exact (hgk i hi).1, trivial⟩) (by first | (rw [hgs, mwI_u1 c66]; done) | (rw [hgs, mwI_u2 c77]; done) | (rw [upd_s, mwI_p c66 c77]; done)) hP hS (lv_sub hl [1, 2, 3, 4, 5, 0] rfl)
          exact LP53 _ 0 (upd (upd g s 0) s (nI (mwF (bothB (u.2.1 10) n) n (clrB s (lowN s))))) _ _ ls (Nat.lt_succ_self _) (by first | omega | assumption | rfl | (simp_all; done) | grind) (fun i hi => ⟨by rw [upd_n _ (by omega), upd_n _ (by omega)]; exact hg i hi, trivial⟩) (upd_s _ _ _) hP hS (lv_sub hl [3, 4, 5, 2, 1, 0] rfl)
        · have c17 : s = 0 := (nI_eq (a := s) (b := 0) (by omega) (by omega)).mp c17
          refine lv_goto (tgt := 117) hx hb dX6_mostAtOnce_20 (by decide) ?_
          refine lv_iinc (v := (nI (s + 1))) (lv' := [(2, .int (nI (s + 1))), (0, .ref o), (1, .int (nI n))]) hx hb dX6_mostAtOnce_117 hl (k := 2) rfl (nI_inc s) (by decide) rfl (fun ls hl => ?_)
          refine lv_goto (tgt := 2) hx hb dX6_mostAtOnce_120 (by decide) ?_
          exact ih2 (s + 1) (upd g s 0) _ _ ls (by omega) (by first | omega | assumption | rfl | (simp_all; done) | grind) (by first | (intro i hi; by_cases e : i = s; (subst e; rw [upd_s, c17]; rfl); (rw [upd_n _ e]; exact hg i (by omega))) | (intro i hi; by_cases e : i = s; (subst e; rw [hgs, mwF_eq hs0 (by omega), show n = k by omega]); exact (hgk i (by omega)).1)) hP hS (lv_sub hl [1, 2, 0] rfl)
  exact LP2 _ 0 (u.2.1 56) _ _ ls (Nat.lt_succ_self _) (by first | omega | assumption | rfl | (simp_all; done) | grind) (fun i hi => absurd hi (Nat.not_lt_zero i)) hP hS (lv_sub hl [1, 2, 0] rfl)
