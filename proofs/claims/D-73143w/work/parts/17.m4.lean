set_option maxRecDepth 100000
set_option maxHeartbeats 4000000 in
theorem c_X6_fits (G : GG) (l : Launch) (o : Nat) (R : Nat → Nat) (u : MS) (n : Nat) (came : Nat) (hn : n ≤ 12) (hcm : came ≤ 12) : CI G l yX6_fits cX6_fits 4 .boolean 3 37 [.ref o, .int (nI n), .int (nI came)] (PM G o R u) (bI (allC (fitC (u.2.1 10) came) n)) := by
  refine CI.mk RX6 pnX6 rfl (bI_nar _) (Nat.le_of_ble_eq_true rfl) (fun pg en Rm sg mm ar bw mth cd QQ ls hC hRm hK hP hl hq => ?_)
  have hx := hC.1; have hb := hC.2.1; have ho := hC.2.2.2.1; have hts := hC.2.2.2.2
  have hl : lv_has ls 4 [(0, .ref o), (1, .int (nI n)), (2, .int (nI came))] := hl
  refine lv_iconst (v := 0) hx hb dX6_fits_0 (by decide) ?_
  refine lv_istore_n (lv' := [(3, .int 0), (0, .ref o), (1, .int (nI n)), (2, .int (nI came))]) hx hb dX6_fits_1 rfl hl (by decide) rfl (fun ls hl => ?_)
  have LP2 : ∀ (fu2 : Nat) (k : Nat) (ls : Array Slot), n - k < fu2 → k ≤ n → allC (fitC (u.2.1 10) came) k = true → lv_has ls 4 [(0, .ref o), (1, .int (nI n)), (2, .int (nI came)), (3, .int (nI k))] → W pg l en Rm sg mm ar bw mth cd sg.heap [] 0 0 QQ (F0 mm 2 ls []) := by
    intro fu2
    induction fu2 with
    | zero => intro k ls hm2 hk ha hl; exact absurd hm2 (Nat.not_lt_zero _)
    | succ fu2 ih2 =>
      intro k ls hm2 hk ha hl
      refine lv_iload_n hx hb dX6_fits_2 rfl (lv_at hl 3 rfl) ?_
      refine lv_iload_n hx hb dX6_fits_3 rfl (lv_at hl 1 rfl) ?_
      refine lv_icmp_ge (tgt := 43) hx hb dX6_fits_4 (by decide) (fun c4 => ?_) (fun c4 => ?_)
      · have c4 : n ≤ k := (nI_leI (a := n) (b := k) (by first | omega | exact ocN_b _ _ | exact hbN_b _ _ _) (by first | omega | exact ocN_b _ _ | exact hbN_b _ _ _)).mp c4
        refine lv_iconst (v := 1) hx hb dX6_fits_43 (by decide) ?_
        exact hq _ _ _ dX6_fits_44 (by have hfin : k = n := (by omega); subst hfin; rw [ha]; rfl)
      · have c4 : ¬ (n ≤ k) := mt (nI_leI (a := n) (b := k) (by first | omega | exact ocN_b _ _ | exact hbN_b _ _ _) (by first | omega | exact ocN_b _ _ | exact hbN_b _ _ _)).mpr c4
        refine lv_aload_n hx hb dX6_fits_7 rfl (lv_at hl 0 rfl) ?_
        refine lv_iconst (v := 2) hx hb dX6_fits_8 (by decide) ?_
        refine lv_iload_n hx hb dX6_fits_9 rfl (lv_at hl 3 rfl) ?_
        refine lv_imul hx hb dX6_fits_10 ?_
        refine W_top (pk_mul 2 k) ?_
        refine CI.callV hC hK hl (c_X6_octet G l o R u (2 * k) (by first | assumption | omega | rfl | (simp_all; done))) hP (hP.recv hK) q1711 q1713 qs96 q116 q1714 mdX6_octet (room_ok hRm rfl) rfl rfl dX6_fits_11 ?_
        refine lv_iload_n hx hb dX6_fits_14 rfl (lv_at hl 2 rfl) ?_
        refine lv_icmp_lt (tgt := 22) hx hb dX6_fits_15 (by decide) (fun c15 => ?_) (fun c15 => ?_)
        · have c15 : (ocN (u.2.1 10) (2 * k)) < came := (nI_ltI (a := (ocN (u.2.1 10) (2 * k))) (b := came) (by first | omega | exact ocN_b _ _ | exact hbN_b _ _ _) (by first | omega | exact ocN_b _ _ | exact hbN_b _ _ _)).mp c15
          refine lv_iconst (v := 0) hx hb dX6_fits_22 (by decide) ?_
          refine lv_aload_n hx hb dX6_fits_23 rfl (lv_at hl 0 rfl) ?_
          refine lv_iconst (v := 2) hx hb dX6_fits_24 (by decide) ?_
          refine lv_iload_n hx hb dX6_fits_25 rfl (lv_at hl 3 rfl) ?_
          refine lv_imul hx hb dX6_fits_26 ?_
          refine W_top (pk_mul 2 k) ?_
          refine lv_iconst (v := 1) hx hb dX6_fits_27 (by decide) ?_
          refine lv_iadd hx hb dX6_fits_28 ?_
          refine W_top (nI_add (2 * k) 1) ?_
          refine CI.callV hC hK hl (c_X6_octet G l o R u ((2 * k) + 1) (by first | assumption | omega | rfl | (simp_all; done))) hP (hP.recv hK) q1711 q1713 qs96 q116 q1714 mdX6_octet (room_ok hRm rfl) rfl rfl dX6_fits_29 ?_
          refine lv_icmp_eq (tgt := 37) hx hb dX6_fits_32 (by decide) (fun c32 => ?_) (fun c32 => ?_)
          · have c32 : 0 = (ocN (u.2.1 10) ((2 * k) + 1)) := (nI_eq (a := 0) (b := (ocN (u.2.1 10) ((2 * k) + 1))) (by first | omega | exact ocN_b _ _ | exact hbN_b _ _ _) (by first | omega | exact ocN_b _ _ | exact hbN_b _ _ _)).mp c32
            refine lv_iinc (v := (nI (k + 1))) (lv' := [(3, .int (nI (k + 1))), (0, .ref o), (1, .int (nI n)), (2, .int (nI came))]) hx hb dX6_fits_37 hl (k := 3) rfl (nI_inc k) (by decide) rfl (fun ls hl => ?_)
            refine lv_goto (tgt := 2) hx hb dX6_fits_40 (by decide) ?_
            exact ih2 (k + 1) ls (by omega) (by first | omega | assumption | rfl | (simp_all; done) | grind) (by (clear hq hP hK hts hC hx hb ho hRm hl ih2); grind [allC, fitC])  (lv_sub hl [1, 2, 3, 0] rfl)
          · have c32 : ¬ (0 = (ocN (u.2.1 10) ((2 * k) + 1))) := mt (nI_eq (a := 0) (b := (ocN (u.2.1 10) ((2 * k) + 1))) (by first | omega | exact ocN_b _ _ | exact hbN_b _ _ _) (by first | omega | exact ocN_b _ _ | exact hbN_b _ _ _)).mpr c32
            refine lv_iconst (v := 0) hx hb dX6_fits_35 (by decide) ?_
            exact hq _ _ _ dX6_fits_36 (by rw [allC_f (k := k) (by omega) (by (clear hq hP hK hts hC hx hb ho hRm hl ih2); grind [fitC])]; rfl)
        · have c15 : ¬ ((ocN (u.2.1 10) (2 * k)) < came) := mt (nI_ltI (a := (ocN (u.2.1 10) (2 * k))) (b := came) (by first | omega | exact ocN_b _ _ | exact hbN_b _ _ _) (by first | omega | exact ocN_b _ _ | exact hbN_b _ _ _)).mpr c15
          refine lv_iconst (v := 1) hx hb dX6_fits_18 (by decide) ?_
          refine lv_goto (tgt := 23) hx hb dX6_fits_19 (by decide) ?_
          refine lv_aload_n hx hb dX6_fits_23 rfl (lv_at hl 0 rfl) ?_
          refine lv_iconst (v := 2) hx hb dX6_fits_24 (by decide) ?_
          refine lv_iload_n hx hb dX6_fits_25 rfl (lv_at hl 3 rfl) ?_
          refine lv_imul hx hb dX6_fits_26 ?_
          refine W_top (pk_mul 2 k) ?_
          refine lv_iconst (v := 1) hx hb dX6_fits_27 (by decide) ?_
          refine lv_iadd hx hb dX6_fits_28 ?_
          refine W_top (nI_add (2 * k) 1) ?_
          refine CI.callV hC hK hl (c_X6_octet G l o R u ((2 * k) + 1) (by first | assumption | omega | rfl | (simp_all; done))) hP (hP.recv hK) q1711 q1713 qs96 q116 q1714 mdX6_octet (room_ok hRm rfl) rfl rfl dX6_fits_29 ?_
          refine lv_icmp_eq (tgt := 37) hx hb dX6_fits_32 (by decide) (fun c32 => ?_) (fun c32 => ?_)
          · have c32 : 1 = (ocN (u.2.1 10) ((2 * k) + 1)) := (nI_eq (a := 1) (b := (ocN (u.2.1 10) ((2 * k) + 1))) (by first | omega | exact ocN_b _ _ | exact hbN_b _ _ _) (by first | omega | exact ocN_b _ _ | exact hbN_b _ _ _)).mp c32
            refine lv_iinc (v := (nI (k + 1))) (lv' := [(3, .int (nI (k + 1))), (0, .ref o), (1, .int (nI n)), (2, .int (nI came))]) hx hb dX6_fits_37 hl (k := 3) rfl (nI_inc k) (by decide) rfl (fun ls hl => ?_)
            refine lv_goto (tgt := 2) hx hb dX6_fits_40 (by decide) ?_
            exact ih2 (k + 1) ls (by omega) (by first | omega | assumption | rfl | (simp_all; done) | grind) (by (clear hq hP hK hts hC hx hb ho hRm hl ih2); grind [allC, fitC])  (lv_sub hl [1, 2, 3, 0] rfl)
          · have c32 : ¬ (1 = (ocN (u.2.1 10) ((2 * k) + 1))) := mt (nI_eq (a := 1) (b := (ocN (u.2.1 10) ((2 * k) + 1))) (by first | omega | exact ocN_b _ _ | exact hbN_b _ _ _) (by first | omega | exact ocN_b _ _ | exact hbN_b _ _ _)).mpr c32
            refine lv_iconst (v := 0) hx hb dX6_fits_35 (by decide) ?_
            exact hq _ _ _ dX6_fits_36 (by rw [allC_f (k := k) (by omega) (by (clear hq hP hK hts hC hx hb ho hRm hl ih2); grind [fitC])]; rfl)
  exact LP2 _ 0 ls (Nat.lt_succ_self _) (by first | omega | assumption | rfl | (simp_all; done) | grind) (rfl)  (lv_sub hl [1, 2, 3, 0] rfl)
set_option maxHeartbeats 4000000 in
theorem c_X6_crack (G : GG) (l : Launch) (o : Nat) (R : Nat → Nat) (u : MS) (n0 : Int32) (k0 : Int32) (hw : WOK (u.2.1 3)) (hD : DM o R) : CMi G l o R yX6_crack cX6_crack 6 .int 4 60 [.int n0, .int k0] u (fun r w => r = (crackI (u.2.1 3) (u.2.1 10) (u.1 11) n0 k0) ∧ w = (if crackG (u.1 11) n0 k0 = true then mV u 11 0 else u)) := by
  refine CMi.mk pnX6 rfl (Nat.le_of_ble_eq_true rfl) (fun pg en Rm sg mm ar bw mth cd QQ ls hC hRm hK hP hS hl hq => ?_)
  have hx := hC.1; have hb := hC.2.1; have ho := hC.2.2.2.1; have hts := hC.2.2.2.2
  have hl : lv_has ls 6 [(0, .ref o), (1, .int n0), (2, .int k0)] := hl
  refine lv_iload_n hx hb dX6_crack_0 rfl (lv_at hl 1 rfl) ?_
  refine lv_iconst (v := 1) hx hb dX6_crack_1 (by decide) ?_
  refine lv_bipush (v := 12) hx hb dX6_crack_2 (by decide) ?_
  refine CI.callS hC hK hl (c_X6_in G l n0 1 12 ) trivial q1392 q1393 q116 q1394 mdX6_in (room_ok hRm rfl) rfl rfl dX6_crack_4 ?_
  refine lv_if_eq (tgt := 29) hx hb dX6_crack_7 (by decide) (fun c7 => ?_) (fun c7 => ?_)
  · have c7 : (inB n0 1 12) = false := bI_0.mp c7
    refine lv_iconst (v := (-1)) hx hb dX6_crack_29 (by decide) ?_
    exact hq _ _ _ _ _ _ dX6_crack_30 hP hS (rfl) (by exact ⟨by first | (simp [crackI, crackG, c7]; done) | (simp [crackI, crackG, c7, c16]; done) | (simp [crackI, crackG, c7, c16, c26]; done), by first | (simp [crackG, c7]; done) | (simp [crackG, c7, c16]; done) | (simp [crackG, c7, c16, c26]; done)⟩)
  · have c7 : (inB n0 1 12) = true := bI_1.mp c7
    obtain ⟨n, hn1, hn, rfl, hnx⟩ := inB_nI2 1 12 (by decide) (by decide) c7
    have hl : lv_has ls 6 [(0, .ref o), (1, .int (nI n)), (2, .int k0)] := hl
    refine lv_iload_n hx hb dX6_crack_10 rfl (lv_at hl 2 rfl) ?_
    refine lv_iconst (v := 0) hx hb dX6_crack_11 (by decide) ?_
    refine lv_iconst (v := 1) hx hb dX6_crack_12 (by decide) ?_
    refine CI.callS hC hK hl (c_X6_in G l k0 0 1 ) trivial q1392 q1393 q116 q1394 mdX6_in (room_ok hRm rfl) rfl rfl dX6_crack_13 ?_
    refine lv_if_eq (tgt := 29) hx hb dX6_crack_16 (by decide) (fun c16 => ?_) (fun c16 => ?_)
    · have c16 : (inB k0 0 1) = false := bI_0.mp c16
      refine lv_iconst (v := (-1)) hx hb dX6_crack_29 (by decide) ?_
      exact hq _ _ _ _ _ _ dX6_crack_30 hP hS (rfl) (by exact ⟨by first | (simp [crackI, crackG, c7]; done) | (simp [crackI, crackG, c7, c16]; done) | (simp [crackI, crackG, c7, c16, c26]; done), by first | (simp [crackG, c7]; done) | (simp [crackG, c7, c16]; done) | (simp [crackG, c7, c16, c26]; done)⟩)
    · have c16 : (inB k0 0 1) = true := bI_1.mp c16
      refine lv_iconst (v := 2) hx hb dX6_crack_19 (by decide) ?_
      refine lv_iload_n hx hb dX6_crack_20 rfl (lv_at hl 1 rfl) ?_
      refine lv_imul hx hb dX6_crack_21 ?_
      refine lv_aload_n hx hb dX6_crack_22 rfl (lv_at hl 0 rfl) ?_
      refine M_get (v := .int (u.1 11)) hC hK hP 11 (by decide) (fM11 _ _) q1212 dX6_crack_23 ?_
      refine lv_icmp_le (tgt := 31) hx hb dX6_crack_26 (by decide) (fun c26 => ?_) (fun c26 => ?_)
      · refine lv_aload_n hx hb dX6_crack_31 rfl (lv_at hl 0 rfl) ?_
        refine lv_iconst (v := 0) hx hb dX6_crack_32 (by decide) ?_
        refine M_put hC hK hD hP hS 11 (by decide) (sM11 _ _ _) q1212 rfl dX6_crack_33 (fun H locs hP hS => ?_)
        refine lv_iconst (v := 0) hx hb dX6_crack_36 (by decide) ?_
        refine lv_istore_n (lv' := [(3, .int 0), (0, .ref o), (1, .int (nI n)), (2, .int k0)]) hx hb dX6_crack_37 rfl hl (by decide) rfl (fun ls hl => ?_)
        have LP38 : ∀ (fu38 : Nat) (k : Nat) (ls : Array Slot), n - k < fu38 → k ≤ n → allC (saysC (u.2.1 10)) k = true → lv_has ls 6 [(0, .ref o), (1, .int (nI n)), (2, .int k0), (3, .int (nI k))] → W pg l en Rm sg mm ar bw mth cd H locs 0 0 QQ (F0 mm 38 ls []) := by
          intro fu38
          induction fu38 with
          | zero => intro k ls hm38 hk ha hl; exact absurd hm38 (Nat.not_lt_zero _)
          | succ fu38 ih38 =>
            intro k ls hm38 hk ha hl
            refine lv_iload_n hx hb dX6_crack_38 rfl (lv_at hl 3 rfl) ?_
            refine lv_iload_n hx hb dX6_crack_39 rfl (lv_at hl 1 rfl) ?_
            refine lv_icmp_ge (tgt := 77) hx hb dX6_crack_40 (by decide) (fun c40 => ?_) (fun c40 => ?_)
            · have c40 : n ≤ k := (nI_leI (a := n) (b := k) (by first | omega | exact ocN_b _ _ | exact hbN_b _ _ _) (by first | omega | exact ocN_b _ _ | exact hbN_b _ _ _)).mp c40
              refine lv_iconst (v := 0) hx hb dX6_crack_77 (by decide) ?_
              refine lv_istore_n (lv' := [(3, .int 0), (0, .ref o), (1, .int (nI n)), (2, .int k0)]) hx hb dX6_crack_78 rfl hl (by decide) rfl (fun ls hl => ?_)
              refine lv_iconst (v := 0) hx hb dX6_crack_79 (by decide) ?_
              refine lv_istore (lv' := [(4, .int 0), (3, .int 0), (0, .ref o), (1, .int (nI n)), (2, .int k0)]) hx hb dX6_crack_80 hl (by decide) rfl (fun ls hl => ?_)
              refine lv_iconst (v := 0) hx hb dX6_crack_82 (by decide) ?_
              refine lv_istore (lv' := [(5, .int 0), (4, .int 0), (3, .int 0), (0, .ref o), (1, .int (nI n)), (2, .int k0)]) hx hb dX6_crack_83 hl (by decide) rfl (fun ls hl => ?_)
              have LP85 : ∀ (fu85 : Nat) (qq : Nat) (tu : Int32) (wh : Int32) (ls : Array Slot), 13 - qq < fu85 → qq ≤ 13 → tu = orN (fun q => allC (fitC (u.2.1 10) q) n) qq → wh = whoS (u.2.1 3) (fun q => allC (fitC (u.2.1 10) q) n) qq → lv_has ls 6 [(0, .ref o), (1, .int (nI n)), (2, .int k0), (3, .int tu), (4, .int wh), (5, .int (nI qq))] → W pg l en Rm sg mm ar bw mth cd H locs 0 0 QQ (F0 mm 85 ls []) := by
                intro fu85
                induction fu85 with
                | zero => intro qq tu wh ls hm85 hqq htu hwh hl; exact absurd hm85 (Nat.not_lt_zero _)
                | succ fu85 ih85 =>
                  intro qq tu wh ls hm85 hqq htu hwh hl
                  refine lv_iload hx hb dX6_crack_85 (lv_at hl 5 rfl) ?_
                  refine lv_bipush (v := 12) hx hb dX6_crack_87 (by decide) ?_
                  refine lv_icmp_gt (tgt := 150) hx hb dX6_crack_89 (by decide) (fun c89 => ?_) (fun c89 => ?_)
                  · have c89 : 12 < qq := (nI_ltI (a := 12) (b := qq) (by first | omega | exact ocN_b _ _ | exact hbN_b _ _ _) (by first | omega | exact ocN_b _ _ | exact hbN_b _ _ _)).mp c89
                    refine lv_iload_n hx hb dX6_crack_150 rfl (lv_at hl 2 rfl) ?_
                    refine lv_if_ne (tgt := 158) hx hb dX6_crack_151 (by decide) (fun c151 => ?_) (fun c151 => ?_)
                    · refine lv_iload hx hb dX6_crack_158 (lv_at hl 4 rfl) ?_
                      exact hq _ _ _ _ _ _ dX6_crack_160 hP hS (rfl) (by have hg : crackG (u.1 11) (nI n) k0 = true := (by simp [crackG, c7, c16, c26]); have hq13 : qq = 13 := (by omega); have hkn : k = n := (by omega); subst hq13 hkn; exact ⟨by rw [crackI, if_pos hg, hnx, crackV, if_pos ha]; first | (rw [if_pos c151]; exact htu) | (rw [if_neg c151]; exact hwh), by rw [if_pos hg]⟩)
                    · refine lv_iload_n hx hb dX6_crack_154 rfl (lv_at hl 3 rfl) ?_
                      refine lv_goto (tgt := 160) hx hb dX6_crack_155 (by decide) ?_
                      exact hq _ _ _ _ _ _ dX6_crack_160 hP hS (rfl) (by have hg : crackG (u.1 11) (nI n) k0 = true := (by simp [crackG, c7, c16, c26]); have hq13 : qq = 13 := (by omega); have hkn : k = n := (by omega); subst hq13 hkn; exact ⟨by rw [crackI, if_pos hg, hnx, crackV, if_pos ha]; first | (rw [if_pos c151]; exact htu) | (rw [if_neg c151]; exact hwh), by rw [if_pos hg]⟩)
                  · have c89 : ¬ (12 < qq) := mt (nI_ltI (a := 12) (b := qq) (by first | omega | exact ocN_b _ _ | exact hbN_b _ _ _) (by first | omega | exact ocN_b _ _ | exact hbN_b _ _ _)).mpr c89
                    refine lv_aload_n hx hb dX6_crack_92 rfl (lv_at hl 0 rfl) ?_
                    refine lv_iload_n hx hb dX6_crack_93 rfl (lv_at hl 1 rfl) ?_
                    refine lv_iload hx hb dX6_crack_94 (lv_at hl 5 rfl) ?_
                    refine CI.callV hC hK hl (c_X6_fits G l o R (mV u 11 0) n qq (by first | assumption | omega | rfl | (simp_all; done)) (by first | assumption | omega | rfl | (simp_all; done))) hP (hP.recv hK) q1746 q1748 qs101 q116 q1749 mdX6_fits (room_ok hRm rfl) rfl rfl dX6_crack_96 ?_
                    refine W_top (y := (bI (allC (fitC (u.2.1 10) qq) n))) rfl ?_
                    refine lv_if_ne (tgt := 105) hx hb dX6_crack_99 (by decide) (fun c99 => ?_) (fun c99 => ?_)
                    · have c99 : (allC (fitC (u.2.1 10) qq) n) = true := bI_1.mp c99
                      refine lv_iload_n hx hb dX6_crack_105 rfl (lv_at hl 3 rfl) ?_
                      refine lv_iconst (v := 1) hx hb dX6_crack_106 (by decide) ?_
                      refine lv_iload hx hb dX6_crack_107 (lv_at hl 5 rfl) ?_
                      refine lv_ishl hx hb dX6_crack_109 ?_
                      refine lv_ior hx hb dX6_crack_110 ?_
                      refine lv_istore_n (lv' := [(3, .int (tu ||| (1 <<< ((nI qq) &&& 31)))), (0, .ref o), (1, .int (nI n)), (2, .int k0), (4, .int wh), (5, .int (nI qq))]) hx hb dX6_crack_111 rfl hl (by decide) rfl (fun ls hl => ?_)
                      refine lv_iload hx hb dX6_crack_112 (lv_at hl 5 rfl) ?_
                      refine lv_bipush (v := 12) hx hb dX6_crack_114 (by decide) ?_
                      refine lv_icmp_ge (tgt := 144) hx hb dX6_crack_116 (by decide) (fun c116 => ?_) (fun c116 => ?_)
                      · have c116 : 12 ≤ qq := (nI_leI (a := 12) (b := qq) (by first | omega | exact ocN_b _ _ | exact hbN_b _ _ _) (by first | omega | exact ocN_b _ _ | exact hbN_b _ _ _)).mp c116
                        refine lv_iinc (v := (nI (qq + 1))) (lv' := [(5, .int (nI (qq + 1))), (3, .int (tu ||| (1 <<< ((nI qq) &&& 31)))), (0, .ref o), (1, .int (nI n)), (2, .int k0), (4, .int wh)]) hx hb dX6_crack_144 hl (k := 5) rfl (nI_inc qq) (by decide) rfl (fun ls hl => ?_)
                        refine lv_goto (tgt := 85) hx hb dX6_crack_147 (by decide) ?_
                        exact ih85 (qq + 1) (tu ||| (1 <<< ((nI qq) &&& 31))) wh ls (by omega) (by first | omega | assumption | rfl | (simp_all; done) | grind) (by (clear hq hP hK hts hC hx hb ho hRm hl hS ih38 ih85); grind [orN, bitI]) (by (clear hq hP hK hts hC hx hb ho hRm hl hS ih38 ih85); grind [whoS, bitI])  (lv_sub hl [2, 3, 4, 1, 5, 0] rfl)
                      · have c116 : ¬ (12 ≤ qq) := mt (nI_leI (a := 12) (b := qq) (by first | omega | exact ocN_b _ _ | exact hbN_b _ _ _) (by first | omega | exact ocN_b _ _ | exact hbN_b _ _ _)).mpr c116
                        refine lv_aload_n hx hb dX6_crack_119 rfl (lv_at hl 1 rfl) ?_
                        refine M_get hC hK hP 3 (by decide) (fM3 _ _) q1204 dX6_crack_120 ?_
                        refine lv_iload hx hb dX6_crack_123 (lv_at hl 5 rfl) ?_
                        refine M_ald hC hK hP 3 4 12 qq (aM3 _ _ _ _) (by decide) (rfl) (by omega) dX6_crack_125 ?_
                        refine W_top (y := (u.2.1 3 qq)) rfl ?_
                        refine lv_iconst (v := (-1)) hx hb dX6_crack_126 (by decide) ?_
                        refine lv_icmp_eq (tgt := 144) hx hb dX6_crack_127 (by decide) (fun c127 => ?_) (fun c127 => ?_)
                        · refine lv_iinc (v := (nI (qq + 1))) (lv' := [(5, .int (nI (qq + 1))), (3, .int (tu ||| (1 <<< ((nI qq) &&& 31)))), (0, .ref o), (1, .int (nI n)), (2, .int k0), (4, .int wh)]) hx hb dX6_crack_144 hl (k := 5) rfl (nI_inc qq) (by decide) rfl (fun ls hl => ?_)
                          refine lv_goto (tgt := 85) hx hb dX6_crack_147 (by decide) ?_
                          exact ih85 (qq + 1) (tu ||| (1 <<< ((nI qq) &&& 31))) wh ls (by omega) (by first | omega | assumption | rfl | (simp_all; done) | grind) (by (clear hq hP hK hts hC hx hb ho hRm hl hS ih38 ih85); grind [orN, bitI]) (by (clear hq hP hK hts hC hx hb ho hRm hl hS ih38 ih85); grind [whoS, bitI])  (lv_sub hl [2, 3, 4, 1, 5, 0] rfl)
                        · refine lv_iload hx hb dX6_crack_130 (lv_at hl 4 rfl) ?_
                          refine lv_iconst (v := 1) hx hb dX6_crack_132 (by decide) ?_
                          refine lv_aload_n hx hb dX6_crack_133 rfl (lv_at hl 1 rfl) ?_
                          refine M_get hC hK hP 3 (by decide) (fM3 _ _) q1204 dX6_crack_134 ?_
                          refine lv_iload hx hb dX6_crack_137 (lv_at hl 5 rfl) ?_
                          refine M_ald hC hK hP 3 4 12 qq (aM3 _ _ _ _) (by decide) (rfl) (by omega) dX6_crack_139 ?_
                          refine W_top (y := (u.2.1 3 qq)) rfl ?_
                          refine W_top (y := (nI (ix ((u.2.1 3) qq)))) ((hw.ix (t := qq) (by omega) (by assumption)).1) ?_
                          refine lv_ishl hx hb dX6_crack_140 ?_
                          refine lv_ior hx hb dX6_crack_141 ?_
                          refine lv_istore (lv' := [(4, .int (wh ||| (1 <<< ((nI (ix ((u.2.1 3) qq))) &&& 31)))), (3, .int (tu ||| (1 <<< ((nI qq) &&& 31)))), (0, .ref o), (1, .int (nI n)), (2, .int k0), (5, .int (nI qq))]) hx hb dX6_crack_142 hl (by decide) rfl (fun ls hl => ?_)
                          refine lv_iinc (v := (nI (qq + 1))) (lv' := [(5, .int (nI (qq + 1))), (4, .int (wh ||| (1 <<< ((nI (ix ((u.2.1 3) qq))) &&& 31)))), (3, .int (tu ||| (1 <<< ((nI qq) &&& 31)))), (0, .ref o), (1, .int (nI n)), (2, .int k0)]) hx hb dX6_crack_144 hl (k := 5) rfl (nI_inc qq) (by decide) rfl (fun ls hl => ?_)
                          refine lv_goto (tgt := 85) hx hb dX6_crack_147 (by decide) ?_
                          exact ih85 (qq + 1) (tu ||| (1 <<< ((nI qq) &&& 31))) (wh ||| (1 <<< ((nI (ix ((u.2.1 3) qq))) &&& 31))) ls (by omega) (by first | omega | assumption | rfl | (simp_all; done) | grind) (by (clear hq hP hK hts hC hx hb ho hRm hl hS ih38 ih85); grind [orN, bitI]) (by (clear hq hP hK hts hC hx hb ho hRm hl hS ih38 ih85); grind [whoS, bitI])  (lv_sub hl [3, 4, 5, 2, 1, 0] rfl)
                    · have c99 : (allC (fitC (u.2.1 10) qq) n) = false := bI_0.mp c99
                      refine lv_goto (tgt := 144) hx hb dX6_crack_102 (by decide) ?_
                      refine lv_iinc (v := (nI (qq + 1))) (lv' := [(5, .int (nI (qq + 1))), (0, .ref o), (1, .int (nI n)), (2, .int k0), (3, .int tu), (4, .int wh)]) hx hb dX6_crack_144 hl (k := 5) rfl (nI_inc qq) (by decide) rfl (fun ls hl => ?_)
                      refine lv_goto (tgt := 85) hx hb dX6_crack_147 (by decide) ?_
                      exact ih85 (qq + 1) tu wh ls (by omega) (by first | omega | assumption | rfl | (simp_all; done) | grind) (by (clear hq hP hK hts hC hx hb ho hRm hl hS ih38 ih85); grind [orN, bitI]) (by (clear hq hP hK hts hC hx hb ho hRm hl hS ih38 ih85); grind [whoS, bitI])  (lv_sub hl [1, 2, 3, 4, 5, 0] rfl)
              exact LP85 _ 0 0 0 ls (Nat.lt_succ_self _) (by first | omega | assumption | rfl | (simp_all; done) | grind) (rfl) (rfl)  (lv_sub hl [3, 4, 5, 2, 1, 0] rfl)
            · have c40 : ¬ (n ≤ k) := mt (nI_leI (a := n) (b := k) (by first | omega | exact ocN_b _ _ | exact hbN_b _ _ _) (by first | omega | exact ocN_b _ _ | exact hbN_b _ _ _)).mpr c40
              refine lv_aload_n hx hb dX6_crack_43 rfl (lv_at hl 0 rfl) ?_
              refine lv_iconst (v := 2) hx hb dX6_crack_44 (by decide) ?_
              refine lv_iload_n hx hb dX6_crack_45 rfl (lv_at hl 3 rfl) ?_
              refine lv_imul hx hb dX6_crack_46 ?_
              refine W_top (pk_mul 2 k) ?_
              refine CI.callV hC hK hl (c_X6_octet G l o R (mV u 11 0) (2 * k) (by first | assumption | omega | rfl | (simp_all; done))) hP (hP.recv hK) q1711 q1713 qs96 q116 q1714 mdX6_octet (room_ok hRm rfl) rfl rfl dX6_crack_47 ?_
              refine W_top (y := (nI (ocN (u.2.1 10) (2 * k)))) rfl ?_
              refine lv_bipush (v := 12) hx hb dX6_crack_50 (by decide) ?_
              refine lv_icmp_ge (tgt := 68) hx hb dX6_crack_52 (by decide) (fun c52 => ?_) (fun c52 => ?_)
              · have c52 : 12 ≤ (ocN (u.2.1 10) (2 * k)) := (nI_leI (a := 12) (b := (ocN (u.2.1 10) (2 * k))) (by first | omega | exact ocN_b _ _ | exact hbN_b _ _ _) (by first | omega | exact ocN_b _ _ | exact hbN_b _ _ _)).mp c52
                refine lv_bipush (v := (-3)) hx hb dX6_crack_68 (by decide) ?_
                exact hq _ _ _ _ _ _ dX6_crack_70 hP hS (rfl) (by have hg : crackG (u.1 11) (nI n) k0 = true := (by simp [crackG, c7, c16, c26]); exact ⟨by rw [crackI, if_pos hg, hnx, crackV, allC_f (k := k) (by omega) (by (clear hq hP hK hts hC hx hb ho hRm hl hS ih38); grind [saysC])]; rfl, by rw [if_pos hg]⟩)
              · have c52 : ¬ (12 ≤ (ocN (u.2.1 10) (2 * k))) := mt (nI_leI (a := 12) (b := (ocN (u.2.1 10) (2 * k))) (by first | omega | exact ocN_b _ _ | exact hbN_b _ _ _) (by first | omega | exact ocN_b _ _ | exact hbN_b _ _ _)).mpr c52
                refine lv_aload_n hx hb dX6_crack_55 rfl (lv_at hl 0 rfl) ?_
                refine lv_iconst (v := 2) hx hb dX6_crack_56 (by decide) ?_
                refine lv_iload_n hx hb dX6_crack_57 rfl (lv_at hl 3 rfl) ?_
                refine lv_imul hx hb dX6_crack_58 ?_
                refine W_top (pk_mul 2 k) ?_
                refine lv_iconst (v := 1) hx hb dX6_crack_59 (by decide) ?_
                refine lv_iadd hx hb dX6_crack_60 ?_
                refine W_top (nI_add (2 * k) 1) ?_
                refine CI.callV hC hK hl (c_X6_octet G l o R (mV u 11 0) ((2 * k) + 1) (by first | assumption | omega | rfl | (simp_all; done))) hP (hP.recv hK) q1711 q1713 qs96 q116 q1714 mdX6_octet (room_ok hRm rfl) rfl rfl dX6_crack_61 ?_
                refine W_top (y := (nI (ocN (u.2.1 10) ((2 * k) + 1)))) rfl ?_
                refine lv_iconst (v := 1) hx hb dX6_crack_64 (by decide) ?_
                refine lv_icmp_le (tgt := 71) hx hb dX6_crack_65 (by decide) (fun c65 => ?_) (fun c65 => ?_)
                · have c65 : (ocN (u.2.1 10) ((2 * k) + 1)) ≤ 1 := (nI_leI (a := (ocN (u.2.1 10) ((2 * k) + 1))) (b := 1) (by first | omega | exact ocN_b _ _ | exact hbN_b _ _ _) (by first | omega | exact ocN_b _ _ | exact hbN_b _ _ _)).mp c65
                  refine lv_iinc (v := (nI (k + 1))) (lv' := [(3, .int (nI (k + 1))), (0, .ref o), (1, .int (nI n)), (2, .int k0)]) hx hb dX6_crack_71 hl (k := 3) rfl (nI_inc k) (by decide) rfl (fun ls hl => ?_)
                  refine lv_goto (tgt := 38) hx hb dX6_crack_74 (by decide) ?_
                  exact ih38 (k + 1) ls (by omega) (by first | omega | assumption | rfl | (simp_all; done) | grind) (by (clear hq hP hK hts hC hx hb ho hRm hl hS ih38); grind [allC, saysC])  (lv_sub hl [1, 2, 3, 0] rfl)
                · have c65 : ¬ ((ocN (u.2.1 10) ((2 * k) + 1)) ≤ 1) := mt (nI_leI (a := (ocN (u.2.1 10) ((2 * k) + 1))) (b := 1) (by first | omega | exact ocN_b _ _ | exact hbN_b _ _ _) (by first | omega | exact ocN_b _ _ | exact hbN_b _ _ _)).mpr c65
                  refine lv_bipush (v := (-3)) hx hb dX6_crack_68 (by decide) ?_
                  exact hq _ _ _ _ _ _ dX6_crack_70 hP hS (rfl) (by have hg : crackG (u.1 11) (nI n) k0 = true := (by simp [crackG, c7, c16, c26]); exact ⟨by rw [crackI, if_pos hg, hnx, crackV, allC_f (k := k) (by omega) (by (clear hq hP hK hts hC hx hb ho hRm hl hS ih38); grind [saysC])]; rfl, by rw [if_pos hg]⟩)
        exact LP38 _ 0 ls (Nat.lt_succ_self _) (by first | omega | assumption | rfl | (simp_all; done) | grind) (rfl)  (lv_sub hl [1, 2, 3, 0] rfl)
      · refine lv_iconst (v := (-1)) hx hb dX6_crack_29 (by decide) ?_
        exact hq _ _ _ _ _ _ dX6_crack_30 hP hS (rfl) (by exact ⟨by first | (simp [crackI, crackG, c7]; done) | (simp [crackI, crackG, c7, c16]; done) | (simp [crackI, crackG, c7, c16, c26]; done), by first | (simp [crackG, c7]; done) | (simp [crackG, c7, c16]; done) | (simp [crackG, c7, c16, c26]; done)⟩)
set_option maxHeartbeats 4000000 in
theorem c_X6_worth (G : GG) (l : Launch) (o : Nat) (R : Nat → Nat) (u : MS) (n : Nat) (a : Nat) (c : Nat) (hr : n * a + c < 260) : CI G l yX6_worth cX6_worth 4 .int 3 37 [.ref o, .int (nI n), .int (nI a), .int (nI c)] (PM G o R u) (nI (worN (u.2.1 10) n a c)) := by
  refine CI.mk RX6 pnX6 rfl (rfl) (Nat.le_of_ble_eq_true rfl) (fun pg en Rm sg mm ar bw mth cd QQ ls hC hRm hK hP hl hq => ?_)
  have hx := hC.1; have hb := hC.2.1; have ho := hC.2.2.2.1; have hts := hC.2.2.2.2
  have hl : lv_has ls 4 [(0, .ref o), (1, .int (nI n)), (2, .int (nI a)), (3, .int (nI c))] := hl
  refine lv_aload_n hx hb dX6_worth_0 rfl (lv_at hl 0 rfl) ?_
  refine lv_iload_n hx hb dX6_worth_1 rfl (lv_at hl 1 rfl) ?_
  refine lv_iload_n hx hb dX6_worth_2 rfl (lv_at hl 2 rfl) ?_
  refine lv_imul hx hb dX6_worth_3 ?_
  refine W_top (pk_mul n a) ?_
  refine lv_iload_n hx hb dX6_worth_4 rfl (lv_at hl 3 rfl) ?_
  refine lv_iadd hx hb dX6_worth_5 ?_
  refine W_top (nI_add (n * a) c) ?_
  refine CI.callV hC hK hl (c_X6_octet G l o R u ((n * a) + c) (by first | assumption | omega | rfl | (simp_all; done))) hP (hP.recv hK) q1711 q1713 qs96 q116 q1714 mdX6_octet (room_ok hRm rfl) rfl rfl dX6_worth_6 ?_
  exact hq _ _ _ dX6_worth_9 (by rfl)
set_option maxHeartbeats 4000000 in
theorem c_X6_bothWould (G : GG) (l : Launch) (o : Nat) (R : Nat → Nat) (u : MS) (n : Nat) (a : Nat) (c : Nat) (hn : n ≤ 8) (ha : a < n) (hc : c < n) : CI G l yX6_bothWould cX6_bothWould 4 .boolean 4 60 [.ref o, .int (nI n), .int (nI a), .int (nI c)] (PM G o R u) (bI (bothB (u.2.1 10) n a c)) := by
  refine CI.mk RX6 pnX6 rfl (bI_nar _) (Nat.le_of_ble_eq_true rfl) (fun pg en Rm sg mm ar bw mth cd QQ ls hC hRm hK hP hl hq => ?_)
  have hx := hC.1; have hb := hC.2.1; have ho := hC.2.2.2.1; have hts := hC.2.2.2.2
  have hl : lv_has ls 4 [(0, .ref o), (1, .int (nI n)), (2, .int (nI a)), (3, .int (nI c))] := hl
  have hm := Nat.mul_le_mul (Nat.le_refl n) (show a + 1 ≤ n from ha); have hm2 := Nat.mul_le_mul (Nat.le_refl n) (show c + 1 ≤ n from hc); have hm3 := Nat.mul_le_mul hn hn; rw [Nat.mul_add, Nat.mul_one] at hm hm2
  refine lv_aload_n hx hb dX6_bothWould_0 rfl (lv_at hl 0 rfl) ?_
  refine lv_iload_n hx hb dX6_bothWould_1 rfl (lv_at hl 1 rfl) ?_
  refine lv_iload_n hx hb dX6_bothWould_2 rfl (lv_at hl 2 rfl) ?_
  refine lv_iload_n hx hb dX6_bothWould_3 rfl (lv_at hl 3 rfl) ?_
  refine CI.callV hC hK hl (c_X6_worth G l o R u n a c (by first | assumption | omega | rfl | (simp_all; done))) hP (hP.recv hK) q1770 q1772 qs105 q116 q1773 mdX6_worth (room_ok hRm rfl) rfl rfl dX6_bothWould_4 ?_
  refine lv_aload_n hx hb dX6_bothWould_7 rfl (lv_at hl 0 rfl) ?_
  refine lv_iload_n hx hb dX6_bothWould_8 rfl (lv_at hl 1 rfl) ?_
  refine lv_iload_n hx hb dX6_bothWould_9 rfl (lv_at hl 2 rfl) ?_
  refine lv_iload_n hx hb dX6_bothWould_10 rfl (lv_at hl 2 rfl) ?_
  refine CI.callV hC hK hl (c_X6_worth G l o R u n a a (by first | assumption | omega | rfl | (simp_all; done))) hP (hP.recv hK) q1770 q1772 qs105 q116 q1773 mdX6_worth (room_ok hRm rfl) rfl rfl dX6_bothWould_11 ?_
  refine lv_icmp_le (tgt := 38) hx hb dX6_bothWould_14 (by decide) (fun c14 => ?_) (fun c14 => ?_)
  · have c14 : (worN (u.2.1 10) n a c) ≤ (worN (u.2.1 10) n a a) := (nI_leI (a := (worN (u.2.1 10) n a c)) (b := (worN (u.2.1 10) n a a)) (by first | omega | exact ocN_b _ _ | exact hbN_b _ _ _ | exact ocN_b _ _ | (unfold worN; exact ocN_b _ _)) (by first | omega | exact ocN_b _ _ | exact hbN_b _ _ _ | exact ocN_b _ _ | (unfold worN; exact ocN_b _ _))).mp c14
    refine lv_iconst (v := 0) hx hb dX6_bothWould_38 (by decide) ?_
    exact hq _ _ _ dX6_bothWould_39 (by grind [bothB, bI])
  · have c14 : ¬ ((worN (u.2.1 10) n a c) ≤ (worN (u.2.1 10) n a a)) := mt (nI_leI (a := (worN (u.2.1 10) n a c)) (b := (worN (u.2.1 10) n a a)) (by first | omega | exact ocN_b _ _ | exact hbN_b _ _ _ | exact ocN_b _ _ | (unfold worN; exact ocN_b _ _)) (by first | omega | exact ocN_b _ _ | exact hbN_b _ _ _ | exact ocN_b _ _ | (unfold worN; exact ocN_b _ _))).mpr c14
    refine lv_aload_n hx hb dX6_bothWould_17 rfl (lv_at hl 0 rfl) ?_
    refine lv_iload_n hx hb dX6_bothWould_18 rfl (lv_at hl 1 rfl) ?_
    refine lv_iload_n hx hb dX6_bothWould_19 rfl (lv_at hl 3 rfl) ?_
    refine lv_iload_n hx hb dX6_bothWould_20 rfl (lv_at hl 2 rfl) ?_
    refine CI.callV hC hK hl (c_X6_worth G l o R u n c a (by first | assumption | omega | rfl | (simp_all; done))) hP (hP.recv hK) q1770 q1772 qs105 q116 q1773 mdX6_worth (room_ok hRm rfl) rfl rfl dX6_bothWould_21 ?_
    refine lv_aload_n hx hb dX6_bothWould_24 rfl (lv_at hl 0 rfl) ?_
    refine lv_iload_n hx hb dX6_bothWould_25 rfl (lv_at hl 1 rfl) ?_
    refine lv_iload_n hx hb dX6_bothWould_26 rfl (lv_at hl 3 rfl) ?_
    refine lv_iload_n hx hb dX6_bothWould_27 rfl (lv_at hl 3 rfl) ?_
    refine CI.callV hC hK hl (c_X6_worth G l o R u n c c (by first | assumption | omega | rfl | (simp_all; done))) hP (hP.recv hK) q1770 q1772 qs105 q116 q1773 mdX6_worth (room_ok hRm rfl) rfl rfl dX6_bothWould_28 ?_
    refine lv_icmp_le (tgt := 38) hx hb dX6_bothWould_31 (by decide) (fun c31 => ?_) (fun c31 => ?_)
    · have c31 : (worN (u.2.1 10) n c a) ≤ (worN (u.2.1 10) n c c) := (nI_leI (a := (worN (u.2.1 10) n c a)) (b := (worN (u.2.1 10) n c c)) (by first | omega | exact ocN_b _ _ | exact hbN_b _ _ _ | exact ocN_b _ _ | (unfold worN; exact ocN_b _ _)) (by first | omega | exact ocN_b _ _ | exact hbN_b _ _ _ | exact ocN_b _ _ | (unfold worN; exact ocN_b _ _))).mp c31
      refine lv_iconst (v := 0) hx hb dX6_bothWould_38 (by decide) ?_
      exact hq _ _ _ dX6_bothWould_39 (by grind [bothB, bI])
    · have c31 : ¬ ((worN (u.2.1 10) n c a) ≤ (worN (u.2.1 10) n c c)) := mt (nI_leI (a := (worN (u.2.1 10) n c a)) (b := (worN (u.2.1 10) n c c)) (by first | omega | exact ocN_b _ _ | exact hbN_b _ _ _ | exact ocN_b _ _ | (unfold worN; exact ocN_b _ _)) (by first | omega | exact ocN_b _ _ | exact hbN_b _ _ _ | exact ocN_b _ _ | (unfold worN; exact ocN_b _ _))).mpr c31
      refine lv_iconst (v := 1) hx hb dX6_bothWould_34 (by decide) ?_
      refine lv_goto (tgt := 39) hx hb dX6_bothWould_35 (by decide) ?_
      exact hq _ _ _ dX6_bothWould_39 (by grind [bothB, bI])
set_option maxHeartbeats 4000000 in
theorem c_X6_areClear (G : GG) (l : Launch) (v : Nat) (a : Nat) (c : Nat) (hv : v < 256) (ha : a < 6) (hc : c < 6) : CI G l yX6_areClear cX6_areClear 4 .boolean 3 37 [.int (nI v), .int (nI a), .int (nI c)] (fun _ => True) (bI (clearR v a c)) := by
  refine CI.mk RX6 pnX6 rfl (bI_nar _) (Nat.le_of_ble_eq_true rfl) (fun pg en Rm sg mm ar bw mth cd QQ ls hC hRm hK hP hl hq => ?_)
  have hx := hC.1; have hb := hC.2.1; have ho := hC.2.2.2.1; have hts := hC.2.2.2.2
  have hl : lv_has ls 4 [(0, .int (nI v)), (1, .int (nI a)), (2, .int (nI c))] := hl
  refine lv_iload_n hx hb dX6_areClear_0 rfl (lv_at hl 1 rfl) ?_
  refine lv_istore_n (lv' := [(3, .int (nI a)), (0, .int (nI v)), (1, .int (nI a)), (2, .int (nI c))]) hx hb dX6_areClear_1 rfl hl (by decide) rfl (fun ls hl => ?_)
  have LP2 : ∀ (fu2 : Nat) (k : Nat) (ls : Array Slot), c + 1 - k < fu2 → k ≤ c + 1 ∨ k = a → a ≤ k → allC (fun i => !v.testBit (a + i)) (k - a) = true → lv_has ls 4 [(0, .int (nI v)), (1, .int (nI a)), (2, .int (nI c)), (3, .int (nI k))] → W pg l en Rm sg mm ar bw mth cd sg.heap [] 0 0 QQ (F0 mm 2 ls []) := by
    intro fu2
    induction fu2 with
    | zero => intro k ls hm2 hk hka h1 hl; exact absurd hm2 (Nat.not_lt_zero _)
    | succ fu2 ih2 =>
      intro k ls hm2 hk hka h1 hl
      refine lv_iload_n hx hb dX6_areClear_2 rfl (lv_at hl 3 rfl) ?_
      refine lv_iload_n hx hb dX6_areClear_3 rfl (lv_at hl 2 rfl) ?_
      refine lv_icmp_gt (tgt := 23) hx hb dX6_areClear_4 (by decide) (fun c4 => ?_) (fun c4 => ?_)
      · have c4 : c < k := (nI_ltI (a := c) (b := k) (by omega) (by omega)).mp c4
        refine lv_iconst (v := 1) hx hb dX6_areClear_23 (by decide) ?_
        exact hq _ _ _ dX6_areClear_24 (by rw [clearR, show c + 1 - a = k - a by omega, h1]; rfl)
      · have c4 : ¬ (c < k) := mt (nI_ltI (a := c) (b := k) (by omega) (by omega)).mpr c4
        refine lv_iload_n hx hb dX6_areClear_7 rfl (lv_at hl 0 rfl) ?_
        refine lv_iload_n hx hb dX6_areClear_8 rfl (lv_at hl 3 rfl) ?_
        refine CI.callS hC hK hl (c_X6_has G l (nI v) (nI k) ) trivial q1399 q1400 q116 q1401 mdX6_has (room_ok hRm rfl) rfl rfl dX6_areClear_9 ?_
        refine lv_if_eq (tgt := 17) hx hb dX6_areClear_12 (by decide) (fun c12 => ?_) (fun c12 => ?_)
        · have c12 : (hasB (nI v) (nI k)) = false := bI_0.mp c12
          refine lv_iinc (v := (nI (k + 1))) (lv' := [(3, .int (nI (k + 1))), (0, .int (nI v)), (1, .int (nI a)), (2, .int (nI c))]) hx hb dX6_areClear_17 hl (k := 3) rfl (nI_inc k) (by decide) rfl (fun ls hl => ?_)
          refine lv_goto (tgt := 2) hx hb dX6_areClear_20 (by decide) ?_
          exact ih2 (k + 1) ls (by omega) (by first | omega | assumption | rfl | (simp_all; done) | grind) (by first | omega | assumption | rfl | (simp_all; done) | grind) (by (have e : k + 1 - a = (k - a) + 1 := by omega); rw [e]; rw [hasB_nI _ (by omega)] at c12; (have e2 : a + (k - a) = k := by omega); show (allC _ _ && _) = true; rw [h1]; show (true && !v.testBit (a + (k - a))) = true; rw [e2, c12]; rfl)  (lv_sub hl [1, 2, 3, 0] rfl)
        · have c12 : (hasB (nI v) (nI k)) = true := bI_1.mp c12
          refine lv_iconst (v := 0) hx hb dX6_areClear_15 (by decide) ?_
          exact hq _ _ _ dX6_areClear_16 (by rw [hasB_nI _ (by omega)] at c12; rw [clearR, allC_f (k := k - a) (by omega) (by rw [show a + (k - a) = k by omega, c12]; rfl)]; rfl)
  exact LP2 _ a ls (Nat.lt_succ_self _) (Or.inr rfl) (by first | omega | assumption | rfl | (simp_all; done) | grind) (by rw [Nat.sub_self]; rfl)  (lv_sub hl [1, 2, 3, 0] rfl)
set_option maxHeartbeats 4000000 in
theorem c_X6_tallFrom (G : GG) (l : Launch) (o : Nat) (R : Nat → Nat) (u : MS) (r : Nat) (n : Nat) (a : Nat) (c : Nat) (hrn : r < n) (hn : n ≤ 6) (ha : a < 6) (hc : c < 6) : CI G l yX6_tallFrom cX6_tallFrom 6 .int 4 60 [.ref o, .int (nI r), .int (nI n), .int (nI a), .int (nI c)] (PM G o R u) (nI (tallN (u.2.1 10) n a c r)) := by
  refine CI.mk RX6 pnX6 rfl (rfl) (Nat.le_of_ble_eq_true rfl) (fun pg en Rm sg mm ar bw mth cd QQ ls hC hRm hK hP hl hq => ?_)
  have hx := hC.1; have hb := hC.2.1; have ho := hC.2.2.2.1; have hts := hC.2.2.2.2
  have hl : lv_has ls 6 [(0, .ref o), (1, .int (nI r)), (2, .int (nI n)), (3, .int (nI a)), (4, .int (nI c))] := hl
  refine lv_iconst (v := 0) hx hb dX6_tallFrom_0 (by decide) ?_
  refine lv_istore (lv' := [(5, .int 0), (0, .ref o), (1, .int (nI r)), (2, .int (nI n)), (3, .int (nI a)), (4, .int (nI c))]) hx hb dX6_tallFrom_1 hl (by decide) rfl (fun ls hl => ?_)
  have LP3 : ∀ (fu3 : Nat) (t : Nat) (ls : Array Slot), n - (r + t) < fu3 → r + t ≤ n → tallN (u.2.1 10) n a c r = t + runS (fun y => clearR (ocN (u.2.1 10) y) a c) (n - (r + t)) (r + t) → lv_has ls 6 [(0, .ref o), (1, .int (nI r)), (2, .int (nI n)), (3, .int (nI a)), (4, .int (nI c)), (5, .int (nI t))] → W pg l en Rm sg mm ar bw mth cd sg.heap [] 0 0 QQ (F0 mm 3 ls []) := by
    intro fu3
    induction fu3 with
    | zero => intro t ls hm3 ht h1 hl; exact absurd hm3 (Nat.not_lt_zero _)
    | succ fu3 ih3 =>
      intro t ls hm3 ht h1 hl
      refine lv_iload_n hx hb dX6_tallFrom_3 rfl (lv_at hl 1 rfl) ?_
      refine lv_iload hx hb dX6_tallFrom_4 (lv_at hl 5 rfl) ?_
      refine lv_iadd hx hb dX6_tallFrom_6 ?_
      refine W_top (nI_add r t) ?_
      refine lv_iload_n hx hb dX6_tallFrom_7 rfl (lv_at hl 2 rfl) ?_
      refine lv_icmp_ge (tgt := 37) hx hb dX6_tallFrom_8 (by decide) (fun c8 => ?_) (fun c8 => ?_)
      · have c8 : n ≤ (r + t) := (nI_leI (a := n) (b := (r + t)) (by first | omega | exact ocN_b _ _ | exact hbN_b _ _ _) (by first | omega | exact ocN_b _ _ | exact hbN_b _ _ _)).mp c8
        refine lv_iload hx hb dX6_tallFrom_37 (lv_at hl 5 rfl) ?_
        exact hq _ _ _ dX6_tallFrom_39 (by first | (rw [h1, runS_f (by omega) (by rw [c25]; decide)]; rfl) | (rw [h1, show n - (r + t) = 0 by omega]; rfl))
      · have c8 : ¬ (n ≤ (r + t)) := mt (nI_leI (a := n) (b := (r + t)) (by first | omega | exact ocN_b _ _ | exact hbN_b _ _ _) (by first | omega | exact ocN_b _ _ | exact hbN_b _ _ _)).mpr c8
        refine lv_aload_n hx hb dX6_tallFrom_11 rfl (lv_at hl 0 rfl) ?_
        refine lv_iload_n hx hb dX6_tallFrom_12 rfl (lv_at hl 1 rfl) ?_
        refine lv_iload hx hb dX6_tallFrom_13 (lv_at hl 5 rfl) ?_
        refine lv_iadd hx hb dX6_tallFrom_15 ?_
        refine W_top (nI_add r t) ?_
        refine CI.callV hC hK hl (c_X6_octet G l o R u (r + t) (by first | assumption | omega | rfl | (simp_all; done))) hP (hP.recv hK) q1711 q1713 qs96 q116 q1714 mdX6_octet (room_ok hRm rfl) rfl rfl dX6_tallFrom_16 ?_
        refine lv_iload_n hx hb dX6_tallFrom_19 rfl (lv_at hl 3 rfl) ?_
        refine lv_iload hx hb dX6_tallFrom_20 (lv_at hl 4 rfl) ?_
        refine CI.callS hC hK hl (c_X6_areClear G l (ocN (u.2.1 10) (r + t)) a c (ocN_lt _ _) (by first | assumption | omega | rfl | (simp_all; done)) (by first | assumption | omega | rfl | (simp_all; done))) trivial q1795 q1796 q116 q1797 mdX6_areClear (room_ok hRm rfl) rfl rfl dX6_tallFrom_22 ?_
        refine lv_if_eq (tgt := 37) hx hb dX6_tallFrom_25 (by decide) (fun c25 => ?_) (fun c25 => ?_)
        · have c25 : (clearR (ocN (u.2.1 10) (r + t)) a c) = false := bI_0.mp c25
          refine lv_iload hx hb dX6_tallFrom_37 (lv_at hl 5 rfl) ?_
          exact hq _ _ _ dX6_tallFrom_39 (by first | (rw [h1, runS_f (by omega) (by rw [c25]; decide)]; rfl) | (rw [h1, show n - (r + t) = 0 by omega]; rfl))
        · have c25 : (clearR (ocN (u.2.1 10) (r + t)) a c) = true := bI_1.mp c25
          refine lv_iload hx hb dX6_tallFrom_28 (lv_at hl 5 rfl) ?_
          refine lv_iconst (v := 1) hx hb dX6_tallFrom_30 (by decide) ?_
          refine lv_iadd hx hb dX6_tallFrom_31 ?_
          refine W_top (nI_add t 1) ?_
          refine lv_istore (lv' := [(5, .int (nI (t + 1))), (0, .ref o), (1, .int (nI r)), (2, .int (nI n)), (3, .int (nI a)), (4, .int (nI c))]) hx hb dX6_tallFrom_32 hl (by decide) rfl (fun ls hl => ?_)
          refine lv_goto (tgt := 3) hx hb dX6_tallFrom_34 (by decide) ?_
          exact ih3 (t + 1) ls (by omega) (by first | omega | assumption | rfl | (simp_all; done) | grind) (by (have e := runS_t (c := fun y => clearR (ocN (u.2.1 10) y) a c) (n := n) (r := r + t) (by omega) c25); rw [show r + (t + 1) = r + t + 1 by omega]; omega)  (lv_sub hl [1, 2, 3, 4, 5, 0] rfl)
  exact LP3 _ 0 ls (Nat.lt_succ_self _) (by first | omega | assumption | rfl | (simp_all; done) | grind) (by rw [Nat.zero_add]; rfl)  (lv_sub hl [1, 2, 3, 4, 5, 0] rfl)
