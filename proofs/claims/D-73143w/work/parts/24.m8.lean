set_option maxRecDepth 100000
set_option maxHeartbeats 4000000 in
theorem c_X6_panes (G : GG) (l : Launch) (o : Nat) (R : Nat → Nat) (u : MS) (n0 : Int32) (w0 : Int32) (hD : DM o R) : CMi G l o R yX6_panes cX6_panes 8 .int 5 85 [.int n0, .int w0] u (fun r w => r = (panesI (u.2.1 10) (u.1 11) n0 w0) ∧ w = (if panesG (u.1 11) n0 w0 = true then mV u 11 0 else u)) := by
  refine CMi.mk pnX6 rfl (Nat.le_of_ble_eq_true rfl) (fun pg en Rm sg mm ar bw mth cd QQ ls hC hRm hK hP hS hl hq => ?_)
  have hx := hC.1; have hb := hC.2.1; have ho := hC.2.2.2.1; have hts := hC.2.2.2.2
  have hl : lv_has ls 8 [(0, .ref o), (1, .int n0), (2, .int w0)] := hl
  refine lv_iload_n hx hb dX6_panes_0 rfl (lv_at hl 1 rfl) ?_
  refine lv_iconst (v := 1) hx hb dX6_panes_1 (by decide) ?_
  refine lv_bipush (v := 6) hx hb dX6_panes_2 (by decide) ?_
  refine CI.callS hC hK hl (c_X6_in G l n0 1 6 ) trivial q1392 q1393 q116 q1394 mdX6_in (room_ok hRm rfl) rfl rfl dX6_panes_4 ?_
  refine lv_if_eq (tgt := 28) hx hb dX6_panes_7 (by decide) (fun c7 => ?_) (fun c7 => ?_)
  · have c7 : (inB n0 1 6) = false := bI_0.mp c7
    refine lv_iconst (v := (-1)) hx hb dX6_panes_28 (by decide) ?_
    exact hq _ _ _ _ _ _ dX6_panes_29 hP hS (rfl) (by exact ⟨by first | (simp [panesI, panesG, c7]; done) | (simp [panesI, panesG, c7, c17]; done) | (simp [panesI, panesG, c7, c17, c25]; done), by first | (simp [panesG, c7]; done) | (simp [panesG, c7, c17]; done) | (simp [panesG, c7, c17, c25]; done)⟩)
  · have c7 : (inB n0 1 6) = true := bI_1.mp c7
    obtain ⟨n, hn1, hn, rfl, hnx⟩ := inB_nI2 1 6 (by decide) (by decide) c7
    have hl : lv_has ls 8 [(0, .ref o), (1, .int (nI n)), (2, .int w0)] := hl
    refine lv_iload_n hx hb dX6_panes_10 rfl (lv_at hl 2 rfl) ?_
    refine lv_iconst (v := 1) hx hb dX6_panes_11 (by decide) ?_
    refine lv_bipush (v := 6) hx hb dX6_panes_12 (by decide) ?_
    refine CI.callS hC hK hl (c_X6_in G l w0 1 6 ) trivial q1392 q1393 q116 q1394 mdX6_in (room_ok hRm rfl) rfl rfl dX6_panes_14 ?_
    refine lv_if_eq (tgt := 28) hx hb dX6_panes_17 (by decide) (fun c17 => ?_) (fun c17 => ?_)
    · have c17 : (inB w0 1 6) = false := bI_0.mp c17
      refine lv_iconst (v := (-1)) hx hb dX6_panes_28 (by decide) ?_
      exact hq _ _ _ _ _ _ dX6_panes_29 hP hS (rfl) (by exact ⟨by first | (simp [panesI, panesG, c7]; done) | (simp [panesI, panesG, c7, c17]; done) | (simp [panesI, panesG, c7, c17, c25]; done), by first | (simp [panesG, c7]; done) | (simp [panesG, c7, c17]; done) | (simp [panesG, c7, c17, c25]; done)⟩)
    · have c17 : (inB w0 1 6) = true := bI_1.mp c17
      obtain ⟨wd, hwd1, hwd, rfl, hwdx⟩ := inB_nI2 1 6 (by decide) (by decide) c17
      have hl : lv_has ls 8 [(0, .ref o), (1, .int (nI n)), (2, .int (nI wd))] := hl
      refine lv_iload_n hx hb dX6_panes_20 rfl (lv_at hl 1 rfl) ?_
      refine lv_aload_n hx hb dX6_panes_21 rfl (lv_at hl 0 rfl) ?_
      refine M_get (v := .int (u.1 11)) hC hK hP 11 (by decide) (fM11 _ _) q1212 dX6_panes_22 ?_
      refine lv_icmp_le (tgt := 30) hx hb dX6_panes_25 (by decide) (fun c25 => ?_) (fun c25 => ?_)
      · refine lv_aload_n hx hb dX6_panes_30 rfl (lv_at hl 0 rfl) ?_
        refine lv_iconst (v := 0) hx hb dX6_panes_31 (by decide) ?_
        refine M_put hC hK hD hP hS 11 (by decide) (sM11 _ _ _) q1212 rfl dX6_panes_32 (fun H locs hP hS => ?_)
        refine lv_iconst (v := 0) hx hb dX6_panes_35 (by decide) ?_
        refine lv_istore_n (lv' := [(3, .int 0), (0, .ref o), (1, .int (nI n)), (2, .int (nI wd))]) hx hb dX6_panes_36 rfl hl (by decide) rfl (fun ls hl => ?_)
        refine lv_iconst (v := 0) hx hb dX6_panes_37 (by decide) ?_
        refine lv_istore (lv' := [(4, .int 0), (3, .int 0), (0, .ref o), (1, .int (nI n)), (2, .int (nI wd))]) hx hb dX6_panes_38 hl (by decide) rfl (fun ls hl => ?_)
        have LP40 : ∀ (fu40 : Nat) (c : Nat) (ac0 : Nat) (ls : Array Slot), wd * wd - c < fu40 → c ≤ wd * wd → wd * wd ≤ 36 → ac0 = pnC (u.2.1 10) n wd c → lv_has ls 8 [(0, .ref o), (1, .int (nI n)), (2, .int (nI wd)), (3, .int (nI ac0)), (4, .int (nI c))] → W pg l en Rm sg mm ar bw mth cd H locs 0 0 QQ (F0 mm 40 ls []) := by
          intro fu40
          induction fu40 with
          | zero => intro c ac0 ls hm40 hcc hww ha0 hl; exact absurd hm40 (Nat.not_lt_zero _)
          | succ fu40 ih40 =>
            intro c ac0 ls hm40 hcc hww ha0 hl
            refine lv_iload hx hb dX6_panes_40 (lv_at hl 4 rfl) ?_
            refine lv_iload_n hx hb dX6_panes_42 rfl (lv_at hl 2 rfl) ?_
            refine lv_iload_n hx hb dX6_panes_43 rfl (lv_at hl 2 rfl) ?_
            refine lv_imul hx hb dX6_panes_44 ?_
            refine W_top (pk_mul wd wd) ?_
            refine lv_icmp_ge (tgt := 112) hx hb dX6_panes_45 (by decide) (fun c45 => ?_) (fun c45 => ?_)
            · have c45 : (wd * wd) ≤ c := (nI_leI (a := (wd * wd)) (b := c) (by first | omega | (have := pnC_le (f := (u.2.1 10)) (n := n) (wd := wd) (c := c) hn hwd (by omega); omega)) (by first | omega | (have := pnC_le (f := (u.2.1 10)) (n := n) (wd := wd) (c := c) hn hwd (by omega); omega))).mp c45
              refine lv_iload_n hx hb dX6_panes_112 rfl (lv_at hl 3 rfl) ?_
              exact hq _ _ _ _ _ _ dX6_panes_113 hP hS (rfl) (by have hg : panesG (u.1 11) (nI n) (nI wd) = true := (by simp [panesG, c7, c17, c25]); exact ⟨by rw [panesI, if_pos hg, hnx, hwdx, show wd * wd = c by omega, ha0], by rw [if_pos hg]⟩)
            · have c45 : ¬ ((wd * wd) ≤ c) := mt (nI_leI (a := (wd * wd)) (b := c) (by first | omega | (have := pnC_le (f := (u.2.1 10)) (n := n) (wd := wd) (c := c) hn hwd (by omega); omega)) (by first | omega | (have := pnC_le (f := (u.2.1 10)) (n := n) (wd := wd) (c := c) hn hwd (by omega); omega))).mpr c45
              refine lv_iload hx hb dX6_panes_48 (lv_at hl 4 rfl) ?_
              refine lv_iload_n hx hb dX6_panes_50 rfl (lv_at hl 2 rfl) ?_
              refine lv_idiv hx hb dX6_panes_51 (nI_ne0 (by omega) (by omega)) ?_
              refine W_top (y := (nI (c / wd))) (pk_div (by omega) (by omega) (by omega)) ?_
              refine lv_istore (lv' := [(5, .int (nI (c / wd))), (0, .ref o), (1, .int (nI n)), (2, .int (nI wd)), (3, .int (nI ac0)), (4, .int (nI c))]) hx hb dX6_panes_52 hl (by decide) rfl (fun ls hl => ?_)
              refine lv_iload hx hb dX6_panes_54 (lv_at hl 5 rfl) ?_
              refine lv_iload_n hx hb dX6_panes_56 rfl (lv_at hl 3 rfl) ?_
              refine lv_irem hx hb dX6_panes_57 (nI_ne0 (by omega) (by omega)) ?_
              refine W_top (y := (nI (c % wd))) (pk_rem (by omega) (by omega) (by omega)) ?_
              refine lv_istore (lv' := [(6, .int (nI (c % wd))), (5, .int (nI (c / wd))), (0, .ref o), (1, .int (nI n)), (2, .int (nI wd)), (3, .int (nI ac0)), (4, .int (nI c))]) hx hb dX6_panes_58 hl (by decide) rfl (fun ls hl => ?_)
              have hq1 : c / wd < wd := Nat.div_lt_of_lt_mul (by omega)
              have hq2 : c % wd < wd := Nat.mod_lt _ (by omega)
              have hq3 : c % wd - c / wd ≤ c % wd := Nat.sub_le _ _
              have hpc := pnC_le (f := (u.2.1 10)) (n := n) (wd := wd) (c := c) hn hwd (by omega)
              refine lv_iconst (v := 0) hx hb dX6_panes_60 (by decide) ?_
              refine lv_istore (lv' := [(7, .int 0), (6, .int (nI (c % wd))), (5, .int (nI (c / wd))), (0, .ref o), (1, .int (nI n)), (2, .int (nI wd)), (3, .int (nI ac0)), (4, .int (nI c))]) hx hb dX6_panes_61 hl (by decide) rfl (fun ls hl => ?_)
              have LP63 : ∀ (fu63 : Nat) (r : Nat) (acc : Nat) (ls : Array Slot), n - r < fu63 → r ≤ n → acc = pnR (u.2.1 10) n (c / wd) (c % wd) (pnC (u.2.1 10) n wd c) r → r = 0 ∨ c / wd ≤ c % wd → lv_has ls 8 [(0, .ref o), (1, .int (nI n)), (2, .int (nI wd)), (3, .int (nI acc)), (4, .int (nI c)), (5, .int (nI (c / wd))), (6, .int (nI (c % wd))), (7, .int (nI r))] → W pg l en Rm sg mm ar bw mth cd H locs 0 0 QQ (F0 mm 63 ls []) := by
                intro fu63
                induction fu63 with
                | zero => intro r acc ls hm63 hr hac hle hl; exact absurd hm63 (Nat.not_lt_zero _)
                | succ fu63 ih63 =>
                  intro r acc ls hm63 hr hac hle hl
                  refine lv_iload hx hb dX6_panes_63 (lv_at hl 7 rfl) ?_
                  refine lv_iload_n hx hb dX6_panes_65 rfl (lv_at hl 1 rfl) ?_
                  refine lv_icmp_ge (tgt := 106) hx hb dX6_panes_66 (by decide) (fun c66 => ?_) (fun c66 => ?_)
                  · have c66 : n ≤ r := (nI_leI (a := n) (b := r) (by first | omega | (have := pnC_le (f := (u.2.1 10)) (n := n) (wd := wd) (c := c) hn hwd (by omega); omega)) (by first | omega | (have := pnC_le (f := (u.2.1 10)) (n := n) (wd := wd) (c := c) hn hwd (by omega); omega))).mp c66
                    refine lv_iinc (v := (nI (c + 1))) (lv' := [(4, .int (nI (c + 1))), (0, .ref o), (1, .int (nI n)), (2, .int (nI wd)), (3, .int (nI acc)), (5, .int (nI (c / wd))), (6, .int (nI (c % wd))), (7, .int (nI r))]) hx hb dX6_panes_106 hl (k := 4) rfl (nI_inc c) (by decide) rfl (fun ls hl => ?_)
                    refine lv_goto (tgt := 40) hx hb dX6_panes_109 (by decide) ?_
                    exact ih40 (c + 1) acc ls (by omega) (by first | omega | assumption | rfl | (simp_all; done) | grind) (by first | omega | assumption | rfl | (simp_all; done) | grind) (by unfold pnC; first | (rw [if_neg (by omega), hac, show r = 0 by omega]; rfl) | (rw [if_pos (by omega), hac, show r = n by omega]))  (lv_sub hl [1, 2, 3, 4, 0] rfl)
                  · have c66 : ¬ (n ≤ r) := mt (nI_leI (a := n) (b := r) (by first | omega | (have := pnC_le (f := (u.2.1 10)) (n := n) (wd := wd) (c := c) hn hwd (by omega); omega)) (by first | omega | (have := pnC_le (f := (u.2.1 10)) (n := n) (wd := wd) (c := c) hn hwd (by omega); omega))).mpr c66
                    refine lv_iload hx hb dX6_panes_69 (lv_at hl 5 rfl) ?_
                    refine lv_iload hx hb dX6_panes_71 (lv_at hl 6 rfl) ?_
                    refine lv_icmp_gt (tgt := 106) hx hb dX6_panes_73 (by decide) (fun c73 => ?_) (fun c73 => ?_)
                    · have c73 : (c % wd) < (c / wd) := (nI_ltI (a := (c % wd)) (b := (c / wd)) (by first | omega | (have := pnC_le (f := (u.2.1 10)) (n := n) (wd := wd) (c := c) hn hwd (by omega); omega)) (by first | omega | (have := pnC_le (f := (u.2.1 10)) (n := n) (wd := wd) (c := c) hn hwd (by omega); omega))).mp c73
                      refine lv_iinc (v := (nI (c + 1))) (lv' := [(4, .int (nI (c + 1))), (0, .ref o), (1, .int (nI n)), (2, .int (nI wd)), (3, .int (nI acc)), (5, .int (nI (c / wd))), (6, .int (nI (c % wd))), (7, .int (nI r))]) hx hb dX6_panes_106 hl (k := 4) rfl (nI_inc c) (by decide) rfl (fun ls hl => ?_)
                      refine lv_goto (tgt := 40) hx hb dX6_panes_109 (by decide) ?_
                      exact ih40 (c + 1) acc ls (by omega) (by first | omega | assumption | rfl | (simp_all; done) | grind) (by first | omega | assumption | rfl | (simp_all; done) | grind) (by unfold pnC; first | (rw [if_neg (by omega), hac, show r = 0 by omega]; rfl) | (rw [if_pos (by omega), hac, show r = n by omega]))  (lv_sub hl [1, 2, 3, 4, 0] rfl)
                    · have c73 : ¬ ((c % wd) < (c / wd)) := mt (nI_ltI (a := (c % wd)) (b := (c / wd)) (by first | omega | (have := pnC_le (f := (u.2.1 10)) (n := n) (wd := wd) (c := c) hn hwd (by omega); omega)) (by first | omega | (have := pnC_le (f := (u.2.1 10)) (n := n) (wd := wd) (c := c) hn hwd (by omega); omega))).mpr c73
                      refine lv_iload_n hx hb dX6_panes_76 rfl (lv_at hl 3 rfl) ?_
                      refine lv_aload_n hx hb dX6_panes_77 rfl (lv_at hl 0 rfl) ?_
                      refine lv_iload hx hb dX6_panes_78 (lv_at hl 7 rfl) ?_
                      refine lv_iload_n hx hb dX6_panes_80 rfl (lv_at hl 1 rfl) ?_
                      refine lv_iload hx hb dX6_panes_81 (lv_at hl 5 rfl) ?_
                      refine lv_iload hx hb dX6_panes_83 (lv_at hl 6 rfl) ?_
                      refine CI.callV hC hK hl (c_X6_tallFrom G l o R (mV u 11 0) r n (c / wd) (c % wd) (by first | assumption | omega | rfl | (simp_all; done)) (by first | assumption | omega | rfl | (simp_all; done)) (by first | assumption | omega | rfl | (simp_all; done)) (by first | assumption | omega | rfl | (simp_all; done))) hP (hP.recv hK) q1791 q1793 qs107 q116 q1794 mdX6_tallFrom (room_ok hRm rfl) rfl rfl dX6_panes_85 ?_
                      refine W_top (y := (nI (tallN (u.2.1 10) n (c / wd) (c % wd) r))) rfl ?_
                      refine lv_iload hx hb dX6_panes_88 (lv_at hl 6 rfl) ?_
                      refine lv_iload hx hb dX6_panes_90 (lv_at hl 5 rfl) ?_
                      refine lv_isub hx hb dX6_panes_92 ?_
                      refine W_top (y := (nI (c % wd - c / wd))) (pk_sub (by omega)) ?_
                      refine lv_iconst (v := 1) hx hb dX6_panes_93 (by decide) ?_
                      refine lv_iadd hx hb dX6_panes_94 ?_
                      refine W_top (nI_add (c % wd - c / wd) 1) ?_
                      refine lv_imul hx hb dX6_panes_95 ?_
                      refine W_top (pk_mul (tallN (u.2.1 10) n (c / wd) (c % wd) r) ((c % wd - c / wd) + 1)) ?_
                      have ht1 := tallN_le (u.2.1 10) n (c / wd) (c % wd) r
                      have ht2 : tallN (u.2.1 10) n (c / wd) (c % wd) r * (c % wd - c / wd + 1) ≤ 6 * 6 := Nat.mul_le_mul (by omega) (by omega)
                      have hac2 : acc ≤ 36 := by rw [hac]; exact pnR_le hpc (Nat.le_trans (Nat.mul_le_mul hn (show c % wd - c / wd + 1 ≤ 6 by omega)) (by omega))
                      refine CI.callS hC hK hl (c_X6_max G l (nI acc) (nI ((tallN (u.2.1 10) n (c / wd) (c % wd) r) * ((c % wd - c / wd) + 1))) ) trivial q1631 q1632 q116 q1633 mdX6_max (room_ok hRm rfl) rfl rfl dX6_panes_96 ?_
                      refine W_top (y := (mxI (nI acc) (nI ((tallN (u.2.1 10) n (c / wd) (c % wd) r) * ((c % wd - c / wd) + 1))))) rfl ?_
                      refine W_top (y := (nI (max acc (tallN (u.2.1 10) n (c / wd) (c % wd) r * (c % wd - c / wd + 1))))) (mxI_nI (by omega) (by omega)) ?_
                      refine lv_istore_n (lv' := [(3, .int (nI (max acc (tallN (u.2.1 10) n (c / wd) (c % wd) r * (c % wd - c / wd + 1))))), (0, .ref o), (1, .int (nI n)), (2, .int (nI wd)), (4, .int (nI c)), (5, .int (nI (c / wd))), (6, .int (nI (c % wd))), (7, .int (nI r))]) hx hb dX6_panes_99 rfl hl (by decide) rfl (fun ls hl => ?_)
                      refine lv_iinc (v := (nI (r + 1))) (lv' := [(7, .int (nI (r + 1))), (3, .int (nI (max acc (tallN (u.2.1 10) n (c / wd) (c % wd) r * (c % wd - c / wd + 1))))), (0, .ref o), (1, .int (nI n)), (2, .int (nI wd)), (4, .int (nI c)), (5, .int (nI (c / wd))), (6, .int (nI (c % wd)))]) hx hb dX6_panes_100 hl (k := 7) rfl (nI_inc r) (by decide) rfl (fun ls hl => ?_)
                      refine lv_goto (tgt := 63) hx hb dX6_panes_103 (by decide) ?_
                      exact ih63 (r + 1) (max acc (tallN (u.2.1 10) n (c / wd) (c % wd) r * (c % wd - c / wd + 1))) ls (by omega) (by first | omega | assumption | rfl | (simp_all; done) | grind) (by rw [hac]; rfl) (by right; omega)  (lv_sub hl [2, 3, 4, 1, 5, 6, 7, 0] rfl)
              exact LP63 _ 0 ac0 ls (Nat.lt_succ_self _) (by first | omega | assumption | rfl | (simp_all; done) | grind) (ha0) (Or.inl rfl)  (lv_sub hl [3, 4, 5, 6, 7, 2, 1, 0] rfl)
        exact LP40 _ 0 0 ls (Nat.lt_succ_self _) (by first | omega | assumption | rfl | (simp_all; done) | grind) (Nat.mul_le_mul hwd hwd) (rfl)  (lv_sub hl [2, 3, 4, 1, 0] rfl)
      · refine lv_iconst (v := (-1)) hx hb dX6_panes_28 (by decide) ?_
        exact hq _ _ _ _ _ _ dX6_panes_29 hP hS (rfl) (by exact ⟨by first | (simp [panesI, panesG, c7]; done) | (simp [panesI, panesG, c7, c17]; done) | (simp [panesI, panesG, c7, c17, c25]; done), by first | (simp [panesG, c7]; done) | (simp [panesG, c7, c17]; done) | (simp [panesG, c7, c17, c25]; done)⟩)
