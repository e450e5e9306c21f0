set_option maxRecDepth 100000
set_option maxHeartbeats 4000000 in
theorem c_X6_hasBy (G : GG) (l : Launch) (o : Nat) (R : Nat → Nat) (u : MS) (n : Nat) (k0 : Nat) (hn0 : 1 ≤ n) (hn : n ≤ 20) (hk0 : k0 ≤ 20) : CI G l yX6_hasBy cX6_hasBy 5 .int 3 37 [.ref o, .int (nI n), .int (nI k0)] (PM G o R u) (nI (hbN (u.2.1 10) n k0)) := by
  refine CI.mk RX6 pnX6 rfl (rfl) (Nat.le_of_ble_eq_true rfl) (fun pg en Rm sg mm ar bw mth cd QQ ls hC hRm hK hP hl hq => ?_)
  have hx := hC.1; have hb := hC.2.1; have ho := hC.2.2.2.1; have hts := hC.2.2.2.2
  have hl : lv_has ls 5 [(0, .ref o), (1, .int (nI n)), (2, .int (nI k0))] := hl
  refine lv_iconst (v := (-1)) hx hb dX6_hasBy_0 (by decide) ?_
  refine lv_istore_n (lv' := [(3, .int (-1)), (0, .ref o), (1, .int (nI n)), (2, .int (nI k0))]) hx hb dX6_hasBy_1 rfl hl (by decide) rfl (fun ls hl => ?_)
  refine lv_iconst (v := 0) hx hb dX6_hasBy_2 (by decide) ?_
  refine lv_istore (lv' := [(4, .int 0), (3, .int (-1)), (0, .ref o), (1, .int (nI n)), (2, .int (nI k0))]) hx hb dX6_hasBy_3 hl (by decide) rfl (fun ls hl => ?_)
  have LP5 : ∀ (fu5 : Nat) (k : Nat) (mo : Int32) (ls : Array Slot), n - k < fu5 → k ≤ n → mo = mxPre (u.2.1 10) k → hbN (u.2.1 10) n k0 = hbS (u.2.1 10) n k0 (n - k) k → lv_has ls 5 [(0, .ref o), (1, .int (nI n)), (2, .int (nI k0)), (3, .int mo), (4, .int (nI k))] → W pg l en Rm sg mm ar bw mth cd sg.heap [] 0 0 QQ (F0 mm 5 ls []) := by
    intro fu5
    induction fu5 with
    | zero => intro k mo ls hm5 hk hmo hf hl; exact absurd hm5 (Nat.not_lt_zero _)
    | succ fu5 ih5 =>
      intro k mo ls hm5 hk hmo hf hl
      refine lv_iload hx hb dX6_hasBy_5 (lv_at hl 4 rfl) ?_
      refine lv_iload_n hx hb dX6_hasBy_7 rfl (lv_at hl 1 rfl) ?_
      refine lv_icmp_ge (tgt := 51) hx hb dX6_hasBy_8 (by decide) (fun c8 => ?_) (fun c8 => ?_)
      · have c8 : n ≤ k := (nI_leI (a := n) (b := k) (by first | omega | exact ocN_b _ _ | exact hbN_b _ _ _) (by first | omega | exact ocN_b _ _ | exact hbN_b _ _ _)).mp c8
        refine lv_aload_n hx hb dX6_hasBy_51 rfl (lv_at hl 0 rfl) ?_
        refine lv_iload_n hx hb dX6_hasBy_52 rfl (lv_at hl 1 rfl) ?_
        refine lv_iconst (v := 1) hx hb dX6_hasBy_53 (by decide) ?_
        refine lv_isub hx hb dX6_hasBy_54 ?_
        refine W_top (y := (nI (n - 1))) (pk_sub (by omega)) ?_
        refine CI.callV hC hK hl (c_X6_octet G l o R u (n - 1) (by first | assumption | omega | rfl | (simp_all; done))) hP (hP.recv hK) q1711 q1713 qs96 q116 q1714 mdX6_octet (room_ok hRm rfl) rfl rfl dX6_hasBy_55 ?_
        exact hq _ _ _ dX6_hasBy_58 (by rw [hf, show n - k = 0 by omega]; rfl)
      · have c8 : ¬ (n ≤ k) := mt (nI_leI (a := n) (b := k) (by first | omega | exact ocN_b _ _ | exact hbN_b _ _ _) (by first | omega | exact ocN_b _ _ | exact hbN_b _ _ _)).mpr c8
        refine lv_iload hx hb dX6_hasBy_11 (lv_at hl 4 rfl) ?_
        refine lv_iload_n hx hb dX6_hasBy_13 rfl (lv_at hl 2 rfl) ?_
        refine lv_icmp_lt (tgt := 34) hx hb dX6_hasBy_14 (by decide) (fun c14 => ?_) (fun c14 => ?_)
        · have c14 : k < k0 := (nI_ltI (a := k) (b := k0) (by first | omega | exact ocN_b _ _ | exact hbN_b _ _ _) (by first | omega | exact ocN_b _ _ | exact hbN_b _ _ _)).mp c14
          refine lv_iload_n hx hb dX6_hasBy_34 rfl (lv_at hl 3 rfl) ?_
          refine lv_aload_n hx hb dX6_hasBy_35 rfl (lv_at hl 0 rfl) ?_
          refine lv_iload hx hb dX6_hasBy_36 (lv_at hl 4 rfl) ?_
          refine CI.callV hC hK hl (c_X6_octet G l o R u k (by first | assumption | omega | rfl | (simp_all; done))) hP (hP.recv hK) q1711 q1713 qs96 q116 q1714 mdX6_octet (room_ok hRm rfl) rfl rfl dX6_hasBy_38 ?_
          refine CI.callS hC hK hl (c_X6_max G l mo (nI (ocN (u.2.1 10) k)) ) trivial q1631 q1632 q116 q1633 mdX6_max (room_ok hRm rfl) rfl rfl dX6_hasBy_41 ?_
          refine lv_istore_n (lv' := [(3, .int (mxI mo (nI (ocN (u.2.1 10) k)))), (0, .ref o), (1, .int (nI n)), (2, .int (nI k0)), (4, .int (nI k))]) hx hb dX6_hasBy_44 rfl hl (by decide) rfl (fun ls hl => ?_)
          refine lv_iinc (v := (nI (k + 1))) (lv' := [(4, .int (nI (k + 1))), (3, .int (mxI mo (nI (ocN (u.2.1 10) k)))), (0, .ref o), (1, .int (nI n)), (2, .int (nI k0))]) hx hb dX6_hasBy_45 hl (k := 4) rfl (nI_inc k) (by decide) rfl (fun ls hl => ?_)
          refine lv_goto (tgt := 5) hx hb dX6_hasBy_48 (by decide) ?_
          exact ih5 (k + 1) (mxI mo (nI (ocN (u.2.1 10) k))) ls (by omega) (by first | omega | assumption | rfl | (simp_all; done) | grind) (by rw [hmo]; rfl) (by rw [hf]; refine hbS_f (by omega) ?_; subst hmo; (clear hq hP hK hts hC hx hb ho hRm hl ih5); grind [hbC])  (lv_sub hl [2, 3, 4, 1, 0] rfl)
        · have c14 : ¬ (k < k0) := mt (nI_ltI (a := k) (b := k0) (by first | omega | exact ocN_b _ _ | exact hbN_b _ _ _) (by first | omega | exact ocN_b _ _ | exact hbN_b _ _ _)).mpr c14
          refine lv_aload_n hx hb dX6_hasBy_17 rfl (lv_at hl 0 rfl) ?_
          refine lv_iload hx hb dX6_hasBy_18 (lv_at hl 4 rfl) ?_
          refine CI.callV hC hK hl (c_X6_octet G l o R u k (by first | assumption | omega | rfl | (simp_all; done))) hP (hP.recv hK) q1711 q1713 qs96 q116 q1714 mdX6_octet (room_ok hRm rfl) rfl rfl dX6_hasBy_20 ?_
          refine lv_iload_n hx hb dX6_hasBy_23 rfl (lv_at hl 3 rfl) ?_
          refine lv_icmp_le (tgt := 34) hx hb dX6_hasBy_24 (by decide) (fun c24 => ?_) (fun c24 => ?_)
          · refine lv_iload_n hx hb dX6_hasBy_34 rfl (lv_at hl 3 rfl) ?_
            refine lv_aload_n hx hb dX6_hasBy_35 rfl (lv_at hl 0 rfl) ?_
            refine lv_iload hx hb dX6_hasBy_36 (lv_at hl 4 rfl) ?_
            refine CI.callV hC hK hl (c_X6_octet G l o R u k (by first | assumption | omega | rfl | (simp_all; done))) hP (hP.recv hK) q1711 q1713 qs96 q116 q1714 mdX6_octet (room_ok hRm rfl) rfl rfl dX6_hasBy_38 ?_
            refine CI.callS hC hK hl (c_X6_max G l mo (nI (ocN (u.2.1 10) k)) ) trivial q1631 q1632 q116 q1633 mdX6_max (room_ok hRm rfl) rfl rfl dX6_hasBy_41 ?_
            refine lv_istore_n (lv' := [(3, .int (mxI mo (nI (ocN (u.2.1 10) k)))), (0, .ref o), (1, .int (nI n)), (2, .int (nI k0)), (4, .int (nI k))]) hx hb dX6_hasBy_44 rfl hl (by decide) rfl (fun ls hl => ?_)
            refine lv_iinc (v := (nI (k + 1))) (lv' := [(4, .int (nI (k + 1))), (3, .int (mxI mo (nI (ocN (u.2.1 10) k)))), (0, .ref o), (1, .int (nI n)), (2, .int (nI k0))]) hx hb dX6_hasBy_45 hl (k := 4) rfl (nI_inc k) (by decide) rfl (fun ls hl => ?_)
            refine lv_goto (tgt := 5) hx hb dX6_hasBy_48 (by decide) ?_
            exact ih5 (k + 1) (mxI mo (nI (ocN (u.2.1 10) k))) ls (by omega) (by first | omega | assumption | rfl | (simp_all; done) | grind) (by rw [hmo]; rfl) (by rw [hf]; refine hbS_f (by omega) ?_; subst hmo; (clear hq hP hK hts hC hx hb ho hRm hl ih5); grind [hbC])  (lv_sub hl [2, 3, 4, 1, 0] rfl)
          · refine lv_aload_n hx hb dX6_hasBy_27 rfl (lv_at hl 0 rfl) ?_
            refine lv_iload hx hb dX6_hasBy_28 (lv_at hl 4 rfl) ?_
            refine CI.callV hC hK hl (c_X6_octet G l o R u k (by first | assumption | omega | rfl | (simp_all; done))) hP (hP.recv hK) q1711 q1713 qs96 q116 q1714 mdX6_octet (room_ok hRm rfl) rfl rfl dX6_hasBy_30 ?_
            exact hq _ _ _ dX6_hasBy_33 (by rw [hf, hbS_t (by omega) (by subst hmo; (clear hq hP hK hts hC hx hb ho hRm hl ih5); grind [hbC])])
  exact LP5 _ 0 (-1) ls (Nat.lt_succ_self _) (by first | omega | assumption | rfl | (simp_all; done) | grind) (rfl) (rfl)  (lv_sub hl [2, 3, 4, 1, 0] rfl)
set_option maxHeartbeats 4000000 in
theorem c_X6_keepIt (G : GG) (l : Launch) (o : Nat) (R : Nat → Nat) (u : MS) (n0 : Int32) (k0 : Int32) (hD : DM o R) : CMi G l o R yX6_keepIt cX6_keepIt 5 .int 4 61 [.int n0, .int k0] u (fun r w => r = (keepItI (u.2.1 10) (u.1 11) n0 k0) ∧ w = (if keepG (u.1 11) n0 k0 = true then mV u 11 0 else u)) := by
  refine CMi.mk pnX6 rfl (Nat.le_of_ble_eq_true rfl) (fun pg en Rm sg mm ar bw mth cd QQ ls hC hRm hK hP hS hl hq => ?_)
  have hx := hC.1; have hb := hC.2.1; have ho := hC.2.2.2.1; have hts := hC.2.2.2.2
  have hl : lv_has ls 5 [(0, .ref o), (1, .int n0), (2, .int k0)] := hl
  refine lv_iload_n hx hb dX6_keepIt_0 rfl (lv_at hl 1 rfl) ?_
  refine lv_iconst (v := 1) hx hb dX6_keepIt_1 (by decide) ?_
  refine lv_bipush (v := 20) hx hb dX6_keepIt_2 (by decide) ?_
  refine CI.callS hC hK hl (c_X6_in G l n0 1 20 ) trivial q1392 q1393 q116 q1394 mdX6_in (room_ok hRm rfl) rfl rfl dX6_keepIt_4 ?_
  refine lv_if_eq (tgt := 29) hx hb dX6_keepIt_7 (by decide) (fun c7 => ?_) (fun c7 => ?_)
  · have c7 : (inB n0 1 20) = false := bI_0.mp c7
    refine lv_iconst (v := (-1)) hx hb dX6_keepIt_29 (by decide) ?_
    exact hq _ _ _ _ _ _ dX6_keepIt_30 hP hS (rfl) (by exact ⟨by first | (simp [keepItI, keepG, c7]; done) | (simp [keepItI, keepG, c7, c18]; done) | (simp [keepItI, keepG, c7, c18, c26]; done), by first | (simp [keepG, c7]; done) | (simp [keepG, c7, c18]; done) | (simp [keepG, c7, c18, c26]; done)⟩)
  · have c7 : (inB n0 1 20) = true := bI_1.mp c7
    obtain ⟨n, hn1, hn, rfl, hnx⟩ := inB_nI2 1 20 (by decide) (by decide) c7
    have hl : lv_has ls 5 [(0, .ref o), (1, .int (nI n)), (2, .int k0)] := hl
    refine lv_iload_n hx hb dX6_keepIt_10 rfl (lv_at hl 2 rfl) ?_
    refine lv_iconst (v := (-1)) hx hb dX6_keepIt_11 (by decide) ?_
    refine lv_iload_n hx hb dX6_keepIt_12 rfl (lv_at hl 1 rfl) ?_
    refine lv_iconst (v := 1) hx hb dX6_keepIt_13 (by decide) ?_
    refine lv_isub hx hb dX6_keepIt_14 ?_
    refine CI.callS hC hK hl (c_X6_in G l k0 (-1) ((nI n) - 1) ) trivial q1392 q1393 q116 q1394 mdX6_in (room_ok hRm rfl) rfl rfl dX6_keepIt_15 ?_
    refine lv_if_eq (tgt := 29) hx hb dX6_keepIt_18 (by decide) (fun c18 => ?_) (fun c18 => ?_)
    · have c18 : (inB k0 (-1) ((nI n) - 1)) = false := bI_0.mp c18
      refine lv_iconst (v := (-1)) hx hb dX6_keepIt_29 (by decide) ?_
      exact hq _ _ _ _ _ _ dX6_keepIt_30 hP hS (rfl) (by exact ⟨by first | (simp [keepItI, keepG, c7]; done) | (simp [keepItI, keepG, c7, c18]; done) | (simp [keepItI, keepG, c7, c18, c26]; done), by first | (simp [keepG, c7]; done) | (simp [keepG, c7, c18]; done) | (simp [keepG, c7, c18, c26]; done)⟩)
    · have c18 : (inB k0 (-1) ((nI n) - 1)) = true := bI_1.mp c18
      refine lv_iload_n hx hb dX6_keepIt_21 rfl (lv_at hl 1 rfl) ?_
      refine lv_aload_n hx hb dX6_keepIt_22 rfl (lv_at hl 0 rfl) ?_
      refine M_get (v := .int (u.1 11)) hC hK hP 11 (by decide) (fM11 _ _) q1212 dX6_keepIt_23 ?_
      refine lv_icmp_le (tgt := 31) hx hb dX6_keepIt_26 (by decide) (fun c26 => ?_) (fun c26 => ?_)
      · refine lv_aload_n hx hb dX6_keepIt_31 rfl (lv_at hl 0 rfl) ?_
        refine lv_iconst (v := 0) hx hb dX6_keepIt_32 (by decide) ?_
        refine M_put hC hK hD hP hS 11 (by decide) (sM11 _ _ _) q1212 rfl dX6_keepIt_33 (fun H locs hP hS => ?_)
        refine lv_iload_n hx hb dX6_keepIt_36 rfl (lv_at hl 2 rfl) ?_
        refine lv_iconst (v := (-1)) hx hb dX6_keepIt_37 (by decide) ?_
        refine lv_icmp_eq (tgt := 48) hx hb dX6_keepIt_38 (by decide) (fun c38 => ?_) (fun c38 => ?_)
        · refine lv_iconst (v := 0) hx hb dX6_keepIt_48 (by decide) ?_
          refine lv_istore_n (lv' := [(3, .int 0), (0, .ref o), (1, .int (nI n)), (2, .int k0)]) hx hb dX6_keepIt_49 rfl hl (by decide) rfl (fun ls hl => ?_)
          refine lv_iconst (v := 1) hx hb dX6_keepIt_50 (by decide) ?_
          refine lv_istore (lv' := [(4, .int 1), (3, .int 0), (0, .ref o), (1, .int (nI n)), (2, .int k0)]) hx hb dX6_keepIt_51 hl (by decide) rfl (fun ls hl => ?_)
          have LP53 : ∀ (fu53 : Nat) (k : Nat) (be : Nat) (ls : Array Slot), n - k < fu53 → k ≤ n → 1 ≤ k → be = clN (hbN (u.2.1 10) n) (k - 1) → be < n → lv_has ls 5 [(0, .ref o), (1, .int (nI n)), (2, .int k0), (3, .int (nI be)), (4, .int (nI k))] → W pg l en Rm sg mm ar bw mth cd H locs 0 0 QQ (F0 mm 53 ls []) := by
            intro fu53
            induction fu53 with
            | zero => intro k be ls hm53 hk h1 hbe hb2 hl; exact absurd hm53 (Nat.not_lt_zero _)
            | succ fu53 ih53 =>
              intro k be ls hm53 hk h1 hbe hb2 hl
              refine lv_iload hx hb dX6_keepIt_53 (lv_at hl 4 rfl) ?_
              refine lv_iload_n hx hb dX6_keepIt_55 rfl (lv_at hl 1 rfl) ?_
              refine lv_icmp_ge (tgt := 84) hx hb dX6_keepIt_56 (by decide) (fun c56 => ?_) (fun c56 => ?_)
              · have c56 : n ≤ k := (nI_leI (a := n) (b := k) (by first | omega | exact ocN_b _ _ | exact hbN_b _ _ _) (by first | omega | exact ocN_b _ _ | exact hbN_b _ _ _)).mp c56
                refine lv_iload_n hx hb dX6_keepIt_84 rfl (lv_at hl 3 rfl) ?_
                exact hq _ _ _ _ _ _ dX6_keepIt_85 hP hS (rfl) (by subst c38; have hg : keepG (u.1 11) (nI n) (-1) = true := (by simp [keepG, c7, c18, c26]); have hkn : k = n := (by omega); subst hkn; exact ⟨by rw [keepItI, if_pos hg, if_pos rfl, hnx, hbe], by rw [if_pos hg]⟩)
              · have c56 : ¬ (n ≤ k) := mt (nI_leI (a := n) (b := k) (by first | omega | exact ocN_b _ _ | exact hbN_b _ _ _) (by first | omega | exact ocN_b _ _ | exact hbN_b _ _ _)).mpr c56
                refine lv_aload_n hx hb dX6_keepIt_59 rfl (lv_at hl 0 rfl) ?_
                refine lv_iload_n hx hb dX6_keepIt_60 rfl (lv_at hl 1 rfl) ?_
                refine lv_iload hx hb dX6_keepIt_61 (lv_at hl 4 rfl) ?_
                refine CI.callV hC hK hl (c_X6_hasBy G l o R (mV u 11 0) n k (by first | assumption | omega | rfl | (simp_all; done)) (by first | assumption | omega | rfl | (simp_all; done)) (by first | assumption | omega | rfl | (simp_all; done))) hP (hP.recv hK) q1802 q1804 qs108 q116 q1805 mdX6_hasBy (room_ok hRm rfl) rfl rfl dX6_keepIt_63 ?_
                refine W_top (y := (nI (hbN (u.2.1 10) n k))) rfl ?_
                refine lv_aload_n hx hb dX6_keepIt_66 rfl (lv_at hl 0 rfl) ?_
                refine lv_iload_n hx hb dX6_keepIt_67 rfl (lv_at hl 1 rfl) ?_
                refine lv_iload_n hx hb dX6_keepIt_68 rfl (lv_at hl 3 rfl) ?_
                refine CI.callV hC hK hl (c_X6_hasBy G l o R (mV u 11 0) n be (by first | assumption | omega | rfl | (simp_all; done)) (by first | assumption | omega | rfl | (simp_all; done)) (by first | assumption | omega | rfl | (simp_all; done))) hP (hP.recv hK) q1802 q1804 qs108 q116 q1805 mdX6_hasBy (room_ok hRm rfl) rfl rfl dX6_keepIt_69 ?_
                refine W_top (y := (nI (hbN (u.2.1 10) n be))) rfl ?_
                refine lv_icmp_le (tgt := 78) hx hb dX6_keepIt_72 (by decide) (fun c72 => ?_) (fun c72 => ?_)
                · have c72 : (hbN (u.2.1 10) n k) ≤ (hbN (u.2.1 10) n be) := (nI_leI (a := (hbN (u.2.1 10) n k)) (b := (hbN (u.2.1 10) n be)) (by first | omega | exact ocN_b _ _ | exact hbN_b _ _ _) (by first | omega | exact ocN_b _ _ | exact hbN_b _ _ _)).mp c72
                  refine lv_iinc (v := (nI (k + 1))) (lv' := [(4, .int (nI (k + 1))), (0, .ref o), (1, .int (nI n)), (2, .int k0), (3, .int (nI be))]) hx hb dX6_keepIt_78 hl (k := 4) rfl (nI_inc k) (by decide) rfl (fun ls hl => ?_)
                  refine lv_goto (tgt := 53) hx hb dX6_keepIt_81 (by decide) ?_
                  exact ih53 (k + 1) be ls (by omega) (by first | omega | assumption | rfl | (simp_all; done) | grind) (by first | omega | assumption | rfl | (simp_all; done) | grind) (by obtain ⟨q, rfl⟩ : ∃ q, k = q + 1 := ⟨k - 1, by omega⟩; (clear hq hP hK hts hC hx hb ho hRm hl hS ih53); grind [clN]) (by first | omega | assumption | rfl | (simp_all; done) | grind)  (lv_sub hl [1, 2, 3, 4, 0] rfl)
                · have c72 : ¬ ((hbN (u.2.1 10) n k) ≤ (hbN (u.2.1 10) n be)) := mt (nI_leI (a := (hbN (u.2.1 10) n k)) (b := (hbN (u.2.1 10) n be)) (by first | omega | exact ocN_b _ _ | exact hbN_b _ _ _) (by first | omega | exact ocN_b _ _ | exact hbN_b _ _ _)).mpr c72
                  refine lv_iload hx hb dX6_keepIt_75 (lv_at hl 4 rfl) ?_
                  refine lv_istore_n (lv' := [(3, .int (nI k)), (0, .ref o), (1, .int (nI n)), (2, .int k0), (4, .int (nI k))]) hx hb dX6_keepIt_77 rfl hl (by decide) rfl (fun ls hl => ?_)
                  refine lv_iinc (v := (nI (k + 1))) (lv' := [(4, .int (nI (k + 1))), (3, .int (nI k)), (0, .ref o), (1, .int (nI n)), (2, .int k0)]) hx hb dX6_keepIt_78 hl (k := 4) rfl (nI_inc k) (by decide) rfl (fun ls hl => ?_)
                  refine lv_goto (tgt := 53) hx hb dX6_keepIt_81 (by decide) ?_
                  exact ih53 (k + 1) k ls (by omega) (by first | omega | assumption | rfl | (simp_all; done) | grind) (by first | omega | assumption | rfl | (simp_all; done) | grind) (by obtain ⟨q, rfl⟩ : ∃ q, k = q + 1 := ⟨k - 1, by omega⟩; (clear hq hP hK hts hC hx hb ho hRm hl hS ih53); grind [clN]) (by first | omega | assumption | rfl | (simp_all; done) | grind)  (lv_sub hl [2, 3, 4, 1, 0] rfl)
          exact LP53 _ 1 0 ls (Nat.lt_succ_self _) (by first | omega | assumption | rfl | (simp_all; done) | grind) (by first | omega | assumption | rfl | (simp_all; done) | grind) (rfl) (by first | omega | assumption | rfl | (simp_all; done) | grind)  (lv_sub hl [2, 3, 4, 1, 0] rfl)
        · obtain ⟨j, hj, rfl, hjx⟩ := inB_m1 (by omega) c18 c38
          have hl : lv_has ls 5 [(0, .ref o), (1, .int (nI n)), (2, .int (nI j))] := hl
          refine lv_aload_n hx hb dX6_keepIt_41 rfl (lv_at hl 0 rfl) ?_
          refine lv_iload_n hx hb dX6_keepIt_42 rfl (lv_at hl 1 rfl) ?_
          refine lv_iload_n hx hb dX6_keepIt_43 rfl (lv_at hl 2 rfl) ?_
          refine CI.callV hC hK hl (c_X6_hasBy G l o R (mV u 11 0) n j (by first | assumption | omega | rfl | (simp_all; done)) (by first | assumption | omega | rfl | (simp_all; done)) (by first | assumption | omega | rfl | (simp_all; done))) hP (hP.recv hK) q1802 q1804 qs108 q116 q1805 mdX6_hasBy (room_ok hRm rfl) rfl rfl dX6_keepIt_44 ?_
          refine W_top (y := (nI (hbN (u.2.1 10) n j))) rfl ?_
          exact hq _ _ _ _ _ _ dX6_keepIt_47 hP hS (rfl) (by have hg : keepG (u.1 11) (nI n) (nI j) = true := (by simp [keepG, c7, c18, c26]); exact ⟨by rw [keepItI, if_pos hg, hnx, hjx, if_neg c38], by rw [if_pos hg]⟩)
      · refine lv_iconst (v := (-1)) hx hb dX6_keepIt_29 (by decide) ?_
        exact hq _ _ _ _ _ _ dX6_keepIt_30 hP hS (rfl) (by exact ⟨by first | (simp [keepItI, keepG, c7]; done) | (simp [keepItI, keepG, c7, c18]; done) | (simp [keepItI, keepG, c7, c18, c26]; done), by first | (simp [keepG, c7]; done) | (simp [keepG, c7, c18]; done) | (simp [keepG, c7, c18, c26]; done)⟩)
