set_option maxRecDepth 100000
set_option maxHeartbeats 4000000 in
theorem c_X0_metBy (G : GG) (l : Launch) (o : Nat) (R : Nat → Nat) (tx : Nat) (u : MS) (n : Nat) (h : Nat) (t : Nat) (hh : h < 16) (hn : n ≤ 6) (hwi : ∀ j, j < n → ocN (u.2.1 6) (2 * j) < 16 ∧ isHouseB (u.1 25) (nI (ocN (u.2.1 6) (2 * j + 1))) = true) (hsd : PB (u.2.1 21)) (hfc : PB (u.2.1 20)) : CIs G l yX0_metBy cX0_metBy 6 .int 5 95 [.ref o, .int (nI n), .int (nI h), .int (nI t)] (PwS G o R tx u) (nI (mtS (u.2.1 6) (u.2.1 21) (u.2.1 22) (u.2.1 23) (u.2.1 20) n t h)) := by
  refine CIs.mk RX0 pnX0 rfl (rfl) (Nat.le_of_ble_eq_true rfl) (fun pg en Rm sg mm ar bw mth cd QQ ls hC hRm hK hX hl hq => ?_)
  have hx := hC.1; have hb := hC.2.1; have ho := hC.2.2.2.1; have hts := hC.2.2.2.2
  have hP : PwS G o R tx u sg.heap := hX
  have hl : lv_has ls 6 [(0, .ref o), (1, .int (nI n)), (2, .int (nI h)), (3, .int (nI t))] := hl
  refine lv_iconst (v := 0) hx hb dX0_metBy_0 (by decide) ?_
  refine lv_istore (lv' := [(4, .int 0), (0, .ref o), (1, .int (nI n)), (2, .int (nI h)), (3, .int (nI t))]) hx hb dX0_metBy_1 hl (by decide) rfl (fun ls hl => ?_)
  refine lv_iconst (v := 0) hx hb dX0_metBy_3 (by decide) ?_
  refine lv_istore (lv' := [(5, .int 0), (4, .int 0), (0, .ref o), (1, .int (nI n)), (2, .int (nI h)), (3, .int (nI t))]) hx hb dX0_metBy_4 hl (by decide) rfl (fun ls hl => ?_)
  have LP6 : ∀ (fu6 : Nat) (k : Nat) (ss : Nat) (ls : Array Slot), n - k < fu6 → k ≤ n → ss = orT (metC (u.2.1 6) (u.2.1 21) (u.2.1 22) (u.2.1 23) (u.2.1 20) h (nI t)) k → lv_has ls 6 [(0, .ref o), (1, .int (nI n)), (2, .int (nI h)), (3, .int (nI t)), (4, .int (nI ss)), (5, .int (nI k))] → W pg l en Rm sg mm ar bw mth cd sg.heap [] 0 0 QQ (F0 mm 6 ls []) := by
    intro fu6
    induction fu6 with
    | zero => intro k ss ls hm6 hk hss hl; exact absurd hm6 (Nat.not_lt_zero _)
    | succ fu6 ih6 =>
      intro k ss ls hm6 hk hss hl
      refine lv_iload hx hb dX0_metBy_6 (lv_at hl 5 rfl) ?_
      refine lv_iload_n hx hb dX0_metBy_8 rfl (lv_at hl 1 rfl) ?_
      refine lv_icmp_ge (tgt := 68) hx hb dX0_metBy_9 (by decide) (fun c9 => ?_) (fun c9 => ?_)
      · have c9 : n ≤ k := (nI_leI (a := n) (b := k) (by first | omega | exact ocN_b _ _ | exact hbN_b _ _ _) (by first | omega | exact ocN_b _ _ | exact hbN_b _ _ _)).mp c9
        refine lv_iload hx hb dX0_metBy_68 (lv_at hl 4 rfl) ?_
        exact hq _ _ _ dX0_metBy_70 (by have hfin : k = n := (by omega); subst hfin; rw [hss]; rfl)
      · have c9 : ¬ (n ≤ k) := mt (nI_leI (a := n) (b := k) (by first | omega | exact ocN_b _ _ | exact hbN_b _ _ _) (by first | omega | exact ocN_b _ _ | exact hbN_b _ _ _)).mpr c9
        refine lv_iload hx hb dX0_metBy_12 (lv_at hl 4 rfl) ?_
        refine lv_aload_n hx hb dX0_metBy_14 rfl (lv_at hl 0 rfl) ?_
        refine lv_iconst (v := 2) hx hb dX0_metBy_15 (by decide) ?_
        refine lv_iload hx hb dX0_metBy_16 (lv_at hl 5 rfl) ?_
        refine lv_imul hx hb dX0_metBy_18 ?_
        refine W_top (pk_mul 2 k) ?_
        refine CIs.go (rcV hC hl (c_X0_fed G l o R tx u (2 * k) (by first | assumption | omega | rfl | (simp_all; done))) hK hP (va_recv hK.1 hP clX0 (oS_main _ _ _ _ _)) q1084 q1086 qs35 q110 q1087 mdX0_fed (room_s hRm rfl) rfl rfl dX0_metBy_19) ?_
        refine lv_iload_n hx hb dX0_metBy_22 rfl (lv_at hl 2 rfl) ?_
        refine lv_icmp_ne (tgt := 58) hx hb dX0_metBy_23 (by decide) (fun c23 => ?_) (fun c23 => ?_)
        · have c23 : ¬ ((ocN (u.2.1 6) (2 * k)) = h) := mt (nI_eq (a := (ocN (u.2.1 6) (2 * k))) (b := h) (by first | omega | exact ocN_b _ _ | exact hbN_b _ _ _) (by first | omega | exact ocN_b _ _ | exact hbN_b _ _ _)).mpr c23
          refine lv_iconst (v := 0) hx hb dX0_metBy_58 (by decide) ?_
          refine lv_ior hx hb dX0_metBy_59 ?_
          refine W_top (y := (nI ss)) (or0 _) ?_
          refine lv_istore (lv' := [(4, .int (nI ss)), (0, .ref o), (1, .int (nI n)), (2, .int (nI h)), (3, .int (nI t)), (5, .int (nI k))]) hx hb dX0_metBy_60 hl (by decide) rfl (fun ls hl => ?_)
          refine lv_iinc (v := (nI (k + 1))) (lv' := [(5, .int (nI (k + 1))), (4, .int (nI ss)), (0, .ref o), (1, .int (nI n)), (2, .int (nI h)), (3, .int (nI t))]) hx hb dX0_metBy_62 hl (k := 5) rfl (nI_inc k) (by decide) rfl (fun ls hl => ?_)
          refine lv_goto (tgt := 6) hx hb dX0_metBy_65 (by decide) ?_
          exact ih6 (k + 1) ss ls (by omega) (by first | omega | assumption | rfl | (simp_all; done) | grind) (by have e0 := hwi k (by omega); have e1 := hasB_seen (th := (u.1 25)) (sd := (u.2.1 21)) (fr := (u.2.1 22)) (un := (u.2.1 23)) (fc := (u.2.1 20) h) (t := nI t) (by have := ocN_lt (u.2.1 6) (2 * k + 1); omega) e0.2; rw [hss]; first | (rw [orT_t]; simp only [metC, Bool.and_eq_true, decide_eq_true_eq]; exact ⟨c23, by rw [← e1]; exact c48⟩) | (rw [orT_f]; simp only [metC]; first | (rw [decide_eq_false c23]; rfl) | (rw [← e1, c48, Bool.and_false])))  (lv_sub hl [2, 3, 4, 5, 1, 0] rfl)
        · have c23 : (ocN (u.2.1 6) (2 * k)) = h := (nI_eq (a := (ocN (u.2.1 6) (2 * k))) (b := h) (by first | omega | exact ocN_b _ _ | exact hbN_b _ _ _) (by first | omega | exact ocN_b _ _ | exact hbN_b _ _ _)).mp c23
          refine lv_aload_n hx hb dX0_metBy_26 rfl (lv_at hl 0 rfl) ?_
          refine S_get hC hK hP (oS_main _ _ _ _ _) clX0 in_X0 0 (by decide) (fD0 _ _ _ _) q291 dX0_metBy_27 ?_
          refine lv_iload_n hx hb dX0_metBy_30 rfl (lv_at hl 2 rfl) ?_
          refine lv_iload_n hx hb dX0_metBy_31 rfl (lv_at hl 3 rfl) ?_
          refine CIs.go (rcV hC hl (c_X1_seen_plan G l o R tx u h (nI t) (by first | assumption | omega | rfl | (simp_all; done)) (by first | assumption | omega | rfl | (simp_all; done)) (by first | assumption | omega | rfl | (simp_all; done))) hK hP (va_recv hK.1 hP clX1 (oS_plan _ _ _ _ _)) q1000 q894 q895 q111 q896 mdX1_seen (room_s hRm rfl) rfl rfl dX0_metBy_32) ?_
          refine lv_aload_n hx hb dX0_metBy_35 rfl (lv_at hl 0 rfl) ?_
          refine lv_iconst (v := 2) hx hb dX0_metBy_36 (by decide) ?_
          refine lv_iload hx hb dX0_metBy_37 (lv_at hl 5 rfl) ?_
          refine lv_imul hx hb dX0_metBy_39 ?_
          refine W_top (pk_mul 2 k) ?_
          refine lv_iconst (v := 1) hx hb dX0_metBy_40 (by decide) ?_
          refine lv_iadd hx hb dX0_metBy_41 ?_
          refine W_top (nI_add (2 * k) 1) ?_
          refine CIs.go (rcV hC hl (c_X0_fed G l o R tx u ((2 * k) + 1) (by first | assumption | omega | rfl | (simp_all; done))) hK hP (va_recv hK.1 hP clX0 (oS_main _ _ _ _ _)) q1084 q1086 qs35 q110 q1087 mdX0_fed (room_s hRm rfl) rfl rfl dX0_metBy_42) ?_
          refine CIs.go (rcS hC hl (c_X0_has G l (seenS (u.1 25) (u.2.1 21) (u.2.1 22) (u.2.1 23) ((u.2.1 20) h) (nI t)) (nI (ocN (u.2.1 6) ((2 * k) + 1))) ) hK trivial q1036 q1037 q110 q1038 mdX0_has (room_s hRm rfl) rfl rfl dX0_metBy_45) ?_
          refine lv_if_eq (tgt := 58) hx hb dX0_metBy_48 (by decide) (fun c48 => ?_) (fun c48 => ?_)
          · have c48 : (hasB (seenS (u.1 25) (u.2.1 21) (u.2.1 22) (u.2.1 23) ((u.2.1 20) h) (nI t)) (nI (ocN (u.2.1 6) ((2 * k) + 1)))) = false := bI_0.mp c48
            refine lv_iconst (v := 0) hx hb dX0_metBy_58 (by decide) ?_
            refine lv_ior hx hb dX0_metBy_59 ?_
            refine W_top (y := (nI ss)) (or0 _) ?_
            refine lv_istore (lv' := [(4, .int (nI ss)), (0, .ref o), (1, .int (nI n)), (2, .int (nI h)), (3, .int (nI t)), (5, .int (nI k))]) hx hb dX0_metBy_60 hl (by decide) rfl (fun ls hl => ?_)
            refine lv_iinc (v := (nI (k + 1))) (lv' := [(5, .int (nI (k + 1))), (4, .int (nI ss)), (0, .ref o), (1, .int (nI n)), (2, .int (nI h)), (3, .int (nI t))]) hx hb dX0_metBy_62 hl (k := 5) rfl (nI_inc k) (by decide) rfl (fun ls hl => ?_)
            refine lv_goto (tgt := 6) hx hb dX0_metBy_65 (by decide) ?_
            exact ih6 (k + 1) ss ls (by omega) (by first | omega | assumption | rfl | (simp_all; done) | grind) (by have e0 := hwi k (by omega); have e1 := hasB_seen (th := (u.1 25)) (sd := (u.2.1 21)) (fr := (u.2.1 22)) (un := (u.2.1 23)) (fc := (u.2.1 20) h) (t := nI t) (by have := ocN_lt (u.2.1 6) (2 * k + 1); omega) e0.2; rw [hss]; first | (rw [orT_t]; simp only [metC, Bool.and_eq_true, decide_eq_true_eq]; exact ⟨c23, by rw [← e1]; exact c48⟩) | (rw [orT_f]; simp only [metC]; first | (rw [decide_eq_false c23]; rfl) | (rw [← e1, c48, Bool.and_false])))  (lv_sub hl [2, 3, 4, 5, 1, 0] rfl)
          · have c48 : (hasB (seenS (u.1 25) (u.2.1 21) (u.2.1 22) (u.2.1 23) ((u.2.1 20) h) (nI t)) (nI (ocN (u.2.1 6) ((2 * k) + 1)))) = true := bI_1.mp c48
            refine lv_iconst (v := 1) hx hb dX0_metBy_51 (by decide) ?_
            refine lv_iload hx hb dX0_metBy_52 (lv_at hl 5 rfl) ?_
            refine lv_ishl hx hb dX0_metBy_54 ?_
            refine W_top (y := (nI (2 ^ k))) (shl1 k (by omega)) ?_
            refine lv_goto (tgt := 59) hx hb dX0_metBy_55 (by decide) ?_
            refine lv_ior hx hb dX0_metBy_59 ?_
            refine W_top (y := (nI (ss ||| 2 ^ k))) (nI_or _ _) ?_
            refine lv_istore (lv' := [(4, .int (nI (ss ||| 2 ^ k))), (0, .ref o), (1, .int (nI n)), (2, .int (nI h)), (3, .int (nI t)), (5, .int (nI k))]) hx hb dX0_metBy_60 hl (by decide) rfl (fun ls hl => ?_)
            refine lv_iinc (v := (nI (k + 1))) (lv' := [(5, .int (nI (k + 1))), (4, .int (nI (ss ||| 2 ^ k))), (0, .ref o), (1, .int (nI n)), (2, .int (nI h)), (3, .int (nI t))]) hx hb dX0_metBy_62 hl (k := 5) rfl (nI_inc k) (by decide) rfl (fun ls hl => ?_)
            refine lv_goto (tgt := 6) hx hb dX0_metBy_65 (by decide) ?_
            exact ih6 (k + 1) (ss ||| 2 ^ k) ls (by omega) (by first | omega | assumption | rfl | (simp_all; done) | grind) (by have e0 := hwi k (by omega); have e1 := hasB_seen (th := (u.1 25)) (sd := (u.2.1 21)) (fr := (u.2.1 22)) (un := (u.2.1 23)) (fc := (u.2.1 20) h) (t := nI t) (by have := ocN_lt (u.2.1 6) (2 * k + 1); omega) e0.2; rw [hss]; first | (rw [orT_t]; simp only [metC, Bool.and_eq_true, decide_eq_true_eq]; exact ⟨c23, by rw [← e1]; exact c48⟩) | (rw [orT_f]; simp only [metC]; first | (rw [decide_eq_false c23]; rfl) | (rw [← e1, c48, Bool.and_false])))  (lv_sub hl [2, 3, 4, 5, 1, 0] rfl)
  exact LP6 _ 0 0 ls (Nat.lt_succ_self _) (by first | omega | assumption | rfl | (simp_all; done) | grind) (rfl)  (lv_sub hl [2, 3, 4, 5, 1, 0] rfl)
set_option maxHeartbeats 4000000 in
theorem c_X0_betters (G : GG) (l : Launch) (o : Nat) (R : Nat → Nat) (tx : Nat) (u : MS) (s : Nat) (h : Nat) (wy : Nat) (f : Nat) (a : Nat) (b : Nat) (hs : s < 64) (hh : h < 17) (hw3 : wy < 2 ^ 30) (hf : f < 32) (ha3 : a < 2 ^ 30) (hb3 : b < 32) (ha : (rwsU u) (128 + s) h = nI a) (hbb : (rwsU u) (192 + s) h = nI b) (hD : DwGd o R) : CXv G l (PwGd G o R tx) (AwGd o R) yX0_betters cX0_betters 6 2 24 0 0 [.ref o, .int (nI s), .int (nI h), .int (nI wy), .int (nI f)] (PwGd G o R tx u) (fun w => w = (gE u (u.1 8) (bettG (rwsU u) s h wy f a b))) := by
  refine CXv.mk RX0 pnX0 rfl (Nat.le_of_ble_eq_true rfl) (fun pg en Rm sg mm ar bw mth cd QQ ls hC hRm hK hX hS hl hq => ?_)
  have hx := hC.1; have hb := hC.2.1; have ho := hC.2.2.2.1; have hts := hC.2.2.2.2
  have hP : PwGd G o R tx u sg.heap := hX
  have hl : lv_has ls 6 [(0, .ref o), (1, .int (nI s)), (2, .int (nI h)), (3, .int (nI wy)), (4, .int (nI f))] := hl
  have hP : PwGd G o R tx (gE u (u.1 8) (rwsU u)) sg.heap := by rw [gE_self]; exact hP
  refine lv_iload_n hx hb dX0_betters_0 rfl (lv_at hl 3 rfl) ?_
  refine lv_aload_n hx hb dX0_betters_1 rfl (lv_at hl 0 rfl) ?_
  refine S_get hC hK hP (oGd_main _ _ _ _ _) clX0 in_X0 12 (by decide) (fD12 _ _ _ _) q309 dX0_betters_2 ?_
  refine lv_iload_n hx hb dX0_betters_5 rfl (lv_at hl 1 rfl) ?_
  refine S_aldA hC hK hP (aGd12 _ _ _ _ _) (j := s) (b := R (1000 + (128 + s))) rfl (by decide) (rfl) (by omega) dX0_betters_6 ?_
  refine lv_iload_n hx hb dX0_betters_7 rfl (lv_at hl 2 rfl) ?_
  refine S_ald hC hK hP (aGr (i := (128 + s)) _ _ _ _ _ (by omega) (rwG_17 (by omega))) (j := h) (by decide) (rfl) (by omega) dX0_betters_8 ?_
  refine W_top (y := ((rwsU u) (128 + s) h)) (congrFun (gE_r _ _ _ _) _) ?_
  refine W_top (y := (nI a)) (ha) ?_
  refine lv_icmp_lt (tgt := 37) hx hb dX0_betters_9 (by decide) (fun c9 => ?_) (fun c9 => ?_)
  · have c9 : wy < a := (nI_ltI (a := wy) (b := a) (by omega) (by omega)).mp c9
    refine lv_iconst (v := 1) hx hb dX0_betters_37 (by decide) ?_
    refine lv_goto (tgt := 42) hx hb dX0_betters_38 (by decide) ?_
    refine lv_istore (lv' := [(5, .int 1), (0, .ref o), (1, .int (nI s)), (2, .int (nI h)), (3, .int (nI wy)), (4, .int (nI f))]) hx hb dX0_betters_42 hl (by decide) rfl (fun ls hl => ?_)
    refine lv_iload hx hb dX0_betters_44 (lv_at hl 0 rfl) ?_
    refine lv_if_ne (tgt := 50) hx hb dX0_betters_46 (by decide) (fun c46 => ?_) (fun c46 => ?_)
    · refine lv_aload_n hx hb dX0_betters_50 rfl (lv_at hl 1 rfl) ?_
      refine S_get hC hK hP (oGd_main _ _ _ _ _) clX0 in_X0 12 (by decide) (fD12 _ _ _ _) q309 dX0_betters_51 ?_
      refine lv_iload_n hx hb dX0_betters_54 rfl (lv_at hl 2 rfl) ?_
      refine S_aldA hC hK hP (aGd12 _ _ _ _ _) (j := s) (b := R (1000 + (128 + s))) rfl (by decide) (rfl) (by omega) dX0_betters_55 ?_
      refine lv_iload_n hx hb dX0_betters_56 rfl (lv_at hl 3 rfl) ?_
      refine lv_iload_n hx hb dX0_betters_57 rfl (lv_at hl 4 rfl) ?_
      refine S_ast hC hK hP (hD _ _ _) hS (aGr (i := (128 + s)) _ _ _ _ _ (by omega) (rwG_17 (by omega))) (bGr (i := (128 + s)) _ _ _ _ _ _ _ (rwG_17 (by omega))) (j := h) (by decide) (rfl) (by omega) dX0_betters_58 (fun H locs hP hS => ?_)
      rw [gE_W] at hP
      refine lv_aload_n hx hb dX0_betters_59 rfl (lv_at hl 1 rfl) ?_
      refine S_get hC hK hP (oGd_main _ _ _ _ _) clX0 in_X0 13 (by decide) (fD13 _ _ _ _) q310 dX0_betters_60 ?_
      refine lv_iload_n hx hb dX0_betters_63 rfl (lv_at hl 2 rfl) ?_
      refine S_aldA hC hK hP (aGd13 _ _ _ _ _) (j := s) (b := R (1000 + (192 + s))) rfl (by decide) (rfl) (by omega) dX0_betters_64 ?_
      refine lv_iload_n hx hb dX0_betters_65 rfl (lv_at hl 3 rfl) ?_
      refine lv_iload hx hb dX0_betters_66 (lv_at hl 5 rfl) ?_
      refine S_ast hC hK hP (hD _ _ _) hS (aGr (i := (192 + s)) _ _ _ _ _ (by omega) (rwG_17 (by omega))) (bGr (i := (192 + s)) _ _ _ _ _ _ _ (rwG_17 (by omega))) (j := h) (by decide) (rfl) (by omega) dX0_betters_68 (fun H locs hP hS => ?_)
      rw [gE_W] at hP
      exact hq _ _ _ _ _ _ _ dX0_betters_69 hP hS (by rw [bettG, if_pos (by omega)]) (by decide) (by decide)
    · exact absurd c46 (by decide)
  · have c9 : ¬ (wy < a) := mt (nI_ltI (a := wy) (b := a) (by omega) (by omega)).mpr c9
    refine lv_iload_n hx hb dX0_betters_12 rfl (lv_at hl 3 rfl) ?_
    refine lv_aload_n hx hb dX0_betters_13 rfl (lv_at hl 0 rfl) ?_
    refine S_get hC hK hP (oGd_main _ _ _ _ _) clX0 in_X0 12 (by decide) (fD12 _ _ _ _) q309 dX0_betters_14 ?_
    refine lv_iload_n hx hb dX0_betters_17 rfl (lv_at hl 1 rfl) ?_
    refine S_aldA hC hK hP (aGd12 _ _ _ _ _) (j := s) (b := R (1000 + (128 + s))) rfl (by decide) (rfl) (by omega) dX0_betters_18 ?_
    refine lv_iload_n hx hb dX0_betters_19 rfl (lv_at hl 2 rfl) ?_
    refine S_ald hC hK hP (aGr (i := (128 + s)) _ _ _ _ _ (by omega) (rwG_17 (by omega))) (j := h) (by decide) (rfl) (by omega) dX0_betters_20 ?_
    refine W_top (y := ((rwsU u) (128 + s) h)) (congrFun (gE_r _ _ _ _) _) ?_
    refine W_top (y := (nI a)) (ha) ?_
    refine lv_icmp_ne (tgt := 41) hx hb dX0_betters_21 (by decide) (fun c21 => ?_) (fun c21 => ?_)
    · have c21 : ¬ (wy = a) := mt (nI_eq (a := wy) (b := a) (by omega) (by omega)).mpr c21
      refine lv_iconst (v := 0) hx hb dX0_betters_41 (by decide) ?_
      refine lv_istore (lv' := [(5, .int 0), (0, .ref o), (1, .int (nI s)), (2, .int (nI h)), (3, .int (nI wy)), (4, .int (nI f))]) hx hb dX0_betters_42 hl (by decide) rfl (fun ls hl => ?_)
      refine lv_iload hx hb dX0_betters_44 (lv_at hl 0 rfl) ?_
      refine lv_if_ne (tgt := 50) hx hb dX0_betters_46 (by decide) (fun c46 => ?_) (fun c46 => ?_)
      · exact absurd c46 (by decide)
      · exact hq _ _ _ _ _ _ _ dX0_betters_49 hP hS (by rw [bettG, if_neg (by omega)]) (by decide) (by decide)
    · have c21 : wy = a := (nI_eq (a := wy) (b := a) (by omega) (by omega)).mp c21
      refine lv_iload hx hb dX0_betters_24 (lv_at hl 4 rfl) ?_
      refine lv_aload_n hx hb dX0_betters_26 rfl (lv_at hl 0 rfl) ?_
      refine S_get hC hK hP (oGd_main _ _ _ _ _) clX0 in_X0 13 (by decide) (fD13 _ _ _ _) q310 dX0_betters_27 ?_
      refine lv_iload_n hx hb dX0_betters_30 rfl (lv_at hl 1 rfl) ?_
      refine S_aldA hC hK hP (aGd13 _ _ _ _ _) (j := s) (b := R (1000 + (192 + s))) rfl (by decide) (rfl) (by omega) dX0_betters_31 ?_
      refine lv_iload_n hx hb dX0_betters_32 rfl (lv_at hl 2 rfl) ?_
      refine S_ald hC hK hP (aGr (i := (192 + s)) _ _ _ _ _ (by omega) (rwG_17 (by omega))) (j := h) (by decide) (rfl) (by omega) dX0_betters_33 ?_
      refine W_top (y := ((rwsU u) (192 + s) h)) (congrFun (gE_r _ _ _ _) _) ?_
      refine W_top (y := (nI b)) (hbb) ?_
      refine lv_icmp_ge (tgt := 41) hx hb dX0_betters_34 (by decide) (fun c34 => ?_) (fun c34 => ?_)
      · have c34 : b ≤ f := (nI_leI (a := b) (b := f) (by omega) (by omega)).mp c34
        refine lv_iconst (v := 0) hx hb dX0_betters_41 (by decide) ?_
        refine lv_istore (lv' := [(5, .int 0), (0, .ref o), (1, .int (nI s)), (2, .int (nI h)), (3, .int (nI wy)), (4, .int (nI f))]) hx hb dX0_betters_42 hl (by decide) rfl (fun ls hl => ?_)
        refine lv_iload hx hb dX0_betters_44 (lv_at hl 0 rfl) ?_
        refine lv_if_ne (tgt := 50) hx hb dX0_betters_46 (by decide) (fun c46 => ?_) (fun c46 => ?_)
        · exact absurd c46 (by decide)
        · exact hq _ _ _ _ _ _ _ dX0_betters_49 hP hS (by rw [bettG, if_neg (by omega)]) (by decide) (by decide)
      · have c34 : ¬ (b ≤ f) := mt (nI_leI (a := b) (b := f) (by omega) (by omega)).mpr c34
        refine lv_iconst (v := 1) hx hb dX0_betters_37 (by decide) ?_
        refine lv_goto (tgt := 42) hx hb dX0_betters_38 (by decide) ?_
        refine lv_istore (lv' := [(5, .int 1), (0, .ref o), (1, .int (nI s)), (2, .int (nI h)), (3, .int (nI wy)), (4, .int (nI f))]) hx hb dX0_betters_42 hl (by decide) rfl (fun ls hl => ?_)
        refine lv_iload hx hb dX0_betters_44 (lv_at hl 0 rfl) ?_
        refine lv_if_ne (tgt := 50) hx hb dX0_betters_46 (by decide) (fun c46 => ?_) (fun c46 => ?_)
        · refine lv_aload_n hx hb dX0_betters_50 rfl (lv_at hl 1 rfl) ?_
          refine S_get hC hK hP (oGd_main _ _ _ _ _) clX0 in_X0 12 (by decide) (fD12 _ _ _ _) q309 dX0_betters_51 ?_
          refine lv_iload_n hx hb dX0_betters_54 rfl (lv_at hl 2 rfl) ?_
          refine S_aldA hC hK hP (aGd12 _ _ _ _ _) (j := s) (b := R (1000 + (128 + s))) rfl (by decide) (rfl) (by omega) dX0_betters_55 ?_
          refine lv_iload_n hx hb dX0_betters_56 rfl (lv_at hl 3 rfl) ?_
          refine lv_iload_n hx hb dX0_betters_57 rfl (lv_at hl 4 rfl) ?_
          refine S_ast hC hK hP (hD _ _ _) hS (aGr (i := (128 + s)) _ _ _ _ _ (by omega) (rwG_17 (by omega))) (bGr (i := (128 + s)) _ _ _ _ _ _ _ (rwG_17 (by omega))) (j := h) (by decide) (rfl) (by omega) dX0_betters_58 (fun H locs hP hS => ?_)
          rw [gE_W] at hP
          refine lv_aload_n hx hb dX0_betters_59 rfl (lv_at hl 1 rfl) ?_
          refine S_get hC hK hP (oGd_main _ _ _ _ _) clX0 in_X0 13 (by decide) (fD13 _ _ _ _) q310 dX0_betters_60 ?_
          refine lv_iload_n hx hb dX0_betters_63 rfl (lv_at hl 2 rfl) ?_
          refine S_aldA hC hK hP (aGd13 _ _ _ _ _) (j := s) (b := R (1000 + (192 + s))) rfl (by decide) (rfl) (by omega) dX0_betters_64 ?_
          refine lv_iload_n hx hb dX0_betters_65 rfl (lv_at hl 3 rfl) ?_
          refine lv_iload hx hb dX0_betters_66 (lv_at hl 5 rfl) ?_
          refine S_ast hC hK hP (hD _ _ _) hS (aGr (i := (192 + s)) _ _ _ _ _ (by omega) (rwG_17 (by omega))) (bGr (i := (192 + s)) _ _ _ _ _ _ _ (rwG_17 (by omega))) (j := h) (by decide) (rfl) (by omega) dX0_betters_68 (fun H locs hP hS => ?_)
          rw [gE_W] at hP
          exact hq _ _ _ _ _ _ _ dX0_betters_69 hP hS (by rw [bettG, if_pos (by omega)]) (by decide) (by decide)
        · exact absurd c46 (by decide)
set_option maxHeartbeats 4000000 in
theorem c_X0_turnIsLaid (G : GG) (l : Launch) (o : Nat) (R : Nat → Nat) (tx : Nat) (u : MS) (n : Nat) (t : Nat) (T : Nat → Nat) (hn1 : 1 ≤ n) (hn : n ≤ 6) (ht : t < 12) (hwi : ∀ j, j < n → ocN (u.2.1 6) (2 * j) < 16 ∧ isHouseB (u.1 25) (nI (ocN (u.2.1 6) (2 * j + 1))) = true) (hT : ∀ i, T i ≤ 8589934608) (hg : grd 0 64 (17 * 2 ^ n) (rwsU u) T) (hsd : PB (u.2.1 21)) (hfc : PB (u.2.1 20)) (hD : DwGd o R) : CXv G l (PwGd G o R tx) (AwGd o R) yX0_turnIsLaid cX0_turnIsLaid 8 6 120 0 0 [.ref o, .int (nI n), .int (nI t)] (PwGd G o R tx u) (fun w => ∃ g : Nat → Nat → Int32, (grd 0 64 (17 * 2 ^ n) g (layS T (whS (u.2.1 6)) (fun i => mtS (u.2.1 6) (u.2.1 21) (u.2.1 22) (u.2.1 23) (u.2.1 20) n t ((whS (u.2.1 6)) i)) (2 ^ n) n)) ∧ w = (gE u (u.1 8) g)) := by
  refine CXv.mk RX0 pnX0 rfl (Nat.le_of_ble_eq_true rfl) (fun pg en Rm sg mm ar bw mth cd QQ ls hC hRm hK hX hS hl hq => ?_)
  have hx := hC.1; have hb := hC.2.1; have ho := hC.2.2.2.1; have hts := hC.2.2.2.2
  have hP : PwGd G o R tx u sg.heap := hX
  have hl : lv_has ls 8 [(0, .ref o), (1, .int (nI n)), (2, .int (nI t))] := hl
  have hP : PwGd G o R tx (gE u (u.1 8) (rwsU u)) sg.heap := by rw [gE_self]; exact hP
  have hp2 : 2 ^ n ≤ 64 := Nat.pow_le_pow_right (n := 2) (by decide) hn
  refine lv_iconst (v := 0) hx hb dX0_turnIsLaid_0 (by decide) ?_
  refine lv_istore_n (lv' := [(3, .int 0), (0, .ref o), (1, .int (nI n)), (2, .int (nI t))]) hx hb dX0_turnIsLaid_1 rfl hl (by decide) rfl (fun ls hl => ?_)
  have LP2 : ∀ (fu2 : Nat) (s : Nat) (g : Nat → Nat → Int32) (H : Heap) (locs : List Loc) (ls : Array Slot), 2 ^ n - s < fu2 → s ≤ 2 ^ n → grd 0 64 (17 * 2 ^ n) g T → grd 128 192 (17 * s) g T → PwGd G o R tx (gE u (u.1 8) g) H → va_S (AwGd o R) sg.heap H locs → lv_has ls 8 [(0, .ref o), (1, .int (nI n)), (2, .int (nI t)), (3, .int (nI s))] → W pg l en Rm sg mm ar bw mth cd H locs 0 0 QQ (F0 mm 2 ls []) := by
    intro fu2
    induction fu2 with
    | zero => intro s g H locs ls hm2 hs hg0 hg1 hP hS hl; exact absurd hm2 (Nat.not_lt_zero _)
    | succ fu2 ih2 =>
      intro s g H locs ls hm2 hs hg0 hg1 hP hS hl
      refine lv_iload_n hx hb dX0_turnIsLaid_2 rfl (lv_at hl 3 rfl) ?_
      refine lv_iconst (v := 1) hx hb dX0_turnIsLaid_3 (by decide) ?_
      refine lv_iload_n hx hb dX0_turnIsLaid_4 rfl (lv_at hl 1 rfl) ?_
      refine lv_ishl hx hb dX0_turnIsLaid_5 ?_
      refine W_top (y := (nI (2 ^ n))) (shl1 n (by omega)) ?_
      refine lv_icmp_ge (tgt := 67) hx hb dX0_turnIsLaid_6 (by decide) (fun c6 => ?_) (fun c6 => ?_)
      · have c6 : (2 ^ n) ≤ s := (nI_leI (a := (2 ^ n)) (b := s) (by omega) (by omega)).mp c6
        refine lv_iconst (v := 0) hx hb dX0_turnIsLaid_67 (by decide) ?_
        refine lv_istore_n (lv' := [(3, .int 0), (0, .ref o), (1, .int (nI n)), (2, .int (nI t))]) hx hb dX0_turnIsLaid_68 rfl hl (by decide) rfl (fun ls hl => ?_)
        have LP69 : ∀ (fu69 : Nat) (i : Nat) (g : Nat → Nat → Int32) (H : Heap) (locs : List Loc) (ls : Array Slot), n - i < fu69 → i ≤ n → grd 0 64 (17 * 2 ^ n) g T → grd 128 192 (17 * 2 ^ n) g (layS T (whS (u.2.1 6)) (fun i => mtS (u.2.1 6) (u.2.1 21) (u.2.1 22) (u.2.1 23) (u.2.1 20) n t ((whS (u.2.1 6)) i)) (2 ^ n) i) → PwGd G o R tx (gE u (u.1 8) g) H → va_S (AwGd o R) sg.heap H locs → lv_has ls 8 [(0, .ref o), (1, .int (nI n)), (2, .int (nI t)), (3, .int (nI i))] → W pg l en Rm sg mm ar bw mth cd H locs 0 0 QQ (F0 mm 69 ls []) := by
          intro fu69
          induction fu69 with
          | zero => intro i g H locs ls hm69 hi hg4 hg5 hP hS hl; exact absurd hm69 (Nat.not_lt_zero _)
          | succ fu69 ih69 =>
            intro i g H locs ls hm69 hi hg4 hg5 hP hS hl
            refine lv_iload_n hx hb dX0_turnIsLaid_69 rfl (lv_at hl 3 rfl) ?_
            refine lv_iload_n hx hb dX0_turnIsLaid_70 rfl (lv_at hl 1 rfl) ?_
            refine lv_icmp_ge (tgt := 210) hx hb dX0_turnIsLaid_71 (by decide) (fun c71 => ?_) (fun c71 => ?_)
            · have c71 : n ≤ i := (nI_leI (a := n) (b := i) (by omega) (by omega)).mp c71
              refine lv_iconst (v := 0) hx hb dX0_turnIsLaid_210 (by decide) ?_
              refine lv_istore_n (lv' := [(3, .int 0), (0, .ref o), (1, .int (nI n)), (2, .int (nI t))]) hx hb dX0_turnIsLaid_211 rfl hl (by decide) rfl (fun ls hl => ?_)
              have LP212 : ∀ (fu212 : Nat) (s : Nat) (g : Nat → Nat → Int32) (H : Heap) (locs : List Loc) (ls : Array Slot), 2 ^ n - s < fu212 → s ≤ 2 ^ n → grd 0 64 (17 * s) g (layS T (whS (u.2.1 6)) (fun i => mtS (u.2.1 6) (u.2.1 21) (u.2.1 22) (u.2.1 23) (u.2.1 20) n t ((whS (u.2.1 6)) i)) (2 ^ n) n) → grd 128 192 (17 * 2 ^ n) g (layS T (whS (u.2.1 6)) (fun i => mtS (u.2.1 6) (u.2.1 21) (u.2.1 22) (u.2.1 23) (u.2.1 20) n t ((whS (u.2.1 6)) i)) (2 ^ n) n) → PwGd G o R tx (gE u (u.1 8) g) H → va_S (AwGd o R) sg.heap H locs → lv_has ls 8 [(0, .ref o), (1, .int (nI n)), (2, .int (nI t)), (3, .int (nI s))] → W pg l en Rm sg mm ar bw mth cd H locs 0 0 QQ (F0 mm 212 ls []) := by
                intro fu212
                induction fu212 with
                | zero => intro s g H locs ls hm212 hs hg10 hg11 hP hS hl; exact absurd hm212 (Nat.not_lt_zero _)
                | succ fu212 ih212 =>
                  intro s g H locs ls hm212 hs hg10 hg11 hP hS hl
                  refine lv_iload_n hx hb dX0_turnIsLaid_212 rfl (lv_at hl 3 rfl) ?_
                  refine lv_iconst (v := 1) hx hb dX0_turnIsLaid_213 (by decide) ?_
                  refine lv_iload_n hx hb dX0_turnIsLaid_214 rfl (lv_at hl 1 rfl) ?_
                  refine lv_ishl hx hb dX0_turnIsLaid_215 ?_
                  refine W_top (y := (nI (2 ^ n))) (shl1 n (by omega)) ?_
                  refine lv_icmp_ge (tgt := 277) hx hb dX0_turnIsLaid_216 (by decide) (fun c216 => ?_) (fun c216 => ?_)
                  · have c216 : (2 ^ n) ≤ s := (nI_leI (a := (2 ^ n)) (b := s) (by omega) (by omega)).mp c216
                    exact hq _ _ _ _ _ _ _ dX0_turnIsLaid_277 hP hS (by exact ⟨g, by have e : s = 2 ^ n := (by omega); rw [e] at hg10; exact hg10, rfl⟩) (by decide) (by decide)
                  · have c216 : ¬ ((2 ^ n) ≤ s) := mt (nI_leI (a := (2 ^ n)) (b := s) (by omega) (by omega)).mpr c216
                    refine lv_iconst (v := 0) hx hb dX0_turnIsLaid_219 (by decide) ?_
                    refine lv_istore (lv' := [(4, .int 0), (0, .ref o), (1, .int (nI n)), (2, .int (nI t)), (3, .int (nI s))]) hx hb dX0_turnIsLaid_220 hl (by decide) rfl (fun ls hl => ?_)
                    have LP222 : ∀ (fu222 : Nat) (h : Nat) (g : Nat → Nat → Int32) (H : Heap) (locs : List Loc) (ls : Array Slot), 17 - h < fu222 → h ≤ 17 → grd 0 64 (17 * s + h) g (layS T (whS (u.2.1 6)) (fun i => mtS (u.2.1 6) (u.2.1 21) (u.2.1 22) (u.2.1 23) (u.2.1 20) n t ((whS (u.2.1 6)) i)) (2 ^ n) n) → grd 128 192 (17 * 2 ^ n) g (layS T (whS (u.2.1 6)) (fun i => mtS (u.2.1 6) (u.2.1 21) (u.2.1 22) (u.2.1 23) (u.2.1 20) n t ((whS (u.2.1 6)) i)) (2 ^ n) n) → PwGd G o R tx (gE u (u.1 8) g) H → va_S (AwGd o R) sg.heap H locs → lv_has ls 8 [(0, .ref o), (1, .int (nI n)), (2, .int (nI t)), (3, .int (nI s)), (4, .int (nI h))] → W pg l en Rm sg mm ar bw mth cd H locs 0 0 QQ (F0 mm 222 ls []) := by
                      intro fu222
                      induction fu222 with
                      | zero => intro h g H locs ls hm222 hh hg12 hg13 hP hS hl; exact absurd hm222 (Nat.not_lt_zero _)
                      | succ fu222 ih222 =>
                        intro h g H locs ls hm222 hh hg12 hg13 hP hS hl
                        refine lv_iload hx hb dX0_turnIsLaid_222 (lv_at hl 4 rfl) ?_
                        refine lv_bipush (v := 16) hx hb dX0_turnIsLaid_224 (by decide) ?_
                        refine lv_icmp_gt (tgt := 271) hx hb dX0_turnIsLaid_226 (by decide) (fun c226 => ?_) (fun c226 => ?_)
                        · have c226 : 16 < h := (nI_ltI (a := 16) (b := h) (by omega) (by omega)).mp c226
                          refine lv_iinc (v := (nI (s + 1))) (lv' := [(3, .int (nI (s + 1))), (0, .ref o), (1, .int (nI n)), (2, .int (nI t)), (4, .int (nI h))]) hx hb dX0_turnIsLaid_271 hl (k := 3) rfl (nI_inc s) (by decide) rfl (fun ls hl => ?_)
                          refine lv_goto (tgt := 212) hx hb dX0_turnIsLaid_274 (by decide) ?_
                          exact ih212 (s + 1) g _ _ ls (by omega) (by first | omega | assumption | rfl | (simp_all; done) | grind) (by have e : h = 17 := (by omega); subst e; exact hg12) (hg13) hP hS (lv_sub hl [1, 2, 3, 0] rfl)
                        · have c226 : ¬ (16 < h) := mt (nI_ltI (a := 16) (b := h) (by omega) (by omega)).mpr c226
                          refine lv_aload_n hx hb dX0_turnIsLaid_229 rfl (lv_at hl 0 rfl) ?_
                          refine S_get hC hK hP (oGd_main _ _ _ _ _) clX0 in_X0 10 (by decide) (fD10 _ _ _ _) q307 dX0_turnIsLaid_230 ?_
                          refine lv_iload_n hx hb dX0_turnIsLaid_233 rfl (lv_at hl 3 rfl) ?_
                          refine S_aldA hC hK hP (aGd10 _ _ _ _ _) (j := s) (b := R (1000 + (0 + s))) rfl (by decide) (rfl) (by omega) dX0_turnIsLaid_234 ?_
                          refine lv_iload hx hb dX0_turnIsLaid_235 (lv_at hl 4 rfl) ?_
                          refine lv_aload_n hx hb dX0_turnIsLaid_237 rfl (lv_at hl 0 rfl) ?_
                          refine S_get hC hK hP (oGd_main _ _ _ _ _) clX0 in_X0 12 (by decide) (fD12 _ _ _ _) q309 dX0_turnIsLaid_238 ?_
                          refine lv_iload_n hx hb dX0_turnIsLaid_241 rfl (lv_at hl 3 rfl) ?_
                          refine S_aldA hC hK hP (aGd12 _ _ _ _ _) (j := s) (b := R (1000 + (128 + s))) rfl (by decide) (rfl) (by omega) dX0_turnIsLaid_242 ?_
                          refine lv_iload hx hb dX0_turnIsLaid_243 (lv_at hl 4 rfl) ?_
                          refine S_ald hC hK hP (aGr (i := (128 + s)) _ _ _ _ _ (by omega) (rwG_17 (by omega))) (j := h) (by decide) (rfl) (by omega) dX0_turnIsLaid_245 ?_
                          refine W_top (y := (g (128 + s) h)) (congrFun (gE_r _ _ _ _) _) ?_
                          refine W_top (y := (nI ((layS T (whS (u.2.1 6)) (fun i => mtS (u.2.1 6) (u.2.1 21) (u.2.1 22) (u.2.1 23) (u.2.1 20) n t ((whS (u.2.1 6)) i)) (2 ^ n) n) (17 * s + h) / 32))) ((hg13 s h (by omega) (by omega)).1) ?_
                          refine S_ast hC hK hP (hD _ _ _) hS (aGr (i := (0 + s)) _ _ _ _ _ (by omega) (rwG_17 (by omega))) (bGr (i := (0 + s)) _ _ _ _ _ _ _ (rwG_17 (by omega))) (j := h) (by decide) (rfl) (by omega) dX0_turnIsLaid_246 (fun H locs hP hS => ?_)
                          rw [gE_W] at hP
                          refine lv_aload_n hx hb dX0_turnIsLaid_247 rfl (lv_at hl 0 rfl) ?_
                          refine S_get hC hK hP (oGd_main _ _ _ _ _) clX0 in_X0 11 (by decide) (fD11 _ _ _ _) q308 dX0_turnIsLaid_248 ?_
                          refine lv_iload_n hx hb dX0_turnIsLaid_251 rfl (lv_at hl 3 rfl) ?_
                          refine S_aldA hC hK hP (aGd11 _ _ _ _ _) (j := s) (b := R (1000 + (64 + s))) rfl (by decide) (rfl) (by omega) dX0_turnIsLaid_252 ?_
                          refine lv_iload hx hb dX0_turnIsLaid_253 (lv_at hl 4 rfl) ?_
                          refine lv_aload_n hx hb dX0_turnIsLaid_255 rfl (lv_at hl 0 rfl) ?_
                          refine S_get hC hK hP (oGd_main _ _ _ _ _) clX0 in_X0 13 (by decide) (fD13 _ _ _ _) q310 dX0_turnIsLaid_256 ?_
                          refine lv_iload_n hx hb dX0_turnIsLaid_259 rfl (lv_at hl 3 rfl) ?_
                          refine S_aldA hC hK hP (aGd13 _ _ _ _ _) (j := s) (b := R (1000 + (192 + s))) rfl (by decide) (rfl) (by omega) dX0_turnIsLaid_260 ?_
                          refine lv_iload hx hb dX0_turnIsLaid_261 (lv_at hl 4 rfl) ?_
                          refine S_ald hC hK hP (aGr (i := (192 + s)) _ _ _ _ _ (by omega) (rwG_17 (by omega))) (j := h) (by decide) (rfl) (by omega) dX0_turnIsLaid_263 ?_
                          refine W_top (y := ((upd2 g (0 + s) h (nI ((layS T (whS (u.2.1 6)) (fun i => mtS (u.2.1 6) (u.2.1 21) (u.2.1 22) (u.2.1 23) (u.2.1 20) n t ((whS (u.2.1 6)) i)) (2 ^ n) n) (17 * s + h) / 32))) (192 + s) h)) (congrFun (gE_r _ _ _ _) _) ?_
                          refine W_top (y := (nI ((layS T (whS (u.2.1 6)) (fun i => mtS (u.2.1 6) (u.2.1 21) (u.2.1 22) (u.2.1 23) (u.2.1 20) n t ((whS (u.2.1 6)) i)) (2 ^ n) n) (17 * s + h) % 32))) ((upd2_o (by omega)).trans (hg13 s h (by omega) (by omega)).2) ?_
                          refine S_ast hC hK hP (hD _ _ _) hS (aGr (i := (64 + s)) _ _ _ _ _ (by omega) (rwG_17 (by omega))) (bGr (i := (64 + s)) _ _ _ _ _ _ _ (rwG_17 (by omega))) (j := h) (by decide) (rfl) (by omega) dX0_turnIsLaid_264 (fun H locs hP hS => ?_)
                          rw [gE_W] at hP
                          refine lv_iinc (v := (nI (h + 1))) (lv' := [(4, .int (nI (h + 1))), (0, .ref o), (1, .int (nI n)), (2, .int (nI t)), (3, .int (nI s))]) hx hb dX0_turnIsLaid_265 hl (k := 4) rfl (nI_inc h) (by decide) rfl (fun ls hl => ?_)
                          refine lv_goto (tgt := 222) hx hb dX0_turnIsLaid_268 (by decide) ?_
                          exact ih222 (h + 1) (upd2 (upd2 g (0 + s) h (nI ((layS T (whS (u.2.1 6)) (fun i => mtS (u.2.1 6) (u.2.1 21) (u.2.1 22) (u.2.1 23) (u.2.1 20) n t ((whS (u.2.1 6)) i)) (2 ^ n) n) (17 * s + h) / 32))) (64 + s) h (nI ((layS T (whS (u.2.1 6)) (fun i => mtS (u.2.1 6) (u.2.1 21) (u.2.1 22) (u.2.1 23) (u.2.1 20) n t ((whS (u.2.1 6)) i)) (2 ^ n) n) (17 * s + h) % 32))) _ _ ls (by omega) (by first | omega | assumption | rfl | (simp_all; done) | grind) (grd_n (by decide) rfl (by omega) (by omega) hg12 rfl rfl) (grd_o (fun s' q => by omega) (grd_o (fun s' q => by omega) hg13)) hP hS (lv_sub hl [1, 2, 3, 4, 0] rfl)
                    exact LP222 _ 0 g _ _ ls (Nat.lt_succ_self _) (by first | omega | assumption | rfl | (simp_all; done) | grind) (hg10) (hg11) hP hS (lv_sub hl [1, 2, 3, 4, 0] rfl)
              exact LP212 _ 0 g _ _ ls (Nat.lt_succ_self _) (by first | omega | assumption | rfl | (simp_all; done) | grind) (grd_0 _ _ _ _) (by have e : i = n := (by omega); subst e; exact hg5) hP hS (lv_sub hl [1, 2, 3, 0] rfl)
            · have c71 : ¬ (n ≤ i) := mt (nI_leI (a := n) (b := i) (by omega) (by omega)).mpr c71
              obtain ⟨to, hto⟩ : ∃ to, to = whS (u.2.1 6) i := ⟨_, rfl⟩
              have hto16 : to < 16 := by rw [hto]; exact (hwi i (by omega)).1
              obtain ⟨m, hm⟩ : ∃ m, m = mtS (u.2.1 6) (u.2.1 21) (u.2.1 22) (u.2.1 23) (u.2.1 20) n t to := ⟨_, rfl⟩
              have hm64 : m < 2 ^ n := by rw [hm]; exact orT_lt _ _
              refine lv_aload_n hx hb dX0_turnIsLaid_74 rfl (lv_at hl 0 rfl) ?_
              refine lv_iconst (v := 2) hx hb dX0_turnIsLaid_75 (by decide) ?_
              refine lv_iload_n hx hb dX0_turnIsLaid_76 rfl (lv_at hl 3 rfl) ?_
              refine lv_imul hx hb dX0_turnIsLaid_77 ?_
              refine W_top (pk_mul 2 i) ?_
              refine CIs.go (rcV hC hl (c_X0_fed G l o R tx (gE u (u.1 8) g) (2 * i) (by first | assumption | omega | rfl | (simp_all; done))) hK (PwGd.toS hP) (va_recv hK.1 hP clX0 (oGd_main _ _ _ _ _)) q1084 q1086 qs35 q110 q1087 mdX0_fed (room_s hRm rfl) rfl rfl dX0_turnIsLaid_78) ?_
              refine W_top (y := (nI (ocN (u.2.1 6) (2 * i)))) (by simp only [gE_g6]) ?_
              refine W_top (y := (nI to)) (by rw [hto]; rfl) ?_
              refine lv_istore (lv' := [(4, .int (nI to)), (0, .ref o), (1, .int (nI n)), (2, .int (nI t)), (3, .int (nI i))]) hx hb dX0_turnIsLaid_81 hl (by decide) rfl (fun ls hl => ?_)
              refine lv_aload_n hx hb dX0_turnIsLaid_83 rfl (lv_at hl 1 rfl) ?_
              refine lv_iload_n hx hb dX0_turnIsLaid_84 rfl (lv_at hl 2 rfl) ?_
              refine lv_iload hx hb dX0_turnIsLaid_85 (lv_at hl 0 rfl) ?_
              refine lv_iload_n hx hb dX0_turnIsLaid_87 rfl (lv_at hl 3 rfl) ?_
              refine CIs.go (rcV hC hl (c_X0_metBy G l o R tx (gE u (u.1 8) g) n to t (hto16) (hn) (hwi) (by first | assumption | omega | rfl | (simp_all; done)) (by first | assumption | omega | rfl | (simp_all; done))) hK (PwGd.toS hP) (va_recv hK.1 hP clX0 (oGd_main _ _ _ _ _)) q1093 q1095 qs37 q110 q1096 mdX0_metBy (room_s hRm rfl) rfl rfl dX0_turnIsLaid_88) ?_
              refine W_top (y := (nI (mtS (u.2.1 6) (u.2.1 21) (u.2.1 22) (u.2.1 23) (u.2.1 20) n t to))) (by simp only [gE_g20, gE_g21, gE_g22, gE_g23, gE_g6]) ?_
              refine W_top (y := (nI m)) (by rw [hm]) ?_
              refine lv_istore (lv' := [(5, .int (nI m)), (4, .int (nI to)), (0, .ref o), (1, .int (nI n)), (2, .int (nI t)), (3, .int (nI i))]) hx hb dX0_turnIsLaid_91 hl (by decide) rfl (fun ls hl => ?_)
              refine lv_iconst (v := 0) hx hb dX0_turnIsLaid_93 (by decide) ?_
              refine lv_istore (lv' := [(6, .int 0), (5, .int (nI m)), (4, .int (nI to)), (0, .ref o), (1, .int (nI n)), (2, .int (nI t)), (3, .int (nI i))]) hx hb dX0_turnIsLaid_94 hl (by decide) rfl (fun ls hl => ?_)
              have LP96 : ∀ (fu96 : Nat) (s : Nat) (g : Nat → Nat → Int32) (H : Heap) (locs : List Loc) (ls : Array Slot), 2 ^ n - s < fu96 → s ≤ 2 ^ n → grd 0 64 (17 * 2 ^ n) g T → grd 128 192 (17 * 2 ^ n) g (chMS T to m (layS T (whS (u.2.1 6)) (fun i => mtS (u.2.1 6) (u.2.1 21) (u.2.1 22) (u.2.1 23) (u.2.1 20) n t ((whS (u.2.1 6)) i)) (2 ^ n) i) s) → PwGd G o R tx (gE u (u.1 8) g) H → va_S (AwGd o R) sg.heap H locs → lv_has ls 8 [(0, .ref o), (1, .int (nI n)), (2, .int (nI t)), (3, .int (nI i)), (4, .int (nI to)), (5, .int (nI m)), (6, .int (nI s))] → W pg l en Rm sg mm ar bw mth cd H locs 0 0 QQ (F0 mm 96 ls []) := by
                intro fu96
                induction fu96 with
                | zero => intro s g H locs ls hm96 hs hg6 hg7 hP hS hl; exact absurd hm96 (Nat.not_lt_zero _)
                | succ fu96 ih96 =>
                  intro s g H locs ls hm96 hs hg6 hg7 hP hS hl
                  refine lv_iload hx hb dX0_turnIsLaid_96 (lv_at hl 6 rfl) ?_
                  refine lv_iconst (v := 1) hx hb dX0_turnIsLaid_98 (by decide) ?_
                  refine lv_iload_n hx hb dX0_turnIsLaid_99 rfl (lv_at hl 1 rfl) ?_
                  refine lv_ishl hx hb dX0_turnIsLaid_100 ?_
                  refine W_top (y := (nI (2 ^ n))) (shl1 n (by omega)) ?_
                  refine lv_icmp_ge (tgt := 204) hx hb dX0_turnIsLaid_101 (by decide) (fun c101 => ?_) (fun c101 => ?_)
                  · have c101 : (2 ^ n) ≤ s := (nI_leI (a := (2 ^ n)) (b := s) (by omega) (by omega)).mp c101
                    refine lv_iinc (v := (nI (i + 1))) (lv' := [(3, .int (nI (i + 1))), (0, .ref o), (1, .int (nI n)), (2, .int (nI t)), (4, .int (nI to)), (5, .int (nI m)), (6, .int (nI s))]) hx hb dX0_turnIsLaid_204 hl (k := 3) rfl (nI_inc i) (by decide) rfl (fun ls hl => ?_)
                    refine lv_goto (tgt := 69) hx hb dX0_turnIsLaid_207 (by decide) ?_
                    exact ih69 (i + 1) g _ _ ls (by omega) (by first | omega | assumption | rfl | (simp_all; done) | grind) (hg6) (by have e : s = 2 ^ n := (by omega); rw [e, hm, hto] at hg7; exact hg7) hP hS (lv_sub hl [1, 2, 3, 0] rfl)
                  · have c101 : ¬ ((2 ^ n) ≤ s) := mt (nI_leI (a := (2 ^ n)) (b := s) (by omega) (by omega)).mpr c101
                    refine lv_iconst (v := 0) hx hb dX0_turnIsLaid_104 (by decide) ?_
                    refine lv_istore (lv' := [(7, .int 0), (0, .ref o), (1, .int (nI n)), (2, .int (nI t)), (3, .int (nI i)), (4, .int (nI to)), (5, .int (nI m)), (6, .int (nI s))]) hx hb dX0_turnIsLaid_105 hl (by decide) rfl (fun ls hl => ?_)
                    have LP107 : ∀ (fu107 : Nat) (h : Nat) (g : Nat → Nat → Int32) (H : Heap) (locs : List Loc) (ls : Array Slot), 17 - h < fu107 → h ≤ 17 → grd 0 64 (17 * 2 ^ n) g T → grd 128 192 (17 * 2 ^ n) g (chLS T to m s (chMS T to m (layS T (whS (u.2.1 6)) (fun i => mtS (u.2.1 6) (u.2.1 21) (u.2.1 22) (u.2.1 23) (u.2.1 20) n t ((whS (u.2.1 6)) i)) (2 ^ n) i) s) h) → PwGd G o R tx (gE u (u.1 8) g) H → va_S (AwGd o R) sg.heap H locs → lv_has ls 8 [(0, .ref o), (1, .int (nI n)), (2, .int (nI t)), (3, .int (nI i)), (4, .int (nI to)), (5, .int (nI m)), (6, .int (nI s)), (7, .int (nI h))] → W pg l en Rm sg mm ar bw mth cd H locs 0 0 QQ (F0 mm 107 ls []) := by
                      intro fu107
                      induction fu107 with
                      | zero => intro h g H locs ls hm107 hh hg8 hg9 hP hS hl; exact absurd hm107 (Nat.not_lt_zero _)
                      | succ fu107 ih107 =>
                        intro h g H locs ls hm107 hh hg8 hg9 hP hS hl
                        have hTb := hT (17 * s + h)
                        refine lv_iload hx hb dX0_turnIsLaid_107 (lv_at hl 7 rfl) ?_
                        refine lv_bipush (v := 16) hx hb dX0_turnIsLaid_109 (by decide) ?_
                        refine lv_icmp_gt (tgt := 198) hx hb dX0_turnIsLaid_111 (by decide) (fun c111 => ?_) (fun c111 => ?_)
                        · have c111 : 16 < h := (nI_ltI (a := 16) (b := h) (by omega) (by omega)).mp c111
                          refine lv_iinc (v := (nI (s + 1))) (lv' := [(6, .int (nI (s + 1))), (0, .ref o), (1, .int (nI n)), (2, .int (nI t)), (3, .int (nI i)), (4, .int (nI to)), (5, .int (nI m)), (7, .int (nI h))]) hx hb dX0_turnIsLaid_198 hl (k := 6) rfl (nI_inc s) (by decide) rfl (fun ls hl => ?_)
                          refine lv_goto (tgt := 96) hx hb dX0_turnIsLaid_201 (by decide) ?_
                          exact ih96 (s + 1) g _ _ ls (by omega) (by first | omega | assumption | rfl | (simp_all; done) | grind) (hg8) (by have e : h = 17 := (by omega); subst e; exact hg9) hP hS (lv_sub hl [1, 2, 3, 4, 5, 6, 0] rfl)
                        · have c111 : ¬ (16 < h) := mt (nI_ltI (a := 16) (b := h) (by omega) (by omega)).mpr c111
                          refine lv_aload_n hx hb dX0_turnIsLaid_114 rfl (lv_at hl 0 rfl) ?_
                          refine S_get hC hK hP (oGd_main _ _ _ _ _) clX0 in_X0 10 (by decide) (fD10 _ _ _ _) q307 dX0_turnIsLaid_115 ?_
                          refine lv_iload hx hb dX0_turnIsLaid_118 (lv_at hl 6 rfl) ?_
                          refine S_aldA hC hK hP (aGd10 _ _ _ _ _) (j := s) (b := R (1000 + (0 + s))) rfl (by decide) (rfl) (by omega) dX0_turnIsLaid_120 ?_
                          refine lv_iload hx hb dX0_turnIsLaid_121 (lv_at hl 7 rfl) ?_
                          refine S_ald hC hK hP (aGr (i := (0 + s)) _ _ _ _ _ (by omega) (rwG_17 (by omega))) (j := h) (by decide) (rfl) (by omega) dX0_turnIsLaid_123 ?_
                          refine W_top (y := (g (0 + s) h)) (congrFun (gE_r _ _ _ _) _) ?_
                          refine W_top (y := (nI (T (17 * s + h) / 32))) ((hg8 s h (by omega) (by omega)).1) ?_
                          refine lv_ldc (own := RX0) (v := 268435456) hx hb ho (hts _ q1088) dX0_turnIsLaid_124 ?_
                          refine lv_icmp_ge (tgt := 192) hx hb dX0_turnIsLaid_126 (by decide) (fun c126 => ?_) (fun c126 => ?_)
                          · have c126 : 268435456 ≤ (T (17 * s + h) / 32) := (nI_leI (a := 268435456) (b := (T (17 * s + h) / 32)) (by omega) (by omega)).mp c126
                            refine lv_iinc (v := (nI (h + 1))) (lv' := [(7, .int (nI (h + 1))), (0, .ref o), (1, .int (nI n)), (2, .int (nI t)), (3, .int (nI i)), (4, .int (nI to)), (5, .int (nI m)), (6, .int (nI s))]) hx hb dX0_turnIsLaid_192 hl (k := 7) rfl (nI_inc h) (by decide) rfl (fun ls hl => ?_)
                            refine lv_goto (tgt := 107) hx hb dX0_turnIsLaid_195 (by decide) ?_
                            exact ih107 (h + 1) g _ _ ls (by omega) (by first | omega | assumption | rfl | (simp_all; done) | grind) (by first | exact hg8 | exact bettG_o (by omega) hg8) (by first | (rw [chLS_f (Nat.not_lt.mpr c126)]; exact hg9) | (rw [chLS_t hlt, show thenS to h (T (17 * s + h)) = 32 * (T (17 * s + h) / 32) + to by unfold thenS; rw [if_pos c151, if_pos c151, Nat.add_zero]]; exact grd_b (by omega) (by omega) (by omega) (by omega) hg9) | (rw [chLS_t hlt, show thenS to h (T (17 * s + h)) = 32 * (T (17 * s + h) / 32 + absN h to) + T (17 * s + h) % 32 by unfold thenS; rw [if_neg c151, if_neg c151]]; exact grd_b (by omega) (by omega) (by omega) (by omega) hg9)) hP hS (lv_sub hl [1, 2, 3, 4, 5, 6, 7, 0] rfl)
                          · have c126 : ¬ (268435456 ≤ (T (17 * s + h) / 32)) := mt (nI_leI (a := 268435456) (b := (T (17 * s + h) / 32)) (by omega) (by omega)).mpr c126
                            have hsm : s ||| m < 2 ^ n := Nat.or_lt_two_pow (by omega) hm64
                            have hab := absN_le (a := h) (b := to) (by omega) (by omega)
                            have hlt := Nat.not_le.mp c126
                            have hcl : (chLS T to m s (chMS T to m (layS T (whS (u.2.1 6)) (fun i => mtS (u.2.1 6) (u.2.1 21) (u.2.1 22) (u.2.1 23) (u.2.1 20) n t ((whS (u.2.1 6)) i)) (2 ^ n) i) s) h) (17 * (s ||| m) + to) ≤ 8589934608 := chLS_le (fun i => chMS_le (fun i => layS_le hT _ i) _ i) _ _
                            have hg9x := hg9 (s ||| m) to (by omega) (by omega)
                            refine lv_aload_n hx hb dX0_turnIsLaid_129 rfl (lv_at hl 0 rfl) ?_
                            refine lv_iload hx hb dX0_turnIsLaid_130 (lv_at hl 6 rfl) ?_
                            refine lv_iload hx hb dX0_turnIsLaid_132 (lv_at hl 5 rfl) ?_
                            refine lv_ior hx hb dX0_turnIsLaid_134 ?_
                            refine W_top (y := (nI (s ||| m))) (nI_or _ _) ?_
                            refine lv_iload hx hb dX0_turnIsLaid_135 (lv_at hl 4 rfl) ?_
                            refine lv_aload_n hx hb dX0_turnIsLaid_137 rfl (lv_at hl 0 rfl) ?_
                            refine S_get hC hK hP (oGd_main _ _ _ _ _) clX0 in_X0 10 (by decide) (fD10 _ _ _ _) q307 dX0_turnIsLaid_138 ?_
                            refine lv_iload hx hb dX0_turnIsLaid_141 (lv_at hl 6 rfl) ?_
                            refine S_aldA hC hK hP (aGd10 _ _ _ _ _) (j := s) (b := R (1000 + (0 + s))) rfl (by decide) (rfl) (by omega) dX0_turnIsLaid_143 ?_
                            refine lv_iload hx hb dX0_turnIsLaid_144 (lv_at hl 7 rfl) ?_
                            refine S_ald hC hK hP (aGr (i := (0 + s)) _ _ _ _ _ (by omega) (rwG_17 (by omega))) (j := h) (by decide) (rfl) (by omega) dX0_turnIsLaid_146 ?_
                            refine W_top (y := (g (0 + s) h)) (congrFun (gE_r _ _ _ _) _) ?_
                            refine W_top (y := (nI (T (17 * s + h) / 32))) ((hg8 s h (by omega) (by omega)).1) ?_
                            refine lv_iload hx hb dX0_turnIsLaid_147 (lv_at hl 7 rfl) ?_
                            refine lv_bipush (v := 16) hx hb dX0_turnIsLaid_149 (by decide) ?_
                            refine lv_icmp_ne (tgt := 158) hx hb dX0_turnIsLaid_151 (by decide) (fun c151 => ?_) (fun c151 => ?_)
                            · have c151 : ¬ (h = 16) := mt (nI_eq (a := h) (b := 16) (by omega) (by omega)).mpr c151
                              refine lv_iload hx hb dX0_turnIsLaid_158 (lv_at hl 7 rfl) ?_
                              refine lv_iload hx hb dX0_turnIsLaid_160 (lv_at hl 4 rfl) ?_
                              refine lv_isub hx hb dX0_turnIsLaid_162 ?_
                              refine S_abs hC hl q1026 q916 q120 q917 (room_m hRm rfl) rfl dX0_turnIsLaid_163 ?_
                              refine W_top (y := (nI (absN h to))) (abI_nI (by omega) (by omega)) ?_
                              refine lv_iadd hx hb dX0_turnIsLaid_166 ?_
                              refine W_top (nI_add (T (17 * s + h) / 32) (absN h to)) ?_
                              refine lv_iload hx hb dX0_turnIsLaid_167 (lv_at hl 7 rfl) ?_
                              refine lv_bipush (v := 16) hx hb dX0_turnIsLaid_169 (by decide) ?_
                              refine lv_icmp_ne (tgt := 179) hx hb dX0_turnIsLaid_171 (by decide) (fun c171 => ?_) (fun c171 => ?_)
                              · have c171 : ¬ (h = 16) := mt (nI_eq (a := h) (b := 16) (by omega) (by omega)).mpr c171
                                refine lv_aload_n hx hb dX0_turnIsLaid_179 rfl (lv_at hl 0 rfl) ?_
                                refine S_get hC hK hP (oGd_main _ _ _ _ _) clX0 in_X0 11 (by decide) (fD11 _ _ _ _) q308 dX0_turnIsLaid_180 ?_
                                refine lv_iload hx hb dX0_turnIsLaid_183 (lv_at hl 6 rfl) ?_
                                refine S_aldA hC hK hP (aGd11 _ _ _ _ _) (j := s) (b := R (1000 + (64 + s))) rfl (by decide) (rfl) (by omega) dX0_turnIsLaid_185 ?_
                                refine lv_iload hx hb dX0_turnIsLaid_186 (lv_at hl 7 rfl) ?_
                                refine S_ald hC hK hP (aGr (i := (64 + s)) _ _ _ _ _ (by omega) (rwG_17 (by omega))) (j := h) (by decide) (rfl) (by omega) dX0_turnIsLaid_188 ?_
                                refine W_top (y := (g (64 + s) h)) (congrFun (gE_r _ _ _ _) _) ?_
                                refine W_top (y := (nI (T (17 * s + h) % 32))) ((hg8 s h (by omega) (by omega)).2) ?_
                                refine CXv.go (rcV hC hl (c_X0_betters G l o R tx (gE u (u.1 8) g) (s ||| m) to ((T (17 * s + h) / 32) + (absN h to)) (T (17 * s + h) % 32) ((chLS T to m s (chMS T to m (layS T (whS (u.2.1 6)) (fun i => mtS (u.2.1 6) (u.2.1 21) (u.2.1 22) (u.2.1 23) (u.2.1 20) n t ((whS (u.2.1 6)) i)) (2 ^ n) i) s) h) (17 * (s ||| m) + to) / 32) ((chLS T to m s (chMS T to m (layS T (whS (u.2.1 6)) (fun i => mtS (u.2.1 6) (u.2.1 21) (u.2.1 22) (u.2.1 23) (u.2.1 20) n t ((whS (u.2.1 6)) i)) (2 ^ n) i) s) h) (17 * (s ||| m) + to) % 32) (by first | assumption | omega | rfl | (simp_all; done)) (by first | assumption | omega | rfl | (simp_all; done)) (by first | assumption | omega | rfl | (simp_all; done)) (by first | assumption | omega | rfl | (simp_all; done)) (by first | assumption | omega | rfl | (simp_all; done)) (by first | assumption | omega | rfl | (simp_all; done)) (by rw [gE_rw]; exact hg9x.1) (by rw [gE_rw]; exact hg9x.2) hD) hK hP (va_recv hK.1 hP clX0 (oGd_main _ _ _ _ _)) q1097 q1099 qs38 q110 q1100 mdX0_betters (room_s hRm rfl) rfl rfl dX0_turnIsLaid_189) hS (fun q h => h) (fun w189 H locs hpo hP _ _ hS => ?_)
                                have ew189 := hpo
                                rw [ew189] at hP
                                rw [gE_again] at hP
                                simp only [gE_f8, gE_rw] at hP
                                refine lv_iinc (v := (nI (h + 1))) (lv' := [(7, .int (nI (h + 1))), (0, .ref o), (1, .int (nI n)), (2, .int (nI t)), (3, .int (nI i)), (4, .int (nI to)), (5, .int (nI m)), (6, .int (nI s))]) hx hb dX0_turnIsLaid_192 hl (k := 7) rfl (nI_inc h) (by decide) rfl (fun ls hl => ?_)
                                refine lv_goto (tgt := 107) hx hb dX0_turnIsLaid_195 (by decide) ?_
                                exact ih107 (h + 1) (bettG g (s ||| m) to ((T (17 * s + h) / 32) + (absN h to)) (T (17 * s + h) % 32) ((chLS T to m s (chMS T to m (layS T (whS (u.2.1 6)) (fun i => mtS (u.2.1 6) (u.2.1 21) (u.2.1 22) (u.2.1 23) (u.2.1 20) n t ((whS (u.2.1 6)) i)) (2 ^ n) i) s) h) (17 * (s ||| m) + to) / 32) ((chLS T to m s (chMS T to m (layS T (whS (u.2.1 6)) (fun i => mtS (u.2.1 6) (u.2.1 21) (u.2.1 22) (u.2.1 23) (u.2.1 20) n t ((whS (u.2.1 6)) i)) (2 ^ n) i) s) h) (17 * (s ||| m) + to) % 32)) _ _ ls (by omega) (by first | omega | assumption | rfl | (simp_all; done) | grind) (by first | exact hg8 | exact bettG_o (by omega) hg8) (by first | (rw [chLS_f (Nat.not_lt.mpr c126)]; exact hg9) | (rw [chLS_t hlt, show thenS to h (T (17 * s + h)) = 32 * (T (17 * s + h) / 32) + to by unfold thenS; rw [if_pos c151, if_pos c151, Nat.add_zero]]; exact grd_b (by omega) (by omega) (by omega) (by omega) hg9) | (rw [chLS_t hlt, show thenS to h (T (17 * s + h)) = 32 * (T (17 * s + h) / 32 + absN h to) + T (17 * s + h) % 32 by unfold thenS; rw [if_neg c151, if_neg c151]]; exact grd_b (by omega) (by omega) (by omega) (by omega) hg9)) hP hS (lv_sub hl [1, 2, 3, 4, 5, 6, 7, 0] rfl)
                              · have c171 : h = 16 := (nI_eq (a := h) (b := 16) (by omega) (by omega)).mp c171
                                exact absurd c171 c151
                            · have c151 : h = 16 := (nI_eq (a := h) (b := 16) (by omega) (by omega)).mp c151
                              refine lv_iconst (v := 0) hx hb dX0_turnIsLaid_154 (by decide) ?_
                              refine lv_goto (tgt := 166) hx hb dX0_turnIsLaid_155 (by decide) ?_
                              refine lv_iadd hx hb dX0_turnIsLaid_166 ?_
                              refine W_top (y := (nI (T (17 * s + h) / 32))) (add0 _) ?_
                              refine lv_iload hx hb dX0_turnIsLaid_167 (lv_at hl 7 rfl) ?_
                              refine lv_bipush (v := 16) hx hb dX0_turnIsLaid_169 (by decide) ?_
                              refine lv_icmp_ne (tgt := 179) hx hb dX0_turnIsLaid_171 (by decide) (fun c171 => ?_) (fun c171 => ?_)
                              · have c171 : ¬ (h = 16) := mt (nI_eq (a := h) (b := 16) (by omega) (by omega)).mpr c171
                                exact absurd c151 c171
                              · have c171 : h = 16 := (nI_eq (a := h) (b := 16) (by omega) (by omega)).mp c171
                                refine lv_iload hx hb dX0_turnIsLaid_174 (lv_at hl 4 rfl) ?_
                                refine lv_goto (tgt := 189) hx hb dX0_turnIsLaid_176 (by decide) ?_
                                refine CXv.go (rcV hC hl (c_X0_betters G l o R tx (gE u (u.1 8) g) (s ||| m) to (T (17 * s + h) / 32) to ((chLS T to m s (chMS T to m (layS T (whS (u.2.1 6)) (fun i => mtS (u.2.1 6) (u.2.1 21) (u.2.1 22) (u.2.1 23) (u.2.1 20) n t ((whS (u.2.1 6)) i)) (2 ^ n) i) s) h) (17 * (s ||| m) + to) / 32) ((chLS T to m s (chMS T to m (layS T (whS (u.2.1 6)) (fun i => mtS (u.2.1 6) (u.2.1 21) (u.2.1 22) (u.2.1 23) (u.2.1 20) n t ((whS (u.2.1 6)) i)) (2 ^ n) i) s) h) (17 * (s ||| m) + to) % 32) (by first | assumption | omega | rfl | (simp_all; done)) (by first | assumption | omega | rfl | (simp_all; done)) (by first | assumption | omega | rfl | (simp_all; done)) (by first | assumption | omega | rfl | (simp_all; done)) (by first | assumption | omega | rfl | (simp_all; done)) (by first | assumption | omega | rfl | (simp_all; done)) (by rw [gE_rw]; exact hg9x.1) (by rw [gE_rw]; exact hg9x.2) hD) hK hP (va_recv hK.1 hP clX0 (oGd_main _ _ _ _ _)) q1097 q1099 qs38 q110 q1100 mdX0_betters (room_s hRm rfl) rfl rfl dX0_turnIsLaid_189) hS (fun q h => h) (fun w189 H locs hpo hP _ _ hS => ?_)
                                have ew189 := hpo
                                rw [ew189] at hP
                                rw [gE_again] at hP
                                simp only [gE_f8, gE_rw] at hP
                                refine lv_iinc (v := (nI (h + 1))) (lv' := [(7, .int (nI (h + 1))), (0, .ref o), (1, .int (nI n)), (2, .int (nI t)), (3, .int (nI i)), (4, .int (nI to)), (5, .int (nI m)), (6, .int (nI s))]) hx hb dX0_turnIsLaid_192 hl (k := 7) rfl (nI_inc h) (by decide) rfl (fun ls hl => ?_)
                                refine lv_goto (tgt := 107) hx hb dX0_turnIsLaid_195 (by decide) ?_
                                exact ih107 (h + 1) (bettG g (s ||| m) to (T (17 * s + h) / 32) to ((chLS T to m s (chMS T to m (layS T (whS (u.2.1 6)) (fun i => mtS (u.2.1 6) (u.2.1 21) (u.2.1 22) (u.2.1 23) (u.2.1 20) n t ((whS (u.2.1 6)) i)) (2 ^ n) i) s) h) (17 * (s ||| m) + to) / 32) ((chLS T to m s (chMS T to m (layS T (whS (u.2.1 6)) (fun i => mtS (u.2.1 6) (u.2.1 21) (u.2.1 22) (u.2.1 23) (u.2.1 20) n t ((whS (u.2.1 6)) i)) (2 ^ n) i) s) h) (17 * (s ||| m) + to) % 32)) _ _ ls (by omega) (by first | omega | assumption | rfl | (simp_all; done) | grind) (by first | exact hg8 | exact bettG_o (by omega) hg8) (by first | (rw [chLS_f (Nat.not_lt.mpr c126)]; exact hg9) | (rw [chLS_t hlt, show thenS to h (T (17 * s + h)) = 32 * (T (17 * s + h) / 32) + to by unfold thenS; rw [if_pos c151, if_pos c151, Nat.add_zero]]; exact grd_b (by omega) (by omega) (by omega) (by omega) hg9) | (rw [chLS_t hlt, show thenS to h (T (17 * s + h)) = 32 * (T (17 * s + h) / 32 + absN h to) + T (17 * s + h) % 32 by unfold thenS; rw [if_neg c151, if_neg c151]]; exact grd_b (by omega) (by omega) (by omega) (by omega) hg9)) hP hS (lv_sub hl [1, 2, 3, 4, 5, 6, 7, 0] rfl)
                    exact LP107 _ 0 g _ _ ls (Nat.lt_succ_self _) (by first | omega | assumption | rfl | (simp_all; done) | grind) (hg6) (hg7) hP hS (lv_sub hl [1, 2, 3, 4, 5, 6, 7, 0] rfl)
              exact LP96 _ 0 g _ _ ls (Nat.lt_succ_self _) (by first | omega | assumption | rfl | (simp_all; done) | grind) (hg4) (hg5) hP hS (lv_sub hl [3, 4, 5, 6, 2, 1, 0] rfl)
        exact LP69 _ 0 g _ _ ls (Nat.lt_succ_self _) (by first | omega | assumption | rfl | (simp_all; done) | grind) (hg0) (by have e : s = 2 ^ n := (by omega); rw [e] at hg1; exact hg1) hP hS (lv_sub hl [1, 2, 3, 0] rfl)
      · have c6 : ¬ ((2 ^ n) ≤ s) := mt (nI_leI (a := (2 ^ n)) (b := s) (by omega) (by omega)).mpr c6
        refine lv_iconst (v := 0) hx hb dX0_turnIsLaid_9 (by decide) ?_
        refine lv_istore (lv' := [(4, .int 0), (0, .ref o), (1, .int (nI n)), (2, .int (nI t)), (3, .int (nI s))]) hx hb dX0_turnIsLaid_10 hl (by decide) rfl (fun ls hl => ?_)
        have LP12 : ∀ (fu12 : Nat) (h : Nat) (g : Nat → Nat → Int32) (H : Heap) (locs : List Loc) (ls : Array Slot), 17 - h < fu12 → h ≤ 17 → grd 0 64 (17 * 2 ^ n) g T → grd 128 192 (17 * s + h) g T → PwGd G o R tx (gE u (u.1 8) g) H → va_S (AwGd o R) sg.heap H locs → lv_has ls 8 [(0, .ref o), (1, .int (nI n)), (2, .int (nI t)), (3, .int (nI s)), (4, .int (nI h))] → W pg l en Rm sg mm ar bw mth cd H locs 0 0 QQ (F0 mm 12 ls []) := by
          intro fu12
          induction fu12 with
          | zero => intro h g H locs ls hm12 hh hg2 hg3 hP hS hl; exact absurd hm12 (Nat.not_lt_zero _)
          | succ fu12 ih12 =>
            intro h g H locs ls hm12 hh hg2 hg3 hP hS hl
            refine lv_iload hx hb dX0_turnIsLaid_12 (lv_at hl 4 rfl) ?_
            refine lv_bipush (v := 16) hx hb dX0_turnIsLaid_14 (by decide) ?_
            refine lv_icmp_gt (tgt := 61) hx hb dX0_turnIsLaid_16 (by decide) (fun c16 => ?_) (fun c16 => ?_)
            · have c16 : 16 < h := (nI_ltI (a := 16) (b := h) (by omega) (by omega)).mp c16
              refine lv_iinc (v := (nI (s + 1))) (lv' := [(3, .int (nI (s + 1))), (0, .ref o), (1, .int (nI n)), (2, .int (nI t)), (4, .int (nI h))]) hx hb dX0_turnIsLaid_61 hl (k := 3) rfl (nI_inc s) (by decide) rfl (fun ls hl => ?_)
              refine lv_goto (tgt := 2) hx hb dX0_turnIsLaid_64 (by decide) ?_
              exact ih2 (s + 1) g _ _ ls (by omega) (by first | omega | assumption | rfl | (simp_all; done) | grind) (hg2) (by have e : h = 17 := (by omega); subst e; exact hg3) hP hS (lv_sub hl [1, 2, 3, 0] rfl)
            · have c16 : ¬ (16 < h) := mt (nI_ltI (a := 16) (b := h) (by omega) (by omega)).mpr c16
              refine lv_aload_n hx hb dX0_turnIsLaid_19 rfl (lv_at hl 0 rfl) ?_
              refine S_get hC hK hP (oGd_main _ _ _ _ _) clX0 in_X0 12 (by decide) (fD12 _ _ _ _) q309 dX0_turnIsLaid_20 ?_
              refine lv_iload_n hx hb dX0_turnIsLaid_23 rfl (lv_at hl 3 rfl) ?_
              refine S_aldA hC hK hP (aGd12 _ _ _ _ _) (j := s) (b := R (1000 + (128 + s))) rfl (by decide) (rfl) (by omega) dX0_turnIsLaid_24 ?_
              refine lv_iload hx hb dX0_turnIsLaid_25 (lv_at hl 4 rfl) ?_
              refine lv_aload_n hx hb dX0_turnIsLaid_27 rfl (lv_at hl 0 rfl) ?_
              refine S_get hC hK hP (oGd_main _ _ _ _ _) clX0 in_X0 10 (by decide) (fD10 _ _ _ _) q307 dX0_turnIsLaid_28 ?_
              refine lv_iload_n hx hb dX0_turnIsLaid_31 rfl (lv_at hl 3 rfl) ?_
              refine S_aldA hC hK hP (aGd10 _ _ _ _ _) (j := s) (b := R (1000 + (0 + s))) rfl (by decide) (rfl) (by omega) dX0_turnIsLaid_32 ?_
              refine lv_iload hx hb dX0_turnIsLaid_33 (lv_at hl 4 rfl) ?_
              refine S_ald hC hK hP (aGr (i := (0 + s)) _ _ _ _ _ (by omega) (rwG_17 (by omega))) (j := h) (by decide) (rfl) (by omega) dX0_turnIsLaid_35 ?_
              refine W_top (y := (g (0 + s) h)) (congrFun (gE_r _ _ _ _) _) ?_
              refine W_top (y := (nI (T (17 * s + h) / 32))) ((hg2 s h (by omega) (by omega)).1) ?_
              refine S_ast hC hK hP (hD _ _ _) hS (aGr (i := (128 + s)) _ _ _ _ _ (by omega) (rwG_17 (by omega))) (bGr (i := (128 + s)) _ _ _ _ _ _ _ (rwG_17 (by omega))) (j := h) (by decide) (rfl) (by omega) dX0_turnIsLaid_36 (fun H locs hP hS => ?_)
              rw [gE_W] at hP
              refine lv_aload_n hx hb dX0_turnIsLaid_37 rfl (lv_at hl 0 rfl) ?_
              refine S_get hC hK hP (oGd_main _ _ _ _ _) clX0 in_X0 13 (by decide) (fD13 _ _ _ _) q310 dX0_turnIsLaid_38 ?_
              refine lv_iload_n hx hb dX0_turnIsLaid_41 rfl (lv_at hl 3 rfl) ?_
              refine S_aldA hC hK hP (aGd13 _ _ _ _ _) (j := s) (b := R (1000 + (192 + s))) rfl (by decide) (rfl) (by omega) dX0_turnIsLaid_42 ?_
              refine lv_iload hx hb dX0_turnIsLaid_43 (lv_at hl 4 rfl) ?_
              refine lv_aload_n hx hb dX0_turnIsLaid_45 rfl (lv_at hl 0 rfl) ?_
              refine S_get hC hK hP (oGd_main _ _ _ _ _) clX0 in_X0 11 (by decide) (fD11 _ _ _ _) q308 dX0_turnIsLaid_46 ?_
              refine lv_iload_n hx hb dX0_turnIsLaid_49 rfl (lv_at hl 3 rfl) ?_
              refine S_aldA hC hK hP (aGd11 _ _ _ _ _) (j := s) (b := R (1000 + (64 + s))) rfl (by decide) (rfl) (by omega) dX0_turnIsLaid_50 ?_
              refine lv_iload hx hb dX0_turnIsLaid_51 (lv_at hl 4 rfl) ?_
              refine S_ald hC hK hP (aGr (i := (64 + s)) _ _ _ _ _ (by omega) (rwG_17 (by omega))) (j := h) (by decide) (rfl) (by omega) dX0_turnIsLaid_53 ?_
              refine W_top (y := ((upd2 g (128 + s) h (nI (T (17 * s + h) / 32))) (64 + s) h)) (congrFun (gE_r _ _ _ _) _) ?_
              refine W_top (y := (nI (T (17 * s + h) % 32))) ((upd2_o (by omega)).trans (hg2 s h (by omega) (by omega)).2) ?_
              refine S_ast hC hK hP (hD _ _ _) hS (aGr (i := (192 + s)) _ _ _ _ _ (by omega) (rwG_17 (by omega))) (bGr (i := (192 + s)) _ _ _ _ _ _ _ (rwG_17 (by omega))) (j := h) (by decide) (rfl) (by omega) dX0_turnIsLaid_54 (fun H locs hP hS => ?_)
              rw [gE_W] at hP
              refine lv_iinc (v := (nI (h + 1))) (lv' := [(4, .int (nI (h + 1))), (0, .ref o), (1, .int (nI n)), (2, .int (nI t)), (3, .int (nI s))]) hx hb dX0_turnIsLaid_55 hl (k := 4) rfl (nI_inc h) (by decide) rfl (fun ls hl => ?_)
              refine lv_goto (tgt := 12) hx hb dX0_turnIsLaid_58 (by decide) ?_
              exact ih12 (h + 1) (upd2 (upd2 g (128 + s) h (nI (T (17 * s + h) / 32))) (192 + s) h (nI (T (17 * s + h) % 32))) _ _ ls (by omega) (by first | omega | assumption | rfl | (simp_all; done) | grind) (grd_o (fun s' q => by omega) (grd_o (fun s' q => by omega) hg2)) (grd_n (by decide) rfl (by omega) (by omega) hg3 rfl rfl) hP hS (lv_sub hl [1, 2, 3, 4, 0] rfl)
        exact LP12 _ 0 g _ _ ls (Nat.lt_succ_self _) (by first | omega | assumption | rfl | (simp_all; done) | grind) (hg0) (hg1) hP hS (lv_sub hl [1, 2, 3, 4, 0] rfl)
  exact LP2 _ 0 (rwsU u) _ _ ls (Nat.lt_succ_self _) (by first | omega | assumption | rfl | (simp_all; done) | grind) (hg) (grd_0 _ _ _ _) hP hS (lv_sub hl [1, 2, 3, 0] rfl)
set_option maxHeartbeats 4000000 in
theorem c_X0_shortest (G : GG) (l : Launch) (o : Nat) (R : Nat → Nat) (tx : Nat) (u : MS) (n0 : Int32) (k0 : Int32) (hsd : PB (u.2.1 21)) (hfc : PB (u.2.1 20)) (hD : DwGd o R) : CXi G l (PwGd G o R tx) (AwGd o R) yX0_shortest cX0_shortest 6 .int 7 147 0 0 [.ref o, .int n0, .int k0] (PwGd G o R tx u) (fun r w => ∃ g : Nat → Nat → Int32, r = (shortI (u.1 24) (u.1 25) (u.2.1 6) (u.2.1 21) (u.2.1 22) (u.2.1 23) (u.2.1 20) (u.1 8) n0 k0) ∧ w = (if crackG1 (u.1 8) n0 k0 = true then gE u 0 g else u)) := by
  refine CXi.mk RX0 pnX0 rfl (Nat.le_of_ble_eq_true rfl) (fun pg en Rm sg mm ar bw mth cd QQ ls hC hRm hK hX hS hl hq => ?_)
  have hx := hC.1; have hb := hC.2.1; have ho := hC.2.2.2.1; have hts := hC.2.2.2.2
  have hP : PwGd G o R tx u sg.heap := hX
  have hl : lv_has ls 6 [(0, .ref o), (1, .int n0), (2, .int k0)] := hl
  have hP : PwGd G o R tx (gE u (u.1 8) (rwsU u)) sg.heap := by rw [gE_self]; exact hP
  refine lv_iload_n hx hb dX0_shortest_0 rfl (lv_at hl 1 rfl) ?_
  refine lv_iconst (v := 1) hx hb dX0_shortest_1 (by decide) ?_
  refine lv_bipush (v := 6) hx hb dX0_shortest_2 (by decide) ?_
  refine CIs.go (rcS hC hl (c_X0_within G l n0 1 6 ) hK trivial q385 q386 q110 q387 mdX0_within (room_s hRm rfl) rfl rfl dX0_shortest_4) ?_
  refine lv_if_eq (tgt := 28) hx hb dX0_shortest_7 (by decide) (fun c7 => ?_) (fun c7 => ?_)
  · have c7 : (inB n0 1 6) = false := bI_0.mp c7
    refine lv_iconst (v := (-1)) hx hb dX0_shortest_28 (by decide) ?_
    exact hq _ _ _ _ _ _ _ _ dX0_shortest_29 hP hS (rfl) (by exact ⟨rwsU u, by first | (simp [shortI, crackG1, c7]; done) | (simp [shortI, crackG1, c7, c15]; done) | (simp [shortI, crackG1, c7, c15, c25]; done), by rw [if_neg (by first | (simp [crackG1, c7]; done) | (simp [crackG1, c7, c15]; done) | (simp [crackG1, c7, c15, c25]; done))]; exact (gE_self u)⟩) (by decide) (by decide)
  · have c7 : (inB n0 1 6) = true := bI_1.mp c7
    obtain ⟨n, hn1, hn, rfl, hnx⟩ := inB_nI2 1 6 (by decide) (by decide) c7
    have hl : lv_has ls 6 [(0, .ref o), (1, .int (nI n)), (2, .int k0)] := hl
    have hn1 : 1 ≤ n := by omega
    have hp2 : 2 ^ n ≤ 64 := Nat.pow_le_pow_right (n := 2) (by decide) (show n ≤ 6 by omega)
    have hp3 := Nat.two_pow_pos n
    refine lv_iload_n hx hb dX0_shortest_10 rfl (lv_at hl 2 rfl) ?_
    refine lv_iconst (v := 2) hx hb dX0_shortest_11 (by decide) ?_
    refine CIs.go (rcS hC hl (c_X0_in G l k0 2 1 (by decide)) hK trivial q366 q367 q110 q368 mdX0_in (room_s hRm rfl) rfl rfl dX0_shortest_12) ?_
    refine lv_if_eq (tgt := 28) hx hb dX0_shortest_15 (by decide) (fun c15 => ?_) (fun c15 => ?_)
    · have c15 : (inB k0 0 1) = false := bI_0.mp c15
      refine lv_iconst (v := (-1)) hx hb dX0_shortest_28 (by decide) ?_
      exact hq _ _ _ _ _ _ _ _ dX0_shortest_29 hP hS (rfl) (by exact ⟨rwsU u, by first | (simp [shortI, crackG1, c7]; done) | (simp [shortI, crackG1, c7, c15]; done) | (simp [shortI, crackG1, c7, c15, c25]; done), by rw [if_neg (by first | (simp [crackG1, c7]; done) | (simp [crackG1, c7, c15]; done) | (simp [crackG1, c7, c15, c25]; done))]; exact (gE_self u)⟩) (by decide) (by decide)
    · have c15 : (inB k0 0 1) = true := bI_1.mp c15
      refine lv_iconst (v := 2) hx hb dX0_shortest_18 (by decide) ?_
      refine lv_iload_n hx hb dX0_shortest_19 rfl (lv_at hl 1 rfl) ?_
      refine lv_imul hx hb dX0_shortest_20 ?_
      refine lv_aload_n hx hb dX0_shortest_21 rfl (lv_at hl 0 rfl) ?_
      refine S_get hC hK hP (oGd_main _ _ _ _ _) clX0 in_X0 8 (by decide) (fD8 _ _ _ _) q305 dX0_shortest_22 ?_
      refine W_top (y := (u.1 8)) (by rw [gE_f8]) ?_
      refine lv_icmp_le (tgt := 30) hx hb dX0_shortest_25 (by decide) (fun c25 => ?_) (fun c25 => ?_)
      · refine lv_aload_n hx hb dX0_shortest_30 rfl (lv_at hl 0 rfl) ?_
        refine lv_iconst (v := 0) hx hb dX0_shortest_31 (by decide) ?_
        refine S_put hC hK hP (hD _ _ _) hS (oGd_main _ _ _ _ _) clX0 in_X0 tyX0_ok nmX0 8 (by decide) (pGd8 _ _ _ _ _ _) q305 rfl rfl rfl rfl (Nat.le_of_ble_eq_true rfl) dX0_shortest_32 (fun H locs hP hS => ?_)
        rw [gE_V8] at hP
        refine lv_iconst (v := 0) hx hb dX0_shortest_35 (by decide) ?_
        refine lv_istore_n (lv' := [(3, .int 0), (0, .ref o), (1, .int (nI n)), (2, .int k0)]) hx hb dX0_shortest_36 rfl hl (by decide) rfl (fun ls hl => ?_)
        have LP37 : ∀ (fu37 : Nat) (k : Nat) (ls : Array Slot), n - k < fu37 → k ≤ n → allC (wishC (u.1 24) (u.1 25) (u.2.1 6)) k = true → lv_has ls 6 [(0, .ref o), (1, .int (nI n)), (2, .int k0), (3, .int (nI k))] → W pg l en Rm sg mm ar bw mth cd H locs 0 0 QQ (F0 mm 37 ls []) := by
          intro fu37
          induction fu37 with
          | zero => intro k ls hm37 hk ha hl; exact absurd hm37 (Nat.not_lt_zero _)
          | succ fu37 ih37 =>
            intro k ls hm37 hk ha hl
            refine lv_iload_n hx hb dX0_shortest_37 rfl (lv_at hl 3 rfl) ?_
            refine lv_iload_n hx hb dX0_shortest_38 rfl (lv_at hl 1 rfl) ?_
            refine lv_icmp_ge (tgt := 87) hx hb dX0_shortest_39 (by decide) (fun c39 => ?_) (fun c39 => ?_)
            · have c39 : n ≤ k := (nI_leI (a := n) (b := k) (by first | omega | exact ocN_b _ _) (by first | omega | exact ocN_b _ _)).mp c39
              have hal : allC (wishC (u.1 24) (u.1 25) (u.2.1 6)) n = true := by rw [← show k = n by omega]; exact ha
              refine lv_iconst (v := 0) hx hb dX0_shortest_87 (by decide) ?_
              refine lv_istore_n (lv' := [(3, .int 0), (0, .ref o), (1, .int (nI n)), (2, .int k0)]) hx hb dX0_shortest_88 rfl hl (by decide) rfl (fun ls hl => ?_)
              have LP89 : ∀ (fu89 : Nat) (s : Nat) (g : Nat → Nat → Int32) (H : Heap) (locs : List Loc) (ls : Array Slot), 2 ^ n - s < fu89 → s ≤ 2 ^ n → grd 0 64 (17 * s) g (tabS (whS (u.2.1 6)) (mtS (u.2.1 6) (u.2.1 21) (u.2.1 22) (u.2.1 23) (u.2.1 20) n) n 0) → PwGd G o R tx (gE u 0 g) H → va_S (AwGd o R) sg.heap H locs → lv_has ls 6 [(0, .ref o), (1, .int (nI n)), (2, .int k0), (3, .int (nI s))] → W pg l en Rm sg mm ar bw mth cd H locs 0 0 QQ (F0 mm 89 ls []) := by
                intro fu89
                induction fu89 with
                | zero => intro s g H locs ls hm89 hs hg1 hP hS hl; exact absurd hm89 (Nat.not_lt_zero _)
                | succ fu89 ih89 =>
                  intro s g H locs ls hm89 hs hg1 hP hS hl
                  refine lv_iload_n hx hb dX0_shortest_89 rfl (lv_at hl 3 rfl) ?_
                  refine lv_iconst (v := 1) hx hb dX0_shortest_90 (by decide) ?_
                  refine lv_iload_n hx hb dX0_shortest_91 rfl (lv_at hl 1 rfl) ?_
                  refine lv_ishl hx hb dX0_shortest_92 ?_
                  refine W_top (y := (nI (2 ^ n))) (shl1 n (by omega)) ?_
                  refine lv_icmp_ge (tgt := 155) hx hb dX0_shortest_93 (by decide) (fun c93 => ?_) (fun c93 => ?_)
                  · have c93 : (2 ^ n) ≤ s := (nI_leI (a := (2 ^ n)) (b := s) (by first | omega | exact ocN_b _ _) (by first | omega | exact ocN_b _ _)).mp c93
                    refine lv_iconst (v := 0) hx hb dX0_shortest_155 (by decide) ?_
                    refine lv_istore_n (lv' := [(3, .int 0), (0, .ref o), (1, .int (nI n)), (2, .int k0)]) hx hb dX0_shortest_156 rfl hl (by decide) rfl (fun ls hl => ?_)
                    have LP157 : ∀ (fu157 : Nat) (t : Nat) (g : Nat → Nat → Int32) (H : Heap) (locs : List Loc) (ls : Array Slot), 12 - t < fu157 → t ≤ 12 → grd 0 64 (17 * 2 ^ n) g (tabS (whS (u.2.1 6)) (mtS (u.2.1 6) (u.2.1 21) (u.2.1 22) (u.2.1 23) (u.2.1 20) n) n t) → PwGd G o R tx (gE u 0 g) H → va_S (AwGd o R) sg.heap H locs → lv_has ls 6 [(0, .ref o), (1, .int (nI n)), (2, .int k0), (3, .int (nI t))] → W pg l en Rm sg mm ar bw mth cd H locs 0 0 QQ (F0 mm 157 ls []) := by
                      intro fu157
                      induction fu157 with
                      | zero => intro t g H locs ls hm157 ht hg4 hP hS hl; exact absurd hm157 (Nat.not_lt_zero _)
                      | succ fu157 ih157 =>
                        intro t g H locs ls hm157 ht hg4 hP hS hl
                        refine lv_iload_n hx hb dX0_shortest_157 rfl (lv_at hl 3 rfl) ?_
                        refine lv_bipush (v := 12) hx hb dX0_shortest_158 (by decide) ?_
                        refine lv_icmp_ge (tgt := 175) hx hb dX0_shortest_160 (by decide) (fun c160 => ?_) (fun c160 => ?_)
                        · have c160 : 12 ≤ t := (nI_leI (a := 12) (b := t) (by first | omega | exact ocN_b _ _) (by first | omega | exact ocN_b _ _)).mp c160
                          have e12 : t = 12 := by omega
                          subst e12
                          obtain ⟨al, hal2⟩ : ∃ al, al = 2 ^ n - 1 := ⟨_, rfl⟩
                          refine lv_iconst (v := 1) hx hb dX0_shortest_175 (by decide) ?_
                          refine lv_iload_n hx hb dX0_shortest_176 rfl (lv_at hl 1 rfl) ?_
                          refine lv_ishl hx hb dX0_shortest_177 ?_
                          refine W_top (y := (nI (2 ^ n))) (shl1 n (by omega)) ?_
                          refine lv_iconst (v := 1) hx hb dX0_shortest_178 (by decide) ?_
                          refine lv_isub hx hb dX0_shortest_179 ?_
                          refine W_top (y := (nI al)) (by rw [hal2]; exact pk_sub (a := 2 ^ n) (b := 1) (by omega)) ?_
                          refine lv_istore_n (lv' := [(3, .int (nI al)), (0, .ref o), (1, .int (nI n)), (2, .int k0)]) hx hb dX0_shortest_180 rfl hl (by decide) rfl (fun ls hl => ?_)
                          refine lv_bipush (v := 16) hx hb dX0_shortest_181 (by decide) ?_
                          refine lv_istore (lv' := [(4, .int 16), (3, .int (nI al)), (0, .ref o), (1, .int (nI n)), (2, .int k0)]) hx hb dX0_shortest_183 hl (by decide) rfl (fun ls hl => ?_)
                          refine lv_iconst (v := 0) hx hb dX0_shortest_185 (by decide) ?_
                          refine lv_istore (lv' := [(5, .int 0), (4, .int 16), (3, .int (nI al)), (0, .ref o), (1, .int (nI n)), (2, .int k0)]) hx hb dX0_shortest_186 hl (by decide) rfl (fun ls hl => ?_)
                          have LP188 : ∀ (fu188 : Nat) (h : Nat) (b : Nat) (ls : Array Slot), 16 - h < fu188 → h ≤ 16 → b ≤ 16 → b = bestS (tabS (whS (u.2.1 6)) (mtS (u.2.1 6) (u.2.1 21) (u.2.1 22) (u.2.1 23) (u.2.1 20) n) n 12) al h → lv_has ls 6 [(0, .ref o), (1, .int (nI n)), (2, .int k0), (3, .int (nI al)), (4, .int (nI b)), (5, .int (nI h))] → W pg l en Rm sg mm ar bw mth cd H locs 0 0 QQ (F0 mm 188 ls []) := by
                            intro fu188
                            induction fu188 with
                            | zero => intro h b ls hm188 hh hb8 hb9 hl; exact absurd hm188 (Nat.not_lt_zero _)
                            | succ fu188 ih188 =>
                              intro h b ls hm188 hh hb8 hb9 hl
                              have hT1 : (tabS (whS (u.2.1 6)) (mtS (u.2.1 6) (u.2.1 21) (u.2.1 22) (u.2.1 23) (u.2.1 20) n) n 12) (17 * al + h) ≤ 8589934608 := tabS_le _ _ _ _ _
                              have hT2 : (tabS (whS (u.2.1 6)) (mtS (u.2.1 6) (u.2.1 21) (u.2.1 22) (u.2.1 23) (u.2.1 20) n) n 12) (17 * al + b) ≤ 8589934608 := tabS_le _ _ _ _ _
                              refine lv_iload hx hb dX0_shortest_188 (lv_at hl 5 rfl) ?_
                              refine lv_bipush (v := 16) hx hb dX0_shortest_190 (by decide) ?_
                              refine lv_icmp_ge (tgt := 268) hx hb dX0_shortest_192 (by decide) (fun c192 => ?_) (fun c192 => ?_)
                              · have c192 : 16 ≤ h := (nI_leI (a := 16) (b := h) (by first | omega | exact ocN_b _ _) (by first | omega | exact ocN_b _ _)).mp c192
                                obtain ⟨V, hV⟩ : ∃ V, V = (tabS (whS (u.2.1 6)) (mtS (u.2.1 6) (u.2.1 21) (u.2.1 22) (u.2.1 23) (u.2.1 20) n) n 12) (17 * al + b) := ⟨_, rfl⟩
                                have hVb : V ≤ 8589934608 := by rw [hV]; exact tabS_le _ _ _ _ _
                                have hb16 : b = bestS (tabS (whS (u.2.1 6)) (mtS (u.2.1 6) (u.2.1 21) (u.2.1 22) (u.2.1 23) (u.2.1 20) n) n 12) (2 ^ n - 1) 16 := by rw [← hal2, ← show h = 16 by omega]; exact hb9
                                have hsq := shortS_eq (hs := (u.1 24)) (met := (mtS (u.2.1 6) (u.2.1 21) (u.2.1 22) (u.2.1 23) (u.2.1 20) n)) (wh := (whS (u.2.1 6))) hn1 (fun j hj => (wishS hal hj).1) (fun t h q => mtS_ne q)
                                rw [← hb16, ← hal2, ← hV] at hsq
                                obtain ⟨sv, hsv⟩ : ∃ sv, shortV (u.1 24) (mtS (u.2.1 6) (u.2.1 21) (u.2.1 22) (u.2.1 23) (u.2.1 20) n) n = sv := ⟨_, rfl⟩
                                rw [hsv] at hsq
                                have hsv2 : shortV (u.1 24) (fun t h => orT (metC (u.2.1 6) (u.2.1 21) (u.2.1 22) (u.2.1 23) (u.2.1 20) h (nI t)) (ix (nI n))) (ix (nI n)) = sv := by rw [hnx]; exact hsv
                                have hal3 : allC (wishC (u.1 24) (u.1 25) (u.2.1 6)) (ix (nI n)) = true := by rw [hnx]; exact hal
                                have hF1 : FARN = 100000000 := rfl
                                have hF2 : FARS = 268435456 := rfl
                                refine lv_aload_n hx hb dX0_shortest_268 rfl (lv_at hl 0 rfl) ?_
                                refine S_get hC hK hP (oGd_main _ _ _ _ _) clX0 in_X0 10 (by decide) (fD10 _ _ _ _) q307 dX0_shortest_269 ?_
                                refine lv_iload_n hx hb dX0_shortest_272 rfl (lv_at hl 3 rfl) ?_
                                refine S_aldA hC hK hP (aGd10 _ _ _ _ _) (j := al) (b := R (1000 + (0 + al))) rfl (by decide) (rfl) (by omega) dX0_shortest_273 ?_
                                refine lv_iload hx hb dX0_shortest_274 (lv_at hl 4 rfl) ?_
                                refine S_ald hC hK hP (aGr (i := (0 + al)) _ _ _ _ _ (by omega) (rwG_17 (by omega))) (j := b) (by decide) (rfl) (by omega) dX0_shortest_276 ?_
                                refine W_top (y := (g (0 + al) b)) (congrFun (gE_r _ _ _ _) _) ?_
                                refine W_top (y := (nI (V / 32))) (by rw [hV]; exact (hg4 al b (by omega) (by omega)).1) ?_
                                refine lv_ldc (own := RX0) (v := 268435456) hx hb ho (hts _ q1088) dX0_shortest_277 ?_
                                refine lv_icmp_lt (tgt := 287) hx hb dX0_shortest_279 (by decide) (fun c279 => ?_) (fun c279 => ?_)
                                · have c279 : (V / 32) < 268435456 := (nI_ltI (a := (V / 32)) (b := 268435456) (by first | omega | exact ocN_b _ _) (by first | omega | exact ocN_b _ _)).mp c279
                                  refine lv_iload_n hx hb dX0_shortest_287 rfl (lv_at hl 2 rfl) ?_
                                  refine lv_if_ne (tgt := 303) hx hb dX0_shortest_288 (by decide) (fun c288 => ?_) (fun c288 => ?_)
                                  · refine lv_aload_n hx hb dX0_shortest_303 rfl (lv_at hl 0 rfl) ?_
                                    refine S_get hC hK hP (oGd_main _ _ _ _ _) clX0 in_X0 11 (by decide) (fD11 _ _ _ _) q308 dX0_shortest_304 ?_
                                    refine lv_iload_n hx hb dX0_shortest_307 rfl (lv_at hl 3 rfl) ?_
                                    refine S_aldA hC hK hP (aGd11 _ _ _ _ _) (j := al) (b := R (1000 + (64 + al))) rfl (by decide) (rfl) (by omega) dX0_shortest_308 ?_
                                    refine lv_iload hx hb dX0_shortest_309 (lv_at hl 4 rfl) ?_
                                    refine S_ald hC hK hP (aGr (i := (64 + al)) _ _ _ _ _ (by omega) (rwG_17 (by omega))) (j := b) (by decide) (rfl) (by omega) dX0_shortest_311 ?_
                                    refine W_top (y := (g (64 + al) b)) (congrFun (gE_r _ _ _ _) _) ?_
                                    refine W_top (y := (nI (V % 32))) (by rw [hV]; exact (hg4 al b (by omega) (by omega)).2) ?_
                                    exact hq _ _ _ _ _ _ _ _ dX0_shortest_312 hP hS (rfl) (by have hg : crackG1 (u.1 8) (nI n) k0 = true := (by simp [crackG1, c7, c15, c25]); exact ⟨g, by first | exact (shortI_1 hg hal3 hsv2 (by omega)).symm | exact ((show nI (V / 32) = nI (sv / 32) by rw [show V = sv by omega]).trans (shortI_2 hg hal3 hsv2 (by omega) c288).symm) | exact ((show nI (V % 32) = nI (sv % 32) by rw [show V = sv by omega]).trans (shortI_3 hg hal3 hsv2 (by omega) c288).symm), by rw [if_pos hg]⟩) (by decide) (by decide)
                                  · refine lv_aload_n hx hb dX0_shortest_291 rfl (lv_at hl 0 rfl) ?_
                                    refine S_get hC hK hP (oGd_main _ _ _ _ _) clX0 in_X0 10 (by decide) (fD10 _ _ _ _) q307 dX0_shortest_292 ?_
                                    refine lv_iload_n hx hb dX0_shortest_295 rfl (lv_at hl 3 rfl) ?_
                                    refine S_aldA hC hK hP (aGd10 _ _ _ _ _) (j := al) (b := R (1000 + (0 + al))) rfl (by decide) (rfl) (by omega) dX0_shortest_296 ?_
                                    refine lv_iload hx hb dX0_shortest_297 (lv_at hl 4 rfl) ?_
                                    refine S_ald hC hK hP (aGr (i := (0 + al)) _ _ _ _ _ (by omega) (rwG_17 (by omega))) (j := b) (by decide) (rfl) (by omega) dX0_shortest_299 ?_
                                    refine W_top (y := (g (0 + al) b)) (congrFun (gE_r _ _ _ _) _) ?_
                                    refine W_top (y := (nI (V / 32))) (by rw [hV]; exact (hg4 al b (by omega) (by omega)).1) ?_
                                    refine lv_goto (tgt := 312) hx hb dX0_shortest_300 (by decide) ?_
                                    exact hq _ _ _ _ _ _ _ _ dX0_shortest_312 hP hS (rfl) (by have hg : crackG1 (u.1 8) (nI n) k0 = true := (by simp [crackG1, c7, c15, c25]); exact ⟨g, by first | exact (shortI_1 hg hal3 hsv2 (by omega)).symm | exact ((show nI (V / 32) = nI (sv / 32) by rw [show V = sv by omega]).trans (shortI_2 hg hal3 hsv2 (by omega) c288).symm) | exact ((show nI (V % 32) = nI (sv % 32) by rw [show V = sv by omega]).trans (shortI_3 hg hal3 hsv2 (by omega) c288).symm), by rw [if_pos hg]⟩) (by decide) (by decide)
                                · have c279 : ¬ ((V / 32) < 268435456) := mt (nI_ltI (a := (V / 32)) (b := 268435456) (by first | omega | exact ocN_b _ _) (by first | omega | exact ocN_b _ _)).mpr c279
                                  refine lv_bipush (v := (-2)) hx hb dX0_shortest_282 (by decide) ?_
                                  refine lv_goto (tgt := 312) hx hb dX0_shortest_284 (by decide) ?_
                                  exact hq _ _ _ _ _ _ _ _ dX0_shortest_312 hP hS (rfl) (by have hg : crackG1 (u.1 8) (nI n) k0 = true := (by simp [crackG1, c7, c15, c25]); exact ⟨g, by first | exact (shortI_1 hg hal3 hsv2 (by omega)).symm | exact ((show nI (V / 32) = nI (sv / 32) by rw [show V = sv by omega]).trans (shortI_2 hg hal3 hsv2 (by omega) c288).symm) | exact ((show nI (V % 32) = nI (sv % 32) by rw [show V = sv by omega]).trans (shortI_3 hg hal3 hsv2 (by omega) c288).symm), by rw [if_pos hg]⟩) (by decide) (by decide)
                              · have c192 : ¬ (16 ≤ h) := mt (nI_leI (a := 16) (b := h) (by first | omega | exact ocN_b _ _) (by first | omega | exact ocN_b _ _)).mpr c192
                                refine lv_aload_n hx hb dX0_shortest_195 rfl (lv_at hl 0 rfl) ?_
                                refine S_get hC hK hP (oGd_main _ _ _ _ _) clX0 in_X0 10 (by decide) (fD10 _ _ _ _) q307 dX0_shortest_196 ?_
                                refine lv_iload_n hx hb dX0_shortest_199 rfl (lv_at hl 3 rfl) ?_
                                refine S_aldA hC hK hP (aGd10 _ _ _ _ _) (j := al) (b := R (1000 + (0 + al))) rfl (by decide) (rfl) (by omega) dX0_shortest_200 ?_
                                refine lv_iload hx hb dX0_shortest_201 (lv_at hl 5 rfl) ?_
                                refine S_ald hC hK hP (aGr (i := (0 + al)) _ _ _ _ _ (by omega) (rwG_17 (by omega))) (j := h) (by decide) (rfl) (by omega) dX0_shortest_203 ?_
                                refine W_top (y := (g (0 + al) h)) (congrFun (gE_r _ _ _ _) _) ?_
                                refine W_top (y := (nI ((tabS (whS (u.2.1 6)) (mtS (u.2.1 6) (u.2.1 21) (u.2.1 22) (u.2.1 23) (u.2.1 20) n) n 12) (17 * al + h) / 32))) ((hg4 al h (by omega) (by omega)).1) ?_
                                refine lv_aload_n hx hb dX0_shortest_204 rfl (lv_at hl 0 rfl) ?_
                                refine S_get hC hK hP (oGd_main _ _ _ _ _) clX0 in_X0 10 (by decide) (fD10 _ _ _ _) q307 dX0_shortest_205 ?_
                                refine lv_iload_n hx hb dX0_shortest_208 rfl (lv_at hl 3 rfl) ?_
                                refine S_aldA hC hK hP (aGd10 _ _ _ _ _) (j := al) (b := R (1000 + (0 + al))) rfl (by decide) (rfl) (by omega) dX0_shortest_209 ?_
                                refine lv_iload hx hb dX0_shortest_210 (lv_at hl 4 rfl) ?_
                                refine S_ald hC hK hP (aGr (i := (0 + al)) _ _ _ _ _ (by omega) (rwG_17 (by omega))) (j := b) (by decide) (rfl) (by omega) dX0_shortest_212 ?_
                                refine W_top (y := (g (0 + al) b)) (congrFun (gE_r _ _ _ _) _) ?_
                                refine W_top (y := (nI ((tabS (whS (u.2.1 6)) (mtS (u.2.1 6) (u.2.1 21) (u.2.1 22) (u.2.1 23) (u.2.1 20) n) n 12) (17 * al + b) / 32))) ((hg4 al b (by omega) (by omega)).1) ?_
                                refine lv_icmp_lt (tgt := 258) hx hb dX0_shortest_213 (by decide) (fun c213 => ?_) (fun c213 => ?_)
                                · have c213 : ((tabS (whS (u.2.1 6)) (mtS (u.2.1 6) (u.2.1 21) (u.2.1 22) (u.2.1 23) (u.2.1 20) n) n 12) (17 * al + h) / 32) < ((tabS (whS (u.2.1 6)) (mtS (u.2.1 6) (u.2.1 21) (u.2.1 22) (u.2.1 23) (u.2.1 20) n) n 12) (17 * al + b) / 32) := (nI_ltI (a := ((tabS (whS (u.2.1 6)) (mtS (u.2.1 6) (u.2.1 21) (u.2.1 22) (u.2.1 23) (u.2.1 20) n) n 12) (17 * al + h) / 32)) (b := ((tabS (whS (u.2.1 6)) (mtS (u.2.1 6) (u.2.1 21) (u.2.1 22) (u.2.1 23) (u.2.1 20) n) n 12) (17 * al + b) / 32)) (by first | omega | exact ocN_b _ _) (by first | omega | exact ocN_b _ _)).mp c213
                                  refine lv_iload hx hb dX0_shortest_258 (lv_at hl 5 rfl) ?_
                                  refine lv_istore (lv' := [(4, .int (nI h)), (0, .ref o), (1, .int (nI n)), (2, .int k0), (3, .int (nI al)), (5, .int (nI h))]) hx hb dX0_shortest_260 hl (by decide) rfl (fun ls hl => ?_)
                                  refine lv_iinc (v := (nI (h + 1))) (lv' := [(5, .int (nI (h + 1))), (4, .int (nI h)), (0, .ref o), (1, .int (nI n)), (2, .int k0), (3, .int (nI al))]) hx hb dX0_shortest_262 hl (k := 5) rfl (nI_inc h) (by decide) rfl (fun ls hl => ?_)
                                  refine lv_goto (tgt := 188) hx hb dX0_shortest_265 (by decide) ?_
                                  exact ih188 (h + 1) h ls (by omega) (by first | omega | assumption | rfl | (simp_all; done) | grind) (by first | omega | assumption | rfl | (simp_all; done) | grind) (by first | exact bestS_t hb9 (by omega) | exact bestS_f hb9 (by omega))  (lv_sub hl [2, 3, 4, 5, 1, 0] rfl)
                                · have c213 : ¬ (((tabS (whS (u.2.1 6)) (mtS (u.2.1 6) (u.2.1 21) (u.2.1 22) (u.2.1 23) (u.2.1 20) n) n 12) (17 * al + h) / 32) < ((tabS (whS (u.2.1 6)) (mtS (u.2.1 6) (u.2.1 21) (u.2.1 22) (u.2.1 23) (u.2.1 20) n) n 12) (17 * al + b) / 32)) := mt (nI_ltI (a := ((tabS (whS (u.2.1 6)) (mtS (u.2.1 6) (u.2.1 21) (u.2.1 22) (u.2.1 23) (u.2.1 20) n) n 12) (17 * al + h) / 32)) (b := ((tabS (whS (u.2.1 6)) (mtS (u.2.1 6) (u.2.1 21) (u.2.1 22) (u.2.1 23) (u.2.1 20) n) n 12) (17 * al + b) / 32)) (by first | omega | exact ocN_b _ _) (by first | omega | exact ocN_b _ _)).mpr c213
                                  refine lv_aload_n hx hb dX0_shortest_216 rfl (lv_at hl 0 rfl) ?_
                                  refine S_get hC hK hP (oGd_main _ _ _ _ _) clX0 in_X0 10 (by decide) (fD10 _ _ _ _) q307 dX0_shortest_217 ?_
                                  refine lv_iload_n hx hb dX0_shortest_220 rfl (lv_at hl 3 rfl) ?_
                                  refine S_aldA hC hK hP (aGd10 _ _ _ _ _) (j := al) (b := R (1000 + (0 + al))) rfl (by decide) (rfl) (by omega) dX0_shortest_221 ?_
                                  refine lv_iload hx hb dX0_shortest_222 (lv_at hl 5 rfl) ?_
                                  refine S_ald hC hK hP (aGr (i := (0 + al)) _ _ _ _ _ (by omega) (rwG_17 (by omega))) (j := h) (by decide) (rfl) (by omega) dX0_shortest_224 ?_
                                  refine W_top (y := (g (0 + al) h)) (congrFun (gE_r _ _ _ _) _) ?_
                                  refine W_top (y := (nI ((tabS (whS (u.2.1 6)) (mtS (u.2.1 6) (u.2.1 21) (u.2.1 22) (u.2.1 23) (u.2.1 20) n) n 12) (17 * al + h) / 32))) ((hg4 al h (by omega) (by omega)).1) ?_
                                  refine lv_aload_n hx hb dX0_shortest_225 rfl (lv_at hl 0 rfl) ?_
                                  refine S_get hC hK hP (oGd_main _ _ _ _ _) clX0 in_X0 10 (by decide) (fD10 _ _ _ _) q307 dX0_shortest_226 ?_
                                  refine lv_iload_n hx hb dX0_shortest_229 rfl (lv_at hl 3 rfl) ?_
                                  refine S_aldA hC hK hP (aGd10 _ _ _ _ _) (j := al) (b := R (1000 + (0 + al))) rfl (by decide) (rfl) (by omega) dX0_shortest_230 ?_
                                  refine lv_iload hx hb dX0_shortest_231 (lv_at hl 4 rfl) ?_
                                  refine S_ald hC hK hP (aGr (i := (0 + al)) _ _ _ _ _ (by omega) (rwG_17 (by omega))) (j := b) (by decide) (rfl) (by omega) dX0_shortest_233 ?_
                                  refine W_top (y := (g (0 + al) b)) (congrFun (gE_r _ _ _ _) _) ?_
                                  refine W_top (y := (nI ((tabS (whS (u.2.1 6)) (mtS (u.2.1 6) (u.2.1 21) (u.2.1 22) (u.2.1 23) (u.2.1 20) n) n 12) (17 * al + b) / 32))) ((hg4 al b (by omega) (by omega)).1) ?_
                                  refine lv_icmp_ne (tgt := 262) hx hb dX0_shortest_234 (by decide) (fun c234 => ?_) (fun c234 => ?_)
                                  · have c234 : ¬ (((tabS (whS (u.2.1 6)) (mtS (u.2.1 6) (u.2.1 21) (u.2.1 22) (u.2.1 23) (u.2.1 20) n) n 12) (17 * al + h) / 32) = ((tabS (whS (u.2.1 6)) (mtS (u.2.1 6) (u.2.1 21) (u.2.1 22) (u.2.1 23) (u.2.1 20) n) n 12) (17 * al + b) / 32)) := mt (nI_eq (a := ((tabS (whS (u.2.1 6)) (mtS (u.2.1 6) (u.2.1 21) (u.2.1 22) (u.2.1 23) (u.2.1 20) n) n 12) (17 * al + h) / 32)) (b := ((tabS (whS (u.2.1 6)) (mtS (u.2.1 6) (u.2.1 21) (u.2.1 22) (u.2.1 23) (u.2.1 20) n) n 12) (17 * al + b) / 32)) (by first | omega | exact ocN_b _ _) (by first | omega | exact ocN_b _ _)).mpr c234
                                    refine lv_iinc (v := (nI (h + 1))) (lv' := [(5, .int (nI (h + 1))), (0, .ref o), (1, .int (nI n)), (2, .int k0), (3, .int (nI al)), (4, .int (nI b))]) hx hb dX0_shortest_262 hl (k := 5) rfl (nI_inc h) (by decide) rfl (fun ls hl => ?_)
                                    refine lv_goto (tgt := 188) hx hb dX0_shortest_265 (by decide) ?_
                                    exact ih188 (h + 1) b ls (by omega) (by first | omega | assumption | rfl | (simp_all; done) | grind) (by first | omega | assumption | rfl | (simp_all; done) | grind) (by first | exact bestS_t hb9 (by omega) | exact bestS_f hb9 (by omega))  (lv_sub hl [1, 2, 3, 4, 5, 0] rfl)
                                  · have c234 : ((tabS (whS (u.2.1 6)) (mtS (u.2.1 6) (u.2.1 21) (u.2.1 22) (u.2.1 23) (u.2.1 20) n) n 12) (17 * al + h) / 32) = ((tabS (whS (u.2.1 6)) (mtS (u.2.1 6) (u.2.1 21) (u.2.1 22) (u.2.1 23) (u.2.1 20) n) n 12) (17 * al + b) / 32) := (nI_eq (a := ((tabS (whS (u.2.1 6)) (mtS (u.2.1 6) (u.2.1 21) (u.2.1 22) (u.2.1 23) (u.2.1 20) n) n 12) (17 * al + h) / 32)) (b := ((tabS (whS (u.2.1 6)) (mtS (u.2.1 6) (u.2.1 21) (u.2.1 22) (u.2.1 23) (u.2.1 20) n) n 12) (17 * al + b) / 32)) (by first | omega | exact ocN_b _ _) (by first | omega | exact ocN_b _ _)).mp c234
                                    refine lv_aload_n hx hb dX0_shortest_237 rfl (lv_at hl 0 rfl) ?_
                                    refine S_get hC hK hP (oGd_main _ _ _ _ _) clX0 in_X0 11 (by decide) (fD11 _ _ _ _) q308 dX0_shortest_238 ?_
                                    refine lv_iload_n hx hb dX0_shortest_241 rfl (lv_at hl 3 rfl) ?_
                                    refine S_aldA hC hK hP (aGd11 _ _ _ _ _) (j := al) (b := R (1000 + (64 + al))) rfl (by decide) (rfl) (by omega) dX0_shortest_242 ?_
                                    refine lv_iload hx hb dX0_shortest_243 (lv_at hl 5 rfl) ?_
                                    refine S_ald hC hK hP (aGr (i := (64 + al)) _ _ _ _ _ (by omega) (rwG_17 (by omega))) (j := h) (by decide) (rfl) (by omega) dX0_shortest_245 ?_
                                    refine W_top (y := (g (64 + al) h)) (congrFun (gE_r _ _ _ _) _) ?_
                                    refine W_top (y := (nI ((tabS (whS (u.2.1 6)) (mtS (u.2.1 6) (u.2.1 21) (u.2.1 22) (u.2.1 23) (u.2.1 20) n) n 12) (17 * al + h) % 32))) ((hg4 al h (by omega) (by omega)).2) ?_
                                    refine lv_aload_n hx hb dX0_shortest_246 rfl (lv_at hl 0 rfl) ?_
                                    refine S_get hC hK hP (oGd_main _ _ _ _ _) clX0 in_X0 11 (by decide) (fD11 _ _ _ _) q308 dX0_shortest_247 ?_
                                    refine lv_iload_n hx hb dX0_shortest_250 rfl (lv_at hl 3 rfl) ?_
                                    refine S_aldA hC hK hP (aGd11 _ _ _ _ _) (j := al) (b := R (1000 + (64 + al))) rfl (by decide) (rfl) (by omega) dX0_shortest_251 ?_
                                    refine lv_iload hx hb dX0_shortest_252 (lv_at hl 4 rfl) ?_
                                    refine S_ald hC hK hP (aGr (i := (64 + al)) _ _ _ _ _ (by omega) (rwG_17 (by omega))) (j := b) (by decide) (rfl) (by omega) dX0_shortest_254 ?_
                                    refine W_top (y := (g (64 + al) b)) (congrFun (gE_r _ _ _ _) _) ?_
                                    refine W_top (y := (nI ((tabS (whS (u.2.1 6)) (mtS (u.2.1 6) (u.2.1 21) (u.2.1 22) (u.2.1 23) (u.2.1 20) n) n 12) (17 * al + b) % 32))) ((hg4 al b (by omega) (by omega)).2) ?_
                                    refine lv_icmp_ge (tgt := 262) hx hb dX0_shortest_255 (by decide) (fun c255 => ?_) (fun c255 => ?_)
                                    · have c255 : ((tabS (whS (u.2.1 6)) (mtS (u.2.1 6) (u.2.1 21) (u.2.1 22) (u.2.1 23) (u.2.1 20) n) n 12) (17 * al + b) % 32) ≤ ((tabS (whS (u.2.1 6)) (mtS (u.2.1 6) (u.2.1 21) (u.2.1 22) (u.2.1 23) (u.2.1 20) n) n 12) (17 * al + h) % 32) := (nI_leI (a := ((tabS (whS (u.2.1 6)) (mtS (u.2.1 6) (u.2.1 21) (u.2.1 22) (u.2.1 23) (u.2.1 20) n) n 12) (17 * al + b) % 32)) (b := ((tabS (whS (u.2.1 6)) (mtS (u.2.1 6) (u.2.1 21) (u.2.1 22) (u.2.1 23) (u.2.1 20) n) n 12) (17 * al + h) % 32)) (by first | omega | exact ocN_b _ _) (by first | omega | exact ocN_b _ _)).mp c255
                                      refine lv_iinc (v := (nI (h + 1))) (lv' := [(5, .int (nI (h + 1))), (0, .ref o), (1, .int (nI n)), (2, .int k0), (3, .int (nI al)), (4, .int (nI b))]) hx hb dX0_shortest_262 hl (k := 5) rfl (nI_inc h) (by decide) rfl (fun ls hl => ?_)
                                      refine lv_goto (tgt := 188) hx hb dX0_shortest_265 (by decide) ?_
                                      exact ih188 (h + 1) b ls (by omega) (by first | omega | assumption | rfl | (simp_all; done) | grind) (by first | omega | assumption | rfl | (simp_all; done) | grind) (by first | exact bestS_t hb9 (by omega) | exact bestS_f hb9 (by omega))  (lv_sub hl [1, 2, 3, 4, 5, 0] rfl)
                                    · have c255 : ¬ (((tabS (whS (u.2.1 6)) (mtS (u.2.1 6) (u.2.1 21) (u.2.1 22) (u.2.1 23) (u.2.1 20) n) n 12) (17 * al + b) % 32) ≤ ((tabS (whS (u.2.1 6)) (mtS (u.2.1 6) (u.2.1 21) (u.2.1 22) (u.2.1 23) (u.2.1 20) n) n 12) (17 * al + h) % 32)) := mt (nI_leI (a := ((tabS (whS (u.2.1 6)) (mtS (u.2.1 6) (u.2.1 21) (u.2.1 22) (u.2.1 23) (u.2.1 20) n) n 12) (17 * al + b) % 32)) (b := ((tabS (whS (u.2.1 6)) (mtS (u.2.1 6) (u.2.1 21) (u.2.1 22) (u.2.1 23) (u.2.1 20) n) n 12) (17 * al + h) % 32)) (by first | omega | exact ocN_b _ _) (by first | omega | exact ocN_b _ _)).mpr c255
                                      refine lv_iload hx hb dX0_shortest_258 (lv_at hl 5 rfl) ?_
                                      refine lv_istore (lv' := [(4, .int (nI h)), (0, .ref o), (1, .int (nI n)), (2, .int k0), (3, .int (nI al)), (5, .int (nI h))]) hx hb dX0_shortest_260 hl (by decide) rfl (fun ls hl => ?_)
                                      refine lv_iinc (v := (nI (h + 1))) (lv' := [(5, .int (nI (h + 1))), (4, .int (nI h)), (0, .ref o), (1, .int (nI n)), (2, .int k0), (3, .int (nI al))]) hx hb dX0_shortest_262 hl (k := 5) rfl (nI_inc h) (by decide) rfl (fun ls hl => ?_)
                                      refine lv_goto (tgt := 188) hx hb dX0_shortest_265 (by decide) ?_
                                      exact ih188 (h + 1) h ls (by omega) (by first | omega | assumption | rfl | (simp_all; done) | grind) (by first | omega | assumption | rfl | (simp_all; done) | grind) (by first | exact bestS_t hb9 (by omega) | exact bestS_f hb9 (by omega))  (lv_sub hl [2, 3, 4, 5, 1, 0] rfl)
                          exact LP188 _ 0 16 ls (Nat.lt_succ_self _) (by first | omega | assumption | rfl | (simp_all; done) | grind) (by first | omega | assumption | rfl | (simp_all; done) | grind) (rfl)  (lv_sub hl [3, 4, 5, 2, 1, 0] rfl)
                        · have c160 : ¬ (12 ≤ t) := mt (nI_leI (a := 12) (b := t) (by first | omega | exact ocN_b _ _) (by first | omega | exact ocN_b _ _)).mpr c160
                          refine lv_aload_n hx hb dX0_shortest_163 rfl (lv_at hl 0 rfl) ?_
                          refine lv_iload_n hx hb dX0_shortest_164 rfl (lv_at hl 1 rfl) ?_
                          refine lv_iload_n hx hb dX0_shortest_165 rfl (lv_at hl 3 rfl) ?_
                          refine CXv.go (rcV hC hl (c_X0_turnIsLaid G l o R tx (gE u 0 g) n t (tabS (whS (u.2.1 6)) (mtS (u.2.1 6) (u.2.1 21) (u.2.1 22) (u.2.1 23) (u.2.1 20) n) n t) (hn1) (by omega) (by first | assumption | omega | rfl | (simp_all; done)) (fun j hj => ⟨(wishS hal hj).1.1, (wishS hal hj).2⟩) (fun i => tabS_le _ _ _ _ i) (by rw [gE_rw]; exact hg4) (by first | assumption | omega | rfl | (simp_all; done)) (by first | assumption | omega | rfl | (simp_all; done)) hD) hK hP (va_recv hK.1 hP clX0 (oGd_main _ _ _ _ _)) q1089 q1091 qs36 q110 q1092 mdX0_turnIsLaid (room_s hRm rfl) rfl rfl dX0_shortest_166) hS (fun q h => h) (fun w166 H locs hpo hP _ _ hS => ?_)
                          obtain ⟨g_1, f166_0, ew166⟩ := hpo
                          rw [ew166] at hP
                          rw [gE_again] at hP
                          simp only [gE_f8] at hP
                          refine lv_iinc (v := (nI (t + 1))) (lv' := [(3, .int (nI (t + 1))), (0, .ref o), (1, .int (nI n)), (2, .int k0)]) hx hb dX0_shortest_169 hl (k := 3) rfl (nI_inc t) (by decide) rfl (fun ls hl => ?_)
                          refine lv_goto (tgt := 157) hx hb dX0_shortest_172 (by decide) ?_
                          exact ih157 (t + 1) g_1 _ _ ls (by omega) (by first | omega | assumption | rfl | (simp_all; done) | grind) (f166_0) hP hS (lv_sub hl [1, 2, 3, 0] rfl)
                    exact LP157 _ 0 g _ _ ls (Nat.lt_succ_self _) (by first | omega | assumption | rfl | (simp_all; done) | grind) (by have e : s = 2 ^ n := (by omega); rw [e] at hg1; exact hg1) hP hS (lv_sub hl [1, 2, 3, 0] rfl)
                  · have c93 : ¬ ((2 ^ n) ≤ s) := mt (nI_leI (a := (2 ^ n)) (b := s) (by first | omega | exact ocN_b _ _) (by first | omega | exact ocN_b _ _)).mpr c93
                    refine lv_iconst (v := 0) hx hb dX0_shortest_96 (by decide) ?_
                    refine lv_istore (lv' := [(4, .int 0), (0, .ref o), (1, .int (nI n)), (2, .int k0), (3, .int (nI s))]) hx hb dX0_shortest_97 hl (by decide) rfl (fun ls hl => ?_)
                    have LP99 : ∀ (fu99 : Nat) (h : Nat) (g : Nat → Nat → Int32) (H : Heap) (locs : List Loc) (ls : Array Slot), 17 - h < fu99 → h ≤ 17 → grd 0 64 (17 * s + h) g (tabS (whS (u.2.1 6)) (mtS (u.2.1 6) (u.2.1 21) (u.2.1 22) (u.2.1 23) (u.2.1 20) n) n 0) → PwGd G o R tx (gE u 0 g) H → va_S (AwGd o R) sg.heap H locs → lv_has ls 6 [(0, .ref o), (1, .int (nI n)), (2, .int k0), (3, .int (nI s)), (4, .int (nI h))] → W pg l en Rm sg mm ar bw mth cd H locs 0 0 QQ (F0 mm 99 ls []) := by
                      intro fu99
                      induction fu99 with
                      | zero => intro h g H locs ls hm99 hh hg2 hP hS hl; exact absurd hm99 (Nat.not_lt_zero _)
                      | succ fu99 ih99 =>
                        intro h g H locs ls hm99 hh hg2 hP hS hl
                        refine lv_iload hx hb dX0_shortest_99 (lv_at hl 4 rfl) ?_
                        refine lv_bipush (v := 16) hx hb dX0_shortest_101 (by decide) ?_
                        refine lv_icmp_gt (tgt := 149) hx hb dX0_shortest_103 (by decide) (fun c103 => ?_) (fun c103 => ?_)
                        · have c103 : 16 < h := (nI_ltI (a := 16) (b := h) (by first | omega | exact ocN_b _ _) (by first | omega | exact ocN_b _ _)).mp c103
                          refine lv_iinc (v := (nI (s + 1))) (lv' := [(3, .int (nI (s + 1))), (0, .ref o), (1, .int (nI n)), (2, .int k0), (4, .int (nI h))]) hx hb dX0_shortest_149 hl (k := 3) rfl (nI_inc s) (by decide) rfl (fun ls hl => ?_)
                          refine lv_goto (tgt := 89) hx hb dX0_shortest_152 (by decide) ?_
                          exact ih89 (s + 1) g _ _ ls (by omega) (by first | omega | assumption | rfl | (simp_all; done) | grind) (by have e : h = 17 := (by omega); subst e; exact hg2) hP hS (lv_sub hl [1, 2, 3, 0] rfl)
                        · have c103 : ¬ (16 < h) := mt (nI_ltI (a := 16) (b := h) (by first | omega | exact ocN_b _ _) (by first | omega | exact ocN_b _ _)).mpr c103
                          refine lv_aload_n hx hb dX0_shortest_106 rfl (lv_at hl 0 rfl) ?_
                          refine S_get hC hK hP (oGd_main _ _ _ _ _) clX0 in_X0 10 (by decide) (fD10 _ _ _ _) q307 dX0_shortest_107 ?_
                          refine lv_iload_n hx hb dX0_shortest_110 rfl (lv_at hl 3 rfl) ?_
                          refine S_aldA hC hK hP (aGd10 _ _ _ _ _) (j := s) (b := R (1000 + (0 + s))) rfl (by decide) (rfl) (by omega) dX0_shortest_111 ?_
                          refine lv_iload hx hb dX0_shortest_112 (lv_at hl 4 rfl) ?_
                          refine lv_iload_n hx hb dX0_shortest_114 rfl (lv_at hl 3 rfl) ?_
                          refine lv_if_ne (tgt := 129) hx hb dX0_shortest_115 (by decide) (fun c115 => ?_) (fun c115 => ?_)
                          · have c115 : ¬ (s = 0) := mt (nI_eq (a := s) (b := 0) (by first | omega | exact ocN_b _ _) (by first | omega | exact ocN_b _ _)).mpr c115
                            refine lv_ldc (own := RX0) (v := 268435456) hx hb ho (hts _ q1088) dX0_shortest_129 ?_
                            refine S_ast hC hK hP (hD _ _ _) hS (aGr (i := (0 + s)) _ _ _ _ _ (by omega) (rwG_17 (by omega))) (bGr (i := (0 + s)) _ _ _ _ _ _ _ (rwG_17 (by omega))) (j := h) (by decide) (rfl) (by omega) dX0_shortest_131 (fun H locs hP hS => ?_)
                            rw [gE_W] at hP
                            refine lv_aload_n hx hb dX0_shortest_132 rfl (lv_at hl 0 rfl) ?_
                            refine S_get hC hK hP (oGd_main _ _ _ _ _) clX0 in_X0 11 (by decide) (fD11 _ _ _ _) q308 dX0_shortest_133 ?_
                            refine lv_iload_n hx hb dX0_shortest_136 rfl (lv_at hl 3 rfl) ?_
                            refine S_aldA hC hK hP (aGd11 _ _ _ _ _) (j := s) (b := R (1000 + (64 + s))) rfl (by decide) (rfl) (by omega) dX0_shortest_137 ?_
                            refine lv_iload hx hb dX0_shortest_138 (lv_at hl 4 rfl) ?_
                            refine lv_bipush (v := 16) hx hb dX0_shortest_140 (by decide) ?_
                            refine S_ast hC hK hP (hD _ _ _) hS (aGr (i := (64 + s)) _ _ _ _ _ (by omega) (rwG_17 (by omega))) (bGr (i := (64 + s)) _ _ _ _ _ _ _ (rwG_17 (by omega))) (j := h) (by decide) (rfl) (by omega) dX0_shortest_142 (fun H locs hP hS => ?_)
                            rw [gE_W] at hP
                            refine lv_iinc (v := (nI (h + 1))) (lv' := [(4, .int (nI (h + 1))), (0, .ref o), (1, .int (nI n)), (2, .int k0), (3, .int (nI s))]) hx hb dX0_shortest_143 hl (k := 4) rfl (nI_inc h) (by decide) rfl (fun ls hl => ?_)
                            refine lv_goto (tgt := 99) hx hb dX0_shortest_146 (by decide) ?_
                            exact ih99 (h + 1) (upd2 (upd2 g (0 + s) h 268435456) (64 + s) h 16) _ _ ls (by omega) (by first | omega | assumption | rfl | (simp_all; done) | grind) (by first | exact grd_n (by decide) rfl (by omega) (by omega) hg2 (T0_a c115 c122) T0_c | exact grd_n (by decide) rfl (by omega) (by omega) hg2 (T0_b (by omega) (fun z => c122 z.2)) T0_c | exact grd_n (by decide) rfl (by omega) (by omega) hg2 (T0_b (by omega) (fun z => c115 z.1)) T0_c) hP hS (lv_sub hl [1, 2, 3, 4, 0] rfl)
                          · have c115 : s = 0 := (nI_eq (a := s) (b := 0) (by first | omega | exact ocN_b _ _) (by first | omega | exact ocN_b _ _)).mp c115
                            refine lv_iload hx hb dX0_shortest_118 (lv_at hl 4 rfl) ?_
                            refine lv_bipush (v := 16) hx hb dX0_shortest_120 (by decide) ?_
                            refine lv_icmp_ne (tgt := 129) hx hb dX0_shortest_122 (by decide) (fun c122 => ?_) (fun c122 => ?_)
                            · have c122 : ¬ (h = 16) := mt (nI_eq (a := h) (b := 16) (by first | omega | exact ocN_b _ _) (by first | omega | exact ocN_b _ _)).mpr c122
                              refine lv_ldc (own := RX0) (v := 268435456) hx hb ho (hts _ q1088) dX0_shortest_129 ?_
                              refine S_ast hC hK hP (hD _ _ _) hS (aGr (i := (0 + s)) _ _ _ _ _ (by omega) (rwG_17 (by omega))) (bGr (i := (0 + s)) _ _ _ _ _ _ _ (rwG_17 (by omega))) (j := h) (by decide) (rfl) (by omega) dX0_shortest_131 (fun H locs hP hS => ?_)
                              rw [gE_W] at hP
                              refine lv_aload_n hx hb dX0_shortest_132 rfl (lv_at hl 0 rfl) ?_
                              refine S_get hC hK hP (oGd_main _ _ _ _ _) clX0 in_X0 11 (by decide) (fD11 _ _ _ _) q308 dX0_shortest_133 ?_
                              refine lv_iload_n hx hb dX0_shortest_136 rfl (lv_at hl 3 rfl) ?_
                              refine S_aldA hC hK hP (aGd11 _ _ _ _ _) (j := s) (b := R (1000 + (64 + s))) rfl (by decide) (rfl) (by omega) dX0_shortest_137 ?_
                              refine lv_iload hx hb dX0_shortest_138 (lv_at hl 4 rfl) ?_
                              refine lv_bipush (v := 16) hx hb dX0_shortest_140 (by decide) ?_
                              refine S_ast hC hK hP (hD _ _ _) hS (aGr (i := (64 + s)) _ _ _ _ _ (by omega) (rwG_17 (by omega))) (bGr (i := (64 + s)) _ _ _ _ _ _ _ (rwG_17 (by omega))) (j := h) (by decide) (rfl) (by omega) dX0_shortest_142 (fun H locs hP hS => ?_)
                              rw [gE_W] at hP
                              refine lv_iinc (v := (nI (h + 1))) (lv' := [(4, .int (nI (h + 1))), (0, .ref o), (1, .int (nI n)), (2, .int k0), (3, .int (nI s))]) hx hb dX0_shortest_143 hl (k := 4) rfl (nI_inc h) (by decide) rfl (fun ls hl => ?_)
                              refine lv_goto (tgt := 99) hx hb dX0_shortest_146 (by decide) ?_
                              exact ih99 (h + 1) (upd2 (upd2 g (0 + s) h 268435456) (64 + s) h 16) _ _ ls (by omega) (by first | omega | assumption | rfl | (simp_all; done) | grind) (by first | exact grd_n (by decide) rfl (by omega) (by omega) hg2 (T0_a c115 c122) T0_c | exact grd_n (by decide) rfl (by omega) (by omega) hg2 (T0_b (by omega) (fun z => c122 z.2)) T0_c | exact grd_n (by decide) rfl (by omega) (by omega) hg2 (T0_b (by omega) (fun z => c115 z.1)) T0_c) hP hS (lv_sub hl [1, 2, 3, 4, 0] rfl)
                            · have c122 : h = 16 := (nI_eq (a := h) (b := 16) (by first | omega | exact ocN_b _ _) (by first | omega | exact ocN_b _ _)).mp c122
                              refine lv_iconst (v := 0) hx hb dX0_shortest_125 (by decide) ?_
                              refine lv_goto (tgt := 131) hx hb dX0_shortest_126 (by decide) ?_
                              refine S_ast hC hK hP (hD _ _ _) hS (aGr (i := (0 + s)) _ _ _ _ _ (by omega) (rwG_17 (by omega))) (bGr (i := (0 + s)) _ _ _ _ _ _ _ (rwG_17 (by omega))) (j := h) (by decide) (rfl) (by omega) dX0_shortest_131 (fun H locs hP hS => ?_)
                              rw [gE_W] at hP
                              refine lv_aload_n hx hb dX0_shortest_132 rfl (lv_at hl 0 rfl) ?_
                              refine S_get hC hK hP (oGd_main _ _ _ _ _) clX0 in_X0 11 (by decide) (fD11 _ _ _ _) q308 dX0_shortest_133 ?_
                              refine lv_iload_n hx hb dX0_shortest_136 rfl (lv_at hl 3 rfl) ?_
                              refine S_aldA hC hK hP (aGd11 _ _ _ _ _) (j := s) (b := R (1000 + (64 + s))) rfl (by decide) (rfl) (by omega) dX0_shortest_137 ?_
                              refine lv_iload hx hb dX0_shortest_138 (lv_at hl 4 rfl) ?_
                              refine lv_bipush (v := 16) hx hb dX0_shortest_140 (by decide) ?_
                              refine S_ast hC hK hP (hD _ _ _) hS (aGr (i := (64 + s)) _ _ _ _ _ (by omega) (rwG_17 (by omega))) (bGr (i := (64 + s)) _ _ _ _ _ _ _ (rwG_17 (by omega))) (j := h) (by decide) (rfl) (by omega) dX0_shortest_142 (fun H locs hP hS => ?_)
                              rw [gE_W] at hP
                              refine lv_iinc (v := (nI (h + 1))) (lv' := [(4, .int (nI (h + 1))), (0, .ref o), (1, .int (nI n)), (2, .int k0), (3, .int (nI s))]) hx hb dX0_shortest_143 hl (k := 4) rfl (nI_inc h) (by decide) rfl (fun ls hl => ?_)
                              refine lv_goto (tgt := 99) hx hb dX0_shortest_146 (by decide) ?_
                              exact ih99 (h + 1) (upd2 (upd2 g (0 + s) h 0) (64 + s) h 16) _ _ ls (by omega) (by first | omega | assumption | rfl | (simp_all; done) | grind) (by first | exact grd_n (by decide) rfl (by omega) (by omega) hg2 (T0_a c115 c122) T0_c | exact grd_n (by decide) rfl (by omega) (by omega) hg2 (T0_b (by omega) (fun z => c122 z.2)) T0_c | exact grd_n (by decide) rfl (by omega) (by omega) hg2 (T0_b (by omega) (fun z => c115 z.1)) T0_c) hP hS (lv_sub hl [1, 2, 3, 4, 0] rfl)
                    exact LP99 _ 0 g _ _ ls (Nat.lt_succ_self _) (by first | omega | assumption | rfl | (simp_all; done) | grind) (hg1) hP hS (lv_sub hl [1, 2, 3, 4, 0] rfl)
              exact LP89 _ 0 (rwsU u) _ _ ls (Nat.lt_succ_self _) (by first | omega | assumption | rfl | (simp_all; done) | grind) (grd_0 _ _ _ _) hP hS (lv_sub hl [1, 2, 3, 0] rfl)
            · have c39 : ¬ (n ≤ k) := mt (nI_leI (a := n) (b := k) (by first | omega | exact ocN_b _ _) (by first | omega | exact ocN_b _ _)).mpr c39
              refine lv_aload_n hx hb dX0_shortest_42 rfl (lv_at hl 0 rfl) ?_
              refine S_get hC hK hP (oGd_main _ _ _ _ _) clX0 in_X0 0 (by decide) (fD0 _ _ _ _) q291 dX0_shortest_43 ?_
              refine lv_aload_n hx hb dX0_shortest_46 rfl (lv_at hl 0 rfl) ?_
              refine lv_iconst (v := 2) hx hb dX0_shortest_47 (by decide) ?_
              refine lv_iload_n hx hb dX0_shortest_48 rfl (lv_at hl 3 rfl) ?_
              refine lv_imul hx hb dX0_shortest_49 ?_
              refine W_top (pk_mul 2 k) ?_
              refine CIs.go (rcV hC hl (c_X0_fed G l o R tx (gE u 0 (rwsU u)) (2 * k) (by first | assumption | omega | rfl | (simp_all; done))) hK (PwGd.toS hP) (va_recv hK.1 hP clX0 (oGd_main _ _ _ _ _)) q1084 q1086 qs35 q110 q1087 mdX0_fed (room_s hRm rfl) rfl rfl dX0_shortest_50) ?_
              refine W_top (y := (nI (ocN (u.2.1 6) (2 * k)))) (by simp only [gE_g6]) ?_
              refine CIs.go (rcV hC hl (c_X1_isHouse_plan G l o R tx (gE u 0 (rwsU u)) (nI (ocN (u.2.1 6) (2 * k))) ) hK (PwGd.toS hP) (va_recv hK.1 hP clX1 (oGd_plan _ _ _ _ _)) q369 q370 q371 q111 q372 mdX1_isHouse (room_s hRm rfl) rfl rfl dX0_shortest_53) ?_
              refine W_top (y := (bI (isHouseB (u.1 24) (nI (ocN (u.2.1 6) (2 * k)))))) (by simp only [gE_f24]) ?_
              refine lv_if_eq (tgt := 78) hx hb dX0_shortest_56 (by decide) (fun c56 => ?_) (fun c56 => ?_)
              · have c56 : (isHouseB (u.1 24) (nI (ocN (u.2.1 6) (2 * k)))) = false := bI_0.mp c56
                refine lv_bipush (v := (-3)) hx hb dX0_shortest_78 (by decide) ?_
                exact hq _ _ _ _ _ _ _ _ dX0_shortest_80 hP hS (rfl) (by have hg : crackG1 (u.1 8) (nI n) k0 = true := (by simp [crackG1, c7, c15, c25]); have hbad : allC (wishC (u.1 24) (u.1 25) (u.2.1 6)) n = false := allC_f (k := k) (by omega) (by first | (simp [wishC, c56]; done) | (simp [wishC, c75]; done)); exact ⟨rwsU u, by rw [shortI, if_pos hg, hnx, if_neg (by rw [hbad]; decide)], by rw [if_pos hg]⟩) (by decide) (by decide)
              · have c56 : (isHouseB (u.1 24) (nI (ocN (u.2.1 6) (2 * k)))) = true := bI_1.mp c56
                refine lv_aload_n hx hb dX0_shortest_59 rfl (lv_at hl 0 rfl) ?_
                refine S_get hC hK hP (oGd_main _ _ _ _ _) clX0 in_X0 0 (by decide) (fD0 _ _ _ _) q291 dX0_shortest_60 ?_
                refine lv_aload_n hx hb dX0_shortest_63 rfl (lv_at hl 0 rfl) ?_
                refine lv_iconst (v := 2) hx hb dX0_shortest_64 (by decide) ?_
                refine lv_iload_n hx hb dX0_shortest_65 rfl (lv_at hl 3 rfl) ?_
                refine lv_imul hx hb dX0_shortest_66 ?_
                refine W_top (pk_mul 2 k) ?_
                refine lv_iconst (v := 1) hx hb dX0_shortest_67 (by decide) ?_
                refine lv_iadd hx hb dX0_shortest_68 ?_
                refine W_top (nI_add (2 * k) 1) ?_
                refine CIs.go (rcV hC hl (c_X0_fed G l o R tx (gE u 0 (rwsU u)) ((2 * k) + 1) (by first | assumption | omega | rfl | (simp_all; done))) hK (PwGd.toS hP) (va_recv hK.1 hP clX0 (oGd_main _ _ _ _ _)) q1084 q1086 qs35 q110 q1087 mdX0_fed (room_s hRm rfl) rfl rfl dX0_shortest_69) ?_
                refine W_top (y := (nI (ocN (u.2.1 6) ((2 * k) + 1)))) (by simp only [gE_g6]) ?_
                refine CIs.go (rcV hC hl (c_X1_isThing_plan G l o R tx (gE u 0 (rwsU u)) (nI (ocN (u.2.1 6) ((2 * k) + 1))) ) hK (PwGd.toS hP) (va_recv hK.1 hP clX1 (oGd_plan _ _ _ _ _)) q1035 q732 q733 q111 q734 mdX1_isThing (room_s hRm rfl) rfl rfl dX0_shortest_72) ?_
                refine W_top (y := (bI (isHouseB (u.1 25) (nI (ocN (u.2.1 6) ((2 * k) + 1)))))) (by simp only [gE_f25]) ?_
                refine lv_if_ne (tgt := 81) hx hb dX0_shortest_75 (by decide) (fun c75 => ?_) (fun c75 => ?_)
                · have c75 : (isHouseB (u.1 25) (nI (ocN (u.2.1 6) ((2 * k) + 1)))) = true := bI_1.mp c75
                  refine lv_iinc (v := (nI (k + 1))) (lv' := [(3, .int (nI (k + 1))), (0, .ref o), (1, .int (nI n)), (2, .int k0)]) hx hb dX0_shortest_81 hl (k := 3) rfl (nI_inc k) (by decide) rfl (fun ls hl => ?_)
                  refine lv_goto (tgt := 37) hx hb dX0_shortest_84 (by decide) ?_
                  exact ih37 (k + 1) ls (by omega) (by first | omega | assumption | rfl | (simp_all; done) | grind) (by show (allC _ k && wishC _ _ _ k) = true; rw [ha]; simp [wishC, c56, c75])  (lv_sub hl [1, 2, 3, 0] rfl)
                · have c75 : (isHouseB (u.1 25) (nI (ocN (u.2.1 6) ((2 * k) + 1)))) = false := bI_0.mp c75
                  refine lv_bipush (v := (-3)) hx hb dX0_shortest_78 (by decide) ?_
                  exact hq _ _ _ _ _ _ _ _ dX0_shortest_80 hP hS (rfl) (by have hg : crackG1 (u.1 8) (nI n) k0 = true := (by simp [crackG1, c7, c15, c25]); have hbad : allC (wishC (u.1 24) (u.1 25) (u.2.1 6)) n = false := allC_f (k := k) (by omega) (by first | (simp [wishC, c56]; done) | (simp [wishC, c75]; done)); exact ⟨rwsU u, by rw [shortI, if_pos hg, hnx, if_neg (by rw [hbad]; decide)], by rw [if_pos hg]⟩) (by decide) (by decide)
        exact LP37 _ 0 ls (Nat.lt_succ_self _) (by first | omega | assumption | rfl | (simp_all; done) | grind) (rfl)  (lv_sub hl [1, 2, 3, 0] rfl)
      · refine lv_iconst (v := (-1)) hx hb dX0_shortest_28 (by decide) ?_
        exact hq _ _ _ _ _ _ _ _ dX0_shortest_29 hP hS (rfl) (by exact ⟨rwsU u, by first | (simp [shortI, crackG1, c7]; done) | (simp [shortI, crackG1, c7, c15]; done) | (simp [shortI, crackG1, c7, c15, c25]; done), by rw [if_neg (by first | (simp [crackG1, c7]; done) | (simp [crackG1, c7, c15]; done) | (simp [crackG1, c7, c15, c25]; done))]; exact (gE_self u)⟩) (by decide) (by decide)
set_option maxHeartbeats 4000000 in
theorem c_X0_halves (G : GG) (l : Launch) (o : Nat) (R : Nat → Nat) (tx : Nat) (u : MS) (n0 : Int32) (hD : DwGd o R) : CXi G l (PwGd G o R tx) (AwGd o R) yX0_halves cX0_halves 6 .int 3 46 0 0 [.ref o, .int n0] (PwGd G o R tx u) (fun r w => ∃ g : Nat → Nat → Int32, r = (halvesI (u.2.1 6) (u.1 8) n0) ∧ w = (if halvesG (u.1 8) n0 = true then gE u 0 g else u)) := by
  refine CXi.mk RX0 pnX0 rfl (Nat.le_of_ble_eq_true rfl) (fun pg en Rm sg mm ar bw mth cd QQ ls hC hRm hK hX hS hl hq => ?_)
  have hx := hC.1; have hb := hC.2.1; have ho := hC.2.2.2.1; have hts := hC.2.2.2.2
  have hP : PwGd G o R tx u sg.heap := hX
  have hl : lv_has ls 6 [(0, .ref o), (1, .int n0)] := hl
  have hP : PwGd G o R tx (gE u (u.1 8) (rwsU u)) sg.heap := by rw [gE_self]; exact hP
  refine lv_iload_n hx hb dX0_halves_0 rfl (lv_at hl 1 rfl) ?_
  refine lv_iconst (v := 2) hx hb dX0_halves_1 (by decide) ?_
  refine lv_bipush (v := 12) hx hb dX0_halves_2 (by decide) ?_
  refine CIs.go (rcS hC hl (c_X0_within G l n0 2 12 ) hK trivial q385 q386 q110 q387 mdX0_within (room_s hRm rfl) rfl rfl dX0_halves_4) ?_
  refine lv_if_eq (tgt := 18) hx hb dX0_halves_7 (by decide) (fun c7 => ?_) (fun c7 => ?_)
  · have c7 : (inB n0 2 12) = false := bI_0.mp c7
    refine lv_iconst (v := (-1)) hx hb dX0_halves_18 (by decide) ?_
    exact hq _ _ _ _ _ _ _ _ dX0_halves_19 hP hS (rfl) (by exact ⟨rwsU u, by first | (simp [halvesI, halvesG, c7]; done) | (simp [halvesI, halvesG, c7, c15]; done), by rw [if_neg (by first | (simp [halvesG, c7]; done) | (simp [halvesG, c7, c15]; done))]; exact (gE_self u)⟩) (by decide) (by decide)
  · have c7 : (inB n0 2 12) = true := bI_1.mp c7
    obtain ⟨n, hn1, hn, rfl, hnx⟩ := inB_nI2 2 12 (by decide) (by decide) c7
    have hl : lv_has ls 6 [(0, .ref o), (1, .int (nI n))] := hl
    refine lv_iload_n hx hb dX0_halves_10 rfl (lv_at hl 1 rfl) ?_
    refine lv_aload_n hx hb dX0_halves_11 rfl (lv_at hl 0 rfl) ?_
    refine S_get hC hK hP (oGd_main _ _ _ _ _) clX0 in_X0 8 (by decide) (fD8 _ _ _ _) q305 dX0_halves_12 ?_
    refine W_top (y := (u.1 8)) (by rw [gE_f8]) ?_
    refine lv_icmp_le (tgt := 20) hx hb dX0_halves_15 (by decide) (fun c15 => ?_) (fun c15 => ?_)
    · refine lv_aload_n hx hb dX0_halves_20 rfl (lv_at hl 0 rfl) ?_
      refine lv_iconst (v := 0) hx hb dX0_halves_21 (by decide) ?_
      refine S_put hC hK hP (hD _ _ _) hS (oGd_main _ _ _ _ _) clX0 in_X0 tyX0_ok nmX0 8 (by decide) (pGd8 _ _ _ _ _ _) q305 rfl rfl rfl rfl (Nat.le_of_ble_eq_true rfl) dX0_halves_22 (fun H locs hP hS => ?_)
      rw [gE_V8] at hP
      refine lv_iconst (v := 0) hx hb dX0_halves_25 (by decide) ?_
      refine lv_istore_n (lv' := [(2, .int 0), (0, .ref o), (1, .int (nI n))]) hx hb dX0_halves_26 rfl hl (by decide) rfl (fun ls hl => ?_)
      have LP27 : ∀ (fu27 : Nat) (sz : Nat) (g : Nat → Nat → Int32) (H : Heap) (locs : List Loc) (ls : Array Slot), n + 1 - sz < fu27 → sz ≤ n + 1 → hvG (u.2.1 6) n sz 0 g → PwGd G o R tx (gE u 0 g) H → va_S (AwGd o R) sg.heap H locs → lv_has ls 6 [(0, .ref o), (1, .int (nI n)), (2, .int (nI sz))] → W pg l en Rm sg mm ar bw mth cd H locs 0 0 QQ (F0 mm 27 ls []) := by
        intro fu27
        induction fu27 with
        | zero => intro sz g H locs ls hm27 hsz hv hP hS hl; exact absurd hm27 (Nat.not_lt_zero _)
        | succ fu27 ih27 =>
          intro sz g H locs ls hm27 hsz hv hP hS hl
          refine lv_iload_n hx hb dX0_halves_27 rfl (lv_at hl 2 rfl) ?_
          refine lv_iload_n hx hb dX0_halves_28 rfl (lv_at hl 1 rfl) ?_
          refine lv_icmp_gt (tgt := 132) hx hb dX0_halves_29 (by decide) (fun c29 => ?_) (fun c29 => ?_)
          · have c29 : n < sz := (nI_ltI (a := n) (b := sz) (by first | omega | exact ocN_b _ _) (by first | omega | exact ocN_b _ _)).mp c29
            refine lv_aload_n hx hb dX0_halves_132 rfl (lv_at hl 0 rfl) ?_
            refine S_get hC hK hP (oGd_main _ _ _ _ _) clX0 in_X0 15 (by decide) (fD15 _ _ _ _) q312 dX0_halves_133 ?_
            refine lv_iconst (v := 0) hx hb dX0_halves_136 (by decide) ?_
            refine S_aldA hC hK hP (aGd15 _ _ _ _ _) (j := 0) (b := R (1000 + (256 + 0))) rfl (by decide) (by decide) (by omega) dX0_halves_137 ?_
            refine lv_iload_n hx hb dX0_halves_138 rfl (lv_at hl 1 rfl) ?_
            refine S_ald hC hK hP (aGr (i := (256 + 0)) _ _ _ _ _ (by omega) (rwG_13 (by omega))) (j := n) (by decide) (rfl) (by omega) dX0_halves_139 ?_
            refine W_top (y := (g (256 + 0) n)) (congrFun (gE_r _ _ _ _) _) ?_
            refine W_top (y := (nI (hvN (u.2.1 6) n 0))) (by have := hv n 0 (by omega) (Or.inl (by omega)); rwa [Nat.zero_add] at this) ?_
            exact hq _ _ _ _ _ _ _ _ dX0_halves_140 hP hS (rfl) (by have hg : halvesG (u.1 8) (nI n) = true := (by simp [halvesG, c7, c15]); exact ⟨g, by rw [halvesI, if_pos hg, hnx], by rw [if_pos hg]⟩) (by decide) (by decide)
          · have c29 : ¬ (n < sz) := mt (nI_ltI (a := n) (b := sz) (by first | omega | exact ocN_b _ _) (by first | omega | exact ocN_b _ _)).mpr c29
            refine lv_iconst (v := 0) hx hb dX0_halves_32 (by decide) ?_
            refine lv_istore_n (lv' := [(3, .int 0), (0, .ref o), (1, .int (nI n)), (2, .int (nI sz))]) hx hb dX0_halves_33 rfl hl (by decide) rfl (fun ls hl => ?_)
            have LP34 : ∀ (fu34 : Nat) (fr : Nat) (g : Nat → Nat → Int32) (H : Heap) (locs : List Loc) (ls : Array Slot), n + 1 - fr < fu34 → fr + sz ≤ n + 1 → hvG (u.2.1 6) n sz fr g → PwGd G o R tx (gE u 0 g) H → va_S (AwGd o R) sg.heap H locs → lv_has ls 6 [(0, .ref o), (1, .int (nI n)), (2, .int (nI sz)), (3, .int (nI fr))] → W pg l en Rm sg mm ar bw mth cd H locs 0 0 QQ (F0 mm 34 ls []) := by
              intro fu34
              induction fu34 with
              | zero => intro fr g H locs ls hm34 hfr hv1 hP hS hl; exact absurd hm34 (Nat.not_lt_zero _)
              | succ fu34 ih34 =>
                intro fr g H locs ls hm34 hfr hv1 hP hS hl
                refine lv_iload_n hx hb dX0_halves_34 rfl (lv_at hl 3 rfl) ?_
                refine lv_iload_n hx hb dX0_halves_35 rfl (lv_at hl 2 rfl) ?_
                refine lv_iadd hx hb dX0_halves_36 ?_
                refine W_top (nI_add fr sz) ?_
                refine lv_iload_n hx hb dX0_halves_37 rfl (lv_at hl 1 rfl) ?_
                refine lv_icmp_gt (tgt := 126) hx hb dX0_halves_38 (by decide) (fun c38 => ?_) (fun c38 => ?_)
                · have c38 : n < (fr + sz) := (nI_ltI (a := n) (b := (fr + sz)) (by first | omega | exact ocN_b _ _) (by first | omega | exact ocN_b _ _)).mp c38
                  refine lv_iinc (v := (nI (sz + 1))) (lv' := [(2, .int (nI (sz + 1))), (0, .ref o), (1, .int (nI n)), (3, .int (nI fr))]) hx hb dX0_halves_126 hl (k := 2) rfl (nI_inc sz) (by decide) rfl (fun ls hl => ?_)
                  refine lv_goto (tgt := 27) hx hb dX0_halves_129 (by decide) ?_
                  exact ih27 (sz + 1) g _ _ ls (by omega) (by first | omega | assumption | rfl | (simp_all; done) | grind) (fun m a h1 h2 => hv1 m a h1 (by omega)) hP hS (lv_sub hl [1, 2, 0] rfl)
                · have c38 : ¬ (n < (fr + sz)) := mt (nI_ltI (a := n) (b := (fr + sz)) (by first | omega | exact ocN_b _ _) (by first | omega | exact ocN_b _ _)).mpr c38
                  refine lv_iconst (v := 0) hx hb dX0_halves_41 (by decide) ?_
                  refine lv_istore (lv' := [(4, .int 0), (0, .ref o), (1, .int (nI n)), (2, .int (nI sz)), (3, .int (nI fr))]) hx hb dX0_halves_42 hl (by decide) rfl (fun ls hl => ?_)
                  refine lv_iload_n hx hb dX0_halves_44 rfl (lv_at hl 4 rfl) ?_
                  refine lv_istore (lv' := [(5, .int (nI fr)), (4, .int 0), (0, .ref o), (1, .int (nI n)), (2, .int (nI sz)), (3, .int (nI fr))]) hx hb dX0_halves_45 hl (by decide) rfl (fun ls hl => ?_)
                  have LP47 : ∀ (fu47 : Nat) (i : Nat) (sm : Nat) (ls : Array Slot), fr + sz - i < fu47 → i ≤ fr + sz → fr ≤ i → sm = smN (u.2.1 6) fr (i - fr) → lv_has ls 6 [(0, .ref o), (1, .int (nI n)), (2, .int (nI sz)), (3, .int (nI fr)), (4, .int (nI sm)), (5, .int (nI i))] → W pg l en Rm sg mm ar bw mth cd H locs 0 0 QQ (F0 mm 47 ls []) := by
                    intro fu47
                    induction fu47 with
                    | zero => intro i sm ls hm47 hi hi2 hsm hl; exact absurd hm47 (Nat.not_lt_zero _)
                    | succ fu47 ih47 =>
                      intro i sm ls hm47 hi hi2 hsm hl
                      have hsmb0 := smN_le (u.2.1 6) fr (i - fr)
                      refine lv_iload hx hb dX0_halves_47 (lv_at hl 5 rfl) ?_
                      refine lv_iload_n hx hb dX0_halves_49 rfl (lv_at hl 3 rfl) ?_
                      refine lv_iload_n hx hb dX0_halves_50 rfl (lv_at hl 2 rfl) ?_
                      refine lv_iadd hx hb dX0_halves_51 ?_
                      refine W_top (nI_add fr sz) ?_
                      refine lv_icmp_ge (tgt := 72) hx hb dX0_halves_52 (by decide) (fun c52 => ?_) (fun c52 => ?_)
                      · have c52 : (fr + sz) ≤ i := (nI_leI (a := (fr + sz)) (b := i) (by first | omega | exact ocN_b _ _) (by first | omega | exact ocN_b _ _)).mp c52
                        have hi9 : i = fr + sz := by omega
                        have hsmb := smN_le (u.2.1 6) fr (i - fr)
                        have hsm9 : sm = smN (u.2.1 6) fr sz := by rw [hsm, hi9, Nat.add_sub_cancel_left]
                        refine lv_aload_n hx hb dX0_halves_72 rfl (lv_at hl 0 rfl) ?_
                        refine S_get hC hK hP (oGd_main _ _ _ _ _) clX0 in_X0 15 (by decide) (fD15 _ _ _ _) q312 dX0_halves_73 ?_
                        refine lv_iload_n hx hb dX0_halves_76 rfl (lv_at hl 3 rfl) ?_
                        refine S_aldA hC hK hP (aGd15 _ _ _ _ _) (j := fr) (b := R (1000 + (256 + fr))) rfl (by decide) (rfl) (by omega) dX0_halves_77 ?_
                        refine lv_iload_n hx hb dX0_halves_78 rfl (lv_at hl 3 rfl) ?_
                        refine lv_iload_n hx hb dX0_halves_79 rfl (lv_at hl 2 rfl) ?_
                        refine lv_iadd hx hb dX0_halves_80 ?_
                        refine W_top (nI_add fr sz) ?_
                        refine lv_iload_n hx hb dX0_halves_81 rfl (lv_at hl 2 rfl) ?_
                        refine lv_if_ne (tgt := 89) hx hb dX0_halves_82 (by decide) (fun c82 => ?_) (fun c82 => ?_)
                        · have c82 : ¬ (sz = 0) := mt (nI_eq (a := sz) (b := 0) (by first | omega | exact ocN_b _ _) (by first | omega | exact ocN_b _ _)).mpr c82
                          refine lv_iload hx hb dX0_halves_89 (lv_at hl 4 rfl) ?_
                          refine lv_aload_n hx hb dX0_halves_91 rfl (lv_at hl 0 rfl) ?_
                          refine S_get hC hK hP (oGd_main _ _ _ _ _) clX0 in_X0 15 (by decide) (fD15 _ _ _ _) q312 dX0_halves_92 ?_
                          refine lv_iload_n hx hb dX0_halves_95 rfl (lv_at hl 3 rfl) ?_
                          refine lv_iconst (v := 1) hx hb dX0_halves_96 (by decide) ?_
                          refine lv_iadd hx hb dX0_halves_97 ?_
                          refine W_top (nI_add fr 1) ?_
                          refine S_aldA hC hK hP (aGd15 _ _ _ _ _) (j := (fr + 1)) (b := R (1000 + (256 + (fr + 1)))) rfl (by decide) (rfl) (by omega) dX0_halves_98 ?_
                          refine lv_iload_n hx hb dX0_halves_99 rfl (lv_at hl 3 rfl) ?_
                          refine lv_iload_n hx hb dX0_halves_100 rfl (lv_at hl 2 rfl) ?_
                          refine lv_iadd hx hb dX0_halves_101 ?_
                          refine W_top (nI_add fr sz) ?_
                          refine S_ald hC hK hP (aGr (i := (256 + (fr + 1))) _ _ _ _ _ (by omega) (rwG_13 (by omega))) (j := (fr + sz)) (by decide) (rfl) (by omega) dX0_halves_102 ?_
                          refine W_top (y := (g (256 + (fr + 1)) (fr + sz))) (congrFun (gE_r _ _ _ _) _) ?_
                          refine W_top (y := (nI (hvN (u.2.1 6) (sz - 1) (fr + 1)))) (by have := hv1 (sz - 1) (fr + 1) (by omega) (Or.inl (by omega)); rwa [show fr + 1 + (sz - 1) = fr + sz by omega] at this) ?_
                          refine lv_aload_n hx hb dX0_halves_103 rfl (lv_at hl 0 rfl) ?_
                          refine S_get hC hK hP (oGd_main _ _ _ _ _) clX0 in_X0 15 (by decide) (fD15 _ _ _ _) q312 dX0_halves_104 ?_
                          refine lv_iload_n hx hb dX0_halves_107 rfl (lv_at hl 3 rfl) ?_
                          refine S_aldA hC hK hP (aGd15 _ _ _ _ _) (j := fr) (b := R (1000 + (256 + fr))) rfl (by decide) (rfl) (by omega) dX0_halves_108 ?_
                          refine lv_iload_n hx hb dX0_halves_109 rfl (lv_at hl 3 rfl) ?_
                          refine lv_iload_n hx hb dX0_halves_110 rfl (lv_at hl 2 rfl) ?_
                          refine lv_iadd hx hb dX0_halves_111 ?_
                          refine W_top (nI_add fr sz) ?_
                          refine lv_iconst (v := 1) hx hb dX0_halves_112 (by decide) ?_
                          refine lv_isub hx hb dX0_halves_113 ?_
                          refine W_top (y := (nI (fr + sz - 1))) (pk_sub (a := fr + sz) (b := 1) (by omega)) ?_
                          refine S_ald hC hK hP (aGr (i := (256 + fr)) _ _ _ _ _ (by omega) (rwG_13 (by omega))) (j := (fr + sz - 1)) (by decide) (rfl) (by omega) dX0_halves_114 ?_
                          refine W_top (y := (g (256 + fr) (fr + sz - 1))) (congrFun (gE_r _ _ _ _) _) ?_
                          refine W_top (y := (nI (hvN (u.2.1 6) (sz - 1) fr))) (by have := hv1 (sz - 1) fr (by omega) (Or.inl (by omega)); rwa [show fr + (sz - 1) = fr + sz - 1 by omega] at this) ?_
                          have hb1 := hvN_b (u.2.1 6) (m := sz - 1) (a := fr + 1) (by omega)
                          have hb2 := hvN_b (u.2.1 6) (m := sz - 1) (a := fr) (by omega)
                          refine S_min hC hl q977 q468 q120 q469 (room_m hRm rfl) rfl dX0_halves_115 ?_
                          refine W_top (y := (nI (min (hvN (u.2.1 6) (sz - 1) (fr + 1)) (hvN (u.2.1 6) (sz - 1) fr)))) (mnI_nI (a := (hvN (u.2.1 6) (sz - 1) (fr + 1))) (b := (hvN (u.2.1 6) (sz - 1) fr)) (by first | omega | exact ocN_b _ _) (by first | omega | exact ocN_b _ _)) ?_
                          refine lv_isub hx hb dX0_halves_118 ?_
                          refine W_top (y := (nI (hvN (u.2.1 6) sz fr))) (hvN_p (by omega) (by omega) hsm9) ?_
                          refine S_ast hC hK hP (hD _ _ _) hS (aGr (i := (256 + fr)) _ _ _ _ _ (by omega) (rwG_13 (by omega))) (bGr (i := (256 + fr)) _ _ _ _ _ _ _ (rwG_13 (by omega))) (j := (fr + sz)) (by decide) (rfl) (by omega) dX0_halves_119 (fun H locs hP hS => ?_)
                          rw [gE_W] at hP
                          refine lv_iinc (v := (nI (fr + 1))) (lv' := [(3, .int (nI (fr + 1))), (0, .ref o), (1, .int (nI n)), (2, .int (nI sz)), (4, .int (nI sm)), (5, .int (nI i))]) hx hb dX0_halves_120 hl (k := 3) rfl (nI_inc fr) (by decide) rfl (fun ls hl => ?_)
                          refine lv_goto (tgt := 34) hx hb dX0_halves_123 (by decide) ?_
                          exact ih34 (fr + 1) (upd2 g (256 + fr) (fr + sz) (nI (hvN (u.2.1 6) sz fr))) _ _ ls (by omega) (by first | omega | assumption | rfl | (simp_all; done) | grind) (by first | exact hvG_s hv1 rfl | (have e0 : sz = 0 := c82; subst e0; exact hvG_s hv1 rfl)) hP hS (lv_sub hl [1, 2, 3, 0] rfl)
                        · have c82 : sz = 0 := (nI_eq (a := sz) (b := 0) (by first | omega | exact ocN_b _ _) (by first | omega | exact ocN_b _ _)).mp c82
                          refine lv_iconst (v := 0) hx hb dX0_halves_85 (by decide) ?_
                          refine lv_goto (tgt := 119) hx hb dX0_halves_86 (by decide) ?_
                          refine S_ast hC hK hP (hD _ _ _) hS (aGr (i := (256 + fr)) _ _ _ _ _ (by omega) (rwG_13 (by omega))) (bGr (i := (256 + fr)) _ _ _ _ _ _ _ (rwG_13 (by omega))) (j := (fr + sz)) (by decide) (rfl) (by omega) dX0_halves_119 (fun H locs hP hS => ?_)
                          rw [gE_W] at hP
                          refine lv_iinc (v := (nI (fr + 1))) (lv' := [(3, .int (nI (fr + 1))), (0, .ref o), (1, .int (nI n)), (2, .int (nI sz)), (4, .int (nI sm)), (5, .int (nI i))]) hx hb dX0_halves_120 hl (k := 3) rfl (nI_inc fr) (by decide) rfl (fun ls hl => ?_)
                          refine lv_goto (tgt := 34) hx hb dX0_halves_123 (by decide) ?_
                          exact ih34 (fr + 1) (upd2 g (256 + fr) (fr + sz) 0) _ _ ls (by omega) (by first | omega | assumption | rfl | (simp_all; done) | grind) (by first | exact hvG_s hv1 rfl | (have e0 : sz = 0 := c82; subst e0; exact hvG_s hv1 rfl)) hP hS (lv_sub hl [1, 2, 3, 0] rfl)
                      · have c52 : ¬ ((fr + sz) ≤ i) := mt (nI_leI (a := (fr + sz)) (b := i) (by first | omega | exact ocN_b _ _) (by first | omega | exact ocN_b _ _)).mpr c52
                        refine lv_iload hx hb dX0_halves_55 (lv_at hl 4 rfl) ?_
                        refine lv_aload_n hx hb dX0_halves_57 rfl (lv_at hl 0 rfl) ?_
                        refine lv_iload hx hb dX0_halves_58 (lv_at hl 5 rfl) ?_
                        refine CIs.go (rcV hC hl (c_X0_fed G l o R tx (gE u 0 g) i (by first | assumption | omega | rfl | (simp_all; done))) hK (PwGd.toS hP) (va_recv hK.1 hP clX0 (oGd_main _ _ _ _ _)) q1084 q1086 qs35 q110 q1087 mdX0_fed (room_s hRm rfl) rfl rfl dX0_halves_60) ?_
                        refine W_top (y := (nI (ocN (u.2.1 6) i))) (by simp only [gE_g6]) ?_
                        refine lv_iadd hx hb dX0_halves_63 ?_
                        refine W_top (nI_add sm (ocN (u.2.1 6) i)) ?_
                        refine lv_istore (lv' := [(4, .int (nI (sm + (ocN (u.2.1 6) i)))), (0, .ref o), (1, .int (nI n)), (2, .int (nI sz)), (3, .int (nI fr)), (5, .int (nI i))]) hx hb dX0_halves_64 hl (by decide) rfl (fun ls hl => ?_)
                        refine lv_iinc (v := (nI (i + 1))) (lv' := [(5, .int (nI (i + 1))), (4, .int (nI (sm + (ocN (u.2.1 6) i)))), (0, .ref o), (1, .int (nI n)), (2, .int (nI sz)), (3, .int (nI fr))]) hx hb dX0_halves_66 hl (k := 5) rfl (nI_inc i) (by decide) rfl (fun ls hl => ?_)
                        refine lv_goto (tgt := 47) hx hb dX0_halves_69 (by decide) ?_
                        exact ih47 (i + 1) (sm + (ocN (u.2.1 6) i)) ls (by omega) (by first | omega | assumption | rfl | (simp_all; done) | grind) (by first | omega | assumption | rfl | (simp_all; done) | grind) (by rw [hsm, show i + 1 - fr = (i - fr) + 1 by omega]; show _ = smN _ _ _ + ocN _ (fr + (i - fr)); rw [show fr + (i - fr) = i by omega])  (lv_sub hl [2, 3, 4, 5, 1, 0] rfl)
                  exact LP47 _ fr 0 ls (Nat.lt_succ_self _) (by first | omega | assumption | rfl | (simp_all; done) | grind) (by first | omega | assumption | rfl | (simp_all; done) | grind) (by rw [Nat.sub_self]; rfl)  (lv_sub hl [2, 3, 4, 5, 1, 0] rfl)
            exact LP34 _ 0 g _ _ ls (Nat.lt_succ_self _) (by first | omega | assumption | rfl | (simp_all; done) | grind) (hv) hP hS (lv_sub hl [1, 2, 3, 0] rfl)
      exact LP27 _ 0 (rwsU u) _ _ ls (Nat.lt_succ_self _) (by first | omega | assumption | rfl | (simp_all; done) | grind) (fun m a h1 h2 => absurd h2 (by omega)) hP hS (lv_sub hl [1, 2, 0] rfl)
    · refine lv_iconst (v := (-1)) hx hb dX0_halves_18 (by decide) ?_
      exact hq _ _ _ _ _ _ _ _ dX0_halves_19 hP hS (rfl) (by exact ⟨rwsU u, by first | (simp [halvesI, halvesG, c7]; done) | (simp [halvesI, halvesG, c7, c15]; done), by rw [if_neg (by first | (simp [halvesG, c7]; done) | (simp [halvesG, c7, c15]; done))]; exact (gE_self u)⟩) (by decide) (by decide)
