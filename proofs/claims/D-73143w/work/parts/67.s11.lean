set_option maxRecDepth 100000
set_option maxHeartbeats 4000000 in
theorem c_X0_sells (G : GG) (l : Launch) (o : Nat) (R : Nat → Nat) (tx : Nat) (n : Nat) (hn2 : 2 ≤ n) (hn : n ≤ 8) : ∀ d (u : MS) (p s sm b : Nat), n - p ≤ d → p ≤ n → s < 2 ^ n → cntN s = p → sm ≤ 255 * p → b ≤ 70001 → (u.1 18) = nI b - 1 → DwS o R → CXv G l (PwS G o R tx) (AwS o R) yX0_sells cX0_sells 6 (d + 8) (60 * (d + 8)) 0 0 [.ref o, .int (nI n), .int (nI p), .int (nI s), .int (nI sm)] (PwS G o R tx u) (fun w => ∃ mw : Int32, ∃ tk : Nat → Int32, ∃ so : Nat → Int32, (sellP (u.2.1 6) n p s sm b (u.2.1 16) (u.2.1 17) tk so mw) ∧ w = sE u mw tk so) := by
  intro d
  induction d using Nat.strongRecOn with
  | ind d ih =>
  intro u p s sm b hd hp hsn hcs hsm hb7 hmw hD
  refine CXv.mk RX0 pnX0 rfl (Nat.le_of_ble_eq_true rfl) (fun pg en Rm sg mm ar bw mth cd QQ ls hC hRm hK hX hS hl hq => ?_)
  have hx := hC.1; have hb := hC.2.1; have ho := hC.2.2.2.1; have hts := hC.2.2.2.2
  have hP : PwS G o R tx u sg.heap := hX
  have hl : lv_has ls 6 [(0, .ref o), (1, .int (nI n)), (2, .int (nI p)), (3, .int (nI s)), (4, .int (nI sm))] := hl
  have hP : PwS G o R tx (sE u (u.1 18) (u.2.1 16) (u.2.1 17)) sg.heap := by rw [sE_self]; exact hP
  refine lv_iload_n hx hb dX0_sells_0 rfl (lv_at hl 2 rfl) ?_
  refine lv_iload_n hx hb dX0_sells_1 rfl (lv_at hl 1 rfl) ?_
  refine lv_icmp_ne (tgt := 51) hx hb dX0_sells_2 (by decide) (fun c2 => ?_) (fun c2 => ?_)
  · have c2 : ¬ (p = n) := mt (nI_eq (a := p) (b := n) (by first | omega | (unfold worN; exact ocN_b _ _)) (by first | omega | (unfold worN; exact ocN_b _ _))).mpr c2
    have hpn : p < n := by omega
    have hp2 := pow_le8 hn
    refine lv_iconst (v := 0) hx hb dX0_sells_51 (by decide) ?_
    refine lv_istore (lv' := [(5, .int 0), (0, .ref o), (1, .int (nI n)), (2, .int (nI p)), (3, .int (nI s)), (4, .int (nI sm))]) hx hb dX0_sells_52 hl (by decide) rfl (fun ls hl => ?_)
    have LP54 : ∀ (fu54 : Nat) (t : Nat) (bc : Nat) (mw : Int32) (tk : Nat → Int32) (so : Nat → Int32) (H : Heap) (locs : List Loc) (ls : Array Slot), n - t < fu54 → t ≤ n → (∀ i, s.testBit i = true → tk i = (u.2.1 16) i) → tryP (u.2.1 6) n p s sm b t (u.2.1 16) (u.2.1 17) so mw bc → PwS G o R tx (sE u mw tk so) H → va_S (AwS o R) sg.heap H locs → lv_has ls 6 [(0, .ref o), (1, .int (nI n)), (2, .int (nI p)), (3, .int (nI s)), (4, .int (nI sm)), (5, .int (nI t))] → W pg l en Rm sg mm ar bw mth cd H locs 0 0 QQ (F0 mm 54 ls []) := by
      intro fu54
      induction fu54 with
      | zero => intro t bc mw tk so H locs ls hm54 ht htk htr hP hS hl; exact absurd hm54 (Nat.not_lt_zero _)
      | succ fu54 ih54 =>
        intro t bc mw tk so H locs ls hm54 ht htk htr hP hS hl
        refine lv_iload hx hb dX0_sells_54 (lv_at hl 5 rfl) ?_
        refine lv_iload_n hx hb dX0_sells_56 rfl (lv_at hl 1 rfl) ?_
        refine lv_icmp_ge (tgt := 111) hx hb dX0_sells_57 (by decide) (fun c57 => ?_) (fun c57 => ?_)
        · have c57 : n ≤ t := (nI_leI (a := n) (b := t) (by first | omega | (unfold worN; exact ocN_b _ _)) (by first | omega | (unfold worN; exact ocN_b _ _))).mp c57
          exact hq _ _ _ _ _ _ _ dX0_sells_111 hP hS (by have htn : t = n := (by omega); subst htn; exact ⟨mw, tk, so, try_e hn hsn hcs hpn htk htr, rfl⟩) (by decide) (by decide)
        · have c57 : ¬ (n ≤ t) := mt (nI_leI (a := n) (b := t) (by first | omega | (unfold worN; exact ocN_b _ _)) (by first | omega | (unfold worN; exact ocN_b _ _))).mpr c57
          refine lv_iload_n hx hb dX0_sells_60 rfl (lv_at hl 3 rfl) ?_
          refine lv_iload hx hb dX0_sells_61 (lv_at hl 5 rfl) ?_
          refine CIs.go (rcS hC hl (c_X0_has G l (nI s) (nI t) ) hK trivial q1036 q1037 q110 q1038 mdX0_has (by subst hRm; exact ⟨⟨by show _ ≤ d + 8; omega, by show _ ≤ 60 * (d + 8); omega⟩, Nat.le_refl _, Nat.le_refl _⟩) rfl rfl dX0_sells_63) ?_
          refine lv_if_eq (tgt := 72) hx hb dX0_sells_66 (by decide) (fun c66 => ?_) (fun c66 => ?_)
          · have c66 : (hasB (nI s) (nI t)) = false := bI_0.mp c66
            rw [hasB_nI _ (by omega)] at c66
            have hw1 : n * p + n ≤ n * n := by have := Nat.mul_le_mul (Nat.le_refl n) (show p + 1 ≤ n from hpn); rw [Nat.mul_add, Nat.mul_one] at this; exact this
            have hw2 := Nat.mul_le_mul hn hn
            have hwb : worN (u.2.1 6) n p t < 256 := ocN_lt _ _
            obtain ⟨hmwt, hbc, -⟩ := id htr
            have hsb := slF_b (u.2.1 6) (n := n) (s ||| 2 ^ t) hp2
            refine lv_aload_n hx hb dX0_sells_72 rfl (lv_at hl 0 rfl) ?_
            refine S_get hC hK hP (oS_main _ _ _ _ _) clX0 in_X0 16 (by decide) (fD16 _ _ _ _) q313 dX0_sells_73 ?_
            refine lv_iload hx hb dX0_sells_76 (lv_at hl 5 rfl) ?_
            refine lv_iload_n hx hb dX0_sells_78 rfl (lv_at hl 2 rfl) ?_
            refine S_ast hC hK hP (hD _ _ _) hS (aS16 _ _ _ _ _) (bS16 _ _ _ _ _ _ _) (j := t) (by decide) (rfl) (by omega) dX0_sells_79 (fun H locs hP hS => ?_)
            rw [sE_A16] at hP
            refine lv_aload_n hx hb dX0_sells_80 rfl (lv_at hl 0 rfl) ?_
            refine lv_iload_n hx hb dX0_sells_81 rfl (lv_at hl 1 rfl) ?_
            refine lv_iload_n hx hb dX0_sells_82 rfl (lv_at hl 2 rfl) ?_
            refine lv_iconst (v := 1) hx hb dX0_sells_83 (by decide) ?_
            refine lv_iadd hx hb dX0_sells_84 ?_
            refine W_top (nI_add p 1) ?_
            refine lv_iload_n hx hb dX0_sells_85 rfl (lv_at hl 3 rfl) ?_
            refine lv_iconst (v := 1) hx hb dX0_sells_86 (by decide) ?_
            refine lv_iload hx hb dX0_sells_87 (lv_at hl 5 rfl) ?_
            refine lv_ishl hx hb dX0_sells_89 ?_
            refine W_top (y := (nI (2 ^ t))) (shl1 t (by omega)) ?_
            refine lv_ior hx hb dX0_sells_90 ?_
            refine W_top (y := (nI (s ||| 2 ^ t))) (nI_or _ _) ?_
            refine lv_iload hx hb dX0_sells_91 (lv_at hl 4 rfl) ?_
            refine lv_aload_n hx hb dX0_sells_93 rfl (lv_at hl 0 rfl) ?_
            refine lv_iload_n hx hb dX0_sells_94 rfl (lv_at hl 1 rfl) ?_
            refine lv_iload_n hx hb dX0_sells_95 rfl (lv_at hl 2 rfl) ?_
            refine lv_iload hx hb dX0_sells_96 (lv_at hl 5 rfl) ?_
            refine CIs.go (rcV hC hl (c_X0_worth G l o R tx (sE u mw (upd tk t (nI p)) so) n p t (by first | assumption | omega | rfl | (simp_all; done))) hK hP (va_recv hK.1 hP clX0 (oS_main _ _ _ _ _)) q1135 q1137 qs41 q110 q1138 mdX0_worth (by subst hRm; exact ⟨⟨by show _ ≤ d + 8; omega, by show _ ≤ 60 * (d + 8); omega⟩, Nat.le_refl _, Nat.le_refl _⟩) rfl rfl dX0_sells_98) ?_
            refine W_top (y := (nI (worN (u.2.1 6) n p t))) (by simp only [sE_g6]) ?_
            refine lv_iadd hx hb dX0_sells_101 ?_
            refine W_top (nI_add sm (worN (u.2.1 6) n p t)) ?_
            refine CXv.go (rcV hC hl (ih (n - (p + 1)) (by omega) (sE u mw (upd tk t (nI p)) so) (p + 1) (s ||| 2 ^ t) (sm + worN (u.2.1 6) n p t) bc (by omega) (by omega) (or_lt hsn (by omega)) (by rw [cntN_or c66 (by omega), hcs]) (by omega) hbc (by rw [sE_f18]; exact hmwt) hD) hK hP (va_recv hK.1 hP clX0 (oS_main _ _ _ _ _)) q1143 q1145 qs42 q110 q1146 mdX0_sells (by subst hRm; exact ⟨⟨by show n - (p + 1) + 8 + 1 ≤ d + 8; omega, by show 19 + 6 + 60 * (n - (p + 1) + 8) ≤ 60 * (d + 8); omega⟩, Nat.le_refl _, Nat.le_refl _⟩) rfl rfl dX0_sells_102) hS (fun q h => h) (fun w102 H locs hpo hP _ _ hS => ?_)
            obtain ⟨mw_1, tk_2, so_3, f102_0, ew102⟩ := hpo
            rw [ew102] at hP
            rw [sE_again] at hP
            refine lv_iinc (v := (nI (t + 1))) (lv' := [(5, .int (nI (t + 1))), (0, .ref o), (1, .int (nI n)), (2, .int (nI p)), (3, .int (nI s)), (4, .int (nI sm))]) hx hb dX0_sells_105 hl (k := 5) rfl (nI_inc t) (by decide) rfl (fun ls hl => ?_)
            refine lv_goto (tgt := 54) hx hb dX0_sells_108 (by decide) ?_
            have hq : sellP (u.2.1 6) n (p + 1) (s ||| 2 ^ t) (sm + worN (u.2.1 6) n p t) bc (upd tk t (nI p)) so tk_2 so_3 mw_1 := f102_0
            have hx1 : ∀ i, s.testBit i = true → tk_2 i = u.2.1 16 i := fun i hi => (hq.1 i (by rw [Nat.testBit_or, hi]; rfl)).trans ((upd_n _ (by intro e; rw [e, c66] at hi; cases hi)).trans (htk i hi))
            obtain ⟨bc1, hx3⟩ := try_p hn hsn hcs (by omega) htk htr c66 (by unfold valN; omega) hq
            exact ih54 (t + 1) bc1 mw_1 tk_2 so_3 _ _ ls (by omega) (by first | omega | assumption | rfl | (simp_all; done) | grind) (by first | exact htk | exact hx1) (by first | exact try_u htr c66 | exact hx3) hP hS (lv_sub hl [1, 2, 3, 4, 5, 0] rfl)
          · have c66 : (hasB (nI s) (nI t)) = true := bI_1.mp c66
            rw [hasB_nI _ (by omega)] at c66
            refine lv_goto (tgt := 105) hx hb dX0_sells_69 (by decide) ?_
            refine lv_iinc (v := (nI (t + 1))) (lv' := [(5, .int (nI (t + 1))), (0, .ref o), (1, .int (nI n)), (2, .int (nI p)), (3, .int (nI s)), (4, .int (nI sm))]) hx hb dX0_sells_105 hl (k := 5) rfl (nI_inc t) (by decide) rfl (fun ls hl => ?_)
            refine lv_goto (tgt := 54) hx hb dX0_sells_108 (by decide) ?_
            exact ih54 (t + 1) bc mw tk so _ _ ls (by omega) (by first | omega | assumption | rfl | (simp_all; done) | grind) (by first | exact htk | exact hx1) (by first | exact try_u htr c66 | exact hx3) hP hS (lv_sub hl [1, 2, 3, 4, 5, 0] rfl)
    exact LP54 _ 0 b (u.1 18) (u.2.1 16) (u.2.1 17) _ _ ls (Nat.lt_succ_self _) (by first | omega | assumption | rfl | (simp_all; done) | grind) (fun _ _ => rfl) (⟨hmw, hb7, Or.inl ⟨fun j hj => absurd hj (Nat.not_lt_zero j), rfl, rfl⟩⟩) hP hS (lv_sub hl [1, 2, 3, 4, 5, 0] rfl)
  · have c2 : p = n := (nI_eq (a := p) (b := n) (by first | omega | (unfold worN; exact ocN_b _ _)) (by first | omega | (unfold worN; exact ocN_b _ _))).mp c2
    refine lv_iload hx hb dX0_sells_5 (lv_at hl 4 rfl) ?_
    refine lv_aload_n hx hb dX0_sells_7 rfl (lv_at hl 0 rfl) ?_
    refine S_get hC hK hP (oS_main _ _ _ _ _) clX0 in_X0 18 (by decide) (fD18 _ _ _ _) q315 dX0_sells_8 ?_
    refine W_top (y := (u.1 18)) (by rw [sE_f18]) ?_
    refine lv_icmp_gt (tgt := 15) hx hb dX0_sells_11 (by decide) (fun c11 => ?_) (fun c11 => ?_)
    · refine lv_aload_n hx hb dX0_sells_15 rfl (lv_at hl 0 rfl) ?_
      refine lv_iload hx hb dX0_sells_16 (lv_at hl 4 rfl) ?_
      refine S_put hC hK hP (hD _ _ _) hS (oS_main _ _ _ _ _) clX0 in_X0 tyX0_ok nmX0 18 (by decide) (pS18 _ _ _ _ _ _) q315 rfl rfl rfl rfl (Nat.le_of_ble_eq_true rfl) dX0_sells_18 (fun H locs hP hS => ?_)
      rw [sE_V18] at hP
      refine lv_iconst (v := 0) hx hb dX0_sells_21 (by decide) ?_
      refine lv_istore (lv' := [(5, .int 0), (0, .ref o), (1, .int (nI n)), (2, .int (nI p)), (3, .int (nI s)), (4, .int (nI sm))]) hx hb dX0_sells_22 hl (by decide) rfl (fun ls hl => ?_)
      have LP24 : ∀ (fu24 : Nat) (t : Nat) (so : Nat → Int32) (H : Heap) (locs : List Loc) (ls : Array Slot), n - t < fu24 → t ≤ n → (∀ i, i < t → so i = (u.2.1 16) i) → PwS G o R tx (sE u (nI sm) (u.2.1 16) so) H → va_S (AwS o R) sg.heap H locs → lv_has ls 6 [(0, .ref o), (1, .int (nI n)), (2, .int (nI p)), (3, .int (nI s)), (4, .int (nI sm)), (5, .int (nI t))] → W pg l en Rm sg mm ar bw mth cd H locs 0 0 QQ (F0 mm 24 ls []) := by
        intro fu24
        induction fu24 with
        | zero => intro t so H locs ls hm24 ht hso hP hS hl; exact absurd hm24 (Nat.not_lt_zero _)
        | succ fu24 ih24 =>
          intro t so H locs ls hm24 ht hso hP hS hl
          refine lv_iload hx hb dX0_sells_24 (lv_at hl 5 rfl) ?_
          refine lv_iload_n hx hb dX0_sells_26 rfl (lv_at hl 1 rfl) ?_
          refine lv_icmp_ge (tgt := 50) hx hb dX0_sells_27 (by decide) (fun c27 => ?_) (fun c27 => ?_)
          · have c27 : n ≤ t := (nI_leI (a := n) (b := t) (by first | omega | (unfold worN; exact ocN_b _ _)) (by first | omega | (unfold worN; exact ocN_b _ _))).mp c27
            exact hq _ _ _ _ _ _ _ dX0_sells_50 hP hS (by have hpn : p = n := (by omega); have hlt : b ≤ sm := (lt_pred hb7 (by omega)).mp (by rw [← hmw]; exact c11); exact ⟨(nI sm), (u.2.1 16), so, ⟨fun _ _ => rfl, Or.inr ⟨by omega, by rw [slF_full (by omega) hsn (by omega), Nat.add_zero], fun i hi => by rw [show n - p = 0 by omega]; exact hso i (by omega)⟩⟩, rfl⟩) (by decide) (by decide)
          · have c27 : ¬ (n ≤ t) := mt (nI_leI (a := n) (b := t) (by first | omega | (unfold worN; exact ocN_b _ _)) (by first | omega | (unfold worN; exact ocN_b _ _))).mpr c27
            refine lv_aload_n hx hb dX0_sells_30 rfl (lv_at hl 0 rfl) ?_
            refine S_get hC hK hP (oS_main _ _ _ _ _) clX0 in_X0 17 (by decide) (fD17 _ _ _ _) q314 dX0_sells_31 ?_
            refine lv_iload hx hb dX0_sells_34 (lv_at hl 5 rfl) ?_
            refine lv_aload_n hx hb dX0_sells_36 rfl (lv_at hl 0 rfl) ?_
            refine S_get hC hK hP (oS_main _ _ _ _ _) clX0 in_X0 16 (by decide) (fD16 _ _ _ _) q313 dX0_sells_37 ?_
            refine lv_iload hx hb dX0_sells_40 (lv_at hl 5 rfl) ?_
            refine S_ald hC hK hP (aS16 _ _ _ _ _) (j := t) (by decide) (rfl) (by omega) dX0_sells_42 ?_
            refine W_top (y := ((u.2.1 16) t)) (by rw [sE_g16]) ?_
            refine S_ast hC hK hP (hD _ _ _) hS (aS17 _ _ _ _ _) (bS17 _ _ _ _ _ _ _) (j := t) (by decide) (rfl) (by omega) dX0_sells_43 (fun H locs hP hS => ?_)
            rw [sE_A17] at hP
            refine lv_iinc (v := (nI (t + 1))) (lv' := [(5, .int (nI (t + 1))), (0, .ref o), (1, .int (nI n)), (2, .int (nI p)), (3, .int (nI s)), (4, .int (nI sm))]) hx hb dX0_sells_44 hl (k := 5) rfl (nI_inc t) (by decide) rfl (fun ls hl => ?_)
            refine lv_goto (tgt := 24) hx hb dX0_sells_47 (by decide) ?_
            exact ih24 (t + 1) (upd so t ((u.2.1 16) t)) _ _ ls (by omega) (by first | omega | assumption | rfl | (simp_all; done) | grind) (by intro i hi; by_cases e : i = t; (subst e; exact upd_s _ _ _); (rw [upd_n _ e]; exact hso i (by omega))) hP hS (lv_sub hl [1, 2, 3, 4, 5, 0] rfl)
      exact LP24 _ 0 (u.2.1 17) _ _ ls (Nat.lt_succ_self _) (by first | omega | assumption | rfl | (simp_all; done) | grind) (fun i hi => absurd hi (Nat.not_lt_zero i)) hP hS (lv_sub hl [1, 2, 3, 4, 5, 0] rfl)
    · exact hq _ _ _ _ _ _ _ dX0_sells_14 hP hS (by have hpn : p = n := (by omega); have hlt : ¬ b ≤ sm := (fun q => c11 (by rw [hmw]; exact (lt_pred hb7 (by omega)).mpr q)); exact ⟨(u.1 18), (u.2.1 16), (u.2.1 17), ⟨fun _ _ => rfl, Or.inl ⟨by rw [slF_full (by omega) hsn (by omega)]; omega, hmw, rfl⟩⟩, rfl⟩) (by decide) (by decide)
set_option maxHeartbeats 4000000 in
theorem c_X0_sale (G : GG) (l : Launch) (o : Nat) (R : Nat → Nat) (tx : Nat) (u : MS) (n0 : Int32) (k0 : Int32) (hD : DwS o R) : CXi G l (PwS G o R tx) (AwS o R) yX0_sale cX0_sale 3 .int 17 985 0 0 [.ref o, .int n0, .int k0] (PwS G o R tx u) (fun r w => ∃ mw : Int32, ∃ tk : Nat → Int32, ∃ so : Nat → Int32, r = (saleI (u.2.1 6) (u.1 8) n0 k0) ∧ w = (if saleG (u.1 8) n0 k0 = true then sE (mV (mV u 8 0) 18 (-1)) mw tk so else u)) := by
  refine CXi.mk RX0 pnX0 rfl (Nat.le_of_ble_eq_true rfl) (fun pg en Rm sg mm ar bw mth cd QQ ls hC hRm hK hX hS hl hq => ?_)
  have hx := hC.1; have hb := hC.2.1; have ho := hC.2.2.2.1; have hts := hC.2.2.2.2
  have hP : PwS G o R tx u sg.heap := hX
  have hl : lv_has ls 3 [(0, .ref o), (1, .int n0), (2, .int k0)] := hl
  refine lv_iload_n hx hb dX0_sale_0 rfl (lv_at hl 1 rfl) ?_
  refine lv_iconst (v := 2) hx hb dX0_sale_1 (by decide) ?_
  refine lv_bipush (v := 8) hx hb dX0_sale_2 (by decide) ?_
  refine CIs.go (rcS hC hl (c_X0_within G l n0 2 8 ) hK trivial q385 q386 q110 q387 mdX0_within (room_s hRm rfl) rfl rfl dX0_sale_4) ?_
  refine lv_if_eq (tgt := 34) hx hb dX0_sale_7 (by decide) (fun c7 => ?_) (fun c7 => ?_)
  · have c7 : (inB n0 2 8) = false := bI_0.mp c7
    refine lv_iconst (v := (-1)) hx hb dX0_sale_34 (by decide) ?_
    exact hq _ _ _ _ _ _ _ _ dX0_sale_35 hP hS (rfl) (by exact ⟨0, (u.2.1 16), (u.2.1 17), by first | (simp [saleI, saleG, c7]; done) | (simp [saleI, saleG, c7, c13, c31]; done) | (simp [saleI, saleG, c7, c13, c21]; done) | (simp [saleI, saleG, c7, c21, c31]; done), by first | (simp [saleG, c7]; done) | (simp [saleG, c7, c13, c31]; done) | (simp [saleG, c7, c13, c21]; done) | (simp [saleG, c7, c21, c31]; done)⟩) (by decide) (by decide)
  · have c7 : (inB n0 2 8) = true := bI_1.mp c7
    obtain ⟨n, hn1, hn, rfl, hnx⟩ := inB_nI2 2 8 (by decide) (by decide) c7
    have hl : lv_has ls 3 [(0, .ref o), (1, .int (nI n)), (2, .int k0)] := hl
    refine lv_iload_n hx hb dX0_sale_10 rfl (lv_at hl 2 rfl) ?_
    refine lv_bipush (v := 100) hx hb dX0_sale_11 (by decide) ?_
    refine lv_icmp_eq (tgt := 24) hx hb dX0_sale_13 (by decide) (fun c13 => ?_) (fun c13 => ?_)
    · refine lv_iload_n hx hb dX0_sale_24 rfl (lv_at hl 1 rfl) ?_
      refine lv_iload_n hx hb dX0_sale_25 rfl (lv_at hl 1 rfl) ?_
      refine lv_imul hx hb dX0_sale_26 ?_
      refine lv_aload_n hx hb dX0_sale_27 rfl (lv_at hl 0 rfl) ?_
      refine S_get (v := .int (u.1 8)) hC hK hP (oS_main _ _ _ _ _) clX0 in_X0 8 (by decide) (fD8 _ _ _ _) q305 dX0_sale_28 ?_
      refine lv_icmp_le (tgt := 36) hx hb dX0_sale_31 (by decide) (fun c31 => ?_) (fun c31 => ?_)
      · refine lv_aload_n hx hb dX0_sale_36 rfl (lv_at hl 0 rfl) ?_
        refine lv_iconst (v := 0) hx hb dX0_sale_37 (by decide) ?_
        refine S_put hC hK hP (hD _ _ _) hS (oS_main _ _ _ _ _) clX0 in_X0 tyX0_ok nmX0 8 (by decide) (pS8 _ _ _ _ _ _) q305 rfl rfl rfl rfl (Nat.le_of_ble_eq_true rfl) dX0_sale_38 (fun H locs hP hS => ?_)
        refine lv_aload_n hx hb dX0_sale_41 rfl (lv_at hl 0 rfl) ?_
        refine lv_iconst (v := (-1)) hx hb dX0_sale_42 (by decide) ?_
        refine S_put hC hK hP (hD _ _ _) hS (oS_main _ _ _ _ _) clX0 in_X0 tyX0_ok nmX0 18 (by decide) (pS18 _ _ _ _ _ _) q315 rfl rfl rfl rfl (Nat.le_of_ble_eq_true rfl) dX0_sale_43 (fun H locs hP hS => ?_)
        refine lv_aload_n hx hb dX0_sale_46 rfl (lv_at hl 0 rfl) ?_
        refine lv_iload_n hx hb dX0_sale_47 rfl (lv_at hl 1 rfl) ?_
        refine lv_iconst (v := 0) hx hb dX0_sale_48 (by decide) ?_
        refine lv_iconst (v := 0) hx hb dX0_sale_49 (by decide) ?_
        refine lv_iconst (v := 0) hx hb dX0_sale_50 (by decide) ?_
        refine CXv.go (rcV hC hl (c_X0_sells G l o R tx n (by omega) (by omega) 8 (mV (mV u 8 0) 18 (-1)) 0 0 0 0 (by omega) (by omega) (Nat.two_pow_pos n) cntN_0 (by omega) (by omega) (by show (-1 : Int32) = nI 0 - 1; decide) hD) hK hP (va_recv hK.1 hP clX0 (oS_main _ _ _ _ _)) q1143 q1145 qs42 q110 q1146 mdX0_sells (room_s hRm rfl) rfl rfl dX0_sale_51) hS (fun q h => h) (fun w51 H locs hpo hP _ _ hS => ?_)
        obtain ⟨mw_1, tk_2, so_3, f51_0, ew51⟩ := hpo
        rw [ew51] at hP
        refine lv_iload_n hx hb dX0_sale_54 rfl (lv_at hl 2 rfl) ?_
        refine lv_bipush (v := 100) hx hb dX0_sale_55 (by decide) ?_
        refine lv_icmp_ne (tgt := 67) hx hb dX0_sale_57 (by decide) (fun c57 => ?_) (fun c57 => ?_)
        · have hk : k0 = nI (ix k0) ∧ ix k0 < n := by first | exact absurd c13 c57 | exact in_n (by omega) (by omega) c21
          refine lv_aload_n hx hb dX0_sale_67 rfl (lv_at hl 0 rfl) ?_
          refine S_get hC hK hP (oS_main _ _ _ _ _) clX0 in_X0 17 (by decide) (fD17 _ _ _ _) q314 dX0_sale_68 ?_
          refine lv_iload_n hx hb dX0_sale_71 rfl (lv_at hl 2 rfl) ?_
          refine S_ald hC hK hP (aS17 _ _ _ _ _) (j := (ix k0)) (by decide) (hk.1) (by omega) dX0_sale_72 ?_
          refine W_top (y := (whoN (u.2.1 6) n k0 n 0)) (sale_w (by omega) f51_0 hk) ?_
          exact hq _ _ _ _ _ _ _ _ dX0_sale_73 hP hS (rfl) (by have hg0 : saleG (u.1 8) (nI n) k0 = true := (by first | (simp [saleG, c7, c13, c31]; done) | (simp [saleG, c7, c21, c31]; done)); exact ⟨mw_1, tk_2, so_3, by  rw [saleI, if_pos hg0, hnx]; first | (rw [if_pos (by first | exact c57 | exact Classical.not_not.mp c57)]; done) | (rw [if_neg c57]; done), by rw [if_pos hg0]⟩) (by decide) (by decide)
        · refine lv_aload_n hx hb dX0_sale_60 rfl (lv_at hl 0 rfl) ?_
          refine S_get (v := .int ((sE (mV (mV u 8 0) 18 (-1)) mw_1 tk_2 so_3).1 18)) hC hK hP (oS_main _ _ _ _ _) clX0 in_X0 18 (by decide) (fD18 _ _ _ _) q315 dX0_sale_61 ?_
          refine W_top (y := (nI (slF (u.2.1 6) n 0))) (sale_v f51_0) ?_
          refine lv_goto (tgt := 73) hx hb dX0_sale_64 (by decide) ?_
          exact hq _ _ _ _ _ _ _ _ dX0_sale_73 hP hS (rfl) (by have hg0 : saleG (u.1 8) (nI n) k0 = true := (by first | (simp [saleG, c7, c13, c31]; done) | (simp [saleG, c7, c21, c31]; done)); exact ⟨mw_1, tk_2, so_3, by  rw [saleI, if_pos hg0, hnx]; first | (rw [if_pos (by first | exact c57 | exact Classical.not_not.mp c57)]; done) | (rw [if_neg c57]; done), by rw [if_pos hg0]⟩) (by decide) (by decide)
      · refine lv_iconst (v := (-1)) hx hb dX0_sale_34 (by decide) ?_
        exact hq _ _ _ _ _ _ _ _ dX0_sale_35 hP hS (rfl) (by exact ⟨0, (u.2.1 16), (u.2.1 17), by first | (simp [saleI, saleG, c7]; done) | (simp [saleI, saleG, c7, c13, c31]; done) | (simp [saleI, saleG, c7, c13, c21]; done) | (simp [saleI, saleG, c7, c21, c31]; done), by first | (simp [saleG, c7]; done) | (simp [saleG, c7, c13, c31]; done) | (simp [saleG, c7, c13, c21]; done) | (simp [saleG, c7, c21, c31]; done)⟩) (by decide) (by decide)
    · refine lv_iload_n hx hb dX0_sale_16 rfl (lv_at hl 2 rfl) ?_
      refine lv_iload_n hx hb dX0_sale_17 rfl (lv_at hl 1 rfl) ?_
      refine CIs.go (rcS hC hl (c_X0_in G l k0 (nI n) ((nI n) - 1) (n_pred (by omega) (by omega))) hK trivial q366 q367 q110 q368 mdX0_in (room_s hRm rfl) rfl rfl dX0_sale_18) ?_
      refine lv_if_eq (tgt := 34) hx hb dX0_sale_21 (by decide) (fun c21 => ?_) (fun c21 => ?_)
      · have c21 : (inB k0 0 ((nI n) - 1)) = false := bI_0.mp c21
        refine lv_iconst (v := (-1)) hx hb dX0_sale_34 (by decide) ?_
        exact hq _ _ _ _ _ _ _ _ dX0_sale_35 hP hS (rfl) (by exact ⟨0, (u.2.1 16), (u.2.1 17), by first | (simp [saleI, saleG, c7]; done) | (simp [saleI, saleG, c7, c13, c31]; done) | (simp [saleI, saleG, c7, c13, c21]; done) | (simp [saleI, saleG, c7, c21, c31]; done), by first | (simp [saleG, c7]; done) | (simp [saleG, c7, c13, c31]; done) | (simp [saleG, c7, c13, c21]; done) | (simp [saleG, c7, c21, c31]; done)⟩) (by decide) (by decide)
      · have c21 : (inB k0 0 ((nI n) - 1)) = true := bI_1.mp c21
        refine lv_iload_n hx hb dX0_sale_24 rfl (lv_at hl 1 rfl) ?_
        refine lv_iload_n hx hb dX0_sale_25 rfl (lv_at hl 1 rfl) ?_
        refine lv_imul hx hb dX0_sale_26 ?_
        refine lv_aload_n hx hb dX0_sale_27 rfl (lv_at hl 0 rfl) ?_
        refine S_get (v := .int (u.1 8)) hC hK hP (oS_main _ _ _ _ _) clX0 in_X0 8 (by decide) (fD8 _ _ _ _) q305 dX0_sale_28 ?_
        refine lv_icmp_le (tgt := 36) hx hb dX0_sale_31 (by decide) (fun c31 => ?_) (fun c31 => ?_)
        · refine lv_aload_n hx hb dX0_sale_36 rfl (lv_at hl 0 rfl) ?_
          refine lv_iconst (v := 0) hx hb dX0_sale_37 (by decide) ?_
          refine S_put hC hK hP (hD _ _ _) hS (oS_main _ _ _ _ _) clX0 in_X0 tyX0_ok nmX0 8 (by decide) (pS8 _ _ _ _ _ _) q305 rfl rfl rfl rfl (Nat.le_of_ble_eq_true rfl) dX0_sale_38 (fun H locs hP hS => ?_)
          refine lv_aload_n hx hb dX0_sale_41 rfl (lv_at hl 0 rfl) ?_
          refine lv_iconst (v := (-1)) hx hb dX0_sale_42 (by decide) ?_
          refine S_put hC hK hP (hD _ _ _) hS (oS_main _ _ _ _ _) clX0 in_X0 tyX0_ok nmX0 18 (by decide) (pS18 _ _ _ _ _ _) q315 rfl rfl rfl rfl (Nat.le_of_ble_eq_true rfl) dX0_sale_43 (fun H locs hP hS => ?_)
          refine lv_aload_n hx hb dX0_sale_46 rfl (lv_at hl 0 rfl) ?_
          refine lv_iload_n hx hb dX0_sale_47 rfl (lv_at hl 1 rfl) ?_
          refine lv_iconst (v := 0) hx hb dX0_sale_48 (by decide) ?_
          refine lv_iconst (v := 0) hx hb dX0_sale_49 (by decide) ?_
          refine lv_iconst (v := 0) hx hb dX0_sale_50 (by decide) ?_
          refine CXv.go (rcV hC hl (c_X0_sells G l o R tx n (by omega) (by omega) 8 (mV (mV u 8 0) 18 (-1)) 0 0 0 0 (by omega) (by omega) (Nat.two_pow_pos n) cntN_0 (by omega) (by omega) (by show (-1 : Int32) = nI 0 - 1; decide) hD) hK hP (va_recv hK.1 hP clX0 (oS_main _ _ _ _ _)) q1143 q1145 qs42 q110 q1146 mdX0_sells (room_s hRm rfl) rfl rfl dX0_sale_51) hS (fun q h => h) (fun w51 H locs hpo hP _ _ hS => ?_)
          obtain ⟨mw_4, tk_5, so_6, f51_0, ew51⟩ := hpo
          rw [ew51] at hP
          refine lv_iload_n hx hb dX0_sale_54 rfl (lv_at hl 2 rfl) ?_
          refine lv_bipush (v := 100) hx hb dX0_sale_55 (by decide) ?_
          refine lv_icmp_ne (tgt := 67) hx hb dX0_sale_57 (by decide) (fun c57 => ?_) (fun c57 => ?_)
          · have hk : k0 = nI (ix k0) ∧ ix k0 < n := by first | exact absurd c13 c57 | exact in_n (by omega) (by omega) c21
            refine lv_aload_n hx hb dX0_sale_67 rfl (lv_at hl 0 rfl) ?_
            refine S_get hC hK hP (oS_main _ _ _ _ _) clX0 in_X0 17 (by decide) (fD17 _ _ _ _) q314 dX0_sale_68 ?_
            refine lv_iload_n hx hb dX0_sale_71 rfl (lv_at hl 2 rfl) ?_
            refine S_ald hC hK hP (aS17 _ _ _ _ _) (j := (ix k0)) (by decide) (hk.1) (by omega) dX0_sale_72 ?_
            refine W_top (y := (whoN (u.2.1 6) n k0 n 0)) (sale_w (by omega) f51_0 hk) ?_
            exact hq _ _ _ _ _ _ _ _ dX0_sale_73 hP hS (rfl) (by have hg0 : saleG (u.1 8) (nI n) k0 = true := (by first | (simp [saleG, c7, c13, c31]; done) | (simp [saleG, c7, c21, c31]; done)); exact ⟨mw_4, tk_5, so_6, by  rw [saleI, if_pos hg0, hnx]; first | (rw [if_pos (by first | exact c57 | exact Classical.not_not.mp c57)]; done) | (rw [if_neg c57]; done), by rw [if_pos hg0]⟩) (by decide) (by decide)
          · refine lv_aload_n hx hb dX0_sale_60 rfl (lv_at hl 0 rfl) ?_
            refine S_get (v := .int ((sE (mV (mV u 8 0) 18 (-1)) mw_4 tk_5 so_6).1 18)) hC hK hP (oS_main _ _ _ _ _) clX0 in_X0 18 (by decide) (fD18 _ _ _ _) q315 dX0_sale_61 ?_
            refine W_top (y := (nI (slF (u.2.1 6) n 0))) (sale_v f51_0) ?_
            refine lv_goto (tgt := 73) hx hb dX0_sale_64 (by decide) ?_
            exact hq _ _ _ _ _ _ _ _ dX0_sale_73 hP hS (rfl) (by have hg0 : saleG (u.1 8) (nI n) k0 = true := (by first | (simp [saleG, c7, c13, c31]; done) | (simp [saleG, c7, c21, c31]; done)); exact ⟨mw_4, tk_5, so_6, by  rw [saleI, if_pos hg0, hnx]; first | (rw [if_pos (by first | exact c57 | exact Classical.not_not.mp c57)]; done) | (rw [if_neg c57]; done), by rw [if_pos hg0]⟩) (by decide) (by decide)
        · refine lv_iconst (v := (-1)) hx hb dX0_sale_34 (by decide) ?_
          exact hq _ _ _ _ _ _ _ _ dX0_sale_35 hP hS (rfl) (by exact ⟨0, (u.2.1 16), (u.2.1 17), by first | (simp [saleI, saleG, c7]; done) | (simp [saleI, saleG, c7, c13, c31]; done) | (simp [saleI, saleG, c7, c13, c21]; done) | (simp [saleI, saleG, c7, c21, c31]; done), by first | (simp [saleG, c7]; done) | (simp [saleG, c7, c13, c31]; done) | (simp [saleG, c7, c13, c21]; done) | (simp [saleG, c7, c21, c31]; done)⟩) (by decide) (by decide)
