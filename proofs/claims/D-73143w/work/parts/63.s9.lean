set_option maxRecDepth 100000
set_option maxHeartbeats 4000000 in
theorem c_X4_dayGoes_street (G : GG) (l : Launch) (o : Nat) (R : Nat → Nat) (tx : Nat) (u : MS) (Lw : LW) (nw : Nat → Int32) (hw : WOK (u.2.1 1)) (hrow : rowA u 40 nw) (hok : dOK nw) (hsd : PB (u.2.1 21)) (hfc : PB (u.2.1 20)) (hN : nineW Lw) (hD : DwS o R) : CXv G l (PwS G o R tx) (AwS o R) yX4_dayGoes cX4_dayGoes 2 308 12233 0 0 [.ref (R 3)] (fun H => PwS G o R tx u H ∧ TxW G (AwS o R) tx Lw H) (fun w => ∃ z : Int32, ∃ F : Nat → Int32, ∃ jo : Nat → Int32, (∀ k, k < 16 → jo k = (dayS Lw (snS (u.1 25) (u.2.1 21) (u.2.1 22) (u.2.1 23) (u.2.1 20)) F00 (u.2.1 1) (nw, (u.1 46))).1 k) ∧ w = (dSa u z F ((dayS Lw (snS (u.1 25) (u.2.1 21) (u.2.1 22) (u.2.1 23) (u.2.1 20)) F00 (u.2.1 1) (nw, (u.1 46))).1 16) ((dayS Lw (snS (u.1 25) (u.2.1 21) (u.2.1 22) (u.2.1 23) (u.2.1 20)) F00 (u.2.1 1) (nw, (u.1 46))).1 17) ((dayS Lw (snS (u.1 25) (u.2.1 21) (u.2.1 22) (u.2.1 23) (u.2.1 20)) F00 (u.2.1 1) (nw, (u.1 46))).1 18) ((dayS Lw (snS (u.1 25) (u.2.1 21) (u.2.1 22) (u.2.1 23) (u.2.1 20)) F00 (u.2.1 1) (nw, (u.1 46))).1 19) ((dayS Lw (snS (u.1 25) (u.2.1 21) (u.2.1 22) (u.2.1 23) (u.2.1 20)) F00 (u.2.1 1) (nw, (u.1 46))).1 20) ((dayS Lw (snS (u.1 25) (u.2.1 21) (u.2.1 22) (u.2.1 23) (u.2.1 20)) F00 (u.2.1 1) (nw, (u.1 46))).2) jo)) := by
  refine CXv.mk RX4 pnX4 rfl (Nat.le_of_ble_eq_true rfl) (fun pg en Rm sg mm ar bw mth cd QQ ls hC hRm hK hX hS hl hq => ?_)
  have hx := hC.1; have hb := hC.2.1; have ho := hC.2.2.2.1; have hts := hC.2.2.2.2
  obtain ⟨hP, hX2⟩ := hX
  have hl : lv_has ls 2 [(0, .ref (R 3))] := hl
  have hP : PwS G o R tx (dSa u (u.1 30) (fcU u) (u.1 41) (u.1 42) (u.1 43) (u.1 44) (u.1 45) (u.1 46) (u.2.1 40)) sg.heap := by rw [dSa_self]; exact hP
  have hr1 : u.1 41 = nw 16 := hrow.1
  have hr2 : u.1 42 = nw 17 := hrow.2.1
  have hr3 : u.1 43 = nw 18 := hrow.2.2.1
  have hr4 : u.1 44 = nw 19 := hrow.2.2.2.1
  have hr5 : u.1 45 = nw 20 := hrow.2.2.2.2.1
  have hjo : ∀ k, k < 16 → u.2.1 40 k = nw k := hrow.2.2.2.2.2
  rw [hr1, hr2, hr3, hr4, hr5] at hP
  refine lv_iconst (v := 0) hx hb dX4_dayGoes_0 (by decide) ?_
  refine lv_istore_n (lv' := [(1, .int 0), (0, .ref (R 3))]) hx hb dX4_dayGoes_1 rfl hl (by decide) rfl (fun ls hl => ?_)
  have LP2 : ∀ (fu2 : Nat) (t : Nat) (z : Int32) (c2 : Int32) (F : Nat → Int32) (jo : Nat → Int32) (n2 : Nat → Int32) (H : Heap) (locs : List Loc) (ls : Array Slot), 12 - t < fu2 → t ≤ 12 → (n2, c2) = turnsG Lw (snS (u.1 25) (u.2.1 21) (u.2.1 22) (u.2.1 23) (u.2.1 20)) F00 (u.2.1 1) (nw, (u.1 46)) t → (∀ k, k < 16 → jo k = n2 k) → dOK n2 → PwS G o R tx (dSa u z F (n2 16) (n2 17) (n2 18) (n2 19) (n2 20) c2 jo) H → va_S (AwS o R) sg.heap H locs → lv_has ls 2 [(0, .ref (R 3)), (1, .int (nI t))] → W pg l en Rm sg mm ar bw mth cd H locs 0 0 QQ (F0 mm 2 ls []) := by
    intro fu2
    induction fu2 with
    | zero => intro t z c2 F jo n2 H locs ls hm2 ht hinv hjo2 ho2 hP hS hl; exact absurd hm2 (Nat.not_lt_zero _)
    | succ fu2 ih2 =>
      intro t z c2 F jo n2 H locs ls hm2 ht hinv hjo2 ho2 hP hS hl
      refine lv_iload_n hx hb dX4_dayGoes_2 rfl (lv_at hl 1 rfl) ?_
      refine lv_bipush (v := 12) hx hb dX4_dayGoes_3 (by decide) ?_
      refine lv_icmp_ge (tgt := 32) hx hb dX4_dayGoes_5 (by decide) (fun c5 => ?_) (fun c5 => ?_)
      · have c5 : 12 ≤ t := (nI_leI (a := 12) (b := t) (by omega) (by omega)).mp c5
        refine lv_aload_n hx hb dX4_dayGoes_32 rfl (lv_at hl 0 rfl) ?_
        refine lv_dup hx hb dX4_dayGoes_33 rfl ?_
        refine S_get hC hK hP (oS_street _ _ _ _ _) clX4 in_X4 4 (by decide) (fD44 _ _ _ _) q235 dX4_dayGoes_34 ?_
        refine W_top (y := (n2 19)) (by rw [dSa_f44]) ?_
        refine lv_iconst (v := 1) hx hb dX4_dayGoes_37 (by decide) ?_
        refine lv_iadd hx hb dX4_dayGoes_38 ?_
        refine S_put hC hK hP (hD _ _ _) hS (oS_street _ _ _ _ _) clX4 in_X4 tyX4_ok nmX4 4 (by decide) (pS44 _ _ _ _ _ _) q235 rfl rfl rfl rfl (Nat.le_of_ble_eq_true rfl) dX4_dayGoes_39 (fun H locs hP hS => ?_)
        rw [dSa_V44] at hP
        exact hq _ _ _ _ _ _ _ dX4_dayGoes_42 hP hS (by have e12 : t = 12 := (by omega); subst e12; exact ⟨z, F, jo, (fun k hk => by rw [dayS_eq hinv]; exact (hjo2 k hk).trans (upd_n _ (by omega)).symm), by rw [dayS_eq hinv]; rfl⟩) (by decide) (by decide)
      · have c5 : ¬ (12 ≤ t) := mt (nI_leI (a := 12) (b := t) (by omega) (by omega)).mpr c5
        refine lv_aload_n hx hb dX4_dayGoes_8 rfl (lv_at hl 0 rfl) ?_
        refine S_get hC hK hP (oS_street _ _ _ _ _) clX4 in_X4 7 (by decide) (fD47 _ _ _ _) q241 dX4_dayGoes_9 ?_
        refine S_getN hC hK hP (oS_main _ _ _ _ _) clX0 in_X0 1 (by decide) (fD1 _ _ _ _) nq294 dX4_dayGoes_12 ?_
        refine lv_iload_n hx hb dX4_dayGoes_15 rfl (lv_at hl 1 rfl) ?_
        refine S_ald hC hK hP (aS1 _ _ _ _ _) (j := t) (by decide) (rfl) (by omega) dX4_dayGoes_16 ?_
        refine W_top (y := ((u.2.1 1) t)) (by rw [dSa_g1]) ?_
        refine lv_iconst (v := (-1)) hx hb dX4_dayGoes_17 (by decide) ?_
        refine lv_icmp_eq (tgt := 26) hx hb dX4_dayGoes_18 (by decide) (fun c18 => ?_) (fun c18 => ?_)
        · refine lv_iinc (v := (nI (t + 1))) (lv' := [(1, .int (nI (t + 1))), (0, .ref (R 3))]) hx hb dX4_dayGoes_26 hl (k := 1) rfl (nI_inc t) (by decide) rfl (fun ls hl => ?_)
          refine lv_goto (tgt := 2) hx hb dX4_dayGoes_29 (by decide) ?_
          exact ih2 (t + 1) z c2 F jo n2 _ _ ls (by omega) (by first | omega | assumption | rfl | (simp_all; done) | grind) (by first | (rw [turnsG_n c18]; exact hinv) | (rw [turnsG_g c18, ← hinv])) (by first | exact f23_0 | exact hjo2) (by first | exact ho2 | exact dOK_go (fun j t => sB_seen _ _ _ _ _ j t) (hw.ix (t := t) (by omega) c18).2 (q := (n2, c2)) ho2) hP hS (lv_sub hl [1, 0] rfl)
        · refine lv_aload_n hx hb dX4_dayGoes_21 rfl (lv_at hl 0 rfl) ?_
          refine lv_iload_n hx hb dX4_dayGoes_22 rfl (lv_at hl 1 rfl) ?_
          refine CXv.go (rcV hC hl (c_X4_turnGoes_street G l o R tx (dSa u z F (n2 16) (n2 17) (n2 18) (n2 19) (n2 20) c2 jo) t Lw n2 (by omega) (hw) (c18) (⟨rfl, rfl, rfl, rfl, rfl, hjo2⟩) (ho2) (hsd) (hfc) (hN) hD) hK ⟨hP, (TxW.keep hS.2.1 hX2)⟩ (va_recv hK.1 hP clX4 (oS_street _ _ _ _ _)) q876 q878 qs23 q114 q879 mdX4_turnGoes (room_s hRm rfl) rfl rfl dX4_dayGoes_23) hS (fun q h => h) (fun w23 H locs hpo hP _ _ hS => ?_)
          obtain ⟨z_1, F_2, jo_3, f23_0, ew23⟩ := hpo
          rw [ew23] at hP
          rw [dSa_again] at hP
          simp only [dSa_f25, dSa_f46, dSa_g1, dSa_g20, dSa_g21, dSa_g22, dSa_g23] at hP
          refine lv_iinc (v := (nI (t + 1))) (lv' := [(1, .int (nI (t + 1))), (0, .ref (R 3))]) hx hb dX4_dayGoes_26 hl (k := 1) rfl (nI_inc t) (by decide) rfl (fun ls hl => ?_)
          refine lv_goto (tgt := 2) hx hb dX4_dayGoes_29 (by decide) ?_
          exact ih2 (t + 1) z_1 ((goS Lw (snS (u.1 25) (u.2.1 21) (u.2.1 22) (u.2.1 23) (u.2.1 20)) F00 (u.2.1 1) t (n2, c2)).2) F_2 jo_3 ((goS Lw (snS (u.1 25) (u.2.1 21) (u.2.1 22) (u.2.1 23) (u.2.1 20)) F00 (u.2.1 1) t (n2, c2)).1) _ _ ls (by omega) (by first | omega | assumption | rfl | (simp_all; done) | grind) (by first | (rw [turnsG_n c18]; exact hinv) | (rw [turnsG_g c18, ← hinv])) (by first | exact f23_0 | exact hjo2) (by first | exact ho2 | exact dOK_go (fun j t => sB_seen _ _ _ _ _ j t) (hw.ix (t := t) (by omega) c18).2 (q := (n2, c2)) ho2) hP hS (lv_sub hl [1, 0] rfl)
  exact LP2 _ 0 (u.1 30) (u.1 46) (fcU u) (u.2.1 40) nw _ _ ls (Nat.lt_succ_self _) (by first | omega | assumption | rfl | (simp_all; done) | grind) (rfl) (hjo) (hok) hP hS (lv_sub hl [1, 0] rfl)
set_option maxHeartbeats 4000000 in
theorem c_X4_goes_street (G : GG) (l : Launch) (o : Nat) (R : Nat → Nat) (tx : Nat) (u : MS) (n : Nat) (Lw : LW) (nw : Nat → Int32) (hn : n ≤ 100) (hw : WOK (u.2.1 1)) (hrow : rowA u 40 nw) (hok : dOK nw) (hsd : PB (u.2.1 21)) (hfc : PB (u.2.1 20)) (hN : nineW Lw) (hD : DwS o R) : CXq G l (PwS G o R tx) (AwS o R) yX4_goes cX4_goes 3 (.object "SharedWindow$Street") 309 12254 0 0 [.ref (R 3), .int (nI n)] (fun H => PwS G o R tx u H ∧ TxW G (AwS o R) tx Lw H) (fun r w => ∃ z : Int32, ∃ F : Nat → Int32, ∃ jo : Nat → Int32, (∀ k, k < 16 → jo k = (daysS Lw (snS (u.1 25) (u.2.1 21) (u.2.1 22) (u.2.1 23) (u.2.1 20)) F00 (u.2.1 1) n (nw, 0)).1 k) ∧ r = some (R 3) ∧ w = (dSa u z F ((daysS Lw (snS (u.1 25) (u.2.1 21) (u.2.1 22) (u.2.1 23) (u.2.1 20)) F00 (u.2.1 1) n (nw, 0)).1 16) ((daysS Lw (snS (u.1 25) (u.2.1 21) (u.2.1 22) (u.2.1 23) (u.2.1 20)) F00 (u.2.1 1) n (nw, 0)).1 17) ((daysS Lw (snS (u.1 25) (u.2.1 21) (u.2.1 22) (u.2.1 23) (u.2.1 20)) F00 (u.2.1 1) n (nw, 0)).1 18) ((daysS Lw (snS (u.1 25) (u.2.1 21) (u.2.1 22) (u.2.1 23) (u.2.1 20)) F00 (u.2.1 1) n (nw, 0)).1 19) ((daysS Lw (snS (u.1 25) (u.2.1 21) (u.2.1 22) (u.2.1 23) (u.2.1 20)) F00 (u.2.1 1) n (nw, 0)).1 20) ((daysS Lw (snS (u.1 25) (u.2.1 21) (u.2.1 22) (u.2.1 23) (u.2.1 20)) F00 (u.2.1 1) n (nw, 0)).2) jo)) := by
  refine CXq.mk RX4 (Or.inl ⟨_, rfl⟩) pnX4 rfl (Nat.le_of_ble_eq_true rfl) (fun pg en Rm sg mm ar bw mth cd QQ ls hC hRm hK hX hS hl hq => ?_)
  have hx := hC.1; have hb := hC.2.1; have ho := hC.2.2.2.1; have hts := hC.2.2.2.2
  obtain ⟨hP, hX2⟩ := hX
  have hl : lv_has ls 3 [(0, .ref (R 3)), (1, .int (nI n))] := hl
  have hP : PwS G o R tx (dSa u (u.1 30) (fcU u) (u.1 41) (u.1 42) (u.1 43) (u.1 44) (u.1 45) (u.1 46) (u.2.1 40)) sg.heap := by rw [dSa_self]; exact hP
  have hr1 : u.1 41 = nw 16 := hrow.1
  have hr2 : u.1 42 = nw 17 := hrow.2.1
  have hr3 : u.1 43 = nw 18 := hrow.2.2.1
  have hr4 : u.1 44 = nw 19 := hrow.2.2.2.1
  have hr5 : u.1 45 = nw 20 := hrow.2.2.2.2.1
  have hjo : ∀ k, k < 16 → u.2.1 40 k = nw k := hrow.2.2.2.2.2
  rw [hr1, hr2, hr3, hr4, hr5] at hP
  refine lv_aload_n hx hb dX4_goes_0 rfl (lv_at hl 0 rfl) ?_
  refine lv_iconst (v := 0) hx hb dX4_goes_1 (by decide) ?_
  refine S_put hC hK hP (hD _ _ _) hS (oS_street _ _ _ _ _) clX4 in_X4 tyX4_ok nmX4 6 (by decide) (pS46 _ _ _ _ _ _) q239 rfl rfl rfl rfl (Nat.le_of_ble_eq_true rfl) dX4_goes_2 (fun H locs hP hS => ?_)
  rw [dSa_V46] at hP
  refine lv_iconst (v := 0) hx hb dX4_goes_5 (by decide) ?_
  refine lv_istore_n (lv' := [(2, .int 0), (0, .ref (R 3)), (1, .int (nI n))]) hx hb dX4_goes_6 rfl hl (by decide) rfl (fun ls hl => ?_)
  have LP7 : ∀ (fu7 : Nat) (k : Nat) (z : Int32) (c2 : Int32) (F : Nat → Int32) (jo : Nat → Int32) (n2 : Nat → Int32) (H : Heap) (locs : List Loc) (ls : Array Slot), n - k < fu7 → k ≤ n → daysS Lw (snS (u.1 25) (u.2.1 21) (u.2.1 22) (u.2.1 23) (u.2.1 20)) F00 (u.2.1 1) n (nw, 0) = daysS Lw (snS (u.1 25) (u.2.1 21) (u.2.1 22) (u.2.1 23) (u.2.1 20)) F00 (u.2.1 1) (n - k) (n2, c2) → (∀ k, k < 16 → jo k = n2 k) → dOK n2 → PwS G o R tx (dSa u z F (n2 16) (n2 17) (n2 18) (n2 19) (n2 20) c2 jo) H → va_S (AwS o R) sg.heap H locs → lv_has ls 3 [(0, .ref (R 3)), (1, .int (nI n)), (2, .int (nI k))] → W pg l en Rm sg mm ar bw mth cd H locs 0 0 QQ (F0 mm 7 ls []) := by
    intro fu7
    induction fu7 with
    | zero => intro k z c2 F jo n2 H locs ls hm7 hk hinv hjo2 ho2 hP hS hl; exact absurd hm7 (Nat.not_lt_zero _)
    | succ fu7 ih7 =>
      intro k z c2 F jo n2 H locs ls hm7 hk hinv hjo2 ho2 hP hS hl
      refine lv_iload_n hx hb dX4_goes_7 rfl (lv_at hl 2 rfl) ?_
      refine lv_iload_n hx hb dX4_goes_8 rfl (lv_at hl 1 rfl) ?_
      refine lv_icmp_ge (tgt := 32) hx hb dX4_goes_9 (by decide) (fun c9 => ?_) (fun c9 => ?_)
      · have c9 : n ≤ k := (nI_leI (a := n) (b := k) (by omega) (by omega)).mp c9
        refine lv_aload_n hx hb dX4_goes_32 rfl (lv_at hl 0 rfl) ?_
        exact hq _ _ (some (R 3)) _ _ _ _ _ dX4_goes_33 hP hS (by first | (have hDN : daysS Lw (snS (u.1 25) (u.2.1 21) (u.2.1 22) (u.2.1 23) (u.2.1 20)) F00 (u.2.1 1) n (nw, 0) = (n2, c2) := (by rw [hinv, show n - k = 0 by omega, daysS_0]); exact ⟨z, F, jo, (fun k hk => by rw [hDN]; exact hjo2 k hk), rfl, by rw [hDN]⟩) | (have hDN : daysS Lw (snS (u.1 25) (u.2.1 21) (u.2.1 22) (u.2.1 23) (u.2.1 20)) F00 (u.2.1 1) n (nw, 0) = (n2, c2) := (by rw [hinv, daysS_last c19]); exact ⟨z, F, jo, (fun k hk => by rw [hDN]; exact hjo2 k hk), rfl, by rw [hDN]⟩)) (by decide) (by decide)
      · have c9 : ¬ (n ≤ k) := mt (nI_leI (a := n) (b := k) (by omega) (by omega)).mpr c9
        refine lv_aload_n hx hb dX4_goes_12 rfl (lv_at hl 0 rfl) ?_
        refine S_get hC hK hP (oS_street _ _ _ _ _) clX4 in_X4 4 (by decide) (fD44 _ _ _ _) q235 dX4_goes_13 ?_
        refine W_top (y := (n2 19)) (by rw [dSa_f44]) ?_
        refine lv_sipush (v := 9999) hx hb dX4_goes_16 (by decide) ?_
        refine lv_icmp_ge (tgt := 32) hx hb dX4_goes_19 (by decide) (fun c19 => ?_) (fun c19 => ?_)
        · refine lv_aload_n hx hb dX4_goes_32 rfl (lv_at hl 0 rfl) ?_
          exact hq _ _ (some (R 3)) _ _ _ _ _ dX4_goes_33 hP hS (by first | (have hDN : daysS Lw (snS (u.1 25) (u.2.1 21) (u.2.1 22) (u.2.1 23) (u.2.1 20)) F00 (u.2.1 1) n (nw, 0) = (n2, c2) := (by rw [hinv, show n - k = 0 by omega, daysS_0]); exact ⟨z, F, jo, (fun k hk => by rw [hDN]; exact hjo2 k hk), rfl, by rw [hDN]⟩) | (have hDN : daysS Lw (snS (u.1 25) (u.2.1 21) (u.2.1 22) (u.2.1 23) (u.2.1 20)) F00 (u.2.1 1) n (nw, 0) = (n2, c2) := (by rw [hinv, daysS_last c19]); exact ⟨z, F, jo, (fun k hk => by rw [hDN]; exact hjo2 k hk), rfl, by rw [hDN]⟩)) (by decide) (by decide)
        · refine lv_aload_n hx hb dX4_goes_22 rfl (lv_at hl 0 rfl) ?_
          refine CXv.go (rcV hC hl (c_X4_dayGoes_street G l o R tx (dSa u z F (n2 16) (n2 17) (n2 18) (n2 19) (n2 20) c2 jo) Lw n2 (hw) (⟨rfl, rfl, rfl, rfl, rfl, hjo2⟩) (ho2) (hsd) (hfc) (hN) hD) hK ⟨hP, (TxW.keep hS.2.1 hX2)⟩ (va_recv hK.1 hP clX4 (oS_street _ _ _ _ _)) q872 q873 q874 q114 q875 mdX4_dayGoes (room_s hRm rfl) rfl rfl dX4_goes_23) hS (fun q h => h) (fun w23 H locs hpo hP _ _ hS => ?_)
          obtain ⟨z_1, F_2, jo_3, f23_0, ew23⟩ := hpo
          rw [ew23] at hP
          rw [dSa_again] at hP
          simp only [dSa_f25, dSa_f46, dSa_g1, dSa_g20, dSa_g21, dSa_g22, dSa_g23] at hP
          refine lv_iinc (v := (nI (k + 1))) (lv' := [(2, .int (nI (k + 1))), (0, .ref (R 3)), (1, .int (nI n))]) hx hb dX4_goes_26 hl (k := 2) rfl (nI_inc k) (by decide) rfl (fun ls hl => ?_)
          refine lv_goto (tgt := 7) hx hb dX4_goes_29 (by decide) ?_
          exact ih7 (k + 1) z_1 ((dayS Lw (snS (u.1 25) (u.2.1 21) (u.2.1 22) (u.2.1 23) (u.2.1 20)) F00 (u.2.1 1) (n2, c2)).2) F_2 jo_3 ((dayS Lw (snS (u.1 25) (u.2.1 21) (u.2.1 22) (u.2.1 23) (u.2.1 20)) F00 (u.2.1 1) (n2, c2)).1) _ _ ls (by omega) (by first | omega | assumption | rfl | (simp_all; done) | grind) (by rw [hinv]; exact daysS_step (by omega) (Int32.not_le.mp c19)) (f23_0) (dOK_day (fun j t => sB_seen _ _ _ _ _ j t) hw (q := (n2, c2)) ho2) hP hS (lv_sub hl [1, 2, 0] rfl)
  exact LP7 _ 0 (u.1 30) 0 (fcU u) (u.2.1 40) nw _ _ ls (Nat.lt_succ_self _) (by first | omega | assumption | rfl | (simp_all; done) | grind) (rfl) (hjo) (hok) hP hS (lv_sub hl [1, 2, 0] rfl)
set_option maxHeartbeats 4000000 in
theorem c_X4_dayGoes_then (G : GG) (l : Launch) (o : Nat) (R : Nat → Nat) (tx : Nat) (u : MS) (Lw : LW) (nw : Nat → Int32) (hw : WOK (u.2.1 1)) (hrow : rowA u 50 nw) (hok : dOK nw) (hsd : PB (u.2.1 21)) (hfc : PB (u.2.1 20)) (hN : nineW Lw) (hD : DwS o R) : CXv G l (PwS G o R tx) (AwS o R) yX4_dayGoes cX4_dayGoes 2 308 12233 0 0 [.ref (R 4)] (fun H => PwS G o R tx u H ∧ TxW G (AwS o R) tx Lw H) (fun w => ∃ z : Int32, ∃ F : Nat → Int32, ∃ jo : Nat → Int32, (∀ k, k < 16 → jo k = (dayS Lw (snS (u.1 25) (u.2.1 21) (u.2.1 22) (u.2.1 23) (u.2.1 20)) F00 (u.2.1 1) (nw, (u.1 56))).1 k) ∧ w = (dSb u z F ((dayS Lw (snS (u.1 25) (u.2.1 21) (u.2.1 22) (u.2.1 23) (u.2.1 20)) F00 (u.2.1 1) (nw, (u.1 56))).1 16) ((dayS Lw (snS (u.1 25) (u.2.1 21) (u.2.1 22) (u.2.1 23) (u.2.1 20)) F00 (u.2.1 1) (nw, (u.1 56))).1 17) ((dayS Lw (snS (u.1 25) (u.2.1 21) (u.2.1 22) (u.2.1 23) (u.2.1 20)) F00 (u.2.1 1) (nw, (u.1 56))).1 18) ((dayS Lw (snS (u.1 25) (u.2.1 21) (u.2.1 22) (u.2.1 23) (u.2.1 20)) F00 (u.2.1 1) (nw, (u.1 56))).1 19) ((dayS Lw (snS (u.1 25) (u.2.1 21) (u.2.1 22) (u.2.1 23) (u.2.1 20)) F00 (u.2.1 1) (nw, (u.1 56))).1 20) ((dayS Lw (snS (u.1 25) (u.2.1 21) (u.2.1 22) (u.2.1 23) (u.2.1 20)) F00 (u.2.1 1) (nw, (u.1 56))).2) jo)) := by
  refine CXv.mk RX4 pnX4 rfl (Nat.le_of_ble_eq_true rfl) (fun pg en Rm sg mm ar bw mth cd QQ ls hC hRm hK hX hS hl hq => ?_)
  have hx := hC.1; have hb := hC.2.1; have ho := hC.2.2.2.1; have hts := hC.2.2.2.2
  obtain ⟨hP, hX2⟩ := hX
  have hl : lv_has ls 2 [(0, .ref (R 4))] := hl
  have hP : PwS G o R tx (dSb u (u.1 30) (fcU u) (u.1 51) (u.1 52) (u.1 53) (u.1 54) (u.1 55) (u.1 56) (u.2.1 50)) sg.heap := by rw [dSb_self]; exact hP
  have hr1 : u.1 51 = nw 16 := hrow.1
  have hr2 : u.1 52 = nw 17 := hrow.2.1
  have hr3 : u.1 53 = nw 18 := hrow.2.2.1
  have hr4 : u.1 54 = nw 19 := hrow.2.2.2.1
  have hr5 : u.1 55 = nw 20 := hrow.2.2.2.2.1
  have hjo : ∀ k, k < 16 → u.2.1 50 k = nw k := hrow.2.2.2.2.2
  rw [hr1, hr2, hr3, hr4, hr5] at hP
  refine lv_iconst (v := 0) hx hb dX4_dayGoes_0 (by decide) ?_
  refine lv_istore_n (lv' := [(1, .int 0), (0, .ref (R 4))]) hx hb dX4_dayGoes_1 rfl hl (by decide) rfl (fun ls hl => ?_)
  have LP2 : ∀ (fu2 : Nat) (t : Nat) (z : Int32) (c2 : Int32) (F : Nat → Int32) (jo : Nat → Int32) (n2 : Nat → Int32) (H : Heap) (locs : List Loc) (ls : Array Slot), 12 - t < fu2 → t ≤ 12 → (n2, c2) = turnsG Lw (snS (u.1 25) (u.2.1 21) (u.2.1 22) (u.2.1 23) (u.2.1 20)) F00 (u.2.1 1) (nw, (u.1 56)) t → (∀ k, k < 16 → jo k = n2 k) → dOK n2 → PwS G o R tx (dSb u z F (n2 16) (n2 17) (n2 18) (n2 19) (n2 20) c2 jo) H → va_S (AwS o R) sg.heap H locs → lv_has ls 2 [(0, .ref (R 4)), (1, .int (nI t))] → W pg l en Rm sg mm ar bw mth cd H locs 0 0 QQ (F0 mm 2 ls []) := by
    intro fu2
    induction fu2 with
    | zero => intro t z c2 F jo n2 H locs ls hm2 ht hinv hjo2 ho2 hP hS hl; exact absurd hm2 (Nat.not_lt_zero _)
    | succ fu2 ih2 =>
      intro t z c2 F jo n2 H locs ls hm2 ht hinv hjo2 ho2 hP hS hl
      refine lv_iload_n hx hb dX4_dayGoes_2 rfl (lv_at hl 1 rfl) ?_
      refine lv_bipush (v := 12) hx hb dX4_dayGoes_3 (by decide) ?_
      refine lv_icmp_ge (tgt := 32) hx hb dX4_dayGoes_5 (by decide) (fun c5 => ?_) (fun c5 => ?_)
      · have c5 : 12 ≤ t := (nI_leI (a := 12) (b := t) (by omega) (by omega)).mp c5
        refine lv_aload_n hx hb dX4_dayGoes_32 rfl (lv_at hl 0 rfl) ?_
        refine lv_dup hx hb dX4_dayGoes_33 rfl ?_
        refine S_get hC hK hP (oS_then _ _ _ _ _) clX4 in_X4 4 (by decide) (fD54 _ _ _ _) q235 dX4_dayGoes_34 ?_
        refine W_top (y := (n2 19)) (by rw [dSb_f54]) ?_
        refine lv_iconst (v := 1) hx hb dX4_dayGoes_37 (by decide) ?_
        refine lv_iadd hx hb dX4_dayGoes_38 ?_
        refine S_put hC hK hP (hD _ _ _) hS (oS_then _ _ _ _ _) clX4 in_X4 tyX4_ok nmX4 4 (by decide) (pS54 _ _ _ _ _ _) q235 rfl rfl rfl rfl (Nat.le_of_ble_eq_true rfl) dX4_dayGoes_39 (fun H locs hP hS => ?_)
        rw [dSb_V54] at hP
        exact hq _ _ _ _ _ _ _ dX4_dayGoes_42 hP hS (by have e12 : t = 12 := (by omega); subst e12; exact ⟨z, F, jo, (fun k hk => by rw [dayS_eq hinv]; exact (hjo2 k hk).trans (upd_n _ (by omega)).symm), by rw [dayS_eq hinv]; rfl⟩) (by decide) (by decide)
      · have c5 : ¬ (12 ≤ t) := mt (nI_leI (a := 12) (b := t) (by omega) (by omega)).mpr c5
        refine lv_aload_n hx hb dX4_dayGoes_8 rfl (lv_at hl 0 rfl) ?_
        refine S_get hC hK hP (oS_then _ _ _ _ _) clX4 in_X4 7 (by decide) (fD57 _ _ _ _) q241 dX4_dayGoes_9 ?_
        refine S_getN hC hK hP (oS_main _ _ _ _ _) clX0 in_X0 1 (by decide) (fD1 _ _ _ _) nq294 dX4_dayGoes_12 ?_
        refine lv_iload_n hx hb dX4_dayGoes_15 rfl (lv_at hl 1 rfl) ?_
        refine S_ald hC hK hP (aS1 _ _ _ _ _) (j := t) (by decide) (rfl) (by omega) dX4_dayGoes_16 ?_
        refine W_top (y := ((u.2.1 1) t)) (by rw [dSb_g1]) ?_
        refine lv_iconst (v := (-1)) hx hb dX4_dayGoes_17 (by decide) ?_
        refine lv_icmp_eq (tgt := 26) hx hb dX4_dayGoes_18 (by decide) (fun c18 => ?_) (fun c18 => ?_)
        · refine lv_iinc (v := (nI (t + 1))) (lv' := [(1, .int (nI (t + 1))), (0, .ref (R 4))]) hx hb dX4_dayGoes_26 hl (k := 1) rfl (nI_inc t) (by decide) rfl (fun ls hl => ?_)
          refine lv_goto (tgt := 2) hx hb dX4_dayGoes_29 (by decide) ?_
          exact ih2 (t + 1) z c2 F jo n2 _ _ ls (by omega) (by first | omega | assumption | rfl | (simp_all; done) | grind) (by first | (rw [turnsG_n c18]; exact hinv) | (rw [turnsG_g c18, ← hinv])) (by first | exact f23_0 | exact hjo2) (by first | exact ho2 | exact dOK_go (fun j t => sB_seen _ _ _ _ _ j t) (hw.ix (t := t) (by omega) c18).2 (q := (n2, c2)) ho2) hP hS (lv_sub hl [1, 0] rfl)
        · refine lv_aload_n hx hb dX4_dayGoes_21 rfl (lv_at hl 0 rfl) ?_
          refine lv_iload_n hx hb dX4_dayGoes_22 rfl (lv_at hl 1 rfl) ?_
          refine CXv.go (rcV hC hl (c_X4_turnGoes_then G l o R tx (dSb u z F (n2 16) (n2 17) (n2 18) (n2 19) (n2 20) c2 jo) t Lw n2 (by omega) (hw) (c18) (⟨rfl, rfl, rfl, rfl, rfl, hjo2⟩) (ho2) (hsd) (hfc) (hN) hD) hK ⟨hP, (TxW.keep hS.2.1 hX2)⟩ (va_recv hK.1 hP clX4 (oS_then _ _ _ _ _)) q876 q878 qs23 q114 q879 mdX4_turnGoes (room_s hRm rfl) rfl rfl dX4_dayGoes_23) hS (fun q h => h) (fun w23 H locs hpo hP _ _ hS => ?_)
          obtain ⟨z_1, F_2, jo_3, f23_0, ew23⟩ := hpo
          rw [ew23] at hP
          rw [dSb_again] at hP
          simp only [dSb_f25, dSb_f56, dSb_g1, dSb_g20, dSb_g21, dSb_g22, dSb_g23] at hP
          refine lv_iinc (v := (nI (t + 1))) (lv' := [(1, .int (nI (t + 1))), (0, .ref (R 4))]) hx hb dX4_dayGoes_26 hl (k := 1) rfl (nI_inc t) (by decide) rfl (fun ls hl => ?_)
          refine lv_goto (tgt := 2) hx hb dX4_dayGoes_29 (by decide) ?_
          exact ih2 (t + 1) z_1 ((goS Lw (snS (u.1 25) (u.2.1 21) (u.2.1 22) (u.2.1 23) (u.2.1 20)) F00 (u.2.1 1) t (n2, c2)).2) F_2 jo_3 ((goS Lw (snS (u.1 25) (u.2.1 21) (u.2.1 22) (u.2.1 23) (u.2.1 20)) F00 (u.2.1 1) t (n2, c2)).1) _ _ ls (by omega) (by first | omega | assumption | rfl | (simp_all; done) | grind) (by first | (rw [turnsG_n c18]; exact hinv) | (rw [turnsG_g c18, ← hinv])) (by first | exact f23_0 | exact hjo2) (by first | exact ho2 | exact dOK_go (fun j t => sB_seen _ _ _ _ _ j t) (hw.ix (t := t) (by omega) c18).2 (q := (n2, c2)) ho2) hP hS (lv_sub hl [1, 0] rfl)
  exact LP2 _ 0 (u.1 30) (u.1 56) (fcU u) (u.2.1 50) nw _ _ ls (Nat.lt_succ_self _) (by first | omega | assumption | rfl | (simp_all; done) | grind) (rfl) (hjo) (hok) hP hS (lv_sub hl [1, 0] rfl)
set_option maxHeartbeats 4000000 in
theorem c_X4_goes_then (G : GG) (l : Launch) (o : Nat) (R : Nat → Nat) (tx : Nat) (u : MS) (n : Nat) (Lw : LW) (nw : Nat → Int32) (hn : n ≤ 100) (hw : WOK (u.2.1 1)) (hrow : rowA u 50 nw) (hok : dOK nw) (hsd : PB (u.2.1 21)) (hfc : PB (u.2.1 20)) (hN : nineW Lw) (hD : DwS o R) : CXq G l (PwS G o R tx) (AwS o R) yX4_goes cX4_goes 3 (.object "SharedWindow$Street") 309 12254 0 0 [.ref (R 4), .int (nI n)] (fun H => PwS G o R tx u H ∧ TxW G (AwS o R) tx Lw H) (fun r w => ∃ z : Int32, ∃ F : Nat → Int32, ∃ jo : Nat → Int32, (∀ k, k < 16 → jo k = (daysS Lw (snS (u.1 25) (u.2.1 21) (u.2.1 22) (u.2.1 23) (u.2.1 20)) F00 (u.2.1 1) n (nw, 0)).1 k) ∧ r = some (R 4) ∧ w = (dSb u z F ((daysS Lw (snS (u.1 25) (u.2.1 21) (u.2.1 22) (u.2.1 23) (u.2.1 20)) F00 (u.2.1 1) n (nw, 0)).1 16) ((daysS Lw (snS (u.1 25) (u.2.1 21) (u.2.1 22) (u.2.1 23) (u.2.1 20)) F00 (u.2.1 1) n (nw, 0)).1 17) ((daysS Lw (snS (u.1 25) (u.2.1 21) (u.2.1 22) (u.2.1 23) (u.2.1 20)) F00 (u.2.1 1) n (nw, 0)).1 18) ((daysS Lw (snS (u.1 25) (u.2.1 21) (u.2.1 22) (u.2.1 23) (u.2.1 20)) F00 (u.2.1 1) n (nw, 0)).1 19) ((daysS Lw (snS (u.1 25) (u.2.1 21) (u.2.1 22) (u.2.1 23) (u.2.1 20)) F00 (u.2.1 1) n (nw, 0)).1 20) ((daysS Lw (snS (u.1 25) (u.2.1 21) (u.2.1 22) (u.2.1 23) (u.2.1 20)) F00 (u.2.1 1) n (nw, 0)).2) jo)) := by
  refine CXq.mk RX4 (Or.inl ⟨_, rfl⟩) pnX4 rfl (Nat.le_of_ble_eq_true rfl) (fun pg en Rm sg mm ar bw mth cd QQ ls hC hRm hK hX hS hl hq => ?_)
  have hx := hC.1; have hb := hC.2.1; have ho := hC.2.2.2.1; have hts := hC.2.2.2.2
  obtain ⟨hP, hX2⟩ := hX
  have hl : lv_has ls 3 [(0, .ref (R 4)), (1, .int (nI n))] := hl
  have hP : PwS G o R tx (dSb u (u.1 30) (fcU u) (u.1 51) (u.1 52) (u.1 53) (u.1 54) (u.1 55) (u.1 56) (u.2.1 50)) sg.heap := by rw [dSb_self]; exact hP
  have hr1 : u.1 51 = nw 16 := hrow.1
  have hr2 : u.1 52 = nw 17 := hrow.2.1
  have hr3 : u.1 53 = nw 18 := hrow.2.2.1
  have hr4 : u.1 54 = nw 19 := hrow.2.2.2.1
  have hr5 : u.1 55 = nw 20 := hrow.2.2.2.2.1
  have hjo : ∀ k, k < 16 → u.2.1 50 k = nw k := hrow.2.2.2.2.2
  rw [hr1, hr2, hr3, hr4, hr5] at hP
  refine lv_aload_n hx hb dX4_goes_0 rfl (lv_at hl 0 rfl) ?_
  refine lv_iconst (v := 0) hx hb dX4_goes_1 (by decide) ?_
  refine S_put hC hK hP (hD _ _ _) hS (oS_then _ _ _ _ _) clX4 in_X4 tyX4_ok nmX4 6 (by decide) (pS56 _ _ _ _ _ _) q239 rfl rfl rfl rfl (Nat.le_of_ble_eq_true rfl) dX4_goes_2 (fun H locs hP hS => ?_)
  rw [dSb_V56] at hP
  refine lv_iconst (v := 0) hx hb dX4_goes_5 (by decide) ?_
  refine lv_istore_n (lv' := [(2, .int 0), (0, .ref (R 4)), (1, .int (nI n))]) hx hb dX4_goes_6 rfl hl (by decide) rfl (fun ls hl => ?_)
  have LP7 : ∀ (fu7 : Nat) (k : Nat) (z : Int32) (c2 : Int32) (F : Nat → Int32) (jo : Nat → Int32) (n2 : Nat → Int32) (H : Heap) (locs : List Loc) (ls : Array Slot), n - k < fu7 → k ≤ n → daysS Lw (snS (u.1 25) (u.2.1 21) (u.2.1 22) (u.2.1 23) (u.2.1 20)) F00 (u.2.1 1) n (nw, 0) = daysS Lw (snS (u.1 25) (u.2.1 21) (u.2.1 22) (u.2.1 23) (u.2.1 20)) F00 (u.2.1 1) (n - k) (n2, c2) → (∀ k, k < 16 → jo k = n2 k) → dOK n2 → PwS G o R tx (dSb u z F (n2 16) (n2 17) (n2 18) (n2 19) (n2 20) c2 jo) H → va_S (AwS o R) sg.heap H locs → lv_has ls 3 [(0, .ref (R 4)), (1, .int (nI n)), (2, .int (nI k))] → W pg l en Rm sg mm ar bw mth cd H locs 0 0 QQ (F0 mm 7 ls []) := by
    intro fu7
    induction fu7 with
    | zero => intro k z c2 F jo n2 H locs ls hm7 hk hinv hjo2 ho2 hP hS hl; exact absurd hm7 (Nat.not_lt_zero _)
    | succ fu7 ih7 =>
      intro k z c2 F jo n2 H locs ls hm7 hk hinv hjo2 ho2 hP hS hl
      refine lv_iload_n hx hb dX4_goes_7 rfl (lv_at hl 2 rfl) ?_
      refine lv_iload_n hx hb dX4_goes_8 rfl (lv_at hl 1 rfl) ?_
      refine lv_icmp_ge (tgt := 32) hx hb dX4_goes_9 (by decide) (fun c9 => ?_) (fun c9 => ?_)
      · have c9 : n ≤ k := (nI_leI (a := n) (b := k) (by omega) (by omega)).mp c9
        refine lv_aload_n hx hb dX4_goes_32 rfl (lv_at hl 0 rfl) ?_
        exact hq _ _ (some (R 4)) _ _ _ _ _ dX4_goes_33 hP hS (by first | (have hDN : daysS Lw (snS (u.1 25) (u.2.1 21) (u.2.1 22) (u.2.1 23) (u.2.1 20)) F00 (u.2.1 1) n (nw, 0) = (n2, c2) := (by rw [hinv, show n - k = 0 by omega, daysS_0]); exact ⟨z, F, jo, (fun k hk => by rw [hDN]; exact hjo2 k hk), rfl, by rw [hDN]⟩) | (have hDN : daysS Lw (snS (u.1 25) (u.2.1 21) (u.2.1 22) (u.2.1 23) (u.2.1 20)) F00 (u.2.1 1) n (nw, 0) = (n2, c2) := (by rw [hinv, daysS_last c19]); exact ⟨z, F, jo, (fun k hk => by rw [hDN]; exact hjo2 k hk), rfl, by rw [hDN]⟩)) (by decide) (by decide)
      · have c9 : ¬ (n ≤ k) := mt (nI_leI (a := n) (b := k) (by omega) (by omega)).mpr c9
        refine lv_aload_n hx hb dX4_goes_12 rfl (lv_at hl 0 rfl) ?_
        refine S_get hC hK hP (oS_then _ _ _ _ _) clX4 in_X4 4 (by decide) (fD54 _ _ _ _) q235 dX4_goes_13 ?_
        refine W_top (y := (n2 19)) (by rw [dSb_f54]) ?_
        refine lv_sipush (v := 9999) hx hb dX4_goes_16 (by decide) ?_
        refine lv_icmp_ge (tgt := 32) hx hb dX4_goes_19 (by decide) (fun c19 => ?_) (fun c19 => ?_)
        · refine lv_aload_n hx hb dX4_goes_32 rfl (lv_at hl 0 rfl) ?_
          exact hq _ _ (some (R 4)) _ _ _ _ _ dX4_goes_33 hP hS (by first | (have hDN : daysS Lw (snS (u.1 25) (u.2.1 21) (u.2.1 22) (u.2.1 23) (u.2.1 20)) F00 (u.2.1 1) n (nw, 0) = (n2, c2) := (by rw [hinv, show n - k = 0 by omega, daysS_0]); exact ⟨z, F, jo, (fun k hk => by rw [hDN]; exact hjo2 k hk), rfl, by rw [hDN]⟩) | (have hDN : daysS Lw (snS (u.1 25) (u.2.1 21) (u.2.1 22) (u.2.1 23) (u.2.1 20)) F00 (u.2.1 1) n (nw, 0) = (n2, c2) := (by rw [hinv, daysS_last c19]); exact ⟨z, F, jo, (fun k hk => by rw [hDN]; exact hjo2 k hk), rfl, by rw [hDN]⟩)) (by decide) (by decide)
        · refine lv_aload_n hx hb dX4_goes_22 rfl (lv_at hl 0 rfl) ?_
          refine CXv.go (rcV hC hl (c_X4_dayGoes_then G l o R tx (dSb u z F (n2 16) (n2 17) (n2 18) (n2 19) (n2 20) c2 jo) Lw n2 (hw) (⟨rfl, rfl, rfl, rfl, rfl, hjo2⟩) (ho2) (hsd) (hfc) (hN) hD) hK ⟨hP, (TxW.keep hS.2.1 hX2)⟩ (va_recv hK.1 hP clX4 (oS_then _ _ _ _ _)) q872 q873 q874 q114 q875 mdX4_dayGoes (room_s hRm rfl) rfl rfl dX4_goes_23) hS (fun q h => h) (fun w23 H locs hpo hP _ _ hS => ?_)
          obtain ⟨z_1, F_2, jo_3, f23_0, ew23⟩ := hpo
          rw [ew23] at hP
          rw [dSb_again] at hP
          simp only [dSb_f25, dSb_f56, dSb_g1, dSb_g20, dSb_g21, dSb_g22, dSb_g23] at hP
          refine lv_iinc (v := (nI (k + 1))) (lv' := [(2, .int (nI (k + 1))), (0, .ref (R 4)), (1, .int (nI n))]) hx hb dX4_goes_26 hl (k := 2) rfl (nI_inc k) (by decide) rfl (fun ls hl => ?_)
          refine lv_goto (tgt := 7) hx hb dX4_goes_29 (by decide) ?_
          exact ih7 (k + 1) z_1 ((dayS Lw (snS (u.1 25) (u.2.1 21) (u.2.1 22) (u.2.1 23) (u.2.1 20)) F00 (u.2.1 1) (n2, c2)).2) F_2 jo_3 ((dayS Lw (snS (u.1 25) (u.2.1 21) (u.2.1 22) (u.2.1 23) (u.2.1 20)) F00 (u.2.1 1) (n2, c2)).1) _ _ ls (by omega) (by first | omega | assumption | rfl | (simp_all; done) | grind) (by rw [hinv]; exact daysS_step (by omega) (Int32.not_le.mp c19)) (f23_0) (dOK_day (fun j t => sB_seen _ _ _ _ _ j t) hw (q := (n2, c2)) ho2) hP hS (lv_sub hl [1, 2, 0] rfl)
  exact LP7 _ 0 (u.1 30) 0 (fcU u) (u.2.1 50) nw _ _ ls (Nat.lt_succ_self _) (by first | omega | assumption | rfl | (simp_all; done) | grind) (rfl) (hjo) (hok) hP hS (lv_sub hl [1, 2, 0] rfl)
set_option maxHeartbeats 4000000 in
theorem c_X0_days (G : GG) (l : Launch) (o : Nat) (R : Nat → Nat) (tx : Nat) (u : MS) (n0 : Int32) (Lw : LW) (nw : Nat → Int32) (hw : WOK (u.2.1 1)) (hrow : rowA u 40 nw) (hok : dOK nw) (hsd : PB (u.2.1 21)) (hfc : PB (u.2.1 20)) (hN : nineW Lw) (hD : DwS o R) : CXi G l (PwS G o R tx) (AwS o R) yX0_days cX0_days 2 .int 310 12276 0 0 [.ref o, .int n0] (fun H => PwS G o R tx u H ∧ TxW G (AwS o R) tx Lw H) (fun r w => ∃ z : Int32, ∃ F : Nat → Int32, ∃ jo : Nat → Int32, (inB n0 1 100 = true → ∀ k, k < 16 → jo k = (daysS Lw (snS (u.1 25) (u.2.1 21) (u.2.1 22) (u.2.1 23) (u.2.1 20)) F00 (u.2.1 1) (ix n0) (nw, 0)).1 k) ∧ r = (daysI Lw (snS (u.1 25) (u.2.1 21) (u.2.1 22) (u.2.1 23) (u.2.1 20)) (u.2.1 1) nw n0) ∧ w = (if inB n0 1 100 = true then dSa u z F ((daysS Lw (snS (u.1 25) (u.2.1 21) (u.2.1 22) (u.2.1 23) (u.2.1 20)) F00 (u.2.1 1) (ix n0) (nw, 0)).1 16) ((daysS Lw (snS (u.1 25) (u.2.1 21) (u.2.1 22) (u.2.1 23) (u.2.1 20)) F00 (u.2.1 1) (ix n0) (nw, 0)).1 17) ((daysS Lw (snS (u.1 25) (u.2.1 21) (u.2.1 22) (u.2.1 23) (u.2.1 20)) F00 (u.2.1 1) (ix n0) (nw, 0)).1 18) ((daysS Lw (snS (u.1 25) (u.2.1 21) (u.2.1 22) (u.2.1 23) (u.2.1 20)) F00 (u.2.1 1) (ix n0) (nw, 0)).1 19) ((daysS Lw (snS (u.1 25) (u.2.1 21) (u.2.1 22) (u.2.1 23) (u.2.1 20)) F00 (u.2.1 1) (ix n0) (nw, 0)).1 20) (daysS Lw (snS (u.1 25) (u.2.1 21) (u.2.1 22) (u.2.1 23) (u.2.1 20)) F00 (u.2.1 1) (ix n0) (nw, 0)).2 jo else u)) := by
  refine CXi.mk RX0 pnX0 rfl (Nat.le_of_ble_eq_true rfl) (fun pg en Rm sg mm ar bw mth cd QQ ls hC hRm hK hX hS hl hq => ?_)
  have hx := hC.1; have hb := hC.2.1; have ho := hC.2.2.2.1; have hts := hC.2.2.2.2
  obtain ⟨hP, hX2⟩ := hX
  have hl : lv_has ls 2 [(0, .ref o), (1, .int n0)] := hl
  refine lv_iload_n hx hb dX0_days_0 rfl (lv_at hl 1 rfl) ?_
  refine lv_iconst (v := 1) hx hb dX0_days_1 (by decide) ?_
  refine lv_bipush (v := 100) hx hb dX0_days_2 (by decide) ?_
  refine CIs.go (rcS hC hl (c_X0_within G l n0 1 100 ) hK trivial q385 q386 q110 q387 mdX0_within (room_s hRm rfl) rfl rfl dX0_days_4) ?_
  refine lv_if_eq (tgt := 24) hx hb dX0_days_7 (by decide) (fun c7 => ?_) (fun c7 => ?_)
  · have c7 : (inB n0 1 100) = false := bI_0.mp c7
    refine lv_iconst (v := (-1)) hx hb dX0_days_24 (by decide) ?_
    exact hq _ _ _ _ _ _ _ _ dX0_days_25 hP hS (rfl) (by exact ⟨0, F00, F00, (by intro z; rw [c7] at z; cases z), by simp [daysI, c7], by simp [c7]⟩) (by decide) (by decide)
  · have c7 : (inB n0 1 100) = true := bI_1.mp c7
    obtain ⟨n, hn1, hn, rfl, hnx⟩ := inB_nI2 1 100 (by decide) (by decide) c7
    have hl : lv_has ls 2 [(0, .ref o), (1, .int (nI n))] := hl
    refine lv_aload_n hx hb dX0_days_10 rfl (lv_at hl 0 rfl) ?_
    refine S_get hC hK hP (oS_main _ _ _ _ _) clX0 in_X0 3 (by decide) (fD3 _ _ _ _) q297 dX0_days_11 ?_
    refine lv_iload_n hx hb dX0_days_14 rfl (lv_at hl 1 rfl) ?_
    refine CXq.go (rcV hC hl (c_X4_goes_street G l o R tx u n Lw nw (by first | assumption | omega | rfl | (simp_all; done)) (hw) (hrow) (hok) (hsd) (hfc) (hN) hD) hK ⟨hP, (TxW.keep hS.2.1 hX2)⟩ (va_recv hK.1 hP clX4 (oS_street _ _ _ _ _)) q868 q869 q870 q114 q871 mdX4_goes (room_s hRm rfl) rfl rfl dX0_days_15) hS (fun q h => h) (fun r15 w15 H locs hpo hP _ _ hS => ?_)
    obtain ⟨z_1, F_2, jo_3, f15_0, er15, ew15⟩ := hpo
    rw [ew15] at hP
    subst er15
    refine S_getN (v := .int ((dSa u z_1 F_2 ((daysS Lw (snS (u.1 25) (u.2.1 21) (u.2.1 22) (u.2.1 23) (u.2.1 20)) F00 (u.2.1 1) n (nw, 0)).1 16) ((daysS Lw (snS (u.1 25) (u.2.1 21) (u.2.1 22) (u.2.1 23) (u.2.1 20)) F00 (u.2.1 1) n (nw, 0)).1 17) ((daysS Lw (snS (u.1 25) (u.2.1 21) (u.2.1 22) (u.2.1 23) (u.2.1 20)) F00 (u.2.1 1) n (nw, 0)).1 18) ((daysS Lw (snS (u.1 25) (u.2.1 21) (u.2.1 22) (u.2.1 23) (u.2.1 20)) F00 (u.2.1 1) n (nw, 0)).1 19) ((daysS Lw (snS (u.1 25) (u.2.1 21) (u.2.1 22) (u.2.1 23) (u.2.1 20)) F00 (u.2.1 1) n (nw, 0)).1 20) ((daysS Lw (snS (u.1 25) (u.2.1 21) (u.2.1 22) (u.2.1 23) (u.2.1 20)) F00 (u.2.1 1) n (nw, 0)).2) jo_3).1 46)) hC hK hP (oS_street _ _ _ _ _) clX4 in_X4 6 (by decide) (fD46 _ _ _ _) nq240 dX0_days_18 ?_
    refine W_top (y := (daysS Lw (snS (u.1 25) (u.2.1 21) (u.2.1 22) (u.2.1 23) (u.2.1 20)) F00 (u.2.1 1) n (nw, 0)).2) (rfl) ?_
    refine lv_goto (tgt := 25) hx hb dX0_days_21 (by decide) ?_
    exact hq _ _ _ _ _ _ _ _ dX0_days_25 hP hS (rfl) (by exact ⟨z_1, F_2, jo_3, (fun _ k hk => by rw [hnx]; exact f15_0 k hk), by rw [daysI, if_pos c7, hnx], by rw [if_pos c7, hnx]⟩) (by decide) (by decide)
set_option maxHeartbeats 4000000 in
theorem c_X0_tried (G : GG) (l : Launch) (o : Nat) (R : Nat → Nat) (tx : Nat) (u : MS) (n0 : Int32) (k0 : Int32) (Lw : LW) (nw : Nat → Int32) (hw : WOK (u.2.1 1)) (hwh : whoseH (u.1 24) (u.2.1 1)) (hrow : rowA u 40 nw) (hok : dOK nw) (hdj : dJ (u.1 24) nw) (hsd : PB (u.2.1 21)) (hfc : PB (u.2.1 20)) (hN : nineW Lw) (hD : DwS o R) : CXi G l (PwS G o R tx) (AwS o R) yX0_tried cX0_tried 3 .int 310 12276 0 0 [.ref o, .int n0, .int k0] (fun H => PwS G o R tx u H ∧ TxW G (AwS o R) tx Lw H) (fun r w => ∃ w0 : MS, (sameT u w0) ∧ r = (triedI Lw (snS (u.1 25) (u.2.1 21) (u.2.1 22) (u.2.1 23) (u.2.1 20)) (u.1 24) (u.2.1 1) nw n0 k0) ∧ w = w0) := by
  refine CXi.mk RX0 pnX0 rfl (Nat.le_of_ble_eq_true rfl) (fun pg en Rm sg mm ar bw mth cd QQ ls hC hRm hK hX hS hl hq => ?_)
  have hx := hC.1; have hb := hC.2.1; have ho := hC.2.2.2.1; have hts := hC.2.2.2.2
  obtain ⟨hP, hX2⟩ := hX
  have hl : lv_has ls 3 [(0, .ref o), (1, .int n0), (2, .int k0)] := hl
  refine lv_iload_n hx hb dX0_tried_0 rfl (lv_at hl 1 rfl) ?_
  refine lv_iconst (v := 1) hx hb dX0_tried_1 (by decide) ?_
  refine lv_bipush (v := 100) hx hb dX0_tried_2 (by decide) ?_
  refine CIs.go (rcS hC hl (c_X0_within G l n0 1 100 ) hK trivial q385 q386 q110 q387 mdX0_within (room_s hRm rfl) rfl rfl dX0_tried_4) ?_
  refine lv_if_eq (tgt := 32) hx hb dX0_tried_7 (by decide) (fun c7 => ?_) (fun c7 => ?_)
  · have c7 : (inB n0 1 100) = false := bI_0.mp c7
    refine lv_iconst (v := (-1)) hx hb dX0_tried_32 (by decide) ?_
    exact hq _ _ _ _ _ _ _ _ dX0_tried_33 hP hS (rfl) (by exact ⟨u, ⟨fun _ _ => rfl, fun _ _ => rfl, rfl⟩, by first | (simp [triedI, triedG, c7]; done) | (simp [triedI, triedG, c7, c15, c29]; done), rfl⟩) (by decide) (by decide)
  · have c7 : (inB n0 1 100) = true := bI_1.mp c7
    obtain ⟨n, hn1, hn, rfl, hnx⟩ := inB_nI2 1 100 (by decide) (by decide) c7
    have hl : lv_has ls 3 [(0, .ref o), (1, .int (nI n)), (2, .int k0)] := hl
    refine lv_iload_n hx hb dX0_tried_10 rfl (lv_at hl 2 rfl) ?_
    refine lv_iconst (v := 4) hx hb dX0_tried_11 (by decide) ?_
    refine CIs.go (rcS hC hl (c_X0_in G l k0 4 3 (by decide)) hK trivial q366 q367 q110 q368 mdX0_in (room_s hRm rfl) rfl rfl dX0_tried_12) ?_
    refine lv_if_ne (tgt := 34) hx hb dX0_tried_15 (by decide) (fun c15 => ?_) (fun c15 => ?_)
    · have c15 : (inB k0 0 3) = true := bI_1.mp c15
      refine lv_aload_n hx hb dX0_tried_34 rfl (lv_at hl 0 rfl) ?_
      refine S_get hC hK hP (oS_main _ _ _ _ _) clX0 in_X0 4 (by decide) (fD4 _ _ _ _) q298 dX0_tried_35 ?_
      refine lv_aload_n hx hb dX0_tried_38 rfl (lv_at hl 0 rfl) ?_
      refine S_get hC hK hP (oS_main _ _ _ _ _) clX0 in_X0 3 (by decide) (fD3 _ _ _ _) q297 dX0_tried_39 ?_
      refine CXq.go (rcV hC hl (c_X4_takes_then_street G l o R tx u   hD) hK hP (va_recv hK.1 hP clX4 (oS_then _ _ _ _ _)) q985 q986 q987 q114 q988 mdX4_takes (room_s hRm rfl) rfl rfl dX0_tried_42) hS (fun q h => h) (fun r42 w42 H locs hpo hP _ _ hS => ?_)
      obtain ⟨er42, ew42⟩ := hpo
      rw [ew42] at hP
      subst er42
      refine lv_iload_n hx hb dX0_tried_45 rfl (lv_at hl 1 rfl) ?_
      refine CXq.go (rcV hC hl (c_X4_goes_then G l o R tx (tkS u 50 40) n Lw nw (by first | assumption | omega | rfl | (simp_all; done)) (hw) (rowA_tk hrow) (hok) (hsd) (hfc) (hN) hD) hK ⟨hP, (TxW.keep hS.2.1 hX2)⟩ (va_recv hK.1 hP clX4 (oS_then _ _ _ _ _)) q868 q869 q870 q114 q871 mdX4_goes (room_s hRm rfl) rfl rfl dX0_tried_46) hS (fun q h => h) (fun r46 w46 H locs hpo hP _ _ hS => ?_)
      obtain ⟨z_1, F_2, jo_3, f46_0, er46, ew46⟩ := hpo
      rw [ew46] at hP
      subst er46
      refine lv_pop hx hb dX0_tried_49 rfl ?_
      have hor : inB k0 0 3 = true ∨ isHouseB (u.1 24) (k0 - 10) = true := by first | exact Or.inl c15 | exact Or.inr c29
      have hdj2 : dJ (u.1 24) (daysS Lw (snS (u.1 25) (u.2.1 21) (u.2.1 22) (u.2.1 23) (u.2.1 20)) F00 (u.2.1 1) n (nw, 0)).1 := dJ_days hwh n _ hdj
      refine lv_iload_n hx hb dX0_tried_50 rfl (lv_at hl 2 rfl) ?_
      by_cases s51_0 : k0 = 0
      · refine lv_tableIn (tgt := 80) hx hb dX0_tried_51 (by rw [s51_0]; decide) (by rw [s51_0]; decide) (by rw [s51_0]; rfl) (by decide) ?_
        refine lv_aload_n hx hb dX0_tried_80 rfl (lv_at hl 0 rfl) ?_
        refine S_get hC hK hP (oS_main _ _ _ _ _) clX0 in_X0 4 (by decide) (fD4 _ _ _ _) q298 dX0_tried_81 ?_
        refine S_getN (v := .int ((dSb (tkS u 50 40) z_1 F_2 ((daysS Lw (snS ((tkS u 50 40).1 25) ((tkS u 50 40).2.1 21) ((tkS u 50 40).2.1 22) ((tkS u 50 40).2.1 23) ((tkS u 50 40).2.1 20)) F00 ((tkS u 50 40).2.1 1) n (nw, 0)).1 16) ((daysS Lw (snS ((tkS u 50 40).1 25) ((tkS u 50 40).2.1 21) ((tkS u 50 40).2.1 22) ((tkS u 50 40).2.1 23) ((tkS u 50 40).2.1 20)) F00 ((tkS u 50 40).2.1 1) n (nw, 0)).1 17) ((daysS Lw (snS ((tkS u 50 40).1 25) ((tkS u 50 40).2.1 21) ((tkS u 50 40).2.1 22) ((tkS u 50 40).2.1 23) ((tkS u 50 40).2.1 20)) F00 ((tkS u 50 40).2.1 1) n (nw, 0)).1 18) ((daysS Lw (snS ((tkS u 50 40).1 25) ((tkS u 50 40).2.1 21) ((tkS u 50 40).2.1 22) ((tkS u 50 40).2.1 23) ((tkS u 50 40).2.1 20)) F00 ((tkS u 50 40).2.1 1) n (nw, 0)).1 19) ((daysS Lw (snS ((tkS u 50 40).1 25) ((tkS u 50 40).2.1 21) ((tkS u 50 40).2.1 22) ((tkS u 50 40).2.1 23) ((tkS u 50 40).2.1 20)) F00 ((tkS u 50 40).2.1 1) n (nw, 0)).1 20) ((daysS Lw (snS ((tkS u 50 40).1 25) ((tkS u 50 40).2.1 21) ((tkS u 50 40).2.1 22) ((tkS u 50 40).2.1 23) ((tkS u 50 40).2.1 20)) F00 ((tkS u 50 40).2.1 1) n (nw, 0)).2) jo_3).1 56)) hC hK hP (oS_then _ _ _ _ _) clX4 in_X4 6 (by decide) (fD56 _ _ _ _) nq240 dX0_tried_84 ?_
        refine W_top (y := (daysS Lw (snS (u.1 25) (u.2.1 21) (u.2.1 22) (u.2.1 23) (u.2.1 20)) F00 (u.2.1 1) n (nw, 0)).2) (rfl) ?_
        exact hq _ _ _ _ _ _ _ _ dX0_tried_87 hP hS (rfl) (by have hg : triedG (u.1 24) (nI n) k0 = true := (by first | (simp [triedG, c7, c15]; done) | (simp [triedG, c7, c29]; done)); exact ⟨_, sameT_tk u _ _ _ _ _ _ _ _ _, by rw [triedI, if_pos hg, hnx]; unfold triedV; rw [if_pos s51_0], rfl⟩) (by decide) (by decide)
      by_cases s51_1 : k0 = 1
      · refine lv_tableIn (tgt := 88) hx hb dX0_tried_51 (by rw [s51_1]; decide) (by rw [s51_1]; decide) (by rw [s51_1]; rfl) (by decide) ?_
        refine lv_aload_n hx hb dX0_tried_88 rfl (lv_at hl 0 rfl) ?_
        refine S_get hC hK hP (oS_main _ _ _ _ _) clX0 in_X0 4 (by decide) (fD4 _ _ _ _) q298 dX0_tried_89 ?_
        refine S_getN (v := .int ((dSb (tkS u 50 40) z_1 F_2 ((daysS Lw (snS ((tkS u 50 40).1 25) ((tkS u 50 40).2.1 21) ((tkS u 50 40).2.1 22) ((tkS u 50 40).2.1 23) ((tkS u 50 40).2.1 20)) F00 ((tkS u 50 40).2.1 1) n (nw, 0)).1 16) ((daysS Lw (snS ((tkS u 50 40).1 25) ((tkS u 50 40).2.1 21) ((tkS u 50 40).2.1 22) ((tkS u 50 40).2.1 23) ((tkS u 50 40).2.1 20)) F00 ((tkS u 50 40).2.1 1) n (nw, 0)).1 17) ((daysS Lw (snS ((tkS u 50 40).1 25) ((tkS u 50 40).2.1 21) ((tkS u 50 40).2.1 22) ((tkS u 50 40).2.1 23) ((tkS u 50 40).2.1 20)) F00 ((tkS u 50 40).2.1 1) n (nw, 0)).1 18) ((daysS Lw (snS ((tkS u 50 40).1 25) ((tkS u 50 40).2.1 21) ((tkS u 50 40).2.1 22) ((tkS u 50 40).2.1 23) ((tkS u 50 40).2.1 20)) F00 ((tkS u 50 40).2.1 1) n (nw, 0)).1 19) ((daysS Lw (snS ((tkS u 50 40).1 25) ((tkS u 50 40).2.1 21) ((tkS u 50 40).2.1 22) ((tkS u 50 40).2.1 23) ((tkS u 50 40).2.1 20)) F00 ((tkS u 50 40).2.1 1) n (nw, 0)).1 20) ((daysS Lw (snS ((tkS u 50 40).1 25) ((tkS u 50 40).2.1 21) ((tkS u 50 40).2.1 22) ((tkS u 50 40).2.1 23) ((tkS u 50 40).2.1 20)) F00 ((tkS u 50 40).2.1 1) n (nw, 0)).2) jo_3).1 51)) hC hK hP (oS_then _ _ _ _ _) clX4 in_X4 1 (by decide) (fD51 _ _ _ _) nq230 dX0_tried_92 ?_
        refine W_top (y := ((daysS Lw (snS (u.1 25) (u.2.1 21) (u.2.1 22) (u.2.1 23) (u.2.1 20)) F00 (u.2.1 1) n (nw, 0)).1 16)) (rfl) ?_
        refine CIs.go (rcS hC hl (c_X0_orNobody G l ((daysS Lw (snS (u.1 25) (u.2.1 21) (u.2.1 22) (u.2.1 23) (u.2.1 20)) F00 (u.2.1 1) n (nw, 0)).1 16) ) hK trivial q989 q990 q110 q991 mdX0_orNobody (room_s hRm rfl) rfl rfl dX0_tried_95) ?_
        exact hq _ _ _ _ _ _ _ _ dX0_tried_98 hP hS (rfl) (by have hg : triedG (u.1 24) (nI n) k0 = true := (by first | (simp [triedG, c7, c15]; done) | (simp [triedG, c7, c29]; done)); exact ⟨_, sameT_tk u _ _ _ _ _ _ _ _ _, by rw [triedI, if_pos hg, hnx]; unfold triedV; rw [if_neg s51_0, if_pos s51_1], rfl⟩) (by decide) (by decide)
      by_cases s51_2 : k0 = 2
      · refine lv_tableIn (tgt := 99) hx hb dX0_tried_51 (by rw [s51_2]; decide) (by rw [s51_2]; decide) (by rw [s51_2]; rfl) (by decide) ?_
        refine lv_aload_n hx hb dX0_tried_99 rfl (lv_at hl 0 rfl) ?_
        refine S_get hC hK hP (oS_main _ _ _ _ _) clX0 in_X0 4 (by decide) (fD4 _ _ _ _) q298 dX0_tried_100 ?_
        refine S_getN (v := .int ((dSb (tkS u 50 40) z_1 F_2 ((daysS Lw (snS ((tkS u 50 40).1 25) ((tkS u 50 40).2.1 21) ((tkS u 50 40).2.1 22) ((tkS u 50 40).2.1 23) ((tkS u 50 40).2.1 20)) F00 ((tkS u 50 40).2.1 1) n (nw, 0)).1 16) ((daysS Lw (snS ((tkS u 50 40).1 25) ((tkS u 50 40).2.1 21) ((tkS u 50 40).2.1 22) ((tkS u 50 40).2.1 23) ((tkS u 50 40).2.1 20)) F00 ((tkS u 50 40).2.1 1) n (nw, 0)).1 17) ((daysS Lw (snS ((tkS u 50 40).1 25) ((tkS u 50 40).2.1 21) ((tkS u 50 40).2.1 22) ((tkS u 50 40).2.1 23) ((tkS u 50 40).2.1 20)) F00 ((tkS u 50 40).2.1 1) n (nw, 0)).1 18) ((daysS Lw (snS ((tkS u 50 40).1 25) ((tkS u 50 40).2.1 21) ((tkS u 50 40).2.1 22) ((tkS u 50 40).2.1 23) ((tkS u 50 40).2.1 20)) F00 ((tkS u 50 40).2.1 1) n (nw, 0)).1 19) ((daysS Lw (snS ((tkS u 50 40).1 25) ((tkS u 50 40).2.1 21) ((tkS u 50 40).2.1 22) ((tkS u 50 40).2.1 23) ((tkS u 50 40).2.1 20)) F00 ((tkS u 50 40).2.1 1) n (nw, 0)).1 20) ((daysS Lw (snS ((tkS u 50 40).1 25) ((tkS u 50 40).2.1 21) ((tkS u 50 40).2.1 22) ((tkS u 50 40).2.1 23) ((tkS u 50 40).2.1 20)) F00 ((tkS u 50 40).2.1 1) n (nw, 0)).2) jo_3).1 52)) hC hK hP (oS_then _ _ _ _ _) clX4 in_X4 2 (by decide) (fD52 _ _ _ _) nq232 dX0_tried_103 ?_
        refine W_top (y := ((daysS Lw (snS (u.1 25) (u.2.1 21) (u.2.1 22) (u.2.1 23) (u.2.1 20)) F00 (u.2.1 1) n (nw, 0)).1 17)) (rfl) ?_
        exact hq _ _ _ _ _ _ _ _ dX0_tried_106 hP hS (rfl) (by have hg : triedG (u.1 24) (nI n) k0 = true := (by first | (simp [triedG, c7, c15]; done) | (simp [triedG, c7, c29]; done)); exact ⟨_, sameT_tk u _ _ _ _ _ _ _ _ _, by rw [triedI, if_pos hg, hnx]; unfold triedV; rw [if_neg s51_0, if_neg s51_1, if_pos s51_2], rfl⟩) (by decide) (by decide)
      by_cases s51_3 : k0 = 3
      · refine lv_tableIn (tgt := 107) hx hb dX0_tried_51 (by rw [s51_3]; decide) (by rw [s51_3]; decide) (by rw [s51_3]; rfl) (by decide) ?_
        refine lv_aload_n hx hb dX0_tried_107 rfl (lv_at hl 0 rfl) ?_
        refine S_get hC hK hP (oS_main _ _ _ _ _) clX0 in_X0 4 (by decide) (fD4 _ _ _ _) q298 dX0_tried_108 ?_
        refine CIs.go (rcV hC hl (c_X4_joyOfAll_then G l o R tx (dSb (tkS u 50 40) z_1 F_2 ((daysS Lw (snS ((tkS u 50 40).1 25) ((tkS u 50 40).2.1 21) ((tkS u 50 40).2.1 22) ((tkS u 50 40).2.1 23) ((tkS u 50 40).2.1 20)) F00 ((tkS u 50 40).2.1 1) n (nw, 0)).1 16) ((daysS Lw (snS ((tkS u 50 40).1 25) ((tkS u 50 40).2.1 21) ((tkS u 50 40).2.1 22) ((tkS u 50 40).2.1 23) ((tkS u 50 40).2.1 20)) F00 ((tkS u 50 40).2.1 1) n (nw, 0)).1 17) ((daysS Lw (snS ((tkS u 50 40).1 25) ((tkS u 50 40).2.1 21) ((tkS u 50 40).2.1 22) ((tkS u 50 40).2.1 23) ((tkS u 50 40).2.1 20)) F00 ((tkS u 50 40).2.1 1) n (nw, 0)).1 18) ((daysS Lw (snS ((tkS u 50 40).1 25) ((tkS u 50 40).2.1 21) ((tkS u 50 40).2.1 22) ((tkS u 50 40).2.1 23) ((tkS u 50 40).2.1 20)) F00 ((tkS u 50 40).2.1 1) n (nw, 0)).1 19) ((daysS Lw (snS ((tkS u 50 40).1 25) ((tkS u 50 40).2.1 21) ((tkS u 50 40).2.1 22) ((tkS u 50 40).2.1 23) ((tkS u 50 40).2.1 20)) F00 ((tkS u 50 40).2.1 1) n (nw, 0)).1 20) ((daysS Lw (snS ((tkS u 50 40).1 25) ((tkS u 50 40).2.1 21) ((tkS u 50 40).2.1 22) ((tkS u 50 40).2.1 23) ((tkS u 50 40).2.1 20)) F00 ((tkS u 50 40).2.1 1) n (nw, 0)).2) jo_3)  ) hK hP (va_recv hK.1 hP clX4 (oS_then _ _ _ _ _)) q992 q993 q994 q114 q995 mdX4_joyOfAll (room_s hRm rfl) rfl rfl dX0_tried_111) ?_
        refine W_top (y := (joyAll (u.1 24) (daysS Lw (snS (u.1 25) (u.2.1 21) (u.2.1 22) (u.2.1 23) (u.2.1 20)) F00 (u.2.1 1) n (nw, 0)).1 16)) (sum_all f46_0 hdj2.1 16 (by omega)) ?_
        exact hq _ _ _ _ _ _ _ _ dX0_tried_114 hP hS (rfl) (by have hg : triedG (u.1 24) (nI n) k0 = true := (by first | (simp [triedG, c7, c15]; done) | (simp [triedG, c7, c29]; done)); exact ⟨_, sameT_tk u _ _ _ _ _ _ _ _ _, by rw [triedI, if_pos hg, hnx]; unfold triedV; rw [if_neg s51_0, if_neg s51_1, if_neg s51_2, if_pos s51_3], rfl⟩) (by decide) (by decide)
      refine lv_tableOut (tgt := 115) hx hb dX0_tried_51 (sw_out (x := k0) (lo := 0) (hi := 3) (fun v h1 h2 => by rcases (show v = 0 ∨ v = 1 ∨ v = 2 ∨ v = 3 by omega) with rfl | rfl | rfl | rfl <;> first | exact s51_0 | exact s51_1 | exact s51_2 | exact s51_3)) (by decide) ?_
      refine lv_aload_n hx hb dX0_tried_115 rfl (lv_at hl 0 rfl) ?_
      refine S_get hC hK hP (oS_main _ _ _ _ _) clX0 in_X0 4 (by decide) (fD4 _ _ _ _) q298 dX0_tried_116 ?_
      refine S_getN hC hK hP (oS_then _ _ _ _ _) clX4 in_X4 0 (by decide) (fD50 _ _ _ _) nq228 dX0_tried_119 ?_
      refine lv_iload_n hx hb dX0_tried_122 rfl (lv_at hl 2 rfl) ?_
      refine lv_bipush (v := 10) hx hb dX0_tried_123 (by decide) ?_
      obtain ⟨hix, hix2⟩ := tried_ix hor s51_0 s51_1 s51_2 s51_3
      refine lv_isub hx hb dX0_tried_125 ?_
      refine S_ald hC hK hP (aS50 _ _ _ _ _) (j := (ix (k0 - 10))) (by decide) (hix) (by omega) dX0_tried_126 ?_
      refine W_top (y := ((daysS Lw (snS (u.1 25) (u.2.1 21) (u.2.1 22) (u.2.1 23) (u.2.1 20)) F00 (u.2.1 1) n (nw, 0)).1 (ix (k0 - 10)))) (f46_0 _ hix2) ?_
      exact hq _ _ _ _ _ _ _ _ dX0_tried_127 hP hS (rfl) (by have hg : triedG (u.1 24) (nI n) k0 = true := (by first | (simp [triedG, c7, c15]; done) | (simp [triedG, c7, c29]; done)); exact ⟨_, sameT_tk u _ _ _ _ _ _ _ _ _, by rw [triedI, if_pos hg, hnx]; unfold triedV; rw [if_neg s51_0, if_neg s51_1, if_neg s51_2, if_neg s51_3], rfl⟩) (by decide) (by decide)
    · have c15 : (inB k0 0 3) = false := bI_0.mp c15
      refine lv_aload_n hx hb dX0_tried_18 rfl (lv_at hl 0 rfl) ?_
      refine S_get hC hK hP (oS_main _ _ _ _ _) clX0 in_X0 0 (by decide) (fD0 _ _ _ _) q291 dX0_tried_19 ?_
      refine lv_iload_n hx hb dX0_tried_22 rfl (lv_at hl 2 rfl) ?_
      refine lv_bipush (v := 10) hx hb dX0_tried_23 (by decide) ?_
      refine lv_isub hx hb dX0_tried_25 ?_
      refine CIs.go (rcV hC hl (c_X1_isHouse_plan G l o R tx u (k0 - 10) ) hK hP (va_recv hK.1 hP clX1 (oS_plan _ _ _ _ _)) q369 q370 q371 q111 q372 mdX1_isHouse (room_s hRm rfl) rfl rfl dX0_tried_26) ?_
      refine lv_if_ne (tgt := 34) hx hb dX0_tried_29 (by decide) (fun c29 => ?_) (fun c29 => ?_)
      · have c29 : (isHouseB (u.1 24) (k0 - 10)) = true := bI_1.mp c29
        refine lv_aload_n hx hb dX0_tried_34 rfl (lv_at hl 0 rfl) ?_
        refine S_get hC hK hP (oS_main _ _ _ _ _) clX0 in_X0 4 (by decide) (fD4 _ _ _ _) q298 dX0_tried_35 ?_
        refine lv_aload_n hx hb dX0_tried_38 rfl (lv_at hl 0 rfl) ?_
        refine S_get hC hK hP (oS_main _ _ _ _ _) clX0 in_X0 3 (by decide) (fD3 _ _ _ _) q297 dX0_tried_39 ?_
        refine CXq.go (rcV hC hl (c_X4_takes_then_street G l o R tx u   hD) hK hP (va_recv hK.1 hP clX4 (oS_then _ _ _ _ _)) q985 q986 q987 q114 q988 mdX4_takes (room_s hRm rfl) rfl rfl dX0_tried_42) hS (fun q h => h) (fun r42 w42 H locs hpo hP _ _ hS => ?_)
        obtain ⟨er42, ew42⟩ := hpo
        rw [ew42] at hP
        subst er42
        refine lv_iload_n hx hb dX0_tried_45 rfl (lv_at hl 1 rfl) ?_
        refine CXq.go (rcV hC hl (c_X4_goes_then G l o R tx (tkS u 50 40) n Lw nw (by first | assumption | omega | rfl | (simp_all; done)) (hw) (rowA_tk hrow) (hok) (hsd) (hfc) (hN) hD) hK ⟨hP, (TxW.keep hS.2.1 hX2)⟩ (va_recv hK.1 hP clX4 (oS_then _ _ _ _ _)) q868 q869 q870 q114 q871 mdX4_goes (room_s hRm rfl) rfl rfl dX0_tried_46) hS (fun q h => h) (fun r46 w46 H locs hpo hP _ _ hS => ?_)
        obtain ⟨z_4, F_5, jo_6, f46_0, er46, ew46⟩ := hpo
        rw [ew46] at hP
        subst er46
        refine lv_pop hx hb dX0_tried_49 rfl ?_
        have hor : inB k0 0 3 = true ∨ isHouseB (u.1 24) (k0 - 10) = true := by first | exact Or.inl c15 | exact Or.inr c29
        have hdj2 : dJ (u.1 24) (daysS Lw (snS (u.1 25) (u.2.1 21) (u.2.1 22) (u.2.1 23) (u.2.1 20)) F00 (u.2.1 1) n (nw, 0)).1 := dJ_days hwh n _ hdj
        refine lv_iload_n hx hb dX0_tried_50 rfl (lv_at hl 2 rfl) ?_
        by_cases s51_0 : k0 = 0
        · refine lv_tableIn (tgt := 80) hx hb dX0_tried_51 (by rw [s51_0]; decide) (by rw [s51_0]; decide) (by rw [s51_0]; rfl) (by decide) ?_
          refine lv_aload_n hx hb dX0_tried_80 rfl (lv_at hl 0 rfl) ?_
          refine S_get hC hK hP (oS_main _ _ _ _ _) clX0 in_X0 4 (by decide) (fD4 _ _ _ _) q298 dX0_tried_81 ?_
          refine S_getN (v := .int ((dSb (tkS u 50 40) z_4 F_5 ((daysS Lw (snS ((tkS u 50 40).1 25) ((tkS u 50 40).2.1 21) ((tkS u 50 40).2.1 22) ((tkS u 50 40).2.1 23) ((tkS u 50 40).2.1 20)) F00 ((tkS u 50 40).2.1 1) n (nw, 0)).1 16) ((daysS Lw (snS ((tkS u 50 40).1 25) ((tkS u 50 40).2.1 21) ((tkS u 50 40).2.1 22) ((tkS u 50 40).2.1 23) ((tkS u 50 40).2.1 20)) F00 ((tkS u 50 40).2.1 1) n (nw, 0)).1 17) ((daysS Lw (snS ((tkS u 50 40).1 25) ((tkS u 50 40).2.1 21) ((tkS u 50 40).2.1 22) ((tkS u 50 40).2.1 23) ((tkS u 50 40).2.1 20)) F00 ((tkS u 50 40).2.1 1) n (nw, 0)).1 18) ((daysS Lw (snS ((tkS u 50 40).1 25) ((tkS u 50 40).2.1 21) ((tkS u 50 40).2.1 22) ((tkS u 50 40).2.1 23) ((tkS u 50 40).2.1 20)) F00 ((tkS u 50 40).2.1 1) n (nw, 0)).1 19) ((daysS Lw (snS ((tkS u 50 40).1 25) ((tkS u 50 40).2.1 21) ((tkS u 50 40).2.1 22) ((tkS u 50 40).2.1 23) ((tkS u 50 40).2.1 20)) F00 ((tkS u 50 40).2.1 1) n (nw, 0)).1 20) ((daysS Lw (snS ((tkS u 50 40).1 25) ((tkS u 50 40).2.1 21) ((tkS u 50 40).2.1 22) ((tkS u 50 40).2.1 23) ((tkS u 50 40).2.1 20)) F00 ((tkS u 50 40).2.1 1) n (nw, 0)).2) jo_6).1 56)) hC hK hP (oS_then _ _ _ _ _) clX4 in_X4 6 (by decide) (fD56 _ _ _ _) nq240 dX0_tried_84 ?_
          refine W_top (y := (daysS Lw (snS (u.1 25) (u.2.1 21) (u.2.1 22) (u.2.1 23) (u.2.1 20)) F00 (u.2.1 1) n (nw, 0)).2) (rfl) ?_
          exact hq _ _ _ _ _ _ _ _ dX0_tried_87 hP hS (rfl) (by have hg : triedG (u.1 24) (nI n) k0 = true := (by first | (simp [triedG, c7, c15]; done) | (simp [triedG, c7, c29]; done)); exact ⟨_, sameT_tk u _ _ _ _ _ _ _ _ _, by rw [triedI, if_pos hg, hnx]; unfold triedV; rw [if_pos s51_0], rfl⟩) (by decide) (by decide)
        by_cases s51_1 : k0 = 1
        · refine lv_tableIn (tgt := 88) hx hb dX0_tried_51 (by rw [s51_1]; decide) (by rw [s51_1]; decide) (by rw [s51_1]; rfl) (by decide) ?_
          refine lv_aload_n hx hb dX0_tried_88 rfl (lv_at hl 0 rfl) ?_
          refine S_get hC hK hP (oS_main _ _ _ _ _) clX0 in_X0 4 (by decide) (fD4 _ _ _ _) q298 dX0_tried_89 ?_
          refine S_getN (v := .int ((dSb (tkS u 50 40) z_4 F_5 ((daysS Lw (snS ((tkS u 50 40).1 25) ((tkS u 50 40).2.1 21) ((tkS u 50 40).2.1 22) ((tkS u 50 40).2.1 23) ((tkS u 50 40).2.1 20)) F00 ((tkS u 50 40).2.1 1) n (nw, 0)).1 16) ((daysS Lw (snS ((tkS u 50 40).1 25) ((tkS u 50 40).2.1 21) ((tkS u 50 40).2.1 22) ((tkS u 50 40).2.1 23) ((tkS u 50 40).2.1 20)) F00 ((tkS u 50 40).2.1 1) n (nw, 0)).1 17) ((daysS Lw (snS ((tkS u 50 40).1 25) ((tkS u 50 40).2.1 21) ((tkS u 50 40).2.1 22) ((tkS u 50 40).2.1 23) ((tkS u 50 40).2.1 20)) F00 ((tkS u 50 40).2.1 1) n (nw, 0)).1 18) ((daysS Lw (snS ((tkS u 50 40).1 25) ((tkS u 50 40).2.1 21) ((tkS u 50 40).2.1 22) ((tkS u 50 40).2.1 23) ((tkS u 50 40).2.1 20)) F00 ((tkS u 50 40).2.1 1) n (nw, 0)).1 19) ((daysS Lw (snS ((tkS u 50 40).1 25) ((tkS u 50 40).2.1 21) ((tkS u 50 40).2.1 22) ((tkS u 50 40).2.1 23) ((tkS u 50 40).2.1 20)) F00 ((tkS u 50 40).2.1 1) n (nw, 0)).1 20) ((daysS Lw (snS ((tkS u 50 40).1 25) ((tkS u 50 40).2.1 21) ((tkS u 50 40).2.1 22) ((tkS u 50 40).2.1 23) ((tkS u 50 40).2.1 20)) F00 ((tkS u 50 40).2.1 1) n (nw, 0)).2) jo_6).1 51)) hC hK hP (oS_then _ _ _ _ _) clX4 in_X4 1 (by decide) (fD51 _ _ _ _) nq230 dX0_tried_92 ?_
          refine W_top (y := ((daysS Lw (snS (u.1 25) (u.2.1 21) (u.2.1 22) (u.2.1 23) (u.2.1 20)) F00 (u.2.1 1) n (nw, 0)).1 16)) (rfl) ?_
          refine CIs.go (rcS hC hl (c_X0_orNobody G l ((daysS Lw (snS (u.1 25) (u.2.1 21) (u.2.1 22) (u.2.1 23) (u.2.1 20)) F00 (u.2.1 1) n (nw, 0)).1 16) ) hK trivial q989 q990 q110 q991 mdX0_orNobody (room_s hRm rfl) rfl rfl dX0_tried_95) ?_
          exact hq _ _ _ _ _ _ _ _ dX0_tried_98 hP hS (rfl) (by have hg : triedG (u.1 24) (nI n) k0 = true := (by first | (simp [triedG, c7, c15]; done) | (simp [triedG, c7, c29]; done)); exact ⟨_, sameT_tk u _ _ _ _ _ _ _ _ _, by rw [triedI, if_pos hg, hnx]; unfold triedV; rw [if_neg s51_0, if_pos s51_1], rfl⟩) (by decide) (by decide)
        by_cases s51_2 : k0 = 2
        · refine lv_tableIn (tgt := 99) hx hb dX0_tried_51 (by rw [s51_2]; decide) (by rw [s51_2]; decide) (by rw [s51_2]; rfl) (by decide) ?_
          refine lv_aload_n hx hb dX0_tried_99 rfl (lv_at hl 0 rfl) ?_
          refine S_get hC hK hP (oS_main _ _ _ _ _) clX0 in_X0 4 (by decide) (fD4 _ _ _ _) q298 dX0_tried_100 ?_
          refine S_getN (v := .int ((dSb (tkS u 50 40) z_4 F_5 ((daysS Lw (snS ((tkS u 50 40).1 25) ((tkS u 50 40).2.1 21) ((tkS u 50 40).2.1 22) ((tkS u 50 40).2.1 23) ((tkS u 50 40).2.1 20)) F00 ((tkS u 50 40).2.1 1) n (nw, 0)).1 16) ((daysS Lw (snS ((tkS u 50 40).1 25) ((tkS u 50 40).2.1 21) ((tkS u 50 40).2.1 22) ((tkS u 50 40).2.1 23) ((tkS u 50 40).2.1 20)) F00 ((tkS u 50 40).2.1 1) n (nw, 0)).1 17) ((daysS Lw (snS ((tkS u 50 40).1 25) ((tkS u 50 40).2.1 21) ((tkS u 50 40).2.1 22) ((tkS u 50 40).2.1 23) ((tkS u 50 40).2.1 20)) F00 ((tkS u 50 40).2.1 1) n (nw, 0)).1 18) ((daysS Lw (snS ((tkS u 50 40).1 25) ((tkS u 50 40).2.1 21) ((tkS u 50 40).2.1 22) ((tkS u 50 40).2.1 23) ((tkS u 50 40).2.1 20)) F00 ((tkS u 50 40).2.1 1) n (nw, 0)).1 19) ((daysS Lw (snS ((tkS u 50 40).1 25) ((tkS u 50 40).2.1 21) ((tkS u 50 40).2.1 22) ((tkS u 50 40).2.1 23) ((tkS u 50 40).2.1 20)) F00 ((tkS u 50 40).2.1 1) n (nw, 0)).1 20) ((daysS Lw (snS ((tkS u 50 40).1 25) ((tkS u 50 40).2.1 21) ((tkS u 50 40).2.1 22) ((tkS u 50 40).2.1 23) ((tkS u 50 40).2.1 20)) F00 ((tkS u 50 40).2.1 1) n (nw, 0)).2) jo_6).1 52)) hC hK hP (oS_then _ _ _ _ _) clX4 in_X4 2 (by decide) (fD52 _ _ _ _) nq232 dX0_tried_103 ?_
          refine W_top (y := ((daysS Lw (snS (u.1 25) (u.2.1 21) (u.2.1 22) (u.2.1 23) (u.2.1 20)) F00 (u.2.1 1) n (nw, 0)).1 17)) (rfl) ?_
          exact hq _ _ _ _ _ _ _ _ dX0_tried_106 hP hS (rfl) (by have hg : triedG (u.1 24) (nI n) k0 = true := (by first | (simp [triedG, c7, c15]; done) | (simp [triedG, c7, c29]; done)); exact ⟨_, sameT_tk u _ _ _ _ _ _ _ _ _, by rw [triedI, if_pos hg, hnx]; unfold triedV; rw [if_neg s51_0, if_neg s51_1, if_pos s51_2], rfl⟩) (by decide) (by decide)
        by_cases s51_3 : k0 = 3
        · refine lv_tableIn (tgt := 107) hx hb dX0_tried_51 (by rw [s51_3]; decide) (by rw [s51_3]; decide) (by rw [s51_3]; rfl) (by decide) ?_
          refine lv_aload_n hx hb dX0_tried_107 rfl (lv_at hl 0 rfl) ?_
          refine S_get hC hK hP (oS_main _ _ _ _ _) clX0 in_X0 4 (by decide) (fD4 _ _ _ _) q298 dX0_tried_108 ?_
          refine CIs.go (rcV hC hl (c_X4_joyOfAll_then G l o R tx (dSb (tkS u 50 40) z_4 F_5 ((daysS Lw (snS ((tkS u 50 40).1 25) ((tkS u 50 40).2.1 21) ((tkS u 50 40).2.1 22) ((tkS u 50 40).2.1 23) ((tkS u 50 40).2.1 20)) F00 ((tkS u 50 40).2.1 1) n (nw, 0)).1 16) ((daysS Lw (snS ((tkS u 50 40).1 25) ((tkS u 50 40).2.1 21) ((tkS u 50 40).2.1 22) ((tkS u 50 40).2.1 23) ((tkS u 50 40).2.1 20)) F00 ((tkS u 50 40).2.1 1) n (nw, 0)).1 17) ((daysS Lw (snS ((tkS u 50 40).1 25) ((tkS u 50 40).2.1 21) ((tkS u 50 40).2.1 22) ((tkS u 50 40).2.1 23) ((tkS u 50 40).2.1 20)) F00 ((tkS u 50 40).2.1 1) n (nw, 0)).1 18) ((daysS Lw (snS ((tkS u 50 40).1 25) ((tkS u 50 40).2.1 21) ((tkS u 50 40).2.1 22) ((tkS u 50 40).2.1 23) ((tkS u 50 40).2.1 20)) F00 ((tkS u 50 40).2.1 1) n (nw, 0)).1 19) ((daysS Lw (snS ((tkS u 50 40).1 25) ((tkS u 50 40).2.1 21) ((tkS u 50 40).2.1 22) ((tkS u 50 40).2.1 23) ((tkS u 50 40).2.1 20)) F00 ((tkS u 50 40).2.1 1) n (nw, 0)).1 20) ((daysS Lw (snS ((tkS u 50 40).1 25) ((tkS u 50 40).2.1 21) ((tkS u 50 40).2.1 22) ((tkS u 50 40).2.1 23) ((tkS u 50 40).2.1 20)) F00 ((tkS u 50 40).2.1 1) n (nw, 0)).2) jo_6)  ) hK hP (va_recv hK.1 hP clX4 (oS_then _ _ _ _ _)) q992 q993 q994 q114 q995 mdX4_joyOfAll (room_s hRm rfl) rfl rfl dX0_tried_111) ?_
          refine W_top (y := (joyAll (u.1 24) (daysS Lw (snS (u.1 25) (u.2.1 21) (u.2.1 22) (u.2.1 23) (u.2.1 20)) F00 (u.2.1 1) n (nw, 0)).1 16)) (sum_all f46_0 hdj2.1 16 (by omega)) ?_
          exact hq _ _ _ _ _ _ _ _ dX0_tried_114 hP hS (rfl) (by have hg : triedG (u.1 24) (nI n) k0 = true := (by first | (simp [triedG, c7, c15]; done) | (simp [triedG, c7, c29]; done)); exact ⟨_, sameT_tk u _ _ _ _ _ _ _ _ _, by rw [triedI, if_pos hg, hnx]; unfold triedV; rw [if_neg s51_0, if_neg s51_1, if_neg s51_2, if_pos s51_3], rfl⟩) (by decide) (by decide)
        refine lv_tableOut (tgt := 115) hx hb dX0_tried_51 (sw_out (x := k0) (lo := 0) (hi := 3) (fun v h1 h2 => by rcases (show v = 0 ∨ v = 1 ∨ v = 2 ∨ v = 3 by omega) with rfl | rfl | rfl | rfl <;> first | exact s51_0 | exact s51_1 | exact s51_2 | exact s51_3)) (by decide) ?_
        refine lv_aload_n hx hb dX0_tried_115 rfl (lv_at hl 0 rfl) ?_
        refine S_get hC hK hP (oS_main _ _ _ _ _) clX0 in_X0 4 (by decide) (fD4 _ _ _ _) q298 dX0_tried_116 ?_
        refine S_getN hC hK hP (oS_then _ _ _ _ _) clX4 in_X4 0 (by decide) (fD50 _ _ _ _) nq228 dX0_tried_119 ?_
        refine lv_iload_n hx hb dX0_tried_122 rfl (lv_at hl 2 rfl) ?_
        refine lv_bipush (v := 10) hx hb dX0_tried_123 (by decide) ?_
        obtain ⟨hix, hix2⟩ := tried_ix hor s51_0 s51_1 s51_2 s51_3
        refine lv_isub hx hb dX0_tried_125 ?_
        refine S_ald hC hK hP (aS50 _ _ _ _ _) (j := (ix (k0 - 10))) (by decide) (hix) (by omega) dX0_tried_126 ?_
        refine W_top (y := ((daysS Lw (snS (u.1 25) (u.2.1 21) (u.2.1 22) (u.2.1 23) (u.2.1 20)) F00 (u.2.1 1) n (nw, 0)).1 (ix (k0 - 10)))) (f46_0 _ hix2) ?_
        exact hq _ _ _ _ _ _ _ _ dX0_tried_127 hP hS (rfl) (by have hg : triedG (u.1 24) (nI n) k0 = true := (by first | (simp [triedG, c7, c15]; done) | (simp [triedG, c7, c29]; done)); exact ⟨_, sameT_tk u _ _ _ _ _ _ _ _ _, by rw [triedI, if_pos hg, hnx]; unfold triedV; rw [if_neg s51_0, if_neg s51_1, if_neg s51_2, if_neg s51_3], rfl⟩) (by decide) (by decide)
      · have c29 : (isHouseB (u.1 24) (k0 - 10)) = false := bI_0.mp c29
        refine lv_iconst (v := (-1)) hx hb dX0_tried_32 (by decide) ?_
        exact hq _ _ _ _ _ _ _ _ dX0_tried_33 hP hS (rfl) (by exact ⟨u, ⟨fun _ _ => rfl, fun _ _ => rfl, rfl⟩, by first | (simp [triedI, triedG, c7]; done) | (simp [triedI, triedG, c7, c15, c29]; done), rfl⟩) (by decide) (by decide)
set_option maxHeartbeats 4000000 in
theorem c_X0_count (G : GG) (l : Launch) (o : Nat) (R : Nat → Nat) (tx : Nat) (u : MS) (k : Int32) (Lw : LW) (nw : Nat → Int32) (hrow : rowA u 40 nw) (hok : dOK nw) (hdj : dJ (u.1 24) nw) : CIs G l yX0_count cX0_count 2 .int 3 50 [.ref o, .int k] (fun H => PwS G o R tx u H ∧ TxW G (AwS o R) tx Lw H) (countI (u.1 24) (u.1 25) (nI Lw.1) (u.1 8) nw (u.2.1 1) k) := by
  refine CIs.mk RX0 pnX0 rfl (rfl) (Nat.le_of_ble_eq_true rfl) (fun pg en Rm sg mm ar bw mth cd QQ ls hC hRm hK hX hl hq => ?_)
  have hx := hC.1; have hb := hC.2.1; have ho := hC.2.2.2.1; have hts := hC.2.2.2.2
  obtain ⟨hP, hX2⟩ := hX
  have hl : lv_has ls 2 [(0, .ref o), (1, .int k)] := hl
  obtain ⟨hr1, hr2, hr3, hr4, hr5, hjo⟩ := hrow
  refine lv_iload_n hx hb dX0_count_0 rfl (lv_at hl 1 rfl) ?_
  by_cases s1_0 : k = 0
  · refine lv_tableIn (tgt := 64) hx hb dX0_count_1 (by rw [s1_0]; decide) (by rw [s1_0]; decide) (by rw [s1_0]; rfl) (by decide) ?_
    refine lv_aload_n hx hb dX0_count_64 rfl (lv_at hl 0 rfl) ?_
    refine S_get hC hK hP (oS_main _ _ _ _ _) clX0 in_X0 3 (by decide) (fD3 _ _ _ _) q297 dX0_count_65 ?_
    refine S_getN (v := .int (u.1 44)) hC hK hP (oS_street _ _ _ _ _) clX4 in_X4 4 (by decide) (fD44 _ _ _ _) nq236 dX0_count_68 ?_
    refine W_top (y := (nw 19)) (hr4) ?_
    exact hq _ _ _ dX0_count_71 (by grind [countI])
  by_cases s1_1 : k = 1
  · refine lv_tableIn (tgt := 72) hx hb dX0_count_1 (by rw [s1_1]; decide) (by rw [s1_1]; decide) (by rw [s1_1]; rfl) (by decide) ?_
    refine lv_aload_n hx hb dX0_count_72 rfl (lv_at hl 0 rfl) ?_
    refine S_get hC hK hP (oS_main _ _ _ _ _) clX0 in_X0 0 (by decide) (fD0 _ _ _ _) q291 dX0_count_73 ?_
    refine S_getN (v := .int (u.1 24)) hC hK hP (oS_plan _ _ _ _ _) clX1 in_X1 4 (by decide) (fD24 _ _ _ _) nq161 dX0_count_76 ?_
    exact hq _ _ _ dX0_count_79 (by grind [countI])
  by_cases s1_2 : k = 2
  · refine lv_tableIn (tgt := 80) hx hb dX0_count_1 (by rw [s1_2]; decide) (by rw [s1_2]; decide) (by rw [s1_2]; rfl) (by decide) ?_
    refine lv_aload_n hx hb dX0_count_80 rfl (lv_at hl 0 rfl) ?_
    refine S_get hC hK hP (oS_main _ _ _ _ _) clX0 in_X0 0 (by decide) (fD0 _ _ _ _) q291 dX0_count_81 ?_
    refine S_getN (v := .int (u.1 25)) hC hK hP (oS_plan _ _ _ _ _) clX1 in_X1 5 (by decide) (fD25 _ _ _ _) nq164 dX0_count_84 ?_
    exact hq _ _ _ dX0_count_87 (by grind [countI])
  by_cases s1_3 : k = 3
  · refine lv_tableIn (tgt := 88) hx hb dX0_count_1 (by rw [s1_3]; decide) (by rw [s1_3]; decide) (by rw [s1_3]; rfl) (by decide) ?_
    refine lv_aload_n hx hb dX0_count_88 rfl (lv_at hl 0 rfl) ?_
    refine S_get hC hK hP (oS_main _ _ _ _ _) clX0 in_X0 3 (by decide) (fD3 _ _ _ _) q297 dX0_count_89 ?_
    refine S_getN (v := .int (u.1 41)) hC hK hP (oS_street _ _ _ _ _) clX4 in_X4 1 (by decide) (fD41 _ _ _ _) nq230 dX0_count_92 ?_
    refine W_top (y := (nw 16)) (hr1) ?_
    refine CIs.go (rcS hC hl (c_X0_orNobody G l (nw 16) ) hK trivial q989 q990 q110 q991 mdX0_orNobody (room_s hRm rfl) rfl rfl dX0_count_95) ?_
    exact hq _ _ _ dX0_count_98 (by grind [countI])
  by_cases s1_4 : k = 4
  · refine lv_tableIn (tgt := 99) hx hb dX0_count_1 (by rw [s1_4]; decide) (by rw [s1_4]; decide) (by rw [s1_4]; rfl) (by decide) ?_
    refine lv_aload_n hx hb dX0_count_99 rfl (lv_at hl 0 rfl) ?_
    refine S_get hC hK hP (oS_main _ _ _ _ _) clX0 in_X0 3 (by decide) (fD3 _ _ _ _) q297 dX0_count_100 ?_
    refine S_getN (v := .int (u.1 42)) hC hK hP (oS_street _ _ _ _ _) clX4 in_X4 2 (by decide) (fD42 _ _ _ _) nq232 dX0_count_103 ?_
    refine W_top (y := (nw 17)) (hr2) ?_
    exact hq _ _ _ dX0_count_106 (by grind [countI])
  by_cases s1_5 : k = 5
  · refine lv_tableIn (tgt := 107) hx hb dX0_count_1 (by rw [s1_5]; decide) (by rw [s1_5]; decide) (by rw [s1_5]; rfl) (by decide) ?_
    refine lv_aload_n hx hb dX0_count_107 rfl (lv_at hl 0 rfl) ?_
    refine S_get hC hK hP (oS_main _ _ _ _ _) clX0 in_X0 3 (by decide) (fD3 _ _ _ _) q297 dX0_count_108 ?_
    refine S_getN (v := .int (u.1 43)) hC hK hP (oS_street _ _ _ _ _) clX4 in_X4 3 (by decide) (fD43 _ _ _ _) nq234 dX0_count_111 ?_
    refine W_top (y := (nw 18)) (hr3) ?_
    exact hq _ _ _ dX0_count_114 (by grind [countI])
  by_cases s1_6 : k = 6
  · refine lv_tableIn (tgt := 115) hx hb dX0_count_1 (by rw [s1_6]; decide) (by rw [s1_6]; decide) (by rw [s1_6]; rfl) (by decide) ?_
    refine lv_aload_n hx hb dX0_count_115 rfl (lv_at hl 0 rfl) ?_
    refine S_get hC hK hP (oS_main _ _ _ _ _) clX0 in_X0 7 (by decide) (fD7 _ _ _ _) q303 dX0_count_116 ?_
    refine S_manyN hC hK hX2 nq277 dX0_count_119 ?_
    exact hq _ _ _ dX0_count_122 (by grind [countI])
  by_cases s1_7 : k = 7
  · refine lv_tableIn (tgt := 123) hx hb dX0_count_1 (by rw [s1_7]; decide) (by rw [s1_7]; decide) (by rw [s1_7]; rfl) (by decide) ?_
    refine lv_aload_n hx hb dX0_count_123 rfl (lv_at hl 0 rfl) ?_
    refine S_get (v := .int (u.1 8)) hC hK hP (oS_main _ _ _ _ _) clX0 in_X0 8 (by decide) (fD8 _ _ _ _) q305 dX0_count_124 ?_
    exact hq _ _ _ dX0_count_127 (by grind [countI])
  by_cases s1_8 : k = 8
  · refine lv_tableIn (tgt := 128) hx hb dX0_count_1 (by rw [s1_8]; decide) (by rw [s1_8]; decide) (by rw [s1_8]; rfl) (by decide) ?_
    refine lv_aload_n hx hb dX0_count_128 rfl (lv_at hl 0 rfl) ?_
    refine S_get hC hK hP (oS_main _ _ _ _ _) clX0 in_X0 3 (by decide) (fD3 _ _ _ _) q297 dX0_count_129 ?_
    refine S_getN (v := .int (u.1 45)) hC hK hP (oS_street _ _ _ _ _) clX4 in_X4 5 (by decide) (fD45 _ _ _ _) nq238 dX0_count_132 ?_
    refine W_top (y := (nw 20)) (hr5) ?_
    exact hq _ _ _ dX0_count_135 (by grind [countI])
  by_cases s1_9 : k = 9
  · refine lv_tableIn (tgt := 136) hx hb dX0_count_1 (by rw [s1_9]; decide) (by rw [s1_9]; decide) (by rw [s1_9]; rfl) (by decide) ?_
    refine lv_aload_n hx hb dX0_count_136 rfl (lv_at hl 0 rfl) ?_
    refine S_get hC hK hP (oS_main _ _ _ _ _) clX0 in_X0 3 (by decide) (fD3 _ _ _ _) q297 dX0_count_137 ?_
    refine CIs.go (rcV hC hl (c_X4_joyOfAll_street G l o R tx u  ) hK hP (va_recv hK.1 hP clX4 (oS_street _ _ _ _ _)) q992 q993 q994 q114 q995 mdX4_joyOfAll (room_s hRm rfl) rfl rfl dX0_count_140) ?_
    refine W_top (y := (joyAll (u.1 24) nw 16)) (sum_all hjo hdj.1 16 (by omega)) ?_
    exact hq _ _ _ dX0_count_143 (by grind [countI])
  by_cases s1_10 : k = 10
  · refine lv_tableIn (tgt := 144) hx hb dX0_count_1 (by rw [s1_10]; decide) (by rw [s1_10]; decide) (by rw [s1_10]; rfl) (by decide) ?_
    refine lv_aload_n hx hb dX0_count_144 rfl (lv_at hl 0 rfl) ?_
    refine S_get hC hK hP (oS_main _ _ _ _ _) clX0 in_X0 3 (by decide) (fD3 _ _ _ _) q297 dX0_count_145 ?_
    refine S_getN (v := .int (u.1 42)) hC hK hP (oS_street _ _ _ _ _) clX4 in_X4 2 (by decide) (fD42 _ _ _ _) nq232 dX0_count_148 ?_
    refine W_top (y := (nw 17)) (hr2) ?_
    refine CIs.go (rcS hC hl (c_J6_bitCount G l (nw 17) (hr2 ▸ hok.2.1)) hK trivial q1071 q906 q135 q907 mdJ6_bitCount (room_s hRm rfl) rfl rfl dX0_count_151) ?_
    exact hq _ _ _ dX0_count_154 (by grind [countI])
  by_cases s1_11 : k = 11
  · refine lv_tableIn (tgt := 155) hx hb dX0_count_1 (by rw [s1_11]; decide) (by rw [s1_11]; decide) (by rw [s1_11]; rfl) (by decide) ?_
    refine lv_bipush (v := 12) hx hb dX0_count_155 (by decide) ?_
    refine lv_aload_n hx hb dX0_count_157 rfl (lv_at hl 0 rfl) ?_
    refine lv_iconst (v := (-1)) hx hb dX0_count_158 (by decide) ?_
    refine CIs.go (rcV hC hl (c_X0_turnsOf G l o R tx u (-1) ) hK hP (va_recv hK.1 hP clX0 (oS_main _ _ _ _ _)) q1005 q1007 qs28 q110 q1008 mdX0_turnsOf (room_s hRm rfl) rfl rfl dX0_count_159) ?_
    refine lv_isub hx hb dX0_count_162 ?_
    exact hq _ _ _ dX0_count_163 (by grind [countI])
  refine lv_tableOut (tgt := 164) hx hb dX0_count_1 (sw_out (x := k) (lo := 0) (hi := 11) (fun v h1 h2 => by rcases (show v = 0 ∨ v = 1 ∨ v = 2 ∨ v = 3 ∨ v = 4 ∨ v = 5 ∨ v = 6 ∨ v = 7 ∨ v = 8 ∨ v = 9 ∨ v = 10 ∨ v = 11 by omega) with rfl | rfl | rfl | rfl | rfl | rfl | rfl | rfl | rfl | rfl | rfl | rfl <;> first | exact s1_0 | exact s1_1 | exact s1_2 | exact s1_3 | exact s1_4 | exact s1_5 | exact s1_6 | exact s1_7 | exact s1_8 | exact s1_9 | exact s1_10 | exact s1_11)) (by decide) ?_
  refine lv_iconst (v := (-1)) hx hb dX0_count_164 (by decide) ?_
  exact hq _ _ _ dX0_count_165 (by grind [countI])
