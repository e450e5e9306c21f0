set_option maxRecDepth 100000
set_option maxHeartbeats 4000000 in
theorem c_X6_dayGoes (G : GG) (l : Launch) (o : Nat) (R : Nat → Nat) (u : MS) (Lw : LW) (hw : WOK (u.2.1 3)) (hat : atOK ((u.2.1 0) 16)) (hW : codesOK u Lw) (hN : nineW Lw) (hD : DM o R) : CMv G l o R yX6_dayGoes cX6_dayGoes 2 8 159 [] u (fun w => ∃ g : Nat → Int32, ∃ f : Nat → Int32, w = (dM u ((dayS Lw (snS (u.1 9) (u.2.1 5) (u.2.1 6) (u.2.1 7) (u.2.1 4)) F00 (u.2.1 3) ((u.2.1 0), (u.1 50))).2) ((dayS Lw (snS (u.1 9) (u.2.1 5) (u.2.1 6) (u.2.1 7) (u.2.1 4)) F00 (u.2.1 3) ((u.2.1 0), (u.1 50))).1) g f)) := by
  refine CMv.mk pnX6 rfl (Nat.le_of_ble_eq_true rfl) (fun pg en Rm sg mm ar bw mth cd QQ ls hC hRm hK hP hS hl hq => ?_)
  have hx := hC.1; have hb := hC.2.1; have ho := hC.2.2.2.1; have hts := hC.2.2.2.2
  have hl : lv_has ls 2 [(0, .ref o)] := hl
  have hP : PM G o R (dM u (u.1 50) (u.2.1 0) (u.2.1 32) (u.2.1 33)) sg.heap := by rw [dM_self]; exact hP
  refine lv_iconst (v := 0) hx hb dX6_dayGoes_0 (by decide) ?_
  refine lv_istore_n (lv' := [(1, .int 0), (0, .ref o)]) hx hb dX6_dayGoes_1 rfl hl (by decide) rfl (fun ls hl => ?_)
  have LP2 : ∀ (fu2 : Nat) (t : Nat) (cn : Int32) (nw : Nat → Int32) (g : Nat → Int32) (f : Nat → Int32) (H : Heap) (locs : List Loc) (ls : Array Slot), 12 - t < fu2 → t ≤ 12 → (nw, cn) = turnsG Lw (snS (u.1 9) (u.2.1 5) (u.2.1 6) (u.2.1 7) (u.2.1 4)) F00 (u.2.1 3) ((u.2.1 0), (u.1 50)) t → PM G o R (dM u cn nw g f) H → va_S (AM o R) sg.heap H locs → lv_has ls 2 [(0, .ref o), (1, .int (nI t))] → W pg l en Rm sg mm ar bw mth cd H locs 0 0 QQ (F0 mm 2 ls []) := by
    intro fu2
    induction fu2 with
    | zero => intro t cn nw g f H locs ls hm2 ht hinv hP hS hl; exact absurd hm2 (Nat.not_lt_zero _)
    | succ fu2 ih2 =>
      intro t cn nw g f H locs ls hm2 ht hinv hP hS hl
      refine lv_iload_n hx hb dX6_dayGoes_2 rfl (lv_at hl 1 rfl) ?_
      refine lv_bipush (v := 12) hx hb dX6_dayGoes_3 (by decide) ?_
      refine lv_icmp_ge (tgt := 29) hx hb dX6_dayGoes_5 (by decide) (fun c5 => ?_) (fun c5 => ?_)
      · have c5 : 12 ≤ t := (nI_leI (a := 12) (b := t) (by omega) (by omega)).mp c5
        refine lv_aload_n hx hb dX6_dayGoes_29 rfl (lv_at hl 0 rfl) ?_
        refine M_get hC hK hP 0 (by decide) (fM0 _ _) q1201 dX6_dayGoes_30 ?_
        refine lv_bipush (v := 19) hx hb dX6_dayGoes_33 (by decide) ?_
        refine lv_aload_n hx hb dX6_dayGoes_35 rfl (lv_at hl 0 rfl) ?_
        refine M_get hC hK hP 0 (by decide) (fM0 _ _) q1201 dX6_dayGoes_36 ?_
        refine lv_bipush (v := 19) hx hb dX6_dayGoes_39 (by decide) ?_
        refine M_ald hC hK hP 0 1 21 19 (aM0 _ _ _ _) (by decide) (by decide) (by omega) dX6_dayGoes_41 ?_
        refine W_top (y := (nw 19)) (by rw [dM_g0]) ?_
        refine lv_iconst (v := 1) hx hb dX6_dayGoes_42 (by decide) ?_
        refine lv_iadd hx hb dX6_dayGoes_43 ?_
        refine M_ast hC hK hD hP hS 0 1 21 19 (aM0 _ _ _ _) (bM0 _ _ _ _ _ _) (by decide) (by decide) (by omega) dX6_dayGoes_44 (fun H locs hP hS => ?_)
        rw [dM_A0] at hP
        exact hq _ _ _ _ _ dX6_dayGoes_45 hP hS (by have e12 : t = 12 := (by omega); subst e12; exact ⟨g, f, by rw [dayS_eq hinv]⟩)
      · have c5 : ¬ (12 ≤ t) := mt (nI_leI (a := 12) (b := t) (by omega) (by omega)).mpr c5
        refine lv_aload_n hx hb dX6_dayGoes_8 rfl (lv_at hl 0 rfl) ?_
        refine M_get hC hK hP 3 (by decide) (fM3 _ _) q1204 dX6_dayGoes_9 ?_
        refine lv_iload_n hx hb dX6_dayGoes_12 rfl (lv_at hl 1 rfl) ?_
        refine M_ald hC hK hP 3 4 12 t (aM3 _ _ _ _) (by decide) (rfl) (by omega) dX6_dayGoes_13 ?_
        refine W_top (y := ((u.2.1 3) t)) (by rw [dM_g3]) ?_
        refine lv_iconst (v := (-1)) hx hb dX6_dayGoes_14 (by decide) ?_
        refine lv_icmp_eq (tgt := 23) hx hb dX6_dayGoes_15 (by decide) (fun c15 => ?_) (fun c15 => ?_)
        · refine lv_iinc (v := (nI (t + 1))) (lv' := [(1, .int (nI (t + 1))), (0, .ref o)]) hx hb dX6_dayGoes_23 hl (k := 1) rfl (nI_inc t) (by decide) rfl (fun ls hl => ?_)
          refine lv_goto (tgt := 2) hx hb dX6_dayGoes_26 (by decide) ?_
          exact ih2 (t + 1) cn nw g f _ _ ls (by omega) (by first | omega | assumption | rfl | (simp_all; done) | grind) (by first | (rw [turnsG_n c15]; exact hinv) | (rw [turnsG_g c15, ← hinv])) hP hS (lv_sub hl [1, 0] rfl)
        · have hat2 : atOK (nw 16) := by have h := turnsG_at (Lw := Lw) (sn := (snS (u.1 9) (u.2.1 5) (u.2.1 6) (u.2.1 7) (u.2.1 4))) (F0 := F00) (q := ((u.2.1 0), (u.1 50))) hw hat t (by omega); rw [← hinv] at h; exact h
          refine lv_aload_n hx hb dX6_dayGoes_18 rfl (lv_at hl 0 rfl) ?_
          refine lv_iload_n hx hb dX6_dayGoes_19 rfl (lv_at hl 1 rfl) ?_
          refine CMv.call hC hK hS (fun q h => h) hl (c_X6_turnGoes G l o R (dM u cn nw g f) t Lw (by omega) (hw) (c15) (hat2) (codesOK_dM hW) (hN) hD) hP rfl q1565 q1567 qs79 q116 q1568 mdX6_turnGoes (room_ok hRm rfl) rfl rfl dX6_dayGoes_20 (fun w20 H locs hpo hP _ _ hS => ?_)
          obtain ⟨g_1, f_2, ew20⟩ := hpo
          rw [ew20] at hP
          rw [dM_again] at hP
          simp only [dM_f50, dM_f9, dM_g0, dM_g3, dM_g4, dM_g5, dM_g6, dM_g7] at hP
          refine lv_iinc (v := (nI (t + 1))) (lv' := [(1, .int (nI (t + 1))), (0, .ref o)]) hx hb dX6_dayGoes_23 hl (k := 1) rfl (nI_inc t) (by decide) rfl (fun ls hl => ?_)
          refine lv_goto (tgt := 2) hx hb dX6_dayGoes_26 (by decide) ?_
          exact ih2 (t + 1) ((goS Lw (snS (u.1 9) (u.2.1 5) (u.2.1 6) (u.2.1 7) (u.2.1 4)) F00 (u.2.1 3) t (nw, cn)).2) ((goS Lw (snS (u.1 9) (u.2.1 5) (u.2.1 6) (u.2.1 7) (u.2.1 4)) F00 (u.2.1 3) t (nw, cn)).1) g_1 f_2 _ _ ls (by omega) (by first | omega | assumption | rfl | (simp_all; done) | grind) (by first | (rw [turnsG_n c15]; exact hinv) | (rw [turnsG_g c15, ← hinv])) hP hS (lv_sub hl [1, 0] rfl)
  exact LP2 _ 0 (u.1 50) (u.2.1 0) (u.2.1 32) (u.2.1 33) _ _ ls (Nat.lt_succ_self _) (by first | omega | assumption | rfl | (simp_all; done) | grind) (rfl) hP hS (lv_sub hl [1, 0] rfl)
set_option maxHeartbeats 4000000 in
theorem c_X6_daysGo (G : GG) (l : Launch) (o : Nat) (R : Nat → Nat) (u : MS) (n : Nat) (Lw : LW) (hn : n ≤ 100) (hw : WOK (u.2.1 3)) (hat : atOK ((u.2.1 0) 16)) (hW : codesOK u Lw) (hN : nineW Lw) (hD : DM o R) : CMv G l o R yX6_daysGo cX6_daysGo 3 9 180 [.int (nI n)] u (fun w => ∃ g : Nat → Int32, ∃ f : Nat → Int32, w = (dM u ((daysS Lw (snS (u.1 9) (u.2.1 5) (u.2.1 6) (u.2.1 7) (u.2.1 4)) F00 (u.2.1 3) n ((u.2.1 0), 0)).2) ((daysS Lw (snS (u.1 9) (u.2.1 5) (u.2.1 6) (u.2.1 7) (u.2.1 4)) F00 (u.2.1 3) n ((u.2.1 0), 0)).1) g f)) := by
  refine CMv.mk pnX6 rfl (Nat.le_of_ble_eq_true rfl) (fun pg en Rm sg mm ar bw mth cd QQ ls hC hRm hK hP hS hl hq => ?_)
  have hx := hC.1; have hb := hC.2.1; have ho := hC.2.2.2.1; have hts := hC.2.2.2.2
  have hl : lv_has ls 3 [(0, .ref o), (1, .int (nI n))] := hl
  have hP : PM G o R (dM u (u.1 50) (u.2.1 0) (u.2.1 32) (u.2.1 33)) sg.heap := by rw [dM_self]; exact hP
  refine lv_aload_n hx hb dX6_daysGo_0 rfl (lv_at hl 0 rfl) ?_
  refine lv_iconst (v := 0) hx hb dX6_daysGo_1 (by decide) ?_
  refine M_put hC hK hD hP hS 50 (by decide) (sM50 _ _ _) q1251 rfl dX6_daysGo_2 (fun H locs hP hS => ?_)
  rw [dM_V50] at hP
  refine lv_iconst (v := 0) hx hb dX6_daysGo_5 (by decide) ?_
  refine lv_istore_n (lv' := [(2, .int 0), (0, .ref o), (1, .int (nI n))]) hx hb dX6_daysGo_6 rfl hl (by decide) rfl (fun ls hl => ?_)
  have LP7 : ∀ (fu7 : Nat) (k : Nat) (cn : Int32) (nw : Nat → Int32) (g : Nat → Int32) (f : Nat → Int32) (H : Heap) (locs : List Loc) (ls : Array Slot), n - k < fu7 → k ≤ n → daysS Lw (snS (u.1 9) (u.2.1 5) (u.2.1 6) (u.2.1 7) (u.2.1 4)) F00 (u.2.1 3) n ((u.2.1 0), 0) = daysS Lw (snS (u.1 9) (u.2.1 5) (u.2.1 6) (u.2.1 7) (u.2.1 4)) F00 (u.2.1 3) (n - k) (nw, cn) → atOK (nw 16) → PM G o R (dM u cn nw g f) H → va_S (AM o R) sg.heap H locs → lv_has ls 3 [(0, .ref o), (1, .int (nI n)), (2, .int (nI k))] → W pg l en Rm sg mm ar bw mth cd H locs 0 0 QQ (F0 mm 7 ls []) := by
    intro fu7
    induction fu7 with
    | zero => intro k cn nw g f H locs ls hm7 hk hinv hat2 hP hS hl; exact absurd hm7 (Nat.not_lt_zero _)
    | succ fu7 ih7 =>
      intro k cn nw g f H locs ls hm7 hk hinv hat2 hP hS hl
      refine lv_iload_n hx hb dX6_daysGo_7 rfl (lv_at hl 2 rfl) ?_
      refine lv_iload_n hx hb dX6_daysGo_8 rfl (lv_at hl 1 rfl) ?_
      refine lv_icmp_ge (tgt := 35) hx hb dX6_daysGo_9 (by decide) (fun c9 => ?_) (fun c9 => ?_)
      · have c9 : n ≤ k := (nI_leI (a := n) (b := k) (by omega) (by omega)).mp c9
        exact hq _ _ _ _ _ dX6_daysGo_35 hP hS (by first | (exact ⟨g, f, by rw [hinv, show n - k = 0 by omega, daysS_0]⟩) | (exact ⟨g, f, by rw [hinv, daysS_last c22]⟩))
      · have c9 : ¬ (n ≤ k) := mt (nI_leI (a := n) (b := k) (by omega) (by omega)).mpr c9
        refine lv_aload_n hx hb dX6_daysGo_12 rfl (lv_at hl 0 rfl) ?_
        refine M_get hC hK hP 0 (by decide) (fM0 _ _) q1201 dX6_daysGo_13 ?_
        refine lv_bipush (v := 19) hx hb dX6_daysGo_16 (by decide) ?_
        refine M_ald hC hK hP 0 1 21 19 (aM0 _ _ _ _) (by decide) (by decide) (by omega) dX6_daysGo_18 ?_
        refine W_top (y := (nw 19)) (by rw [dM_g0]) ?_
        refine lv_sipush (v := 9999) hx hb dX6_daysGo_19 (by decide) ?_
        refine lv_icmp_ge (tgt := 35) hx hb dX6_daysGo_22 (by decide) (fun c22 => ?_) (fun c22 => ?_)
        · exact hq _ _ _ _ _ dX6_daysGo_35 hP hS (by first | (exact ⟨g, f, by rw [hinv, show n - k = 0 by omega, daysS_0]⟩) | (exact ⟨g, f, by rw [hinv, daysS_last c22]⟩))
        · refine lv_aload_n hx hb dX6_daysGo_25 rfl (lv_at hl 0 rfl) ?_
          refine CMv.call hC hK hS (fun q h => h) hl (c_X6_dayGoes G l o R (dM u cn nw g f) Lw (hw) (hat2) (codesOK_dM hW) (hN) hD) hP rfl q1561 q1563 qs78 q116 q1564 mdX6_dayGoes (room_ok hRm rfl) rfl rfl dX6_daysGo_26 (fun w26 H locs hpo hP _ _ hS => ?_)
          obtain ⟨g_1, f_2, ew26⟩ := hpo
          rw [ew26] at hP
          rw [dM_again] at hP
          simp only [dM_f50, dM_f9, dM_g0, dM_g3, dM_g4, dM_g5, dM_g6, dM_g7] at hP
          refine lv_iinc (v := (nI (k + 1))) (lv' := [(2, .int (nI (k + 1))), (0, .ref o), (1, .int (nI n))]) hx hb dX6_daysGo_29 hl (k := 2) rfl (nI_inc k) (by decide) rfl (fun ls hl => ?_)
          refine lv_goto (tgt := 7) hx hb dX6_daysGo_32 (by decide) ?_
          exact ih7 (k + 1) ((dayS Lw (snS (u.1 9) (u.2.1 5) (u.2.1 6) (u.2.1 7) (u.2.1 4)) F00 (u.2.1 3) (nw, cn)).2) ((dayS Lw (snS (u.1 9) (u.2.1 5) (u.2.1 6) (u.2.1 7) (u.2.1 4)) F00 (u.2.1 3) (nw, cn)).1) g_1 f_2 _ _ ls (by omega) (by first | omega | assumption | rfl | (simp_all; done) | grind) (by rw [hinv]; exact daysS_step (by omega) (Int32.not_le.mp c22)) (dayS_at hw hat2) hP hS (lv_sub hl [1, 2, 0] rfl)
  exact LP7 _ 0 0 (u.2.1 0) (u.2.1 32) (u.2.1 33) _ _ ls (Nat.lt_succ_self _) (by first | omega | assumption | rfl | (simp_all; done) | grind) (rfl) (hat) hP hS (lv_sub hl [1, 2, 0] rfl)
