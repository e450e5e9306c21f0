set_option maxRecDepth 100000
set_option maxHeartbeats 4000000 in
theorem c_X6_byLaw (G : GG) (l : Launch) (o : Nat) (R : Nat → Nat) (u : MS) (c : Int32) (hi : Int32) (wo : Int32) (Lw : LW) (hW : codesOK u Lw) (hc : ¬ c = 120) (hD : DM o R) : CMi G l o R yX6_byLaw cX6_byLaw 6 .int 4 65 [.int c, .int hi, .int wo] u (fun r w => ∃ g : Nat → Int32, r = (byLawS Lw c hi wo (u.2.1 33)) ∧ w = (mS u 32 g)) := by
  refine CMi.mk pnX6 rfl (Nat.le_of_ble_eq_true rfl) (fun pg en Rm sg mm ar bw mth cd QQ ls hC hRm hK hP hS hl hq => ?_)
  have hx := hC.1; have hb := hC.2.1; have ho := hC.2.2.2.1; have hts := hC.2.2.2.2
  have hl : lv_has ls 6 [(0, .ref o), (1, .int c), (2, .int hi), (3, .int wo)] := hl
  obtain ⟨hcl, hcl16, cs, fr, hf, to, hcs, hWq⟩ := hW
  refine lv_iconst (v := 0) hx hb dX6_byLaw_0 (by decide) ?_
  refine lv_istore (lv' := [(4, .int 0), (0, .ref o), (1, .int c), (2, .int hi), (3, .int wo)]) hx hb dX6_byLaw_1 hl (by decide) rfl (fun ls hl => ?_)
  have hP : PM G o R (mS u 32 (u.2.1 32)) sg.heap := by rw [show (u.2.1 32) = (u.2.1 32) from rfl, mS_self]; exact hP
  have LP3 : ∀ (fu3 : Nat) (qq : Nat) (g : Nat → Int32) (H : Heap) (locs : List Loc) (ls : Array Slot), Lw.1 - qq < fu3 → qq ≤ Lw.1 → findW Lw c (u.2.1 33) Lw.1 0 = findW Lw c (u.2.1 33) (Lw.1 - qq) qq → PM G o R (mS u 32 g) H → va_S (AM o R) sg.heap H locs → lv_has ls 6 [(0, .ref o), (1, .int c), (2, .int hi), (3, .int wo), (4, .int (nI qq))] → W pg l en Rm sg mm ar bw mth cd H locs 0 0 QQ (F0 mm 3 ls []) := by
    intro fu3
    induction fu3 with
    | zero => intro qq g H locs ls hm3 hqq hfind hP hS hl; exact absurd hm3 (Nat.not_lt_zero _)
    | succ fu3 ih3 =>
      intro qq g H locs ls hm3 hqq hfind hP hS hl
      refine lv_iload hx hb dX6_byLaw_3 (lv_at hl 4 rfl) ?_
      refine lv_aload_n hx hb dX6_byLaw_5 rfl (lv_at hl 0 rfl) ?_
      refine M_get (v := .int (u.1 20)) hC hK hP 20 (by decide) (fM20 _ _) q1221 dX6_byLaw_6 ?_
      refine W_top hcl ?_
      refine lv_icmp_ge (tgt := 96) hx hb dX6_byLaw_9 (by decide) (fun c9 => ?_) (fun c9 => ?_)
      · have c9 : Lw.1 ≤ qq := (nI_leI (a := Lw.1) (b := qq) (by omega) (by omega)).mp c9
        refine lv_iload_n hx hb dX6_byLaw_96 rfl (lv_at hl 3 rfl) ?_
        exact hq _ _ _ _ _ _ dX6_byLaw_97 hP hS (rfl) (by exact ⟨_, by rw [byLawS_n (hfind.trans (findW_e (by omega)))], rfl⟩)
      · have c9 : ¬ (Lw.1 ≤ qq) := mt (nI_leI (a := Lw.1) (b := qq) (by omega) (by omega)).mpr c9
        obtain ⟨a1, a2, a3, a4, b1, b2, b3, e1, e2⟩ := hWq qq (by omega)
        refine lv_aload_n hx hb dX6_byLaw_12 rfl (lv_at hl 0 rfl) ?_
        refine M_get hC hK hP 28 (by decide) (fM28 _ _) q1229 dX6_byLaw_13 ?_
        refine lv_iload hx hb dX6_byLaw_16 (lv_at hl 4 rfl) ?_
        refine M_ald hC hK hP 28 17 16 qq (aM28 _ _ _ _) (by decide) (rfl) (by omega) dX6_byLaw_18 ?_
        refine W_top (y := (u.2.1 28 qq)) rfl ?_
        refine W_top (y := (Lw.2.1 qq)) (a1) ?_
        refine lv_iload_n hx hb dX6_byLaw_19 rfl (lv_at hl 1 rfl) ?_
        refine lv_icmp_ne (tgt := 90) hx hb dX6_byLaw_20 (by decide) (fun c20 => ?_) (fun c20 => ?_)
        · refine lv_iinc (v := (nI (qq + 1))) (lv' := [(4, .int (nI (qq + 1))), (0, .ref o), (1, .int c), (2, .int hi), (3, .int wo)]) hx hb dX6_byLaw_90 hl (k := 4) rfl (nI_inc qq) (by decide) rfl (fun ls hl => ?_)
          refine lv_goto (tgt := 3) hx hb dX6_byLaw_93 (by decide) ?_
          exact ih3 (qq + 1) g _ _ ls (by omega) (by first | omega | assumption | rfl | (simp_all; done) | grind) (by first | exact hfind.trans (findW_f (by omega) (fun z => c20 z.1)) | exact hfind.trans (findW_f (by omega) (fun z => c42 (by have z2 := z.2; rw [hr1v] at z2; exact of_decide_eq_true z2)))) hP hS (lv_sub hl [1, 2, 3, 4, 0] rfl)
        · refine lv_aload_n hx hb dX6_byLaw_23 rfl (lv_at hl 0 rfl) ?_
          refine lv_aload_n hx hb dX6_byLaw_24 rfl (lv_at hl 0 rfl) ?_
          refine M_get hC hK hP 30 (by decide) (fM30 _ _) q1231 dX6_byLaw_25 ?_
          refine lv_iload hx hb dX6_byLaw_28 (lv_at hl 4 rfl) ?_
          refine M_ald hC hK hP 30 19 16 qq (aM30 _ _ _ _) (by decide) (rfl) (by omega) dX6_byLaw_30 ?_
          refine W_top (y := (u.2.1 30 qq)) rfl ?_
          refine W_top (y := (nI (hf qq))) (a3) ?_
          refine lv_aload_n hx hb dX6_byLaw_31 rfl (lv_at hl 0 rfl) ?_
          refine M_get hC hK hP 31 (by decide) (fM31 _ _) q1232 dX6_byLaw_32 ?_
          refine lv_iload hx hb dX6_byLaw_35 (lv_at hl 4 rfl) ?_
          refine M_ald hC hK hP 31 20 16 qq (aM31 _ _ _ _) (by decide) (rfl) (by omega) dX6_byLaw_37 ?_
          refine W_top (y := (u.2.1 31 qq)) rfl ?_
          refine W_top (y := (nI (to qq))) (a4) ?_
          obtain ⟨f1, r1, hr1, hr1v⟩ := e1 (u.2.1 33) g
          refine CMi.call hC hK hS (fun q h => h) hl (c_X6_reckonsTo G l o R (mS u 32 g) (hf qq) (to qq) f1 cs r1 (b2) (b3) (hcs) (hr1) hD) hP rfl q1587 q1589 qs83 q116 q1590 mdX6_reckonsTo (room_ok hRm rfl) rfl rfl dX6_byLaw_38 (fun r38 w38 H locs hpo hP _ _ hS => ?_)
          obtain ⟨g_1, er38, ew38⟩ := hpo
          rw [ew38] at hP
          refine W_top (y := r1) er38 ?_
          rw [mS_S] at hP
          refine lv_iconst (v := 1) hx hb dX6_byLaw_41 (by decide) ?_
          refine lv_icmp_eq (tgt := 48) hx hb dX6_byLaw_42 (by decide) (fun c42 => ?_) (fun c42 => ?_)
          · refine lv_aload_n hx hb dX6_byLaw_48 rfl (lv_at hl 0 rfl) ?_
            refine lv_aload_n hx hb dX6_byLaw_49 rfl (lv_at hl 0 rfl) ?_
            refine M_get hC hK hP 29 (by decide) (fM29 _ _) q1230 dX6_byLaw_50 ?_
            refine lv_iload hx hb dX6_byLaw_53 (lv_at hl 4 rfl) ?_
            refine M_ald hC hK hP 29 18 16 qq (aM29 _ _ _ _) (by decide) (rfl) (by omega) dX6_byLaw_55 ?_
            refine W_top (y := (u.2.1 29 qq)) rfl ?_
            refine W_top (y := (nI (fr qq))) (a2) ?_
            refine lv_aload_n hx hb dX6_byLaw_56 rfl (lv_at hl 0 rfl) ?_
            refine M_get hC hK hP 30 (by decide) (fM30 _ _) q1231 dX6_byLaw_57 ?_
            refine lv_iload hx hb dX6_byLaw_60 (lv_at hl 4 rfl) ?_
            refine M_ald hC hK hP 30 19 16 qq (aM30 _ _ _ _) (by decide) (rfl) (by omega) dX6_byLaw_62 ?_
            refine W_top (y := (u.2.1 30 qq)) rfl ?_
            refine W_top (y := (nI (hf qq))) (a3) ?_
            obtain ⟨f2, hr2⟩ := e2 (by rw [c20]; exact hc) (u.2.1 33) g_1
            refine CMi.call hC hK hS (fun q h => h) hl (c_X6_reckonsTo G l o R (mS u 32 g_1) (fr qq) (hf qq) f2 cs (Lw.2.2.1 qq (u.2.1 33)) (b1) (b2) (hcs) (hr2) hD) hP rfl q1587 q1589 qs83 q116 q1590 mdX6_reckonsTo (room_ok hRm rfl) rfl rfl dX6_byLaw_63 (fun r63 w63 H locs hpo hP _ _ hS => ?_)
            obtain ⟨g_2, er63, ew63⟩ := hpo
            rw [ew63] at hP
            refine W_top (y := (Lw.2.2.1 qq (u.2.1 33))) er63 ?_
            rw [mS_S] at hP
            refine lv_istore (lv' := [(5, .int (Lw.2.2.1 qq (u.2.1 33))), (0, .ref o), (1, .int c), (2, .int hi), (3, .int wo), (4, .int (nI qq))]) hx hb dX6_byLaw_66 hl (by decide) rfl (fun ls hl => ?_)
            refine lv_iload hx hb dX6_byLaw_68 (lv_at hl 0 rfl) ?_
            refine lv_if_ge (tgt := 77) hx hb dX6_byLaw_70 (by decide) (fun c70 => ?_) (fun c70 => ?_)
            · refine lv_iload hx hb dX6_byLaw_77 (lv_at hl 0 rfl) ?_
              refine lv_iload_n hx hb dX6_byLaw_79 rfl (lv_at hl 3 rfl) ?_
              refine lv_icmp_le (tgt := 87) hx hb dX6_byLaw_80 (by decide) (fun c80 => ?_) (fun c80 => ?_)
              · refine lv_iload hx hb dX6_byLaw_87 (lv_at hl 0 rfl) ?_
                exact hq _ _ _ _ _ _ dX6_byLaw_89 hP hS (rfl) (by exact ⟨_, by rw [byLawS_t (hfind.trans (findW_t (by omega) c20 (by rw [hr1v, c42]; rfl)))]; (clear hq hP hK hts hC hx hb ho hRm hl hS ih3); grind, rfl⟩)
              · refine lv_iload_n hx hb dX6_byLaw_83 rfl (lv_at hl 3 rfl) ?_
                refine lv_goto (tgt := 89) hx hb dX6_byLaw_84 (by decide) ?_
                exact hq _ _ _ _ _ _ dX6_byLaw_89 hP hS (rfl) (by exact ⟨_, by rw [byLawS_t (hfind.trans (findW_t (by omega) c20 (by rw [hr1v, c42]; rfl)))]; (clear hq hP hK hts hC hx hb ho hRm hl hS ih3); grind, rfl⟩)
            · refine lv_iconst (v := 0) hx hb dX6_byLaw_73 (by decide) ?_
              refine lv_goto (tgt := 89) hx hb dX6_byLaw_74 (by decide) ?_
              exact hq _ _ _ _ _ _ dX6_byLaw_89 hP hS (rfl) (by exact ⟨_, by rw [byLawS_t (hfind.trans (findW_t (by omega) c20 (by rw [hr1v, c42]; rfl)))]; (clear hq hP hK hts hC hx hb ho hRm hl hS ih3); grind, rfl⟩)
          · refine lv_goto (tgt := 90) hx hb dX6_byLaw_45 (by decide) ?_
            refine lv_iinc (v := (nI (qq + 1))) (lv' := [(4, .int (nI (qq + 1))), (0, .ref o), (1, .int c), (2, .int hi), (3, .int wo)]) hx hb dX6_byLaw_90 hl (k := 4) rfl (nI_inc qq) (by decide) rfl (fun ls hl => ?_)
            refine lv_goto (tgt := 3) hx hb dX6_byLaw_93 (by decide) ?_
            exact ih3 (qq + 1) g_1 _ _ ls (by omega) (by first | omega | assumption | rfl | (simp_all; done) | grind) (by first | exact hfind.trans (findW_f (by omega) (fun z => c20 z.1)) | exact hfind.trans (findW_f (by omega) (fun z => c42 (by have z2 := z.2; rw [hr1v] at z2; exact of_decide_eq_true z2)))) hP hS (lv_sub hl [1, 2, 3, 4, 0] rfl)
  exact LP3 _ 0 (u.2.1 32) _ _ ls (Nat.lt_succ_self _) (by first | omega | assumption | rfl | (simp_all; done) | grind) (rfl) hP hS (lv_sub hl [1, 2, 3, 4, 0] rfl)
set_option maxHeartbeats 4000000 in
theorem c_X6_holdsAny (G : GG) (l : Launch) (o : Nat) (R : Nat → Nat) (u : MS) (c : Int32) (Lw : LW) (hW : codesOK u Lw) (hD : DM o R) : CMi G l o R yX6_holdsAny cX6_holdsAny 3 .boolean 4 65 [.int c] u (fun r w => ∃ g : Nat → Int32, r = (bI (anyS Lw c (u.2.1 33))) ∧ w = (mS u 32 g)) := by
  refine CMi.mk pnX6 rfl (Nat.le_of_ble_eq_true rfl) (fun pg en Rm sg mm ar bw mth cd QQ ls hC hRm hK hP hS hl hq => ?_)
  have hx := hC.1; have hb := hC.2.1; have ho := hC.2.2.2.1; have hts := hC.2.2.2.2
  have hl : lv_has ls 3 [(0, .ref o), (1, .int c)] := hl
  obtain ⟨hcl, hcl16, cs, fr, hf, to, hcs, hWq⟩ := hW
  refine lv_iconst (v := 0) hx hb dX6_holdsAny_0 (by decide) ?_
  refine lv_istore_n (lv' := [(2, .int 0), (0, .ref o), (1, .int c)]) hx hb dX6_holdsAny_1 rfl hl (by decide) rfl (fun ls hl => ?_)
  have hP : PM G o R (mS u 32 (u.2.1 32)) sg.heap := by rw [show (u.2.1 32) = (u.2.1 32) from rfl, mS_self]; exact hP
  have LP2 : ∀ (fu2 : Nat) (qq : Nat) (g : Nat → Int32) (H : Heap) (locs : List Loc) (ls : Array Slot), Lw.1 - qq < fu2 → qq ≤ Lw.1 → findW Lw c (u.2.1 33) Lw.1 0 = findW Lw c (u.2.1 33) (Lw.1 - qq) qq → PM G o R (mS u 32 g) H → va_S (AM o R) sg.heap H locs → lv_has ls 3 [(0, .ref o), (1, .int c), (2, .int (nI qq))] → W pg l en Rm sg mm ar bw mth cd H locs 0 0 QQ (F0 mm 2 ls []) := by
    intro fu2
    induction fu2 with
    | zero => intro qq g H locs ls hm2 hqq hfind hP hS hl; exact absurd hm2 (Nat.not_lt_zero _)
    | succ fu2 ih2 =>
      intro qq g H locs ls hm2 hqq hfind hP hS hl
      refine lv_iload_n hx hb dX6_holdsAny_2 rfl (lv_at hl 2 rfl) ?_
      refine lv_aload_n hx hb dX6_holdsAny_3 rfl (lv_at hl 0 rfl) ?_
      refine M_get (v := .int (u.1 20)) hC hK hP 20 (by decide) (fM20 _ _) q1221 dX6_holdsAny_4 ?_
      refine W_top hcl ?_
      refine lv_icmp_ge (tgt := 48) hx hb dX6_holdsAny_7 (by decide) (fun c7 => ?_) (fun c7 => ?_)
      · have c7 : Lw.1 ≤ qq := (nI_leI (a := Lw.1) (b := qq) (by omega) (by omega)).mp c7
        refine lv_iconst (v := 0) hx hb dX6_holdsAny_48 (by decide) ?_
        exact hq _ _ _ _ _ _ dX6_holdsAny_49 hP hS (by first | rfl | exact bI_nar _) (by exact ⟨_, by rw [anyS, hfind.trans (findW_e (by omega))]; rfl, rfl⟩)
      · have c7 : ¬ (Lw.1 ≤ qq) := mt (nI_leI (a := Lw.1) (b := qq) (by omega) (by omega)).mpr c7
        obtain ⟨a1, a2, a3, a4, b1, b2, b3, e1, e2⟩ := hWq qq (by omega)
        refine lv_aload_n hx hb dX6_holdsAny_10 rfl (lv_at hl 0 rfl) ?_
        refine M_get hC hK hP 28 (by decide) (fM28 _ _) q1229 dX6_holdsAny_11 ?_
        refine lv_iload_n hx hb dX6_holdsAny_14 rfl (lv_at hl 2 rfl) ?_
        refine M_ald hC hK hP 28 17 16 qq (aM28 _ _ _ _) (by decide) (rfl) (by omega) dX6_holdsAny_15 ?_
        refine W_top (y := (u.2.1 28 qq)) rfl ?_
        refine W_top (y := (Lw.2.1 qq)) (a1) ?_
        refine lv_iload_n hx hb dX6_holdsAny_16 rfl (lv_at hl 1 rfl) ?_
        refine lv_icmp_ne (tgt := 42) hx hb dX6_holdsAny_17 (by decide) (fun c17 => ?_) (fun c17 => ?_)
        · refine lv_iinc (v := (nI (qq + 1))) (lv' := [(2, .int (nI (qq + 1))), (0, .ref o), (1, .int c)]) hx hb dX6_holdsAny_42 hl (k := 2) rfl (nI_inc qq) (by decide) rfl (fun ls hl => ?_)
          refine lv_goto (tgt := 2) hx hb dX6_holdsAny_45 (by decide) ?_
          exact ih2 (qq + 1) g _ _ ls (by omega) (by first | omega | assumption | rfl | (simp_all; done) | grind) (by first | exact hfind.trans (findW_f (by omega) (fun z => c17 z.1)) | exact hfind.trans (findW_f (by omega) (fun z => c37 (by have z2 := z.2; rw [hr1v] at z2; exact of_decide_eq_true z2)))) hP hS (lv_sub hl [1, 2, 0] rfl)
        · refine lv_aload_n hx hb dX6_holdsAny_20 rfl (lv_at hl 0 rfl) ?_
          refine lv_aload_n hx hb dX6_holdsAny_21 rfl (lv_at hl 0 rfl) ?_
          refine M_get hC hK hP 30 (by decide) (fM30 _ _) q1231 dX6_holdsAny_22 ?_
          refine lv_iload_n hx hb dX6_holdsAny_25 rfl (lv_at hl 2 rfl) ?_
          refine M_ald hC hK hP 30 19 16 qq (aM30 _ _ _ _) (by decide) (rfl) (by omega) dX6_holdsAny_26 ?_
          refine W_top (y := (u.2.1 30 qq)) rfl ?_
          refine W_top (y := (nI (hf qq))) (a3) ?_
          refine lv_aload_n hx hb dX6_holdsAny_27 rfl (lv_at hl 0 rfl) ?_
          refine M_get hC hK hP 31 (by decide) (fM31 _ _) q1232 dX6_holdsAny_28 ?_
          refine lv_iload_n hx hb dX6_holdsAny_31 rfl (lv_at hl 2 rfl) ?_
          refine M_ald hC hK hP 31 20 16 qq (aM31 _ _ _ _) (by decide) (rfl) (by omega) dX6_holdsAny_32 ?_
          refine W_top (y := (u.2.1 31 qq)) rfl ?_
          refine W_top (y := (nI (to qq))) (a4) ?_
          obtain ⟨f1, r1, hr1, hr1v⟩ := e1 (u.2.1 33) g
          refine CMi.call hC hK hS (fun q h => h) hl (c_X6_reckonsTo G l o R (mS u 32 g) (hf qq) (to qq) f1 cs r1 (b2) (b3) (hcs) (hr1) hD) hP rfl q1587 q1589 qs83 q116 q1590 mdX6_reckonsTo (room_ok hRm rfl) rfl rfl dX6_holdsAny_33 (fun r33 w33 H locs hpo hP _ _ hS => ?_)
          obtain ⟨g_1, er33, ew33⟩ := hpo
          rw [ew33] at hP
          refine W_top (y := r1) er33 ?_
          rw [mS_S] at hP
          refine lv_iconst (v := 1) hx hb dX6_holdsAny_36 (by decide) ?_
          refine lv_icmp_ne (tgt := 42) hx hb dX6_holdsAny_37 (by decide) (fun c37 => ?_) (fun c37 => ?_)
          · refine lv_iinc (v := (nI (qq + 1))) (lv' := [(2, .int (nI (qq + 1))), (0, .ref o), (1, .int c)]) hx hb dX6_holdsAny_42 hl (k := 2) rfl (nI_inc qq) (by decide) rfl (fun ls hl => ?_)
            refine lv_goto (tgt := 2) hx hb dX6_holdsAny_45 (by decide) ?_
            exact ih2 (qq + 1) g_1 _ _ ls (by omega) (by first | omega | assumption | rfl | (simp_all; done) | grind) (by first | exact hfind.trans (findW_f (by omega) (fun z => c17 z.1)) | exact hfind.trans (findW_f (by omega) (fun z => c37 (by have z2 := z.2; rw [hr1v] at z2; exact of_decide_eq_true z2)))) hP hS (lv_sub hl [1, 2, 0] rfl)
          · refine lv_iconst (v := 1) hx hb dX6_holdsAny_40 (by decide) ?_
            exact hq _ _ _ _ _ _ dX6_holdsAny_41 hP hS (by first | rfl | exact bI_nar _) (by exact ⟨_, by rw [anyS, hfind.trans (findW_t (by omega) c17 (by rw [hr1v, c37]; rfl))]; rfl, rfl⟩)
  exact LP2 _ 0 (u.2.1 32) _ _ ls (Nat.lt_succ_self _) (by first | omega | assumption | rfl | (simp_all; done) | grind) (rfl) hP hS (lv_sub hl [1, 2, 0] rfl)
set_option maxHeartbeats 4000000 in
theorem c_X6_feels (G : GG) (l : Launch) (o : Nat) (R : Nat → Nat) (u : MS) (h : Nat) (t : Int32) (d : Int32) (hh : h < 16) (hD : DM o R) : CMv G l o R yX6_feels cX6_feels 4 5 88 [.int (nI h), .int t, .int d] u (fun w => w = (mS u 33 (fctU (u.2.1 33) (nI h) t d ((u.2.1 0) 16) ((u.2.1 0) 17) ((u.2.1 0) 18) ((u.2.1 0) 19) ((snS (u.1 9) (u.2.1 5) (u.2.1 6) (u.2.1 7) (u.2.1 4)) h t)))) := by
  refine CMv.mk pnX6 rfl (Nat.le_of_ble_eq_true rfl) (fun pg en Rm sg mm ar bw mth cd QQ ls hC hRm hK hP hS hl hq => ?_)
  have hx := hC.1; have hb := hC.2.1; have ho := hC.2.2.2.1; have hts := hC.2.2.2.2
  have hl : lv_has ls 4 [(0, .ref o), (1, .int (nI h)), (2, .int t), (3, .int d)] := hl
  refine lv_aload_n hx hb dX6_feels_0 rfl (lv_at hl 0 rfl) ?_
  refine M_get hC hK hP 33 (by decide) (fM33 _ _) q1234 dX6_feels_1 ?_
  refine lv_iconst (v := 0) hx hb dX6_feels_4 (by decide) ?_
  refine lv_iload_n hx hb dX6_feels_5 rfl (lv_at hl 1 rfl) ?_
  refine M_ast hC hK hD hP hS 33 22 9 0 (aM33 _ _ _ _) (bM33 _ _ _ _ _ _) (by decide) (by decide) (by omega) dX6_feels_6 (fun H locs hP hS => ?_)
  refine lv_aload_n hx hb dX6_feels_7 rfl (lv_at hl 0 rfl) ?_
  refine M_get hC hK hP 33 (by decide) (fM33 _ _) q1234 dX6_feels_8 ?_
  refine lv_iconst (v := 1) hx hb dX6_feels_11 (by decide) ?_
  refine lv_aload_n hx hb dX6_feels_12 rfl (lv_at hl 0 rfl) ?_
  refine M_get hC hK hP 0 (by decide) (fM0 _ _) q1201 dX6_feels_13 ?_
  refine lv_bipush (v := 16) hx hb dX6_feels_16 (by decide) ?_
  refine M_ald hC hK hP 0 1 21 16 (aM0 _ _ _ _) (by decide) (by decide) (by omega) dX6_feels_18 ?_
  refine W_top (y := (u.2.1 0 16)) rfl ?_
  refine lv_iconst (v := (-1)) hx hb dX6_feels_19 (by decide) ?_
  refine lv_icmp_ne (tgt := 28) hx hb dX6_feels_20 (by decide) (fun c20 => ?_) (fun c20 => ?_)
  · refine lv_aload_n hx hb dX6_feels_28 rfl (lv_at hl 0 rfl) ?_
    refine M_get hC hK hP 0 (by decide) (fM0 _ _) q1201 dX6_feels_29 ?_
    refine lv_bipush (v := 16) hx hb dX6_feels_32 (by decide) ?_
    refine M_ald hC hK hP 0 1 21 16 (aM0 _ _ _ _) (by decide) (by decide) (by omega) dX6_feels_34 ?_
    refine W_top (y := (u.2.1 0 16)) rfl ?_
    refine M_ast hC hK hD hP hS 33 22 9 1 (aM33 _ _ _ _) (bM33 _ _ _ _ _ _) (by decide) (by decide) (by omega) dX6_feels_35 (fun H locs hP hS => ?_)
    refine lv_aload_n hx hb dX6_feels_36 rfl (lv_at hl 0 rfl) ?_
    refine M_get hC hK hP 33 (by decide) (fM33 _ _) q1234 dX6_feels_37 ?_
    refine lv_iconst (v := 2) hx hb dX6_feels_40 (by decide) ?_
    refine lv_iload_n hx hb dX6_feels_41 rfl (lv_at hl 2 rfl) ?_
    refine M_ast hC hK hD hP hS 33 22 9 2 (aM33 _ _ _ _) (bM33 _ _ _ _ _ _) (by decide) (by decide) (by omega) dX6_feels_42 (fun H locs hP hS => ?_)
    refine lv_aload_n hx hb dX6_feels_43 rfl (lv_at hl 0 rfl) ?_
    refine M_get hC hK hP 33 (by decide) (fM33 _ _) q1234 dX6_feels_44 ?_
    refine lv_iconst (v := 3) hx hb dX6_feels_47 (by decide) ?_
    refine lv_aload_n hx hb dX6_feels_48 rfl (lv_at hl 0 rfl) ?_
    refine M_get hC hK hP 0 (by decide) (fM0 _ _) q1201 dX6_feels_49 ?_
    refine lv_bipush (v := 16) hx hb dX6_feels_52 (by decide) ?_
    refine M_ald hC hK hP 0 1 21 16 (aM0 _ _ _ _) (by decide) (by decide) (by omega) dX6_feels_54 ?_
    refine W_top (y := (u.2.1 0 16)) rfl ?_
    refine lv_iconst (v := (-1)) hx hb dX6_feels_55 (by decide) ?_
    refine lv_icmp_ne (tgt := 63) hx hb dX6_feels_56 (by decide) (fun c56 => ?_) (fun c56 => ?_)
    · refine lv_iload_n hx hb dX6_feels_63 rfl (lv_at hl 1 rfl) ?_
      refine lv_aload_n hx hb dX6_feels_64 rfl (lv_at hl 0 rfl) ?_
      refine M_get hC hK hP 0 (by decide) (fM0 _ _) q1201 dX6_feels_65 ?_
      refine lv_bipush (v := 16) hx hb dX6_feels_68 (by decide) ?_
      refine M_ald hC hK hP 0 1 21 16 (aM0 _ _ _ _) (by decide) (by decide) (by omega) dX6_feels_70 ?_
      refine W_top (y := (u.2.1 0 16)) rfl ?_
      refine lv_isub hx hb dX6_feels_71 ?_
      refine CI.callS hC hK hl (c_X6_size G l ((nI h) - (u.2.1 0 16)) ) trivial q1577 q1578 q116 q1579 mdX6_size (room_ok hRm rfl) rfl rfl dX6_feels_72 ?_
      refine W_top (y := (abI ((nI h) - (u.2.1 0 16)))) rfl ?_
      refine M_ast hC hK hD hP hS 33 22 9 3 (aM33 _ _ _ _) (bM33 _ _ _ _ _ _) (by decide) (by decide) (by omega) dX6_feels_75 (fun H locs hP hS => ?_)
      refine lv_aload_n hx hb dX6_feels_76 rfl (lv_at hl 0 rfl) ?_
      refine M_get hC hK hP 33 (by decide) (fM33 _ _) q1234 dX6_feels_77 ?_
      refine lv_iconst (v := 4) hx hb dX6_feels_80 (by decide) ?_
      refine lv_aload_n hx hb dX6_feels_81 rfl (lv_at hl 0 rfl) ?_
      refine lv_iload_n hx hb dX6_feels_82 rfl (lv_at hl 1 rfl) ?_
      refine lv_iload_n hx hb dX6_feels_83 rfl (lv_at hl 2 rfl) ?_
      refine CI.callV hC hK hl (c_X6_seenBy G l o R (mA (mA (mA (mA u 33 0 (nI h)) 33 1 (u.2.1 0 16)) 33 2 t) 33 3 (abI ((nI h) - (u.2.1 0 16)))) h t (by first | assumption | omega | rfl | (simp_all; done))) hP (hP.recv hK) q1406 q1408 qs46 q116 q1409 mdX6_seenBy (room_ok hRm rfl) rfl rfl dX6_feels_84 ?_
      refine W_top (y := (seenS (u.1 9) (u.2.1 5) (u.2.1 6) (u.2.1 7) ((u.2.1 4) h) t)) rfl ?_
      refine CI.callS hC hK hl (c_X6_bits G l (seenS (u.1 9) (u.2.1 5) (u.2.1 6) (u.2.1 7) ((u.2.1 4) h) t) ) trivial q1580 q1581 q116 q1582 mdX6_bits (room_ok hRm rfl) rfl rfl dX6_feels_87 ?_
      refine W_top (y := (bitsI (seenS (u.1 9) (u.2.1 5) (u.2.1 6) (u.2.1 7) ((u.2.1 4) h) t))) rfl ?_
      refine M_ast hC hK hD hP hS 33 22 9 4 (aM33 _ _ _ _) (bM33 _ _ _ _ _ _) (by decide) (by decide) (by omega) dX6_feels_90 (fun H locs hP hS => ?_)
      refine lv_aload_n hx hb dX6_feels_91 rfl (lv_at hl 0 rfl) ?_
      refine M_get hC hK hP 33 (by decide) (fM33 _ _) q1234 dX6_feels_92 ?_
      refine lv_iconst (v := 5) hx hb dX6_feels_95 (by decide) ?_
      refine lv_aload_n hx hb dX6_feels_96 rfl (lv_at hl 0 rfl) ?_
      refine M_get hC hK hP 0 (by decide) (fM0 _ _) q1201 dX6_feels_97 ?_
      refine lv_bipush (v := 17) hx hb dX6_feels_100 (by decide) ?_
      refine M_ald hC hK hP 0 1 21 17 (aM0 _ _ _ _) (by decide) (by decide) (by omega) dX6_feels_102 ?_
      refine W_top (y := (u.2.1 0 17)) rfl ?_
      refine CI.callS hC hK hl (c_X6_bits G l (u.2.1 0 17) ) trivial q1580 q1581 q116 q1582 mdX6_bits (room_ok hRm rfl) rfl rfl dX6_feels_103 ?_
      refine W_top (y := (bitsI (u.2.1 0 17))) rfl ?_
      refine M_ast hC hK hD hP hS 33 22 9 5 (aM33 _ _ _ _) (bM33 _ _ _ _ _ _) (by decide) (by decide) (by omega) dX6_feels_106 (fun H locs hP hS => ?_)
      refine lv_aload_n hx hb dX6_feels_107 rfl (lv_at hl 0 rfl) ?_
      refine M_get hC hK hP 33 (by decide) (fM33 _ _) q1234 dX6_feels_108 ?_
      refine lv_bipush (v := 6) hx hb dX6_feels_111 (by decide) ?_
      refine lv_aload_n hx hb dX6_feels_113 rfl (lv_at hl 0 rfl) ?_
      refine M_get hC hK hP 0 (by decide) (fM0 _ _) q1201 dX6_feels_114 ?_
      refine lv_bipush (v := 18) hx hb dX6_feels_117 (by decide) ?_
      refine M_ald hC hK hP 0 1 21 18 (aM0 _ _ _ _) (by decide) (by decide) (by omega) dX6_feels_119 ?_
      refine W_top (y := (u.2.1 0 18)) rfl ?_
      refine lv_bipush (v := 100) hx hb dX6_feels_120 (by decide) ?_
      refine lv_irem hx hb dX6_feels_122 (by decide) ?_
      refine M_ast hC hK hD hP hS 33 22 9 6 (aM33 _ _ _ _) (bM33 _ _ _ _ _ _) (by decide) (by decide) (by omega) dX6_feels_123 (fun H locs hP hS => ?_)
      refine lv_aload_n hx hb dX6_feels_124 rfl (lv_at hl 0 rfl) ?_
      refine M_get hC hK hP 33 (by decide) (fM33 _ _) q1234 dX6_feels_125 ?_
      refine lv_bipush (v := 7) hx hb dX6_feels_128 (by decide) ?_
      refine lv_aload_n hx hb dX6_feels_130 rfl (lv_at hl 0 rfl) ?_
      refine M_get hC hK hP 0 (by decide) (fM0 _ _) q1201 dX6_feels_131 ?_
      refine lv_bipush (v := 19) hx hb dX6_feels_134 (by decide) ?_
      refine M_ald hC hK hP 0 1 21 19 (aM0 _ _ _ _) (by decide) (by decide) (by omega) dX6_feels_136 ?_
      refine W_top (y := (u.2.1 0 19)) rfl ?_
      refine lv_bipush (v := 100) hx hb dX6_feels_137 (by decide) ?_
      refine lv_irem hx hb dX6_feels_139 (by decide) ?_
      refine M_ast hC hK hD hP hS 33 22 9 7 (aM33 _ _ _ _) (bM33 _ _ _ _ _ _) (by decide) (by decide) (by omega) dX6_feels_140 (fun H locs hP hS => ?_)
      refine lv_aload_n hx hb dX6_feels_141 rfl (lv_at hl 0 rfl) ?_
      refine M_get hC hK hP 33 (by decide) (fM33 _ _) q1234 dX6_feels_142 ?_
      refine lv_bipush (v := 8) hx hb dX6_feels_145 (by decide) ?_
      refine lv_iload_n hx hb dX6_feels_147 rfl (lv_at hl 3 rfl) ?_
      refine M_ast hC hK hD hP hS 33 22 9 8 (aM33 _ _ _ _) (bM33 _ _ _ _ _ _) (by decide) (by decide) (by omega) dX6_feels_148 (fun H locs hP hS => ?_)
      exact hq _ _ _ _ _ dX6_feels_149 hP hS (by first | exact absurd c20 c56 | exact absurd c56 c20 | (simp only [fctU, if_pos c20]; exact mA9 _ _ _ _ _ _ _ _ _ _) | (simp only [fctU, if_neg c20]; exact mA9 _ _ _ _ _ _ _ _ _ _))
    · refine lv_iconst (v := 0) hx hb dX6_feels_59 (by decide) ?_
      refine lv_goto (tgt := 75) hx hb dX6_feels_60 (by decide) ?_
      refine M_ast hC hK hD hP hS 33 22 9 3 (aM33 _ _ _ _) (bM33 _ _ _ _ _ _) (by decide) (by decide) (by omega) dX6_feels_75 (fun H locs hP hS => ?_)
      refine lv_aload_n hx hb dX6_feels_76 rfl (lv_at hl 0 rfl) ?_
      refine M_get hC hK hP 33 (by decide) (fM33 _ _) q1234 dX6_feels_77 ?_
      refine lv_iconst (v := 4) hx hb dX6_feels_80 (by decide) ?_
      refine lv_aload_n hx hb dX6_feels_81 rfl (lv_at hl 0 rfl) ?_
      refine lv_iload_n hx hb dX6_feels_82 rfl (lv_at hl 1 rfl) ?_
      refine lv_iload_n hx hb dX6_feels_83 rfl (lv_at hl 2 rfl) ?_
      refine CI.callV hC hK hl (c_X6_seenBy G l o R (mA (mA (mA (mA u 33 0 (nI h)) 33 1 (u.2.1 0 16)) 33 2 t) 33 3 0) h t (by first | assumption | omega | rfl | (simp_all; done))) hP (hP.recv hK) q1406 q1408 qs46 q116 q1409 mdX6_seenBy (room_ok hRm rfl) rfl rfl dX6_feels_84 ?_
      refine W_top (y := (seenS (u.1 9) (u.2.1 5) (u.2.1 6) (u.2.1 7) ((u.2.1 4) h) t)) rfl ?_
      refine CI.callS hC hK hl (c_X6_bits G l (seenS (u.1 9) (u.2.1 5) (u.2.1 6) (u.2.1 7) ((u.2.1 4) h) t) ) trivial q1580 q1581 q116 q1582 mdX6_bits (room_ok hRm rfl) rfl rfl dX6_feels_87 ?_
      refine W_top (y := (bitsI (seenS (u.1 9) (u.2.1 5) (u.2.1 6) (u.2.1 7) ((u.2.1 4) h) t))) rfl ?_
      refine M_ast hC hK hD hP hS 33 22 9 4 (aM33 _ _ _ _) (bM33 _ _ _ _ _ _) (by decide) (by decide) (by omega) dX6_feels_90 (fun H locs hP hS => ?_)
      refine lv_aload_n hx hb dX6_feels_91 rfl (lv_at hl 0 rfl) ?_
      refine M_get hC hK hP 33 (by decide) (fM33 _ _) q1234 dX6_feels_92 ?_
      refine lv_iconst (v := 5) hx hb dX6_feels_95 (by decide) ?_
      refine lv_aload_n hx hb dX6_feels_96 rfl (lv_at hl 0 rfl) ?_
      refine M_get hC hK hP 0 (by decide) (fM0 _ _) q1201 dX6_feels_97 ?_
      refine lv_bipush (v := 17) hx hb dX6_feels_100 (by decide) ?_
      refine M_ald hC hK hP 0 1 21 17 (aM0 _ _ _ _) (by decide) (by decide) (by omega) dX6_feels_102 ?_
      refine W_top (y := (u.2.1 0 17)) rfl ?_
      refine CI.callS hC hK hl (c_X6_bits G l (u.2.1 0 17) ) trivial q1580 q1581 q116 q1582 mdX6_bits (room_ok hRm rfl) rfl rfl dX6_feels_103 ?_
      refine W_top (y := (bitsI (u.2.1 0 17))) rfl ?_
      refine M_ast hC hK hD hP hS 33 22 9 5 (aM33 _ _ _ _) (bM33 _ _ _ _ _ _) (by decide) (by decide) (by omega) dX6_feels_106 (fun H locs hP hS => ?_)
      refine lv_aload_n hx hb dX6_feels_107 rfl (lv_at hl 0 rfl) ?_
      refine M_get hC hK hP 33 (by decide) (fM33 _ _) q1234 dX6_feels_108 ?_
      refine lv_bipush (v := 6) hx hb dX6_feels_111 (by decide) ?_
      refine lv_aload_n hx hb dX6_feels_113 rfl (lv_at hl 0 rfl) ?_
      refine M_get hC hK hP 0 (by decide) (fM0 _ _) q1201 dX6_feels_114 ?_
      refine lv_bipush (v := 18) hx hb dX6_feels_117 (by decide) ?_
      refine M_ald hC hK hP 0 1 21 18 (aM0 _ _ _ _) (by decide) (by decide) (by omega) dX6_feels_119 ?_
      refine W_top (y := (u.2.1 0 18)) rfl ?_
      refine lv_bipush (v := 100) hx hb dX6_feels_120 (by decide) ?_
      refine lv_irem hx hb dX6_feels_122 (by decide) ?_
      refine M_ast hC hK hD hP hS 33 22 9 6 (aM33 _ _ _ _) (bM33 _ _ _ _ _ _) (by decide) (by decide) (by omega) dX6_feels_123 (fun H locs hP hS => ?_)
      refine lv_aload_n hx hb dX6_feels_124 rfl (lv_at hl 0 rfl) ?_
      refine M_get hC hK hP 33 (by decide) (fM33 _ _) q1234 dX6_feels_125 ?_
      refine lv_bipush (v := 7) hx hb dX6_feels_128 (by decide) ?_
      refine lv_aload_n hx hb dX6_feels_130 rfl (lv_at hl 0 rfl) ?_
      refine M_get hC hK hP 0 (by decide) (fM0 _ _) q1201 dX6_feels_131 ?_
      refine lv_bipush (v := 19) hx hb dX6_feels_134 (by decide) ?_
      refine M_ald hC hK hP 0 1 21 19 (aM0 _ _ _ _) (by decide) (by decide) (by omega) dX6_feels_136 ?_
      refine W_top (y := (u.2.1 0 19)) rfl ?_
      refine lv_bipush (v := 100) hx hb dX6_feels_137 (by decide) ?_
      refine lv_irem hx hb dX6_feels_139 (by decide) ?_
      refine M_ast hC hK hD hP hS 33 22 9 7 (aM33 _ _ _ _) (bM33 _ _ _ _ _ _) (by decide) (by decide) (by omega) dX6_feels_140 (fun H locs hP hS => ?_)
      refine lv_aload_n hx hb dX6_feels_141 rfl (lv_at hl 0 rfl) ?_
      refine M_get hC hK hP 33 (by decide) (fM33 _ _) q1234 dX6_feels_142 ?_
      refine lv_bipush (v := 8) hx hb dX6_feels_145 (by decide) ?_
      refine lv_iload_n hx hb dX6_feels_147 rfl (lv_at hl 3 rfl) ?_
      refine M_ast hC hK hD hP hS 33 22 9 8 (aM33 _ _ _ _) (bM33 _ _ _ _ _ _) (by decide) (by decide) (by omega) dX6_feels_148 (fun H locs hP hS => ?_)
      exact hq _ _ _ _ _ dX6_feels_149 hP hS (by first | exact absurd c20 c56 | exact absurd c56 c20 | (simp only [fctU, if_pos c20]; exact mA9 _ _ _ _ _ _ _ _ _ _) | (simp only [fctU, if_neg c20]; exact mA9 _ _ _ _ _ _ _ _ _ _))
  · refine lv_bipush (v := 16) hx hb dX6_feels_23 (by decide) ?_
    refine lv_goto (tgt := 35) hx hb dX6_feels_25 (by decide) ?_
    refine M_ast hC hK hD hP hS 33 22 9 1 (aM33 _ _ _ _) (bM33 _ _ _ _ _ _) (by decide) (by decide) (by omega) dX6_feels_35 (fun H locs hP hS => ?_)
    refine lv_aload_n hx hb dX6_feels_36 rfl (lv_at hl 0 rfl) ?_
    refine M_get hC hK hP 33 (by decide) (fM33 _ _) q1234 dX6_feels_37 ?_
    refine lv_iconst (v := 2) hx hb dX6_feels_40 (by decide) ?_
    refine lv_iload_n hx hb dX6_feels_41 rfl (lv_at hl 2 rfl) ?_
    refine M_ast hC hK hD hP hS 33 22 9 2 (aM33 _ _ _ _) (bM33 _ _ _ _ _ _) (by decide) (by decide) (by omega) dX6_feels_42 (fun H locs hP hS => ?_)
    refine lv_aload_n hx hb dX6_feels_43 rfl (lv_at hl 0 rfl) ?_
    refine M_get hC hK hP 33 (by decide) (fM33 _ _) q1234 dX6_feels_44 ?_
    refine lv_iconst (v := 3) hx hb dX6_feels_47 (by decide) ?_
    refine lv_aload_n hx hb dX6_feels_48 rfl (lv_at hl 0 rfl) ?_
    refine M_get hC hK hP 0 (by decide) (fM0 _ _) q1201 dX6_feels_49 ?_
    refine lv_bipush (v := 16) hx hb dX6_feels_52 (by decide) ?_
    refine M_ald hC hK hP 0 1 21 16 (aM0 _ _ _ _) (by decide) (by decide) (by omega) dX6_feels_54 ?_
    refine W_top (y := (u.2.1 0 16)) rfl ?_
    refine lv_iconst (v := (-1)) hx hb dX6_feels_55 (by decide) ?_
    refine lv_icmp_ne (tgt := 63) hx hb dX6_feels_56 (by decide) (fun c56 => ?_) (fun c56 => ?_)
    · refine lv_iload_n hx hb dX6_feels_63 rfl (lv_at hl 1 rfl) ?_
      refine lv_aload_n hx hb dX6_feels_64 rfl (lv_at hl 0 rfl) ?_
      refine M_get hC hK hP 0 (by decide) (fM0 _ _) q1201 dX6_feels_65 ?_
      refine lv_bipush (v := 16) hx hb dX6_feels_68 (by decide) ?_
      refine M_ald hC hK hP 0 1 21 16 (aM0 _ _ _ _) (by decide) (by decide) (by omega) dX6_feels_70 ?_
      refine W_top (y := (u.2.1 0 16)) rfl ?_
      refine lv_isub hx hb dX6_feels_71 ?_
      refine CI.callS hC hK hl (c_X6_size G l ((nI h) - (u.2.1 0 16)) ) trivial q1577 q1578 q116 q1579 mdX6_size (room_ok hRm rfl) rfl rfl dX6_feels_72 ?_
      refine W_top (y := (abI ((nI h) - (u.2.1 0 16)))) rfl ?_
      refine M_ast hC hK hD hP hS 33 22 9 3 (aM33 _ _ _ _) (bM33 _ _ _ _ _ _) (by decide) (by decide) (by omega) dX6_feels_75 (fun H locs hP hS => ?_)
      refine lv_aload_n hx hb dX6_feels_76 rfl (lv_at hl 0 rfl) ?_
      refine M_get hC hK hP 33 (by decide) (fM33 _ _) q1234 dX6_feels_77 ?_
      refine lv_iconst (v := 4) hx hb dX6_feels_80 (by decide) ?_
      refine lv_aload_n hx hb dX6_feels_81 rfl (lv_at hl 0 rfl) ?_
      refine lv_iload_n hx hb dX6_feels_82 rfl (lv_at hl 1 rfl) ?_
      refine lv_iload_n hx hb dX6_feels_83 rfl (lv_at hl 2 rfl) ?_
      refine CI.callV hC hK hl (c_X6_seenBy G l o R (mA (mA (mA (mA u 33 0 (nI h)) 33 1 16) 33 2 t) 33 3 (abI ((nI h) - (u.2.1 0 16)))) h t (by first | assumption | omega | rfl | (simp_all; done))) hP (hP.recv hK) q1406 q1408 qs46 q116 q1409 mdX6_seenBy (room_ok hRm rfl) rfl rfl dX6_feels_84 ?_
      refine W_top (y := (seenS (u.1 9) (u.2.1 5) (u.2.1 6) (u.2.1 7) ((u.2.1 4) h) t)) rfl ?_
      refine CI.callS hC hK hl (c_X6_bits G l (seenS (u.1 9) (u.2.1 5) (u.2.1 6) (u.2.1 7) ((u.2.1 4) h) t) ) trivial q1580 q1581 q116 q1582 mdX6_bits (room_ok hRm rfl) rfl rfl dX6_feels_87 ?_
      refine W_top (y := (bitsI (seenS (u.1 9) (u.2.1 5) (u.2.1 6) (u.2.1 7) ((u.2.1 4) h) t))) rfl ?_
      refine M_ast hC hK hD hP hS 33 22 9 4 (aM33 _ _ _ _) (bM33 _ _ _ _ _ _) (by decide) (by decide) (by omega) dX6_feels_90 (fun H locs hP hS => ?_)
      refine lv_aload_n hx hb dX6_feels_91 rfl (lv_at hl 0 rfl) ?_
      refine M_get hC hK hP 33 (by decide) (fM33 _ _) q1234 dX6_feels_92 ?_
      refine lv_iconst (v := 5) hx hb dX6_feels_95 (by decide) ?_
      refine lv_aload_n hx hb dX6_feels_96 rfl (lv_at hl 0 rfl) ?_
      refine M_get hC hK hP 0 (by decide) (fM0 _ _) q1201 dX6_feels_97 ?_
      refine lv_bipush (v := 17) hx hb dX6_feels_100 (by decide) ?_
      refine M_ald hC hK hP 0 1 21 17 (aM0 _ _ _ _) (by decide) (by decide) (by omega) dX6_feels_102 ?_
      refine W_top (y := (u.2.1 0 17)) rfl ?_
      refine CI.callS hC hK hl (c_X6_bits G l (u.2.1 0 17) ) trivial q1580 q1581 q116 q1582 mdX6_bits (room_ok hRm rfl) rfl rfl dX6_feels_103 ?_
      refine W_top (y := (bitsI (u.2.1 0 17))) rfl ?_
      refine M_ast hC hK hD hP hS 33 22 9 5 (aM33 _ _ _ _) (bM33 _ _ _ _ _ _) (by decide) (by decide) (by omega) dX6_feels_106 (fun H locs hP hS => ?_)
      refine lv_aload_n hx hb dX6_feels_107 rfl (lv_at hl 0 rfl) ?_
      refine M_get hC hK hP 33 (by decide) (fM33 _ _) q1234 dX6_feels_108 ?_
      refine lv_bipush (v := 6) hx hb dX6_feels_111 (by decide) ?_
      refine lv_aload_n hx hb dX6_feels_113 rfl (lv_at hl 0 rfl) ?_
      refine M_get hC hK hP 0 (by decide) (fM0 _ _) q1201 dX6_feels_114 ?_
      refine lv_bipush (v := 18) hx hb dX6_feels_117 (by decide) ?_
      refine M_ald hC hK hP 0 1 21 18 (aM0 _ _ _ _) (by decide) (by decide) (by omega) dX6_feels_119 ?_
      refine W_top (y := (u.2.1 0 18)) rfl ?_
      refine lv_bipush (v := 100) hx hb dX6_feels_120 (by decide) ?_
      refine lv_irem hx hb dX6_feels_122 (by decide) ?_
      refine M_ast hC hK hD hP hS 33 22 9 6 (aM33 _ _ _ _) (bM33 _ _ _ _ _ _) (by decide) (by decide) (by omega) dX6_feels_123 (fun H locs hP hS => ?_)
      refine lv_aload_n hx hb dX6_feels_124 rfl (lv_at hl 0 rfl) ?_
      refine M_get hC hK hP 33 (by decide) (fM33 _ _) q1234 dX6_feels_125 ?_
      refine lv_bipush (v := 7) hx hb dX6_feels_128 (by decide) ?_
      refine lv_aload_n hx hb dX6_feels_130 rfl (lv_at hl 0 rfl) ?_
      refine M_get hC hK hP 0 (by decide) (fM0 _ _) q1201 dX6_feels_131 ?_
      refine lv_bipush (v := 19) hx hb dX6_feels_134 (by decide) ?_
      refine M_ald hC hK hP 0 1 21 19 (aM0 _ _ _ _) (by decide) (by decide) (by omega) dX6_feels_136 ?_
      refine W_top (y := (u.2.1 0 19)) rfl ?_
      refine lv_bipush (v := 100) hx hb dX6_feels_137 (by decide) ?_
      refine lv_irem hx hb dX6_feels_139 (by decide) ?_
      refine M_ast hC hK hD hP hS 33 22 9 7 (aM33 _ _ _ _) (bM33 _ _ _ _ _ _) (by decide) (by decide) (by omega) dX6_feels_140 (fun H locs hP hS => ?_)
      refine lv_aload_n hx hb dX6_feels_141 rfl (lv_at hl 0 rfl) ?_
      refine M_get hC hK hP 33 (by decide) (fM33 _ _) q1234 dX6_feels_142 ?_
      refine lv_bipush (v := 8) hx hb dX6_feels_145 (by decide) ?_
      refine lv_iload_n hx hb dX6_feels_147 rfl (lv_at hl 3 rfl) ?_
      refine M_ast hC hK hD hP hS 33 22 9 8 (aM33 _ _ _ _) (bM33 _ _ _ _ _ _) (by decide) (by decide) (by omega) dX6_feels_148 (fun H locs hP hS => ?_)
      exact hq _ _ _ _ _ dX6_feels_149 hP hS (by first | exact absurd c20 c56 | exact absurd c56 c20 | (simp only [fctU, if_pos c20]; exact mA9 _ _ _ _ _ _ _ _ _ _) | (simp only [fctU, if_neg c20]; exact mA9 _ _ _ _ _ _ _ _ _ _))
    · refine lv_iconst (v := 0) hx hb dX6_feels_59 (by decide) ?_
      refine lv_goto (tgt := 75) hx hb dX6_feels_60 (by decide) ?_
      refine M_ast hC hK hD hP hS 33 22 9 3 (aM33 _ _ _ _) (bM33 _ _ _ _ _ _) (by decide) (by decide) (by omega) dX6_feels_75 (fun H locs hP hS => ?_)
      refine lv_aload_n hx hb dX6_feels_76 rfl (lv_at hl 0 rfl) ?_
      refine M_get hC hK hP 33 (by decide) (fM33 _ _) q1234 dX6_feels_77 ?_
      refine lv_iconst (v := 4) hx hb dX6_feels_80 (by decide) ?_
      refine lv_aload_n hx hb dX6_feels_81 rfl (lv_at hl 0 rfl) ?_
      refine lv_iload_n hx hb dX6_feels_82 rfl (lv_at hl 1 rfl) ?_
      refine lv_iload_n hx hb dX6_feels_83 rfl (lv_at hl 2 rfl) ?_
      refine CI.callV hC hK hl (c_X6_seenBy G l o R (mA (mA (mA (mA u 33 0 (nI h)) 33 1 16) 33 2 t) 33 3 0) h t (by first | assumption | omega | rfl | (simp_all; done))) hP (hP.recv hK) q1406 q1408 qs46 q116 q1409 mdX6_seenBy (room_ok hRm rfl) rfl rfl dX6_feels_84 ?_
      refine W_top (y := (seenS (u.1 9) (u.2.1 5) (u.2.1 6) (u.2.1 7) ((u.2.1 4) h) t)) rfl ?_
      refine CI.callS hC hK hl (c_X6_bits G l (seenS (u.1 9) (u.2.1 5) (u.2.1 6) (u.2.1 7) ((u.2.1 4) h) t) ) trivial q1580 q1581 q116 q1582 mdX6_bits (room_ok hRm rfl) rfl rfl dX6_feels_87 ?_
      refine W_top (y := (bitsI (seenS (u.1 9) (u.2.1 5) (u.2.1 6) (u.2.1 7) ((u.2.1 4) h) t))) rfl ?_
      refine M_ast hC hK hD hP hS 33 22 9 4 (aM33 _ _ _ _) (bM33 _ _ _ _ _ _) (by decide) (by decide) (by omega) dX6_feels_90 (fun H locs hP hS => ?_)
      refine lv_aload_n hx hb dX6_feels_91 rfl (lv_at hl 0 rfl) ?_
      refine M_get hC hK hP 33 (by decide) (fM33 _ _) q1234 dX6_feels_92 ?_
      refine lv_iconst (v := 5) hx hb dX6_feels_95 (by decide) ?_
      refine lv_aload_n hx hb dX6_feels_96 rfl (lv_at hl 0 rfl) ?_
      refine M_get hC hK hP 0 (by decide) (fM0 _ _) q1201 dX6_feels_97 ?_
      refine lv_bipush (v := 17) hx hb dX6_feels_100 (by decide) ?_
      refine M_ald hC hK hP 0 1 21 17 (aM0 _ _ _ _) (by decide) (by decide) (by omega) dX6_feels_102 ?_
      refine W_top (y := (u.2.1 0 17)) rfl ?_
      refine CI.callS hC hK hl (c_X6_bits G l (u.2.1 0 17) ) trivial q1580 q1581 q116 q1582 mdX6_bits (room_ok hRm rfl) rfl rfl dX6_feels_103 ?_
      refine W_top (y := (bitsI (u.2.1 0 17))) rfl ?_
      refine M_ast hC hK hD hP hS 33 22 9 5 (aM33 _ _ _ _) (bM33 _ _ _ _ _ _) (by decide) (by decide) (by omega) dX6_feels_106 (fun H locs hP hS => ?_)
      refine lv_aload_n hx hb dX6_feels_107 rfl (lv_at hl 0 rfl) ?_
      refine M_get hC hK hP 33 (by decide) (fM33 _ _) q1234 dX6_feels_108 ?_
      refine lv_bipush (v := 6) hx hb dX6_feels_111 (by decide) ?_
      refine lv_aload_n hx hb dX6_feels_113 rfl (lv_at hl 0 rfl) ?_
      refine M_get hC hK hP 0 (by decide) (fM0 _ _) q1201 dX6_feels_114 ?_
      refine lv_bipush (v := 18) hx hb dX6_feels_117 (by decide) ?_
      refine M_ald hC hK hP 0 1 21 18 (aM0 _ _ _ _) (by decide) (by decide) (by omega) dX6_feels_119 ?_
      refine W_top (y := (u.2.1 0 18)) rfl ?_
      refine lv_bipush (v := 100) hx hb dX6_feels_120 (by decide) ?_
      refine lv_irem hx hb dX6_feels_122 (by decide) ?_
      refine M_ast hC hK hD hP hS 33 22 9 6 (aM33 _ _ _ _) (bM33 _ _ _ _ _ _) (by decide) (by decide) (by omega) dX6_feels_123 (fun H locs hP hS => ?_)
      refine lv_aload_n hx hb dX6_feels_124 rfl (lv_at hl 0 rfl) ?_
      refine M_get hC hK hP 33 (by decide) (fM33 _ _) q1234 dX6_feels_125 ?_
      refine lv_bipush (v := 7) hx hb dX6_feels_128 (by decide) ?_
      refine lv_aload_n hx hb dX6_feels_130 rfl (lv_at hl 0 rfl) ?_
      refine M_get hC hK hP 0 (by decide) (fM0 _ _) q1201 dX6_feels_131 ?_
      refine lv_bipush (v := 19) hx hb dX6_feels_134 (by decide) ?_
      refine M_ald hC hK hP 0 1 21 19 (aM0 _ _ _ _) (by decide) (by decide) (by omega) dX6_feels_136 ?_
      refine W_top (y := (u.2.1 0 19)) rfl ?_
      refine lv_bipush (v := 100) hx hb dX6_feels_137 (by decide) ?_
      refine lv_irem hx hb dX6_feels_139 (by decide) ?_
      refine M_ast hC hK hD hP hS 33 22 9 7 (aM33 _ _ _ _) (bM33 _ _ _ _ _ _) (by decide) (by decide) (by omega) dX6_feels_140 (fun H locs hP hS => ?_)
      refine lv_aload_n hx hb dX6_feels_141 rfl (lv_at hl 0 rfl) ?_
      refine M_get hC hK hP 33 (by decide) (fM33 _ _) q1234 dX6_feels_142 ?_
      refine lv_bipush (v := 8) hx hb dX6_feels_145 (by decide) ?_
      refine lv_iload_n hx hb dX6_feels_147 rfl (lv_at hl 3 rfl) ?_
      refine M_ast hC hK hD hP hS 33 22 9 8 (aM33 _ _ _ _) (bM33 _ _ _ _ _ _) (by decide) (by decide) (by omega) dX6_feels_148 (fun H locs hP hS => ?_)
      exact hq _ _ _ _ _ dX6_feels_149 hP hS (by first | exact absurd c20 c56 | exact absurd c56 c20 | (simp only [fctU, if_pos c20]; exact mA9 _ _ _ _ _ _ _ _ _ _) | (simp only [fctU, if_neg c20]; exact mA9 _ _ _ _ _ _ _ _ _ _))
