set_option maxRecDepth 100000
set_option maxHeartbeats 4000000 in
theorem c_X6_readsCondition (G : GG) (l : Launch) (o : Nat) (R : Nat → Nat) (u : MS) (n : Nat) (p0 : Nat) (cs0 : List Nat) (hp : (u.1 12) = nI p0) (hn : (u.1 13) = nI n) (hn2 : n ≤ 240) (hp0n : p0 ≤ n) (hcm : (u.1 17) = nI cs0.length) (hcs0 : csA cs0 (u.2.1 21)) (hb0 : cs0.length ≤ p0) (hD : DM o R) : CMi G l o R yX6_readsCondition cX6_readsCondition 1 .boolean 8 141 [] u (fun r w => ∃ ok : Bool, ∃ pl : Int32, ∃ fa : Int32, ∃ nu : Int32, ∃ op : Int32, ∃ cm : Int32, ∃ wa : Int32, ∃ x : Nat → Int32, ∃ y : Nat → Int32, (cdPost (u.2.1 10) n p0 cs0 ok pl fa cm x) ∧ r = (bI ok) ∧ w = (lE u pl fa nu op cm wa (u.1 19) (u.1 11) (nI n) (u.1 20) x y (u.2.1 23) (u.2.1 24) (u.2.1 25) (u.2.1 26) (u.2.1 27) (u.2.1 28) (u.2.1 29) (u.2.1 30) (u.2.1 31))) := by
  refine CMi.mk pnX6 rfl (Nat.le_of_ble_eq_true rfl) (fun pg en Rm sg mm ar bw mth cd QQ ls hC hRm hK hP hS hl hq => ?_)
  have hx := hC.1; have hb := hC.2.1; have ho := hC.2.2.2.1; have hts := hC.2.2.2.2
  have hl : lv_has ls 1 [(0, .ref o)] := hl
  have hP : PM G o R (lE u (u.1 12) (u.1 14) (u.1 15) (u.1 16) (u.1 17) (u.1 18) (u.1 19) (u.1 11) (u.1 13) (u.1 20) (u.2.1 21) (u.2.1 22) (u.2.1 23) (u.2.1 24) (u.2.1 25) (u.2.1 26) (u.2.1 27) (u.2.1 28) (u.2.1 29) (u.2.1 30) (u.2.1 31)) sg.heap := by rw [lE_self]; exact hP
  rw [hp, hn, hcm] at hP
  refine lv_aload_n hx hb dX6_readsCondition_0 rfl (lv_at hl 0 rfl) ?_
  refine CI.callV hC hK hl (c_X6_here G l o R (lE u (nI p0) (u.1 14) (u.1 15) (u.1 16) (nI cs0.length) (u.1 18) (u.1 19) (u.1 11) (nI n) (u.1 20) (u.2.1 21) (u.2.1 22) (u.2.1 23) (u.2.1 24) (u.2.1 25) (u.2.1 26) (u.2.1 27) (u.2.1 28) (u.2.1 29) (u.2.1 30) (u.2.1 31)) p0 n (rfl) (rfl) (hn2) (by omega)) hP (hP.recv hK) q1438 q1440 qs52 q116 q1441 mdX6_here (room_ok hRm rfl) rfl rfl dX6_readsCondition_1 ?_
  refine W_top (y := (hereI (u.2.1 10) n p0)) (by simp only [lE_g10]) ?_
  refine lv_bipush (v := 40) hx hb dX6_readsCondition_4 (by decide) ?_
  refine lv_icmp_eq (tgt := 19) hx hb dX6_readsCondition_6 (by decide) (fun c6 => ?_) (fun c6 => ?_)
  · have h40 : ckN (u.2.1 10) n p0 = 40 := (hereI_eq (c := 40) (by decide)).mp (by first | exact c6 | exact Classical.not_not.mp c6)
    have hp0 := ckN_in (by decide) h40
    refine lv_aload_n hx hb dX6_readsCondition_19 rfl (lv_at hl 0 rfl) ?_
    refine lv_iconst (v := 0) hx hb dX6_readsCondition_20 (by decide) ?_
    refine M_put hC hK hD hP hS 16 (by decide) (sM16 _ _ _) q1217 rfl dX6_readsCondition_21 (fun H locs hP hS => ?_)
    rw [lE_V16] at hP
    refine lv_aload_n hx hb dX6_readsCondition_24 rfl (lv_at hl 0 rfl) ?_
    refine lv_iconst (v := 0) hx hb dX6_readsCondition_25 (by decide) ?_
    refine M_put hC hK hD hP hS 18 (by decide) (sM18 _ _ _) q1219 rfl dX6_readsCondition_26 (fun H locs hP hS => ?_)
    rw [lE_V18] at hP
    refine lv_aload_n hx hb dX6_readsCondition_29 rfl (lv_at hl 0 rfl) ?_
    refine lv_bipush (v := 13) hx hb dX6_readsCondition_30 (by decide) ?_
    refine CMi.call hC hK hS (fun q h => h) hl (c_X6_opens G l o R (lE u (nI p0) (u.1 14) (u.1 15) 0 (nI cs0.length) 0 (u.1 19) (u.1 11) (nI n) (u.1 20) (u.2.1 21) (u.2.1 22) (u.2.1 23) (u.2.1 24) (u.2.1 25) (u.2.1 26) (u.2.1 27) (u.2.1 28) (u.2.1 29) (u.2.1 30) (u.2.1 31)) 13 0 0 p0 (rfl) (by decide) (rfl) (by decide) (rfl) (by omega) (by decide) hD) hP rfl q1454 q1456 qs56 q116 q1457 mdX6_opens (room_ok hRm rfl) rfl rfl dX6_readsCondition_32 (fun r32 w32 H locs hpo hP _ _ hS => ?_)
    obtain ⟨ok_1, fa_2, op_3, wa_4, pl_5, x_6, f32_0, er32, ew32⟩ := hpo
    rw [ew32] at hP
    refine W_top (y := (bI ok_1)) er32 ?_
    rw [lE_again] at hP
    simp only [lE_f11, lE_f13, lE_f15, lE_f17, lE_f19, lE_f20, lE_g21, lE_g23, lE_g24, lE_g25, lE_g26, lE_g27, lE_g28, lE_g29, lE_g30, lE_g31] at hP
    refine lv_if_ne (tgt := 40) hx hb dX6_readsCondition_35 (by decide) (fun c35 => ?_) (fun c35 => ?_)
    · have c35 : ok_1 = true := bI_1.mp c35
      obtain ⟨h6, rfl, rfl, rfl, rfl⟩ := opP_t f32_0 c35
      have LP40 : ∀ (fu40 : Nat) (p : Nat) (o1 : Nat) (fu : Nat) (cs : List Nat) (ws : List Nat) (pl : Int32) (fa : Int32) (nu : Int32) (op : Int32) (cm : Int32) (wa : Int32) (x : Nat → Int32) (y : Nat → Int32) (H : Heap) (locs : List Loc) (ls : Array Slot), 2 * (n + 1 - p) + 1 < fu40 → lwI n ws.length p o1 cs ws pl op cm wa x y → shW cs ws → mK (u.2.1 10) n (n + 2) true cs0 [] 0 p0 = mK (u.2.1 10) n fu true cs ws o1 p → n + 1 - p ≤ fu → PM G o R (lE u pl fa nu op cm wa (u.1 19) (u.1 11) (nI n) (u.1 20) x y (u.2.1 23) (u.2.1 24) (u.2.1 25) (u.2.1 26) (u.2.1 27) (u.2.1 28) (u.2.1 29) (u.2.1 30) (u.2.1 31)) H → va_S (AM o R) sg.heap H locs → lv_has ls 1 [(0, .ref o)] → W pg l en Rm sg mm ar bw mth cd H locs 0 0 QQ (F0 mm 40 ls []) := by
        intro fu40
        induction fu40 with
        | zero => intro p o1 fu cs ws pl fa nu op cm wa x y H locs ls hm40 hI hS_ hR hfu hP hS hl; exact absurd hm40 (Nat.not_lt_zero _)
        | succ fu40 ih40 =>
          intro p o1 fu cs ws pl fa nu op cm wa x y H locs ls hm40 hI hS_ hR hfu hP hS hl
          have hI3 := hI
          obtain ⟨⟨rfl, rfl, rfl, rfl⟩, ⟨hcs, hst⟩, ⟨hl1, hl2, hpn, hct, ho6⟩, hG⟩ := hI
          refine lv_aload_n hx hb dX6_readsCondition_40 rfl (lv_at hl 0 rfl) ?_
          refine CI.callV hC hK hl (c_X6_here G l o R (lE u (nI p) fa nu (nI o1) (nI cs.length) (nI ws.length) (u.1 19) (u.1 11) (nI n) (u.1 20) x y (u.2.1 23) (u.2.1 24) (u.2.1 25) (u.2.1 26) (u.2.1 27) (u.2.1 28) (u.2.1 29) (u.2.1 30) (u.2.1 31)) p n (rfl) (rfl) (hn2) (by omega)) hP (hP.recv hK) q1438 q1440 qs52 q116 q1441 mdX6_here (room_ok hRm rfl) rfl rfl dX6_readsCondition_41 ?_
          refine W_top (y := (hereI (u.2.1 10) n p)) (by simp only [lE_g10]) ?_
          refine lv_bipush (v := 33) hx hb dX6_readsCondition_44 (by decide) ?_
          refine lv_icmp_eq (tgt := 58) hx hb dX6_readsCondition_46 (by decide) (fun c46 => ?_) (fun c46 => ?_)
          · refine lv_aload_n hx hb dX6_readsCondition_58 rfl (lv_at hl 0 rfl) ?_
            refine lv_aload_n hx hb dX6_readsCondition_59 rfl (lv_at hl 0 rfl) ?_
            refine CI.callV hC hK hl (c_X6_here G l o R (lE u (nI p) fa nu (nI o1) (nI cs.length) (nI ws.length) (u.1 19) (u.1 11) (nI n) (u.1 20) x y (u.2.1 23) (u.2.1 24) (u.2.1 25) (u.2.1 26) (u.2.1 27) (u.2.1 28) (u.2.1 29) (u.2.1 30) (u.2.1 31)) p n (rfl) (rfl) (hn2) (by omega)) hP (hP.recv hK) q1438 q1440 qs52 q116 q1441 mdX6_here (room_ok hRm rfl) rfl rfl dX6_readsCondition_60 ?_
            refine W_top (y := (hereI (u.2.1 10) n p)) (by simp only [lE_g10]) ?_
            refine lv_bipush (v := 33) hx hb dX6_readsCondition_63 (by decide) ?_
            refine lv_icmp_ne (tgt := 73) hx hb dX6_readsCondition_65 (by decide) (fun c65 => ?_) (fun c65 => ?_)
            · exact absurd ((hereI_eq (c := 33) (by decide)).mpr ((hereI_eq (c := 33) (by decide)).mp (by first | exact c46 | exact Classical.not_not.mp c46))) c65
            · have k33 : ckN (u.2.1 10) n p = 33 := (hereI_eq (c := 33) (by decide)).mp (by first | exact c65 | exact Classical.not_not.mp c65)
              have hpn1 := ckN_in (by decide) k33
              refine lv_bipush (v := 10) hx hb dX6_readsCondition_68 (by decide) ?_
              refine lv_goto (tgt := 75) hx hb dX6_readsCondition_70 (by decide) ?_
              refine CMi.call hC hK hS (fun q h => h) hl (c_X6_opens G l o R (lE u (nI p) fa nu (nI o1) (nI cs.length) (nI ws.length) (u.1 19) (u.1 11) (nI n) (u.1 20) x y (u.2.1 23) (u.2.1 24) (u.2.1 25) (u.2.1 26) (u.2.1 27) (u.2.1 28) (u.2.1 29) (u.2.1 30) (u.2.1 31)) 10 o1 ws.length p (rfl) (ho6) (rfl) (by omega) (rfl) (by omega) (by decide) hD) hP rfl q1454 q1456 qs56 q116 q1457 mdX6_opens (room_ok hRm rfl) rfl rfl dX6_readsCondition_75 (fun r75 w75 H locs hpo hP _ _ hS => ?_)
              obtain ⟨ok_7, fa_8, op_9, wa_10, pl_11, x_12, f75_0, er75, ew75⟩ := hpo
              rw [ew75] at hP
              refine W_top (y := (bI ok_7)) er75 ?_
              rw [lE_again] at hP
              simp only [lE_f11, lE_f13, lE_f15, lE_f17, lE_f19, lE_f20, lE_g21, lE_g23, lE_g24, lE_g25, lE_g26, lE_g27, lE_g28, lE_g29, lE_g30, lE_g31] at hP
              refine lv_if_ne (tgt := 40) hx hb dX6_readsCondition_78 (by decide) (fun c78 => ?_) (fun c78 => ?_)
              · have c78 : ok_7 = true := bI_1.mp c78
                obtain ⟨h6, rfl, rfl, rfl, rfl⟩ := opP_t f75_0 c78
                have hI4 := lwI_opn hI3 hpn1 h6 (show 10 = 10 ∨ 10 = 13 by decide)
                have hS4 := shW_opn hS_ (show 10 = 10 ∨ 10 = 13 by decide)
                have hR4 := hR.trans (mK_op (by omega) (Or.inl ⟨k33, rfl⟩) h6)
                exact ih40 (p + 1) (o1 + 1) (fu - 1) cs (UN * 10 :: ws) (nI (p + 1)) fa_8 nu (nI (o1 + 1)) (nI cs.length) (nI (ws.length + 1)) x (upd y ws.length (nI (1048576 * 10))) _ _ ls (by omega) (hI4) (hS4) (hR4) (by omega) hP hS (lv_sub hl [0] rfl)
              · have c78 : ok_7 = false := bI_0.mp c78
                obtain ⟨h6, rfl⟩ := opP_f f75_0 c78
                refine lv_iconst (v := 0) hx hb dX6_readsCondition_81 (by decide) ?_
                exact hq _ _ _ _ _ _ dX6_readsCondition_82 hP hS (by first | rfl | exact bI_nar _) (by exact ⟨false, _, _, _, _, _, _, _, _, cdP_bad (fu := n + 2) h40 hn2 (by omega) hb0 (hR.trans (mK_5 (by omega) (Or.inl k33) h6)) rfl, rfl, rfl⟩)
          · refine lv_aload_n hx hb dX6_readsCondition_49 rfl (lv_at hl 0 rfl) ?_
            refine CI.callV hC hK hl (c_X6_here G l o R (lE u (nI p) fa nu (nI o1) (nI cs.length) (nI ws.length) (u.1 19) (u.1 11) (nI n) (u.1 20) x y (u.2.1 23) (u.2.1 24) (u.2.1 25) (u.2.1 26) (u.2.1 27) (u.2.1 28) (u.2.1 29) (u.2.1 30) (u.2.1 31)) p n (rfl) (rfl) (hn2) (by omega)) hP (hP.recv hK) q1438 q1440 qs52 q116 q1441 mdX6_here (room_ok hRm rfl) rfl rfl dX6_readsCondition_50 ?_
            refine W_top (y := (hereI (u.2.1 10) n p)) (by simp only [lE_g10]) ?_
            refine lv_bipush (v := 40) hx hb dX6_readsCondition_53 (by decide) ?_
            refine lv_icmp_ne (tgt := 83) hx hb dX6_readsCondition_55 (by decide) (fun c55 => ?_) (fun c55 => ?_)
            · have n33 : ¬ ckN (u.2.1 10) n p = 33 := mt (hereI_eq (c := 33) (by decide)).mpr c46
              have n40 : ¬ ckN (u.2.1 10) n p = 40 := mt (hereI_eq (c := 40) (by decide)).mpr c55
              refine lv_aload_n hx hb dX6_readsCondition_83 rfl (lv_at hl 0 rfl) ?_
              refine CMi.call hC hK hS (fun q h => h) hl (c_X6_readsCompared G l o R (lE u (nI p) fa nu (nI o1) (nI cs.length) (nI ws.length) (u.1 19) (u.1 11) (nI n) (u.1 20) x y (u.2.1 23) (u.2.1 24) (u.2.1 25) (u.2.1 26) (u.2.1 27) (u.2.1 28) (u.2.1 29) (u.2.1 30) (u.2.1 31)) n p o1 cs ws (cmpW (u.2.1 10) n cs ws o1 p) (hI3) (rfl) (hn2) (wf_top hS_.1) (rfl) hD) hP rfl q1493 q1495 qs64 q116 q1496 mdX6_readsCompared (room_ok hRm rfl) rfl rfl dX6_readsCondition_84 (fun r84 w84 H locs hpo hP _ _ hS => ?_)
              obtain ⟨ok_13, pl_14, fa_15, nu_16, op_17, cm_18, wa_19, x_20, y_21, f84_0, er84, ew84⟩ := hpo
              rw [ew84] at hP
              refine W_top (y := (bI ok_13)) er84 ?_
              rw [lE_again] at hP
              simp only [lE_f11, lE_f19, lE_f20, lE_g23, lE_g24, lE_g25, lE_g26, lE_g27, lE_g28, lE_g29, lE_g30, lE_g31] at hP
              refine lv_if_ne (tgt := 92) hx hb dX6_readsCondition_87 (by decide) (fun c87 => ?_) (fun c87 => ?_)
              · have c87 : ok_13 = true := bI_1.mp c87
                obtain ⟨pe, hpe⟩ : ∃ pe, pe = p := ⟨_, rfl⟩
                obtain ⟨p2, o2, cs2, ws2, hR2, hI2⟩ := cpP_t f84_0 c87
                obtain ⟨l9, e1, e2, e3, e4, e5⟩ := cmpW_i hpn hR2
                dsimp only at e1 e2 e3 e4 e5
                obtain ⟨hS2, hd2⟩ := shW_en (l := l9) hS_ hct ho6
                rw [← e1, ← e2] at hS2; rw [← e2] at hd2
                have hR3 := hR.trans (mK_ct (by omega) n33 n40 hR2)
                have LP92 : ∀ (fu92 : Nat) (p : Nat) (o1 : Nat) (fu : Nat) (cs : List Nat) (ws : List Nat) (pl : Int32) (fa : Int32) (nu : Int32) (op : Int32) (cm : Int32) (wa : Int32) (x : Nat → Int32) (y : Nat → Int32) (H : Heap) (locs : List Loc) (ls : Array Slot), 2 * (n + 1 - p) < fu92 → lwI n ws.length p o1 cs ws pl op cm wa x y → shW cs ws → mK (u.2.1 10) n (n + 2) true cs0 [] 0 p0 = mK (u.2.1 10) n fu false cs ws o1 p → n + 1 - p ≤ fu → hdQ (fun i => ¬ i = 10) ws → pe < p → PM G o R (lE u pl fa nu op cm wa (u.1 19) (u.1 11) (nI n) (u.1 20) x y (u.2.1 23) (u.2.1 24) (u.2.1 25) (u.2.1 26) (u.2.1 27) (u.2.1 28) (u.2.1 29) (u.2.1 30) (u.2.1 31)) H → va_S (AM o R) sg.heap H locs → lv_has ls 1 [(0, .ref o)] → W pg l en Rm sg mm ar bw mth cd H locs 0 0 QQ (F0 mm 92 ls []) := by
                  intro fu92
                  induction fu92 with
                  | zero => intro p o1 fu cs ws pl fa nu op cm wa x y H locs ls hm92 hI hS_ hR hfu hd hge hP hS hl; exact absurd hm92 (Nat.not_lt_zero _)
                  | succ fu92 ih92 =>
                    intro p o1 fu cs ws pl fa nu op cm wa x y H locs ls hm92 hI hS_ hR hfu hd hge hP hS hl
                    have hI3 := hI
                    obtain ⟨⟨rfl, rfl, rfl, rfl⟩, ⟨hcs, hst⟩, ⟨hl1, hl2, hpn, hct, ho6⟩, hG⟩ := hI
                    have hcl : cs.length < 1048576 := by omega
                    refine lv_aload_n hx hb dX6_readsCondition_92 rfl (lv_at hl 0 rfl) ?_
                    refine CI.callV hC hK hl (c_X6_here G l o R (lE u (nI p) fa nu (nI o1) (nI cs.length) (nI ws.length) (u.1 19) (u.1 11) (nI n) (u.1 20) x y (u.2.1 23) (u.2.1 24) (u.2.1 25) (u.2.1 26) (u.2.1 27) (u.2.1 28) (u.2.1 29) (u.2.1 30) (u.2.1 31)) p n (rfl) (rfl) (hn2) (by omega)) hP (hP.recv hK) q1438 q1440 qs52 q116 q1441 mdX6_here (room_ok hRm rfl) rfl rfl dX6_readsCondition_93 ?_
                    refine W_top (y := (hereI (u.2.1 10) n p)) (by simp only [lE_g10]) ?_
                    refine lv_bipush (v := 41) hx hb dX6_readsCondition_96 (by decide) ?_
                    refine lv_icmp_ne (tgt := 152) hx hb dX6_readsCondition_98 (by decide) (fun c98 => ?_) (fun c98 => ?_)
                    · refine lv_aload_n hx hb dX6_readsCondition_152 rfl (lv_at hl 0 rfl) ?_
                      refine CI.callV hC hK hl (c_X6_here G l o R (lE u (nI p) fa nu (nI o1) (nI cs.length) (nI ws.length) (u.1 19) (u.1 11) (nI n) (u.1 20) x y (u.2.1 23) (u.2.1 24) (u.2.1 25) (u.2.1 26) (u.2.1 27) (u.2.1 28) (u.2.1 29) (u.2.1 30) (u.2.1 31)) p n (rfl) (rfl) (hn2) (by omega)) hP (hP.recv hK) q1438 q1440 qs52 q116 q1441 mdX6_here (room_ok hRm rfl) rfl rfl dX6_readsCondition_153 ?_
                      refine W_top (y := (hereI (u.2.1 10) n p)) (by simp only [lE_g10]) ?_
                      refine lv_bipush (v := 38) hx hb dX6_readsCondition_156 (by decide) ?_
                      refine lv_icmp_eq (tgt := 180) hx hb dX6_readsCondition_158 (by decide) (fun c158 => ?_) (fun c158 => ?_)
                      · have k38 : ckN (u.2.1 10) n p = 38 := (hereI_eq (c := 38) (by decide)).mp (by first | exact c158 | exact Classical.not_not.mp c158)
                        have hpn1 := ckN_in (by decide) k38
                        refine lv_aload_n hx hb dX6_readsCondition_180 rfl (lv_at hl 0 rfl) ?_
                        refine lv_aload_n hx hb dX6_readsCondition_181 rfl (lv_at hl 0 rfl) ?_
                        refine CI.callV hC hK hl (c_X6_here G l o R (lE u (nI p) fa nu (nI o1) (nI cs.length) (nI ws.length) (u.1 19) (u.1 11) (nI n) (u.1 20) x y (u.2.1 23) (u.2.1 24) (u.2.1 25) (u.2.1 26) (u.2.1 27) (u.2.1 28) (u.2.1 29) (u.2.1 30) (u.2.1 31)) p n (rfl) (rfl) (hn2) (by omega)) hP (hP.recv hK) q1438 q1440 qs52 q116 q1441 mdX6_here (room_ok hRm rfl) rfl rfl dX6_readsCondition_182 ?_
                        refine W_top (y := (hereI (u.2.1 10) n p)) (by simp only [lE_g10]) ?_
                        refine lv_bipush (v := 124) hx hb dX6_readsCondition_185 (by decide) ?_
                        refine lv_icmp_ne (tgt := 194) hx hb dX6_readsCondition_187 (by decide) (fun c187 => ?_) (fun c187 => ?_)
                        · refine lv_iconst (v := 0) hx hb dX6_readsCondition_194 (by decide) ?_
                          refine CMv.call hC hK hS (fun q h => h) hl (c_X6_lands G l o R (lE u (nI p) fa nu (nI o1) (nI cs.length) (nI ws.length) (u.1 19) (u.1 11) (nI n) (u.1 20) x y (u.2.1 23) (u.2.1 24) (u.2.1 25) (u.2.1 26) (u.2.1 27) (u.2.1 28) (u.2.1 29) (u.2.1 30) (u.2.1 31)) false cs ws (rfl) (by omega) (by omega) (rfl) (hst) (hcs) (hS_.2.2) hD) hP rfl q1501 q1503 qs66 q116 q1504 mdX6_lands (room_ok hRm rfl) rfl rfl dX6_readsCondition_195 (fun w195 H locs hpo hP _ _ hS => ?_)
                          obtain ⟨x_22, f195_0, ew195⟩ := hpo
                          rw [ew195] at hP
                          rw [lE_again] at hP
                          simp only [lE_f11, lE_f12, lE_f13, lE_f14, lE_f15, lE_f16, lE_f19, lE_f20, lE_g22, lE_g23, lE_g24, lE_g25, lE_g26, lE_g27, lE_g28, lE_g29, lE_g30, lE_g31] at hP
                          have hI4 := lwI_ln (al := false) hI3 hn2 f195_0
                          obtain ⟨hS4, y0, u0, hu0, hy0⟩ := shW_ln (al := false) hS_ hcl hd
                          have hl5 : (lnd false cs ws).1.length = cs.length := (lnd_spec (al := false) ws cs hcl).1
                          obtain ⟨c5, hc5⟩ : ∃ c5, (lnd false cs ws).1 = c5 := ⟨_, rfl⟩
                          obtain ⟨w5, hw5⟩ : ∃ w5, (lnd false cs ws).2 = w5 := ⟨_, rfl⟩
                          rw [hc5] at hI4 hS4 hl5
                          rw [hw5] at hP hI4 hS4 hu0
                          rw [← hl5] at hP
                          refine lv_aload_n hx hb dX6_readsCondition_198 rfl (lv_at hl 0 rfl) ?_
                          refine lv_aload_n hx hb dX6_readsCondition_199 rfl (lv_at hl 0 rfl) ?_
                          refine CI.callV hC hK hl (c_X6_here G l o R (lE u (nI p) fa nu (nI o1) (nI c5.length) (nI w5.length) (u.1 19) (u.1 11) (nI n) (u.1 20) x_22 y (u.2.1 23) (u.2.1 24) (u.2.1 25) (u.2.1 26) (u.2.1 27) (u.2.1 28) (u.2.1 29) (u.2.1 30) (u.2.1 31)) p n (rfl) (rfl) (hn2) (by omega)) hP (hP.recv hK) q1438 q1440 qs52 q116 q1441 mdX6_here (room_ok hRm rfl) rfl rfl dX6_readsCondition_200 ?_
                          refine W_top (y := (hereI (u.2.1 10) n p)) (by simp only [lE_g10]) ?_
                          refine lv_bipush (v := 38) hx hb dX6_readsCondition_203 (by decide) ?_
                          refine lv_icmp_ne (tgt := 213) hx hb dX6_readsCondition_205 (by decide) (fun c205 => ?_) (fun c205 => ?_)
                          · exact absurd ((hereI_eq (c := 38) (by decide)).mpr k38) c205
                          · refine lv_bipush (v := 11) hx hb dX6_readsCondition_208 (by decide) ?_
                            refine lv_goto (tgt := 215) hx hb dX6_readsCondition_210 (by decide) ?_
                            refine CMv.call hC hK hS (fun q h => h) hl (c_X6_jumps G l o R (lE u (nI p) fa nu (nI o1) (nI c5.length) (nI w5.length) (u.1 19) (u.1 11) (nI n) (u.1 20) x_22 y (u.2.1 23) (u.2.1 24) (u.2.1 25) (u.2.1 26) (u.2.1 27) (u.2.1 28) (u.2.1 29) (u.2.1 30) (u.2.1 31)) 11 c5.length w5.length p (rfl) (by omega) (rfl) (by have := hI4.2.2.1; omega) (rfl) (by omega) (by decide) hD) hP rfl q1505 q1507 qs67 q116 q1508 mdX6_jumps (room_ok hRm rfl) rfl rfl dX6_readsCondition_215 (fun w215 H locs hpo hP _ _ hS => ?_)
                            have ew215 := hpo
                            rw [ew215] at hP
                            rw [lE_again] at hP
                            simp only [lE_f11, lE_f13, lE_f14, lE_f15, lE_f16, lE_f19, lE_f20, lE_g21, lE_g22, lE_g23, lE_g24, lE_g25, lE_g26, lE_g27, lE_g28, lE_g29, lE_g30, lE_g31] at hP
                            have hI5 := lwI_jmp (s := 11) hI4 hn2 hpn1 (by decide)
                            have hS5 := shW_jmp (s := 11) hS4 (by omega) ⟨y0, u0, hu0, hy0.elim Or.inl (fun z => Or.inr ⟨rfl, z.2⟩)⟩ (by decide)
                            have hR5 := hR.trans (mK_11 (by omega) k38 hc5 hw5)
                            refine lv_goto (tgt := 40) hx hb dX6_readsCondition_218 (by decide) ?_
                            exact ih40 (p + 1) o1 (fu - 1) (c5 ++ [UN * 11]) ((UN * 11 + c5.length) :: w5) (nI (p + 1)) fa nu (nI o1) (nI (c5.length + 1)) (nI (w5.length + 1)) (upd x_22 c5.length (nI (1048576 * 11 + 0))) (upd y w5.length (nI (1048576 * 11 + c5.length))) _ _ ls (by omega) (hI5) (hS5) (hR5) (by omega) hP hS (lv_sub hl [0] rfl)
                        · exact absurd ((hereI_eq (c := 38) (by decide)).mpr k38) (fun z => by rw [(hereI_eq (f := (u.2.1 10)) (n := n) (p := p) (c := 124) (by decide)).mp (by first | exact c187 | exact Classical.not_not.mp c187)] at k38; exact absurd k38 (by decide))
                      · refine lv_aload_n hx hb dX6_readsCondition_161 rfl (lv_at hl 0 rfl) ?_
                        refine CI.callV hC hK hl (c_X6_here G l o R (lE u (nI p) fa nu (nI o1) (nI cs.length) (nI ws.length) (u.1 19) (u.1 11) (nI n) (u.1 20) x y (u.2.1 23) (u.2.1 24) (u.2.1 25) (u.2.1 26) (u.2.1 27) (u.2.1 28) (u.2.1 29) (u.2.1 30) (u.2.1 31)) p n (rfl) (rfl) (hn2) (by omega)) hP (hP.recv hK) q1438 q1440 qs52 q116 q1441 mdX6_here (room_ok hRm rfl) rfl rfl dX6_readsCondition_162 ?_
                        refine W_top (y := (hereI (u.2.1 10) n p)) (by simp only [lE_g10]) ?_
                        refine lv_bipush (v := 124) hx hb dX6_readsCondition_165 (by decide) ?_
                        refine lv_icmp_eq (tgt := 180) hx hb dX6_readsCondition_167 (by decide) (fun c167 => ?_) (fun c167 => ?_)
                        · have k124 : ckN (u.2.1 10) n p = 124 := (hereI_eq (c := 124) (by decide)).mp (by first | exact c167 | exact Classical.not_not.mp c167)
                          have hpn1 := ckN_in (by decide) k124
                          refine lv_aload_n hx hb dX6_readsCondition_180 rfl (lv_at hl 0 rfl) ?_
                          refine lv_aload_n hx hb dX6_readsCondition_181 rfl (lv_at hl 0 rfl) ?_
                          refine CI.callV hC hK hl (c_X6_here G l o R (lE u (nI p) fa nu (nI o1) (nI cs.length) (nI ws.length) (u.1 19) (u.1 11) (nI n) (u.1 20) x y (u.2.1 23) (u.2.1 24) (u.2.1 25) (u.2.1 26) (u.2.1 27) (u.2.1 28) (u.2.1 29) (u.2.1 30) (u.2.1 31)) p n (rfl) (rfl) (hn2) (by omega)) hP (hP.recv hK) q1438 q1440 qs52 q116 q1441 mdX6_here (room_ok hRm rfl) rfl rfl dX6_readsCondition_182 ?_
                          refine W_top (y := (hereI (u.2.1 10) n p)) (by simp only [lE_g10]) ?_
                          refine lv_bipush (v := 124) hx hb dX6_readsCondition_185 (by decide) ?_
                          refine lv_icmp_ne (tgt := 194) hx hb dX6_readsCondition_187 (by decide) (fun c187 => ?_) (fun c187 => ?_)
                          · exact absurd ((hereI_eq (c := 124) (by decide)).mpr k124) c187
                          · refine lv_iconst (v := 1) hx hb dX6_readsCondition_190 (by decide) ?_
                            refine lv_goto (tgt := 195) hx hb dX6_readsCondition_191 (by decide) ?_
                            refine CMv.call hC hK hS (fun q h => h) hl (c_X6_lands G l o R (lE u (nI p) fa nu (nI o1) (nI cs.length) (nI ws.length) (u.1 19) (u.1 11) (nI n) (u.1 20) x y (u.2.1 23) (u.2.1 24) (u.2.1 25) (u.2.1 26) (u.2.1 27) (u.2.1 28) (u.2.1 29) (u.2.1 30) (u.2.1 31)) true cs ws (rfl) (by omega) (by omega) (rfl) (hst) (hcs) (hS_.2.2) hD) hP rfl q1501 q1503 qs66 q116 q1504 mdX6_lands (room_ok hRm rfl) rfl rfl dX6_readsCondition_195 (fun w195 H locs hpo hP _ _ hS => ?_)
                            obtain ⟨x_23, f195_0, ew195⟩ := hpo
                            rw [ew195] at hP
                            rw [lE_again] at hP
                            simp only [lE_f11, lE_f12, lE_f13, lE_f14, lE_f15, lE_f16, lE_f19, lE_f20, lE_g22, lE_g23, lE_g24, lE_g25, lE_g26, lE_g27, lE_g28, lE_g29, lE_g30, lE_g31] at hP
                            have hI4 := lwI_ln (al := true) hI3 hn2 f195_0
                            obtain ⟨hS4, y0, u0, hu0, hy0⟩ := shW_ln (al := true) hS_ hcl hd
                            have hl5 : (lnd true cs ws).1.length = cs.length := (lnd_spec (al := true) ws cs hcl).1
                            obtain ⟨c5, hc5⟩ : ∃ c5, (lnd true cs ws).1 = c5 := ⟨_, rfl⟩
                            obtain ⟨w5, hw5⟩ : ∃ w5, (lnd true cs ws).2 = w5 := ⟨_, rfl⟩
                            rw [hc5] at hI4 hS4 hl5
                            rw [hw5] at hP hI4 hS4 hu0
                            rw [← hl5] at hP
                            refine lv_aload_n hx hb dX6_readsCondition_198 rfl (lv_at hl 0 rfl) ?_
                            refine lv_aload_n hx hb dX6_readsCondition_199 rfl (lv_at hl 0 rfl) ?_
                            refine CI.callV hC hK hl (c_X6_here G l o R (lE u (nI p) fa nu (nI o1) (nI c5.length) (nI w5.length) (u.1 19) (u.1 11) (nI n) (u.1 20) x_23 y (u.2.1 23) (u.2.1 24) (u.2.1 25) (u.2.1 26) (u.2.1 27) (u.2.1 28) (u.2.1 29) (u.2.1 30) (u.2.1 31)) p n (rfl) (rfl) (hn2) (by omega)) hP (hP.recv hK) q1438 q1440 qs52 q116 q1441 mdX6_here (room_ok hRm rfl) rfl rfl dX6_readsCondition_200 ?_
                            refine W_top (y := (hereI (u.2.1 10) n p)) (by simp only [lE_g10]) ?_
                            refine lv_bipush (v := 38) hx hb dX6_readsCondition_203 (by decide) ?_
                            refine lv_icmp_ne (tgt := 213) hx hb dX6_readsCondition_205 (by decide) (fun c205 => ?_) (fun c205 => ?_)
                            · refine lv_bipush (v := 12) hx hb dX6_readsCondition_213 (by decide) ?_
                              refine CMv.call hC hK hS (fun q h => h) hl (c_X6_jumps G l o R (lE u (nI p) fa nu (nI o1) (nI c5.length) (nI w5.length) (u.1 19) (u.1 11) (nI n) (u.1 20) x_23 y (u.2.1 23) (u.2.1 24) (u.2.1 25) (u.2.1 26) (u.2.1 27) (u.2.1 28) (u.2.1 29) (u.2.1 30) (u.2.1 31)) 12 c5.length w5.length p (rfl) (by omega) (rfl) (by have := hI4.2.2.1; omega) (rfl) (by omega) (by decide) hD) hP rfl q1505 q1507 qs67 q116 q1508 mdX6_jumps (room_ok hRm rfl) rfl rfl dX6_readsCondition_215 (fun w215 H locs hpo hP _ _ hS => ?_)
                              have ew215 := hpo
                              rw [ew215] at hP
                              rw [lE_again] at hP
                              simp only [lE_f11, lE_f13, lE_f14, lE_f15, lE_f16, lE_f19, lE_f20, lE_g21, lE_g22, lE_g23, lE_g24, lE_g25, lE_g26, lE_g27, lE_g28, lE_g29, lE_g30, lE_g31] at hP
                              have hI5 := lwI_jmp (s := 12) hI4 hn2 hpn1 (by decide)
                              have hS5 := shW_jmp (s := 12) hS4 (by omega) ⟨y0, u0, hu0, hy0.elim Or.inl (fun z => Bool.noConfusion z.1)⟩ (by decide)
                              have hR5 := hR.trans (mK_12 (by omega) k124 hc5 hw5)
                              refine lv_goto (tgt := 40) hx hb dX6_readsCondition_218 (by decide) ?_
                              exact ih40 (p + 1) o1 (fu - 1) (c5 ++ [UN * 12]) ((UN * 12 + c5.length) :: w5) (nI (p + 1)) fa nu (nI o1) (nI (c5.length + 1)) (nI (w5.length + 1)) (upd x_23 c5.length (nI (1048576 * 12 + 0))) (upd y w5.length (nI (1048576 * 12 + c5.length))) _ _ ls (by omega) (hI5) (hS5) (hR5) (by omega) hP hS (lv_sub hl [0] rfl)
                            · exact absurd (show ckN (u.2.1 10) n p = 38 from (hereI_eq (c := 38) (by decide)).mp (by first | exact c205 | exact Classical.not_not.mp c205)) (by omega)
                        · refine lv_aload_n hx hb dX6_readsCondition_170 rfl (lv_at hl 0 rfl) ?_
                          refine lv_iconst (v := 1) hx hb dX6_readsCondition_171 (by decide) ?_
                          refine lv_aload_n hx hb dX6_readsCondition_172 rfl (lv_at hl 0 rfl) ?_
                          refine M_get hC hK hP 12 (by decide) (fM12 _ _) q1213 dX6_readsCondition_173 ?_
                          refine W_top (y := (nI p)) (by rw [lE_f12]) ?_
                          refine CMi.call hC hK hS (fun q h => h) hl (c_X6_wrongAt G l o R (lE u (nI p) fa nu (nI o1) (nI cs.length) (nI ws.length) (u.1 19) (u.1 11) (nI n) (u.1 20) x y (u.2.1 23) (u.2.1 24) (u.2.1 25) (u.2.1 26) (u.2.1 27) (u.2.1 28) (u.2.1 29) (u.2.1 30) (u.2.1 31)) 1 p  hD) hP rfl q1442 q1444 qs53 q116 q1445 mdX6_wrongAt (room_ok hRm rfl) rfl rfl dX6_readsCondition_176 (fun r176 w176 H locs hpo hP _ _ hS => ?_)
                          obtain ⟨er176, ew176⟩ := hpo
                          rw [ew176] at hP
                          refine W_top (y := (bI false)) er176 ?_
                          rw [lE_V14] at hP
                          exact hq _ _ _ _ _ _ dX6_readsCondition_179 hP hS (by first | rfl | exact bI_nar _) (by exact ⟨false, _, _, _, _, _, _, _, _, cdP_bad (fu := n + 2) h40 hn2 (by omega) hb0 (hR.trans (mK_bad (by omega) (mt (hereI_eq (c := 41) (by decide)).mpr c98) (mt (hereI_eq (c := 38) (by decide)).mpr c158) (mt (hereI_eq (c := 124) (by decide)).mpr c167))) rfl, rfl, rfl⟩)
                    · refine lv_aload_n hx hb dX6_readsCondition_101 rfl (lv_at hl 0 rfl) ?_
                      refine lv_iconst (v := 1) hx hb dX6_readsCondition_102 (by decide) ?_
                      refine CMv.call hC hK hS (fun q h => h) hl (c_X6_lands G l o R (lE u (nI p) fa nu (nI o1) (nI cs.length) (nI ws.length) (u.1 19) (u.1 11) (nI n) (u.1 20) x y (u.2.1 23) (u.2.1 24) (u.2.1 25) (u.2.1 26) (u.2.1 27) (u.2.1 28) (u.2.1 29) (u.2.1 30) (u.2.1 31)) true cs ws (rfl) (by omega) (by omega) (rfl) (hst) (hcs) (hS_.2.2) hD) hP rfl q1501 q1503 qs66 q116 q1504 mdX6_lands (room_ok hRm rfl) rfl rfl dX6_readsCondition_103 (fun w103 H locs hpo hP _ _ hS => ?_)
                      obtain ⟨x_24, f103_0, ew103⟩ := hpo
                      rw [ew103] at hP
                      rw [lE_again] at hP
                      simp only [lE_f11, lE_f12, lE_f13, lE_f14, lE_f15, lE_f16, lE_f19, lE_f20, lE_g22, lE_g23, lE_g24, lE_g25, lE_g26, lE_g27, lE_g28, lE_g29, lE_g30, lE_g31] at hP
                      have hI4 := lwI_ln (al := true) hI3 hn2 f103_0
                      obtain ⟨hS4, y0, u0, hu0, hy0⟩ := shW_ln (al := true) hS_ hcl hd
                      have hl5 : (lnd true cs ws).1.length = cs.length := (lnd_spec (al := true) ws cs hcl).1
                      obtain ⟨c5, hc5⟩ : ∃ c5, (lnd true cs ws).1 = c5 := ⟨_, rfl⟩
                      obtain ⟨w5, hw5⟩ : ∃ w5, (lnd true cs ws).2 = w5 := ⟨_, rfl⟩
                      rw [hc5] at hI4 hS4 hl5
                      rw [hw5] at hP hI4 hS4 hu0
                      rw [← hl5] at hP
                      have h13 : y0 / 1048576 = 13 := hy0.elim id (fun z => Bool.noConfusion z.1)
                      subst hu0
                      have k41 := (hereI_eq (f := (u.2.1 10)) (n := n) (p := p) (c := 41) (by decide)).mp (by first | exact c98 | exact Classical.not_not.mp c98)
                      have hpn1 := ckN_in (by decide) k41
                      have hlt : (y0 :: u0).length = u0.length + 1 := rfl
                      have hlw4 := hI4.2.2.1.2.1
                      have hct4 := hI4.2.2.1.2.2.2.1
                      rw [cntO_y (Or.inr (Or.inl h13))] at hct4
                      have hI5 := lwI_pp hI4 h13 hpn1
                      refine lv_aload_n hx hb dX6_readsCondition_106 rfl (lv_at hl 0 rfl) ?_
                      refine lv_aload_n hx hb dX6_readsCondition_107 rfl (lv_at hl 0 rfl) ?_
                      refine M_get hC hK hP 18 (by decide) (fM18 _ _) q1219 dX6_readsCondition_108 ?_
                      refine W_top (y := (nI (y0 :: u0).length)) (by rw [lE_f18]) ?_
                      refine lv_iconst (v := 1) hx hb dX6_readsCondition_111 (by decide) ?_
                      refine lv_isub hx hb dX6_readsCondition_112 ?_
                      refine W_top (y := (nI u0.length)) (pk_sub (a := u0.length + 1) (b := 1) (by omega)) ?_
                      refine M_put hC hK hD hP hS 18 (by decide) (sM18 _ _ _) q1219 rfl dX6_readsCondition_113 (fun H locs hP hS => ?_)
                      rw [lE_V18] at hP
                      refine lv_aload_n hx hb dX6_readsCondition_116 rfl (lv_at hl 0 rfl) ?_
                      refine lv_aload_n hx hb dX6_readsCondition_117 rfl (lv_at hl 0 rfl) ?_
                      refine M_get hC hK hP 16 (by decide) (fM16 _ _) q1217 dX6_readsCondition_118 ?_
                      refine W_top (y := (nI o1)) (by rw [lE_f16]) ?_
                      refine lv_iconst (v := 1) hx hb dX6_readsCondition_121 (by decide) ?_
                      refine lv_isub hx hb dX6_readsCondition_122 ?_
                      refine W_top (y := (nI (o1 - 1))) (pk_sub (a := o1) (b := 1) (by omega)) ?_
                      refine M_put hC hK hD hP hS 16 (by decide) (sM16 _ _ _) q1217 rfl dX6_readsCondition_123 (fun H locs hP hS => ?_)
                      rw [lE_V16] at hP
                      refine lv_aload_n hx hb dX6_readsCondition_126 rfl (lv_at hl 0 rfl) ?_
                      refine lv_aload_n hx hb dX6_readsCondition_127 rfl (lv_at hl 0 rfl) ?_
                      refine M_get hC hK hP 12 (by decide) (fM12 _ _) q1213 dX6_readsCondition_128 ?_
                      refine W_top (y := (nI p)) (by rw [lE_f12]) ?_
                      refine lv_iconst (v := 1) hx hb dX6_readsCondition_131 (by decide) ?_
                      refine lv_iadd hx hb dX6_readsCondition_132 ?_
                      refine W_top (nI_add p 1) ?_
                      refine M_put hC hK hD hP hS 12 (by decide) (sM12 _ _ _) q1213 rfl dX6_readsCondition_133 (fun H locs hP hS => ?_)
                      rw [lE_V12] at hP
                      refine lv_aload_n hx hb dX6_readsCondition_136 rfl (lv_at hl 0 rfl) ?_
                      refine M_get hC hK hP 18 (by decide) (fM18 _ _) q1219 dX6_readsCondition_137 ?_
                      refine W_top (y := (nI u0.length)) (by rw [lE_f18]) ?_
                      refine lv_if_ne (tgt := 145) hx hb dX6_readsCondition_140 (by decide) (fun c140 => ?_) (fun c140 => ?_)
                      · have c140 : ¬ (u0.length = 0) := mt (nI_eq (a := u0.length) (b := 0) (by omega) (by omega)).mpr c140
                        have hne : ¬ u0 = [] := fun z => by subst z; exact c140 rfl
                        obtain ⟨_, _, _, _, _, a6, a7⟩ := enP_spec u0 c5 (o1 - 1) hI5.2.2.1.2.2.2.1 hI5.2.2.1.2.2.2.2
                        obtain ⟨b1, b2, b3⟩ := a7 hS4.1.2 hne
                        refine lv_aload_n hx hb dX6_readsCondition_145 rfl (lv_at hl 0 rfl) ?_
                        refine CMv.call hC hK hS (fun q h => h) hl (c_X6_endsPiece G l o R (lE u (nI (p + 1)) fa nu (nI (o1 - 1)) (nI c5.length) (nI u0.length) (u.1 19) (u.1 11) (nI n) (u.1 20) x_24 y (u.2.1 23) (u.2.1 24) (u.2.1 25) (u.2.1 26) (u.2.1 27) (u.2.1 28) (u.2.1 29) (u.2.1 30) (u.2.1 31)) (o1 - 1) c5 u0 (rfl) (by have := hI5.2.2.1; omega) (by have := hI5.2.2.1; omega) (rfl) (hI5.2.1.2) (hI5.2.1.1) (rfl) (hI5.2.2.1.2.2.2.1) (hI5.2.2.1.2.2.2.2) hD) hP rfl q1497 q1499 qs65 q116 q1500 mdX6_endsPiece (room_ok hRm rfl) rfl rfl dX6_readsCondition_146 (fun w146 H locs hpo hP _ _ hS => ?_)
                        obtain ⟨x_25, f146_0, ew146⟩ := hpo
                        rw [ew146] at hP
                        rw [lE_again] at hP
                        simp only [lE_f11, lE_f12, lE_f13, lE_f14, lE_f15, lE_f19, lE_f20, lE_g22, lE_g23, lE_g24, lE_g25, lE_g26, lE_g27, lE_g28, lE_g29, lE_g30, lE_g31] at hP
                        refine lv_goto (tgt := 92) hx hb dX6_readsCondition_149 (by decide) ?_
                        exact ih92 (p + 1) ((enP c5 u0 (o1 - 1)).2.2) (fu - 1) ((enP c5 u0 (o1 - 1)).1) ((enP c5 u0 (o1 - 1)).2.1) (nI (p + 1)) fa nu (nI (enP c5 u0 (o1 - 1)).2.2) (nI (enP c5 u0 (o1 - 1)).1.length) (nI (enP c5 u0 (o1 - 1)).2.1.length) x_25 y _ _ ls (by omega) (lwI_en hI5 f146_0) (⟨b1, b2, a6 (jm_tl hS4.2.2)⟩) (hR.trans (mK_cl (by omega) k41 hc5 hw5 hne)) (by omega) (b3) (by omega) hP hS (lv_sub hl [0] rfl)
                      · have c140 : u0.length = 0 := (nI_eq (a := u0.length) (b := 0) (by omega) (by omega)).mp c140
                        refine lv_iconst (v := 1) hx hb dX6_readsCondition_143 (by decide) ?_
                        exact hq _ _ _ _ _ _ dX6_readsCondition_144 hP hS (by first | rfl | exact bI_nar _) (by have hz : u0 = [] := List.length_eq_zero_iff.mp (by first | omega | exact c140); subst hz; exact ⟨true, _, _, _, _, _, _, _, _, cdP_ok (fu := n + 2) h40 hn2 (by omega) hb0 (hR.trans (mK_end (by omega) k41 hc5 hw5)) rfl rfl hI5.2.1.1, rfl, rfl⟩)
                exact LP92 _ p2 o2 (fu - 1) cs2 ws2 pl_14 fa_15 nu_16 op_17 cm_18 wa_19 x_20 y_21 _ _ ls (Nat.lt_succ_self _) (hI2) (hS2) (by rw [hR3]) (by omega) (hd2) (by omega) hP hS (lv_sub hl [0] rfl)
              · have c87 : ok_13 = false := bI_0.mp c87
                obtain ⟨e0, hR2, hfa⟩ := cpP_f f84_0 c87
                refine lv_iconst (v := 0) hx hb dX6_readsCondition_90 (by decide) ?_
                exact hq _ _ _ _ _ _ dX6_readsCondition_91 hP hS (by first | rfl | exact bI_nar _) (by exact ⟨false, _, _, _, _, _, _, _, _, cdP_bad (fu := n + 2) h40 hn2 (by omega) hb0 (hR.trans (mK_cf (by omega) n33 n40 hR2)) hfa, rfl, rfl⟩)
            · refine lv_aload_n hx hb dX6_readsCondition_58 rfl (lv_at hl 0 rfl) ?_
              refine lv_aload_n hx hb dX6_readsCondition_59 rfl (lv_at hl 0 rfl) ?_
              refine CI.callV hC hK hl (c_X6_here G l o R (lE u (nI p) fa nu (nI o1) (nI cs.length) (nI ws.length) (u.1 19) (u.1 11) (nI n) (u.1 20) x y (u.2.1 23) (u.2.1 24) (u.2.1 25) (u.2.1 26) (u.2.1 27) (u.2.1 28) (u.2.1 29) (u.2.1 30) (u.2.1 31)) p n (rfl) (rfl) (hn2) (by omega)) hP (hP.recv hK) q1438 q1440 qs52 q116 q1441 mdX6_here (room_ok hRm rfl) rfl rfl dX6_readsCondition_60 ?_
              refine W_top (y := (hereI (u.2.1 10) n p)) (by simp only [lE_g10]) ?_
              refine lv_bipush (v := 33) hx hb dX6_readsCondition_63 (by decide) ?_
              refine lv_icmp_ne (tgt := 73) hx hb dX6_readsCondition_65 (by decide) (fun c65 => ?_) (fun c65 => ?_)
              · have k40 : ckN (u.2.1 10) n p = 40 := (hereI_eq (c := 40) (by decide)).mp (by first | exact c55 | exact Classical.not_not.mp c55)
                have hpn1 := ckN_in (by decide) k40
                refine lv_bipush (v := 13) hx hb dX6_readsCondition_73 (by decide) ?_
                refine CMi.call hC hK hS (fun q h => h) hl (c_X6_opens G l o R (lE u (nI p) fa nu (nI o1) (nI cs.length) (nI ws.length) (u.1 19) (u.1 11) (nI n) (u.1 20) x y (u.2.1 23) (u.2.1 24) (u.2.1 25) (u.2.1 26) (u.2.1 27) (u.2.1 28) (u.2.1 29) (u.2.1 30) (u.2.1 31)) 13 o1 ws.length p (rfl) (ho6) (rfl) (by omega) (rfl) (by omega) (by decide) hD) hP rfl q1454 q1456 qs56 q116 q1457 mdX6_opens (room_ok hRm rfl) rfl rfl dX6_readsCondition_75 (fun r75 w75 H locs hpo hP _ _ hS => ?_)
                obtain ⟨ok_26, fa_27, op_28, wa_29, pl_30, x_31, f75_0, er75, ew75⟩ := hpo
                rw [ew75] at hP
                refine W_top (y := (bI ok_26)) er75 ?_
                rw [lE_again] at hP
                simp only [lE_f11, lE_f13, lE_f15, lE_f17, lE_f19, lE_f20, lE_g21, lE_g23, lE_g24, lE_g25, lE_g26, lE_g27, lE_g28, lE_g29, lE_g30, lE_g31] at hP
                refine lv_if_ne (tgt := 40) hx hb dX6_readsCondition_78 (by decide) (fun c78 => ?_) (fun c78 => ?_)
                · have c78 : ok_26 = true := bI_1.mp c78
                  obtain ⟨h6, rfl, rfl, rfl, rfl⟩ := opP_t f75_0 c78
                  have hI4 := lwI_opn hI3 hpn1 h6 (show 13 = 10 ∨ 13 = 13 by decide)
                  have hS4 := shW_opn hS_ (show 13 = 10 ∨ 13 = 13 by decide)
                  have hR4 := hR.trans (mK_op (by omega) (Or.inr ⟨k40, rfl⟩) h6)
                  exact ih40 (p + 1) (o1 + 1) (fu - 1) cs (UN * 13 :: ws) (nI (p + 1)) fa_27 nu (nI (o1 + 1)) (nI cs.length) (nI (ws.length + 1)) x (upd y ws.length (nI (1048576 * 13))) _ _ ls (by omega) (hI4) (hS4) (hR4) (by omega) hP hS (lv_sub hl [0] rfl)
                · have c78 : ok_26 = false := bI_0.mp c78
                  obtain ⟨h6, rfl⟩ := opP_f f75_0 c78
                  refine lv_iconst (v := 0) hx hb dX6_readsCondition_81 (by decide) ?_
                  exact hq _ _ _ _ _ _ dX6_readsCondition_82 hP hS (by first | rfl | exact bI_nar _) (by exact ⟨false, _, _, _, _, _, _, _, _, cdP_bad (fu := n + 2) h40 hn2 (by omega) hb0 (hR.trans (mK_5 (by omega) (Or.inr k40) h6)) rfl, rfl, rfl⟩)
              · exact absurd (by first | exact c65 | exact Classical.not_not.mp c65) c46
      exact LP40 _ (p0 + 1) (0 + 1) (n + 1) cs0 ([UN * 13] : List Nat) (nI (p0 + 1)) fa_2 (u.1 15) (nI (0 + 1)) (nI cs0.length) (nI (0 + 1)) (u.2.1 21) (upd (u.2.1 22) 0 (nI (1048576 * 13))) _ _ ls (Nat.lt_succ_self _) (⟨⟨rfl, rfl, rfl, rfl⟩, ⟨hcs0, stA_push (ws := []) trivial (by decide)⟩, ⟨by show cs0.length + cntS [UN * 13] ≤ p0 + 1; rw [show cntS [UN * 13] = 0 from by decide]; omega, by show 1 ≤ p0 + 1; omega, hp0, by decide, by decide⟩, stG_self _⟩) (⟨⟨Or.inr (Or.inl (by decide)), trivial⟩, (by intro z; cases z), jm_no (fun x hx => by cases hx) (by decide)⟩) (mK_op (f := (u.2.1 10)) (fu := n + 2) (what := 13) (by omega) (Or.inr ⟨h40, rfl⟩) (by decide)) (by omega) hP hS (lv_sub hl [0] rfl)
    · have c35 : ok_1 = false := bI_0.mp c35
      exact absurd (opP_f f32_0 c35).1 (by decide)
  · refine lv_aload_n hx hb dX6_readsCondition_9 rfl (lv_at hl 0 rfl) ?_
    refine lv_iconst (v := 1) hx hb dX6_readsCondition_10 (by decide) ?_
    refine lv_aload_n hx hb dX6_readsCondition_11 rfl (lv_at hl 0 rfl) ?_
    refine M_get hC hK hP 12 (by decide) (fM12 _ _) q1213 dX6_readsCondition_12 ?_
    refine W_top (y := (nI p0)) (by rw [lE_f12]) ?_
    refine CMi.call hC hK hS (fun q h => h) hl (c_X6_wrongAt G l o R (lE u (nI p0) (u.1 14) (u.1 15) (u.1 16) (nI cs0.length) (u.1 18) (u.1 19) (u.1 11) (nI n) (u.1 20) (u.2.1 21) (u.2.1 22) (u.2.1 23) (u.2.1 24) (u.2.1 25) (u.2.1 26) (u.2.1 27) (u.2.1 28) (u.2.1 29) (u.2.1 30) (u.2.1 31)) 1 p0  hD) hP rfl q1442 q1444 qs53 q116 q1445 mdX6_wrongAt (room_ok hRm rfl) rfl rfl dX6_readsCondition_15 (fun r15 w15 H locs hpo hP _ _ hS => ?_)
    obtain ⟨er15, ew15⟩ := hpo
    rw [ew15] at hP
    refine W_top (y := (bI false)) er15 ?_
    rw [lE_V14] at hP
    exact hq _ _ _ _ _ _ dX6_readsCondition_18 hP hS (by first | rfl | exact bI_nar _) (by exact ⟨false, _, _, _, _, _, _, _, _, cdP_no (mt (hereI_eq (c := 40) (by decide)).mpr c6), rfl, rfl⟩)
