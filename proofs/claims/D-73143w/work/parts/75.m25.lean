set_option maxRecDepth 100000
set_option maxHeartbeats 4000000 in
theorem c_X6_terrace (G : GG) (l : Launch) (o : Nat) (R : Nat → Nat) (u : MS) (n0 : Int32) (hD : DM o R) : CMi G l o R yX6_terrace cX6_terrace 4 .int 7 121 [.int n0] u (fun r w => ∃ pl : Int32, ∃ fa : Int32, ∃ nu : Int32, ∃ hs : Int32, ∃ th : Int32, ∃ ln : Int32, ∃ le : Int32, ∃ cm : Int32, ∃ sm : Int32, ∃ tp : Int32, ∃ ho : Int32, ∃ ti : Int32, ∃ fc : Nat → Int32, ∃ sd : Nat → Int32, ∃ fr : Nat → Int32, ∃ un : Nat → Int32, ∃ fo : Nat → Int32, ∃ so : Nat → Int32, ∃ fro : Nat → Int32, ∃ uo : Nat → Int32, ∃ nw : Nat → Int32, ∃ ro : Nat → Int32, (terOut (terR (u.2.1 10) (u.1 11) n0 (u.2.1 34) (u.2.1 35) (u.2.1 36) (u.2.1 37)) (u.1 8) (u.1 9) (u.2.1 4) (u.2.1 5) (u.2.1 6) (u.2.1 7) (u.2.1 0) (u.2.1 3) ho ti fo so fro uo nw ro) ∧ (tp = if terG (u.1 11) n0 = true then 0 else (u.1 11)) ∧ r = (terV (terR (u.2.1 10) (u.1 11) n0 (u.2.1 34) (u.2.1 35) (u.2.1 36) (u.2.1 37))) ∧ w = (tE u pl fa nu hs th ln le cm sm tp ho ti fc sd fr un fo so fro uo nw ro)) := by
  refine CMi.mk pnX6 rfl (Nat.le_of_ble_eq_true rfl) (fun pg en Rm sg mm ar bw mth cd QQ ls hC hRm hK hP hS hl hq => ?_)
  have hx := hC.1; have hb := hC.2.1; have ho := hC.2.2.2.1; have hts := hC.2.2.2.2
  have hl : lv_has ls 4 [(0, .ref o), (1, .int n0)] := hl
  have hP : PM G o R (tE u (u.1 12) (u.1 14) (u.1 15) (u.1 38) (u.1 39) (u.1 40) (u.1 13) (u.1 17) (u.1 19) (u.1 11) (u.1 8) (u.1 9) (u.2.1 34) (u.2.1 35) (u.2.1 36) (u.2.1 37) (u.2.1 4) (u.2.1 5) (u.2.1 6) (u.2.1 7) (u.2.1 0) (u.2.1 3)) sg.heap := by rw [tE_self]; exact hP
  refine lv_iload_n hx hb dX6_terrace_0 rfl (lv_at hl 1 rfl) ?_
  refine lv_iconst (v := 1) hx hb dX6_terrace_1 (by decide) ?_
  refine lv_sipush (v := 200) hx hb dX6_terrace_2 (by decide) ?_
  refine CI.callS hC hK hl (c_X6_in G l n0 1 200 ) trivial q1392 q1393 q116 q1394 mdX6_in (room_ok hRm rfl) rfl rfl dX6_terrace_5 ?_
  refine lv_if_eq (tgt := 19) hx hb dX6_terrace_8 (by decide) (fun c8 => ?_) (fun c8 => ?_)
  · have c8 : (inB n0 1 200) = false := bI_0.mp c8
    refine lv_iconst (v := (-1)) hx hb dX6_terrace_19 (by decide) ?_
    exact hq _ _ _ _ _ _ dX6_terrace_20 hP hS (rfl) (by have hg : ¬ terG (u.1 11) n0 = true := (by simp [terG, c8]); exact ⟨(u.1 12), (u.1 14), (u.1 15), (u.1 38), (u.1 39), (u.1 40), (u.1 13), (u.1 17), (u.1 19), (u.1 11), (u.1 8), (u.1 9), (u.2.1 34), (u.2.1 35), (u.2.1 36), (u.2.1 37), (u.2.1 4), (u.2.1 5), (u.2.1 6), (u.2.1 7), (u.2.1 0), (u.2.1 3), by rw [terR, if_neg hg]; exact ⟨rfl, rfl, rfl, rfl, rfl, rfl, rfl, rfl⟩, by rw [if_neg hg], by rw [terR, if_neg hg]; rfl, rfl⟩)
  · have c8 : (inB n0 1 200) = true := bI_1.mp c8
    obtain ⟨n, hn1, hn, rfl, hnx⟩ := inB_nI2 1 200 (by decide) (by decide) c8
    have hl : lv_has ls 4 [(0, .ref o), (1, .int (nI n))] := hl
    refine lv_iload_n hx hb dX6_terrace_11 rfl (lv_at hl 1 rfl) ?_
    refine lv_aload_n hx hb dX6_terrace_12 rfl (lv_at hl 0 rfl) ?_
    refine M_get hC hK hP 11 (by decide) (fM11 _ _) q1212 dX6_terrace_13 ?_
    refine W_top (y := (u.1 11)) (by rw [tE_f11]) ?_
    refine lv_icmp_le (tgt := 21) hx hb dX6_terrace_16 (by decide) (fun c16 => ?_) (fun c16 => ?_)
    · have hg : terG (u.1 11) (nI n) = true := by simp [terG, c8, c16]
      refine lv_aload_n hx hb dX6_terrace_21 rfl (lv_at hl 0 rfl) ?_
      refine lv_iload_n hx hb dX6_terrace_22 rfl (lv_at hl 1 rfl) ?_
      refine CMv.call hC hK hS (fun q h => h) hl (c_X6_beginsText G l o R (tE u (u.1 12) (u.1 14) (u.1 15) (u.1 38) (u.1 39) (u.1 40) (u.1 13) (u.1 17) (u.1 19) (u.1 11) (u.1 8) (u.1 9) (u.2.1 34) (u.2.1 35) (u.2.1 36) (u.2.1 37) (u.2.1 4) (u.2.1 5) (u.2.1 6) (u.2.1 7) (u.2.1 0) (u.2.1 3)) n  hD) hP rfl q1430 q1432 qs50 q116 q1433 mdX6_beginsText (room_ok hRm rfl) rfl rfl dX6_terrace_23 (fun w23 H locs hpo hP _ _ hS => ?_)
      have ew23 := hpo
      rw [ew23] at hP
      rw [tE_V12] at hP
      rw [tE_V13] at hP
      rw [tE_V17] at hP
      rw [tE_V19] at hP
      refine lv_aload_n hx hb dX6_terrace_26 rfl (lv_at hl 0 rfl) ?_
      refine lv_iconst (v := 0) hx hb dX6_terrace_27 (by decide) ?_
      refine M_put hC hK hD hP hS 38 (by decide) (sM38 _ _ _) q1239 rfl dX6_terrace_28 (fun H locs hP hS => ?_)
      rw [tE_V38] at hP
      refine lv_aload_n hx hb dX6_terrace_31 rfl (lv_at hl 0 rfl) ?_
      refine lv_iconst (v := 0) hx hb dX6_terrace_32 (by decide) ?_
      refine M_put hC hK hD hP hS 39 (by decide) (sM39 _ _ _) q1240 rfl dX6_terrace_33 (fun H locs hP hS => ?_)
      rw [tE_V39] at hP
      refine lv_aload_n hx hb dX6_terrace_36 rfl (lv_at hl 0 rfl) ?_
      refine lv_iconst (v := 0) hx hb dX6_terrace_37 (by decide) ?_
      refine M_put hC hK hD hP hS 40 (by decide) (sM40 _ _ _) q1241 rfl dX6_terrace_38 (fun H locs hP hS => ?_)
      rw [tE_V40] at hP
      refine lv_aload_n hx hb dX6_terrace_41 rfl (lv_at hl 0 rfl) ?_
      refine CMi.call hC hK hS (fun q h => h) hl (c_X6_readsLine G l o R (tE u 0 (u.1 14) (u.1 15) 0 0 0 (nI n) 0 0 (u.1 11) (u.1 8) (u.1 9) (u.2.1 34) (u.2.1 35) (u.2.1 36) (u.2.1 37) (u.2.1 4) (u.2.1 5) (u.2.1 6) (u.2.1 7) (u.2.1 0) (u.2.1 3)) 0 n 0 (rfl) (rfl) (by omega) (by decide) (by omega) (rfl) (by decide) hD) hP rfl q1517 q1519 qs69 q116 q1520 mdX6_readsLine (room_ok hRm rfl) rfl rfl dX6_terrace_42 (fun r42 w42 H locs hpo hP _ _ hS => ?_)
      obtain ⟨ok_1, pl_2, fa_3, nu_4, hs_5, th_6, ln_7, fc_8, sd_9, fr_10, un_11, f42_0, er42, ew42⟩ := hpo
      rw [ew42] at hP
      refine W_top (y := (bI ok_1)) er42 ?_
      rw [tE_again] at hP
      simp only [tE_f11, tE_f13, tE_f17, tE_f19, tE_f8, tE_f9, tE_g0, tE_g3, tE_g4, tE_g5, tE_g6, tE_g7] at hP
      have hI0 : trPost (lineW (u.2.1 10) n 0 0 (u.2.1 34) (u.2.1 35) (u.2.1 36) (u.2.1 37) 0 0) ok_1 pl_2 fa_3 hs_5 th_6 ln_7 fc_8 sd_9 fr_10 un_11 := f42_0
      refine lv_istore_n (lv' := [(2, .int (bI ok_1)), (0, .ref o), (1, .int (nI n))]) hx hb dX6_terrace_45 rfl hl (by decide) rfl (fun ls hl => ?_)
      have LP46 : ∀ (fu46 : Nat) (m : Nat) (ok : Bool) (pl : Int32) (fa : Int32) (nu : Int32) (hs : Int32) (th : Int32) (ln : Int32) (fc : Nat → Int32) (sd : Nat → Int32) (fr : Nat → Int32) (un : Nat → Int32) (H : Heap) (locs : List Loc) (ls : Array Slot), m < fu46 → terInv (terrW (u.2.1 10) n (u.2.1 34) (u.2.1 35) (u.2.1 36) (u.2.1 37)) (u.2.1 10) n m ok pl fa hs th ln fc sd fr un → m ≤ n → PM G o R (tE u pl fa nu hs th ln (nI n) 0 0 (u.1 11) (u.1 8) (u.1 9) fc sd fr un (u.2.1 4) (u.2.1 5) (u.2.1 6) (u.2.1 7) (u.2.1 0) (u.2.1 3)) H → va_S (AM o R) sg.heap H locs → lv_has ls 4 [(0, .ref o), (1, .int (nI n)), (2, .int (bI ok))] → W pg l en Rm sg mm ar bw mth cd H locs 0 0 QQ (F0 mm 46 ls []) := by
        intro fu46
        induction fu46 with
        | zero => intro m ok pl fa nu hs th ln fc sd fr un H locs ls hm46 hI hm9 hP hS hl; exact absurd hm46 (Nat.not_lt_zero _)
        | succ fu46 ih46 =>
          intro m ok pl fa nu hs th ln fc sd fr un H locs ls hm46 hI hm9 hP hS hl
          refine lv_iload_n hx hb dX6_terrace_46 rfl (lv_at hl 2 rfl) ?_
          refine lv_if_eq (tgt := 86) hx hb dX6_terrace_47 (by decide) (fun c47 => ?_) (fun c47 => ?_)
          · have c47 : ok = false := bI_0.mp c47
            obtain ⟨e0, hR, rfl⟩ := terI_f hI c47
            refine lv_aload_n hx hb dX6_terrace_86 rfl (lv_at hl 0 rfl) ?_
            refine lv_iconst (v := 0) hx hb dX6_terrace_87 (by decide) ?_
            refine M_put hC hK hD hP hS 11 (by decide) (sM11 _ _ _) q1212 rfl dX6_terrace_88 (fun H locs hP hS => ?_)
            rw [tE_V11] at hP
            refine lv_iload_n hx hb dX6_terrace_91 rfl (lv_at hl 2 rfl) ?_
            refine lv_if_ne (tgt := 100) hx hb dX6_terrace_92 (by decide) (fun c92 => ?_) (fun c92 => ?_)
            · have c92 : ok = true := bI_1.mp c92
              rw [c47] at c92; exact Bool.noConfusion c92
            · have c92 : ok = false := bI_0.mp c92
              refine lv_aload_n hx hb dX6_terrace_95 rfl (lv_at hl 0 rfl) ?_
              refine M_get hC hK hP 14 (by decide) (fM14 _ _) q1215 dX6_terrace_96 ?_
              refine W_top (y := (wrI e0.1 e0.2)) (by rw [tE_f14]) ?_
              exact hq _ _ _ _ _ _ dX6_terrace_99 hP hS (rfl) (by exact ⟨pl, (wrI e0.1 e0.2), nu, hs, th, ln, (nI n), 0, 0, 0, (u.1 8), (u.1 9), fc, sd, fr, un, (u.2.1 4), (u.2.1 5), (u.2.1 6), (u.2.1 7), (u.2.1 0), (u.2.1 3), by rw [terR, if_pos hg, hnx, hR]; exact ⟨rfl, rfl, rfl, rfl, rfl, rfl, rfl, rfl⟩, by rw [if_pos hg], by rw [terR, if_pos hg, hnx, hR]; rfl, rfl⟩)
          · have c47 : ok = true := bI_1.mp c47
            obtain ⟨p, ln0, hR, rfl, rfl, hm0, hpn, hl2⟩ := terI_t hI c47
            refine lv_aload_n hx hb dX6_terrace_50 rfl (lv_at hl 0 rfl) ?_
            refine M_get hC hK hP 12 (by decide) (fM12 _ _) q1213 dX6_terrace_51 ?_
            refine W_top (y := (nI p)) (by rw [tE_f12]) ?_
            refine lv_aload_n hx hb dX6_terrace_54 rfl (lv_at hl 0 rfl) ?_
            refine M_get hC hK hP 13 (by decide) (fM13 _ _) q1214 dX6_terrace_55 ?_
            refine W_top (y := (nI n)) (by rw [tE_f13]) ?_
            refine lv_icmp_ge (tgt := 86) hx hb dX6_terrace_58 (by decide) (fun c58 => ?_) (fun c58 => ?_)
            · have c58 : n ≤ p := (nI_leI (a := n) (b := p) (by first | omega | exact ocN_b _ _ | exact hbN_b _ _ _) (by first | omega | exact ocN_b _ _ | exact hbN_b _ _ _)).mp c58
              refine lv_aload_n hx hb dX6_terrace_86 rfl (lv_at hl 0 rfl) ?_
              refine lv_iconst (v := 0) hx hb dX6_terrace_87 (by decide) ?_
              refine M_put hC hK hD hP hS 11 (by decide) (sM11 _ _ _) q1212 rfl dX6_terrace_88 (fun H locs hP hS => ?_)
              rw [tE_V11] at hP
              refine lv_iload_n hx hb dX6_terrace_91 rfl (lv_at hl 2 rfl) ?_
              refine lv_if_ne (tgt := 100) hx hb dX6_terrace_92 (by decide) (fun c92 => ?_) (fun c92 => ?_)
              · have c92 : ok = true := bI_1.mp c92
                have hR2 : (terrW (u.2.1 10) n (u.2.1 34) (u.2.1 35) (u.2.1 36) (u.2.1 37)) = .inr ((hs, th), (fc, sd, fr, un), ln0, p) := by rw [hR]; exact linesW_e (show ¬ p < n by omega)
                refine lv_aload_n hx hb dX6_terrace_100 rfl (lv_at hl 0 rfl) ?_
                refine lv_aload_n hx hb dX6_terrace_101 rfl (lv_at hl 0 rfl) ?_
                refine M_get hC hK hP 38 (by decide) (fM38 _ _) q1239 dX6_terrace_102 ?_
                refine W_top (y := hs) (by rw [tE_f38]) ?_
                refine M_put hC hK hD hP hS 8 (by decide) (sM8 _ _ _) q1209 rfl dX6_terrace_105 (fun H locs hP hS => ?_)
                rw [tE_V8] at hP
                refine lv_aload_n hx hb dX6_terrace_108 rfl (lv_at hl 0 rfl) ?_
                refine lv_aload_n hx hb dX6_terrace_109 rfl (lv_at hl 0 rfl) ?_
                refine M_get hC hK hP 39 (by decide) (fM39 _ _) q1240 dX6_terrace_110 ?_
                refine W_top (y := th) (by rw [tE_f39]) ?_
                refine M_put hC hK hD hP hS 9 (by decide) (sM9 _ _ _) q1210 rfl dX6_terrace_113 (fun H locs hP hS => ?_)
                rw [tE_V9] at hP
                refine lv_iconst (v := 0) hx hb dX6_terrace_116 (by decide) ?_
                refine lv_istore_n (lv' := [(3, .int 0), (0, .ref o), (1, .int (nI n)), (2, .int (bI ok))]) hx hb dX6_terrace_117 rfl hl (by decide) rfl (fun ls hl => ?_)
                have LP118 : ∀ (fu118 : Nat) (k : Nat) (fo : Nat → Int32) (so : Nat → Int32) (fro : Nat → Int32) (uo : Nat → Int32) (nw : Nat → Int32) (H : Heap) (locs : List Loc) (ls : Array Slot), 16 - k < fu118 → k ≤ 16 → cpI fc sd fr un (u.2.1 0) k fo so fro uo nw → PM G o R (tE u (nI p) fa nu hs th (nI ln0) (nI n) 0 0 0 hs th fc sd fr un fo so fro uo nw (u.2.1 3)) H → va_S (AM o R) sg.heap H locs → lv_has ls 4 [(0, .ref o), (1, .int (nI n)), (2, .int (bI ok)), (3, .int (nI k))] → W pg l en Rm sg mm ar bw mth cd H locs 0 0 QQ (F0 mm 118 ls []) := by
                  intro fu118
                  induction fu118 with
                  | zero => intro k fo so fro uo nw H locs ls hm118 hk hcp hP hS hl; exact absurd hm118 (Nat.not_lt_zero _)
                  | succ fu118 ih118 =>
                    intro k fo so fro uo nw H locs ls hm118 hk hcp hP hS hl
                    refine lv_iload_n hx hb dX6_terrace_118 rfl (lv_at hl 3 rfl) ?_
                    refine lv_bipush (v := 16) hx hb dX6_terrace_119 (by decide) ?_
                    refine lv_icmp_ge (tgt := 187) hx hb dX6_terrace_121 (by decide) (fun c121 => ?_) (fun c121 => ?_)
                    · have c121 : 16 ≤ k := (nI_leI (a := 16) (b := k) (by first | omega | exact ocN_b _ _ | exact hbN_b _ _ _) (by first | omega | exact ocN_b _ _ | exact hbN_b _ _ _)).mp c121
                      have e16 : k = 16 := by omega
                      subst e16
                      refine lv_aload_n hx hb dX6_terrace_187 rfl (lv_at hl 0 rfl) ?_
                      refine M_get hC hK hP 0 (by decide) (fM0 _ _) q1201 dX6_terrace_188 ?_
                      refine lv_bipush (v := 16) hx hb dX6_terrace_191 (by decide) ?_
                      refine lv_iconst (v := (-1)) hx hb dX6_terrace_193 (by decide) ?_
                      refine M_ast hC hK hD hP hS 0 1 21 16 (aM0 _ _ _ _) (bM0 _ _ _ _ _ _) (by decide) (by decide) (by omega) dX6_terrace_194 (fun H locs hP hS => ?_)
                      rw [tE_A0] at hP
                      refine lv_aload_n hx hb dX6_terrace_195 rfl (lv_at hl 0 rfl) ?_
                      refine M_get hC hK hP 0 (by decide) (fM0 _ _) q1201 dX6_terrace_196 ?_
                      refine lv_bipush (v := 17) hx hb dX6_terrace_199 (by decide) ?_
                      refine lv_iconst (v := 0) hx hb dX6_terrace_201 (by decide) ?_
                      refine M_ast hC hK hD hP hS 0 1 21 17 (aM0 _ _ _ _) (bM0 _ _ _ _ _ _) (by decide) (by decide) (by omega) dX6_terrace_202 (fun H locs hP hS => ?_)
                      rw [tE_A0] at hP
                      refine lv_aload_n hx hb dX6_terrace_203 rfl (lv_at hl 0 rfl) ?_
                      refine M_get hC hK hP 0 (by decide) (fM0 _ _) q1201 dX6_terrace_204 ?_
                      refine lv_bipush (v := 18) hx hb dX6_terrace_207 (by decide) ?_
                      refine lv_iconst (v := 0) hx hb dX6_terrace_209 (by decide) ?_
                      refine M_ast hC hK hD hP hS 0 1 21 18 (aM0 _ _ _ _) (bM0 _ _ _ _ _ _) (by decide) (by decide) (by omega) dX6_terrace_210 (fun H locs hP hS => ?_)
                      rw [tE_A0] at hP
                      refine lv_iconst (v := 0) hx hb dX6_terrace_211 (by decide) ?_
                      refine lv_istore_n (lv' := [(3, .int 0), (0, .ref o), (1, .int (nI n)), (2, .int (bI ok))]) hx hb dX6_terrace_212 rfl hl (by decide) rfl (fun ls hl => ?_)
                      have LP213 : ∀ (fu213 : Nat) (t : Nat) (ro : Nat → Int32) (H : Heap) (locs : List Loc) (ls : Array Slot), 12 - t < fu213 → t ≤ 12 → roI hs (u.2.1 3) t ro → PM G o R (tE u (nI p) fa nu hs th (nI ln0) (nI n) 0 0 0 hs th fc sd fr un fo so fro uo (upd (upd (upd nw 16 (-1)) 17 0) 18 0) ro) H → va_S (AM o R) sg.heap H locs → lv_has ls 4 [(0, .ref o), (1, .int (nI n)), (2, .int (bI ok)), (3, .int (nI t))] → W pg l en Rm sg mm ar bw mth cd H locs 0 0 QQ (F0 mm 213 ls []) := by
                        intro fu213
                        induction fu213 with
                        | zero => intro t ro H locs ls hm213 ht hro hP hS hl; exact absurd hm213 (Nat.not_lt_zero _)
                        | succ fu213 ih213 =>
                          intro t ro H locs ls hm213 ht hro hP hS hl
                          refine lv_iload_n hx hb dX6_terrace_213 rfl (lv_at hl 3 rfl) ?_
                          refine lv_bipush (v := 12) hx hb dX6_terrace_214 (by decide) ?_
                          refine lv_icmp_ge (tgt := 245) hx hb dX6_terrace_216 (by decide) (fun c216 => ?_) (fun c216 => ?_)
                          · have c216 : 12 ≤ t := (nI_leI (a := 12) (b := t) (by first | omega | exact ocN_b _ _ | exact hbN_b _ _ _) (by first | omega | exact ocN_b _ _ | exact hbN_b _ _ _)).mp c216
                            refine lv_aload_n hx hb dX6_terrace_245 rfl (lv_at hl 0 rfl) ?_
                            refine M_get hC hK hP 40 (by decide) (fM40 _ _) q1241 dX6_terrace_246 ?_
                            refine W_top (y := (nI ln0)) (by rw [tE_f40]) ?_
                            exact hq _ _ _ _ _ _ dX6_terrace_249 hP hS (rfl) (by have e12 : t = 12 := Nat.le_antisymm ht c216; subst e12; refine ⟨(nI p), fa, nu, hs, th, (nI ln0), (nI n), 0, 0, 0, hs, th, fc, sd, fr, un, fo, so, fro, uo, (upd (upd (upd nw 16 (-1)) 17 0) 18 0), ro, ?_, ?_, ?_, ?_⟩; (rw [terR, if_pos hg, hnx]; exact terOut_s hR2 hcp hro); (rw [if_pos hg]); (rw [terR, if_pos hg, hnx, hR2]; rfl); (exact rfl))
                          · have c216 : ¬ (12 ≤ t) := mt (nI_leI (a := 12) (b := t) (by first | omega | exact ocN_b _ _ | exact hbN_b _ _ _) (by first | omega | exact ocN_b _ _ | exact hbN_b _ _ _)).mpr c216
                            refine lv_aload_n hx hb dX6_terrace_219 rfl (lv_at hl 0 rfl) ?_
                            refine lv_aload_n hx hb dX6_terrace_220 rfl (lv_at hl 0 rfl) ?_
                            refine M_get hC hK hP 3 (by decide) (fM3 _ _) q1204 dX6_terrace_221 ?_
                            refine lv_iload_n hx hb dX6_terrace_224 rfl (lv_at hl 3 rfl) ?_
                            refine M_ald hC hK hP 3 4 12 t (aM3 _ _ _ _) (by decide) (rfl) (by omega) dX6_terrace_225 ?_
                            refine W_top (y := (ro t)) (by rw [tE_g3]) ?_
                            refine CI.callV hC hK hl (c_X6_isHouse G l o R (tE u (nI p) fa nu hs th (nI ln0) (nI n) 0 0 0 hs th fc sd fr un fo so fro uo (upd (upd (upd nw 16 (-1)) 17 0) 18 0) ro) (ro t) ) hP (hP.recv hK) q1395 q1397 qs45 q116 q1398 mdX6_isHouse (room_ok hRm rfl) rfl rfl dX6_terrace_226 ?_
                            refine W_top (y := (bI (isHouseB hs (ro t)))) (by simp only [tE_f8]) ?_
                            refine lv_if_ne (tgt := 239) hx hb dX6_terrace_229 (by decide) (fun c229 => ?_) (fun c229 => ?_)
                            · have c229 : (isHouseB hs (ro t)) = true := bI_1.mp c229
                              refine lv_iinc (v := (nI (t + 1))) (lv' := [(3, .int (nI (t + 1))), (0, .ref o), (1, .int (nI n)), (2, .int (bI ok))]) hx hb dX6_terrace_239 hl (k := 3) rfl (nI_inc t) (by decide) rfl (fun ls hl => ?_)
                              refine lv_goto (tgt := 213) hx hb dX6_terrace_242 (by decide) ?_
                              exact ih213 (t + 1) ro _ _ ls (by omega) (by first | omega | assumption | rfl | (simp_all; done) | grind) (by first | exact roI_t hro c229 | exact roI_f hro c229) hP hS (lv_sub hl [1, 2, 3, 0] rfl)
                            · have c229 : (isHouseB hs (ro t)) = false := bI_0.mp c229
                              refine lv_aload_n hx hb dX6_terrace_232 rfl (lv_at hl 0 rfl) ?_
                              refine M_get hC hK hP 3 (by decide) (fM3 _ _) q1204 dX6_terrace_233 ?_
                              refine lv_iload_n hx hb dX6_terrace_236 rfl (lv_at hl 3 rfl) ?_
                              refine lv_iconst (v := (-1)) hx hb dX6_terrace_237 (by decide) ?_
                              refine M_ast hC hK hD hP hS 3 4 12 t (aM3 _ _ _ _) (bM3 _ _ _ _ _ _) (by decide) (rfl) (by omega) dX6_terrace_238 (fun H locs hP hS => ?_)
                              rw [tE_A3] at hP
                              refine lv_iinc (v := (nI (t + 1))) (lv' := [(3, .int (nI (t + 1))), (0, .ref o), (1, .int (nI n)), (2, .int (bI ok))]) hx hb dX6_terrace_239 hl (k := 3) rfl (nI_inc t) (by decide) rfl (fun ls hl => ?_)
                              refine lv_goto (tgt := 213) hx hb dX6_terrace_242 (by decide) ?_
                              exact ih213 (t + 1) (upd ro t (-1)) _ _ ls (by omega) (by first | omega | assumption | rfl | (simp_all; done) | grind) (by first | exact roI_t hro c229 | exact roI_f hro c229) hP hS (lv_sub hl [1, 2, 3, 0] rfl)
                      exact LP213 _ 0 (u.2.1 3) _ _ ls (Nat.lt_succ_self _) (by first | omega | assumption | rfl | (simp_all; done) | grind) (roI_0 _ _) hP hS (lv_sub hl [1, 2, 3, 0] rfl)
                    · have c121 : ¬ (16 ≤ k) := mt (nI_leI (a := 16) (b := k) (by first | omega | exact ocN_b _ _ | exact hbN_b _ _ _) (by first | omega | exact ocN_b _ _ | exact hbN_b _ _ _)).mpr c121
                      refine lv_aload_n hx hb dX6_terrace_124 rfl (lv_at hl 0 rfl) ?_
                      refine M_get hC hK hP 4 (by decide) (fM4 _ _) q1205 dX6_terrace_125 ?_
                      refine lv_iload_n hx hb dX6_terrace_128 rfl (lv_at hl 3 rfl) ?_
                      refine lv_aload_n hx hb dX6_terrace_129 rfl (lv_at hl 0 rfl) ?_
                      refine M_get hC hK hP 34 (by decide) (fM34 _ _) q1235 dX6_terrace_130 ?_
                      refine lv_iload_n hx hb dX6_terrace_133 rfl (lv_at hl 3 rfl) ?_
                      refine M_ald hC hK hP 34 23 16 k (aM34 _ _ _ _) (by decide) (rfl) (by omega) dX6_terrace_134 ?_
                      refine W_top (y := (fc k)) (by rw [tE_g34]) ?_
                      refine M_ast hC hK hD hP hS 4 5 16 k (aM4 _ _ _ _) (bM4 _ _ _ _ _ _) (by decide) (rfl) (by omega) dX6_terrace_135 (fun H locs hP hS => ?_)
                      rw [tE_A4] at hP
                      refine lv_aload_n hx hb dX6_terrace_136 rfl (lv_at hl 0 rfl) ?_
                      refine M_get hC hK hP 5 (by decide) (fM5 _ _) q1206 dX6_terrace_137 ?_
                      refine lv_iload_n hx hb dX6_terrace_140 rfl (lv_at hl 3 rfl) ?_
                      refine lv_aload_n hx hb dX6_terrace_141 rfl (lv_at hl 0 rfl) ?_
                      refine M_get hC hK hP 35 (by decide) (fM35 _ _) q1236 dX6_terrace_142 ?_
                      refine lv_iload_n hx hb dX6_terrace_145 rfl (lv_at hl 3 rfl) ?_
                      refine M_ald hC hK hP 35 24 16 k (aM35 _ _ _ _) (by decide) (rfl) (by omega) dX6_terrace_146 ?_
                      refine W_top (y := (sd k)) (by rw [tE_g35]) ?_
                      refine M_ast hC hK hD hP hS 5 6 16 k (aM5 _ _ _ _) (bM5 _ _ _ _ _ _) (by decide) (rfl) (by omega) dX6_terrace_147 (fun H locs hP hS => ?_)
                      rw [tE_A5] at hP
                      refine lv_aload_n hx hb dX6_terrace_148 rfl (lv_at hl 0 rfl) ?_
                      refine M_get hC hK hP 6 (by decide) (fM6 _ _) q1207 dX6_terrace_149 ?_
                      refine lv_iload_n hx hb dX6_terrace_152 rfl (lv_at hl 3 rfl) ?_
                      refine lv_aload_n hx hb dX6_terrace_153 rfl (lv_at hl 0 rfl) ?_
                      refine M_get hC hK hP 36 (by decide) (fM36 _ _) q1237 dX6_terrace_154 ?_
                      refine lv_iload_n hx hb dX6_terrace_157 rfl (lv_at hl 3 rfl) ?_
                      refine M_ald hC hK hP 36 25 16 k (aM36 _ _ _ _) (by decide) (rfl) (by omega) dX6_terrace_158 ?_
                      refine W_top (y := (fr k)) (by rw [tE_g36]) ?_
                      refine M_ast hC hK hD hP hS 6 7 16 k (aM6 _ _ _ _) (bM6 _ _ _ _ _ _) (by decide) (rfl) (by omega) dX6_terrace_159 (fun H locs hP hS => ?_)
                      rw [tE_A6] at hP
                      refine lv_aload_n hx hb dX6_terrace_160 rfl (lv_at hl 0 rfl) ?_
                      refine M_get hC hK hP 7 (by decide) (fM7 _ _) q1208 dX6_terrace_161 ?_
                      refine lv_iload_n hx hb dX6_terrace_164 rfl (lv_at hl 3 rfl) ?_
                      refine lv_aload_n hx hb dX6_terrace_165 rfl (lv_at hl 0 rfl) ?_
                      refine M_get hC hK hP 37 (by decide) (fM37 _ _) q1238 dX6_terrace_166 ?_
                      refine lv_iload_n hx hb dX6_terrace_169 rfl (lv_at hl 3 rfl) ?_
                      refine M_ald hC hK hP 37 26 16 k (aM37 _ _ _ _) (by decide) (rfl) (by omega) dX6_terrace_170 ?_
                      refine W_top (y := (un k)) (by rw [tE_g37]) ?_
                      refine M_ast hC hK hD hP hS 7 8 16 k (aM7 _ _ _ _) (bM7 _ _ _ _ _ _) (by decide) (rfl) (by omega) dX6_terrace_171 (fun H locs hP hS => ?_)
                      rw [tE_A7] at hP
                      refine lv_aload_n hx hb dX6_terrace_172 rfl (lv_at hl 0 rfl) ?_
                      refine M_get hC hK hP 0 (by decide) (fM0 _ _) q1201 dX6_terrace_173 ?_
                      refine lv_iconst (v := 0) hx hb dX6_terrace_176 (by decide) ?_
                      refine lv_iload_n hx hb dX6_terrace_177 rfl (lv_at hl 3 rfl) ?_
                      refine lv_iadd hx hb dX6_terrace_178 ?_
                      refine W_top (y := (nI k)) (Int32.zero_add _) ?_
                      refine lv_iconst (v := 0) hx hb dX6_terrace_179 (by decide) ?_
                      refine M_ast hC hK hD hP hS 0 1 21 k (aM0 _ _ _ _) (bM0 _ _ _ _ _ _) (by decide) (rfl) (by omega) dX6_terrace_180 (fun H locs hP hS => ?_)
                      rw [tE_A0] at hP
                      refine lv_iinc (v := (nI (k + 1))) (lv' := [(3, .int (nI (k + 1))), (0, .ref o), (1, .int (nI n)), (2, .int (bI ok))]) hx hb dX6_terrace_181 hl (k := 3) rfl (nI_inc k) (by decide) rfl (fun ls hl => ?_)
                      refine lv_goto (tgt := 118) hx hb dX6_terrace_184 (by decide) ?_
                      exact ih118 (k + 1) (upd fo k (fc k)) (upd so k (sd k)) (upd fro k (fr k)) (upd uo k (un k)) (upd nw k 0) _ _ ls (by omega) (by first | omega | assumption | rfl | (simp_all; done) | grind) (cpI_s (by omega) hcp) hP hS (lv_sub hl [1, 2, 3, 0] rfl)
                exact LP118 _ 0 (u.2.1 4) (u.2.1 5) (u.2.1 6) (u.2.1 7) (u.2.1 0) _ _ ls (Nat.lt_succ_self _) (by first | omega | assumption | rfl | (simp_all; done) | grind) (cpI_0 _ _ _ _ _ _ _ _ _) hP hS (lv_sub hl [1, 2, 3, 0] rfl)
              · have c92 : ok = false := bI_0.mp c92
                rw [c47] at c92; exact Bool.noConfusion c92
            · have c58 : ¬ (n ≤ p) := mt (nI_leI (a := n) (b := p) (by first | omega | exact ocN_b _ _ | exact hbN_b _ _ _) (by first | omega | exact ocN_b _ _ | exact hbN_b _ _ _)).mpr c58
              refine lv_aload_n hx hb dX6_terrace_61 rfl (lv_at hl 0 rfl) ?_
              refine lv_bipush (v := 59) hx hb dX6_terrace_62 (by decide) ?_
              refine CMi.call hC hK hS (fun q h => h) hl (c_X6_takes G l o R (tE u (nI p) fa nu hs th (nI ln0) (nI n) 0 0 (u.1 11) (u.1 8) (u.1 9) fc sd fr un (u.2.1 4) (u.2.1 5) (u.2.1 6) (u.2.1 7) (u.2.1 0) (u.2.1 3)) 59 p n (rfl) (rfl) (by omega) (by omega) (by decide) hD) hP rfl q1509 q1511 qs68 q116 q1512 mdX6_takes (room_ok hRm rfl) rfl rfl dX6_terrace_64 (fun r64 w64 H locs hpo hP _ _ hS => ?_)
              obtain ⟨ok_12, pl_13, fa_14, f64_0, er64, ew64⟩ := hpo
              rw [ew64] at hP
              refine W_top (y := (bI ok_12)) er64 ?_
              rw [tE_pM] at hP
              simp only [tE_f15] at hP
              refine lv_if_eq (tgt := 81) hx hb dX6_terrace_67 (by decide) (fun c67 => ?_) (fun c67 => ?_)
              · have c67 : ok_12 = false := bI_0.mp c67
                obtain ⟨hf0, rfl⟩ := tkP_f f64_0 c67; change takesW (u.2.1 10) _ _ _ = _ at hf0
                refine lv_iconst (v := 0) hx hb dX6_terrace_81 (by decide) ?_
                refine lv_istore_n (lv' := [(2, .int 0), (0, .ref o), (1, .int (nI n))]) hx hb dX6_terrace_82 rfl hl (by decide) rfl (fun ls hl => ?_)
                refine lv_goto (tgt := 46) hx hb dX6_terrace_83 (by decide) ?_
                exact ih46 (m - 1) false pl_13 (wrI 1 p) nu hs th (nI ln0) fc sd fr un _ _ ls (by omega) (terI_w hR hm0 (by omega) hf0) (by first | omega | assumption | rfl | (simp_all; done) | grind) hP hS (lv_sub hl [1, 2, 0] rfl)
              · have c67 : ok_12 = true := bI_1.mp c67
                obtain ⟨htp, rfl, hltp⟩ := tkP_t (by decide) f64_0 c67
                change takesW (u.2.1 10) _ _ _ = _ at htp
                refine lv_aload_n hx hb dX6_terrace_70 rfl (lv_at hl 0 rfl) ?_
                refine CMi.call hC hK hS (fun q h => h) hl (c_X6_readsLine G l o R (tE u (nI (p + 1)) fa_14 nu hs th (nI ln0) (nI n) 0 0 (u.1 11) (u.1 8) (u.1 9) fc sd fr un (u.2.1 4) (u.2.1 5) (u.2.1 6) (u.2.1 7) (u.2.1 0) (u.2.1 3)) (p + 1) n ln0 (rfl) (rfl) (by omega) (by omega) (by omega) (rfl) (hl2) hD) hP rfl q1517 q1519 qs69 q116 q1520 mdX6_readsLine (room_ok hRm rfl) rfl rfl dX6_terrace_71 (fun r71 w71 H locs hpo hP _ _ hS => ?_)
                obtain ⟨ok_15, pl_16, fa_17, nu_18, hs_19, th_20, ln_21, fc_22, sd_23, fr_24, un_25, f71_0, er71, ew71⟩ := hpo
                rw [ew71] at hP
                refine W_top (y := (bI ok_15)) er71 ?_
                rw [tE_again] at hP
                simp only [tE_f11, tE_f13, tE_f17, tE_f19, tE_f8, tE_f9, tE_g0, tE_g3, tE_g4, tE_g5, tE_g6, tE_g7] at hP
                have hI2 : trPost (lineW (u.2.1 10) n hs th fc sd fr un ln0 (p + 1)) ok_15 pl_16 fa_17 hs_19 th_20 ln_21 fc_22 sd_23 fr_24 un_25 := f71_0
                refine lv_if_eq (tgt := 81) hx hb dX6_terrace_74 (by decide) (fun c74 => ?_) (fun c74 => ?_)
                · have c74 : ok_15 = false := bI_0.mp c74
                  refine lv_iconst (v := 0) hx hb dX6_terrace_81 (by decide) ?_
                  refine lv_istore_n (lv' := [(2, .int 0), (0, .ref o), (1, .int (nI n))]) hx hb dX6_terrace_82 rfl hl (by decide) rfl (fun ls hl => ?_)
                  refine lv_goto (tgt := 46) hx hb dX6_terrace_83 (by decide) ?_
                  exact ih46 (m - 1) false pl_16 fa_17 nu_18 hs_19 th_20 ln_21 fc_22 sd_23 fr_24 un_25 _ _ ls (by omega) (by rw [c74] at hI2; exact terI_s hR hm0 (by omega) htp hl2 hI2) (by first | omega | assumption | rfl | (simp_all; done) | grind) hP hS (lv_sub hl [1, 2, 0] rfl)
                · have c74 : ok_15 = true := bI_1.mp c74
                  refine lv_iconst (v := 1) hx hb dX6_terrace_77 (by decide) ?_
                  refine lv_goto (tgt := 82) hx hb dX6_terrace_78 (by decide) ?_
                  refine lv_istore_n (lv' := [(2, .int 1), (0, .ref o), (1, .int (nI n))]) hx hb dX6_terrace_82 rfl hl (by decide) rfl (fun ls hl => ?_)
                  refine lv_goto (tgt := 46) hx hb dX6_terrace_83 (by decide) ?_
                  exact ih46 (m - 1) true pl_16 fa_17 nu_18 hs_19 th_20 ln_21 fc_22 sd_23 fr_24 un_25 _ _ ls (by omega) (by rw [c74] at hI2; exact terI_s hR hm0 (by omega) htp hl2 hI2) (by first | omega | assumption | rfl | (simp_all; done) | grind) hP hS (lv_sub hl [1, 2, 0] rfl)
      exact LP46 _ n ok_1 pl_2 fa_3 nu_4 hs_5 th_6 ln_7 fc_8 sd_9 fr_10 un_11 _ _ ls (Nat.lt_succ_self _) (terI_0 hI0) (by first | omega | assumption | rfl | (simp_all; done) | grind) hP hS (lv_sub hl [1, 2, 0] rfl)
    · refine lv_iconst (v := (-1)) hx hb dX6_terrace_19 (by decide) ?_
      exact hq _ _ _ _ _ _ dX6_terrace_20 hP hS (rfl) (by have hg : ¬ terG (u.1 11) (nI n) = true := (by simp [terG, c8, c16]); exact ⟨(u.1 12), (u.1 14), (u.1 15), (u.1 38), (u.1 39), (u.1 40), (u.1 13), (u.1 17), (u.1 19), (u.1 11), (u.1 8), (u.1 9), (u.2.1 34), (u.2.1 35), (u.2.1 36), (u.2.1 37), (u.2.1 4), (u.2.1 5), (u.2.1 6), (u.2.1 7), (u.2.1 0), (u.2.1 3), by rw [terR, if_neg hg]; exact ⟨rfl, rfl, rfl, rfl, rfl, rfl, rfl, rfl⟩, by rw [if_neg hg], by rw [terR, if_neg hg]; rfl, rfl⟩)
