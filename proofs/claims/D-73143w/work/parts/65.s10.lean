set_option maxRecDepth 100000
set_option maxHeartbeats 4000000 in
theorem c_X0_crack (G : GG) (l : Launch) (o : Nat) (R : Nat → Nat) (tx : Nat) (u : MS) (n0 : Int32) (k0 : Int32) (hw : WOK (u.2.1 1)) (hD : DwS o R) : CXi G l (PwS G o R tx) (AwS o R) yX0_crack cX0_crack 8 .int 4 65 0 0 [.ref o, .int n0, .int k0] (PwS G o R tx u) (fun r w => r = (crackI (u.2.1 1) (u.2.1 6) (u.1 8) n0 k0) ∧ w = (if crackG (u.1 8) n0 k0 = true then mV u 8 0 else u)) := by
  refine CXi.mk RX0 pnX0 rfl (Nat.le_of_ble_eq_true rfl) (fun pg en Rm sg mm ar bw mth cd QQ ls hC hRm hK hX hS hl hq => ?_)
  have hx := hC.1; have hb := hC.2.1; have ho := hC.2.2.2.1; have hts := hC.2.2.2.2
  have hP : PwS G o R tx u sg.heap := hX
  have hl : lv_has ls 8 [(0, .ref o), (1, .int n0), (2, .int k0)] := hl
  refine lv_iload_n hx hb dX0_crack_0 rfl (lv_at hl 1 rfl) ?_
  refine lv_iconst (v := 1) hx hb dX0_crack_1 (by decide) ?_
  refine lv_bipush (v := 12) hx hb dX0_crack_2 (by decide) ?_
  refine CIs.go (rcS hC hl (c_X0_within G l n0 1 12 ) hK trivial q385 q386 q110 q387 mdX0_within (room_s hRm rfl) rfl rfl dX0_crack_4) ?_
  refine lv_if_eq (tgt := 28) hx hb dX0_crack_7 (by decide) (fun c7 => ?_) (fun c7 => ?_)
  · have c7 : (inB n0 1 12) = false := bI_0.mp c7
    refine lv_iconst (v := (-1)) hx hb dX0_crack_28 (by decide) ?_
    exact hq _ _ _ _ _ _ _ _ dX0_crack_29 hP hS (rfl) (by exact ⟨by first | (simp [crackI, crackG, c7]; done) | (simp [crackI, crackG, c7, c15]; done) | (simp [crackI, crackG, c7, c15, c25]; done), by first | (simp [crackG, c7]; done) | (simp [crackG, c7, c15]; done) | (simp [crackG, c7, c15, c25]; done)⟩) (by decide) (by decide)
  · have c7 : (inB n0 1 12) = true := bI_1.mp c7
    obtain ⟨n, hn1, hn, rfl, hnx⟩ := inB_nI2 1 12 (by decide) (by decide) c7
    have hl : lv_has ls 8 [(0, .ref o), (1, .int (nI n)), (2, .int k0)] := hl
    refine lv_iload_n hx hb dX0_crack_10 rfl (lv_at hl 2 rfl) ?_
    refine lv_iconst (v := 2) hx hb dX0_crack_11 (by decide) ?_
    refine CIs.go (rcS hC hl (c_X0_in G l k0 2 1 (by decide)) hK trivial q366 q367 q110 q368 mdX0_in (room_s hRm rfl) rfl rfl dX0_crack_12) ?_
    refine lv_if_eq (tgt := 28) hx hb dX0_crack_15 (by decide) (fun c15 => ?_) (fun c15 => ?_)
    · have c15 : (inB k0 0 1) = false := bI_0.mp c15
      refine lv_iconst (v := (-1)) hx hb dX0_crack_28 (by decide) ?_
      exact hq _ _ _ _ _ _ _ _ dX0_crack_29 hP hS (rfl) (by exact ⟨by first | (simp [crackI, crackG, c7]; done) | (simp [crackI, crackG, c7, c15]; done) | (simp [crackI, crackG, c7, c15, c25]; done), by first | (simp [crackG, c7]; done) | (simp [crackG, c7, c15]; done) | (simp [crackG, c7, c15, c25]; done)⟩) (by decide) (by decide)
    · have c15 : (inB k0 0 1) = true := bI_1.mp c15
      refine lv_iconst (v := 2) hx hb dX0_crack_18 (by decide) ?_
      refine lv_iload_n hx hb dX0_crack_19 rfl (lv_at hl 1 rfl) ?_
      refine lv_imul hx hb dX0_crack_20 ?_
      refine lv_aload_n hx hb dX0_crack_21 rfl (lv_at hl 0 rfl) ?_
      refine S_get (v := .int (u.1 8)) hC hK hP (oS_main _ _ _ _ _) clX0 in_X0 8 (by decide) (fD8 _ _ _ _) q305 dX0_crack_22 ?_
      refine lv_icmp_le (tgt := 30) hx hb dX0_crack_25 (by decide) (fun c25 => ?_) (fun c25 => ?_)
      · refine lv_aload_n hx hb dX0_crack_30 rfl (lv_at hl 0 rfl) ?_
        refine lv_iconst (v := 0) hx hb dX0_crack_31 (by decide) ?_
        refine S_put hC hK hP (hD _ _ _) hS (oS_main _ _ _ _ _) clX0 in_X0 tyX0_ok nmX0 8 (by decide) (pS8 _ _ _ _ _ _) q305 rfl rfl rfl rfl (Nat.le_of_ble_eq_true rfl) dX0_crack_32 (fun H locs hP hS => ?_)
        refine lv_iconst (v := 0) hx hb dX0_crack_35 (by decide) ?_
        refine lv_istore_n (lv' := [(3, .int 0), (0, .ref o), (1, .int (nI n)), (2, .int k0)]) hx hb dX0_crack_36 rfl hl (by decide) rfl (fun ls hl => ?_)
        have LP37 : ∀ (fu37 : Nat) (k : Nat) (ls : Array Slot), n - k < fu37 → k ≤ n → allC (saysC (u.2.1 6)) k = true → lv_has ls 8 [(0, .ref o), (1, .int (nI n)), (2, .int k0), (3, .int (nI k))] → W pg l en Rm sg mm ar bw mth cd H locs 0 0 QQ (F0 mm 37 ls []) := by
          intro fu37
          induction fu37 with
          | zero => intro k ls hm37 hk ha hl; exact absurd hm37 (Nat.not_lt_zero _)
          | succ fu37 ih37 =>
            intro k ls hm37 hk ha hl
            refine lv_iload_n hx hb dX0_crack_37 rfl (lv_at hl 3 rfl) ?_
            refine lv_iload_n hx hb dX0_crack_38 rfl (lv_at hl 1 rfl) ?_
            refine lv_icmp_ge (tgt := 77) hx hb dX0_crack_39 (by decide) (fun c39 => ?_) (fun c39 => ?_)
            · have c39 : n ≤ k := (nI_leI (a := n) (b := k) (by first | omega | exact ocN_b _ _ | exact hbN_b _ _ _) (by first | omega | exact ocN_b _ _ | exact hbN_b _ _ _)).mp c39
              refine lv_iconst (v := 0) hx hb dX0_crack_77 (by decide) ?_
              refine lv_istore_n (lv' := [(3, .int 0), (0, .ref o), (1, .int (nI n)), (2, .int k0)]) hx hb dX0_crack_78 rfl hl (by decide) rfl (fun ls hl => ?_)
              refine lv_iconst (v := 0) hx hb dX0_crack_79 (by decide) ?_
              refine lv_istore (lv' := [(4, .int 0), (3, .int 0), (0, .ref o), (1, .int (nI n)), (2, .int k0)]) hx hb dX0_crack_80 hl (by decide) rfl (fun ls hl => ?_)
              refine lv_iconst (v := 0) hx hb dX0_crack_82 (by decide) ?_
              refine lv_istore (lv' := [(5, .int 0), (4, .int 0), (3, .int 0), (0, .ref o), (1, .int (nI n)), (2, .int k0)]) hx hb dX0_crack_83 hl (by decide) rfl (fun ls hl => ?_)
              have LP85 : ∀ (fu85 : Nat) (qq : Nat) (tu : Int32) (wh : Int32) (ls : Array Slot), 13 - qq < fu85 → qq ≤ 13 → tu = orN (fun q => allC (fitC (u.2.1 6) q) n) qq → wh = whoS (u.2.1 1) (fun q => allC (fitC (u.2.1 6) q) n) qq → lv_has ls 8 [(0, .ref o), (1, .int (nI n)), (2, .int k0), (3, .int tu), (4, .int wh), (5, .int (nI qq))] → W pg l en Rm sg mm ar bw mth cd H locs 0 0 QQ (F0 mm 85 ls []) := by
                intro fu85
                induction fu85 with
                | zero => intro qq tu wh ls hm85 hqq htu hwh hl; exact absurd hm85 (Nat.not_lt_zero _)
                | succ fu85 ih85 =>
                  intro qq tu wh ls hm85 hqq htu hwh hl
                  refine lv_iload hx hb dX0_crack_85 (lv_at hl 5 rfl) ?_
                  refine lv_bipush (v := 12) hx hb dX0_crack_87 (by decide) ?_
                  refine lv_icmp_gt (tgt := 210) hx hb dX0_crack_89 (by decide) (fun c89 => ?_) (fun c89 => ?_)
                  · have c89 : 12 < qq := (nI_ltI (a := 12) (b := qq) (by first | omega | exact ocN_b _ _ | exact hbN_b _ _ _) (by first | omega | exact ocN_b _ _ | exact hbN_b _ _ _)).mp c89
                    refine lv_iload_n hx hb dX0_crack_210 rfl (lv_at hl 2 rfl) ?_
                    refine lv_if_ne (tgt := 218) hx hb dX0_crack_211 (by decide) (fun c211 => ?_) (fun c211 => ?_)
                    · refine lv_iload hx hb dX0_crack_218 (lv_at hl 4 rfl) ?_
                      exact hq _ _ _ _ _ _ _ _ dX0_crack_220 hP hS (rfl) (by have hg : crackG (u.1 8) (nI n) k0 = true := (by simp [crackG, c7, c15, c25]); have hq13 : qq = 13 := (by omega); have hkn : k = n := (by omega); subst hq13 hkn; exact ⟨by rw [crackI, if_pos hg, hnx, crackV, if_pos ha]; first | (rw [if_pos c211]; exact htu) | (rw [if_neg c211]; exact hwh), by rw [if_pos hg]⟩) (by decide) (by decide)
                    · refine lv_iload_n hx hb dX0_crack_214 rfl (lv_at hl 3 rfl) ?_
                      refine lv_goto (tgt := 220) hx hb dX0_crack_215 (by decide) ?_
                      exact hq _ _ _ _ _ _ _ _ dX0_crack_220 hP hS (rfl) (by have hg : crackG (u.1 8) (nI n) k0 = true := (by simp [crackG, c7, c15, c25]); have hq13 : qq = 13 := (by omega); have hkn : k = n := (by omega); subst hq13 hkn; exact ⟨by rw [crackI, if_pos hg, hnx, crackV, if_pos ha]; first | (rw [if_pos c211]; exact htu) | (rw [if_neg c211]; exact hwh), by rw [if_pos hg]⟩) (by decide) (by decide)
                  · have c89 : ¬ (12 < qq) := mt (nI_ltI (a := 12) (b := qq) (by first | omega | exact ocN_b _ _ | exact hbN_b _ _ _) (by first | omega | exact ocN_b _ _ | exact hbN_b _ _ _)).mpr c89
                    refine lv_iconst (v := 1) hx hb dX0_crack_92 (by decide) ?_
                    refine lv_istore (lv' := [(6, .int 1), (0, .ref o), (1, .int (nI n)), (2, .int k0), (3, .int tu), (4, .int wh), (5, .int (nI qq))]) hx hb dX0_crack_93 hl (by decide) rfl (fun ls hl => ?_)
                    refine lv_iconst (v := 0) hx hb dX0_crack_95 (by decide) ?_
                    refine lv_istore (lv' := [(7, .int 0), (6, .int 1), (0, .ref o), (1, .int (nI n)), (2, .int k0), (3, .int tu), (4, .int wh), (5, .int (nI qq))]) hx hb dX0_crack_96 hl (by decide) rfl (fun ls hl => ?_)
                    have LP98 : ∀ (fu98 : Nat) (i : Nat) (bb : Bool) (ls : Array Slot), n - i < fu98 → i ≤ n → bb = allC (fitC (u.2.1 6) qq) i → lv_has ls 8 [(0, .ref o), (1, .int (nI n)), (2, .int k0), (3, .int tu), (4, .int wh), (5, .int (nI qq)), (6, .int (bI bb)), (7, .int (nI i))] → W pg l en Rm sg mm ar bw mth cd H locs 0 0 QQ (F0 mm 98 ls []) := by
                      intro fu98
                      induction fu98 with
                      | zero => intro i bb ls hm98 hi hbb hl; exact absurd hm98 (Nat.not_lt_zero _)
                      | succ fu98 ih98 =>
                        intro i bb ls hm98 hi hbb hl
                        refine lv_iload hx hb dX0_crack_98 (lv_at hl 7 rfl) ?_
                        refine lv_iload_n hx hb dX0_crack_100 rfl (lv_at hl 1 rfl) ?_
                        refine lv_icmp_ge (tgt := 153) hx hb dX0_crack_101 (by decide) (fun c101 => ?_) (fun c101 => ?_)
                        · have c101 : n ≤ i := (nI_leI (a := n) (b := i) (by first | omega | exact ocN_b _ _ | exact hbN_b _ _ _) (by first | omega | exact ocN_b _ _ | exact hbN_b _ _ _)).mp c101
                          refine lv_iload hx hb dX0_crack_153 (lv_at hl 6 rfl) ?_
                          refine lv_if_ne (tgt := 161) hx hb dX0_crack_155 (by decide) (fun c155 => ?_) (fun c155 => ?_)
                          · have c155 : bb = true := bI_1.mp c155
                            refine lv_iload_n hx hb dX0_crack_161 rfl (lv_at hl 3 rfl) ?_
                            refine lv_iconst (v := 1) hx hb dX0_crack_162 (by decide) ?_
                            refine lv_iload hx hb dX0_crack_163 (lv_at hl 5 rfl) ?_
                            refine lv_ishl hx hb dX0_crack_165 ?_
                            refine lv_ior hx hb dX0_crack_166 ?_
                            refine lv_istore_n (lv' := [(3, .int (tu ||| (1 <<< ((nI qq) &&& 31)))), (0, .ref o), (1, .int (nI n)), (2, .int k0), (4, .int wh), (5, .int (nI qq)), (6, .int (bI bb)), (7, .int (nI i))]) hx hb dX0_crack_167 rfl hl (by decide) rfl (fun ls hl => ?_)
                            refine lv_iload hx hb dX0_crack_168 (lv_at hl 4 rfl) ?_
                            refine lv_iload hx hb dX0_crack_170 (lv_at hl 5 rfl) ?_
                            refine lv_bipush (v := 12) hx hb dX0_crack_172 (by decide) ?_
                            refine lv_icmp_ge (tgt := 200) hx hb dX0_crack_174 (by decide) (fun c174 => ?_) (fun c174 => ?_)
                            · have c174 : 12 ≤ qq := (nI_leI (a := 12) (b := qq) (by first | omega | exact ocN_b _ _ | exact hbN_b _ _ _) (by first | omega | exact ocN_b _ _ | exact hbN_b _ _ _)).mp c174
                              refine lv_iconst (v := 0) hx hb dX0_crack_200 (by decide) ?_
                              refine lv_ior hx hb dX0_crack_201 ?_
                              refine W_top (y := wh) (or0 _) ?_
                              refine lv_istore (lv' := [(4, .int wh), (3, .int (tu ||| (1 <<< ((nI qq) &&& 31)))), (0, .ref o), (1, .int (nI n)), (2, .int k0), (5, .int (nI qq)), (6, .int (bI bb)), (7, .int (nI i))]) hx hb dX0_crack_202 hl (by decide) rfl (fun ls hl => ?_)
                              refine lv_iinc (v := (nI (qq + 1))) (lv' := [(5, .int (nI (qq + 1))), (4, .int wh), (3, .int (tu ||| (1 <<< ((nI qq) &&& 31)))), (0, .ref o), (1, .int (nI n)), (2, .int k0), (6, .int (bI bb)), (7, .int (nI i))]) hx hb dX0_crack_204 hl (k := 5) rfl (nI_inc qq) (by decide) rfl (fun ls hl => ?_)
                              refine lv_goto (tgt := 85) hx hb dX0_crack_207 (by decide) ?_
                              exact ih85 (qq + 1) (tu ||| (1 <<< ((nI qq) &&& 31))) wh ls (by omega) (by first | omega | assumption | rfl | (simp_all; done) | grind) (by (clear hq hK hts hC hx hb ho hRm hl hP hS ih37 ih85 ih98); grind [orN, bitI]) (by (clear hq hK hts hC hx hb ho hRm hl hP hS ih37 ih85 ih98); grind [whoS, bitI])  (lv_sub hl [3, 4, 5, 2, 1, 0] rfl)
                            · have c174 : ¬ (12 ≤ qq) := mt (nI_leI (a := 12) (b := qq) (by first | omega | exact ocN_b _ _ | exact hbN_b _ _ _) (by first | omega | exact ocN_b _ _ | exact hbN_b _ _ _)).mpr c174
                              refine lv_aload_n hx hb dX0_crack_177 rfl (lv_at hl 1 rfl) ?_
                              refine S_get hC hK hP (oS_main _ _ _ _ _) clX0 in_X0 1 (by decide) (fD1 _ _ _ _) q293 dX0_crack_178 ?_
                              refine lv_iload hx hb dX0_crack_181 (lv_at hl 5 rfl) ?_
                              refine S_ald hC hK hP (aS1 _ _ _ _ _) (j := qq) (by decide) (rfl) (by omega) dX0_crack_183 ?_
                              refine W_top (y := (u.2.1 1 qq)) rfl ?_
                              refine lv_iconst (v := (-1)) hx hb dX0_crack_184 (by decide) ?_
                              refine lv_icmp_eq (tgt := 200) hx hb dX0_crack_185 (by decide) (fun c185 => ?_) (fun c185 => ?_)
                              · refine lv_iconst (v := 0) hx hb dX0_crack_200 (by decide) ?_
                                refine lv_ior hx hb dX0_crack_201 ?_
                                refine W_top (y := wh) (or0 _) ?_
                                refine lv_istore (lv' := [(4, .int wh), (3, .int (tu ||| (1 <<< ((nI qq) &&& 31)))), (0, .ref o), (1, .int (nI n)), (2, .int k0), (5, .int (nI qq)), (6, .int (bI bb)), (7, .int (nI i))]) hx hb dX0_crack_202 hl (by decide) rfl (fun ls hl => ?_)
                                refine lv_iinc (v := (nI (qq + 1))) (lv' := [(5, .int (nI (qq + 1))), (4, .int wh), (3, .int (tu ||| (1 <<< ((nI qq) &&& 31)))), (0, .ref o), (1, .int (nI n)), (2, .int k0), (6, .int (bI bb)), (7, .int (nI i))]) hx hb dX0_crack_204 hl (k := 5) rfl (nI_inc qq) (by decide) rfl (fun ls hl => ?_)
                                refine lv_goto (tgt := 85) hx hb dX0_crack_207 (by decide) ?_
                                exact ih85 (qq + 1) (tu ||| (1 <<< ((nI qq) &&& 31))) wh ls (by omega) (by first | omega | assumption | rfl | (simp_all; done) | grind) (by (clear hq hK hts hC hx hb ho hRm hl hP hS ih37 ih85 ih98); grind [orN, bitI]) (by (clear hq hK hts hC hx hb ho hRm hl hP hS ih37 ih85 ih98); grind [whoS, bitI])  (lv_sub hl [3, 4, 5, 2, 1, 0] rfl)
                              · refine lv_iconst (v := 1) hx hb dX0_crack_188 (by decide) ?_
                                refine lv_aload_n hx hb dX0_crack_189 rfl (lv_at hl 1 rfl) ?_
                                refine S_get hC hK hP (oS_main _ _ _ _ _) clX0 in_X0 1 (by decide) (fD1 _ _ _ _) q293 dX0_crack_190 ?_
                                refine lv_iload hx hb dX0_crack_193 (lv_at hl 5 rfl) ?_
                                refine S_ald hC hK hP (aS1 _ _ _ _ _) (j := qq) (by decide) (rfl) (by omega) dX0_crack_195 ?_
                                refine W_top (y := (u.2.1 1 qq)) rfl ?_
                                refine W_top (y := (nI (ix ((u.2.1 1) qq)))) ((hw.ix (t := qq) (by omega) (by assumption)).1) ?_
                                refine lv_ishl hx hb dX0_crack_196 ?_
                                refine lv_goto (tgt := 201) hx hb dX0_crack_197 (by decide) ?_
                                refine lv_ior hx hb dX0_crack_201 ?_
                                refine lv_istore (lv' := [(4, .int (wh ||| (1 <<< ((nI (ix ((u.2.1 1) qq))) &&& 31)))), (3, .int (tu ||| (1 <<< ((nI qq) &&& 31)))), (0, .ref o), (1, .int (nI n)), (2, .int k0), (5, .int (nI qq)), (6, .int (bI bb)), (7, .int (nI i))]) hx hb dX0_crack_202 hl (by decide) rfl (fun ls hl => ?_)
                                refine lv_iinc (v := (nI (qq + 1))) (lv' := [(5, .int (nI (qq + 1))), (4, .int (wh ||| (1 <<< ((nI (ix ((u.2.1 1) qq))) &&& 31)))), (3, .int (tu ||| (1 <<< ((nI qq) &&& 31)))), (0, .ref o), (1, .int (nI n)), (2, .int k0), (6, .int (bI bb)), (7, .int (nI i))]) hx hb dX0_crack_204 hl (k := 5) rfl (nI_inc qq) (by decide) rfl (fun ls hl => ?_)
                                refine lv_goto (tgt := 85) hx hb dX0_crack_207 (by decide) ?_
                                exact ih85 (qq + 1) (tu ||| (1 <<< ((nI qq) &&& 31))) (wh ||| (1 <<< ((nI (ix ((u.2.1 1) qq))) &&& 31))) ls (by omega) (by first | omega | assumption | rfl | (simp_all; done) | grind) (by (clear hq hK hts hC hx hb ho hRm hl hP hS ih37 ih85 ih98); grind [orN, bitI]) (by (clear hq hK hts hC hx hb ho hRm hl hP hS ih37 ih85 ih98); grind [whoS, bitI])  (lv_sub hl [3, 4, 5, 2, 1, 0] rfl)
                          · have c155 : bb = false := bI_0.mp c155
                            refine lv_goto (tgt := 204) hx hb dX0_crack_158 (by decide) ?_
                            refine lv_iinc (v := (nI (qq + 1))) (lv' := [(5, .int (nI (qq + 1))), (0, .ref o), (1, .int (nI n)), (2, .int k0), (3, .int tu), (4, .int wh), (6, .int (bI bb)), (7, .int (nI i))]) hx hb dX0_crack_204 hl (k := 5) rfl (nI_inc qq) (by decide) rfl (fun ls hl => ?_)
                            refine lv_goto (tgt := 85) hx hb dX0_crack_207 (by decide) ?_
                            exact ih85 (qq + 1) tu wh ls (by omega) (by first | omega | assumption | rfl | (simp_all; done) | grind) (by (clear hq hK hts hC hx hb ho hRm hl hP hS ih37 ih85 ih98); grind [orN, bitI]) (by (clear hq hK hts hC hx hb ho hRm hl hP hS ih37 ih85 ih98); grind [whoS, bitI])  (lv_sub hl [1, 2, 3, 4, 5, 0] rfl)
                        · have c101 : ¬ (n ≤ i) := mt (nI_leI (a := n) (b := i) (by first | omega | exact ocN_b _ _ | exact hbN_b _ _ _) (by first | omega | exact ocN_b _ _ | exact hbN_b _ _ _)).mpr c101
                          refine lv_iload hx hb dX0_crack_104 (lv_at hl 6 rfl) ?_
                          refine lv_if_eq (tgt := 144) hx hb dX0_crack_106 (by decide) (fun c106 => ?_) (fun c106 => ?_)
                          · have c106 : bb = false := bI_0.mp c106
                            refine lv_iconst (v := 0) hx hb dX0_crack_144 (by decide) ?_
                            refine lv_istore (lv' := [(6, .int 0), (0, .ref o), (1, .int (nI n)), (2, .int k0), (3, .int tu), (4, .int wh), (5, .int (nI qq)), (7, .int (nI i))]) hx hb dX0_crack_145 hl (by decide) rfl (fun ls hl => ?_)
                            refine lv_iinc (v := (nI (i + 1))) (lv' := [(7, .int (nI (i + 1))), (6, .int 0), (0, .ref o), (1, .int (nI n)), (2, .int k0), (3, .int tu), (4, .int wh), (5, .int (nI qq))]) hx hb dX0_crack_147 hl (k := 7) rfl (nI_inc i) (by decide) rfl (fun ls hl => ?_)
                            refine lv_goto (tgt := 98) hx hb dX0_crack_150 (by decide) ?_
                            exact ih98 (i + 1) false ls (by omega) (by first | omega | assumption | rfl | (simp_all; done) | grind) (by (clear hq hK hts hC hx hb ho hRm hl hP hS ih37 ih85 ih98); grind [allC, fitC])  (lv_sub hl [2, 3, 4, 5, 6, 7, 1, 0] rfl)
                          · have c106 : bb = true := bI_1.mp c106
                            refine lv_iload hx hb dX0_crack_109 (lv_at hl 5 rfl) ?_
                            refine lv_aload_n hx hb dX0_crack_111 rfl (lv_at hl 0 rfl) ?_
                            refine lv_iconst (v := 2) hx hb dX0_crack_112 (by decide) ?_
                            refine lv_iload hx hb dX0_crack_113 (lv_at hl 7 rfl) ?_
                            refine lv_imul hx hb dX0_crack_115 ?_
                            refine W_top (pk_mul 2 i) ?_
                            refine CIs.go (rcV hC hl (c_X0_fed G l o R tx (mV u 8 0) (2 * i) (by first | assumption | omega | rfl | (simp_all; done))) hK hP (va_recv hK.1 hP clX0 (oS_main _ _ _ _ _)) q1084 q1086 qs35 q110 q1087 mdX0_fed (room_s hRm rfl) rfl rfl dX0_crack_116) ?_
                            refine W_top (y := (nI (ocN (u.2.1 6) (2 * i)))) rfl ?_
                            refine lv_icmp_gt (tgt := 126) hx hb dX0_crack_119 (by decide) (fun c119 => ?_) (fun c119 => ?_)
                            · have c119 : (ocN (u.2.1 6) (2 * i)) < qq := (nI_ltI (a := (ocN (u.2.1 6) (2 * i))) (b := qq) (by first | omega | exact ocN_b _ _ | exact hbN_b _ _ _) (by first | omega | exact ocN_b _ _ | exact hbN_b _ _ _)).mp c119
                              refine lv_iconst (v := 0) hx hb dX0_crack_126 (by decide) ?_
                              refine lv_aload_n hx hb dX0_crack_127 rfl (lv_at hl 0 rfl) ?_
                              refine lv_iconst (v := 2) hx hb dX0_crack_128 (by decide) ?_
                              refine lv_iload hx hb dX0_crack_129 (lv_at hl 7 rfl) ?_
                              refine lv_imul hx hb dX0_crack_131 ?_
                              refine W_top (pk_mul 2 i) ?_
                              refine lv_iconst (v := 1) hx hb dX0_crack_132 (by decide) ?_
                              refine lv_iadd hx hb dX0_crack_133 ?_
                              refine W_top (nI_add (2 * i) 1) ?_
                              refine CIs.go (rcV hC hl (c_X0_fed G l o R tx (mV u 8 0) ((2 * i) + 1) (by first | assumption | omega | rfl | (simp_all; done))) hK hP (va_recv hK.1 hP clX0 (oS_main _ _ _ _ _)) q1084 q1086 qs35 q110 q1087 mdX0_fed (room_s hRm rfl) rfl rfl dX0_crack_134) ?_
                              refine W_top (y := (nI (ocN (u.2.1 6) ((2 * i) + 1)))) rfl ?_
                              refine lv_icmp_ne (tgt := 144) hx hb dX0_crack_137 (by decide) (fun c137 => ?_) (fun c137 => ?_)
                              · have c137 : ¬ (0 = (ocN (u.2.1 6) ((2 * i) + 1))) := mt (nI_eq (a := 0) (b := (ocN (u.2.1 6) ((2 * i) + 1))) (by first | omega | exact ocN_b _ _ | exact hbN_b _ _ _) (by first | omega | exact ocN_b _ _ | exact hbN_b _ _ _)).mpr c137
                                refine lv_iconst (v := 0) hx hb dX0_crack_144 (by decide) ?_
                                refine lv_istore (lv' := [(6, .int 0), (0, .ref o), (1, .int (nI n)), (2, .int k0), (3, .int tu), (4, .int wh), (5, .int (nI qq)), (7, .int (nI i))]) hx hb dX0_crack_145 hl (by decide) rfl (fun ls hl => ?_)
                                refine lv_iinc (v := (nI (i + 1))) (lv' := [(7, .int (nI (i + 1))), (6, .int 0), (0, .ref o), (1, .int (nI n)), (2, .int k0), (3, .int tu), (4, .int wh), (5, .int (nI qq))]) hx hb dX0_crack_147 hl (k := 7) rfl (nI_inc i) (by decide) rfl (fun ls hl => ?_)
                                refine lv_goto (tgt := 98) hx hb dX0_crack_150 (by decide) ?_
                                exact ih98 (i + 1) false ls (by omega) (by first | omega | assumption | rfl | (simp_all; done) | grind) (by (clear hq hK hts hC hx hb ho hRm hl hP hS ih37 ih85 ih98); grind [allC, fitC])  (lv_sub hl [2, 3, 4, 5, 6, 7, 1, 0] rfl)
                              · have c137 : 0 = (ocN (u.2.1 6) ((2 * i) + 1)) := (nI_eq (a := 0) (b := (ocN (u.2.1 6) ((2 * i) + 1))) (by first | omega | exact ocN_b _ _ | exact hbN_b _ _ _) (by first | omega | exact ocN_b _ _ | exact hbN_b _ _ _)).mp c137
                                refine lv_iconst (v := 1) hx hb dX0_crack_140 (by decide) ?_
                                refine lv_goto (tgt := 145) hx hb dX0_crack_141 (by decide) ?_
                                refine lv_istore (lv' := [(6, .int 1), (0, .ref o), (1, .int (nI n)), (2, .int k0), (3, .int tu), (4, .int wh), (5, .int (nI qq)), (7, .int (nI i))]) hx hb dX0_crack_145 hl (by decide) rfl (fun ls hl => ?_)
                                refine lv_iinc (v := (nI (i + 1))) (lv' := [(7, .int (nI (i + 1))), (6, .int 1), (0, .ref o), (1, .int (nI n)), (2, .int k0), (3, .int tu), (4, .int wh), (5, .int (nI qq))]) hx hb dX0_crack_147 hl (k := 7) rfl (nI_inc i) (by decide) rfl (fun ls hl => ?_)
                                refine lv_goto (tgt := 98) hx hb dX0_crack_150 (by decide) ?_
                                exact ih98 (i + 1) true ls (by omega) (by first | omega | assumption | rfl | (simp_all; done) | grind) (by (clear hq hK hts hC hx hb ho hRm hl hP hS ih37 ih85 ih98); grind [allC, fitC])  (lv_sub hl [2, 3, 4, 5, 6, 7, 1, 0] rfl)
                            · have c119 : ¬ ((ocN (u.2.1 6) (2 * i)) < qq) := mt (nI_ltI (a := (ocN (u.2.1 6) (2 * i))) (b := qq) (by first | omega | exact ocN_b _ _ | exact hbN_b _ _ _) (by first | omega | exact ocN_b _ _ | exact hbN_b _ _ _)).mpr c119
                              refine lv_iconst (v := 1) hx hb dX0_crack_122 (by decide) ?_
                              refine lv_goto (tgt := 127) hx hb dX0_crack_123 (by decide) ?_
                              refine lv_aload_n hx hb dX0_crack_127 rfl (lv_at hl 0 rfl) ?_
                              refine lv_iconst (v := 2) hx hb dX0_crack_128 (by decide) ?_
                              refine lv_iload hx hb dX0_crack_129 (lv_at hl 7 rfl) ?_
                              refine lv_imul hx hb dX0_crack_131 ?_
                              refine W_top (pk_mul 2 i) ?_
                              refine lv_iconst (v := 1) hx hb dX0_crack_132 (by decide) ?_
                              refine lv_iadd hx hb dX0_crack_133 ?_
                              refine W_top (nI_add (2 * i) 1) ?_
                              refine CIs.go (rcV hC hl (c_X0_fed G l o R tx (mV u 8 0) ((2 * i) + 1) (by first | assumption | omega | rfl | (simp_all; done))) hK hP (va_recv hK.1 hP clX0 (oS_main _ _ _ _ _)) q1084 q1086 qs35 q110 q1087 mdX0_fed (room_s hRm rfl) rfl rfl dX0_crack_134) ?_
                              refine W_top (y := (nI (ocN (u.2.1 6) ((2 * i) + 1)))) rfl ?_
                              refine lv_icmp_ne (tgt := 144) hx hb dX0_crack_137 (by decide) (fun c137 => ?_) (fun c137 => ?_)
                              · have c137 : ¬ (1 = (ocN (u.2.1 6) ((2 * i) + 1))) := mt (nI_eq (a := 1) (b := (ocN (u.2.1 6) ((2 * i) + 1))) (by first | omega | exact ocN_b _ _ | exact hbN_b _ _ _) (by first | omega | exact ocN_b _ _ | exact hbN_b _ _ _)).mpr c137
                                refine lv_iconst (v := 0) hx hb dX0_crack_144 (by decide) ?_
                                refine lv_istore (lv' := [(6, .int 0), (0, .ref o), (1, .int (nI n)), (2, .int k0), (3, .int tu), (4, .int wh), (5, .int (nI qq)), (7, .int (nI i))]) hx hb dX0_crack_145 hl (by decide) rfl (fun ls hl => ?_)
                                refine lv_iinc (v := (nI (i + 1))) (lv' := [(7, .int (nI (i + 1))), (6, .int 0), (0, .ref o), (1, .int (nI n)), (2, .int k0), (3, .int tu), (4, .int wh), (5, .int (nI qq))]) hx hb dX0_crack_147 hl (k := 7) rfl (nI_inc i) (by decide) rfl (fun ls hl => ?_)
                                refine lv_goto (tgt := 98) hx hb dX0_crack_150 (by decide) ?_
                                exact ih98 (i + 1) false ls (by omega) (by first | omega | assumption | rfl | (simp_all; done) | grind) (by (clear hq hK hts hC hx hb ho hRm hl hP hS ih37 ih85 ih98); grind [allC, fitC])  (lv_sub hl [2, 3, 4, 5, 6, 7, 1, 0] rfl)
                              · have c137 : 1 = (ocN (u.2.1 6) ((2 * i) + 1)) := (nI_eq (a := 1) (b := (ocN (u.2.1 6) ((2 * i) + 1))) (by first | omega | exact ocN_b _ _ | exact hbN_b _ _ _) (by first | omega | exact ocN_b _ _ | exact hbN_b _ _ _)).mp c137
                                refine lv_iconst (v := 1) hx hb dX0_crack_140 (by decide) ?_
                                refine lv_goto (tgt := 145) hx hb dX0_crack_141 (by decide) ?_
                                refine lv_istore (lv' := [(6, .int 1), (0, .ref o), (1, .int (nI n)), (2, .int k0), (3, .int tu), (4, .int wh), (5, .int (nI qq)), (7, .int (nI i))]) hx hb dX0_crack_145 hl (by decide) rfl (fun ls hl => ?_)
                                refine lv_iinc (v := (nI (i + 1))) (lv' := [(7, .int (nI (i + 1))), (6, .int 1), (0, .ref o), (1, .int (nI n)), (2, .int k0), (3, .int tu), (4, .int wh), (5, .int (nI qq))]) hx hb dX0_crack_147 hl (k := 7) rfl (nI_inc i) (by decide) rfl (fun ls hl => ?_)
                                refine lv_goto (tgt := 98) hx hb dX0_crack_150 (by decide) ?_
                                exact ih98 (i + 1) true ls (by omega) (by first | omega | assumption | rfl | (simp_all; done) | grind) (by (clear hq hK hts hC hx hb ho hRm hl hP hS ih37 ih85 ih98); grind [allC, fitC])  (lv_sub hl [2, 3, 4, 5, 6, 7, 1, 0] rfl)
                    exact LP98 _ 0 true ls (Nat.lt_succ_self _) (by first | omega | assumption | rfl | (simp_all; done) | grind) (rfl)  (lv_sub hl [2, 3, 4, 5, 6, 7, 1, 0] rfl)
              exact LP85 _ 0 0 0 ls (Nat.lt_succ_self _) (by first | omega | assumption | rfl | (simp_all; done) | grind) (rfl) (rfl)  (lv_sub hl [3, 4, 5, 2, 1, 0] rfl)
            · have c39 : ¬ (n ≤ k) := mt (nI_leI (a := n) (b := k) (by first | omega | exact ocN_b _ _ | exact hbN_b _ _ _) (by first | omega | exact ocN_b _ _ | exact hbN_b _ _ _)).mpr c39
              refine lv_aload_n hx hb dX0_crack_42 rfl (lv_at hl 0 rfl) ?_
              refine lv_iconst (v := 2) hx hb dX0_crack_43 (by decide) ?_
              refine lv_iload_n hx hb dX0_crack_44 rfl (lv_at hl 3 rfl) ?_
              refine lv_imul hx hb dX0_crack_45 ?_
              refine W_top (pk_mul 2 k) ?_
              refine CIs.go (rcV hC hl (c_X0_fed G l o R tx (mV u 8 0) (2 * k) (by first | assumption | omega | rfl | (simp_all; done))) hK hP (va_recv hK.1 hP clX0 (oS_main _ _ _ _ _)) q1084 q1086 qs35 q110 q1087 mdX0_fed (room_s hRm rfl) rfl rfl dX0_crack_46) ?_
              refine W_top (y := (nI (ocN (u.2.1 6) (2 * k)))) rfl ?_
              refine CIs.go (rcS hC hl (c_X0_isTurn G l (nI (ocN (u.2.1 6) (2 * k))) ) hK trivial q363 q364 q110 q365 mdX0_isTurn (room_s hRm rfl) rfl rfl dX0_crack_49) ?_
              refine W_top (y := (bI (decide (ocN (u.2.1 6) (2 * k) < 12)))) (congrArg bI (isTurnB_d (ocN_lt _ _))) ?_
              refine lv_if_eq (tgt := 68) hx hb dX0_crack_52 (by decide) (fun c52 => ?_) (fun c52 => ?_)
              · have c52 : (decide (ocN (u.2.1 6) (2 * k) < 12)) = false := bI_0.mp c52
                refine lv_bipush (v := (-3)) hx hb dX0_crack_68 (by decide) ?_
                exact hq _ _ _ _ _ _ _ _ dX0_crack_70 hP hS (rfl) (by have hg : crackG (u.1 8) (nI n) k0 = true := (by simp [crackG, c7, c15, c25]); exact ⟨by rw [crackI, if_pos hg, hnx, crackV, allC_f (k := k) (by omega) (by (clear hq hK hts hC hx hb ho hRm hl hP hS ih37); grind [saysC])]; rfl, by rw [if_pos hg]⟩) (by decide) (by decide)
              · have c52 : (decide (ocN (u.2.1 6) (2 * k) < 12)) = true := bI_1.mp c52
                refine lv_aload_n hx hb dX0_crack_55 rfl (lv_at hl 0 rfl) ?_
                refine lv_iconst (v := 2) hx hb dX0_crack_56 (by decide) ?_
                refine lv_iload_n hx hb dX0_crack_57 rfl (lv_at hl 3 rfl) ?_
                refine lv_imul hx hb dX0_crack_58 ?_
                refine W_top (pk_mul 2 k) ?_
                refine lv_iconst (v := 1) hx hb dX0_crack_59 (by decide) ?_
                refine lv_iadd hx hb dX0_crack_60 ?_
                refine W_top (nI_add (2 * k) 1) ?_
                refine CIs.go (rcV hC hl (c_X0_fed G l o R tx (mV u 8 0) ((2 * k) + 1) (by first | assumption | omega | rfl | (simp_all; done))) hK hP (va_recv hK.1 hP clX0 (oS_main _ _ _ _ _)) q1084 q1086 qs35 q110 q1087 mdX0_fed (room_s hRm rfl) rfl rfl dX0_crack_61) ?_
                refine W_top (y := (nI (ocN (u.2.1 6) ((2 * k) + 1)))) rfl ?_
                refine lv_iconst (v := 1) hx hb dX0_crack_64 (by decide) ?_
                refine lv_icmp_le (tgt := 71) hx hb dX0_crack_65 (by decide) (fun c65 => ?_) (fun c65 => ?_)
                · have c65 : (ocN (u.2.1 6) ((2 * k) + 1)) ≤ 1 := (nI_leI (a := (ocN (u.2.1 6) ((2 * k) + 1))) (b := 1) (by first | omega | exact ocN_b _ _ | exact hbN_b _ _ _) (by first | omega | exact ocN_b _ _ | exact hbN_b _ _ _)).mp c65
                  refine lv_iinc (v := (nI (k + 1))) (lv' := [(3, .int (nI (k + 1))), (0, .ref o), (1, .int (nI n)), (2, .int k0)]) hx hb dX0_crack_71 hl (k := 3) rfl (nI_inc k) (by decide) rfl (fun ls hl => ?_)
                  refine lv_goto (tgt := 37) hx hb dX0_crack_74 (by decide) ?_
                  exact ih37 (k + 1) ls (by omega) (by first | omega | assumption | rfl | (simp_all; done) | grind) (by (clear hq hK hts hC hx hb ho hRm hl hP hS ih37); grind [allC, saysC])  (lv_sub hl [1, 2, 3, 0] rfl)
                · have c65 : ¬ ((ocN (u.2.1 6) ((2 * k) + 1)) ≤ 1) := mt (nI_leI (a := (ocN (u.2.1 6) ((2 * k) + 1))) (b := 1) (by first | omega | exact ocN_b _ _ | exact hbN_b _ _ _) (by first | omega | exact ocN_b _ _ | exact hbN_b _ _ _)).mpr c65
                  refine lv_bipush (v := (-3)) hx hb dX0_crack_68 (by decide) ?_
                  exact hq _ _ _ _ _ _ _ _ dX0_crack_70 hP hS (rfl) (by have hg : crackG (u.1 8) (nI n) k0 = true := (by simp [crackG, c7, c15, c25]); exact ⟨by rw [crackI, if_pos hg, hnx, crackV, allC_f (k := k) (by omega) (by (clear hq hK hts hC hx hb ho hRm hl hP hS ih37); grind [saysC])]; rfl, by rw [if_pos hg]⟩) (by decide) (by decide)
        exact LP37 _ 0 ls (Nat.lt_succ_self _) (by first | omega | assumption | rfl | (simp_all; done) | grind) (rfl)  (lv_sub hl [1, 2, 3, 0] rfl)
      · refine lv_iconst (v := (-1)) hx hb dX0_crack_28 (by decide) ?_
        exact hq _ _ _ _ _ _ _ _ dX0_crack_29 hP hS (rfl) (by exact ⟨by first | (simp [crackI, crackG, c7]; done) | (simp [crackI, crackG, c7, c15]; done) | (simp [crackI, crackG, c7, c15, c25]; done), by first | (simp [crackG, c7]; done) | (simp [crackG, c7, c15]; done) | (simp [crackG, c7, c15, c25]; done)⟩) (by decide) (by decide)
set_option maxHeartbeats 4000000 in
theorem c_X0_worth (G : GG) (l : Launch) (o : Nat) (R : Nat → Nat) (tx : Nat) (u : MS) (n : Nat) (a : Nat) (c : Nat) (hr : n * a + c < 260) : CIs G l yX0_worth cX0_worth 4 .int 3 45 [.ref o, .int (nI n), .int (nI a), .int (nI c)] (PwS G o R tx u) (nI (worN (u.2.1 6) n a c)) := by
  refine CIs.mk RX0 pnX0 rfl (rfl) (Nat.le_of_ble_eq_true rfl) (fun pg en Rm sg mm ar bw mth cd QQ ls hC hRm hK hX hl hq => ?_)
  have hx := hC.1; have hb := hC.2.1; have ho := hC.2.2.2.1; have hts := hC.2.2.2.2
  have hP : PwS G o R tx u sg.heap := hX
  have hl : lv_has ls 4 [(0, .ref o), (1, .int (nI n)), (2, .int (nI a)), (3, .int (nI c))] := hl
  refine lv_aload_n hx hb dX0_worth_0 rfl (lv_at hl 0 rfl) ?_
  refine lv_iload_n hx hb dX0_worth_1 rfl (lv_at hl 1 rfl) ?_
  refine lv_iload_n hx hb dX0_worth_2 rfl (lv_at hl 2 rfl) ?_
  refine lv_imul hx hb dX0_worth_3 ?_
  refine W_top (pk_mul n a) ?_
  refine lv_iload_n hx hb dX0_worth_4 rfl (lv_at hl 3 rfl) ?_
  refine lv_iadd hx hb dX0_worth_5 ?_
  refine W_top (nI_add (n * a) c) ?_
  refine CIs.go (rcV hC hl (c_X0_fed G l o R tx u ((n * a) + c) (by first | assumption | omega | rfl | (simp_all; done))) hK hP (va_recv hK.1 hP clX0 (oS_main _ _ _ _ _)) q1084 q1086 qs35 q110 q1087 mdX0_fed (room_s hRm rfl) rfl rfl dX0_worth_6) ?_
  exact hq _ _ _ dX0_worth_9 (by rfl)
set_option maxHeartbeats 4000000 in
theorem c_X0_wouldSwap (G : GG) (l : Launch) (o : Nat) (R : Nat → Nat) (tx : Nat) (u : MS) (n : Nat) (a : Nat) (c : Nat) (hn : n ≤ 8) (ha : a < n) (hc : c < n) : CIs G l yX0_wouldSwap cX0_wouldSwap 4 .boolean 4 68 [.ref o, .int (nI n), .int (nI a), .int (nI c)] (PwS G o R tx u) (bI (bothB (u.2.1 6) n a c)) := by
  refine CIs.mk RX0 pnX0 rfl (bI_nar _) (Nat.le_of_ble_eq_true rfl) (fun pg en Rm sg mm ar bw mth cd QQ ls hC hRm hK hX hl hq => ?_)
  have hx := hC.1; have hb := hC.2.1; have ho := hC.2.2.2.1; have hts := hC.2.2.2.2
  have hP : PwS G o R tx u sg.heap := hX
  have hl : lv_has ls 4 [(0, .ref o), (1, .int (nI n)), (2, .int (nI a)), (3, .int (nI c))] := hl
  have hm := Nat.mul_le_mul (Nat.le_refl n) (show a + 1 ≤ n from ha); have hm2 := Nat.mul_le_mul (Nat.le_refl n) (show c + 1 ≤ n from hc); have hm3 := Nat.mul_le_mul hn hn; rw [Nat.mul_add, Nat.mul_one] at hm hm2
  refine lv_aload_n hx hb dX0_wouldSwap_0 rfl (lv_at hl 0 rfl) ?_
  refine lv_iload_n hx hb dX0_wouldSwap_1 rfl (lv_at hl 1 rfl) ?_
  refine lv_iload_n hx hb dX0_wouldSwap_2 rfl (lv_at hl 2 rfl) ?_
  refine lv_iload_n hx hb dX0_wouldSwap_3 rfl (lv_at hl 3 rfl) ?_
  refine CIs.go (rcV hC hl (c_X0_worth G l o R tx u n a c (by first | assumption | omega | rfl | (simp_all; done))) hK hP (va_recv hK.1 hP clX0 (oS_main _ _ _ _ _)) q1135 q1137 qs41 q110 q1138 mdX0_worth (room_s hRm rfl) rfl rfl dX0_wouldSwap_4) ?_
  refine lv_aload_n hx hb dX0_wouldSwap_7 rfl (lv_at hl 0 rfl) ?_
  refine lv_iload_n hx hb dX0_wouldSwap_8 rfl (lv_at hl 1 rfl) ?_
  refine lv_iload_n hx hb dX0_wouldSwap_9 rfl (lv_at hl 2 rfl) ?_
  refine lv_iload_n hx hb dX0_wouldSwap_10 rfl (lv_at hl 2 rfl) ?_
  refine CIs.go (rcV hC hl (c_X0_worth G l o R tx u n a a (by first | assumption | omega | rfl | (simp_all; done))) hK hP (va_recv hK.1 hP clX0 (oS_main _ _ _ _ _)) q1135 q1137 qs41 q110 q1138 mdX0_worth (room_s hRm rfl) rfl rfl dX0_wouldSwap_11) ?_
  refine lv_icmp_le (tgt := 38) hx hb dX0_wouldSwap_14 (by decide) (fun c14 => ?_) (fun c14 => ?_)
  · have c14 : (worN (u.2.1 6) n a c) ≤ (worN (u.2.1 6) n a a) := (nI_leI (a := (worN (u.2.1 6) n a c)) (b := (worN (u.2.1 6) n a a)) (by first | omega | exact ocN_b _ _ | exact hbN_b _ _ _ | exact ocN_b _ _ | (unfold worN; exact ocN_b _ _)) (by first | omega | exact ocN_b _ _ | exact hbN_b _ _ _ | exact ocN_b _ _ | (unfold worN; exact ocN_b _ _))).mp c14
    refine lv_iconst (v := 0) hx hb dX0_wouldSwap_38 (by decide) ?_
    exact hq _ _ _ dX0_wouldSwap_39 (by grind [bothB, bI])
  · have c14 : ¬ ((worN (u.2.1 6) n a c) ≤ (worN (u.2.1 6) n a a)) := mt (nI_leI (a := (worN (u.2.1 6) n a c)) (b := (worN (u.2.1 6) n a a)) (by first | omega | exact ocN_b _ _ | exact hbN_b _ _ _ | exact ocN_b _ _ | (unfold worN; exact ocN_b _ _)) (by first | omega | exact ocN_b _ _ | exact hbN_b _ _ _ | exact ocN_b _ _ | (unfold worN; exact ocN_b _ _))).mpr c14
    refine lv_aload_n hx hb dX0_wouldSwap_17 rfl (lv_at hl 0 rfl) ?_
    refine lv_iload_n hx hb dX0_wouldSwap_18 rfl (lv_at hl 1 rfl) ?_
    refine lv_iload_n hx hb dX0_wouldSwap_19 rfl (lv_at hl 3 rfl) ?_
    refine lv_iload_n hx hb dX0_wouldSwap_20 rfl (lv_at hl 2 rfl) ?_
    refine CIs.go (rcV hC hl (c_X0_worth G l o R tx u n c a (by first | assumption | omega | rfl | (simp_all; done))) hK hP (va_recv hK.1 hP clX0 (oS_main _ _ _ _ _)) q1135 q1137 qs41 q110 q1138 mdX0_worth (room_s hRm rfl) rfl rfl dX0_wouldSwap_21) ?_
    refine lv_aload_n hx hb dX0_wouldSwap_24 rfl (lv_at hl 0 rfl) ?_
    refine lv_iload_n hx hb dX0_wouldSwap_25 rfl (lv_at hl 1 rfl) ?_
    refine lv_iload_n hx hb dX0_wouldSwap_26 rfl (lv_at hl 3 rfl) ?_
    refine lv_iload_n hx hb dX0_wouldSwap_27 rfl (lv_at hl 3 rfl) ?_
    refine CIs.go (rcV hC hl (c_X0_worth G l o R tx u n c c (by first | assumption | omega | rfl | (simp_all; done))) hK hP (va_recv hK.1 hP clX0 (oS_main _ _ _ _ _)) q1135 q1137 qs41 q110 q1138 mdX0_worth (room_s hRm rfl) rfl rfl dX0_wouldSwap_28) ?_
    refine lv_icmp_le (tgt := 38) hx hb dX0_wouldSwap_31 (by decide) (fun c31 => ?_) (fun c31 => ?_)
    · have c31 : (worN (u.2.1 6) n c a) ≤ (worN (u.2.1 6) n c c) := (nI_leI (a := (worN (u.2.1 6) n c a)) (b := (worN (u.2.1 6) n c c)) (by first | omega | exact ocN_b _ _ | exact hbN_b _ _ _ | exact ocN_b _ _ | (unfold worN; exact ocN_b _ _)) (by first | omega | exact ocN_b _ _ | exact hbN_b _ _ _ | exact ocN_b _ _ | (unfold worN; exact ocN_b _ _))).mp c31
      refine lv_iconst (v := 0) hx hb dX0_wouldSwap_38 (by decide) ?_
      exact hq _ _ _ dX0_wouldSwap_39 (by grind [bothB, bI])
    · have c31 : ¬ ((worN (u.2.1 6) n c a) ≤ (worN (u.2.1 6) n c c)) := mt (nI_leI (a := (worN (u.2.1 6) n c a)) (b := (worN (u.2.1 6) n c c)) (by first | omega | exact ocN_b _ _ | exact hbN_b _ _ _ | exact ocN_b _ _ | (unfold worN; exact ocN_b _ _)) (by first | omega | exact ocN_b _ _ | exact hbN_b _ _ _ | exact ocN_b _ _ | (unfold worN; exact ocN_b _ _))).mpr c31
      refine lv_iconst (v := 1) hx hb dX0_wouldSwap_34 (by decide) ?_
      refine lv_goto (tgt := 39) hx hb dX0_wouldSwap_35 (by decide) ?_
      exact hq _ _ _ dX0_wouldSwap_39 (by grind [bothB, bI])
set_option maxHeartbeats 4000000 in
theorem c_X0_mostSwaps (G : GG) (l : Launch) (o : Nat) (R : Nat → Nat) (tx : Nat) (u : MS) (n : Nat) (hn2 : 2 ≤ n) (hn : n ≤ 8) : ∀ d s, s ≤ d → s < 2 ^ n → CIs G l yX0_mostSwaps cX0_mostSwaps 6 .int (d + 8) (60 * (d + 8)) [.ref o, .int (nI n), .int (nI s)] (PwS G o R tx u) (nI (mwF (bothB (u.2.1 6) n) n s)) := by
  intro d
  induction d using Nat.strongRecOn with
  | ind d ih =>
  intro s hsd hsn
  refine CIs.mk RX0 pnX0 rfl (rfl) (Nat.le_of_ble_eq_true rfl) (fun pg en Rm sg mm ar bw mth cd QQ ls hC hRm hK hX hl hq => ?_)
  have hx := hC.1; have hb := hC.2.1; have ho := hC.2.2.2.1; have hts := hC.2.2.2.2
  have hP : PwS G o R tx u sg.heap := hX
  have hl : lv_has ls 6 [(0, .ref o), (1, .int (nI n)), (2, .int (nI s))] := hl
  have hp2 := pow_le8 hn
  refine lv_iload_n hx hb dX0_mostSwaps_0 rfl (lv_at hl 2 rfl) ?_
  refine lv_if_ne (tgt := 6) hx hb dX0_mostSwaps_1 (by decide) (fun c1 => ?_) (fun c1 => ?_)
  · have c1 : ¬ (s = 0) := mt (nI_eq (a := s) (b := 0) (by first | omega | (unfold worN; exact ocN_b _ _)) (by first | omega | (unfold worN; exact ocN_b _ _))).mpr c1
    have hs0 : s ≠ 0 := c1
    obtain ⟨hlo, hlo16, hlow⟩ := lowN_spec hs0 (show s < 2 ^ 16 by omega)
    have hcl := clrB_lt hlo
    have hln := bit_lt hlo hsn
    have hclow := clr_low hs0 (show s < 2 ^ 16 by omega)
    refine lv_iload_n hx hb dX0_mostSwaps_6 rfl (lv_at hl 2 rfl) ?_
    refine CIs.go (rcS hC hl (c_J6_numberOfTrailingZeros G l s (by omega) (hs0)) hK trivial q1127 q1128 q135 q1129 mdJ6_numberOfTrailingZeros (by subst hRm; exact ⟨⟨by show _ ≤ d + 8; omega, by show _ ≤ 60 * (d + 8); omega⟩, Nat.le_refl _, Nat.le_refl _⟩) rfl rfl dX0_mostSwaps_7) ?_
    refine lv_istore_n (lv' := [(3, .int (nI (lowN s))), (0, .ref o), (1, .int (nI n)), (2, .int (nI s))]) hx hb dX0_mostSwaps_10 rfl hl (by decide) rfl (fun ls hl => ?_)
    refine lv_aload_n hx hb dX0_mostSwaps_11 rfl (lv_at hl 1 rfl) ?_
    refine lv_iload_n hx hb dX0_mostSwaps_12 rfl (lv_at hl 2 rfl) ?_
    refine lv_iload_n hx hb dX0_mostSwaps_13 rfl (lv_at hl 3 rfl) ?_
    refine lv_iconst (v := 1) hx hb dX0_mostSwaps_14 (by decide) ?_
    refine lv_iload_n hx hb dX0_mostSwaps_15 rfl (lv_at hl 0 rfl) ?_
    refine lv_ishl hx hb dX0_mostSwaps_16 ?_
    refine lv_iconst (v := (-1)) hx hb dX0_mostSwaps_17 (by decide) ?_
    refine lv_ixor hx hb dX0_mostSwaps_18 ?_
    refine lv_iand hx hb dX0_mostSwaps_19 ?_
    refine W_top (y := (nI (clrB s (lowN s)))) (andnot s (by omega)) ?_
    refine CIs.go (rcV hC hl (ih (clrB s (lowN s)) (by omega) (clrB s (lowN s)) (Nat.le_refl _) (by omega)) hK hP (va_recv hK.1 hP clX0 (oS_main _ _ _ _ _)) q1123 q1125 qs39 q110 q1126 mdX0_mostSwaps (by subst hRm; exact ⟨⟨by show clrB s (lowN s) + 8 + 1 ≤ d + 8; omega, by show 19 + 6 + 60 * (clrB s (lowN s) + 8) ≤ 60 * (d + 8); omega⟩, Nat.le_refl _, Nat.le_refl _⟩) rfl rfl dX0_mostSwaps_20) ?_
    refine lv_istore (lv' := [(4, .int (nI (mwF (bothB (u.2.1 6) n) n (clrB s (lowN s))))), (3, .int (nI (lowN s))), (0, .ref o), (1, .int (nI n)), (2, .int (nI s))]) hx hb dX0_mostSwaps_23 hl (by decide) rfl (fun ls hl => ?_)
    refine lv_iload_n hx hb dX0_mostSwaps_25 rfl (lv_at hl 1 rfl) ?_
    refine lv_iconst (v := 1) hx hb dX0_mostSwaps_26 (by decide) ?_
    refine lv_iadd hx hb dX0_mostSwaps_27 ?_
    refine W_top (nI_add (lowN s) 1) ?_
    refine lv_istore (lv' := [(5, .int (nI ((lowN s) + 1))), (4, .int (nI (mwF (bothB (u.2.1 6) n) n (clrB s (lowN s))))), (3, .int (nI (lowN s))), (0, .ref o), (1, .int (nI n)), (2, .int (nI s))]) hx hb dX0_mostSwaps_28 hl (by decide) rfl (fun ls hl => ?_)
    have LP30 : ∀ (fu30 : Nat) (k : Nat) (m : Nat) (ls : Array Slot), n - k < fu30 → k ≤ n → lowN s + 1 ≤ k → m = (mwI (bothB (u.2.1 6) n) (mwF (bothB (u.2.1 6) n) n) (lowN s) (clrB s (lowN s)) k) → lv_has ls 6 [(0, .ref o), (1, .int (nI n)), (2, .int (nI s)), (3, .int (nI (lowN s))), (4, .int (nI m)), (5, .int (nI k))] → W pg l en Rm sg mm ar bw mth cd sg.heap [] 0 0 QQ (F0 mm 30 ls []) := by
      intro fu30
      induction fu30 with
      | zero => intro k m ls hm30 hk hk2 hm hl; exact absurd hm30 (Nat.not_lt_zero _)
      | succ fu30 ih30 =>
        intro k m ls hm30 hk hk2 hm hl
        refine lv_iload hx hb dX0_mostSwaps_30 (lv_at hl 5 rfl) ?_
        refine lv_iload_n hx hb dX0_mostSwaps_32 rfl (lv_at hl 1 rfl) ?_
        refine lv_icmp_ge (tgt := 90) hx hb dX0_mostSwaps_33 (by decide) (fun c33 => ?_) (fun c33 => ?_)
        · have c33 : n ≤ k := (nI_leI (a := n) (b := k) (by first | omega | (unfold worN; exact ocN_b _ _)) (by first | omega | (unfold worN; exact ocN_b _ _))).mp c33
          refine lv_iload hx hb dX0_mostSwaps_90 (lv_at hl 4 rfl) ?_
          exact hq _ _ _ dX0_mostSwaps_92 (by rw [hm, show k = n by omega, ← mwF_eq hs0 (show s < 2 ^ 16 by omega)])
        · have c33 : ¬ (n ≤ k) := mt (nI_leI (a := n) (b := k) (by first | omega | (unfold worN; exact ocN_b _ _)) (by first | omega | (unfold worN; exact ocN_b _ _))).mpr c33
          refine lv_iload_n hx hb dX0_mostSwaps_36 rfl (lv_at hl 2 rfl) ?_
          refine lv_iload hx hb dX0_mostSwaps_37 (lv_at hl 5 rfl) ?_
          refine CIs.go (rcS hC hl (c_X0_has G l (nI s) (nI k) ) hK trivial q1036 q1037 q110 q1038 mdX0_has (by subst hRm; exact ⟨⟨by show _ ≤ d + 8; omega, by show _ ≤ 60 * (d + 8); omega⟩, Nat.le_refl _, Nat.le_refl _⟩) rfl rfl dX0_mostSwaps_39) ?_
          refine lv_if_eq (tgt := 84) hx hb dX0_mostSwaps_42 (by decide) (fun c42 => ?_) (fun c42 => ?_)
          · have c42 : (hasB (nI s) (nI k)) = false := bI_0.mp c42
            rw [hasB_nI _ (by omega)] at c42
            refine lv_iinc (v := (nI (k + 1))) (lv' := [(5, .int (nI (k + 1))), (0, .ref o), (1, .int (nI n)), (2, .int (nI s)), (3, .int (nI (lowN s))), (4, .int (nI m))]) hx hb dX0_mostSwaps_84 hl (k := 5) rfl (nI_inc k) (by decide) rfl (fun ls hl => ?_)
            refine lv_goto (tgt := 30) hx hb dX0_mostSwaps_87 (by decide) ?_
            exact ih30 (k + 1) m ls (by omega) (by first | omega | assumption | rfl | (simp_all; done) | grind) (by first | omega | assumption | rfl | (simp_all; done) | grind) (by first | (rw [hm, mwI_u1 (by rw [clrB_bit, c42]; rfl)]; done) | (rw [hm, mwI_u2 c53]; done) | (rw [hm, mwI_p hkb c53]; done))  (lv_sub hl [1, 2, 3, 4, 5, 0] rfl)
          · have c42 : (hasB (nI s) (nI k)) = true := bI_1.mp c42
            rw [hasB_nI _ (by omega)] at c42
            refine lv_aload_n hx hb dX0_mostSwaps_45 rfl (lv_at hl 0 rfl) ?_
            refine lv_iload_n hx hb dX0_mostSwaps_46 rfl (lv_at hl 1 rfl) ?_
            refine lv_iload_n hx hb dX0_mostSwaps_47 rfl (lv_at hl 3 rfl) ?_
            refine lv_iload hx hb dX0_mostSwaps_48 (lv_at hl 5 rfl) ?_
            refine CIs.go (rcV hC hl (c_X0_wouldSwap G l o R tx u n (lowN s) k (hn) (hln) (by omega)) hK hP (va_recv hK.1 hP clX0 (oS_main _ _ _ _ _)) q1131 q1133 qs40 q110 q1134 mdX0_wouldSwap (by subst hRm; exact ⟨⟨by show _ ≤ d + 8; omega, by show _ ≤ 60 * (d + 8); omega⟩, Nat.le_refl _, Nat.le_refl _⟩) rfl rfl dX0_mostSwaps_50) ?_
            refine lv_if_eq (tgt := 84) hx hb dX0_mostSwaps_53 (by decide) (fun c53 => ?_) (fun c53 => ?_)
            · have c53 : (bothB (u.2.1 6) n (lowN s) k) = false := bI_0.mp c53
              refine lv_iinc (v := (nI (k + 1))) (lv' := [(5, .int (nI (k + 1))), (0, .ref o), (1, .int (nI n)), (2, .int (nI s)), (3, .int (nI (lowN s))), (4, .int (nI m))]) hx hb dX0_mostSwaps_84 hl (k := 5) rfl (nI_inc k) (by decide) rfl (fun ls hl => ?_)
              refine lv_goto (tgt := 30) hx hb dX0_mostSwaps_87 (by decide) ?_
              exact ih30 (k + 1) m ls (by omega) (by first | omega | assumption | rfl | (simp_all; done) | grind) (by first | omega | assumption | rfl | (simp_all; done) | grind) (by first | (rw [hm, mwI_u1 (by rw [clrB_bit, c42]; rfl)]; done) | (rw [hm, mwI_u2 c53]; done) | (rw [hm, mwI_p hkb c53]; done))  (lv_sub hl [1, 2, 3, 4, 5, 0] rfl)
            · have c53 : (bothB (u.2.1 6) n (lowN s) k) = true := bI_1.mp c53
              have hkl : ¬ k = lowN s := by omega
              have hkb : (clrB s (lowN s)).testBit k = true := by rw [clrB_bit, c42]; simp; omega
              have hcl2 := clrB_le (clrB s (lowN s)) k
              refine lv_iload hx hb dX0_mostSwaps_56 (lv_at hl 4 rfl) ?_
              refine lv_iconst (v := 1) hx hb dX0_mostSwaps_58 (by decide) ?_
              refine lv_aload_n hx hb dX0_mostSwaps_59 rfl (lv_at hl 0 rfl) ?_
              refine lv_iload_n hx hb dX0_mostSwaps_60 rfl (lv_at hl 1 rfl) ?_
              refine lv_iload_n hx hb dX0_mostSwaps_61 rfl (lv_at hl 2 rfl) ?_
              refine lv_iconst (v := 1) hx hb dX0_mostSwaps_62 (by decide) ?_
              refine lv_iload_n hx hb dX0_mostSwaps_63 rfl (lv_at hl 3 rfl) ?_
              refine lv_ishl hx hb dX0_mostSwaps_64 ?_
              refine lv_iconst (v := (-1)) hx hb dX0_mostSwaps_65 (by decide) ?_
              refine lv_ixor hx hb dX0_mostSwaps_66 ?_
              refine lv_iand hx hb dX0_mostSwaps_67 ?_
              refine W_top (y := (nI (clrB s (lowN s)))) (andnot s (by omega)) ?_
              refine lv_iconst (v := 1) hx hb dX0_mostSwaps_68 (by decide) ?_
              refine lv_iload hx hb dX0_mostSwaps_69 (lv_at hl 5 rfl) ?_
              refine lv_ishl hx hb dX0_mostSwaps_71 ?_
              refine lv_iconst (v := (-1)) hx hb dX0_mostSwaps_72 (by decide) ?_
              refine lv_ixor hx hb dX0_mostSwaps_73 ?_
              refine lv_iand hx hb dX0_mostSwaps_74 ?_
              refine W_top (y := (nI (clrB (clrB s (lowN s)) k))) (andnot _ (by omega)) ?_
              refine CIs.go (rcV hC hl (ih (clrB (clrB s (lowN s)) k) (by omega) (clrB (clrB s (lowN s)) k) (Nat.le_refl _) (by omega)) hK hP (va_recv hK.1 hP clX0 (oS_main _ _ _ _ _)) q1123 q1125 qs39 q110 q1126 mdX0_mostSwaps (by subst hRm; exact ⟨⟨by show clrB (clrB s (lowN s)) k + 8 + 1 ≤ d + 8; omega, by show 19 + 6 + 60 * (clrB (clrB s (lowN s)) k + 8) ≤ 60 * (d + 8); omega⟩, Nat.le_refl _, Nat.le_refl _⟩) rfl rfl dX0_mostSwaps_75) ?_
              refine lv_iadd hx hb dX0_mostSwaps_78 ?_
              refine W_top (nI_add 1 (mwF (bothB (u.2.1 6) n) n (clrB (clrB s (lowN s)) k))) ?_
              have hb1 := mwI_n (c := (bothB (u.2.1 6) n)) (n := n) (s := s) (a := lowN s) (r := clrB s (lowN s)) (m := k) hn hsn (by omega)
              have hb2 := mwF_n (bothB (u.2.1 6) n) (s := clrB (clrB s (lowN s)) k) hn (by omega)
              refine S_max hC hl q978 q465 q120 q466 (room_m hRm rfl) rfl dX0_mostSwaps_79 ?_
              refine W_top (y := (nI (max m (1 + (mwF (bothB (u.2.1 6) n) n (clrB (clrB s (lowN s)) k)))))) (mxI_nI (a := m) (b := (1 + (mwF (bothB (u.2.1 6) n) n (clrB (clrB s (lowN s)) k)))) (by first | omega | (unfold worN; exact ocN_b _ _)) (by first | omega | (unfold worN; exact ocN_b _ _))) ?_
              refine lv_istore (lv' := [(4, .int (nI (max m (1 + (mwF (bothB (u.2.1 6) n) n (clrB (clrB s (lowN s)) k)))))), (0, .ref o), (1, .int (nI n)), (2, .int (nI s)), (3, .int (nI (lowN s))), (5, .int (nI k))]) hx hb dX0_mostSwaps_82 hl (by decide) rfl (fun ls hl => ?_)
              refine lv_iinc (v := (nI (k + 1))) (lv' := [(5, .int (nI (k + 1))), (4, .int (nI (max m (1 + (mwF (bothB (u.2.1 6) n) n (clrB (clrB s (lowN s)) k)))))), (0, .ref o), (1, .int (nI n)), (2, .int (nI s)), (3, .int (nI (lowN s)))]) hx hb dX0_mostSwaps_84 hl (k := 5) rfl (nI_inc k) (by decide) rfl (fun ls hl => ?_)
              refine lv_goto (tgt := 30) hx hb dX0_mostSwaps_87 (by decide) ?_
              exact ih30 (k + 1) (max m (1 + (mwF (bothB (u.2.1 6) n) n (clrB (clrB s (lowN s)) k)))) ls (by omega) (by first | omega | assumption | rfl | (simp_all; done) | grind) (by first | omega | assumption | rfl | (simp_all; done) | grind) (by first | (rw [hm, mwI_u1 (by rw [clrB_bit, c42]; rfl)]; done) | (rw [hm, mwI_u2 c53]; done) | (rw [hm, mwI_p hkb c53]; done))  (lv_sub hl [2, 3, 4, 5, 1, 0] rfl)
    exact LP30 _ (lowN s + 1) (mwF (bothB (u.2.1 6) n) n (clrB s (lowN s))) ls (Nat.lt_succ_self _) (by first | omega | assumption | rfl | (simp_all; done) | grind) (by first | omega | assumption | rfl | (simp_all; done) | grind) ((mwI_low _ hclow).symm)  (lv_sub hl [3, 4, 5, 2, 1, 0] rfl)
  · have c1 : s = 0 := (nI_eq (a := s) (b := 0) (by first | omega | (unfold worN; exact ocN_b _ _)) (by first | omega | (unfold worN; exact ocN_b _ _))).mp c1
    refine lv_iconst (v := 0) hx hb dX0_mostSwaps_4 (by decide) ?_
    exact hq _ _ _ dX0_mostSwaps_5 (by have hs00 : s = 0 := c1; subst hs00; rfl)
set_option maxHeartbeats 4000000 in
theorem c_X0_swaps (G : GG) (l : Launch) (o : Nat) (R : Nat → Nat) (tx : Nat) (u : MS) (n0 : Int32) (k0 : Int32) (hD : DwS o R) : CXi G l (PwS G o R tx) (AwS o R) yX0_swaps cX0_swaps 6 .int 264 15805 0 0 [.ref o, .int n0, .int k0] (PwS G o R tx u) (fun r w => r = (swapsI (u.2.1 6) (u.1 8) n0 k0) ∧ w = (if swapsG (u.1 8) n0 k0 = true then mV u 8 0 else u)) := by
  refine CXi.mk RX0 pnX0 rfl (Nat.le_of_ble_eq_true rfl) (fun pg en Rm sg mm ar bw mth cd QQ ls hC hRm hK hX hS hl hq => ?_)
  have hx := hC.1; have hb := hC.2.1; have ho := hC.2.2.2.1; have hts := hC.2.2.2.2
  have hP : PwS G o R tx u sg.heap := hX
  have hl : lv_has ls 6 [(0, .ref o), (1, .int n0), (2, .int k0)] := hl
  refine lv_iload_n hx hb dX0_swaps_0 rfl (lv_at hl 1 rfl) ?_
  refine lv_iconst (v := 2) hx hb dX0_swaps_1 (by decide) ?_
  refine lv_bipush (v := 8) hx hb dX0_swaps_2 (by decide) ?_
  refine CIs.go (rcS hC hl (c_X0_within G l n0 2 8 ) hK trivial q385 q386 q110 q387 mdX0_within (room_s hRm rfl) rfl rfl dX0_swaps_4) ?_
  refine lv_if_eq (tgt := 28) hx hb dX0_swaps_7 (by decide) (fun c7 => ?_) (fun c7 => ?_)
  · have c7 : (inB n0 2 8) = false := bI_0.mp c7
    refine lv_iconst (v := (-1)) hx hb dX0_swaps_28 (by decide) ?_
    exact hq _ _ _ _ _ _ _ _ dX0_swaps_29 hP hS (rfl) (by exact ⟨by first | (simp [swapsI, swapsG, c7]; done) | (simp [swapsI, swapsG, c7, c15]; done) | (simp [swapsI, swapsG, c7, c15, c25]; done), by first | (simp [swapsG, c7]; done) | (simp [swapsG, c7, c15]; done) | (simp [swapsG, c7, c15, c25]; done)⟩) (by decide) (by decide)
  · have c7 : (inB n0 2 8) = true := bI_1.mp c7
    obtain ⟨n, hn1, hn, rfl, hnx⟩ := inB_nI2 2 8 (by decide) (by decide) c7
    have hl : lv_has ls 6 [(0, .ref o), (1, .int (nI n)), (2, .int k0)] := hl
    refine lv_iload_n hx hb dX0_swaps_10 rfl (lv_at hl 2 rfl) ?_
    refine lv_iconst (v := 2) hx hb dX0_swaps_11 (by decide) ?_
    refine CIs.go (rcS hC hl (c_X0_in G l k0 2 1 (by decide)) hK trivial q366 q367 q110 q368 mdX0_in (room_s hRm rfl) rfl rfl dX0_swaps_12) ?_
    refine lv_if_eq (tgt := 28) hx hb dX0_swaps_15 (by decide) (fun c15 => ?_) (fun c15 => ?_)
    · have c15 : (inB k0 0 1) = false := bI_0.mp c15
      refine lv_iconst (v := (-1)) hx hb dX0_swaps_28 (by decide) ?_
      exact hq _ _ _ _ _ _ _ _ dX0_swaps_29 hP hS (rfl) (by exact ⟨by first | (simp [swapsI, swapsG, c7]; done) | (simp [swapsI, swapsG, c7, c15]; done) | (simp [swapsI, swapsG, c7, c15, c25]; done), by first | (simp [swapsG, c7]; done) | (simp [swapsG, c7, c15]; done) | (simp [swapsG, c7, c15, c25]; done)⟩) (by decide) (by decide)
    · have c15 : (inB k0 0 1) = true := bI_1.mp c15
      refine lv_iload_n hx hb dX0_swaps_18 rfl (lv_at hl 1 rfl) ?_
      refine lv_iload_n hx hb dX0_swaps_19 rfl (lv_at hl 1 rfl) ?_
      refine lv_imul hx hb dX0_swaps_20 ?_
      refine lv_aload_n hx hb dX0_swaps_21 rfl (lv_at hl 0 rfl) ?_
      refine S_get (v := .int (u.1 8)) hC hK hP (oS_main _ _ _ _ _) clX0 in_X0 8 (by decide) (fD8 _ _ _ _) q305 dX0_swaps_22 ?_
      refine lv_icmp_le (tgt := 30) hx hb dX0_swaps_25 (by decide) (fun c25 => ?_) (fun c25 => ?_)
      · refine lv_aload_n hx hb dX0_swaps_30 rfl (lv_at hl 0 rfl) ?_
        refine lv_iconst (v := 0) hx hb dX0_swaps_31 (by decide) ?_
        refine S_put hC hK hP (hD _ _ _) hS (oS_main _ _ _ _ _) clX0 in_X0 tyX0_ok nmX0 8 (by decide) (pS8 _ _ _ _ _ _) q305 rfl rfl rfl rfl (Nat.le_of_ble_eq_true rfl) dX0_swaps_32 (fun H locs hP hS => ?_)
        refine lv_iload_n hx hb dX0_swaps_35 rfl (lv_at hl 2 rfl) ?_
        refine lv_iconst (v := 1) hx hb dX0_swaps_36 (by decide) ?_
        refine lv_icmp_ne (tgt := 51) hx hb dX0_swaps_37 (by decide) (fun c37 => ?_) (fun c37 => ?_)
        · refine lv_iconst (v := 0) hx hb dX0_swaps_51 (by decide) ?_
          refine lv_istore_n (lv' := [(3, .int 0), (0, .ref o), (1, .int (nI n)), (2, .int k0)]) hx hb dX0_swaps_52 rfl hl (by decide) rfl (fun ls hl => ?_)
          refine lv_iconst (v := 0) hx hb dX0_swaps_53 (by decide) ?_
          refine lv_istore (lv' := [(4, .int 0), (3, .int 0), (0, .ref o), (1, .int (nI n)), (2, .int k0)]) hx hb dX0_swaps_54 hl (by decide) rfl (fun ls hl => ?_)
          have LP56 : ∀ (fu56 : Nat) (aa : Nat) (ma : Int32) (ls : Array Slot), n - aa < fu56 → aa ≤ n → ma = twC (bothB (u.2.1 6) n) aa → lv_has ls 6 [(0, .ref o), (1, .int (nI n)), (2, .int k0), (3, .int ma), (4, .int (nI aa))] → W pg l en Rm sg mm ar bw mth cd H locs 0 0 QQ (F0 mm 56 ls []) := by
            intro fu56
            induction fu56 with
            | zero => intro aa ma ls hm56 haa hma hl; exact absurd hm56 (Nat.not_lt_zero _)
            | succ fu56 ih56 =>
              intro aa ma ls hm56 haa hma hl
              refine lv_iload hx hb dX0_swaps_56 (lv_at hl 4 rfl) ?_
              refine lv_iload_n hx hb dX0_swaps_58 rfl (lv_at hl 1 rfl) ?_
              refine lv_icmp_ge (tgt := 104) hx hb dX0_swaps_59 (by decide) (fun c59 => ?_) (fun c59 => ?_)
              · have c59 : n ≤ aa := (nI_leI (a := n) (b := aa) (by omega) (by omega)).mp c59
                refine lv_iload_n hx hb dX0_swaps_104 rfl (lv_at hl 3 rfl) ?_
                exact hq _ _ _ _ _ _ _ _ dX0_swaps_105 hP hS (rfl) (by have hg : swapsG (u.1 8) (nI n) k0 = true := (by simp [swapsG, c7, c15, c25]); have hf : aa = n := (by omega); subst hf; exact ⟨by rw [swapsI, if_pos hg, if_neg c37, hnx, hma], by rw [if_pos hg]⟩) (by decide) (by decide)
              · have c59 : ¬ (n ≤ aa) := mt (nI_leI (a := n) (b := aa) (by omega) (by omega)).mpr c59
                refine lv_iconst (v := 0) hx hb dX0_swaps_62 (by decide) ?_
                refine lv_istore (lv' := [(5, .int 0), (0, .ref o), (1, .int (nI n)), (2, .int k0), (3, .int ma), (4, .int (nI aa))]) hx hb dX0_swaps_63 hl (by decide) rfl (fun ls hl => ?_)
                have LP65 : ∀ (fu65 : Nat) (kb : Nat) (mb : Int32) (ls : Array Slot), aa - kb < fu65 → kb ≤ aa → mb = twR (bothB (u.2.1 6) n) aa (twC (bothB (u.2.1 6) n) aa) kb → lv_has ls 6 [(0, .ref o), (1, .int (nI n)), (2, .int k0), (3, .int mb), (4, .int (nI aa)), (5, .int (nI kb))] → W pg l en Rm sg mm ar bw mth cd H locs 0 0 QQ (F0 mm 65 ls []) := by
                  intro fu65
                  induction fu65 with
                  | zero => intro kb mb ls hm65 hkb hmb hl; exact absurd hm65 (Nat.not_lt_zero _)
                  | succ fu65 ih65 =>
                    intro kb mb ls hm65 hkb hmb hl
                    refine lv_iload hx hb dX0_swaps_65 (lv_at hl 5 rfl) ?_
                    refine lv_iload hx hb dX0_swaps_67 (lv_at hl 4 rfl) ?_
                    refine lv_icmp_ge (tgt := 98) hx hb dX0_swaps_69 (by decide) (fun c69 => ?_) (fun c69 => ?_)
                    · have c69 : aa ≤ kb := (nI_leI (a := aa) (b := kb) (by omega) (by omega)).mp c69
                      refine lv_iinc (v := (nI (aa + 1))) (lv' := [(4, .int (nI (aa + 1))), (0, .ref o), (1, .int (nI n)), (2, .int k0), (3, .int mb), (5, .int (nI kb))]) hx hb dX0_swaps_98 hl (k := 4) rfl (nI_inc aa) (by decide) rfl (fun ls hl => ?_)
                      refine lv_goto (tgt := 56) hx hb dX0_swaps_101 (by decide) ?_
                      exact ih56 (aa + 1) mb ls (by omega) (by first | omega | assumption | rfl | (simp_all; done) | grind) (by rw [hmb, show kb = aa by omega]; rfl)  (lv_sub hl [1, 2, 3, 4, 0] rfl)
                    · have c69 : ¬ (aa ≤ kb) := mt (nI_leI (a := aa) (b := kb) (by omega) (by omega)).mpr c69
                      refine lv_iload_n hx hb dX0_swaps_72 rfl (lv_at hl 3 rfl) ?_
                      refine lv_aload_n hx hb dX0_swaps_73 rfl (lv_at hl 0 rfl) ?_
                      refine lv_iload_n hx hb dX0_swaps_74 rfl (lv_at hl 1 rfl) ?_
                      refine lv_iload hx hb dX0_swaps_75 (lv_at hl 4 rfl) ?_
                      refine lv_iload hx hb dX0_swaps_77 (lv_at hl 5 rfl) ?_
                      refine CIs.go (rcV hC hl (c_X0_wouldSwap G l o R tx (mV u 8 0) n aa kb (by first | assumption | omega | rfl | (simp_all; done)) (by first | assumption | omega | rfl | (simp_all; done)) (by first | assumption | omega | rfl | (simp_all; done))) hK hP (va_recv hK.1 hP clX0 (oS_main _ _ _ _ _)) q1131 q1133 qs40 q110 q1134 mdX0_wouldSwap (room_s hRm rfl) rfl rfl dX0_swaps_79) ?_
                      refine W_top (y := (bI (bothB (u.2.1 6) n aa kb))) rfl ?_
                      refine lv_if_eq (tgt := 89) hx hb dX0_swaps_82 (by decide) (fun c82 => ?_) (fun c82 => ?_)
                      · have c82 : (bothB (u.2.1 6) n aa kb) = false := bI_0.mp c82
                        refine lv_iconst (v := 0) hx hb dX0_swaps_89 (by decide) ?_
                        refine lv_iadd hx hb dX0_swaps_90 ?_
                        refine W_top (y := mb) (add0 _) ?_
                        refine lv_istore_n (lv' := [(3, .int mb), (0, .ref o), (1, .int (nI n)), (2, .int k0), (4, .int (nI aa)), (5, .int (nI kb))]) hx hb dX0_swaps_91 rfl hl (by decide) rfl (fun ls hl => ?_)
                        refine lv_iinc (v := (nI (kb + 1))) (lv' := [(5, .int (nI (kb + 1))), (3, .int mb), (0, .ref o), (1, .int (nI n)), (2, .int k0), (4, .int (nI aa))]) hx hb dX0_swaps_92 hl (k := 5) rfl (nI_inc kb) (by decide) rfl (fun ls hl => ?_)
                        refine lv_goto (tgt := 65) hx hb dX0_swaps_95 (by decide) ?_
                        exact ih65 (kb + 1) mb ls (by omega) (by first | omega | assumption | rfl | (simp_all; done) | grind) (by (clear hq hK hts hC hx hb ho hRm hl hP hS ih56 ih65); grind [twR])  (lv_sub hl [2, 3, 4, 1, 5, 0] rfl)
                      · have c82 : (bothB (u.2.1 6) n aa kb) = true := bI_1.mp c82
                        refine lv_iconst (v := 1) hx hb dX0_swaps_85 (by decide) ?_
                        refine lv_goto (tgt := 90) hx hb dX0_swaps_86 (by decide) ?_
                        refine lv_iadd hx hb dX0_swaps_90 ?_
                        refine lv_istore_n (lv' := [(3, .int (mb + 1)), (0, .ref o), (1, .int (nI n)), (2, .int k0), (4, .int (nI aa)), (5, .int (nI kb))]) hx hb dX0_swaps_91 rfl hl (by decide) rfl (fun ls hl => ?_)
                        refine lv_iinc (v := (nI (kb + 1))) (lv' := [(5, .int (nI (kb + 1))), (3, .int (mb + 1)), (0, .ref o), (1, .int (nI n)), (2, .int k0), (4, .int (nI aa))]) hx hb dX0_swaps_92 hl (k := 5) rfl (nI_inc kb) (by decide) rfl (fun ls hl => ?_)
                        refine lv_goto (tgt := 65) hx hb dX0_swaps_95 (by decide) ?_
                        exact ih65 (kb + 1) (mb + 1) ls (by omega) (by first | omega | assumption | rfl | (simp_all; done) | grind) (by (clear hq hK hts hC hx hb ho hRm hl hP hS ih56 ih65); grind [twR])  (lv_sub hl [2, 3, 4, 1, 5, 0] rfl)
                exact LP65 _ 0 ma ls (Nat.lt_succ_self _) (by first | omega | assumption | rfl | (simp_all; done) | grind) (hma)  (lv_sub hl [1, 2, 3, 4, 5, 0] rfl)
          exact LP56 _ 0 0 ls (Nat.lt_succ_self _) (by first | omega | assumption | rfl | (simp_all; done) | grind) (rfl)  (lv_sub hl [2, 3, 4, 1, 0] rfl)
        · refine lv_aload_n hx hb dX0_swaps_40 rfl (lv_at hl 0 rfl) ?_
          refine lv_iload_n hx hb dX0_swaps_41 rfl (lv_at hl 1 rfl) ?_
          refine lv_iconst (v := 1) hx hb dX0_swaps_42 (by decide) ?_
          refine lv_iload_n hx hb dX0_swaps_43 rfl (lv_at hl 1 rfl) ?_
          refine lv_ishl hx hb dX0_swaps_44 ?_
          refine W_top (y := (nI (2 ^ n))) (shl1 n (by omega)) ?_
          refine lv_iconst (v := 1) hx hb dX0_swaps_45 (by decide) ?_
          refine lv_isub hx hb dX0_swaps_46 ?_
          refine W_top (y := (nI (2 ^ n - 1))) (pk_sub (a := 2 ^ n) (b := 1) (Nat.two_pow_pos n)) ?_
          refine CIs.go (rcV hC hl (c_X0_mostSwaps G l o R tx (mV u 8 0) n (by omega) (by omega) 255 (2 ^ n - 1) (by have := pow_le8 hn; omega) (by have := Nat.two_pow_pos n; omega)) hK hP (va_recv hK.1 hP clX0 (oS_main _ _ _ _ _)) q1123 q1125 qs39 q110 q1126 mdX0_mostSwaps (room_s hRm rfl) rfl rfl dX0_swaps_47) ?_
          refine W_top (y := (nI (mwF (bothB (u.2.1 6) n) n (2 ^ n - 1)))) rfl ?_
          exact hq _ _ _ _ _ _ _ _ dX0_swaps_50 hP hS (rfl) (by have hg : swapsG (u.1 8) (nI n) k0 = true := (by simp [swapsG, c7, c15, c25]); exact ⟨by rw [swapsI, if_pos hg, if_pos c37, hnx], by rw [if_pos hg]⟩) (by decide) (by decide)
      · refine lv_iconst (v := (-1)) hx hb dX0_swaps_28 (by decide) ?_
        exact hq _ _ _ _ _ _ _ _ dX0_swaps_29 hP hS (rfl) (by exact ⟨by first | (simp [swapsI, swapsG, c7]; done) | (simp [swapsI, swapsG, c7, c15]; done) | (simp [swapsI, swapsG, c7, c15, c25]; done), by first | (simp [swapsG, c7]; done) | (simp [swapsG, c7, c15]; done) | (simp [swapsG, c7, c15, c25]; done)⟩) (by decide) (by decide)
set_option maxHeartbeats 4000000 in
theorem c_X0_rotas (G : GG) (l : Launch) (o : Nat) (R : Nat → Nat) (tx : Nat) (u : MS) (k0 : Int32) (hD : DwS o R) : CXl G l (PwS G o R tx) (AwS o R) yX0_rotas cX0_rotas 4 3 46 0 0 [.ref o, .int k0] (PwS G o R tx u) (fun r w => ∃ al : Nat → Nat → Int64, r = (rotasI k0) ∧ w = (mG u al)) := by
  refine CXl.mk RX0 pnX0 rfl (Nat.le_of_ble_eq_true rfl) (fun pg en Rm sg mm ar bw mth cd QQ ls hC hRm hK hX hS hl hq => ?_)
  have hx := hC.1; have hb := hC.2.1; have ho := hC.2.2.2.1; have hts := hC.2.2.2.2
  have hP : PwS G o R tx u sg.heap := hX
  have hl : lv_has ls 4 [(0, .ref o), (1, .int k0)] := hl
  refine lv_iload_n hx hb dX0_rotas_0 rfl (lv_at hl 1 rfl) ?_
  refine lv_iconst (v := 1) hx hb dX0_rotas_1 (by decide) ?_
  refine lv_bipush (v := 12) hx hb dX0_rotas_2 (by decide) ?_
  refine CIs.go (rcS hC hl (c_X0_within G l k0 1 12 ) hK trivial q385 q386 q110 q387 mdX0_within (room_s hRm rfl) rfl rfl dX0_rotas_4) ?_
  refine lv_if_ne (tgt := 14) hx hb dX0_rotas_7 (by decide) (fun c7 => ?_) (fun c7 => ?_)
  · have c7 : (inB k0 1 12) = true := bI_1.mp c7
    obtain ⟨k, hk1, hk, rfl, hkx⟩ := inB_nI2 1 12 (by decide) (by decide) c7
    have hl : lv_has ls 4 [(0, .ref o), (1, .int (nI k))] := hl
    refine lv_iconst (v := 0) hx hb dX0_rotas_14 (by decide) ?_
    refine lv_istore_n (lv' := [(2, .int 0), (0, .ref o), (1, .int (nI k))]) hx hb dX0_rotas_15 rfl hl (by decide) rfl (fun ls hl => ?_)
    have LP16 : ∀ (fu16 : Nat) (v : Nat) (w : MS) (H : Heap) (locs : List Loc) (ls : Array Slot), 13 - v < fu16 → v ≤ 13 → w = mG u w.2.2 → (∀ i, i < v → w.2.2 19 i = ryS k 0 i) → PwS G o R tx w H → va_S (AwS o R) sg.heap H locs → lv_has ls 4 [(0, .ref o), (1, .int (nI k)), (2, .int (nI v))] → W pg l en Rm sg mm ar bw mth cd H locs 0 0 QQ (F0 mm 16 ls []) := by
      intro fu16
      induction fu16 with
      | zero => intro v w H locs ls hm16 hv hw h1 hP hS hl; exact absurd hm16 (Nat.not_lt_zero _)
      | succ fu16 ih16 =>
        intro v w H locs ls hm16 hv hw h1 hP hS hl
        refine lv_iload_n hx hb dX0_rotas_16 rfl (lv_at hl 2 rfl) ?_
        refine lv_bipush (v := 12) hx hb dX0_rotas_17 (by decide) ?_
        refine lv_icmp_gt (tgt := 45) hx hb dX0_rotas_19 (by decide) (fun c19 => ?_) (fun c19 => ?_)
        · have c19 : 12 < v := (nI_ltI (a := 12) (b := v) (by omega) (by omega)).mp c19
          refine lv_iconst (v := 1) hx hb dX0_rotas_45 (by decide) ?_
          refine lv_istore_n (lv' := [(2, .int 1), (0, .ref o), (1, .int (nI k))]) hx hb dX0_rotas_46 rfl hl (by decide) rfl (fun ls hl => ?_)
          have LP47 : ∀ (fu47 : Nat) (tt : Nat) (w : MS) (H : Heap) (locs : List Loc) (ls : Array Slot), 12 - tt < fu47 → tt ≤ 12 → 1 ≤ tt → w = mG u w.2.2 → (∀ i, i ≤ 12 → w.2.2 19 i = ryS k (tt - 1) i) → PwS G o R tx w H → va_S (AwS o R) sg.heap H locs → lv_has ls 4 [(0, .ref o), (1, .int (nI k)), (2, .int (nI tt))] → W pg l en Rm sg mm ar bw mth cd H locs 0 0 QQ (F0 mm 47 ls []) := by
            intro fu47
            induction fu47 with
            | zero => intro tt w H locs ls hm47 ht ht1 hw1 h2 hP hS hl; exact absurd hm47 (Nat.not_lt_zero _)
            | succ fu47 ih47 =>
              intro tt w H locs ls hm47 ht ht1 hw1 h2 hP hS hl
              refine lv_iload_n hx hb dX0_rotas_47 rfl (lv_at hl 2 rfl) ?_
              refine lv_bipush (v := 12) hx hb dX0_rotas_48 (by decide) ?_
              refine lv_icmp_ge (tgt := 105) hx hb dX0_rotas_50 (by decide) (fun c50 => ?_) (fun c50 => ?_)
              · have c50 : 12 ≤ tt := (nI_leI (a := 12) (b := tt) (by omega) (by omega)).mp c50
                refine lv_aload_n hx hb dX0_rotas_105 rfl (lv_at hl 0 rfl) ?_
                refine S_get hC hK hP (oS_main _ _ _ _ _) clX0 in_X0 19 (by decide) (fD19 _ _ _ _) q316 dX0_rotas_106 ?_
                refine lv_iload_n hx hb dX0_rotas_109 rfl (lv_at hl 1 rfl) ?_
                refine S_lald hC hK hP (aS19 _ _ _ _ _) (j := k) (by decide) (rfl) (by omega) dX0_rotas_110 ?_
                exact hq _ _ _ _ _ _ _ _ dX0_rotas_111 hP hS (trivial) (by have hf : tt = 12 := (by omega); subst hf; exact ⟨w.2.2, by rw [rotasI, if_pos c7, hkx]; exact h2 k (by omega), hw1⟩) (by decide) (by decide)
              · have c50 : ¬ (12 ≤ tt) := mt (nI_leI (a := 12) (b := tt) (by omega) (by omega)).mpr c50
                refine lv_bipush (v := 12) hx hb dX0_rotas_53 (by decide) ?_
                refine lv_istore_n (lv' := [(3, .int 12), (0, .ref o), (1, .int (nI k)), (2, .int (nI tt))]) hx hb dX0_rotas_55 rfl hl (by decide) rfl (fun ls hl => ?_)
                have LP56 : ∀ (fu56 : Nat) (v : Nat) (w : MS) (H : Heap) (locs : List Loc) (ls : Array Slot), v < fu56 → v ≤ 12 → w = mG u w.2.2 → (∀ i, i ≤ v → w.2.2 19 i = ryS k (tt - 1) i) → (∀ i, v < i → i ≤ 12 → w.2.2 19 i = ryS k tt i) → PwS G o R tx w H → va_S (AwS o R) sg.heap H locs → lv_has ls 4 [(0, .ref o), (1, .int (nI k)), (2, .int (nI tt)), (3, .int (nI v))] → W pg l en Rm sg mm ar bw mth cd H locs 0 0 QQ (F0 mm 56 ls []) := by
                  intro fu56
                  induction fu56 with
                  | zero => intro v w H locs ls hm56 hv2 hw2 h3 h4 hP hS hl; exact absurd hm56 (Nat.not_lt_zero _)
                  | succ fu56 ih56 =>
                    intro v w H locs ls hm56 hv2 hw2 h3 h4 hP hS hl
                    refine lv_iload_n hx hb dX0_rotas_56 rfl (lv_at hl 3 rfl) ?_
                    refine lv_if_le (tgt := 99) hx hb dX0_rotas_57 (by decide) (fun c57 => ?_) (fun c57 => ?_)
                    · have c57 : v ≤ 0 := (nI_leI (a := v) (b := 0) (by omega) (by omega)).mp c57
                      refine lv_iinc (v := (nI (tt + 1))) (lv' := [(2, .int (nI (tt + 1))), (0, .ref o), (1, .int (nI k)), (3, .int (nI v))]) hx hb dX0_rotas_99 hl (k := 2) rfl (nI_inc tt) (by decide) rfl (fun ls hl => ?_)
                      refine lv_goto (tgt := 47) hx hb dX0_rotas_102 (by decide) ?_
                      exact ih47 (tt + 1) w _ _ ls (by omega) (by first | omega | assumption | rfl | (simp_all; done) | grind) (by first | omega | assumption | rfl | (simp_all; done) | grind) (hw2) (fun i hi => by (rcases Nat.eq_zero_or_pos i with rfl | q); (rw [h3 0 (by omega), ry_0, ry_0]); (rw [h4 i (by omega) hi, show tt + 1 - 1 = tt by omega])) hP hS (lv_sub hl [1, 2, 0] rfl)
                    · have c57 : ¬ (v ≤ 0) := mt (nI_leI (a := v) (b := 0) (by omega) (by omega)).mpr c57
                      refine lv_aload_n hx hb dX0_rotas_60 rfl (lv_at hl 0 rfl) ?_
                      refine S_get hC hK hP (oS_main _ _ _ _ _) clX0 in_X0 19 (by decide) (fD19 _ _ _ _) q316 dX0_rotas_61 ?_
                      refine lv_iload_n hx hb dX0_rotas_64 rfl (lv_at hl 3 rfl) ?_
                      refine lv_aload_n hx hb dX0_rotas_65 rfl (lv_at hl 0 rfl) ?_
                      refine S_get hC hK hP (oS_main _ _ _ _ _) clX0 in_X0 19 (by decide) (fD19 _ _ _ _) q316 dX0_rotas_66 ?_
                      refine lv_iload_n hx hb dX0_rotas_69 rfl (lv_at hl 3 rfl) ?_
                      refine S_lald hC hK hP (aS19 _ _ _ _ _) (j := v) (by decide) (rfl) (by omega) dX0_rotas_70 ?_
                      refine lv_iload_n hx hb dX0_rotas_71 rfl (lv_at hl 3 rfl) ?_
                      refine lv_iconst (v := 1) hx hb dX0_rotas_72 (by decide) ?_
                      refine lv_isub hx hb dX0_rotas_73 ?_
                      refine lv_i2l (v := (((nI v) - 1)).toInt64) hx hb dX0_rotas_74 rfl ?_
                      refine lv_lmul hx hb dX0_rotas_75 ?_
                      refine lv_aload_n hx hb dX0_rotas_76 rfl (lv_at hl 0 rfl) ?_
                      refine S_get hC hK hP (oS_main _ _ _ _ _) clX0 in_X0 19 (by decide) (fD19 _ _ _ _) q316 dX0_rotas_77 ?_
                      refine lv_iload_n hx hb dX0_rotas_80 rfl (lv_at hl 3 rfl) ?_
                      refine lv_iconst (v := 1) hx hb dX0_rotas_81 (by decide) ?_
                      refine lv_isub hx hb dX0_rotas_82 ?_
                      refine W_top (y := (nI (v - 1))) (pk_sub (a := v) (b := 1) (by omega)) ?_
                      refine S_lald hC hK hP (aS19 _ _ _ _ _) (j := (v - 1)) (by decide) (rfl) (by omega) dX0_rotas_83 ?_
                      refine lv_iload_n hx hb dX0_rotas_84 rfl (lv_at hl 1 rfl) ?_
                      refine lv_iload_n hx hb dX0_rotas_85 rfl (lv_at hl 3 rfl) ?_
                      refine lv_isub hx hb dX0_rotas_86 ?_
                      refine lv_iconst (v := 1) hx hb dX0_rotas_87 (by decide) ?_
                      refine lv_iadd hx hb dX0_rotas_88 ?_
                      refine lv_i2l (v := ((((nI k) - (nI v)) + 1)).toInt64) hx hb dX0_rotas_89 rfl ?_
                      refine lv_lmul hx hb dX0_rotas_90 ?_
                      refine lv_ladd hx hb dX0_rotas_91 ?_
                      refine S_last hC hK hP (hD _ _ _) hS (aS19 _ _ _ _ _) (bS19 _ _ _ _ _ _ _) (j := v) (by decide) (rfl) (by omega) dX0_rotas_92 (fun H locs hP hS => ?_)
                      refine lv_iinc (v := (nI (v - 1))) (lv' := [(3, .int (nI (v - 1))), (0, .ref o), (1, .int (nI k)), (2, .int (nI tt))]) hx hb dX0_rotas_93 hl (k := 3) rfl (nI_pr (by omega)) (by decide) rfl (fun ls hl => ?_)
                      refine lv_goto (tgt := 56) hx hb dX0_rotas_96 (by decide) ?_
                      exact ih56 (v - 1) (mL w 19 v (((w.2.2 19 v) * (((nI v) - 1)).toInt64) + ((w.2.2 19 (v - 1)) * ((((nI k) - (nI v)) + 1)).toInt64))) _ _ ls (by omega) (by first | omega | assumption | rfl | (simp_all; done) | grind) (by rw [hw2]; rfl) (by intro i hi; rw [mL_3, if_pos rfl, pk_uLn (by omega)]; exact h3 i (by omega)) (by intro i hi hi2; rw [mL_3, if_pos rfl]; obtain ⟨t0, rfl⟩ : ∃ t0, tt = t0 + 1 := ⟨tt - 1, by omega⟩; by_cases e : i = v; (subst e; rw [pk_uLs]; show _ = (if i = 0 then _ else _); rw [if_neg (by omega), h3 i (by omega), h3 (i - 1) (by omega)]; rfl); (rw [pk_uLn e]; exact h4 i (by omega) hi2)) hP hS (lv_sub hl [1, 2, 3, 0] rfl)
                exact LP56 _ 12 w _ _ ls (Nat.lt_succ_self _) (by first | omega | assumption | rfl | (simp_all; done) | grind) (hw1) (h2) (fun i h1 h2 => absurd h1 (by omega)) hP hS (lv_sub hl [1, 2, 3, 0] rfl)
          exact LP47 _ 1 w _ _ ls (Nat.lt_succ_self _) (by first | omega | assumption | rfl | (simp_all; done) | grind) (by first | omega | assumption | rfl | (simp_all; done) | grind) (hw) (fun i hi => h1 i (by omega)) hP hS (lv_sub hl [1, 2, 0] rfl)
        · have c19 : ¬ (12 < v) := mt (nI_ltI (a := 12) (b := v) (by omega) (by omega)).mpr c19
          refine lv_aload_n hx hb dX0_rotas_22 rfl (lv_at hl 0 rfl) ?_
          refine S_get hC hK hP (oS_main _ _ _ _ _) clX0 in_X0 19 (by decide) (fD19 _ _ _ _) q316 dX0_rotas_23 ?_
          refine lv_iload_n hx hb dX0_rotas_26 rfl (lv_at hl 2 rfl) ?_
          refine lv_iload_n hx hb dX0_rotas_27 rfl (lv_at hl 2 rfl) ?_
          refine lv_iconst (v := 1) hx hb dX0_rotas_28 (by decide) ?_
          refine lv_icmp_ne (tgt := 37) hx hb dX0_rotas_29 (by decide) (fun c29 => ?_) (fun c29 => ?_)
          · have c29 : ¬ (v = 1) := mt (nI_eq (a := v) (b := 1) (by omega) (by omega)).mpr c29
            refine lv_lconst (v := 0) hx hb dX0_rotas_37 (by decide) ?_
            refine S_last hC hK hP (hD _ _ _) hS (aS19 _ _ _ _ _) (bS19 _ _ _ _ _ _ _) (j := v) (by decide) (rfl) (by omega) dX0_rotas_38 (fun H locs hP hS => ?_)
            refine lv_iinc (v := (nI (v + 1))) (lv' := [(2, .int (nI (v + 1))), (0, .ref o), (1, .int (nI k))]) hx hb dX0_rotas_39 hl (k := 2) rfl (nI_inc v) (by decide) rfl (fun ls hl => ?_)
            refine lv_goto (tgt := 16) hx hb dX0_rotas_42 (by decide) ?_
            exact ih16 (v + 1) (mL w 19 v 0) _ _ ls (by omega) (by first | omega | assumption | rfl | (simp_all; done) | grind) (by rw [hw]; rfl) (by intro i hi; rw [mL_3, if_pos rfl]; by_cases e : i = v; (subst e; rw [pk_uLs]; show _ = (if i = 1 then _ else _); first | rw [if_pos c29] | rw [if_neg c29]); (rw [pk_uLn e]; exact h1 i (by omega))) hP hS (lv_sub hl [1, 2, 0] rfl)
          · have c29 : v = 1 := (nI_eq (a := v) (b := 1) (by omega) (by omega)).mp c29
            refine lv_iload_n hx hb dX0_rotas_32 rfl (lv_at hl 1 rfl) ?_
            refine lv_i2l (v := ((nI k)).toInt64) hx hb dX0_rotas_33 rfl ?_
            refine lv_goto (tgt := 38) hx hb dX0_rotas_34 (by decide) ?_
            refine S_last hC hK hP (hD _ _ _) hS (aS19 _ _ _ _ _) (bS19 _ _ _ _ _ _ _) (j := v) (by decide) (rfl) (by omega) dX0_rotas_38 (fun H locs hP hS => ?_)
            refine lv_iinc (v := (nI (v + 1))) (lv' := [(2, .int (nI (v + 1))), (0, .ref o), (1, .int (nI k))]) hx hb dX0_rotas_39 hl (k := 2) rfl (nI_inc v) (by decide) rfl (fun ls hl => ?_)
            refine lv_goto (tgt := 16) hx hb dX0_rotas_42 (by decide) ?_
            exact ih16 (v + 1) (mL w 19 v (((nI k)).toInt64)) _ _ ls (by omega) (by first | omega | assumption | rfl | (simp_all; done) | grind) (by rw [hw]; rfl) (by intro i hi; rw [mL_3, if_pos rfl]; by_cases e : i = v; (subst e; rw [pk_uLs]; show _ = (if i = 1 then _ else _); first | rw [if_pos c29] | rw [if_neg c29]); (rw [pk_uLn e]; exact h1 i (by omega))) hP hS (lv_sub hl [1, 2, 0] rfl)
    exact LP16 _ 0 u _ _ ls (Nat.lt_succ_self _) (by first | omega | assumption | rfl | (simp_all; done) | grind) (rfl) (fun i hi => absurd hi (Nat.not_lt_zero i)) hP hS (lv_sub hl [1, 2, 0] rfl)
  · have c7 : (inB k0 1 12) = false := bI_0.mp c7
    refine lv_ldc2 (own := RX0) hx hb ho (hts _ q1151) dX0_rotas_10 ?_
    exact hq _ _ _ _ _ _ _ _ dX0_rotas_13 hP hS (trivial) (by exact ⟨u.2.2, by simp [rotasI, c7], rfl⟩) (by decide) (by decide)
set_option maxHeartbeats 4000000 in
theorem c_X0_areClear (G : GG) (l : Launch) (o : Nat) (R : Nat → Nat) (tx : Nat) (u : MS) (t : Nat) (b : Nat) (a : Nat) (c : Nat) (hb6 : b < 6) (hc6 : c < 6) (htb : t ≤ b) (hac : a ≤ c) : CIs G l yX0_areClear cX0_areClear 7 .boolean 3 45 [.ref o, .int (nI t), .int (nI b), .int (nI a), .int (nI c)] (PwS G o R tx u) (bI (rrC (u.2.1 6) t b a c)) := by
  refine CIs.mk RX0 pnX0 rfl (bI_nar _) (Nat.le_of_ble_eq_true rfl) (fun pg en Rm sg mm ar bw mth cd QQ ls hC hRm hK hX hl hq => ?_)
  have hx := hC.1; have hb := hC.2.1; have ho := hC.2.2.2.1; have hts := hC.2.2.2.2
  have hP : PwS G o R tx u sg.heap := hX
  have hl : lv_has ls 7 [(0, .ref o), (1, .int (nI t)), (2, .int (nI b)), (3, .int (nI a)), (4, .int (nI c))] := hl
  refine lv_iload_n hx hb dX0_areClear_0 rfl (lv_at hl 1 rfl) ?_
  refine lv_istore (lv' := [(5, .int (nI t)), (0, .ref o), (1, .int (nI t)), (2, .int (nI b)), (3, .int (nI a)), (4, .int (nI c))]) hx hb dX0_areClear_1 hl (by decide) rfl (fun ls hl => ?_)
  have LP3 : ∀ (fu3 : Nat) (y : Nat) (ls : Array Slot), b + 1 - y < fu3 → y ≤ b + 1 → t ≤ y → allC (fun i => clearR (ocN (u.2.1 6) (t + i)) a c) (y - t) = true → lv_has ls 7 [(0, .ref o), (1, .int (nI t)), (2, .int (nI b)), (3, .int (nI a)), (4, .int (nI c)), (5, .int (nI y))] → W pg l en Rm sg mm ar bw mth cd sg.heap [] 0 0 QQ (F0 mm 3 ls []) := by
    intro fu3
    induction fu3 with
    | zero => intro y ls hm3 hyy hty h1 hl; exact absurd hm3 (Nat.not_lt_zero _)
    | succ fu3 ih3 =>
      intro y ls hm3 hyy hty h1 hl
      refine lv_iload hx hb dX0_areClear_3 (lv_at hl 5 rfl) ?_
      refine lv_iload_n hx hb dX0_areClear_5 rfl (lv_at hl 2 rfl) ?_
      refine lv_icmp_gt (tgt := 47) hx hb dX0_areClear_6 (by decide) (fun c6 => ?_) (fun c6 => ?_)
      · have c6 : b < y := (nI_ltI (a := b) (b := y) (by omega) (by omega)).mp c6
        refine lv_iconst (v := 1) hx hb dX0_areClear_47 (by decide) ?_
        exact hq _ _ _ dX0_areClear_48 (by rw [rrC, show b + 1 - t = y - t by omega, h1]; rfl)
      · have c6 : ¬ (b < y) := mt (nI_ltI (a := b) (b := y) (by omega) (by omega)).mpr c6
        refine lv_iload_n hx hb dX0_areClear_9 rfl (lv_at hl 3 rfl) ?_
        refine lv_istore (lv' := [(6, .int (nI a)), (0, .ref o), (1, .int (nI t)), (2, .int (nI b)), (3, .int (nI a)), (4, .int (nI c)), (5, .int (nI y))]) hx hb dX0_areClear_10 hl (by decide) rfl (fun ls hl => ?_)
        have LP12 : ∀ (fu12 : Nat) (x : Nat) (ls : Array Slot), c + 1 - x < fu12 → x ≤ c + 1 → a ≤ x → allC (fun i => !(ocN (u.2.1 6) y).testBit (a + i)) (x - a) = true → lv_has ls 7 [(0, .ref o), (1, .int (nI t)), (2, .int (nI b)), (3, .int (nI a)), (4, .int (nI c)), (5, .int (nI y)), (6, .int (nI x))] → W pg l en Rm sg mm ar bw mth cd sg.heap [] 0 0 QQ (F0 mm 12 ls []) := by
          intro fu12
          induction fu12 with
          | zero => intro x ls hm12 hxx hax h2 hl; exact absurd hm12 (Nat.not_lt_zero _)
          | succ fu12 ih12 =>
            intro x ls hm12 hxx hax h2 hl
            refine lv_iload hx hb dX0_areClear_12 (lv_at hl 6 rfl) ?_
            refine lv_iload hx hb dX0_areClear_14 (lv_at hl 4 rfl) ?_
            refine lv_icmp_gt (tgt := 41) hx hb dX0_areClear_16 (by decide) (fun c16 => ?_) (fun c16 => ?_)
            · have c16 : c < x := (nI_ltI (a := c) (b := x) (by omega) (by omega)).mp c16
              refine lv_iinc (v := (nI (y + 1))) (lv' := [(5, .int (nI (y + 1))), (0, .ref o), (1, .int (nI t)), (2, .int (nI b)), (3, .int (nI a)), (4, .int (nI c)), (6, .int (nI x))]) hx hb dX0_areClear_41 hl (k := 5) rfl (nI_inc y) (by decide) rfl (fun ls hl => ?_)
              refine lv_goto (tgt := 3) hx hb dX0_areClear_44 (by decide) ?_
              exact ih3 (y + 1) ls (by omega) (by first | omega | assumption | rfl | (simp_all; done) | grind) (by first | omega | assumption | rfl | (simp_all; done) | grind) (by rw [show y + 1 - t = (y - t) + 1 by omega]; show (allC _ _ && clearR (ocN (u.2.1 6) (t + (y - t))) a c) = true; rw [h1, show t + (y - t) = y by omega]; show (true && allC _ (c + 1 - a)) = true; rw [show c + 1 - a = x - a by omega, h2]; rfl)  (lv_sub hl [1, 2, 3, 4, 5, 0] rfl)
            · have c16 : ¬ (c < x) := mt (nI_ltI (a := c) (b := x) (by omega) (by omega)).mpr c16
              refine lv_aload_n hx hb dX0_areClear_19 rfl (lv_at hl 0 rfl) ?_
              refine lv_iload hx hb dX0_areClear_20 (lv_at hl 5 rfl) ?_
              refine CIs.go (rcV hC hl (c_X0_fed G l o R tx u y (by first | assumption | omega | rfl | (simp_all; done))) hK hP (va_recv hK.1 hP clX0 (oS_main _ _ _ _ _)) q1084 q1086 qs35 q110 q1087 mdX0_fed (room_s hRm rfl) rfl rfl dX0_areClear_22) ?_
              refine lv_iload hx hb dX0_areClear_25 (lv_at hl 6 rfl) ?_
              refine CIs.go (rcS hC hl (c_X0_has G l (nI (ocN (u.2.1 6) y)) (nI x) ) hK trivial q1036 q1037 q110 q1038 mdX0_has (room_s hRm rfl) rfl rfl dX0_areClear_27) ?_
              refine lv_if_eq (tgt := 35) hx hb dX0_areClear_30 (by decide) (fun c30 => ?_) (fun c30 => ?_)
              · have c30 : (hasB (nI (ocN (u.2.1 6) y)) (nI x)) = false := bI_0.mp c30
                rw [hasB_nI _ (by omega)] at c30
                refine lv_iinc (v := (nI (x + 1))) (lv' := [(6, .int (nI (x + 1))), (0, .ref o), (1, .int (nI t)), (2, .int (nI b)), (3, .int (nI a)), (4, .int (nI c)), (5, .int (nI y))]) hx hb dX0_areClear_35 hl (k := 6) rfl (nI_inc x) (by decide) rfl (fun ls hl => ?_)
                refine lv_goto (tgt := 12) hx hb dX0_areClear_38 (by decide) ?_
                exact ih12 (x + 1) ls (by omega) (by first | omega | assumption | rfl | (simp_all; done) | grind) (by first | omega | assumption | rfl | (simp_all; done) | grind) (by rw [show x + 1 - a = (x - a) + 1 by omega]; show (allC _ _ && !(ocN (u.2.1 6) y).testBit (a + (x - a))) = true; rw [h2, show a + (x - a) = x by omega, c30]; rfl)  (lv_sub hl [1, 2, 3, 4, 5, 6, 0] rfl)
              · have c30 : (hasB (nI (ocN (u.2.1 6) y)) (nI x)) = true := bI_1.mp c30
                rw [hasB_nI _ (by omega)] at c30
                refine lv_iconst (v := 0) hx hb dX0_areClear_33 (by decide) ?_
                exact hq _ _ _ dX0_areClear_34 (by rw [rrC, allC_f (k := y - t) (by omega) (by rw [show t + (y - t) = y by omega, clearR, allC_f (k := x - a) (by omega) (by rw [show a + (x - a) = x by omega, c30]; rfl)])]; rfl)
        exact LP12 _ a ls (Nat.lt_succ_self _) (by first | omega | assumption | rfl | (simp_all; done) | grind) (by first | omega | assumption | rfl | (simp_all; done) | grind) (by rw [Nat.sub_self]; rfl)  (lv_sub hl [1, 2, 3, 4, 5, 6, 0] rfl)
  exact LP3 _ t ls (Nat.lt_succ_self _) (by first | omega | assumption | rfl | (simp_all; done) | grind) (by first | omega | assumption | rfl | (simp_all; done) | grind) (by rw [Nat.sub_self]; rfl)  (lv_sub hl [1, 2, 3, 4, 5, 0] rfl)
set_option maxHeartbeats 4000000 in
theorem c_X0_panes (G : GG) (l : Launch) (o : Nat) (R : Nat → Nat) (tx : Nat) (u : MS) (n0 : Int32) (w0 : Int32) (hD : DwS o R) : CXi G l (PwS G o R tx) (AwS o R) yX0_panes cX0_panes 8 .int 4 71 0 0 [.ref o, .int n0, .int w0] (PwS G o R tx u) (fun r w => r = (panesI (u.2.1 6) (u.1 8) n0 w0) ∧ w = (if panesG (u.1 8) n0 w0 = true then mV u 8 0 else u)) := by
  refine CXi.mk RX0 pnX0 rfl (Nat.le_of_ble_eq_true rfl) (fun pg en Rm sg mm ar bw mth cd QQ ls hC hRm hK hX hS hl hq => ?_)
  have hx := hC.1; have hb := hC.2.1; have ho := hC.2.2.2.1; have hts := hC.2.2.2.2
  have hP : PwS G o R tx u sg.heap := hX
  have hl : lv_has ls 8 [(0, .ref o), (1, .int n0), (2, .int w0)] := hl
  refine lv_iload_n hx hb dX0_panes_0 rfl (lv_at hl 1 rfl) ?_
  refine lv_iconst (v := 1) hx hb dX0_panes_1 (by decide) ?_
  refine lv_bipush (v := 6) hx hb dX0_panes_2 (by decide) ?_
  refine CIs.go (rcS hC hl (c_X0_within G l n0 1 6 ) hK trivial q385 q386 q110 q387 mdX0_within (room_s hRm rfl) rfl rfl dX0_panes_4) ?_
  refine lv_if_eq (tgt := 28) hx hb dX0_panes_7 (by decide) (fun c7 => ?_) (fun c7 => ?_)
  · have c7 : (inB n0 1 6) = false := bI_0.mp c7
    refine lv_iconst (v := (-1)) hx hb dX0_panes_28 (by decide) ?_
    exact hq _ _ _ _ _ _ _ _ dX0_panes_29 hP hS (rfl) (by exact ⟨by first | (simp [panesI, panesG, c7]; done) | (simp [panesI, panesG, c7, c17]; done) | (simp [panesI, panesG, c7, c17, c25]; done), by first | (simp [panesG, c7]; done) | (simp [panesG, c7, c17]; done) | (simp [panesG, c7, c17, c25]; done)⟩) (by decide) (by decide)
  · have c7 : (inB n0 1 6) = true := bI_1.mp c7
    obtain ⟨n, hn1, hn, rfl, hnx⟩ := inB_nI2 1 6 (by decide) (by decide) c7
    have hl : lv_has ls 8 [(0, .ref o), (1, .int (nI n)), (2, .int w0)] := hl
    refine lv_iload_n hx hb dX0_panes_10 rfl (lv_at hl 2 rfl) ?_
    refine lv_iconst (v := 1) hx hb dX0_panes_11 (by decide) ?_
    refine lv_bipush (v := 6) hx hb dX0_panes_12 (by decide) ?_
    refine CIs.go (rcS hC hl (c_X0_within G l w0 1 6 ) hK trivial q385 q386 q110 q387 mdX0_within (room_s hRm rfl) rfl rfl dX0_panes_14) ?_
    refine lv_if_eq (tgt := 28) hx hb dX0_panes_17 (by decide) (fun c17 => ?_) (fun c17 => ?_)
    · have c17 : (inB w0 1 6) = false := bI_0.mp c17
      refine lv_iconst (v := (-1)) hx hb dX0_panes_28 (by decide) ?_
      exact hq _ _ _ _ _ _ _ _ dX0_panes_29 hP hS (rfl) (by exact ⟨by first | (simp [panesI, panesG, c7]; done) | (simp [panesI, panesG, c7, c17]; done) | (simp [panesI, panesG, c7, c17, c25]; done), by first | (simp [panesG, c7]; done) | (simp [panesG, c7, c17]; done) | (simp [panesG, c7, c17, c25]; done)⟩) (by decide) (by decide)
    · have c17 : (inB w0 1 6) = true := bI_1.mp c17
      obtain ⟨wd, hwd1, hwd, rfl, hwdx⟩ := inB_nI2 1 6 (by decide) (by decide) c17
      have hl : lv_has ls 8 [(0, .ref o), (1, .int (nI n)), (2, .int (nI wd))] := hl
      refine lv_iload_n hx hb dX0_panes_20 rfl (lv_at hl 1 rfl) ?_
      refine lv_aload_n hx hb dX0_panes_21 rfl (lv_at hl 0 rfl) ?_
      refine S_get (v := .int (u.1 8)) hC hK hP (oS_main _ _ _ _ _) clX0 in_X0 8 (by decide) (fD8 _ _ _ _) q305 dX0_panes_22 ?_
      refine lv_icmp_le (tgt := 30) hx hb dX0_panes_25 (by decide) (fun c25 => ?_) (fun c25 => ?_)
      · refine lv_aload_n hx hb dX0_panes_30 rfl (lv_at hl 0 rfl) ?_
        refine lv_iconst (v := 0) hx hb dX0_panes_31 (by decide) ?_
        refine S_put hC hK hP (hD _ _ _) hS (oS_main _ _ _ _ _) clX0 in_X0 tyX0_ok nmX0 8 (by decide) (pS8 _ _ _ _ _ _) q305 rfl rfl rfl rfl (Nat.le_of_ble_eq_true rfl) dX0_panes_32 (fun H locs hP hS => ?_)
        refine lv_iconst (v := 0) hx hb dX0_panes_35 (by decide) ?_
        refine lv_istore_n (lv' := [(3, .int 0), (0, .ref o), (1, .int (nI n)), (2, .int (nI wd))]) hx hb dX0_panes_36 rfl hl (by decide) rfl (fun ls hl => ?_)
        refine lv_iconst (v := 0) hx hb dX0_panes_37 (by decide) ?_
        refine lv_istore (lv' := [(4, .int 0), (3, .int 0), (0, .ref o), (1, .int (nI n)), (2, .int (nI wd))]) hx hb dX0_panes_38 hl (by decide) rfl (fun ls hl => ?_)
        have LP40 : ∀ (fu40 : Nat) (tp : Nat) (m1 : Nat) (ls : Array Slot), n - tp < fu40 → tp ≤ n → m1 = (px1 (u.2.1 6) n wd tp) → lv_has ls 8 [(0, .ref o), (1, .int (nI n)), (2, .int (nI wd)), (3, .int (nI m1)), (4, .int (nI tp))] → W pg l en Rm sg mm ar bw mth cd H locs 0 0 QQ (F0 mm 40 ls []) := by
          intro fu40
          induction fu40 with
          | zero => intro tp m1 ls hm40 htp hm1 hl; exact absurd hm40 (Nat.not_lt_zero _)
          | succ fu40 ih40 =>
            intro tp m1 ls hm40 htp hm1 hl
            refine lv_iload hx hb dX0_panes_40 (lv_at hl 4 rfl) ?_
            refine lv_iload_n hx hb dX0_panes_42 rfl (lv_at hl 1 rfl) ?_
            refine lv_icmp_ge (tgt := 134) hx hb dX0_panes_43 (by decide) (fun c43 => ?_) (fun c43 => ?_)
            · have c43 : n ≤ tp := (nI_leI (a := n) (b := tp) (by omega) (by omega)).mp c43
              refine lv_iload_n hx hb dX0_panes_134 rfl (lv_at hl 3 rfl) ?_
              exact hq _ _ _ _ _ _ _ _ dX0_panes_135 hP hS (rfl) (by have hg : panesG (u.1 8) (nI n) (nI wd) = true := (by simp [panesG, c7, c17, c25]); exact ⟨by rw [panesI, if_pos hg, hnx, hwdx, ← panes_eq (by omega), hm1, show tp = n by omega], by rw [if_pos hg]⟩) (by decide) (by decide)
            · have c43 : ¬ (n ≤ tp) := mt (nI_leI (a := n) (b := tp) (by omega) (by omega)).mpr c43
              refine lv_iload hx hb dX0_panes_46 (lv_at hl 4 rfl) ?_
              refine lv_istore (lv' := [(5, .int (nI tp)), (0, .ref o), (1, .int (nI n)), (2, .int (nI wd)), (3, .int (nI m1)), (4, .int (nI tp))]) hx hb dX0_panes_48 hl (by decide) rfl (fun ls hl => ?_)
              have LP50 : ∀ (fu50 : Nat) (bt : Nat) (m2 : Nat) (ls : Array Slot), n - bt < fu50 → bt ≤ n → tp ≤ bt → m2 = (px2 (u.2.1 6) wd tp (px1 (u.2.1 6) n wd tp) (bt - tp)) → lv_has ls 8 [(0, .ref o), (1, .int (nI n)), (2, .int (nI wd)), (3, .int (nI m2)), (4, .int (nI tp)), (5, .int (nI bt))] → W pg l en Rm sg mm ar bw mth cd H locs 0 0 QQ (F0 mm 50 ls []) := by
                intro fu50
                induction fu50 with
                | zero => intro bt m2 ls hm50 hbt htb hm2 hl; exact absurd hm50 (Nat.not_lt_zero _)
                | succ fu50 ih50 =>
                  intro bt m2 ls hm50 hbt htb hm2 hl
                  refine lv_iload hx hb dX0_panes_50 (lv_at hl 5 rfl) ?_
                  refine lv_iload_n hx hb dX0_panes_52 rfl (lv_at hl 1 rfl) ?_
                  refine lv_icmp_ge (tgt := 128) hx hb dX0_panes_53 (by decide) (fun c53 => ?_) (fun c53 => ?_)
                  · have c53 : n ≤ bt := (nI_leI (a := n) (b := bt) (by omega) (by omega)).mp c53
                    refine lv_iinc (v := (nI (tp + 1))) (lv' := [(4, .int (nI (tp + 1))), (0, .ref o), (1, .int (nI n)), (2, .int (nI wd)), (3, .int (nI m2)), (5, .int (nI bt))]) hx hb dX0_panes_128 hl (k := 4) rfl (nI_inc tp) (by decide) rfl (fun ls hl => ?_)
                    refine lv_goto (tgt := 40) hx hb dX0_panes_131 (by decide) ?_
                    exact ih40 (tp + 1) m2 ls (by omega) (by first | omega | assumption | rfl | (simp_all; done) | grind) (by rw [hm2, show bt = n by omega]; rfl)  (lv_sub hl [1, 2, 3, 4, 0] rfl)
                  · have c53 : ¬ (n ≤ bt) := mt (nI_leI (a := n) (b := bt) (by omega) (by omega)).mpr c53
                    refine lv_iconst (v := 0) hx hb dX0_panes_56 (by decide) ?_
                    refine lv_istore (lv' := [(6, .int 0), (0, .ref o), (1, .int (nI n)), (2, .int (nI wd)), (3, .int (nI m2)), (4, .int (nI tp)), (5, .int (nI bt))]) hx hb dX0_panes_57 hl (by decide) rfl (fun ls hl => ?_)
                    have LP59 : ∀ (fu59 : Nat) (lf : Nat) (m3 : Nat) (ls : Array Slot), wd - lf < fu59 → lf ≤ wd → m3 = (px3 (u.2.1 6) tp bt wd (px2 (u.2.1 6) wd tp (px1 (u.2.1 6) n wd tp) (bt - tp)) lf) → lv_has ls 8 [(0, .ref o), (1, .int (nI n)), (2, .int (nI wd)), (3, .int (nI m3)), (4, .int (nI tp)), (5, .int (nI bt)), (6, .int (nI lf))] → W pg l en Rm sg mm ar bw mth cd H locs 0 0 QQ (F0 mm 59 ls []) := by
                      intro fu59
                      induction fu59 with
                      | zero => intro lf m3 ls hm59 hlf hm3 hl; exact absurd hm59 (Nat.not_lt_zero _)
                      | succ fu59 ih59 =>
                        intro lf m3 ls hm59 hlf hm3 hl
                        refine lv_iload hx hb dX0_panes_59 (lv_at hl 6 rfl) ?_
                        refine lv_iload_n hx hb dX0_panes_61 rfl (lv_at hl 2 rfl) ?_
                        refine lv_icmp_ge (tgt := 122) hx hb dX0_panes_62 (by decide) (fun c62 => ?_) (fun c62 => ?_)
                        · have c62 : wd ≤ lf := (nI_leI (a := wd) (b := lf) (by omega) (by omega)).mp c62
                          refine lv_iinc (v := (nI (bt + 1))) (lv' := [(5, .int (nI (bt + 1))), (0, .ref o), (1, .int (nI n)), (2, .int (nI wd)), (3, .int (nI m3)), (4, .int (nI tp)), (6, .int (nI lf))]) hx hb dX0_panes_122 hl (k := 5) rfl (nI_inc bt) (by decide) rfl (fun ls hl => ?_)
                          refine lv_goto (tgt := 50) hx hb dX0_panes_125 (by decide) ?_
                          exact ih50 (bt + 1) m3 ls (by omega) (by first | omega | assumption | rfl | (simp_all; done) | grind) (by first | omega | assumption | rfl | (simp_all; done) | grind) (by rw [hm3, show bt + 1 - tp = (bt - tp) + 1 by omega]; show _ = px3 _ _ (tp + (bt - tp)) _ _ _; rw [show tp + (bt - tp) = bt by omega, show lf = wd by omega])  (lv_sub hl [1, 2, 3, 4, 5, 0] rfl)
                        · have c62 : ¬ (wd ≤ lf) := mt (nI_leI (a := wd) (b := lf) (by omega) (by omega)).mpr c62
                          refine lv_iload hx hb dX0_panes_65 (lv_at hl 6 rfl) ?_
                          refine lv_istore (lv' := [(7, .int (nI lf)), (0, .ref o), (1, .int (nI n)), (2, .int (nI wd)), (3, .int (nI m3)), (4, .int (nI tp)), (5, .int (nI bt)), (6, .int (nI lf))]) hx hb dX0_panes_67 hl (by decide) rfl (fun ls hl => ?_)
                          have LP69 : ∀ (fu69 : Nat) (rg : Nat) (m4 : Nat) (ls : Array Slot), wd - rg < fu69 → rg ≤ wd → lf ≤ rg → m4 = (px4 (u.2.1 6) tp bt lf (px3 (u.2.1 6) tp bt wd (px2 (u.2.1 6) wd tp (px1 (u.2.1 6) n wd tp) (bt - tp)) lf) (rg - lf)) → lv_has ls 8 [(0, .ref o), (1, .int (nI n)), (2, .int (nI wd)), (3, .int (nI m4)), (4, .int (nI tp)), (5, .int (nI bt)), (6, .int (nI lf)), (7, .int (nI rg))] → W pg l en Rm sg mm ar bw mth cd H locs 0 0 QQ (F0 mm 69 ls []) := by
                            intro fu69
                            induction fu69 with
                            | zero => intro rg m4 ls hm69 hrg hlr hm4 hl; exact absurd hm69 (Nat.not_lt_zero _)
                            | succ fu69 ih69 =>
                              intro rg m4 ls hm69 hrg hlr hm4 hl
                              refine lv_iload hx hb dX0_panes_69 (lv_at hl 7 rfl) ?_
                              refine lv_iload_n hx hb dX0_panes_71 rfl (lv_at hl 2 rfl) ?_
                              refine lv_icmp_ge (tgt := 116) hx hb dX0_panes_72 (by decide) (fun c72 => ?_) (fun c72 => ?_)
                              · have c72 : wd ≤ rg := (nI_leI (a := wd) (b := rg) (by omega) (by omega)).mp c72
                                refine lv_iinc (v := (nI (lf + 1))) (lv' := [(6, .int (nI (lf + 1))), (0, .ref o), (1, .int (nI n)), (2, .int (nI wd)), (3, .int (nI m4)), (4, .int (nI tp)), (5, .int (nI bt)), (7, .int (nI rg))]) hx hb dX0_panes_116 hl (k := 6) rfl (nI_inc lf) (by decide) rfl (fun ls hl => ?_)
                                refine lv_goto (tgt := 59) hx hb dX0_panes_119 (by decide) ?_
                                exact ih59 (lf + 1) m4 ls (by omega) (by first | omega | assumption | rfl | (simp_all; done) | grind) (by rw [hm4, show rg = wd by omega]; rfl)  (lv_sub hl [1, 2, 3, 4, 5, 6, 0] rfl)
                              · have c72 : ¬ (wd ≤ rg) := mt (nI_leI (a := wd) (b := rg) (by omega) (by omega)).mpr c72
                                refine lv_aload_n hx hb dX0_panes_75 rfl (lv_at hl 0 rfl) ?_
                                refine lv_iload hx hb dX0_panes_76 (lv_at hl 4 rfl) ?_
                                refine lv_iload hx hb dX0_panes_78 (lv_at hl 5 rfl) ?_
                                refine lv_iload hx hb dX0_panes_80 (lv_at hl 6 rfl) ?_
                                refine lv_iload hx hb dX0_panes_82 (lv_at hl 7 rfl) ?_
                                refine CIs.go (rcV hC hl (c_X0_areClear G l o R tx (mV u 8 0) tp bt lf rg (by omega) (by omega) (by omega) (by omega)) hK hP (va_recv hK.1 hP clX0 (oS_main _ _ _ _ _)) q1156 q1158 qs43 q110 q1159 mdX0_areClear (room_s hRm rfl) rfl rfl dX0_panes_84) ?_
                                refine W_top (y := (bI (rrC (u.2.1 6) tp bt lf rg))) rfl ?_
                                refine lv_if_eq (tgt := 110) hx hb dX0_panes_87 (by decide) (fun c87 => ?_) (fun c87 => ?_)
                                · have c87 : (rrC (u.2.1 6) tp bt lf rg) = false := bI_0.mp c87
                                  refine lv_iinc (v := (nI (rg + 1))) (lv' := [(7, .int (nI (rg + 1))), (0, .ref o), (1, .int (nI n)), (2, .int (nI wd)), (3, .int (nI m4)), (4, .int (nI tp)), (5, .int (nI bt)), (6, .int (nI lf))]) hx hb dX0_panes_110 hl (k := 7) rfl (nI_inc rg) (by decide) rfl (fun ls hl => ?_)
                                  refine lv_goto (tgt := 69) hx hb dX0_panes_113 (by decide) ?_
                                  exact ih69 (rg + 1) m4 ls (by omega) (by first | omega | assumption | rfl | (simp_all; done) | grind) (by first | omega | assumption | rfl | (simp_all; done) | grind) (by rw [show rg + 1 - lf = (rg - lf) + 1 by omega]; show _ = (if rrC _ _ _ _ (lf + (rg - lf)) = true then _ else _); rw [show lf + (rg - lf) = rg by omega]; first | (rw [if_pos c87, hm4]; done) | (rw [if_neg (by rw [c87]; decide), hm4]))  (lv_sub hl [1, 2, 3, 4, 5, 6, 7, 0] rfl)
                                · have c87 : (rrC (u.2.1 6) tp bt lf rg) = true := bI_1.mp c87
                                  refine lv_iload_n hx hb dX0_panes_90 rfl (lv_at hl 3 rfl) ?_
                                  refine lv_iload hx hb dX0_panes_91 (lv_at hl 5 rfl) ?_
                                  refine lv_iload hx hb dX0_panes_93 (lv_at hl 4 rfl) ?_
                                  refine lv_isub hx hb dX0_panes_95 ?_
                                  refine W_top (y := (nI (bt - tp))) (pk_sub (by omega)) ?_
                                  refine lv_iconst (v := 1) hx hb dX0_panes_96 (by decide) ?_
                                  refine lv_iadd hx hb dX0_panes_97 ?_
                                  refine W_top (nI_add (bt - tp) 1) ?_
                                  refine lv_iload hx hb dX0_panes_98 (lv_at hl 7 rfl) ?_
                                  refine lv_iload hx hb dX0_panes_100 (lv_at hl 6 rfl) ?_
                                  refine lv_isub hx hb dX0_panes_102 ?_
                                  refine W_top (y := (nI (rg - lf))) (pk_sub (by omega)) ?_
                                  refine lv_iconst (v := 1) hx hb dX0_panes_103 (by decide) ?_
                                  refine lv_iadd hx hb dX0_panes_104 ?_
                                  refine W_top (nI_add (rg - lf) 1) ?_
                                  refine lv_imul hx hb dX0_panes_105 ?_
                                  refine W_top (pk_mul ((bt - tp) + 1) ((rg - lf) + 1)) ?_
                                  have hb4 : m4 ≤ 36 := by rw [hm4]; exact (by have := px4_b (f := (u.2.1 6)) (n := n) (wd := wd) (t := tp) (m := bt - tp) (l := lf) (k := rg - lf) hn hwd (by omega) (by omega) (by omega); rw [show tp + (bt - tp) = bt by omega] at this; exact this)
                                  have hb5 := Nat.mul_le_mul (show bt - tp + 1 ≤ 6 by omega) (show rg - lf + 1 ≤ 6 by omega)
                                  refine S_max hC hl q978 q465 q120 q466 (room_m hRm rfl) rfl dX0_panes_106 ?_
                                  refine W_top (y := (nI (max m4 ((bt - tp + 1) * (rg - lf + 1))))) (mxI_nI (by omega) (by omega)) ?_
                                  refine lv_istore_n (lv' := [(3, .int (nI (max m4 ((bt - tp + 1) * (rg - lf + 1))))), (0, .ref o), (1, .int (nI n)), (2, .int (nI wd)), (4, .int (nI tp)), (5, .int (nI bt)), (6, .int (nI lf)), (7, .int (nI rg))]) hx hb dX0_panes_109 rfl hl (by decide) rfl (fun ls hl => ?_)
                                  refine lv_iinc (v := (nI (rg + 1))) (lv' := [(7, .int (nI (rg + 1))), (3, .int (nI (max m4 ((bt - tp + 1) * (rg - lf + 1))))), (0, .ref o), (1, .int (nI n)), (2, .int (nI wd)), (4, .int (nI tp)), (5, .int (nI bt)), (6, .int (nI lf))]) hx hb dX0_panes_110 hl (k := 7) rfl (nI_inc rg) (by decide) rfl (fun ls hl => ?_)
                                  refine lv_goto (tgt := 69) hx hb dX0_panes_113 (by decide) ?_
                                  exact ih69 (rg + 1) (max m4 ((bt - tp + 1) * (rg - lf + 1))) ls (by omega) (by first | omega | assumption | rfl | (simp_all; done) | grind) (by first | omega | assumption | rfl | (simp_all; done) | grind) (by rw [show rg + 1 - lf = (rg - lf) + 1 by omega]; show _ = (if rrC _ _ _ _ (lf + (rg - lf)) = true then _ else _); rw [show lf + (rg - lf) = rg by omega]; first | (rw [if_pos c87, hm4]; done) | (rw [if_neg (by rw [c87]; decide), hm4]))  (lv_sub hl [2, 3, 4, 1, 5, 6, 7, 0] rfl)
                          exact LP69 _ lf m3 ls (Nat.lt_succ_self _) (by first | omega | assumption | rfl | (simp_all; done) | grind) (by first | omega | assumption | rfl | (simp_all; done) | grind) (by rw [Nat.sub_self, hm3]; rfl)  (lv_sub hl [1, 2, 3, 4, 5, 6, 7, 0] rfl)
                    exact LP59 _ 0 m2 ls (Nat.lt_succ_self _) (by first | omega | assumption | rfl | (simp_all; done) | grind) (hm2)  (lv_sub hl [1, 2, 3, 4, 5, 6, 0] rfl)
              exact LP50 _ tp m1 ls (Nat.lt_succ_self _) (by first | omega | assumption | rfl | (simp_all; done) | grind) (by first | omega | assumption | rfl | (simp_all; done) | grind) (by rw [Nat.sub_self, hm1]; rfl)  (lv_sub hl [1, 2, 3, 4, 5, 0] rfl)
        exact LP40 _ 0 0 ls (Nat.lt_succ_self _) (by first | omega | assumption | rfl | (simp_all; done) | grind) (rfl)  (lv_sub hl [2, 3, 4, 1, 0] rfl)
      · refine lv_iconst (v := (-1)) hx hb dX0_panes_28 (by decide) ?_
        exact hq _ _ _ _ _ _ _ _ dX0_panes_29 hP hS (rfl) (by exact ⟨by first | (simp [panesI, panesG, c7]; done) | (simp [panesI, panesG, c7, c17]; done) | (simp [panesI, panesG, c7, c17, c25]; done), by first | (simp [panesG, c7]; done) | (simp [panesG, c7, c17]; done) | (simp [panesG, c7, c17, c25]; done)⟩) (by decide) (by decide)
set_option maxHeartbeats 4000000 in
theorem c_X0_hadBy (G : GG) (l : Launch) (o : Nat) (R : Nat → Nat) (tx : Nat) (u : MS) (n : Nat) (k0 : Nat) (hn0 : 1 ≤ n) (hn : n ≤ 20) (hk0 : k0 ≤ 20) : CIs G l yX0_hadBy cX0_hadBy 5 .int 3 45 [.ref o, .int (nI n), .int (nI k0)] (PwS G o R tx u) (nI (hbN (u.2.1 6) n k0)) := by
  refine CIs.mk RX0 pnX0 rfl (rfl) (Nat.le_of_ble_eq_true rfl) (fun pg en Rm sg mm ar bw mth cd QQ ls hC hRm hK hX hl hq => ?_)
  have hx := hC.1; have hb := hC.2.1; have ho := hC.2.2.2.1; have hts := hC.2.2.2.2
  have hP : PwS G o R tx u sg.heap := hX
  have hl : lv_has ls 5 [(0, .ref o), (1, .int (nI n)), (2, .int (nI k0))] := hl
  refine lv_iconst (v := (-1)) hx hb dX0_hadBy_0 (by decide) ?_
  refine lv_istore_n (lv' := [(3, .int (-1)), (0, .ref o), (1, .int (nI n)), (2, .int (nI k0))]) hx hb dX0_hadBy_1 rfl hl (by decide) rfl (fun ls hl => ?_)
  refine lv_iconst (v := 0) hx hb dX0_hadBy_2 (by decide) ?_
  refine lv_istore (lv' := [(4, .int 0), (3, .int (-1)), (0, .ref o), (1, .int (nI n)), (2, .int (nI k0))]) hx hb dX0_hadBy_3 hl (by decide) rfl (fun ls hl => ?_)
  have LP5 : ∀ (fu5 : Nat) (k : Nat) (mo : Int32) (ls : Array Slot), n - k < fu5 → k ≤ n → mo = mxPre (u.2.1 6) k → hbN (u.2.1 6) n k0 = hbS (u.2.1 6) n k0 (n - k) k → k < n → lv_has ls 5 [(0, .ref o), (1, .int (nI n)), (2, .int (nI k0)), (3, .int mo), (4, .int (nI k))] → W pg l en Rm sg mm ar bw mth cd sg.heap [] 0 0 QQ (F0 mm 5 ls []) := by
    intro fu5
    induction fu5 with
    | zero => intro k mo ls hm5 hk hmo hf hkn hl; exact absurd hm5 (Nat.not_lt_zero _)
    | succ fu5 ih5 =>
      intro k mo ls hm5 hk hmo hf hkn hl
      refine lv_iload hx hb dX0_hadBy_5 (lv_at hl 4 rfl) ?_
      refine lv_iload_n hx hb dX0_hadBy_7 rfl (lv_at hl 1 rfl) ?_
      refine lv_icmp_ge (tgt := 59) hx hb dX0_hadBy_8 (by decide) (fun c8 => ?_) (fun c8 => ?_)
      · have c8 : n ≤ k := (nI_leI (a := n) (b := k) (by first | omega | exact ocN_b _ _ | exact hbN_b _ _ _) (by first | omega | exact ocN_b _ _ | exact hbN_b _ _ _)).mp c8
        refine lv_iconst (v := (-1)) hx hb dX0_hadBy_59 (by decide) ?_
        exact hq _ _ _ dX0_hadBy_60 (by exfalso; omega)
      · have c8 : ¬ (n ≤ k) := mt (nI_leI (a := n) (b := k) (by first | omega | exact ocN_b _ _ | exact hbN_b _ _ _) (by first | omega | exact ocN_b _ _ | exact hbN_b _ _ _)).mpr c8
        refine lv_iload hx hb dX0_hadBy_11 (lv_at hl 4 rfl) ?_
        refine lv_iload_n hx hb dX0_hadBy_13 rfl (lv_at hl 2 rfl) ?_
        refine lv_icmp_lt (tgt := 27) hx hb dX0_hadBy_14 (by decide) (fun c14 => ?_) (fun c14 => ?_)
        · have c14 : k < k0 := (nI_ltI (a := k) (b := k0) (by first | omega | exact ocN_b _ _ | exact hbN_b _ _ _) (by first | omega | exact ocN_b _ _ | exact hbN_b _ _ _)).mp c14
          refine lv_iload hx hb dX0_hadBy_27 (lv_at hl 4 rfl) ?_
          refine lv_iload_n hx hb dX0_hadBy_29 rfl (lv_at hl 1 rfl) ?_
          refine lv_iconst (v := 1) hx hb dX0_hadBy_30 (by decide) ?_
          refine lv_isub hx hb dX0_hadBy_31 ?_
          refine W_top (y := (nI (n - 1))) (pk_sub (by omega)) ?_
          refine lv_icmp_ne (tgt := 42) hx hb dX0_hadBy_32 (by decide) (fun c32 => ?_) (fun c32 => ?_)
          · have c32 : ¬ (k = (n - 1)) := mt (nI_eq (a := k) (b := (n - 1)) (by first | omega | exact ocN_b _ _ | exact hbN_b _ _ _) (by first | omega | exact ocN_b _ _ | exact hbN_b _ _ _)).mpr c32
            refine lv_iload_n hx hb dX0_hadBy_42 rfl (lv_at hl 3 rfl) ?_
            refine lv_aload_n hx hb dX0_hadBy_43 rfl (lv_at hl 0 rfl) ?_
            refine lv_iload hx hb dX0_hadBy_44 (lv_at hl 4 rfl) ?_
            refine CIs.go (rcV hC hl (c_X0_fed G l o R tx u k (by first | assumption | omega | rfl | (simp_all; done))) hK hP (va_recv hK.1 hP clX0 (oS_main _ _ _ _ _)) q1084 q1086 qs35 q110 q1087 mdX0_fed (room_s hRm rfl) rfl rfl dX0_hadBy_46) ?_
            refine S_max hC hl q978 q465 q120 q466 (room_m hRm rfl) rfl dX0_hadBy_49 ?_
            refine lv_istore_n (lv' := [(3, .int (mxI mo (nI (ocN (u.2.1 6) k)))), (0, .ref o), (1, .int (nI n)), (2, .int (nI k0)), (4, .int (nI k))]) hx hb dX0_hadBy_52 rfl hl (by decide) rfl (fun ls hl => ?_)
            refine lv_iinc (v := (nI (k + 1))) (lv' := [(4, .int (nI (k + 1))), (3, .int (mxI mo (nI (ocN (u.2.1 6) k)))), (0, .ref o), (1, .int (nI n)), (2, .int (nI k0))]) hx hb dX0_hadBy_53 hl (k := 4) rfl (nI_inc k) (by decide) rfl (fun ls hl => ?_)
            refine lv_goto (tgt := 5) hx hb dX0_hadBy_56 (by decide) ?_
            exact ih5 (k + 1) (mxI mo (nI (ocN (u.2.1 6) k))) ls (by omega) (by first | omega | assumption | rfl | (simp_all; done) | grind) (by rw [hmo]; rfl) (by rw [hf]; refine hbS_f (by omega) ?_; subst hmo; (clear hq hK hts hC hx hb ho hRm hl hP ih5); grind [hbC]) (by first | omega | assumption | rfl | (simp_all; done) | grind)  (lv_sub hl [2, 3, 4, 1, 0] rfl)
          · have c32 : k = (n - 1) := (nI_eq (a := k) (b := (n - 1)) (by first | omega | exact ocN_b _ _ | exact hbN_b _ _ _) (by first | omega | exact ocN_b _ _ | exact hbN_b _ _ _)).mp c32
            refine lv_aload_n hx hb dX0_hadBy_35 rfl (lv_at hl 0 rfl) ?_
            refine lv_iload hx hb dX0_hadBy_36 (lv_at hl 4 rfl) ?_
            refine CIs.go (rcV hC hl (c_X0_fed G l o R tx u k (by first | assumption | omega | rfl | (simp_all; done))) hK hP (va_recv hK.1 hP clX0 (oS_main _ _ _ _ _)) q1084 q1086 qs35 q110 q1087 mdX0_fed (room_s hRm rfl) rfl rfl dX0_hadBy_38) ?_
            exact hq _ _ _ dX0_hadBy_41 (by first | (rw [hf, hbS_t (by omega) (by subst hmo; (clear hq hK hts hC hx hb ho hRm hl hP ih5); grind [hbC])]; done) | (have hkn : k = n - 1 := (by omega); rw [hf, show n - k = 1 by omega]; show nI _ = nI (if _ then _ else ocN _ (n - 1)); rw [hkn]; split <;> rfl))
        · have c14 : ¬ (k < k0) := mt (nI_ltI (a := k) (b := k0) (by first | omega | exact ocN_b _ _ | exact hbN_b _ _ _) (by first | omega | exact ocN_b _ _ | exact hbN_b _ _ _)).mpr c14
          refine lv_aload_n hx hb dX0_hadBy_17 rfl (lv_at hl 0 rfl) ?_
          refine lv_iload hx hb dX0_hadBy_18 (lv_at hl 4 rfl) ?_
          refine CIs.go (rcV hC hl (c_X0_fed G l o R tx u k (by first | assumption | omega | rfl | (simp_all; done))) hK hP (va_recv hK.1 hP clX0 (oS_main _ _ _ _ _)) q1084 q1086 qs35 q110 q1087 mdX0_fed (room_s hRm rfl) rfl rfl dX0_hadBy_20) ?_
          refine lv_iload_n hx hb dX0_hadBy_23 rfl (lv_at hl 3 rfl) ?_
          refine lv_icmp_gt (tgt := 35) hx hb dX0_hadBy_24 (by decide) (fun c24 => ?_) (fun c24 => ?_)
          · refine lv_aload_n hx hb dX0_hadBy_35 rfl (lv_at hl 0 rfl) ?_
            refine lv_iload hx hb dX0_hadBy_36 (lv_at hl 4 rfl) ?_
            refine CIs.go (rcV hC hl (c_X0_fed G l o R tx u k (by first | assumption | omega | rfl | (simp_all; done))) hK hP (va_recv hK.1 hP clX0 (oS_main _ _ _ _ _)) q1084 q1086 qs35 q110 q1087 mdX0_fed (room_s hRm rfl) rfl rfl dX0_hadBy_38) ?_
            exact hq _ _ _ dX0_hadBy_41 (by first | (rw [hf, hbS_t (by omega) (by subst hmo; (clear hq hK hts hC hx hb ho hRm hl hP ih5); grind [hbC])]; done) | (have hkn : k = n - 1 := (by omega); rw [hf, show n - k = 1 by omega]; show nI _ = nI (if _ then _ else ocN _ (n - 1)); rw [hkn]; split <;> rfl))
          · refine lv_iload hx hb dX0_hadBy_27 (lv_at hl 4 rfl) ?_
            refine lv_iload_n hx hb dX0_hadBy_29 rfl (lv_at hl 1 rfl) ?_
            refine lv_iconst (v := 1) hx hb dX0_hadBy_30 (by decide) ?_
            refine lv_isub hx hb dX0_hadBy_31 ?_
            refine W_top (y := (nI (n - 1))) (pk_sub (by omega)) ?_
            refine lv_icmp_ne (tgt := 42) hx hb dX0_hadBy_32 (by decide) (fun c32 => ?_) (fun c32 => ?_)
            · have c32 : ¬ (k = (n - 1)) := mt (nI_eq (a := k) (b := (n - 1)) (by first | omega | exact ocN_b _ _ | exact hbN_b _ _ _) (by first | omega | exact ocN_b _ _ | exact hbN_b _ _ _)).mpr c32
              refine lv_iload_n hx hb dX0_hadBy_42 rfl (lv_at hl 3 rfl) ?_
              refine lv_aload_n hx hb dX0_hadBy_43 rfl (lv_at hl 0 rfl) ?_
              refine lv_iload hx hb dX0_hadBy_44 (lv_at hl 4 rfl) ?_
              refine CIs.go (rcV hC hl (c_X0_fed G l o R tx u k (by first | assumption | omega | rfl | (simp_all; done))) hK hP (va_recv hK.1 hP clX0 (oS_main _ _ _ _ _)) q1084 q1086 qs35 q110 q1087 mdX0_fed (room_s hRm rfl) rfl rfl dX0_hadBy_46) ?_
              refine S_max hC hl q978 q465 q120 q466 (room_m hRm rfl) rfl dX0_hadBy_49 ?_
              refine lv_istore_n (lv' := [(3, .int (mxI mo (nI (ocN (u.2.1 6) k)))), (0, .ref o), (1, .int (nI n)), (2, .int (nI k0)), (4, .int (nI k))]) hx hb dX0_hadBy_52 rfl hl (by decide) rfl (fun ls hl => ?_)
              refine lv_iinc (v := (nI (k + 1))) (lv' := [(4, .int (nI (k + 1))), (3, .int (mxI mo (nI (ocN (u.2.1 6) k)))), (0, .ref o), (1, .int (nI n)), (2, .int (nI k0))]) hx hb dX0_hadBy_53 hl (k := 4) rfl (nI_inc k) (by decide) rfl (fun ls hl => ?_)
              refine lv_goto (tgt := 5) hx hb dX0_hadBy_56 (by decide) ?_
              exact ih5 (k + 1) (mxI mo (nI (ocN (u.2.1 6) k))) ls (by omega) (by first | omega | assumption | rfl | (simp_all; done) | grind) (by rw [hmo]; rfl) (by rw [hf]; refine hbS_f (by omega) ?_; subst hmo; (clear hq hK hts hC hx hb ho hRm hl hP ih5); grind [hbC]) (by first | omega | assumption | rfl | (simp_all; done) | grind)  (lv_sub hl [2, 3, 4, 1, 0] rfl)
            · have c32 : k = (n - 1) := (nI_eq (a := k) (b := (n - 1)) (by first | omega | exact ocN_b _ _ | exact hbN_b _ _ _) (by first | omega | exact ocN_b _ _ | exact hbN_b _ _ _)).mp c32
              refine lv_aload_n hx hb dX0_hadBy_35 rfl (lv_at hl 0 rfl) ?_
              refine lv_iload hx hb dX0_hadBy_36 (lv_at hl 4 rfl) ?_
              refine CIs.go (rcV hC hl (c_X0_fed G l o R tx u k (by first | assumption | omega | rfl | (simp_all; done))) hK hP (va_recv hK.1 hP clX0 (oS_main _ _ _ _ _)) q1084 q1086 qs35 q110 q1087 mdX0_fed (room_s hRm rfl) rfl rfl dX0_hadBy_38) ?_
              exact hq _ _ _ dX0_hadBy_41 (by first | (rw [hf, hbS_t (by omega) (by subst hmo; (clear hq hK hts hC hx hb ho hRm hl hP ih5); grind [hbC])]; done) | (have hkn : k = n - 1 := (by omega); rw [hf, show n - k = 1 by omega]; show nI _ = nI (if _ then _ else ocN _ (n - 1)); rw [hkn]; split <;> rfl))
  exact LP5 _ 0 (-1) ls (Nat.lt_succ_self _) (by first | omega | assumption | rfl | (simp_all; done) | grind) (rfl) (rfl) (by first | omega | assumption | rfl | (simp_all; done) | grind)  (lv_sub hl [2, 3, 4, 1, 0] rfl)
set_option maxHeartbeats 4000000 in
theorem c_X0_keepIt (G : GG) (l : Launch) (o : Nat) (R : Nat → Nat) (tx : Nat) (u : MS) (n0 : Int32) (k0 : Int32) (hD : DwS o R) : CXi G l (PwS G o R tx) (AwS o R) yX0_keepIt cX0_keepIt 5 .int 4 69 0 0 [.ref o, .int n0, .int k0] (PwS G o R tx u) (fun r w => r = (keepItI (u.2.1 6) (u.1 8) n0 k0) ∧ w = (if keepG (u.1 8) n0 k0 = true then mV u 8 0 else u)) := by
  refine CXi.mk RX0 pnX0 rfl (Nat.le_of_ble_eq_true rfl) (fun pg en Rm sg mm ar bw mth cd QQ ls hC hRm hK hX hS hl hq => ?_)
  have hx := hC.1; have hb := hC.2.1; have ho := hC.2.2.2.1; have hts := hC.2.2.2.2
  have hP : PwS G o R tx u sg.heap := hX
  have hl : lv_has ls 5 [(0, .ref o), (1, .int n0), (2, .int k0)] := hl
  refine lv_iload_n hx hb dX0_keepIt_0 rfl (lv_at hl 1 rfl) ?_
  refine lv_iconst (v := 1) hx hb dX0_keepIt_1 (by decide) ?_
  refine lv_bipush (v := 20) hx hb dX0_keepIt_2 (by decide) ?_
  refine CIs.go (rcS hC hl (c_X0_within G l n0 1 20 ) hK trivial q385 q386 q110 q387 mdX0_within (room_s hRm rfl) rfl rfl dX0_keepIt_4) ?_
  refine lv_if_eq (tgt := 29) hx hb dX0_keepIt_7 (by decide) (fun c7 => ?_) (fun c7 => ?_)
  · have c7 : (inB n0 1 20) = false := bI_0.mp c7
    refine lv_iconst (v := (-1)) hx hb dX0_keepIt_29 (by decide) ?_
    exact hq _ _ _ _ _ _ _ _ dX0_keepIt_30 hP hS (rfl) (by exact ⟨by first | (simp [keepItI, keepG, c7]; done) | (simp [keepItI, keepG, c7, c18]; done) | (simp [keepItI, keepG, c7, c18, c26]; done), by first | (simp [keepG, c7]; done) | (simp [keepG, c7, c18]; done) | (simp [keepG, c7, c18, c26]; done)⟩) (by decide) (by decide)
  · have c7 : (inB n0 1 20) = true := bI_1.mp c7
    obtain ⟨n, hn1, hn, rfl, hnx⟩ := inB_nI2 1 20 (by decide) (by decide) c7
    have hl : lv_has ls 5 [(0, .ref o), (1, .int (nI n)), (2, .int k0)] := hl
    refine lv_iload_n hx hb dX0_keepIt_10 rfl (lv_at hl 2 rfl) ?_
    refine lv_iconst (v := (-1)) hx hb dX0_keepIt_11 (by decide) ?_
    refine lv_iload_n hx hb dX0_keepIt_12 rfl (lv_at hl 1 rfl) ?_
    refine lv_iconst (v := 1) hx hb dX0_keepIt_13 (by decide) ?_
    refine lv_isub hx hb dX0_keepIt_14 ?_
    refine CIs.go (rcS hC hl (c_X0_within G l k0 (-1) ((nI n) - 1) ) hK trivial q385 q386 q110 q387 mdX0_within (room_s hRm rfl) rfl rfl dX0_keepIt_15) ?_
    refine lv_if_eq (tgt := 29) hx hb dX0_keepIt_18 (by decide) (fun c18 => ?_) (fun c18 => ?_)
    · have c18 : (inB k0 (-1) ((nI n) - 1)) = false := bI_0.mp c18
      refine lv_iconst (v := (-1)) hx hb dX0_keepIt_29 (by decide) ?_
      exact hq _ _ _ _ _ _ _ _ dX0_keepIt_30 hP hS (rfl) (by exact ⟨by first | (simp [keepItI, keepG, c7]; done) | (simp [keepItI, keepG, c7, c18]; done) | (simp [keepItI, keepG, c7, c18, c26]; done), by first | (simp [keepG, c7]; done) | (simp [keepG, c7, c18]; done) | (simp [keepG, c7, c18, c26]; done)⟩) (by decide) (by decide)
    · have c18 : (inB k0 (-1) ((nI n) - 1)) = true := bI_1.mp c18
      refine lv_iload_n hx hb dX0_keepIt_21 rfl (lv_at hl 1 rfl) ?_
      refine lv_aload_n hx hb dX0_keepIt_22 rfl (lv_at hl 0 rfl) ?_
      refine S_get (v := .int (u.1 8)) hC hK hP (oS_main _ _ _ _ _) clX0 in_X0 8 (by decide) (fD8 _ _ _ _) q305 dX0_keepIt_23 ?_
      refine lv_icmp_le (tgt := 31) hx hb dX0_keepIt_26 (by decide) (fun c26 => ?_) (fun c26 => ?_)
      · refine lv_aload_n hx hb dX0_keepIt_31 rfl (lv_at hl 0 rfl) ?_
        refine lv_iconst (v := 0) hx hb dX0_keepIt_32 (by decide) ?_
        refine S_put hC hK hP (hD _ _ _) hS (oS_main _ _ _ _ _) clX0 in_X0 tyX0_ok nmX0 8 (by decide) (pS8 _ _ _ _ _ _) q305 rfl rfl rfl rfl (Nat.le_of_ble_eq_true rfl) dX0_keepIt_33 (fun H locs hP hS => ?_)
        refine lv_iload_n hx hb dX0_keepIt_36 rfl (lv_at hl 2 rfl) ?_
        refine lv_iconst (v := (-1)) hx hb dX0_keepIt_37 (by decide) ?_
        refine lv_icmp_eq (tgt := 48) hx hb dX0_keepIt_38 (by decide) (fun c38 => ?_) (fun c38 => ?_)
        · refine lv_iconst (v := 0) hx hb dX0_keepIt_48 (by decide) ?_
          refine lv_istore_n (lv' := [(3, .int 0), (0, .ref o), (1, .int (nI n)), (2, .int k0)]) hx hb dX0_keepIt_49 rfl hl (by decide) rfl (fun ls hl => ?_)
          refine lv_iconst (v := 1) hx hb dX0_keepIt_50 (by decide) ?_
          refine lv_istore (lv' := [(4, .int 1), (3, .int 0), (0, .ref o), (1, .int (nI n)), (2, .int k0)]) hx hb dX0_keepIt_51 hl (by decide) rfl (fun ls hl => ?_)
          have LP53 : ∀ (fu53 : Nat) (k : Nat) (be : Nat) (ls : Array Slot), n - k < fu53 → k ≤ n → 1 ≤ k → be = clN (hbN (u.2.1 6) n) (k - 1) → be < n → lv_has ls 5 [(0, .ref o), (1, .int (nI n)), (2, .int k0), (3, .int (nI be)), (4, .int (nI k))] → W pg l en Rm sg mm ar bw mth cd H locs 0 0 QQ (F0 mm 53 ls []) := by
            intro fu53
            induction fu53 with
            | zero => intro k be ls hm53 hk h1 hbe hb2 hl; exact absurd hm53 (Nat.not_lt_zero _)
            | succ fu53 ih53 =>
              intro k be ls hm53 hk h1 hbe hb2 hl
              refine lv_iload hx hb dX0_keepIt_53 (lv_at hl 4 rfl) ?_
              refine lv_iload_n hx hb dX0_keepIt_55 rfl (lv_at hl 1 rfl) ?_
              refine lv_icmp_ge (tgt := 84) hx hb dX0_keepIt_56 (by decide) (fun c56 => ?_) (fun c56 => ?_)
              · have c56 : n ≤ k := (nI_leI (a := n) (b := k) (by first | omega | exact ocN_b _ _ | exact hbN_b _ _ _) (by first | omega | exact ocN_b _ _ | exact hbN_b _ _ _)).mp c56
                refine lv_iload_n hx hb dX0_keepIt_84 rfl (lv_at hl 3 rfl) ?_
                exact hq _ _ _ _ _ _ _ _ dX0_keepIt_85 hP hS (rfl) (by subst c38; have hg : keepG (u.1 8) (nI n) (-1) = true := (by simp [keepG, c7, c18, c26]); have hkn : k = n := (by omega); subst hkn; exact ⟨by rw [keepItI, if_pos hg, if_pos rfl, hnx, hbe], by rw [if_pos hg]⟩) (by decide) (by decide)
              · have c56 : ¬ (n ≤ k) := mt (nI_leI (a := n) (b := k) (by first | omega | exact ocN_b _ _ | exact hbN_b _ _ _) (by first | omega | exact ocN_b _ _ | exact hbN_b _ _ _)).mpr c56
                refine lv_aload_n hx hb dX0_keepIt_59 rfl (lv_at hl 0 rfl) ?_
                refine lv_iload_n hx hb dX0_keepIt_60 rfl (lv_at hl 1 rfl) ?_
                refine lv_iload hx hb dX0_keepIt_61 (lv_at hl 4 rfl) ?_
                refine CIs.go (rcV hC hl (c_X0_hadBy G l o R tx (mV u 8 0) n k (by first | assumption | omega | rfl | (simp_all; done)) (by first | assumption | omega | rfl | (simp_all; done)) (by first | assumption | omega | rfl | (simp_all; done))) hK hP (va_recv hK.1 hP clX0 (oS_main _ _ _ _ _)) q1164 q1166 qs44 q110 q1167 mdX0_hadBy (room_s hRm rfl) rfl rfl dX0_keepIt_63) ?_
                refine W_top (y := (nI (hbN (u.2.1 6) n k))) rfl ?_
                refine lv_aload_n hx hb dX0_keepIt_66 rfl (lv_at hl 0 rfl) ?_
                refine lv_iload_n hx hb dX0_keepIt_67 rfl (lv_at hl 1 rfl) ?_
                refine lv_iload_n hx hb dX0_keepIt_68 rfl (lv_at hl 3 rfl) ?_
                refine CIs.go (rcV hC hl (c_X0_hadBy G l o R tx (mV u 8 0) n be (by first | assumption | omega | rfl | (simp_all; done)) (by first | assumption | omega | rfl | (simp_all; done)) (by first | assumption | omega | rfl | (simp_all; done))) hK hP (va_recv hK.1 hP clX0 (oS_main _ _ _ _ _)) q1164 q1166 qs44 q110 q1167 mdX0_hadBy (room_s hRm rfl) rfl rfl dX0_keepIt_69) ?_
                refine W_top (y := (nI (hbN (u.2.1 6) n be))) rfl ?_
                refine lv_icmp_le (tgt := 78) hx hb dX0_keepIt_72 (by decide) (fun c72 => ?_) (fun c72 => ?_)
                · have c72 : (hbN (u.2.1 6) n k) ≤ (hbN (u.2.1 6) n be) := (nI_leI (a := (hbN (u.2.1 6) n k)) (b := (hbN (u.2.1 6) n be)) (by first | omega | exact ocN_b _ _ | exact hbN_b _ _ _) (by first | omega | exact ocN_b _ _ | exact hbN_b _ _ _)).mp c72
                  refine lv_iinc (v := (nI (k + 1))) (lv' := [(4, .int (nI (k + 1))), (0, .ref o), (1, .int (nI n)), (2, .int k0), (3, .int (nI be))]) hx hb dX0_keepIt_78 hl (k := 4) rfl (nI_inc k) (by decide) rfl (fun ls hl => ?_)
                  refine lv_goto (tgt := 53) hx hb dX0_keepIt_81 (by decide) ?_
                  exact ih53 (k + 1) be ls (by omega) (by first | omega | assumption | rfl | (simp_all; done) | grind) (by first | omega | assumption | rfl | (simp_all; done) | grind) (by obtain ⟨q, rfl⟩ : ∃ q, k = q + 1 := ⟨k - 1, by omega⟩; (clear hq hK hts hC hx hb ho hRm hl hP hS ih53); grind [clN]) (by first | omega | assumption | rfl | (simp_all; done) | grind)  (lv_sub hl [1, 2, 3, 4, 0] rfl)
                · have c72 : ¬ ((hbN (u.2.1 6) n k) ≤ (hbN (u.2.1 6) n be)) := mt (nI_leI (a := (hbN (u.2.1 6) n k)) (b := (hbN (u.2.1 6) n be)) (by first | omega | exact ocN_b _ _ | exact hbN_b _ _ _) (by first | omega | exact ocN_b _ _ | exact hbN_b _ _ _)).mpr c72
                  refine lv_iload hx hb dX0_keepIt_75 (lv_at hl 4 rfl) ?_
                  refine lv_istore_n (lv' := [(3, .int (nI k)), (0, .ref o), (1, .int (nI n)), (2, .int k0), (4, .int (nI k))]) hx hb dX0_keepIt_77 rfl hl (by decide) rfl (fun ls hl => ?_)
                  refine lv_iinc (v := (nI (k + 1))) (lv' := [(4, .int (nI (k + 1))), (3, .int (nI k)), (0, .ref o), (1, .int (nI n)), (2, .int k0)]) hx hb dX0_keepIt_78 hl (k := 4) rfl (nI_inc k) (by decide) rfl (fun ls hl => ?_)
                  refine lv_goto (tgt := 53) hx hb dX0_keepIt_81 (by decide) ?_
                  exact ih53 (k + 1) k ls (by omega) (by first | omega | assumption | rfl | (simp_all; done) | grind) (by first | omega | assumption | rfl | (simp_all; done) | grind) (by obtain ⟨q, rfl⟩ : ∃ q, k = q + 1 := ⟨k - 1, by omega⟩; (clear hq hK hts hC hx hb ho hRm hl hP hS ih53); grind [clN]) (by first | omega | assumption | rfl | (simp_all; done) | grind)  (lv_sub hl [2, 3, 4, 1, 0] rfl)
          exact LP53 _ 1 0 ls (Nat.lt_succ_self _) (by first | omega | assumption | rfl | (simp_all; done) | grind) (by first | omega | assumption | rfl | (simp_all; done) | grind) (rfl) (by first | omega | assumption | rfl | (simp_all; done) | grind)  (lv_sub hl [2, 3, 4, 1, 0] rfl)
        · obtain ⟨j, hj, rfl, hjx⟩ := inB_m1 (by omega) c18 c38
          have hl : lv_has ls 5 [(0, .ref o), (1, .int (nI n)), (2, .int (nI j))] := hl
          refine lv_aload_n hx hb dX0_keepIt_41 rfl (lv_at hl 0 rfl) ?_
          refine lv_iload_n hx hb dX0_keepIt_42 rfl (lv_at hl 1 rfl) ?_
          refine lv_iload_n hx hb dX0_keepIt_43 rfl (lv_at hl 2 rfl) ?_
          refine CIs.go (rcV hC hl (c_X0_hadBy G l o R tx (mV u 8 0) n j (by first | assumption | omega | rfl | (simp_all; done)) (by first | assumption | omega | rfl | (simp_all; done)) (by first | assumption | omega | rfl | (simp_all; done))) hK hP (va_recv hK.1 hP clX0 (oS_main _ _ _ _ _)) q1164 q1166 qs44 q110 q1167 mdX0_hadBy (room_s hRm rfl) rfl rfl dX0_keepIt_44) ?_
          refine W_top (y := (nI (hbN (u.2.1 6) n j))) rfl ?_
          exact hq _ _ _ _ _ _ _ _ dX0_keepIt_47 hP hS (rfl) (by have hg : keepG (u.1 8) (nI n) (nI j) = true := (by simp [keepG, c7, c18, c26]); exact ⟨by rw [keepItI, if_pos hg, hnx, hjx, if_neg c38], by rw [if_pos hg]⟩) (by decide) (by decide)
      · refine lv_iconst (v := (-1)) hx hb dX0_keepIt_29 (by decide) ?_
        exact hq _ _ _ _ _ _ _ _ dX0_keepIt_30 hP hS (rfl) (by exact ⟨by first | (simp [keepItI, keepG, c7]; done) | (simp [keepItI, keepG, c7, c18]; done) | (simp [keepItI, keepG, c7, c18, c26]; done), by first | (simp [keepG, c7]; done) | (simp [keepG, c7, c18]; done) | (simp [keepG, c7, c18, c26]; done)⟩) (by decide) (by decide)
