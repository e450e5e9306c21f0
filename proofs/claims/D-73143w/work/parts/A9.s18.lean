set_option maxRecDepth 100000
theorem ru_0 {f : Nat → Int32} {n p : Nat} (h : hzN f n p = 0) : ¬ isRuC (ckN f n p) = true := by
  by_cases q : p < n
  · rw [hzN_t q] at h; rw [ckN_t q, h]; decide
  · rw [ckN_f q]; decide
theorem ru_ix {f : Nat → Int32} {n p : Nat} (h0 : ¬ hzN f n p = 0) (h : 0 ≤ ixJ 1 (hzN f n p)) : isRuC (ckN f n p) = true ∧ p < n ∧ nI (hzN f n p) = nI (ckN f n p) := by
  obtain ⟨h1, h2⟩ := hz_ne h0
  have h3 := ixJ_1 _ (hzN_lt f n p)
  rw [decide_eq_true h, ← h2] at h3
  exact ⟨h3.symm, h1, by rw [h2]⟩
theorem ru_ixn {f : Nat → Int32} {n p : Nat} (h0 : ¬ hzN f n p = 0) (h : ¬ 0 ≤ ixJ 1 (hzN f n p)) : ¬ isRuC (ckN f n p) = true := by
  obtain ⟨h1, h2⟩ := hz_ne h0
  have h3 := ixJ_1 _ (hzN_lt f n p)
  rw [decide_eq_false h, ← h2] at h3
  rw [← h3]; decide
set_option maxHeartbeats 8000000 in
theorem cla_ok (G : GG) (l : Launch) (σ : SD) (o : Nat) (R : Nat → Nat) (tx : Nat) (u : MS) (n p m b r0 r1 r2 : Nat) (le : Nat → Int32) (sm cm : Nat → Option Nat) (H0 : Heap) : DwQ o R → dT (R 142) r0 r1 r2 → (∀ q, AwQ o R q → σ.1 ≤ q ∧ q < H0.size) → (∀ q, AT (R 142) r0 r1 r2 q → σ.1 ≤ q ∧ q < H0.size) → (∀ q, AT (R 142) r0 r1 r2 q → ¬ AwQ o R q) → u.1 143 = nI p → u.1 141 = nI n → u.1 145 = 0 → n ≤ 240 → p ≤ n → m ≤ 16 → CRv G l σ (PrC G o R tx r0 r1 r2 H0) (AcQ o R r0 r1 r2 H0.size) yX7_clause cX7_clause 4 31 1000 (3 * (n + 1 - p) + 2) (9 * (n + 1 - p) + 6) [.ref (R 140)] (fun H => PwQ G o R tx u H ∧ va_P G.1 vwCl (cT G (R 142) r0 r1 r2 (m, le, sm, cm)) H ∧ H = H0) (ClPost G u n p H0 (m, le, sm, cm) (ruleE (u.2.1 6) n m p b)) := by
  intro hD hT0 hσ hτ hAT hp hn hf hn2 hpn hm
  refine CRv.mk RX7 pnX7 rfl (Nat.le_of_ble_eq_true rfl) (fun pg en Rm sg mm ar bw mth cd QQ ls hC hRm hK hT hX hS hl hq => ?_)
  obtain ⟨hP, hTx, rfl⟩ := hX
  have hx := hC.1; have hb := hC.2.1; have ho := hC.2.2.2.1; have hts := hC.2.2.2.2
  have hrd : AwQ o R (R 140) := Or.inr ⟨140, by decide, rfl⟩
  have hA : ∀ q, AwQ o R q → q < sg.heap.size := fun q h => (hσ q h).2
  have hTl : ∀ q, AT (R 142) r0 r1 r2 q → q < sg.heap.size := fun q h => (hτ q h).2
  have hσ0 : σ.1 ≤ sg.heap.size := Nat.le_trans (hσ _ hrd).1 (Nat.le_of_lt (hσ _ hrd).2)
  have hσA : ∀ q, AcQ o R r0 r1 r2 sg.heap.size q → kpA σ q := fun q h => h.elim (fun h => (hσ q h).1) (fun h => h.elim (fun h => (hτ q h).1) (fun h => Nat.le_trans hσ0 h))
  have hDA : ∀ (tx : Nat) (u : MS), va_D (AcQ o R r0 r1 r2 sg.heap.size) (celQ G o R tx u) := fun tx u => (hD G tx u).up (fun q h => Or.inl h)
  have hDT : ∀ (w : ClS), va_D (AcQ o R r0 r1 r2 sg.heap.size) (cT G (R 142) r0 r1 r2 w) := fun w => hT0.D (fun q h => Or.inr (Or.inl h)) w
  have hup : ∀ {H1 : Heap}, sg.heap.size ≤ H1.size → ∀ q, A0 o R H1.size q → AcQ o R r0 r1 r2 sg.heap.size q := fun h q z => z.elim Or.inl (fun z => Or.inr (Or.inr (Nat.le_trans h z)))
  refine W_c0 ?_
  have hl : lv_has ls 4 [(0, .ref (R 140))] := hl
  have hP : PwQ G o R tx (qE u (u.1 143) (u.1 144) (u.1 145) (u.1 146)) sg.heap := by rw [qE_self]; exact hP
  rw [hp, hf] at hP
  refine lv_aload_n hx hb dX7_clause_0 rfl (lv_at hl 0 rfl) ?_
  refine CIs.go (rcV hC hl (c_X7_here G l o R tx (qE u (nI p) (u.1 144) 0 (u.1 146)) p n (rfl) (hn) (hn2) (by omega)) hK hP (va_recv hK.1 hP clX7 (oQ_rd _ _ _ _ _)) q431 q433 qs3 q117 q434 mdX7_here (room_v hRm (by omega) (by omega) (by omega) (by omega)) rfl rfl dX7_clause_1) ?_
  refine W_top (y := (nI (hzN (u.2.1 6) n p))) (by simp only [qE_g6]) ?_
  refine lv_istore_n (lv' := [(1, .int (nI (hzN (u.2.1 6) n p))), (0, .ref (R 140))]) hx hb dX7_clause_4 rfl hl (by decide) rfl (fun ls hl => ?_)
  refine lv_iload_n hx hb dX7_clause_5 rfl (lv_at hl 0 rfl) ?_
  refine lv_if_eq (tgt := 18) hx hb dX7_clause_6 (by decide) (fun c6 => ?_) (fun c6 => ?_)
  · have c6 : (hzN (u.2.1 6) n p) = 0 := (nI_eq (a := (hzN (u.2.1 6) n p)) (b := 0) (by first | omega | exact hzN_b _ _ _) (by first | omega | exact hzN_b _ _ _)).mp c6
    have hru := ru_0 c6
    refine lv_aload_n hx hb dX7_clause_18 rfl (lv_at hl 1 rfl) ?_
    refine lv_iconst (v := 1) hx hb dX7_clause_19 (by decide) ?_
    refine lv_aload_n hx hb dX7_clause_20 rfl (lv_at hl 1 rfl) ?_
    refine S_get hC hK hP (oQ_rd _ _ _ _ _) clX7 in_X7 2 (by decide) (fD143 _ _ _ _) q399 dX7_clause_21 ?_
    refine W_top (y := (nI p)) (by rw [qE_f143]) ?_
    refine CXv.go (rcV hC hl (c_X7_bad G l o R tx (qE u (nI p) (u.1 144) 0 (u.1 146)) 1 (nI p) (by first | assumption | omega | rfl | (simp_all; done)) hD) hK hP (va_recv hK.1 hP clX7 (oQ_rd _ _ _ _ _)) q522 q524 qs4 q117 q525 mdX7_bad (room_v hRm (by omega) (by omega) (by omega) (by omega)) rfl rfl dX7_clause_24) hS (fun q h => Or.inl h) (fun w24 H locs hpo hP hz hk hS => ?_)
    have ew24 := hpo
    rw [ew24] at hP
    rw [qE_again] at hP
    simp only [qE_f143, qE_f144] at hP
    have hF : Fr (AwQ o R) _ _ := ⟨hz, hk⟩
    have hTx := cT_fr hTx hF hAT
    refine lv_goto (tgt := 51) hx hb dX7_clause_27 (by decide) ?_
    refine lv_aload_n hx hb dX7_clause_51 rfl (lv_at hl 1 rfl) ?_
    refine CIs.go (rcV hC hl (c_X7_isGood G l o R tx (qE u (nI p) (u.1 144) 1 (nI p))  ) hK hP (va_recv hK.1 hP clX7 (oQ_rd _ _ _ _ _)) q423 q425 qs1 q117 q426 mdX7_isGood (room_v hRm (by omega) (by omega) (by omega) (by omega)) rfl rfl dX7_clause_52) ?_
    refine W_top (y := (bI (isGB 1))) (by simp only [qE_f145]) ?_
    refine W_top (y := 0) (by decide) ?_
    refine lv_if_ne (tgt := 59) hx hb dX7_clause_55 (by decide) (fun c55 => ?_) (fun c55 => ?_)
    · exact absurd c55 (by decide)
    · refine W_size (fun hzz hww => ?_)
      exact hq _ _ ((qE u (nI p) (u.1 144) 1 (nI p)), (m, le, sm, cm), 0, (fun _ => True)) _ _ _ _ dX7_clause_58 ⟨hP, hTx, ⟨hzz, hww⟩, trivial⟩ hS (ClP_l (op := u.1 144) (e := (1, p)) (q := p) (by unfold ruleE; rw [if_neg hru]) (by omega) rfl (show fOK 1 from ⟨by decide, by decide⟩) (by omega)) (by omega) (by omega)
  · have c6 : ¬ ((hzN (u.2.1 6) n p) = 0) := mt (nI_eq (a := (hzN (u.2.1 6) n p)) (b := 0) (by first | omega | exact hzN_b _ _ _) (by first | omega | exact hzN_b _ _ _)).mpr c6
    refine va_ldcS hx hb ho hT.1.2 dX7_clause_9 ?_
    refine lv_iload_n hx hb dX7_clause_11 rfl (lv_at hl 0 rfl) ?_
    refine CIs.go (rrV (As := [.int (nI (hzN (u.2.1 6) n p))]) hC hl (c_J0_indexOf G l σ 1 (hzN (u.2.1 6) n p) (by decide) (hzN_lt _ _ _)) hK (stK hT hS hσA) trivial (vk_recv (A := kpA σ) hT.2.2 (i := 1) (by decide) (vaS_up hS hσA)) q436 q437 q438 q118 q439 mdJ0_indexOf (room_v hRm (by omega) (by omega) (by omega) (by omega)) rfl rfl dX7_clause_12) ?_
    refine lv_if_ge (tgt := 30) hx hb dX7_clause_15 (by decide) (fun c15 => ?_) (fun c15 => ?_)
    · have hru := ru_ix c6 c15
      refine lv_aload_n hx hb dX7_clause_30 rfl (lv_at hl 1 rfl) ?_
      refine S_get hC hK hP (oQ_rd _ _ _ _ _) clX7 in_X7 1 (by decide) (fD142 _ _ _ _) q397 dX7_clause_31 ?_
      refine S_getN (v := .int (nI m)) hC hK hTx (q0 := 0) rfl clX5 in_X5 3 (by decide) rfl nq276 dX7_clause_34 ?_
      refine lv_bipush (v := 16) hx hb dX7_clause_37 (by decide) ?_
      refine lv_icmp_ne (tgt := 51) hx hb dX7_clause_39 (by decide) (fun c39 => ?_) (fun c39 => ?_)
      · have c39 : ¬ (m = 16) := mt (nI_eq (a := m) (b := 16) (by first | omega | exact hzN_b _ _ _) (by first | omega | exact hzN_b _ _ _)).mpr c39
        have hm16 : ¬ m = 16 := c39
        have hm15 : m < 16 := by omega
        refine lv_aload_n hx hb dX7_clause_51 rfl (lv_at hl 1 rfl) ?_
        refine CIs.go (rcV hC hl (c_X7_isGood G l o R tx (qE u (nI p) (u.1 144) 0 (u.1 146))  ) hK hP (va_recv hK.1 hP clX7 (oQ_rd _ _ _ _ _)) q423 q425 qs1 q117 q426 mdX7_isGood (room_v hRm (by omega) (by omega) (by omega) (by omega)) rfl rfl dX7_clause_52) ?_
        refine W_top (y := (bI (isGB 0))) (by simp only [qE_f145]) ?_
        refine W_top (y := 1) (by decide) ?_
        refine lv_if_ne (tgt := 59) hx hb dX7_clause_55 (by decide) (fun c55 => ?_) (fun c55 => ?_)
        · refine lv_aload_n hx hb dX7_clause_59 rfl (lv_at hl 1 rfl) ?_
          refine lv_dup hx hb dX7_clause_60 rfl ?_
          refine S_get hC hK hP (oQ_rd _ _ _ _ _) clX7 in_X7 2 (by decide) (fD143 _ _ _ _) q399 dX7_clause_61 ?_
          refine W_top (y := (nI p)) (by rw [qE_f143]) ?_
          refine lv_iconst (v := 1) hx hb dX7_clause_64 (by decide) ?_
          refine lv_iadd hx hb dX7_clause_65 ?_
          refine W_top (nI_add p 1) ?_
          refine F_put hC hK hP (hDA _ _) hS (oQ_rd _ _ _ _ _) clX7 in_X7 tyX7_ok nmX7 2 (by decide) (pQ143 _ _ _ _ _ _) q399 rfl rfl rfl rfl (Nat.le_of_ble_eq_true rfl) dX7_clause_66 (fun H locs hP hS hF => ?_)
          rw [qE_V143] at hP
          have hF : Fr (AwQ o R) _ _ := hF.up (fun q z => by rw [show q = R 140 from z]; exact hrd)
          have hTx := cT_fr hTx hF hAT
          refine lv_aload_n hx hb dX7_clause_69 rfl (lv_at hl 1 rfl) ?_
          refine lv_iconst (v := 0) hx hb dX7_clause_70 (by decide) ?_
          refine F_put hC hK hP (hDA _ _) hS (oQ_rd _ _ _ _ _) clX7 in_X7 tyX7_ok nmX7 3 (by decide) (pQ144 _ _ _ _ _ _) q400 rfl rfl rfl rfl (Nat.le_of_ble_eq_true rfl) dX7_clause_71 (fun H locs hP hS hF => ?_)
          rw [qE_V144] at hP
          have hF : Fr (AwQ o R) _ _ := hF.up (fun q z => by rw [show q = R 140 from z]; exact hrd)
          have hTx := cT_fr hTx hF hAT
          refine lv_iload_n hx hb dX7_clause_74 rfl (lv_at hl 0 rfl) ?_
          refine lv_bipush (v := 120) hx hb dX7_clause_75 (by decide) ?_
          refine lv_icmp_ne (tgt := 84) hx hb dX7_clause_77 (by decide) (fun c77 => ?_) (fun c77 => ?_)
          · have c77 : ¬ ((hzN (u.2.1 6) n p) = 120) := mt (nI_eq (a := (hzN (u.2.1 6) n p)) (b := 120) (by first | omega | exact hzN_b _ _ _) (by first | omega | exact hzN_b _ _ _)).mpr c77
            have h120 : ¬ ckN (u.2.1 6) n p = 120 := mt (hz_ck (by decide) (by decide)).mpr c77
            refine lv_aload_n hx hb dX7_clause_84 rfl (lv_at hl 1 rfl) ?_
            have hσ2 : ∀ q, AwQ o R q → σ.1 ≤ q ∧ q < Array.size H := fun q h => ⟨(hσ q h).1, by have := (hσ q h).2; have := hS.1; omega⟩
            have hge85 := hS.1
            refine CRq.goG (rrV (As := []) hC hl (sums_all G l 6 σ o R tx (qE u (nI (p + 1)) 0 0 (u.1 146)) n (p + 1) 0 (2 * n + 6) ([], fun _ => none) H hD hσ2 rfl hn rfl rfl hn2 (by omega) (by omega) (by omega)) hK (stK hT hS hσA) ⟨hP, rfl⟩ (va_recv hK.1 hP clX7 (oQ_rd _ _ _ _ _)) q526 q528 qs5 q117 q529 mdX7_sum (room_v hRm (by omega) (by omega) (by omega) (by omega)) rfl rfl dX7_clause_85) hS (hup hS.1) hA (fun r85 w85 g85 X85 H locs hpo85 hP hX85 hF hS => ?_)
            have hTx := cT_fr hTx hF hAT
            rcases FP_c hpo85.1 with ⟨a9, b9, hx9, hw9, hg9, rfl, hb9⟩ | ⟨e9, q9, hx9, hq9, hw9, he9, hg9⟩
            · change sumE (u.2.1 6) n 0 (p + 1) = _ at hx9
              have hs9 := sumE_seg (show p + 1 ≤ n by omega) hx9
              rw [hw9, qE_again] at hP
              simp only [qE_f144, qE_f146] at hP
              have hKs := (hpo85.2 _ hX85).lo hge85
              have hTT := (TT.anti (fun q (z : q < sg.heap.size) => Nat.lt_of_lt_of_le z hge85) _).1 _ _ (hb9 _ hX85)
              have hl : lv_has ls 4 [(1, .int (nI (hzN (u.2.1 6) n p))), (0, .ref (R 140))] := hl
              refine q_astore_n (lv' := [(2, va_rf (some b9)), (1, .int (nI (hzN (u.2.1 6) n p))), (0, .ref (R 140))]) hx hb dX7_clause_88 rfl hl (by decide) rfl (fun ls hl => ?_)
              refine lv_aload_n hx hb dX7_clause_89 rfl (lv_at hl 2 rfl) ?_
              refine CIs.go (rcV hC hl (c_X7_isGood G l o R tx (qE u (nI a9.2) 0 0 (u.1 146))  ) hK hP (va_recv hK.1 hP clX7 (oQ_rd _ _ _ _ _)) q423 q425 qs1 q117 q426 mdX7_isGood (room_v hRm (by omega) (by omega) (by omega) (by omega)) rfl rfl dX7_clause_90) ?_
              refine W_top (y := (bI (isGB 0))) (by simp only [qE_f145]) ?_
              refine W_top (y := 1) (by decide) ?_
              refine lv_if_eq (tgt := 114) hx hb dX7_clause_93 (by decide) (fun c93 => ?_) (fun c93 => ?_)
              · exact absurd c93 (by decide)
              · refine lv_aload_n hx hb dX7_clause_96 rfl (lv_at hl 2 rfl) ?_
                refine CIs.go (rcV hC hl (c_X7_here G l o R tx (qE u (nI a9.2) 0 0 (u.1 146)) a9.2 n (rfl) (hn) (hn2) (by omega)) hK hP (va_recv hK.1 hP clX7 (oQ_rd _ _ _ _ _)) q431 q433 qs3 q117 q434 mdX7_here (room_v hRm (by omega) (by omega) (by omega) (by omega)) rfl rfl dX7_clause_97) ?_
                refine W_top (y := (nI (hzN (u.2.1 6) n a9.2))) (by simp only [qE_g6]) ?_
                refine lv_bipush (v := 40) hx hb dX7_clause_100 (by decide) ?_
                refine lv_icmp_eq (tgt := 114) hx hb dX7_clause_102 (by decide) (fun c102 => ?_) (fun c102 => ?_)
                · have c102 : (hzN (u.2.1 6) n a9.2) = 40 := (nI_eq (a := (hzN (u.2.1 6) n a9.2)) (b := 40) (by first | omega | exact hzN_b _ _ _) (by first | omega | exact hzN_b _ _ _)).mp c102
                  have h40 : ckN (u.2.1 6) n a9.2 = 40 ∧ a9.2 < n := ⟨(hz_ck (by decide) (by decide)).mp c102, ckN_in (by decide) ((hz_ck (by decide) (by decide)).mp c102)⟩
                  refine lv_aload_n hx hb dX7_clause_114 rfl (lv_at hl 2 rfl) ?_
                  refine CIs.go (rcV hC hl (c_X7_isGood G l o R tx (qE u (nI a9.2) 0 0 (u.1 146))  ) hK hP (va_recv hK.1 hP clX7 (oQ_rd _ _ _ _ _)) q423 q425 qs1 q117 q426 mdX7_isGood (room_v hRm (by omega) (by omega) (by omega) (by omega)) rfl rfl dX7_clause_115) ?_
                  refine W_top (y := (bI (isGB 0))) (by simp only [qE_f145]) ?_
                  refine W_top (y := 1) (by decide) ?_
                  refine lv_if_eq (tgt := 128) hx hb dX7_clause_118 (by decide) (fun c118 => ?_) (fun c118 => ?_)
                  · exact absurd c118 (by decide)
                  · refine lv_aload_n hx hb dX7_clause_121 rfl (lv_at hl 2 rfl) ?_
                    have hσ3 : ∀ q, AwQ o R q → σ.1 ≤ q ∧ q < Array.size H := fun q h => ⟨(hσ q h).1, by have := (hσ q h).2; have := hS.1; omega⟩
                    have hge122 := hS.1
                    refine CRq.goG (rrV (As := []) hC hl ((conds_all G l 6).2.1 σ o R tx (qE u (nI a9.2) 0 0 (u.1 146)) n a9.2 0 (2 * n + 6) (b + a9.1.1.length) ([], fun _ => none) H hD hσ3 rfl hn rfl rfl hn2 h40.2 (by omega) (by omega)) hK (stK hT hS hσA) ⟨hP, rfl⟩ (va_recv hK.1 hP clX7 (oQ_rd _ _ _ _ _)) q595 q597 qs12 q117 q598 mdX7_condition (room_v hRm (by omega) (by omega) (by omega) (by omega)) rfl rfl dX7_clause_122) hS (hup hS.1) hA (fun r122 w122 g122 X122 H locs hpo122 hP hX122 hF hS => ?_)
                    have hTx := cT_fr hTx hF hAT
                    have hKs := hKs.fr hF hA
                    have hTT := TT.fr hTT hF (fun q z => by have := hA q z; omega)
                    rcases CP_c hpo122.1 with ⟨a8, b8, hx8, hw8, hg8, rfl, hb8⟩ | ⟨e8, q8, hx8, hq8, hw8, he8, hg8⟩
                    · change conE (u.2.1 6) n a9.2 (b + a9.1.1.length) = _ at hx8
                      have hs8 := con_b h40.2 hx8
                      rw [hw8, qE_again] at hP
                      simp only [qE_f144, qE_f146] at hP
                      have hKc := (hpo122.2 _ hX122).lo hge122
                      have hCT := (CT.anti (fun q (z : q < sg.heap.size) => Nat.lt_of_lt_of_le z hge122) _).1 _ _ (hb8 _ hX122)
                      have hl : lv_has ls 4 [(2, va_rf (some b9)), (1, .int (nI (hzN (u.2.1 6) n p))), (0, .ref (R 140))] := hl
                      refine lv_goto (tgt := 129) hx hb dX7_clause_125 (by decide) ?_
                      refine q_astore_n (lv' := [(3, va_rf (some b8)), (2, va_rf (some b9)), (1, .int (nI (hzN (u.2.1 6) n p))), (0, .ref (R 140))]) hx hb dX7_clause_129 rfl hl (by decide) rfl (fun ls hl => ?_)
                      refine lv_aload_n hx hb dX7_clause_130 rfl (lv_at hl 3 rfl) ?_
                      refine S_get hC hK hP (oQ_rd _ _ _ _ _) clX7 in_X7 1 (by decide) (fD142 _ _ _ _) q397 dX7_clause_131 ?_
                      refine S_getN (v := .ref r0) hC hK hTx (q0 := 0) rfl clX5 in_X5 0 (by decide) rfl nq270 dX7_clause_134 ?_
                      refine lv_aload_n hx hb dX7_clause_137 rfl (lv_at hl 3 rfl) ?_
                      refine S_get hC hK hP (oQ_rd _ _ _ _ _) clX7 in_X7 1 (by decide) (fD142 _ _ _ _) q397 dX7_clause_138 ?_
                      refine S_getN (v := .int (nI m)) hC hK hTx (q0 := 0) rfl clX5 in_X5 3 (by decide) rfl nq276 dX7_clause_141 ?_
                      refine lv_iload_n hx hb dX7_clause_144 rfl (lv_at hl 2 rfl) ?_
                      refine F_ast (q0 := 1) hC hK hTx (hDT (m, le, sm, cm)) hS rfl rfl (by decide) rfl hm15 dX7_clause_145 (fun H locs hTx hS hF => ?_)
                      have hF : Fr (AT (R 142) r0 r1 r2) _ _ := hF.up (fun q z => by have z : q = r0 := z; subst z; exact Or.inr (Or.inl rfl))
                      have hTx : va_P G.1 vwCl (cT G (R 142) r0 r1 r2 (m, upd le m (nI (hzN (u.2.1 6) n p)), sm, cm)) _ := hTx
                      have hP := PwQ.frT hP hF hD (fun q h z => hAT q z h)
                      have hKs := hKs.fr hF hTl
                      have hTT := TT.fr hTT hF hTl
                      have hKc := hKc.fr hF hTl
                      have hCT := CT.fr hCT hF hTl
                      refine lv_aload_n hx hb dX7_clause_146 rfl (lv_at hl 3 rfl) ?_
                      refine S_get hC hK hP (oQ_rd _ _ _ _ _) clX7 in_X7 1 (by decide) (fD142 _ _ _ _) q397 dX7_clause_147 ?_
                      refine S_getN (v := .ref r1) hC hK hTx (q0 := 0) rfl clX5 in_X5 1 (by decide) rfl nq272 dX7_clause_150 ?_
                      refine lv_aload_n hx hb dX7_clause_153 rfl (lv_at hl 3 rfl) ?_
                      refine S_get hC hK hP (oQ_rd _ _ _ _ _) clX7 in_X7 1 (by decide) (fD142 _ _ _ _) q397 dX7_clause_154 ?_
                      refine S_getN (v := .int (nI m)) hC hK hTx (q0 := 0) rfl clX5 in_X5 3 (by decide) rfl nq276 dX7_clause_157 ?_
                      refine q_aload_n hx hb dX7_clause_160 rfl (lv_at hl 1 rfl) ?_
                      refine F_astq (v := (some b9)) (q0 := 2) (t0 := 4) hC hK hTx (hDT (m, upd le m (nI (hzN (u.2.1 6) n p)), sm, cm)) hS rfl rfl rfl (fun b hb => SK.cast (Or.inl ⟨rfl, rfl⟩) hK (hKs b hb).1) (by decide) rfl hm15 dX7_clause_161 (fun H locs hTx hS hF => ?_)
                      have hF : Fr (AT (R 142) r0 r1 r2) _ _ := hF.up (fun q z => by have z : q = r1 := z; subst z; exact Or.inr (Or.inr (Or.inl rfl)))
                      have hTx : va_P G.1 vwCl (cT G (R 142) r0 r1 r2 (m, upd le m (nI (hzN (u.2.1 6) n p)), va_up sm m (some b9), cm)) _ := hTx
                      have hP := PwQ.frT hP hF hD (fun q h z => hAT q z h)
                      have hKs := hKs.fr hF hTl
                      have hTT := TT.fr hTT hF hTl
                      have hKc := hKc.fr hF hTl
                      have hCT := CT.fr hCT hF hTl
                      refine lv_aload_n hx hb dX7_clause_162 rfl (lv_at hl 3 rfl) ?_
                      refine S_get hC hK hP (oQ_rd _ _ _ _ _) clX7 in_X7 1 (by decide) (fD142 _ _ _ _) q397 dX7_clause_163 ?_
                      refine S_getN (v := .ref r2) hC hK hTx (q0 := 0) rfl clX5 in_X5 2 (by decide) rfl nq274 dX7_clause_166 ?_
                      refine lv_aload_n hx hb dX7_clause_169 rfl (lv_at hl 3 rfl) ?_
                      refine S_get hC hK hP (oQ_rd _ _ _ _ _) clX7 in_X7 1 (by decide) (fD142 _ _ _ _) q397 dX7_clause_170 ?_
                      refine S_getN (v := .int (nI m)) hC hK hTx (q0 := 0) rfl clX5 in_X5 3 (by decide) rfl nq276 dX7_clause_173 ?_
                      refine q_aload_n hx hb dX7_clause_176 rfl (lv_at hl 0 rfl) ?_
                      refine F_astq (v := (some b8)) (q0 := 3) (t0 := 5) hC hK hTx (hDT (m, upd le m (nI (hzN (u.2.1 6) n p)), va_up sm m (some b9), cm)) hS rfl rfl rfl (fun b hb => SK.cast (Or.inr ⟨rfl, rfl⟩) hK (hKc b hb).1) (by decide) rfl hm15 dX7_clause_177 (fun H locs hTx hS hF => ?_)
                      have hF : Fr (AT (R 142) r0 r1 r2) _ _ := hF.up (fun q z => by have z : q = r2 := z; subst z; exact Or.inr (Or.inr (Or.inr rfl)))
                      have hTx : va_P G.1 vwCl (cT G (R 142) r0 r1 r2 (m, upd le m (nI (hzN (u.2.1 6) n p)), va_up sm m (some b9), va_up cm m (some b8))) _ := hTx
                      have hP := PwQ.frT hP hF hD (fun q h z => hAT q z h)
                      have hKs := hKs.fr hF hTl
                      have hTT := TT.fr hTT hF hTl
                      have hKc := hKc.fr hF hTl
                      have hCT := CT.fr hCT hF hTl
                      refine lv_aload_n hx hb dX7_clause_178 rfl (lv_at hl 3 rfl) ?_
                      refine S_get hC hK hP (oQ_rd _ _ _ _ _) clX7 in_X7 1 (by decide) (fD142 _ _ _ _) q397 dX7_clause_179 ?_
                      refine lv_dup hx hb dX7_clause_182 rfl ?_
                      refine S_getN (v := .int (nI m)) hC hK hTx (q0 := 0) rfl clX5 in_X5 3 (by decide) rfl nq276 dX7_clause_183 ?_
                      refine lv_iconst (v := 1) hx hb dX7_clause_186 (by decide) ?_
                      refine lv_iadd hx hb dX7_clause_187 ?_
                      refine W_top (nI_add m 1) ?_
                      refine F_putN (q0 := 0) hC hK hTx (hDT (m, upd le m (nI (hzN (u.2.1 6) n p)), va_up sm m (some b9), va_up cm m (some b8))) hS rfl clX5 in_X5 tyX5_ok nmX5 3 (by decide) rfl nq276 rfl rfl rfl rfl (Nat.le_of_ble_eq_true rfl) dX7_clause_188 (fun H locs hTx hS hF => ?_)
                      have hF : Fr (AT (R 142) r0 r1 r2) _ _ := hF.up (fun q z => by have z : q = R 142 := z; subst z; exact Or.inl rfl)
                      have hTx : va_P G.1 vwCl (cT G (R 142) r0 r1 r2 ((m + 1), upd le m (nI (hzN (u.2.1 6) n p)), va_up sm m (some b9), va_up cm m (some b8))) _ := hTx
                      have hP := PwQ.frT hP hF hD (fun q h z => hAT q z h)
                      have hKs := hKs.fr hF hTl
                      have hTT := TT.fr hTT hF hTl
                      have hKc := hKc.fr hF hTl
                      have hCT := CT.fr hCT hF hTl
                      refine W_size (fun hzz hww => ?_)
                      exact hq _ _ ((qE u (nI a8.2) 0 0 (u.1 146)), ((m + 1), upd le m (nI (hzN (u.2.1 6) n p)), va_up sm m (some b9), va_up cm m (some b8)), ((0 + g85) + g122), (fun H => (CT G (fun q => q < sg.heap.size) H DEP).1 b8 a8.1.2 ∧ (TT G (fun q => q < sg.heap.size) H DEP).1 b9 a9.1.2)) _ _ _ _ dX7_clause_191 ⟨hP, hTx, ⟨hzz, hww⟩, ⟨(CT.upto (show n - a9.2 + 4 * 6 + 2 ≤ DEP by show _ ≤ 300; omega)).1 _ _ hCT, (TT.upto (show n - (p + 1) + 2 * 6 + 2 ≤ DEP by show _ ≤ 300; omega)).1 _ _ hTT⟩⟩ hS (ClP_r (r := ((ckN (u.2.1 6) n p, a9.1, a8.1), a8.2)) (by unfold ruleE halfE; rw [if_pos hru.1, if_neg hm16, if_neg h120, hx9]; dsimp only [bW]; unfold conW; rw [if_pos h40.1]; first | rw [hx8] | (rw [show conE _ n (p + 1) (b + ([] : List Nat).length) = _ from hx8])) rfl (by dsimp only; omega) (some b9) b8 (by rw [hru.2.2]) (fun H h => ⟨h.1, fun _ => ⟨b9, rfl, h.2⟩⟩)) (by omega) (by omega)
                    · change conE (u.2.1 6) n a9.2 (b + a9.1.1.length) = _ at hx8
                      rw [hw8, qE_again] at hP
                      simp only [qE_f144] at hP
                      have hKc := (hpo122.2 _ hX122).lo hge122
                      have hl : lv_has ls 4 [(2, va_rf (some b9)), (1, .int (nI (hzN (u.2.1 6) n p))), (0, .ref (R 140))] := hl
                      refine lv_goto (tgt := 129) hx hb dX7_clause_125 (by decide) ?_
                      refine q_astore_n (lv' := [(3, va_rf r122), (2, va_rf (some b9)), (1, .int (nI (hzN (u.2.1 6) n p))), (0, .ref (R 140))]) hx hb dX7_clause_129 rfl hl (by decide) rfl (fun ls hl => ?_)
                      refine lv_aload_n hx hb dX7_clause_130 rfl (lv_at hl 3 rfl) ?_
                      refine S_get hC hK hP (oQ_rd _ _ _ _ _) clX7 in_X7 1 (by decide) (fD142 _ _ _ _) q397 dX7_clause_131 ?_
                      refine S_getN (v := .ref r0) hC hK hTx (q0 := 0) rfl clX5 in_X5 0 (by decide) rfl nq270 dX7_clause_134 ?_
                      refine lv_aload_n hx hb dX7_clause_137 rfl (lv_at hl 3 rfl) ?_
                      refine S_get hC hK hP (oQ_rd _ _ _ _ _) clX7 in_X7 1 (by decide) (fD142 _ _ _ _) q397 dX7_clause_138 ?_
                      refine S_getN (v := .int (nI m)) hC hK hTx (q0 := 0) rfl clX5 in_X5 3 (by decide) rfl nq276 dX7_clause_141 ?_
                      refine lv_iload_n hx hb dX7_clause_144 rfl (lv_at hl 2 rfl) ?_
                      refine F_ast (q0 := 1) hC hK hTx (hDT (m, le, sm, cm)) hS rfl rfl (by decide) rfl hm15 dX7_clause_145 (fun H locs hTx hS hF => ?_)
                      have hF : Fr (AT (R 142) r0 r1 r2) _ _ := hF.up (fun q z => by have z : q = r0 := z; subst z; exact Or.inr (Or.inl rfl))
                      have hTx : va_P G.1 vwCl (cT G (R 142) r0 r1 r2 (m, upd le m (nI (hzN (u.2.1 6) n p)), sm, cm)) _ := hTx
                      have hP := PwQ.frT hP hF hD (fun q h z => hAT q z h)
                      have hKs := hKs.fr hF hTl
                      have hTT := TT.fr hTT hF hTl
                      have hKc := hKc.fr hF hTl
                      refine lv_aload_n hx hb dX7_clause_146 rfl (lv_at hl 3 rfl) ?_
                      refine S_get hC hK hP (oQ_rd _ _ _ _ _) clX7 in_X7 1 (by decide) (fD142 _ _ _ _) q397 dX7_clause_147 ?_
                      refine S_getN (v := .ref r1) hC hK hTx (q0 := 0) rfl clX5 in_X5 1 (by decide) rfl nq272 dX7_clause_150 ?_
                      refine lv_aload_n hx hb dX7_clause_153 rfl (lv_at hl 3 rfl) ?_
                      refine S_get hC hK hP (oQ_rd _ _ _ _ _) clX7 in_X7 1 (by decide) (fD142 _ _ _ _) q397 dX7_clause_154 ?_
                      refine S_getN (v := .int (nI m)) hC hK hTx (q0 := 0) rfl clX5 in_X5 3 (by decide) rfl nq276 dX7_clause_157 ?_
                      refine q_aload_n hx hb dX7_clause_160 rfl (lv_at hl 1 rfl) ?_
                      refine F_astq (v := (some b9)) (q0 := 2) (t0 := 4) hC hK hTx (hDT (m, upd le m (nI (hzN (u.2.1 6) n p)), sm, cm)) hS rfl rfl rfl (fun b hb => SK.cast (Or.inl ⟨rfl, rfl⟩) hK (hKs b hb).1) (by decide) rfl hm15 dX7_clause_161 (fun H locs hTx hS hF => ?_)
                      have hF : Fr (AT (R 142) r0 r1 r2) _ _ := hF.up (fun q z => by have z : q = r1 := z; subst z; exact Or.inr (Or.inr (Or.inl rfl)))
                      have hTx : va_P G.1 vwCl (cT G (R 142) r0 r1 r2 (m, upd le m (nI (hzN (u.2.1 6) n p)), va_up sm m (some b9), cm)) _ := hTx
                      have hP := PwQ.frT hP hF hD (fun q h z => hAT q z h)
                      have hKs := hKs.fr hF hTl
                      have hTT := TT.fr hTT hF hTl
                      have hKc := hKc.fr hF hTl
                      refine lv_aload_n hx hb dX7_clause_162 rfl (lv_at hl 3 rfl) ?_
                      refine S_get hC hK hP (oQ_rd _ _ _ _ _) clX7 in_X7 1 (by decide) (fD142 _ _ _ _) q397 dX7_clause_163 ?_
                      refine S_getN (v := .ref r2) hC hK hTx (q0 := 0) rfl clX5 in_X5 2 (by decide) rfl nq274 dX7_clause_166 ?_
                      refine lv_aload_n hx hb dX7_clause_169 rfl (lv_at hl 3 rfl) ?_
                      refine S_get hC hK hP (oQ_rd _ _ _ _ _) clX7 in_X7 1 (by decide) (fD142 _ _ _ _) q397 dX7_clause_170 ?_
                      refine S_getN (v := .int (nI m)) hC hK hTx (q0 := 0) rfl clX5 in_X5 3 (by decide) rfl nq276 dX7_clause_173 ?_
                      refine q_aload_n hx hb dX7_clause_176 rfl (lv_at hl 0 rfl) ?_
                      refine F_astq (v := r122) (q0 := 3) (t0 := 5) hC hK hTx (hDT (m, upd le m (nI (hzN (u.2.1 6) n p)), va_up sm m (some b9), cm)) hS rfl rfl rfl (fun b hb => SK.cast (Or.inr ⟨rfl, rfl⟩) hK (hKc b hb).1) (by decide) rfl hm15 dX7_clause_177 (fun H locs hTx hS hF => ?_)
                      have hF : Fr (AT (R 142) r0 r1 r2) _ _ := hF.up (fun q z => by have z : q = r2 := z; subst z; exact Or.inr (Or.inr (Or.inr rfl)))
                      have hTx : va_P G.1 vwCl (cT G (R 142) r0 r1 r2 (m, upd le m (nI (hzN (u.2.1 6) n p)), va_up sm m (some b9), va_up cm m r122)) _ := hTx
                      have hP := PwQ.frT hP hF hD (fun q h z => hAT q z h)
                      have hKs := hKs.fr hF hTl
                      have hTT := TT.fr hTT hF hTl
                      have hKc := hKc.fr hF hTl
                      refine lv_aload_n hx hb dX7_clause_178 rfl (lv_at hl 3 rfl) ?_
                      refine S_get hC hK hP (oQ_rd _ _ _ _ _) clX7 in_X7 1 (by decide) (fD142 _ _ _ _) q397 dX7_clause_179 ?_
                      refine lv_dup hx hb dX7_clause_182 rfl ?_
                      refine S_getN (v := .int (nI m)) hC hK hTx (q0 := 0) rfl clX5 in_X5 3 (by decide) rfl nq276 dX7_clause_183 ?_
                      refine lv_iconst (v := 1) hx hb dX7_clause_186 (by decide) ?_
                      refine lv_iadd hx hb dX7_clause_187 ?_
                      refine W_top (nI_add m 1) ?_
                      refine F_putN (q0 := 0) hC hK hTx (hDT (m, upd le m (nI (hzN (u.2.1 6) n p)), va_up sm m (some b9), va_up cm m r122)) hS rfl clX5 in_X5 tyX5_ok nmX5 3 (by decide) rfl nq276 rfl rfl rfl rfl (Nat.le_of_ble_eq_true rfl) dX7_clause_188 (fun H locs hTx hS hF => ?_)
                      have hF : Fr (AT (R 142) r0 r1 r2) _ _ := hF.up (fun q z => by have z : q = R 142 := z; subst z; exact Or.inl rfl)
                      have hTx : va_P G.1 vwCl (cT G (R 142) r0 r1 r2 ((m + 1), upd le m (nI (hzN (u.2.1 6) n p)), va_up sm m (some b9), va_up cm m r122)) _ := hTx
                      have hP := PwQ.frT hP hF hD (fun q h z => hAT q z h)
                      have hKs := hKs.fr hF hTl
                      have hTT := TT.fr hTT hF hTl
                      have hKc := hKc.fr hF hTl
                      refine W_size (fun hzz hww => ?_)
                      exact hq _ _ ((qE u (nI q8) 0 (nI e8.1) (nI e8.2)), ((m + 1), upd le m (nI (hzN (u.2.1 6) n p)), va_up sm m (some b9), va_up cm m r122), ((0 + g85) + g122), (fun _ => True)) _ _ _ _ dX7_clause_191 ⟨hP, hTx, ⟨hzz, hww⟩, trivial⟩ hS (ClP_l (e := e8) (q := q8) (by unfold ruleE halfE; rw [if_pos hru.1, if_neg hm16, if_neg h120, hx9]; dsimp only [bW]; unfold conW; rw [if_pos h40.1]; first | rw [hx8] | (rw [show conE _ n (p + 1) (b + ([] : List Nat).length) = _ from hx8])) (by omega) rfl he8 (by omega)) (by omega) (by omega)
                · have c102 : ¬ ((hzN (u.2.1 6) n a9.2) = 40) := mt (nI_eq (a := (hzN (u.2.1 6) n a9.2)) (b := 40) (by first | omega | exact hzN_b _ _ _) (by first | omega | exact hzN_b _ _ _)).mpr c102
                  have h40 : ¬ ckN (u.2.1 6) n a9.2 = 40 := mt (hz_ck (by decide) (by decide)).mpr c102
                  refine lv_aload_n hx hb dX7_clause_105 rfl (lv_at hl 2 rfl) ?_
                  refine lv_iconst (v := 1) hx hb dX7_clause_106 (by decide) ?_
                  refine lv_aload_n hx hb dX7_clause_107 rfl (lv_at hl 2 rfl) ?_
                  refine S_get hC hK hP (oQ_rd _ _ _ _ _) clX7 in_X7 2 (by decide) (fD143 _ _ _ _) q399 dX7_clause_108 ?_
                  refine W_top (y := (nI a9.2)) (by rw [qE_f143]) ?_
                  refine CXv.go (rcV hC hl (c_X7_bad G l o R tx (qE u (nI a9.2) 0 0 (u.1 146)) 1 (nI a9.2) (by first | assumption | omega | rfl | (simp_all; done)) hD) hK hP (va_recv hK.1 hP clX7 (oQ_rd _ _ _ _ _)) q522 q524 qs4 q117 q525 mdX7_bad (room_v hRm (by omega) (by omega) (by omega) (by omega)) rfl rfl dX7_clause_111) hS (fun q h => Or.inl h) (fun w111 H locs hpo hP hz hk hS => ?_)
                  have ew111 := hpo
                  rw [ew111] at hP
                  rw [qE_again] at hP
                  simp only [qE_f143, qE_f144] at hP
                  have hF : Fr (AwQ o R) _ _ := ⟨hz, hk⟩
                  have hTx := cT_fr hTx hF hAT
                  have hKs := hKs.fr hF hA
                  have hTT := TT.fr hTT hF (fun q z => by have := hA q z; omega)
                  refine lv_aload_n hx hb dX7_clause_114 rfl (lv_at hl 2 rfl) ?_
                  refine CIs.go (rcV hC hl (c_X7_isGood G l o R tx (qE u (nI a9.2) 0 1 (nI a9.2))  ) hK hP (va_recv hK.1 hP clX7 (oQ_rd _ _ _ _ _)) q423 q425 qs1 q117 q426 mdX7_isGood (room_v hRm (by omega) (by omega) (by omega) (by omega)) rfl rfl dX7_clause_115) ?_
                  refine W_top (y := (bI (isGB 1))) (by simp only [qE_f145]) ?_
                  refine W_top (y := 0) (by decide) ?_
                  refine lv_if_eq (tgt := 128) hx hb dX7_clause_118 (by decide) (fun c118 => ?_) (fun c118 => ?_)
                  · refine lv_null hx hb dX7_clause_128 ?_
                    refine lv_astore_nN (lv' := [(3, .null), (2, va_rf (some b9)), (1, .int (nI (hzN (u.2.1 6) n p))), (0, .ref (R 140))]) hx hb dX7_clause_129 rfl hl (by decide) rfl (fun ls hl => ?_)
                    refine lv_aload_n hx hb dX7_clause_130 rfl (lv_at hl 3 rfl) ?_
                    refine S_get hC hK hP (oQ_rd _ _ _ _ _) clX7 in_X7 1 (by decide) (fD142 _ _ _ _) q397 dX7_clause_131 ?_
                    refine S_getN (v := .ref r0) hC hK hTx (q0 := 0) rfl clX5 in_X5 0 (by decide) rfl nq270 dX7_clause_134 ?_
                    refine lv_aload_n hx hb dX7_clause_137 rfl (lv_at hl 3 rfl) ?_
                    refine S_get hC hK hP (oQ_rd _ _ _ _ _) clX7 in_X7 1 (by decide) (fD142 _ _ _ _) q397 dX7_clause_138 ?_
                    refine S_getN (v := .int (nI m)) hC hK hTx (q0 := 0) rfl clX5 in_X5 3 (by decide) rfl nq276 dX7_clause_141 ?_
                    refine lv_iload_n hx hb dX7_clause_144 rfl (lv_at hl 2 rfl) ?_
                    refine F_ast (q0 := 1) hC hK hTx (hDT (m, le, sm, cm)) hS rfl rfl (by decide) rfl hm15 dX7_clause_145 (fun H locs hTx hS hF => ?_)
                    have hF : Fr (AT (R 142) r0 r1 r2) _ _ := hF.up (fun q z => by have z : q = r0 := z; subst z; exact Or.inr (Or.inl rfl))
                    have hTx : va_P G.1 vwCl (cT G (R 142) r0 r1 r2 (m, upd le m (nI (hzN (u.2.1 6) n p)), sm, cm)) _ := hTx
                    have hP := PwQ.frT hP hF hD (fun q h z => hAT q z h)
                    have hKs := hKs.fr hF hTl
                    have hTT := TT.fr hTT hF hTl
                    refine lv_aload_n hx hb dX7_clause_146 rfl (lv_at hl 3 rfl) ?_
                    refine S_get hC hK hP (oQ_rd _ _ _ _ _) clX7 in_X7 1 (by decide) (fD142 _ _ _ _) q397 dX7_clause_147 ?_
                    refine S_getN (v := .ref r1) hC hK hTx (q0 := 0) rfl clX5 in_X5 1 (by decide) rfl nq272 dX7_clause_150 ?_
                    refine lv_aload_n hx hb dX7_clause_153 rfl (lv_at hl 3 rfl) ?_
                    refine S_get hC hK hP (oQ_rd _ _ _ _ _) clX7 in_X7 1 (by decide) (fD142 _ _ _ _) q397 dX7_clause_154 ?_
                    refine S_getN (v := .int (nI m)) hC hK hTx (q0 := 0) rfl clX5 in_X5 3 (by decide) rfl nq276 dX7_clause_157 ?_
                    refine q_aload_n hx hb dX7_clause_160 rfl (lv_at hl 1 rfl) ?_
                    refine F_astq (v := (some b9)) (q0 := 2) (t0 := 4) hC hK hTx (hDT (m, upd le m (nI (hzN (u.2.1 6) n p)), sm, cm)) hS rfl rfl rfl (fun b hb => SK.cast (Or.inl ⟨rfl, rfl⟩) hK (hKs b hb).1) (by decide) rfl hm15 dX7_clause_161 (fun H locs hTx hS hF => ?_)
                    have hF : Fr (AT (R 142) r0 r1 r2) _ _ := hF.up (fun q z => by have z : q = r1 := z; subst z; exact Or.inr (Or.inr (Or.inl rfl)))
                    have hTx : va_P G.1 vwCl (cT G (R 142) r0 r1 r2 (m, upd le m (nI (hzN (u.2.1 6) n p)), va_up sm m (some b9), cm)) _ := hTx
                    have hP := PwQ.frT hP hF hD (fun q h z => hAT q z h)
                    have hKs := hKs.fr hF hTl
                    have hTT := TT.fr hTT hF hTl
                    refine lv_aload_n hx hb dX7_clause_162 rfl (lv_at hl 3 rfl) ?_
                    refine S_get hC hK hP (oQ_rd _ _ _ _ _) clX7 in_X7 1 (by decide) (fD142 _ _ _ _) q397 dX7_clause_163 ?_
                    refine S_getN (v := .ref r2) hC hK hTx (q0 := 0) rfl clX5 in_X5 2 (by decide) rfl nq274 dX7_clause_166 ?_
                    refine lv_aload_n hx hb dX7_clause_169 rfl (lv_at hl 3 rfl) ?_
                    refine S_get hC hK hP (oQ_rd _ _ _ _ _) clX7 in_X7 1 (by decide) (fD142 _ _ _ _) q397 dX7_clause_170 ?_
                    refine S_getN (v := .int (nI m)) hC hK hTx (q0 := 0) rfl clX5 in_X5 3 (by decide) rfl nq276 dX7_clause_173 ?_
                    refine lv_aload_nN hx hb dX7_clause_176 rfl (lv_at hl 0 rfl) ?_
                    refine F_astq (v := none) (q0 := 3) (t0 := 5) hC hK hTx (hDT (m, upd le m (nI (hzN (u.2.1 6) n p)), va_up sm m (some b9), cm)) hS rfl rfl rfl (fun b hb => by cases hb) (by decide) rfl hm15 dX7_clause_177 (fun H locs hTx hS hF => ?_)
                    have hF : Fr (AT (R 142) r0 r1 r2) _ _ := hF.up (fun q z => by have z : q = r2 := z; subst z; exact Or.inr (Or.inr (Or.inr rfl)))
                    have hTx : va_P G.1 vwCl (cT G (R 142) r0 r1 r2 (m, upd le m (nI (hzN (u.2.1 6) n p)), va_up sm m (some b9), va_up cm m none)) _ := hTx
                    have hP := PwQ.frT hP hF hD (fun q h z => hAT q z h)
                    have hKs := hKs.fr hF hTl
                    have hTT := TT.fr hTT hF hTl
                    refine lv_aload_n hx hb dX7_clause_178 rfl (lv_at hl 3 rfl) ?_
                    refine S_get hC hK hP (oQ_rd _ _ _ _ _) clX7 in_X7 1 (by decide) (fD142 _ _ _ _) q397 dX7_clause_179 ?_
                    refine lv_dup hx hb dX7_clause_182 rfl ?_
                    refine S_getN (v := .int (nI m)) hC hK hTx (q0 := 0) rfl clX5 in_X5 3 (by decide) rfl nq276 dX7_clause_183 ?_
                    refine lv_iconst (v := 1) hx hb dX7_clause_186 (by decide) ?_
                    refine lv_iadd hx hb dX7_clause_187 ?_
                    refine W_top (nI_add m 1) ?_
                    refine F_putN (q0 := 0) hC hK hTx (hDT (m, upd le m (nI (hzN (u.2.1 6) n p)), va_up sm m (some b9), va_up cm m none)) hS rfl clX5 in_X5 tyX5_ok nmX5 3 (by decide) rfl nq276 rfl rfl rfl rfl (Nat.le_of_ble_eq_true rfl) dX7_clause_188 (fun H locs hTx hS hF => ?_)
                    have hF : Fr (AT (R 142) r0 r1 r2) _ _ := hF.up (fun q z => by have z : q = R 142 := z; subst z; exact Or.inl rfl)
                    have hTx : va_P G.1 vwCl (cT G (R 142) r0 r1 r2 ((m + 1), upd le m (nI (hzN (u.2.1 6) n p)), va_up sm m (some b9), va_up cm m none)) _ := hTx
                    have hP := PwQ.frT hP hF hD (fun q h z => hAT q z h)
                    have hKs := hKs.fr hF hTl
                    have hTT := TT.fr hTT hF hTl
                    refine W_size (fun hzz hww => ?_)
                    exact hq _ _ ((qE u (nI a9.2) 0 1 (nI a9.2)), ((m + 1), upd le m (nI (hzN (u.2.1 6) n p)), va_up sm m (some b9), va_up cm m none), (0 + g85), (fun _ => True)) _ _ _ _ dX7_clause_191 ⟨hP, hTx, ⟨hzz, hww⟩, trivial⟩ hS (ClP_l (e := (1, a9.2)) (q := a9.2) (by unfold ruleE halfE; rw [if_pos hru.1, if_neg hm16, if_neg h120, hx9]; dsimp only [bW]; unfold conW; rw [if_neg h40]) (by omega) rfl (show fOK 1 from ⟨by decide, by decide⟩) (by omega)) (by omega) (by omega)
                  · exact absurd c118 (by decide)
            · change sumE (u.2.1 6) n 0 (p + 1) = _ at hx9
              rw [hw9, qE_again] at hP
              simp only [qE_f144] at hP
              have hKs := (hpo85.2 _ hX85).lo hge85
              have hl : lv_has ls 4 [(1, .int (nI (hzN (u.2.1 6) n p))), (0, .ref (R 140))] := hl
              refine q_astore_n (lv' := [(2, va_rf r85), (1, .int (nI (hzN (u.2.1 6) n p))), (0, .ref (R 140))]) hx hb dX7_clause_88 rfl hl (by decide) rfl (fun ls hl => ?_)
              refine lv_aload_n hx hb dX7_clause_89 rfl (lv_at hl 2 rfl) ?_
              refine CIs.go (rcV hC hl (c_X7_isGood G l o R tx (qE u (nI q9) 0 (nI e9.1) (nI e9.2))  ) hK hP (va_recv hK.1 hP clX7 (oQ_rd _ _ _ _ _)) q423 q425 qs1 q117 q426 mdX7_isGood (room_v hRm (by omega) (by omega) (by omega) (by omega)) rfl rfl dX7_clause_90) ?_
              refine W_top (y := (bI (isGB (nI e9.1)))) (by simp only [qE_f145]) ?_
              refine W_top (y := 0) (by rw [he9.1]; rfl) ?_
              refine lv_if_eq (tgt := 114) hx hb dX7_clause_93 (by decide) (fun c93 => ?_) (fun c93 => ?_)
              · refine lv_aload_n hx hb dX7_clause_114 rfl (lv_at hl 2 rfl) ?_
                refine CIs.go (rcV hC hl (c_X7_isGood G l o R tx (qE u (nI q9) 0 (nI e9.1) (nI e9.2))  ) hK hP (va_recv hK.1 hP clX7 (oQ_rd _ _ _ _ _)) q423 q425 qs1 q117 q426 mdX7_isGood (room_v hRm (by omega) (by omega) (by omega) (by omega)) rfl rfl dX7_clause_115) ?_
                refine W_top (y := (bI (isGB (nI e9.1)))) (by simp only [qE_f145]) ?_
                refine W_top (y := 0) (by rw [he9.1]; rfl) ?_
                refine lv_if_eq (tgt := 128) hx hb dX7_clause_118 (by decide) (fun c118 => ?_) (fun c118 => ?_)
                · refine lv_null hx hb dX7_clause_128 ?_
                  refine lv_astore_nN (lv' := [(3, .null), (2, va_rf r85), (1, .int (nI (hzN (u.2.1 6) n p))), (0, .ref (R 140))]) hx hb dX7_clause_129 rfl hl (by decide) (by cases r85 <;> rfl) (fun ls hl => ?_)
                  refine lv_aload_n hx hb dX7_clause_130 rfl (lv_at hl 3 rfl) ?_
                  refine S_get hC hK hP (oQ_rd _ _ _ _ _) clX7 in_X7 1 (by decide) (fD142 _ _ _ _) q397 dX7_clause_131 ?_
                  refine S_getN (v := .ref r0) hC hK hTx (q0 := 0) rfl clX5 in_X5 0 (by decide) rfl nq270 dX7_clause_134 ?_
                  refine lv_aload_n hx hb dX7_clause_137 rfl (lv_at hl 3 rfl) ?_
                  refine S_get hC hK hP (oQ_rd _ _ _ _ _) clX7 in_X7 1 (by decide) (fD142 _ _ _ _) q397 dX7_clause_138 ?_
                  refine S_getN (v := .int (nI m)) hC hK hTx (q0 := 0) rfl clX5 in_X5 3 (by decide) rfl nq276 dX7_clause_141 ?_
                  refine lv_iload_n hx hb dX7_clause_144 rfl (lv_at hl 2 rfl) ?_
                  refine F_ast (q0 := 1) hC hK hTx (hDT (m, le, sm, cm)) hS rfl rfl (by decide) rfl hm15 dX7_clause_145 (fun H locs hTx hS hF => ?_)
                  have hF : Fr (AT (R 142) r0 r1 r2) _ _ := hF.up (fun q z => by have z : q = r0 := z; subst z; exact Or.inr (Or.inl rfl))
                  have hTx : va_P G.1 vwCl (cT G (R 142) r0 r1 r2 (m, upd le m (nI (hzN (u.2.1 6) n p)), sm, cm)) _ := hTx
                  have hP := PwQ.frT hP hF hD (fun q h z => hAT q z h)
                  have hKs := hKs.fr hF hTl
                  refine lv_aload_n hx hb dX7_clause_146 rfl (lv_at hl 3 rfl) ?_
                  refine S_get hC hK hP (oQ_rd _ _ _ _ _) clX7 in_X7 1 (by decide) (fD142 _ _ _ _) q397 dX7_clause_147 ?_
                  refine S_getN (v := .ref r1) hC hK hTx (q0 := 0) rfl clX5 in_X5 1 (by decide) rfl nq272 dX7_clause_150 ?_
                  refine lv_aload_n hx hb dX7_clause_153 rfl (lv_at hl 3 rfl) ?_
                  refine S_get hC hK hP (oQ_rd _ _ _ _ _) clX7 in_X7 1 (by decide) (fD142 _ _ _ _) q397 dX7_clause_154 ?_
                  refine S_getN (v := .int (nI m)) hC hK hTx (q0 := 0) rfl clX5 in_X5 3 (by decide) rfl nq276 dX7_clause_157 ?_
                  refine q_aload_n hx hb dX7_clause_160 rfl (lv_at hl 1 rfl) ?_
                  refine F_astq (v := r85) (q0 := 2) (t0 := 4) hC hK hTx (hDT (m, upd le m (nI (hzN (u.2.1 6) n p)), sm, cm)) hS rfl rfl rfl (fun b hb => SK.cast (Or.inl ⟨rfl, rfl⟩) hK (hKs b hb).1) (by decide) rfl hm15 dX7_clause_161 (fun H locs hTx hS hF => ?_)
                  have hF : Fr (AT (R 142) r0 r1 r2) _ _ := hF.up (fun q z => by have z : q = r1 := z; subst z; exact Or.inr (Or.inr (Or.inl rfl)))
                  have hTx : va_P G.1 vwCl (cT G (R 142) r0 r1 r2 (m, upd le m (nI (hzN (u.2.1 6) n p)), va_up sm m r85, cm)) _ := hTx
                  have hP := PwQ.frT hP hF hD (fun q h z => hAT q z h)
                  have hKs := hKs.fr hF hTl
                  refine lv_aload_n hx hb dX7_clause_162 rfl (lv_at hl 3 rfl) ?_
                  refine S_get hC hK hP (oQ_rd _ _ _ _ _) clX7 in_X7 1 (by decide) (fD142 _ _ _ _) q397 dX7_clause_163 ?_
                  refine S_getN (v := .ref r2) hC hK hTx (q0 := 0) rfl clX5 in_X5 2 (by decide) rfl nq274 dX7_clause_166 ?_
                  refine lv_aload_n hx hb dX7_clause_169 rfl (lv_at hl 3 rfl) ?_
                  refine S_get hC hK hP (oQ_rd _ _ _ _ _) clX7 in_X7 1 (by decide) (fD142 _ _ _ _) q397 dX7_clause_170 ?_
                  refine S_getN (v := .int (nI m)) hC hK hTx (q0 := 0) rfl clX5 in_X5 3 (by decide) rfl nq276 dX7_clause_173 ?_
                  refine lv_aload_nN hx hb dX7_clause_176 rfl (lv_at hl 0 rfl) ?_
                  refine F_astq (v := none) (q0 := 3) (t0 := 5) hC hK hTx (hDT (m, upd le m (nI (hzN (u.2.1 6) n p)), va_up sm m r85, cm)) hS rfl rfl rfl (fun b hb => by cases hb) (by decide) rfl hm15 dX7_clause_177 (fun H locs hTx hS hF => ?_)
                  have hF : Fr (AT (R 142) r0 r1 r2) _ _ := hF.up (fun q z => by have z : q = r2 := z; subst z; exact Or.inr (Or.inr (Or.inr rfl)))
                  have hTx : va_P G.1 vwCl (cT G (R 142) r0 r1 r2 (m, upd le m (nI (hzN (u.2.1 6) n p)), va_up sm m r85, va_up cm m none)) _ := hTx
                  have hP := PwQ.frT hP hF hD (fun q h z => hAT q z h)
                  have hKs := hKs.fr hF hTl
                  refine lv_aload_n hx hb dX7_clause_178 rfl (lv_at hl 3 rfl) ?_
                  refine S_get hC hK hP (oQ_rd _ _ _ _ _) clX7 in_X7 1 (by decide) (fD142 _ _ _ _) q397 dX7_clause_179 ?_
                  refine lv_dup hx hb dX7_clause_182 rfl ?_
                  refine S_getN (v := .int (nI m)) hC hK hTx (q0 := 0) rfl clX5 in_X5 3 (by decide) rfl nq276 dX7_clause_183 ?_
                  refine lv_iconst (v := 1) hx hb dX7_clause_186 (by decide) ?_
                  refine lv_iadd hx hb dX7_clause_187 ?_
                  refine W_top (nI_add m 1) ?_
                  refine F_putN (q0 := 0) hC hK hTx (hDT (m, upd le m (nI (hzN (u.2.1 6) n p)), va_up sm m r85, va_up cm m none)) hS rfl clX5 in_X5 tyX5_ok nmX5 3 (by decide) rfl nq276 rfl rfl rfl rfl (Nat.le_of_ble_eq_true rfl) dX7_clause_188 (fun H locs hTx hS hF => ?_)
                  have hF : Fr (AT (R 142) r0 r1 r2) _ _ := hF.up (fun q z => by have z : q = R 142 := z; subst z; exact Or.inl rfl)
                  have hTx : va_P G.1 vwCl (cT G (R 142) r0 r1 r2 ((m + 1), upd le m (nI (hzN (u.2.1 6) n p)), va_up sm m r85, va_up cm m none)) _ := hTx
                  have hP := PwQ.frT hP hF hD (fun q h z => hAT q z h)
                  have hKs := hKs.fr hF hTl
                  refine W_size (fun hzz hww => ?_)
                  exact hq _ _ ((qE u (nI q9) 0 (nI e9.1) (nI e9.2)), ((m + 1), upd le m (nI (hzN (u.2.1 6) n p)), va_up sm m r85, va_up cm m none), (0 + g85), (fun _ => True)) _ _ _ _ dX7_clause_191 ⟨hP, hTx, ⟨hzz, hww⟩, trivial⟩ hS (ClP_l (e := e9) (q := q9) (by unfold ruleE halfE; rw [if_pos hru.1, if_neg hm16, if_neg h120, hx9]; rfl) (by omega) rfl he9 (by omega)) (by omega) (by omega)
                · exact absurd c118 (by decide)
              · exact absurd c93 (by decide)
          · have c77 : (hzN (u.2.1 6) n p) = 120 := (nI_eq (a := (hzN (u.2.1 6) n p)) (b := 120) (by first | omega | exact hzN_b _ _ _) (by first | omega | exact hzN_b _ _ _)).mp c77
            have h120 : ckN (u.2.1 6) n p = 120 := (hz_ck (by decide) (by decide)).mp c77
            refine lv_null hx hb dX7_clause_80 ?_
            refine lv_goto (tgt := 88) hx hb dX7_clause_81 (by decide) ?_
            refine lv_astore_nN (lv' := [(2, .null), (1, .int (nI (hzN (u.2.1 6) n p))), (0, .ref (R 140))]) hx hb dX7_clause_88 rfl hl (by decide) rfl (fun ls hl => ?_)
            refine lv_aload_n hx hb dX7_clause_89 rfl (lv_at hl 2 rfl) ?_
            refine CIs.go (rcV hC hl (c_X7_isGood G l o R tx (qE u (nI (p + 1)) 0 0 (u.1 146))  ) hK hP (va_recv hK.1 hP clX7 (oQ_rd _ _ _ _ _)) q423 q425 qs1 q117 q426 mdX7_isGood (room_v hRm (by omega) (by omega) (by omega) (by omega)) rfl rfl dX7_clause_90) ?_
            refine W_top (y := (bI (isGB 0))) (by simp only [qE_f145]) ?_
            refine W_top (y := 1) (by decide) ?_
            refine lv_if_eq (tgt := 114) hx hb dX7_clause_93 (by decide) (fun c93 => ?_) (fun c93 => ?_)
            · exact absurd c93 (by decide)
            · refine lv_aload_n hx hb dX7_clause_96 rfl (lv_at hl 2 rfl) ?_
              refine CIs.go (rcV hC hl (c_X7_here G l o R tx (qE u (nI (p + 1)) 0 0 (u.1 146)) (p + 1) n (rfl) (hn) (hn2) (by omega)) hK hP (va_recv hK.1 hP clX7 (oQ_rd _ _ _ _ _)) q431 q433 qs3 q117 q434 mdX7_here (room_v hRm (by omega) (by omega) (by omega) (by omega)) rfl rfl dX7_clause_97) ?_
              refine W_top (y := (nI (hzN (u.2.1 6) n (p + 1)))) (by simp only [qE_g6]) ?_
              refine lv_bipush (v := 40) hx hb dX7_clause_100 (by decide) ?_
              refine lv_icmp_eq (tgt := 114) hx hb dX7_clause_102 (by decide) (fun c102 => ?_) (fun c102 => ?_)
              · have c102 : (hzN (u.2.1 6) n (p + 1)) = 40 := (nI_eq (a := (hzN (u.2.1 6) n (p + 1))) (b := 40) (by first | omega | exact hzN_b _ _ _) (by first | omega | exact hzN_b _ _ _)).mp c102
                have h40 : ckN (u.2.1 6) n (p + 1) = 40 ∧ (p + 1) < n := ⟨(hz_ck (by decide) (by decide)).mp c102, ckN_in (by decide) ((hz_ck (by decide) (by decide)).mp c102)⟩
                refine lv_aload_n hx hb dX7_clause_114 rfl (lv_at hl 2 rfl) ?_
                refine CIs.go (rcV hC hl (c_X7_isGood G l o R tx (qE u (nI (p + 1)) 0 0 (u.1 146))  ) hK hP (va_recv hK.1 hP clX7 (oQ_rd _ _ _ _ _)) q423 q425 qs1 q117 q426 mdX7_isGood (room_v hRm (by omega) (by omega) (by omega) (by omega)) rfl rfl dX7_clause_115) ?_
                refine W_top (y := (bI (isGB 0))) (by simp only [qE_f145]) ?_
                refine W_top (y := 1) (by decide) ?_
                refine lv_if_eq (tgt := 128) hx hb dX7_clause_118 (by decide) (fun c118 => ?_) (fun c118 => ?_)
                · exact absurd c118 (by decide)
                · refine lv_aload_n hx hb dX7_clause_121 rfl (lv_at hl 2 rfl) ?_
                  have hσ3 : ∀ q, AwQ o R q → σ.1 ≤ q ∧ q < Array.size H := fun q h => ⟨(hσ q h).1, by have := (hσ q h).2; have := hS.1; omega⟩
                  have hge122 := hS.1
                  refine CRq.goG (rrV (As := []) hC hl ((conds_all G l 6).2.1 σ o R tx (qE u (nI (p + 1)) 0 0 (u.1 146)) n (p + 1) 0 (2 * n + 6) (b + 0) ([], fun _ => none) H hD hσ3 rfl hn rfl rfl hn2 h40.2 (by omega) (by omega)) hK (stK hT hS hσA) ⟨hP, rfl⟩ (va_recv hK.1 hP clX7 (oQ_rd _ _ _ _ _)) q595 q597 qs12 q117 q598 mdX7_condition (room_v hRm (by omega) (by omega) (by omega) (by omega)) rfl rfl dX7_clause_122) hS (hup hS.1) hA (fun r122 w122 g122 X122 H locs hpo122 hP hX122 hF hS => ?_)
                  have hTx := cT_fr hTx hF hAT
                  rcases CP_c hpo122.1 with ⟨a8, b8, hx8, hw8, hg8, rfl, hb8⟩ | ⟨e8, q8, hx8, hq8, hw8, he8, hg8⟩
                  · change conE (u.2.1 6) n (p + 1) (b + 0) = _ at hx8
                    have hs8 := con_b h40.2 hx8
                    rw [hw8, qE_again] at hP
                    simp only [qE_f144, qE_f146] at hP
                    have hKc := (hpo122.2 _ hX122).lo hge122
                    have hCT := (CT.anti (fun q (z : q < sg.heap.size) => Nat.lt_of_lt_of_le z hge122) _).1 _ _ (hb8 _ hX122)
                    have hl : lv_has ls 4 [(2, .null), (1, .int (nI (hzN (u.2.1 6) n p))), (0, .ref (R 140))] := hl
                    refine lv_goto (tgt := 129) hx hb dX7_clause_125 (by decide) ?_
                    refine q_astore_n (lv' := [(3, va_rf (some b8)), (2, .null), (1, .int (nI (hzN (u.2.1 6) n p))), (0, .ref (R 140))]) hx hb dX7_clause_129 rfl hl (by decide) rfl (fun ls hl => ?_)
                    refine lv_aload_n hx hb dX7_clause_130 rfl (lv_at hl 3 rfl) ?_
                    refine S_get hC hK hP (oQ_rd _ _ _ _ _) clX7 in_X7 1 (by decide) (fD142 _ _ _ _) q397 dX7_clause_131 ?_
                    refine S_getN (v := .ref r0) hC hK hTx (q0 := 0) rfl clX5 in_X5 0 (by decide) rfl nq270 dX7_clause_134 ?_
                    refine lv_aload_n hx hb dX7_clause_137 rfl (lv_at hl 3 rfl) ?_
                    refine S_get hC hK hP (oQ_rd _ _ _ _ _) clX7 in_X7 1 (by decide) (fD142 _ _ _ _) q397 dX7_clause_138 ?_
                    refine S_getN (v := .int (nI m)) hC hK hTx (q0 := 0) rfl clX5 in_X5 3 (by decide) rfl nq276 dX7_clause_141 ?_
                    refine lv_iload_n hx hb dX7_clause_144 rfl (lv_at hl 2 rfl) ?_
                    refine F_ast (q0 := 1) hC hK hTx (hDT (m, le, sm, cm)) hS rfl rfl (by decide) rfl hm15 dX7_clause_145 (fun H locs hTx hS hF => ?_)
                    have hF : Fr (AT (R 142) r0 r1 r2) _ _ := hF.up (fun q z => by have z : q = r0 := z; subst z; exact Or.inr (Or.inl rfl))
                    have hTx : va_P G.1 vwCl (cT G (R 142) r0 r1 r2 (m, upd le m (nI (hzN (u.2.1 6) n p)), sm, cm)) _ := hTx
                    have hP := PwQ.frT hP hF hD (fun q h z => hAT q z h)
                    have hKc := hKc.fr hF hTl
                    have hCT := CT.fr hCT hF hTl
                    refine lv_aload_n hx hb dX7_clause_146 rfl (lv_at hl 3 rfl) ?_
                    refine S_get hC hK hP (oQ_rd _ _ _ _ _) clX7 in_X7 1 (by decide) (fD142 _ _ _ _) q397 dX7_clause_147 ?_
                    refine S_getN (v := .ref r1) hC hK hTx (q0 := 0) rfl clX5 in_X5 1 (by decide) rfl nq272 dX7_clause_150 ?_
                    refine lv_aload_n hx hb dX7_clause_153 rfl (lv_at hl 3 rfl) ?_
                    refine S_get hC hK hP (oQ_rd _ _ _ _ _) clX7 in_X7 1 (by decide) (fD142 _ _ _ _) q397 dX7_clause_154 ?_
                    refine S_getN (v := .int (nI m)) hC hK hTx (q0 := 0) rfl clX5 in_X5 3 (by decide) rfl nq276 dX7_clause_157 ?_
                    refine lv_aload_nN hx hb dX7_clause_160 rfl (lv_at hl 1 rfl) ?_
                    refine F_astq (v := none) (q0 := 2) (t0 := 4) hC hK hTx (hDT (m, upd le m (nI (hzN (u.2.1 6) n p)), sm, cm)) hS rfl rfl rfl (fun b hb => by cases hb) (by decide) rfl hm15 dX7_clause_161 (fun H locs hTx hS hF => ?_)
                    have hF : Fr (AT (R 142) r0 r1 r2) _ _ := hF.up (fun q z => by have z : q = r1 := z; subst z; exact Or.inr (Or.inr (Or.inl rfl)))
                    have hTx : va_P G.1 vwCl (cT G (R 142) r0 r1 r2 (m, upd le m (nI (hzN (u.2.1 6) n p)), va_up sm m none, cm)) _ := hTx
                    have hP := PwQ.frT hP hF hD (fun q h z => hAT q z h)
                    have hKc := hKc.fr hF hTl
                    have hCT := CT.fr hCT hF hTl
                    refine lv_aload_n hx hb dX7_clause_162 rfl (lv_at hl 3 rfl) ?_
                    refine S_get hC hK hP (oQ_rd _ _ _ _ _) clX7 in_X7 1 (by decide) (fD142 _ _ _ _) q397 dX7_clause_163 ?_
                    refine S_getN (v := .ref r2) hC hK hTx (q0 := 0) rfl clX5 in_X5 2 (by decide) rfl nq274 dX7_clause_166 ?_
                    refine lv_aload_n hx hb dX7_clause_169 rfl (lv_at hl 3 rfl) ?_
                    refine S_get hC hK hP (oQ_rd _ _ _ _ _) clX7 in_X7 1 (by decide) (fD142 _ _ _ _) q397 dX7_clause_170 ?_
                    refine S_getN (v := .int (nI m)) hC hK hTx (q0 := 0) rfl clX5 in_X5 3 (by decide) rfl nq276 dX7_clause_173 ?_
                    refine q_aload_n hx hb dX7_clause_176 rfl (lv_at hl 0 rfl) ?_
                    refine F_astq (v := (some b8)) (q0 := 3) (t0 := 5) hC hK hTx (hDT (m, upd le m (nI (hzN (u.2.1 6) n p)), va_up sm m none, cm)) hS rfl rfl rfl (fun b hb => SK.cast (Or.inr ⟨rfl, rfl⟩) hK (hKc b hb).1) (by decide) rfl hm15 dX7_clause_177 (fun H locs hTx hS hF => ?_)
                    have hF : Fr (AT (R 142) r0 r1 r2) _ _ := hF.up (fun q z => by have z : q = r2 := z; subst z; exact Or.inr (Or.inr (Or.inr rfl)))
                    have hTx : va_P G.1 vwCl (cT G (R 142) r0 r1 r2 (m, upd le m (nI (hzN (u.2.1 6) n p)), va_up sm m none, va_up cm m (some b8))) _ := hTx
                    have hP := PwQ.frT hP hF hD (fun q h z => hAT q z h)
                    have hKc := hKc.fr hF hTl
                    have hCT := CT.fr hCT hF hTl
                    refine lv_aload_n hx hb dX7_clause_178 rfl (lv_at hl 3 rfl) ?_
                    refine S_get hC hK hP (oQ_rd _ _ _ _ _) clX7 in_X7 1 (by decide) (fD142 _ _ _ _) q397 dX7_clause_179 ?_
                    refine lv_dup hx hb dX7_clause_182 rfl ?_
                    refine S_getN (v := .int (nI m)) hC hK hTx (q0 := 0) rfl clX5 in_X5 3 (by decide) rfl nq276 dX7_clause_183 ?_
                    refine lv_iconst (v := 1) hx hb dX7_clause_186 (by decide) ?_
                    refine lv_iadd hx hb dX7_clause_187 ?_
                    refine W_top (nI_add m 1) ?_
                    refine F_putN (q0 := 0) hC hK hTx (hDT (m, upd le m (nI (hzN (u.2.1 6) n p)), va_up sm m none, va_up cm m (some b8))) hS rfl clX5 in_X5 tyX5_ok nmX5 3 (by decide) rfl nq276 rfl rfl rfl rfl (Nat.le_of_ble_eq_true rfl) dX7_clause_188 (fun H locs hTx hS hF => ?_)
                    have hF : Fr (AT (R 142) r0 r1 r2) _ _ := hF.up (fun q z => by have z : q = R 142 := z; subst z; exact Or.inl rfl)
                    have hTx : va_P G.1 vwCl (cT G (R 142) r0 r1 r2 ((m + 1), upd le m (nI (hzN (u.2.1 6) n p)), va_up sm m none, va_up cm m (some b8))) _ := hTx
                    have hP := PwQ.frT hP hF hD (fun q h z => hAT q z h)
                    have hKc := hKc.fr hF hTl
                    have hCT := CT.fr hCT hF hTl
                    refine W_size (fun hzz hww => ?_)
                    exact hq _ _ ((qE u (nI a8.2) 0 0 (u.1 146)), ((m + 1), upd le m (nI (hzN (u.2.1 6) n p)), va_up sm m none, va_up cm m (some b8)), (0 + g122), (fun H => (CT G (fun q => q < sg.heap.size) H DEP).1 b8 a8.1.2)) _ _ _ _ dX7_clause_191 ⟨hP, hTx, ⟨hzz, hww⟩, (CT.upto (show n - (p + 1) + 4 * 6 + 2 ≤ DEP by show _ ≤ 300; omega)).1 _ _ hCT⟩ hS (ClP_r (r := ((ckN (u.2.1 6) n p, ([], fun _ => none), a8.1), a8.2)) (by unfold ruleE halfE; rw [if_pos hru.1, if_neg hm16, if_pos h120]; dsimp only [bW]; unfold conW; rw [if_pos h40.1]; first | rw [hx8] | (rw [show conE _ n (p + 1) (b + ([] : List Nat).length) = _ from hx8])) rfl (by dsimp only; omega) none b8 (by rw [hru.2.2]) (fun H h => ⟨h, fun z => absurd h120 z⟩)) (by omega) (by omega)
                  · change conE (u.2.1 6) n (p + 1) (b + 0) = _ at hx8
                    rw [hw8, qE_again] at hP
                    simp only [qE_f144] at hP
                    have hKc := (hpo122.2 _ hX122).lo hge122
                    have hl : lv_has ls 4 [(2, .null), (1, .int (nI (hzN (u.2.1 6) n p))), (0, .ref (R 140))] := hl
                    refine lv_goto (tgt := 129) hx hb dX7_clause_125 (by decide) ?_
                    refine q_astore_n (lv' := [(3, va_rf r122), (2, .null), (1, .int (nI (hzN (u.2.1 6) n p))), (0, .ref (R 140))]) hx hb dX7_clause_129 rfl hl (by decide) rfl (fun ls hl => ?_)
                    refine lv_aload_n hx hb dX7_clause_130 rfl (lv_at hl 3 rfl) ?_
                    refine S_get hC hK hP (oQ_rd _ _ _ _ _) clX7 in_X7 1 (by decide) (fD142 _ _ _ _) q397 dX7_clause_131 ?_
                    refine S_getN (v := .ref r0) hC hK hTx (q0 := 0) rfl clX5 in_X5 0 (by decide) rfl nq270 dX7_clause_134 ?_
                    refine lv_aload_n hx hb dX7_clause_137 rfl (lv_at hl 3 rfl) ?_
                    refine S_get hC hK hP (oQ_rd _ _ _ _ _) clX7 in_X7 1 (by decide) (fD142 _ _ _ _) q397 dX7_clause_138 ?_
                    refine S_getN (v := .int (nI m)) hC hK hTx (q0 := 0) rfl clX5 in_X5 3 (by decide) rfl nq276 dX7_clause_141 ?_
                    refine lv_iload_n hx hb dX7_clause_144 rfl (lv_at hl 2 rfl) ?_
                    refine F_ast (q0 := 1) hC hK hTx (hDT (m, le, sm, cm)) hS rfl rfl (by decide) rfl hm15 dX7_clause_145 (fun H locs hTx hS hF => ?_)
                    have hF : Fr (AT (R 142) r0 r1 r2) _ _ := hF.up (fun q z => by have z : q = r0 := z; subst z; exact Or.inr (Or.inl rfl))
                    have hTx : va_P G.1 vwCl (cT G (R 142) r0 r1 r2 (m, upd le m (nI (hzN (u.2.1 6) n p)), sm, cm)) _ := hTx
                    have hP := PwQ.frT hP hF hD (fun q h z => hAT q z h)
                    have hKc := hKc.fr hF hTl
                    refine lv_aload_n hx hb dX7_clause_146 rfl (lv_at hl 3 rfl) ?_
                    refine S_get hC hK hP (oQ_rd _ _ _ _ _) clX7 in_X7 1 (by decide) (fD142 _ _ _ _) q397 dX7_clause_147 ?_
                    refine S_getN (v := .ref r1) hC hK hTx (q0 := 0) rfl clX5 in_X5 1 (by decide) rfl nq272 dX7_clause_150 ?_
                    refine lv_aload_n hx hb dX7_clause_153 rfl (lv_at hl 3 rfl) ?_
                    refine S_get hC hK hP (oQ_rd _ _ _ _ _) clX7 in_X7 1 (by decide) (fD142 _ _ _ _) q397 dX7_clause_154 ?_
                    refine S_getN (v := .int (nI m)) hC hK hTx (q0 := 0) rfl clX5 in_X5 3 (by decide) rfl nq276 dX7_clause_157 ?_
                    refine lv_aload_nN hx hb dX7_clause_160 rfl (lv_at hl 1 rfl) ?_
                    refine F_astq (v := none) (q0 := 2) (t0 := 4) hC hK hTx (hDT (m, upd le m (nI (hzN (u.2.1 6) n p)), sm, cm)) hS rfl rfl rfl (fun b hb => by cases hb) (by decide) rfl hm15 dX7_clause_161 (fun H locs hTx hS hF => ?_)
                    have hF : Fr (AT (R 142) r0 r1 r2) _ _ := hF.up (fun q z => by have z : q = r1 := z; subst z; exact Or.inr (Or.inr (Or.inl rfl)))
                    have hTx : va_P G.1 vwCl (cT G (R 142) r0 r1 r2 (m, upd le m (nI (hzN (u.2.1 6) n p)), va_up sm m none, cm)) _ := hTx
                    have hP := PwQ.frT hP hF hD (fun q h z => hAT q z h)
                    have hKc := hKc.fr hF hTl
                    refine lv_aload_n hx hb dX7_clause_162 rfl (lv_at hl 3 rfl) ?_
                    refine S_get hC hK hP (oQ_rd _ _ _ _ _) clX7 in_X7 1 (by decide) (fD142 _ _ _ _) q397 dX7_clause_163 ?_
                    refine S_getN (v := .ref r2) hC hK hTx (q0 := 0) rfl clX5 in_X5 2 (by decide) rfl nq274 dX7_clause_166 ?_
                    refine lv_aload_n hx hb dX7_clause_169 rfl (lv_at hl 3 rfl) ?_
                    refine S_get hC hK hP (oQ_rd _ _ _ _ _) clX7 in_X7 1 (by decide) (fD142 _ _ _ _) q397 dX7_clause_170 ?_
                    refine S_getN (v := .int (nI m)) hC hK hTx (q0 := 0) rfl clX5 in_X5 3 (by decide) rfl nq276 dX7_clause_173 ?_
                    refine q_aload_n hx hb dX7_clause_176 rfl (lv_at hl 0 rfl) ?_
                    refine F_astq (v := r122) (q0 := 3) (t0 := 5) hC hK hTx (hDT (m, upd le m (nI (hzN (u.2.1 6) n p)), va_up sm m none, cm)) hS rfl rfl rfl (fun b hb => SK.cast (Or.inr ⟨rfl, rfl⟩) hK (hKc b hb).1) (by decide) rfl hm15 dX7_clause_177 (fun H locs hTx hS hF => ?_)
                    have hF : Fr (AT (R 142) r0 r1 r2) _ _ := hF.up (fun q z => by have z : q = r2 := z; subst z; exact Or.inr (Or.inr (Or.inr rfl)))
                    have hTx : va_P G.1 vwCl (cT G (R 142) r0 r1 r2 (m, upd le m (nI (hzN (u.2.1 6) n p)), va_up sm m none, va_up cm m r122)) _ := hTx
                    have hP := PwQ.frT hP hF hD (fun q h z => hAT q z h)
                    have hKc := hKc.fr hF hTl
                    refine lv_aload_n hx hb dX7_clause_178 rfl (lv_at hl 3 rfl) ?_
                    refine S_get hC hK hP (oQ_rd _ _ _ _ _) clX7 in_X7 1 (by decide) (fD142 _ _ _ _) q397 dX7_clause_179 ?_
                    refine lv_dup hx hb dX7_clause_182 rfl ?_
                    refine S_getN (v := .int (nI m)) hC hK hTx (q0 := 0) rfl clX5 in_X5 3 (by decide) rfl nq276 dX7_clause_183 ?_
                    refine lv_iconst (v := 1) hx hb dX7_clause_186 (by decide) ?_
                    refine lv_iadd hx hb dX7_clause_187 ?_
                    refine W_top (nI_add m 1) ?_
                    refine F_putN (q0 := 0) hC hK hTx (hDT (m, upd le m (nI (hzN (u.2.1 6) n p)), va_up sm m none, va_up cm m r122)) hS rfl clX5 in_X5 tyX5_ok nmX5 3 (by decide) rfl nq276 rfl rfl rfl rfl (Nat.le_of_ble_eq_true rfl) dX7_clause_188 (fun H locs hTx hS hF => ?_)
                    have hF : Fr (AT (R 142) r0 r1 r2) _ _ := hF.up (fun q z => by have z : q = R 142 := z; subst z; exact Or.inl rfl)
                    have hTx : va_P G.1 vwCl (cT G (R 142) r0 r1 r2 ((m + 1), upd le m (nI (hzN (u.2.1 6) n p)), va_up sm m none, va_up cm m r122)) _ := hTx
                    have hP := PwQ.frT hP hF hD (fun q h z => hAT q z h)
                    have hKc := hKc.fr hF hTl
                    refine W_size (fun hzz hww => ?_)
                    exact hq _ _ ((qE u (nI q8) 0 (nI e8.1) (nI e8.2)), ((m + 1), upd le m (nI (hzN (u.2.1 6) n p)), va_up sm m none, va_up cm m r122), (0 + g122), (fun _ => True)) _ _ _ _ dX7_clause_191 ⟨hP, hTx, ⟨hzz, hww⟩, trivial⟩ hS (ClP_l (e := e8) (q := q8) (by unfold ruleE halfE; rw [if_pos hru.1, if_neg hm16, if_pos h120]; dsimp only [bW]; unfold conW; rw [if_pos h40.1]; first | rw [hx8] | (rw [show conE _ n (p + 1) (b + ([] : List Nat).length) = _ from hx8])) (by omega) rfl he8 (by omega)) (by omega) (by omega)
              · have c102 : ¬ ((hzN (u.2.1 6) n (p + 1)) = 40) := mt (nI_eq (a := (hzN (u.2.1 6) n (p + 1))) (b := 40) (by first | omega | exact hzN_b _ _ _) (by first | omega | exact hzN_b _ _ _)).mpr c102
                have h40 : ¬ ckN (u.2.1 6) n (p + 1) = 40 := mt (hz_ck (by decide) (by decide)).mpr c102
                refine lv_aload_n hx hb dX7_clause_105 rfl (lv_at hl 2 rfl) ?_
                refine lv_iconst (v := 1) hx hb dX7_clause_106 (by decide) ?_
                refine lv_aload_n hx hb dX7_clause_107 rfl (lv_at hl 2 rfl) ?_
                refine S_get hC hK hP (oQ_rd _ _ _ _ _) clX7 in_X7 2 (by decide) (fD143 _ _ _ _) q399 dX7_clause_108 ?_
                refine W_top (y := (nI (p + 1))) (by rw [qE_f143]) ?_
                refine CXv.go (rcV hC hl (c_X7_bad G l o R tx (qE u (nI (p + 1)) 0 0 (u.1 146)) 1 (nI (p + 1)) (by first | assumption | omega | rfl | (simp_all; done)) hD) hK hP (va_recv hK.1 hP clX7 (oQ_rd _ _ _ _ _)) q522 q524 qs4 q117 q525 mdX7_bad (room_v hRm (by omega) (by omega) (by omega) (by omega)) rfl rfl dX7_clause_111) hS (fun q h => Or.inl h) (fun w111 H locs hpo hP hz hk hS => ?_)
                have ew111 := hpo
                rw [ew111] at hP
                rw [qE_again] at hP
                simp only [qE_f143, qE_f144] at hP
                have hF : Fr (AwQ o R) _ _ := ⟨hz, hk⟩
                have hTx := cT_fr hTx hF hAT
                refine lv_aload_n hx hb dX7_clause_114 rfl (lv_at hl 2 rfl) ?_
                refine CIs.go (rcV hC hl (c_X7_isGood G l o R tx (qE u (nI (p + 1)) 0 1 (nI (p + 1)))  ) hK hP (va_recv hK.1 hP clX7 (oQ_rd _ _ _ _ _)) q423 q425 qs1 q117 q426 mdX7_isGood (room_v hRm (by omega) (by omega) (by omega) (by omega)) rfl rfl dX7_clause_115) ?_
                refine W_top (y := (bI (isGB 1))) (by simp only [qE_f145]) ?_
                refine W_top (y := 0) (by decide) ?_
                refine lv_if_eq (tgt := 128) hx hb dX7_clause_118 (by decide) (fun c118 => ?_) (fun c118 => ?_)
                · refine lv_null hx hb dX7_clause_128 ?_
                  refine lv_astore_nN (lv' := [(3, .null), (2, .null), (1, .int (nI (hzN (u.2.1 6) n p))), (0, .ref (R 140))]) hx hb dX7_clause_129 rfl hl (by decide) rfl (fun ls hl => ?_)
                  refine lv_aload_n hx hb dX7_clause_130 rfl (lv_at hl 3 rfl) ?_
                  refine S_get hC hK hP (oQ_rd _ _ _ _ _) clX7 in_X7 1 (by decide) (fD142 _ _ _ _) q397 dX7_clause_131 ?_
                  refine S_getN (v := .ref r0) hC hK hTx (q0 := 0) rfl clX5 in_X5 0 (by decide) rfl nq270 dX7_clause_134 ?_
                  refine lv_aload_n hx hb dX7_clause_137 rfl (lv_at hl 3 rfl) ?_
                  refine S_get hC hK hP (oQ_rd _ _ _ _ _) clX7 in_X7 1 (by decide) (fD142 _ _ _ _) q397 dX7_clause_138 ?_
                  refine S_getN (v := .int (nI m)) hC hK hTx (q0 := 0) rfl clX5 in_X5 3 (by decide) rfl nq276 dX7_clause_141 ?_
                  refine lv_iload_n hx hb dX7_clause_144 rfl (lv_at hl 2 rfl) ?_
                  refine F_ast (q0 := 1) hC hK hTx (hDT (m, le, sm, cm)) hS rfl rfl (by decide) rfl hm15 dX7_clause_145 (fun H locs hTx hS hF => ?_)
                  have hF : Fr (AT (R 142) r0 r1 r2) _ _ := hF.up (fun q z => by have z : q = r0 := z; subst z; exact Or.inr (Or.inl rfl))
                  have hTx : va_P G.1 vwCl (cT G (R 142) r0 r1 r2 (m, upd le m (nI (hzN (u.2.1 6) n p)), sm, cm)) _ := hTx
                  have hP := PwQ.frT hP hF hD (fun q h z => hAT q z h)
                  refine lv_aload_n hx hb dX7_clause_146 rfl (lv_at hl 3 rfl) ?_
                  refine S_get hC hK hP (oQ_rd _ _ _ _ _) clX7 in_X7 1 (by decide) (fD142 _ _ _ _) q397 dX7_clause_147 ?_
                  refine S_getN (v := .ref r1) hC hK hTx (q0 := 0) rfl clX5 in_X5 1 (by decide) rfl nq272 dX7_clause_150 ?_
                  refine lv_aload_n hx hb dX7_clause_153 rfl (lv_at hl 3 rfl) ?_
                  refine S_get hC hK hP (oQ_rd _ _ _ _ _) clX7 in_X7 1 (by decide) (fD142 _ _ _ _) q397 dX7_clause_154 ?_
                  refine S_getN (v := .int (nI m)) hC hK hTx (q0 := 0) rfl clX5 in_X5 3 (by decide) rfl nq276 dX7_clause_157 ?_
                  refine lv_aload_nN hx hb dX7_clause_160 rfl (lv_at hl 1 rfl) ?_
                  refine F_astq (v := none) (q0 := 2) (t0 := 4) hC hK hTx (hDT (m, upd le m (nI (hzN (u.2.1 6) n p)), sm, cm)) hS rfl rfl rfl (fun b hb => by cases hb) (by decide) rfl hm15 dX7_clause_161 (fun H locs hTx hS hF => ?_)
                  have hF : Fr (AT (R 142) r0 r1 r2) _ _ := hF.up (fun q z => by have z : q = r1 := z; subst z; exact Or.inr (Or.inr (Or.inl rfl)))
                  have hTx : va_P G.1 vwCl (cT G (R 142) r0 r1 r2 (m, upd le m (nI (hzN (u.2.1 6) n p)), va_up sm m none, cm)) _ := hTx
                  have hP := PwQ.frT hP hF hD (fun q h z => hAT q z h)
                  refine lv_aload_n hx hb dX7_clause_162 rfl (lv_at hl 3 rfl) ?_
                  refine S_get hC hK hP (oQ_rd _ _ _ _ _) clX7 in_X7 1 (by decide) (fD142 _ _ _ _) q397 dX7_clause_163 ?_
                  refine S_getN (v := .ref r2) hC hK hTx (q0 := 0) rfl clX5 in_X5 2 (by decide) rfl nq274 dX7_clause_166 ?_
                  refine lv_aload_n hx hb dX7_clause_169 rfl (lv_at hl 3 rfl) ?_
                  refine S_get hC hK hP (oQ_rd _ _ _ _ _) clX7 in_X7 1 (by decide) (fD142 _ _ _ _) q397 dX7_clause_170 ?_
                  refine S_getN (v := .int (nI m)) hC hK hTx (q0 := 0) rfl clX5 in_X5 3 (by decide) rfl nq276 dX7_clause_173 ?_
                  refine lv_aload_nN hx hb dX7_clause_176 rfl (lv_at hl 0 rfl) ?_
                  refine F_astq (v := none) (q0 := 3) (t0 := 5) hC hK hTx (hDT (m, upd le m (nI (hzN (u.2.1 6) n p)), va_up sm m none, cm)) hS rfl rfl rfl (fun b hb => by cases hb) (by decide) rfl hm15 dX7_clause_177 (fun H locs hTx hS hF => ?_)
                  have hF : Fr (AT (R 142) r0 r1 r2) _ _ := hF.up (fun q z => by have z : q = r2 := z; subst z; exact Or.inr (Or.inr (Or.inr rfl)))
                  have hTx : va_P G.1 vwCl (cT G (R 142) r0 r1 r2 (m, upd le m (nI (hzN (u.2.1 6) n p)), va_up sm m none, va_up cm m none)) _ := hTx
                  have hP := PwQ.frT hP hF hD (fun q h z => hAT q z h)
                  refine lv_aload_n hx hb dX7_clause_178 rfl (lv_at hl 3 rfl) ?_
                  refine S_get hC hK hP (oQ_rd _ _ _ _ _) clX7 in_X7 1 (by decide) (fD142 _ _ _ _) q397 dX7_clause_179 ?_
                  refine lv_dup hx hb dX7_clause_182 rfl ?_
                  refine S_getN (v := .int (nI m)) hC hK hTx (q0 := 0) rfl clX5 in_X5 3 (by decide) rfl nq276 dX7_clause_183 ?_
                  refine lv_iconst (v := 1) hx hb dX7_clause_186 (by decide) ?_
                  refine lv_iadd hx hb dX7_clause_187 ?_
                  refine W_top (nI_add m 1) ?_
                  refine F_putN (q0 := 0) hC hK hTx (hDT (m, upd le m (nI (hzN (u.2.1 6) n p)), va_up sm m none, va_up cm m none)) hS rfl clX5 in_X5 tyX5_ok nmX5 3 (by decide) rfl nq276 rfl rfl rfl rfl (Nat.le_of_ble_eq_true rfl) dX7_clause_188 (fun H locs hTx hS hF => ?_)
                  have hF : Fr (AT (R 142) r0 r1 r2) _ _ := hF.up (fun q z => by have z : q = R 142 := z; subst z; exact Or.inl rfl)
                  have hTx : va_P G.1 vwCl (cT G (R 142) r0 r1 r2 ((m + 1), upd le m (nI (hzN (u.2.1 6) n p)), va_up sm m none, va_up cm m none)) _ := hTx
                  have hP := PwQ.frT hP hF hD (fun q h z => hAT q z h)
                  refine W_size (fun hzz hww => ?_)
                  exact hq _ _ ((qE u (nI (p + 1)) 0 1 (nI (p + 1))), ((m + 1), upd le m (nI (hzN (u.2.1 6) n p)), va_up sm m none, va_up cm m none), 0, (fun _ => True)) _ _ _ _ dX7_clause_191 ⟨hP, hTx, ⟨hzz, hww⟩, trivial⟩ hS (ClP_l (e := (1, (p + 1))) (q := (p + 1)) (by unfold ruleE halfE; rw [if_pos hru.1, if_neg hm16, if_pos h120]; dsimp only [bW]; unfold conW; rw [if_neg h40]) (by omega) rfl (show fOK 1 from ⟨by decide, by decide⟩) (by omega)) (by omega) (by omega)
                · exact absurd c118 (by decide)
        · exact absurd c55 (by decide)
      · have c39 : m = 16 := (nI_eq (a := m) (b := 16) (by first | omega | exact hzN_b _ _ _) (by first | omega | exact hzN_b _ _ _)).mp c39
        have hm16 : m = 16 := c39
        refine lv_aload_n hx hb dX7_clause_42 rfl (lv_at hl 1 rfl) ?_
        refine lv_iconst (v := 4) hx hb dX7_clause_43 (by decide) ?_
        refine lv_aload_n hx hb dX7_clause_44 rfl (lv_at hl 1 rfl) ?_
        refine S_get hC hK hP (oQ_rd _ _ _ _ _) clX7 in_X7 2 (by decide) (fD143 _ _ _ _) q399 dX7_clause_45 ?_
        refine W_top (y := (nI p)) (by rw [qE_f143]) ?_
        refine CXv.go (rcV hC hl (c_X7_bad G l o R tx (qE u (nI p) (u.1 144) 0 (u.1 146)) 4 (nI p) (by first | assumption | omega | rfl | (simp_all; done)) hD) hK hP (va_recv hK.1 hP clX7 (oQ_rd _ _ _ _ _)) q522 q524 qs4 q117 q525 mdX7_bad (room_v hRm (by omega) (by omega) (by omega) (by omega)) rfl rfl dX7_clause_48) hS (fun q h => Or.inl h) (fun w48 H locs hpo hP hz hk hS => ?_)
        have ew48 := hpo
        rw [ew48] at hP
        rw [qE_again] at hP
        simp only [qE_f143, qE_f144] at hP
        have hF : Fr (AwQ o R) _ _ := ⟨hz, hk⟩
        have hTx := cT_fr hTx hF hAT
        refine lv_aload_n hx hb dX7_clause_51 rfl (lv_at hl 1 rfl) ?_
        refine CIs.go (rcV hC hl (c_X7_isGood G l o R tx (qE u (nI p) (u.1 144) 4 (nI p))  ) hK hP (va_recv hK.1 hP clX7 (oQ_rd _ _ _ _ _)) q423 q425 qs1 q117 q426 mdX7_isGood (room_v hRm (by omega) (by omega) (by omega) (by omega)) rfl rfl dX7_clause_52) ?_
        refine W_top (y := (bI (isGB 4))) (by simp only [qE_f145]) ?_
        refine W_top (y := 0) (by decide) ?_
        refine lv_if_ne (tgt := 59) hx hb dX7_clause_55 (by decide) (fun c55 => ?_) (fun c55 => ?_)
        · exact absurd c55 (by decide)
        · refine W_size (fun hzz hww => ?_)
          exact hq _ _ ((qE u (nI p) (u.1 144) 4 (nI p)), (m, le, sm, cm), 0, (fun _ => True)) _ _ _ _ dX7_clause_58 ⟨hP, hTx, ⟨hzz, hww⟩, trivial⟩ hS (ClP_l (op := u.1 144) (e := (4, p)) (q := p) (by unfold ruleE; rw [if_pos hru.1, if_pos hm16]) (by omega) rfl (show fOK 4 from ⟨by decide, by decide⟩) (by omega)) (by omega) (by omega)
    · have hru := ru_ixn c6 c15
      refine lv_aload_n hx hb dX7_clause_18 rfl (lv_at hl 1 rfl) ?_
      refine lv_iconst (v := 1) hx hb dX7_clause_19 (by decide) ?_
      refine lv_aload_n hx hb dX7_clause_20 rfl (lv_at hl 1 rfl) ?_
      refine S_get hC hK hP (oQ_rd _ _ _ _ _) clX7 in_X7 2 (by decide) (fD143 _ _ _ _) q399 dX7_clause_21 ?_
      refine W_top (y := (nI p)) (by rw [qE_f143]) ?_
      refine CXv.go (rcV hC hl (c_X7_bad G l o R tx (qE u (nI p) (u.1 144) 0 (u.1 146)) 1 (nI p) (by first | assumption | omega | rfl | (simp_all; done)) hD) hK hP (va_recv hK.1 hP clX7 (oQ_rd _ _ _ _ _)) q522 q524 qs4 q117 q525 mdX7_bad (room_v hRm (by omega) (by omega) (by omega) (by omega)) rfl rfl dX7_clause_24) hS (fun q h => Or.inl h) (fun w24 H locs hpo hP hz hk hS => ?_)
      have ew24 := hpo
      rw [ew24] at hP
      rw [qE_again] at hP
      simp only [qE_f143, qE_f144] at hP
      have hF : Fr (AwQ o R) _ _ := ⟨hz, hk⟩
      have hTx := cT_fr hTx hF hAT
      refine lv_goto (tgt := 51) hx hb dX7_clause_27 (by decide) ?_
      refine lv_aload_n hx hb dX7_clause_51 rfl (lv_at hl 1 rfl) ?_
      refine CIs.go (rcV hC hl (c_X7_isGood G l o R tx (qE u (nI p) (u.1 144) 1 (nI p))  ) hK hP (va_recv hK.1 hP clX7 (oQ_rd _ _ _ _ _)) q423 q425 qs1 q117 q426 mdX7_isGood (room_v hRm (by omega) (by omega) (by omega) (by omega)) rfl rfl dX7_clause_52) ?_
      refine W_top (y := (bI (isGB 1))) (by simp only [qE_f145]) ?_
      refine W_top (y := 0) (by decide) ?_
      refine lv_if_ne (tgt := 59) hx hb dX7_clause_55 (by decide) (fun c55 => ?_) (fun c55 => ?_)
      · exact absurd c55 (by decide)
      · refine W_size (fun hzz hww => ?_)
        exact hq _ _ ((qE u (nI p) (u.1 144) 1 (nI p)), (m, le, sm, cm), 0, (fun _ => True)) _ _ _ _ dX7_clause_58 ⟨hP, hTx, ⟨hzz, hww⟩, trivial⟩ hS (ClP_l (op := u.1 144) (e := (1, p)) (q := p) (by unfold ruleE; rw [if_neg hru]) (by omega) rfl (show fOK 1 from ⟨by decide, by decide⟩) (by omega)) (by omega) (by omega)
