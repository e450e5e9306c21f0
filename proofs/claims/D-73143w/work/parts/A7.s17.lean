set_option maxRecDepth 100000
set_option maxHeartbeats 4000000 in
theorem c_X7_badF (G : GG) (l : Launch) (o : Nat) (R : Nat → Nat) (tx : Nat) (u : MS) (k : Int32) (q : Int32) (hf : 0 < (u.1 145)) (hD : DwQ o R) : CXv G l (PwQ G o R tx) (AwQ o R) yX7_bad cX7_bad 3 2 24 0 0 [.ref (R 140), .int k, .int q] (PwQ G o R tx u) (fun w => w = (qE u (u.1 143) (u.1 144) (u.1 145) (u.1 146))) := by
  refine CXv.mk RX7 pnX7 rfl (Nat.le_of_ble_eq_true rfl) (fun pg en Rm sg mm ar bw mth cd QQ ls hC hRm hK hX hS hl hq => ?_)
  have hx := hC.1; have hb := hC.2.1; have ho := hC.2.2.2.1; have hts := hC.2.2.2.2
  have hP : PwQ G o R tx u sg.heap := hX
  have hl : lv_has ls 3 [(0, .ref (R 140)), (1, .int k), (2, .int q)] := hl
  have hP : PwQ G o R tx (qE u (u.1 143) (u.1 144) (u.1 145) (u.1 146)) sg.heap := by rw [qE_self]; exact hP
  refine lv_aload_n hx hb dX7_bad_0 rfl (lv_at hl 0 rfl) ?_
  refine S_get hC hK hP (oQ_rd _ _ _ _ _) clX7 in_X7 4 (by decide) (fD145 _ _ _ _) q401 dX7_bad_1 ?_
  refine W_top (y := (u.1 145)) (by rw [qE_f145]) ?_
  refine lv_if_le (tgt := 8) hx hb dX7_bad_4 (by decide) (fun c4 => ?_) (fun c4 => ?_)
  · exact absurd hf (Int32.not_lt.mpr c4)
  · exact hq _ _ _ _ _ _ _ dX7_bad_7 hP hS (by exact rfl) (by decide) (by decide)
theorem pie_b {f : Nat → Int32} {n k op p b : Nat} {a : CA} {r : CA × Nat} (hp : p ≤ n) (h : rdC f n k 0 op p b a = .inr r) : p < r.2 ∧ r.2 ≤ n ∧ True := by
  have := (rdC_b (f := f) (n := n) k).1 _ _ _ _ _ hp h
  exact ⟨this.1, this.2.1, trivial⟩
theorem con_b {f : Nat → Int32} {n k op p b : Nat} {a : CA} {r : CA × Nat} (hp : p < n) (h : rdC f n k 3 op p b a = .inr r) : p < r.2 ∧ r.2 ≤ n := by
  have := (rdC_b (f := f) (n := n) k).2.2.2 _ _ _ _ _ hp h
  exact ⟨this.1, this.2.1⟩
set_option maxHeartbeats 8000000 in
theorem pis_ok (G : GG) (l : Launch) (d : Nat) (pie : PieC G l d) : PisC G l d := by
  intro σ o R tx u n p op k b a H0 hD hσ hp hn ho1 hf hn2 hpn hop hk
  obtain ⟨k9, rfl⟩ : ∃ j, j = k := ⟨k, rfl⟩
  refine CRq.mk RX7 (Or.inl ⟨_, rfl⟩) pnX7 rfl (Nat.le_of_ble_eq_true rfl) (fun pg en Rm sg mm ar bw mth cd QQ ls hC hRm hK hT hX hS hl hq => ?_)
  obtain ⟨hP, rfl⟩ := hX
  have hx := hC.1; have hb := hC.2.1; have ho := hC.2.2.2.1; have hts := hC.2.2.2.2
  have hrd : AwQ o R (R 140) := Or.inr ⟨140, by decide, rfl⟩
  have hA : ∀ q, AwQ o R q → q < sg.heap.size := fun q h => (hσ q h).2
  have hσ0 : σ.1 ≤ sg.heap.size := Nat.le_trans (hσ _ hrd).1 (Nat.le_of_lt (hσ _ hrd).2)
  have hσA : ∀ q, A0 o R sg.heap.size q → kpA σ q := fun q h => h.elim (fun h => (hσ q h).1) (fun h => Nat.le_trans hσ0 h)
  have hDA : ∀ (tx : Nat) (u : MS), va_D (A0 o R sg.heap.size) (celQ G o R tx u) := fun tx u => (hD G tx u).up (fun q h => Or.inl h)
  refine W_c0 ?_
  have hl : lv_has ls 3 [(0, .ref (R 140))] := hl
  have hP : PwQ G o R tx (qE u (u.1 143) (u.1 144) (u.1 145) (u.1 146)) sg.heap := by rw [qE_self]; exact hP
  rw [hp, ho1, hf] at hP
  have hge0 := hS.1
  refine F_newA tyX13 hC hK hS in_X13 tyX13_ok q599 q600 q129 clX13 (fs := [.null, .int 0, .null]) (fun j hj => by rcases (show j = 0 ∨ j = 1 ∨ j = 2 by omega) with rfl | rfl | rfl <;> rfl) (by decide) (rmc hRm (by omega)) (rms hRm (by omega)) dX7_pieces_0 (fun a0 H ha_a0 hN_a0 hz_a0 hF hS => ?_)
  have hge_a0 : sg.heap.size ≤ a0 := by rw [ha_a0]; exact hge0
  have hP : PwQ G o R tx (qE u (nI p) (nI op) 0 (u.1 146)) H := va_P.fr hP hF (fun _ _ _ h => h)
  have hF : Fr (AwQ o R) _ _ := hF.up (fun q z => False.elim z)
  refine lv_dup hx hb dX7_pieces_3 rfl ?_
  refine lv_aload_n hx hb dX7_pieces_4 rfl (lv_at hl 0 rfl) ?_
  have hσ2 : ∀ q, AwQ o R q → σ.1 ≤ q ∧ q < Array.size H := fun q h => ⟨(hσ q h).1, by have := (hσ q h).2; have := hS.1; omega⟩
  refine CRq.goF (rrV (As := []) hC hl (pie σ o R tx (qE u (nI p) (nI op) 0 (u.1 146)) n p op k9 b a H hD hσ2 rfl hn rfl rfl hn2 (by omega) (by omega) (by omega)) hK (stK hT hS hσA) ⟨hP, rfl⟩ (va_recv hK.1 hP clX7 (oQ_rd _ _ _ _ _)) q605 q607 qs14 q117 q608 mdX7_piece (room_v hRm (by omega) (by omega) (by omega) (by omega)) rfl rfl dX7_pieces_5) hS hA (fun r5 w5 g5 X5 H locs hpo5 hP hX5 hF hS => ?_)
  have hN_a0 := hN_a0.fr1 hF (nAw hA hge_a0)
  refine lv_iconst (v := 0) hx hb dX7_pieces_8 (by decide) ?_
  rcases CP_c hpo5 with ⟨a9, b9, hx9, hw9, hg9, rfl, hb9⟩ | ⟨e9, q9, hx9, hq9, hw9, he9, hg9⟩
  · change rdC (u.2.1 6) n k9 0 op p b a = _ at hx9
    have hb8 := pie_b (show p ≤ n by omega) hx9
    rw [hw9, qE_again] at hP
    simp only [qE_f144, qE_f146] at hP
    have hpt := hb9 _ hX5
    rw [hz_a0] at hpt
    have hl : lv_has ls 3 [(0, .ref (R 140))] := hl
    refine CXv.go (rcI (As := [va_rf (some b9), .int 0]) hC hl (c_X13_init G l a0 (some b9) 0) hK hN_a0 rfl q638 q639 q129 q640 mdX13_init (room_v hRm (by omega) (by omega) (by omega) (by omega)) rfl rfl dX7_pieces_9) hS (fun q z => Or.inr (by rw [show q = a0 from z]; exact hge_a0)) (fun w9 H locs hpo9 hN_a0 hz hk hS => ?_)
    have hN_a0 : va_P G.1 vwCl [(a0, .inr (10, [va_rf (some b9), .int 0, .null]))] H := hN_a0
    have hF : Fr (fun q => q = a0) _ _ := ⟨hz, hk⟩
    have hP := PwQ.frA hP hF hD hA hge_a0
    have hpt := CT.fr hpt hF (fun q z => by have z : q = a0 := z; omega)
    refine lv_astore_n (lv' := [(1, .ref a0), (0, .ref (R 140))]) hx hb dX7_pieces_12 rfl hl (by decide) rfl (fun ls hl => ?_)
    refine lv_aload_n hx hb dX7_pieces_13 rfl (lv_at hl 0 rfl) ?_
    refine lv_astore_n (lv' := [(2, .ref a0), (1, .ref a0), (0, .ref (R 140))]) hx hb dX7_pieces_14 rfl hl (by decide) rfl (fun ls hl => ?_)
    have LP15 : ∀ (fu15 : Nat) (q : Nat) (k8 : Nat) (last : Nat) (pp : Nat) (acc : CA) (c : Nat) (H : Heap) (locs : List Loc) (ls : Array Slot), n + 1 - q < fu15 → p < q → q ≤ n → 2 * (n + 1 - q) + 2 ≤ k8 → pieS (u.2.1 6) n k9 op p b a = rdC (u.2.1 6) n k8 1 op q b acc → c + 1 ≤ 3 * (q - p) → sg.heap.size ≤ last → va_P G.1 vwCl [(last, .inr (10, [.ref pp, .int 0, .null]))] H → KC G (AwQ o R) sg.heap.size H a0 last false pp (n - q + 4 * d + 3) (n - p + 4 * d + 3 + 1) acc.2 → PwQ G o R tx (qE u (nI q) (nI op) 0 (u.1 146)) H → va_S (A0 o R sg.heap.size) sg.heap H locs → lv_has ls 3 [(0, .ref (R 140)), (1, .ref a0), (2, .ref last)] → W pg l en Rm sg mm ar bw mth cd H locs c (3 * c) QQ (F0 mm 15 ls []) := by
      intro fu15
      induction fu15 with
      | zero => intro q k8 last pp acc c H locs ls hm15 hqp hqn hk8 hsp hcc hge_last hN_last hKT hP hS hl; exact absurd hm15 (Nat.not_lt_zero _)
      | succ fu15 ih15 =>
        intro q k8 last pp acc c H locs ls hm15 hqp hqn hk8 hsp hcc hge_last hN_last hKT hP hS hl
        have hB := Fr.rf (fun q => AwQ o R q ∨ q = last) H
        have hll := (hN_last 0 _ rfl).lt
        obtain ⟨k8, rfl⟩ : ∃ j, k8 = j + 1 := ⟨k8 - 1, by omega⟩
        refine lv_aload_n hx hb dX7_pieces_15 rfl (lv_at hl 0 rfl) ?_
        refine CIs.go (rcV hC hl (c_X7_isGood G l o R tx (qE u (nI q) (nI op) 0 (u.1 146))  ) hK hP (va_recv hK.1 hP clX7 (oQ_rd _ _ _ _ _)) q423 q425 qs1 q117 q426 mdX7_isGood (room_v hRm (by omega) (by omega) (by omega) (by omega)) rfl rfl dX7_pieces_16) ?_
        refine W_top (y := (bI (isGB 0))) (by simp only [qE_f145]) ?_
        refine W_top (y := 1) (by decide) ?_
        refine lv_if_eq (tgt := 65) hx hb dX7_pieces_19 (by decide) (fun c19 => ?_) (fun c19 => ?_)
        · exact absurd c19 (by decide)
        · refine lv_aload_n hx hb dX7_pieces_22 rfl (lv_at hl 0 rfl) ?_
          refine CIs.go (rcV hC hl (c_X7_here G l o R tx (qE u (nI q) (nI op) 0 (u.1 146)) q n (rfl) (hn) (hn2) (by omega)) hK hP (va_recv hK.1 hP clX7 (oQ_rd _ _ _ _ _)) q431 q433 qs3 q117 q434 mdX7_here (room_v hRm (by omega) (by omega) (by omega) (by omega)) rfl rfl dX7_pieces_23) ?_
          refine W_top (y := (nI (hzN (u.2.1 6) n q))) (by simp only [qE_g6]) ?_
          refine lv_bipush (v := 38) hx hb dX7_pieces_26 (by decide) ?_
          refine lv_icmp_ne (tgt := 65) hx hb dX7_pieces_28 (by decide) (fun c28 => ?_) (fun c28 => ?_)
          · have c28 : ¬ ((hzN (u.2.1 6) n q) = 38) := mt (nI_eq (a := (hzN (u.2.1 6) n q)) (b := 38) (by first | omega | exact hzN_b _ _ _) (by first | omega | exact hzN_b _ _ _)).mpr c28
            have hm : ¬ ckN (u.2.1 6) n q = 38 := mt (hz_ck (by decide) (by decide)).mpr c28
            refine lv_aload_n hx hb dX7_pieces_65 rfl (lv_at hl 1 rfl) ?_
            refine W_size (fun hzz hww => ?_)
            exact hq _ _ (some a0) ((qE u (nI q) (nI op) 0 (u.1 146)), c, (fun H => (CT G (fun q => q < sg.heap.size) H (n - p + 4 * d + 3 + 1)).1 a0 acc.2)) _ _ _ _ dX7_pieces_66 ⟨hP, ⟨hzz, hww⟩, KC.done hKT hN_last⟩ hS (CP_r (a := (acc, q)) (hsp.trans (by rw [rdC_1, if_neg hm])) (by rw [ho1] <;> rfl) (by dsimp only; omega) (fun H h => h)) (by omega) (by omega)
          · have c28 : (hzN (u.2.1 6) n q) = 38 := (nI_eq (a := (hzN (u.2.1 6) n q)) (b := 38) (by first | omega | exact hzN_b _ _ _) (by first | omega | exact hzN_b _ _ _)).mp c28
            have hm : ckN (u.2.1 6) n q = 38 := (hz_ck (by decide) (by decide)).mp c28
            have hqn1 := ckN_in (by decide) hm
            refine lv_aload_n hx hb dX7_pieces_31 rfl (lv_at hl 0 rfl) ?_
            refine lv_dup hx hb dX7_pieces_32 rfl ?_
            refine S_get hC hK hP (oQ_rd _ _ _ _ _) clX7 in_X7 2 (by decide) (fD143 _ _ _ _) q399 dX7_pieces_33 ?_
            refine W_top (y := (nI q)) (by rw [qE_f143]) ?_
            refine lv_iconst (v := 1) hx hb dX7_pieces_36 (by decide) ?_
            refine lv_iadd hx hb dX7_pieces_37 ?_
            refine W_top (nI_add q 1) ?_
            refine F_put hC hK hP (hDA _ _) hS (oQ_rd _ _ _ _ _) clX7 in_X7 tyX7_ok nmX7 2 (by decide) (pQ143 _ _ _ _ _ _) q399 rfl rfl rfl rfl (Nat.le_of_ble_eq_true rfl) dX7_pieces_38 (fun H locs hP hS hF => ?_)
            rw [qE_V143] at hP
            have hF : Fr (AwQ o R) _ _ := hF.up (fun q z => by rw [show q = R 140 from z]; exact hrd)
            have hN_last := hN_last.fr1 hF (nAw hA hge_last)
            have hB := hB.tr (hF.up (fun q z => Or.inl z))
            refine lv_aload_n hx hb dX7_pieces_41 rfl (lv_at hl 2 rfl) ?_
            have hge0 := hS.1
            refine F_newA tyX13 hC hK hS in_X13 tyX13_ok q599 q600 q129 clX13 (fs := [.null, .int 0, .null]) (fun j hj => by rcases (show j = 0 ∨ j = 1 ∨ j = 2 by omega) with rfl | rfl | rfl <;> rfl) (by decide) (rmc hRm (by omega)) (rms hRm (by omega)) dX7_pieces_42 (fun a42 H ha_a42 hN_a42 hz_a42 hF hS => ?_)
            have hge_a42 : sg.heap.size ≤ a42 := by rw [ha_a42]; exact hge0
            have hla_a42 := Nat.le_trans hB.1 (Nat.le_of_eq ha_a42.symm)
            have hP : PwQ G o R tx (qE u (nI (q + 1)) (nI op) 0 (u.1 146)) H := va_P.fr hP hF (fun _ _ _ h => h)
            have hF : Fr (AwQ o R) _ _ := hF.up (fun q z => False.elim z)
            have hN_last := hN_last.fr1 hF (nAw hA hge_last)
            have hB := hB.tr (hF.up (fun q z => Or.inl z))
            refine lv_dup hx hb dX7_pieces_45 rfl ?_
            refine lv_aload_n hx hb dX7_pieces_46 rfl (lv_at hl 0 rfl) ?_
            have hσ3 : ∀ q, AwQ o R q → σ.1 ≤ q ∧ q < Array.size H := fun q h => ⟨(hσ q h).1, by have := (hσ q h).2; have := hS.1; omega⟩
            refine CRq.goF (rrV (As := []) hC hl (pie σ o R tx (qE u (nI (q + 1)) (nI op) 0 (u.1 146)) n (q + 1) op k8 (b + acc.1.length + 1) acc H hD hσ3 rfl hn rfl rfl hn2 (by omega) (by omega) (by omega)) hK (stK hT hS hσA) ⟨hP, rfl⟩ (va_recv hK.1 hP clX7 (oQ_rd _ _ _ _ _)) q605 q607 qs14 q117 q608 mdX7_piece (room_v hRm (by omega) (by omega) (by omega) (by omega)) rfl rfl dX7_pieces_47) hS hA (fun r47 w47 g47 X47 H locs hpo47 hP hX47 hF hS => ?_)
            have hN_last := hN_last.fr1 hF (nAw hA hge_last)
            have hB := hB.tr (hF.up (fun q z => Or.inl z))
            have hN_a42 := hN_a42.fr1 hF (nAw hA hge_a42)
            refine lv_iconst (v := 0) hx hb dX7_pieces_50 (by decide) ?_
            rcases CP_c hpo47 with ⟨a8, b8, hx8, hw8, hg8, rfl, hb8⟩ | ⟨e8, q8, hx8, hq8, hw8, he8, hg8⟩
            · change rdC (u.2.1 6) n k8 0 op (q + 1) (b + acc.1.length + 1) acc = _ at hx8
              have hbb8 := pie_b (show q + 1 ≤ n by omega) hx8
              rw [hw8, qE_again] at hP
              simp only [qE_f144, qE_f146] at hP
              have hpt8 := hb8 _ hX47
              rw [hz_a42] at hpt8
              have hl : lv_has ls 3 [(0, .ref (R 140)), (1, .ref a0), (2, .ref last)] := hl
              refine CXv.go (rcI (As := [va_rf (some b8), .int 0]) hC hl (c_X13_init G l a42 (some b8) 0) hK hN_a42 rfl q638 q639 q129 q640 mdX13_init (room_v hRm (by omega) (by omega) (by omega) (by omega)) rfl rfl dX7_pieces_51) hS (fun q z => Or.inr (by rw [show q = a42 from z]; exact hge_a42)) (fun w51 H locs hpo51 hN_a42 hz hk hS => ?_)
              have hN_a42 : va_P G.1 vwCl [(a42, .inr (10, [va_rf (some b8), .int 0, .null]))] H := hN_a42
              have hF : Fr (fun q => q = a42) _ _ := ⟨hz, hk⟩
              have hP := PwQ.frA hP hF hD hA hge_a42
              have hN_last := hN_last.fr1 hF (fun z => by have z : last = a42 := z; omega)
              have hB := hB.tr1 hF (by first | exact hla_a42 | omega)
              have hpt8 := CT.fr hpt8 hF (fun q z => by have z : q = a42 := z; omega)
              refine F_putN (q0 := 0) (fs := [.ref pp, .int 0, .null]) (ws' := [(last, .inr (10, [.ref pp, .int 0, .ref a42]))]) hC hK hN_last (va_D.one (Or.inr hge_last)) hS rfl clX13 in_X13 tyX13_ok nmX13 2 (by decide) rfl nq645 rfl rfl rfl rfl (Nat.le_of_ble_eq_true rfl) dX7_pieces_54 (fun H locs hN_last hS hF => ?_)
              have hP := PwQ.frA hP hF hD hA hge_last
              have hB := hB.tr (hF.up (fun q z => Or.inr z))
              have hN_a42 := hN_a42.fr1 hF (fun z => by have z : a42 = last := z; omega)
              have hpt8 := CT.fr hpt8 hF (fun q z => by have z : q = last := z; omega)
              refine lv_aload_n hx hb dX7_pieces_57 rfl (lv_at hl 2 rfl) ?_
              refine S_getN (v := .ref a42) hC hK hN_last (q0 := 0) rfl clX13 in_X13 2 (by decide) rfl nq645 dX7_pieces_58 ?_
              refine lv_astore_n (lv' := [(2, .ref a42), (0, .ref (R 140)), (1, .ref a0)]) hx hb dX7_pieces_61 rfl hl (by decide) rfl (fun ls hl => ?_)
              refine lv_goto (tgt := 15) hx hb dX7_pieces_62 (by decide) ?_
              exact ih15 a8.2 k8 a42 b8 (acc.1 ++ [UN * 11 + (b + acc.1.length + 1 + a8.1.1.length)] ++ a8.1.1, fun F => somS false (acc.2 F) (a8.1.2 F)) ((c + 1) + g47) _ _ ls (by have := hbb8.1; omega) (by have := hbb8.1; omega) (hbb8.2.1) (by have := hbb8.1; omega) (hsp.trans (by rw [rdC_1, if_pos hm, hx8]; rfl)) (by have := hbb8.1; omega) (hge_a42) (hN_a42) (KC.step (D1 := n - (q + 1) + 4 * d + 3) hKT hA hge_last hll hla_a42 hB hN_last hpt8 (Nat.le_refl _) (by have := hbb8.1; omega) (by omega)) hP hS (lv_sub hl [1, 2, 0] rfl)
            · change rdC (u.2.1 6) n k8 0 op (q + 1) (b + acc.1.length + 1) acc = _ at hx8
              rw [hw8, qE_again] at hP
              simp only [qE_f144] at hP
              have hl : lv_has ls 3 [(0, .ref (R 140)), (1, .ref a0), (2, .ref last)] := hl
              refine CXv.go (rcI (As := [va_rf r47, .int 0]) hC hl (c_X13_init G l a42 r47 0) hK hN_a42 rfl q638 q639 q129 q640 mdX13_init (room_v hRm (by omega) (by omega) (by omega) (by omega)) rfl rfl dX7_pieces_51) hS (fun q z => Or.inr (by rw [show q = a42 from z]; exact hge_a42)) (fun w51 H locs hpo51 hN_a42 hz hk hS => ?_)
              have hN_a42 : va_P G.1 vwCl [(a42, .inr (10, [va_rf r47, .int 0, .null]))] H := hN_a42
              have hF : Fr (fun q => q = a42) _ _ := ⟨hz, hk⟩
              have hP := PwQ.frA hP hF hD hA hge_a42
              have hN_last := hN_last.fr1 hF (fun z => by have z : last = a42 := z; omega)
              have hB := hB.tr1 hF (by first | exact hla_a42 | omega)
              refine F_putN (q0 := 0) (fs := [.ref pp, .int 0, .null]) (ws' := [(last, .inr (10, [.ref pp, .int 0, .ref a42]))]) hC hK hN_last (va_D.one (Or.inr hge_last)) hS rfl clX13 in_X13 tyX13_ok nmX13 2 (by decide) rfl nq645 rfl rfl rfl rfl (Nat.le_of_ble_eq_true rfl) dX7_pieces_54 (fun H locs hN_last hS hF => ?_)
              have hP := PwQ.frA hP hF hD hA hge_last
              have hB := hB.tr (hF.up (fun q z => Or.inr z))
              have hN_a42 := hN_a42.fr1 hF (fun z => by have z : a42 = last := z; omega)
              refine lv_aload_n hx hb dX7_pieces_57 rfl (lv_at hl 2 rfl) ?_
              refine S_getN (v := .ref a42) hC hK hN_last (q0 := 0) rfl clX13 in_X13 2 (by decide) rfl nq645 dX7_pieces_58 ?_
              refine lv_astore_n (lv' := [(2, .ref a42), (0, .ref (R 140)), (1, .ref a0)]) hx hb dX7_pieces_61 rfl hl (by decide) rfl (fun ls hl => ?_)
              refine lv_goto (tgt := 15) hx hb dX7_pieces_62 (by decide) ?_
              refine lv_aload_n hx hb dX7_pieces_15 rfl (lv_at hl 1 rfl) ?_
              refine CIs.go (rcV hC hl (c_X7_isGood G l o R tx (qE u (nI q8) (nI op) (nI e8.1) (nI e8.2))  ) hK hP (va_recv hK.1 hP clX7 (oQ_rd _ _ _ _ _)) q423 q425 qs1 q117 q426 mdX7_isGood (room_v hRm (by omega) (by omega) (by omega) (by omega)) rfl rfl dX7_pieces_16) ?_
              refine W_top (y := (bI (isGB (nI e8.1)))) (by simp only [qE_f145]) ?_
              refine W_top (y := 0) (by rw [he8.1]; rfl) ?_
              refine lv_if_eq (tgt := 65) hx hb dX7_pieces_19 (by decide) (fun c19 => ?_) (fun c19 => ?_)
              · refine lv_aload_n hx hb dX7_pieces_65 rfl (lv_at hl 2 rfl) ?_
                refine W_size (fun hzz hww => ?_)
                exact hq _ _ (some a0) ((qE u (nI q8) (nI op) (nI e8.1) (nI e8.2)), ((c + 1) + g47), (fun _ => True)) _ _ _ _ dX7_pieces_66 ⟨hP, ⟨hzz, hww⟩, trivial⟩ hS (CP_l (e := e8) (q := q8) (hsp.trans (by rw [rdC_1, if_pos hm, hx8] <;> rfl)) (by omega) (by rw [ho1] <;> rfl) he8 (by omega)) (by omega) (by omega)
              · exact absurd c19 (by decide)
    exact LP15 _ a9.2 k9 a0 b9 a9.1 ((0 + 1) + g5) _ _ ls (Nat.lt_succ_self _) (hb8.1) (hb8.2.1) (by have := hb8.1; omega) (by unfold pieS; rw [hx9]; rfl) (by have := hb8.1; omega) (hge_a0) (hN_a0) ((KC.first (b := false) hA hge_a0 hpt (Nat.le_refl _)).mono (by have := hb8.1; omega)) hP hS (lv_sub hl [2, 1, 0] rfl)
  · change rdC (u.2.1 6) n k9 0 op p b a = _ at hx9
    rw [hw9, qE_again] at hP
    simp only [qE_f144] at hP
    have hl : lv_has ls 3 [(0, .ref (R 140))] := hl
    refine CXv.go (rcI (As := [va_rf r5, .int 0]) hC hl (c_X13_init G l a0 r5 0) hK hN_a0 rfl q638 q639 q129 q640 mdX13_init (room_v hRm (by omega) (by omega) (by omega) (by omega)) rfl rfl dX7_pieces_9) hS (fun q z => Or.inr (by rw [show q = a0 from z]; exact hge_a0)) (fun w9 H locs hpo9 hN_a0 hz hk hS => ?_)
    have hN_a0 : va_P G.1 vwCl [(a0, .inr (10, [va_rf r5, .int 0, .null]))] H := hN_a0
    have hF : Fr (fun q => q = a0) _ _ := ⟨hz, hk⟩
    have hP := PwQ.frA hP hF hD hA hge_a0
    refine lv_astore_n (lv' := [(1, .ref a0), (0, .ref (R 140))]) hx hb dX7_pieces_12 rfl hl (by decide) rfl (fun ls hl => ?_)
    refine lv_aload_n hx hb dX7_pieces_13 rfl (lv_at hl 0 rfl) ?_
    refine lv_astore_n (lv' := [(2, .ref a0), (1, .ref a0), (0, .ref (R 140))]) hx hb dX7_pieces_14 rfl hl (by decide) rfl (fun ls hl => ?_)
    refine lv_aload_n hx hb dX7_pieces_15 rfl (lv_at hl 2 rfl) ?_
    refine CIs.go (rcV hC hl (c_X7_isGood G l o R tx (qE u (nI q9) (nI op) (nI e9.1) (nI e9.2))  ) hK hP (va_recv hK.1 hP clX7 (oQ_rd _ _ _ _ _)) q423 q425 qs1 q117 q426 mdX7_isGood (room_v hRm (by omega) (by omega) (by omega) (by omega)) rfl rfl dX7_pieces_16) ?_
    refine W_top (y := (bI (isGB (nI e9.1)))) (by simp only [qE_f145]) ?_
    refine W_top (y := 0) (by rw [he9.1]; rfl) ?_
    refine lv_if_eq (tgt := 65) hx hb dX7_pieces_19 (by decide) (fun c19 => ?_) (fun c19 => ?_)
    · refine lv_aload_n hx hb dX7_pieces_65 rfl (lv_at hl 1 rfl) ?_
      refine W_size (fun hzz hww => ?_)
      exact hq _ _ (some a0) ((qE u (nI q9) (nI op) (nI e9.1) (nI e9.2)), ((0 + 1) + g5), (fun _ => True)) _ _ _ _ dX7_pieces_66 ⟨hP, ⟨hzz, hww⟩, trivial⟩ hS (CP_l (e := e9) (q := q9) (by unfold pieS; rw [hx9]; rfl) (by omega) (by rw [ho1] <;> rfl) he9 (by omega)) (by omega) (by omega)
    · exact absurd c19 (by decide)
set_option maxHeartbeats 8000000 in
theorem con_ok (G : GG) (l : Launch) (d : Nat) (pis : ∀ d', d' + 1 = d → PisC G l d') : ConC G l d := by
  intro σ o R tx u n p op k b a H0 hD hσ hp hn ho1 hf hn2 hpn hop hk
  obtain ⟨k9, rfl⟩ : ∃ j, k = j + 1 := ⟨k - 1, by omega⟩
  refine CRq.mk RX7 (Or.inl ⟨_, rfl⟩) pnX7 rfl (Nat.le_of_ble_eq_true rfl) (fun pg en Rm sg mm ar bw mth cd QQ ls hC hRm hK hT hX hS hl hq => ?_)
  obtain ⟨hP, rfl⟩ := hX
  have hx := hC.1; have hb := hC.2.1; have ho := hC.2.2.2.1; have hts := hC.2.2.2.2
  have hrd : AwQ o R (R 140) := Or.inr ⟨140, by decide, rfl⟩
  have hA : ∀ q, AwQ o R q → q < sg.heap.size := fun q h => (hσ q h).2
  have hσ0 : σ.1 ≤ sg.heap.size := Nat.le_trans (hσ _ hrd).1 (Nat.le_of_lt (hσ _ hrd).2)
  have hσA : ∀ q, A0 o R sg.heap.size q → kpA σ q := fun q h => h.elim (fun h => (hσ q h).1) (fun h => Nat.le_trans hσ0 h)
  have hDA : ∀ (tx : Nat) (u : MS), va_D (A0 o R sg.heap.size) (celQ G o R tx u) := fun tx u => (hD G tx u).up (fun q h => Or.inl h)
  refine W_c0 ?_
  have hl : lv_has ls 3 [(0, .ref (R 140))] := hl
  have hP : PwQ G o R tx (qE u (u.1 143) (u.1 144) (u.1 145) (u.1 146)) sg.heap := by rw [qE_self]; exact hP
  rw [hp, ho1, hf] at hP
  refine lv_aload_n hx hb dX7_condition_0 rfl (lv_at hl 0 rfl) ?_
  refine CXv.go (rcV hC hl (c_X7_opens G l o R tx (qE u (nI p) (nI op) 0 (u.1 146)) op p (rfl) (by omega) (rfl) (rfl) (by omega) hD) hK hP (va_recv hK.1 hP clX7 (oQ_rd _ _ _ _ _)) q540 q542 qs8 q117 q543 mdX7_opens (room_v hRm (by omega) (by omega) (by omega) (by omega)) rfl rfl dX7_condition_1) hS (fun q h => Or.inl h) (fun w1 H locs hpo hP hz hk hS => ?_)
  obtain ⟨ft_1, pc_2, f1_0, ew1⟩ := hpo
  rw [ew1] at hP
  rw [qE_again] at hP
  have hF : Fr (AwQ o R) _ _ := ⟨hz, hk⟩
  by_cases h6 : op = 6
  · rw [if_pos h6] at f1_0
    obtain ⟨rfl, rfl⟩ := f1_0
    have hl : lv_has ls 3 [(0, .ref (R 140))] := hl
    refine lv_aload_n hx hb dX7_condition_4 rfl (lv_at hl 0 rfl) ?_
    refine CIs.go (rcV hC hl (c_X7_isGood G l o R tx (qE u (nI (p + 1)) (nI (op + 1)) 5 (nI p))  ) hK hP (va_recv hK.1 hP clX7 (oQ_rd _ _ _ _ _)) q423 q425 qs1 q117 q426 mdX7_isGood (room_v hRm (by omega) (by omega) (by omega) (by omega)) rfl rfl dX7_condition_5) ?_
    refine W_top (y := (bI (isGB 5))) (by simp only [qE_f145]) ?_
    refine W_top (y := 0) (by decide) ?_
    refine lv_if_eq (tgt := 26) hx hb dX7_condition_8 (by decide) (fun c8 => ?_) (fun c8 => ?_)
    · refine lv_null hx hb dX7_condition_26 ?_
      refine lv_astore_nN (lv' := [(1, .null), (0, .ref (R 140))]) hx hb dX7_condition_27 rfl hl (by decide) rfl (fun ls hl => ?_)
      refine lv_aload_nN hx hb dX7_condition_28 rfl (lv_at hl 0 rfl) ?_
      refine lv_astore_nN (lv' := [(2, .null), (1, .null), (0, .ref (R 140))]) hx hb dX7_condition_29 rfl hl (by decide) rfl (fun ls hl => ?_)
      refine lv_aload_n hx hb dX7_condition_30 rfl (lv_at hl 2 rfl) ?_
      refine CIs.go (rcV hC hl (c_X7_isGood G l o R tx (qE u (nI (p + 1)) (nI (op + 1)) 5 (nI p))  ) hK hP (va_recv hK.1 hP clX7 (oQ_rd _ _ _ _ _)) q423 q425 qs1 q117 q426 mdX7_isGood (room_v hRm (by omega) (by omega) (by omega) (by omega)) rfl rfl dX7_condition_31) ?_
      refine W_top (y := (bI (isGB 5))) (by simp only [qE_f145]) ?_
      refine W_top (y := 0) (by decide) ?_
      refine lv_if_eq (tgt := 80) hx hb dX7_condition_34 (by decide) (fun c34 => ?_) (fun c34 => ?_)
      · refine lv_aload_n hx hb dX7_condition_80 rfl (lv_at hl 2 rfl) ?_
        refine CIs.go (rcV hC hl (c_X7_isGood G l o R tx (qE u (nI (p + 1)) (nI (op + 1)) 5 (nI p))  ) hK hP (va_recv hK.1 hP clX7 (oQ_rd _ _ _ _ _)) q423 q425 qs1 q117 q426 mdX7_isGood (room_v hRm (by omega) (by omega) (by omega) (by omega)) rfl rfl dX7_condition_81) ?_
        refine W_top (y := (bI (isGB 5))) (by simp only [qE_f145]) ?_
        refine W_top (y := 0) (by decide) ?_
        refine lv_if_eq (tgt := 93) hx hb dX7_condition_84 (by decide) (fun c84 => ?_) (fun c84 => ?_)
        · refine lv_aload_n hx hb dX7_condition_93 rfl (lv_at hl 2 rfl) ?_
          refine lv_dup hx hb dX7_condition_94 rfl ?_
          refine S_get hC hK hP (oQ_rd _ _ _ _ _) clX7 in_X7 3 (by decide) (fD144 _ _ _ _) q400 dX7_condition_95 ?_
          refine W_top (y := (nI (op + 1))) (by rw [qE_f144]) ?_
          refine lv_iconst (v := 1) hx hb dX7_condition_98 (by decide) ?_
          refine lv_isub hx hb dX7_condition_99 ?_
          refine W_top (y := (nI op)) (pk_sub (a := op + 1) (b := 1) (by omega)) ?_
          refine F_put hC hK hP (hDA _ _) hS (oQ_rd _ _ _ _ _) clX7 in_X7 tyX7_ok nmX7 3 (by decide) (pQ144 _ _ _ _ _ _) q400 rfl rfl rfl rfl (Nat.le_of_ble_eq_true rfl) dX7_condition_100 (fun H locs hP hS hF => ?_)
          rw [qE_V144] at hP
          have hF : Fr (AwQ o R) _ _ := hF.up (fun q z => by rw [show q = R 140 from z]; exact hrd)
          refine lv_aload_nN hx hb dX7_condition_103 rfl (lv_at hl 1 rfl) ?_
          refine W_size (fun hzz hww => ?_)
          exact hq _ _ none ((qE u (nI (p + 1)) (nI op) 5 (nI p)), 0, (fun _ => True)) _ _ _ _ dX7_condition_104 ⟨hP, ⟨hzz, hww⟩, trivial⟩ hS (⟨CP_l (e := (5, p)) (q := p + 1) (by rw [rdC_3p, if_pos h6]) (by omega) (by rw [ho1] <;> rfl) (show fOK 5 from ⟨by decide, by decide⟩) (by omega), fun _ _ b hb => by cases hb⟩) (by omega) (by omega)
        · exact absurd c84 (by decide)
      · exact absurd c34 (by decide)
    · exact absurd c8 (by decide)
  · rw [if_neg h6] at f1_0
    obtain ⟨rfl, rfl⟩ := f1_0
    obtain ⟨d, rfl⟩ : ∃ d', d = d' + 1 := ⟨d - 1, by omega⟩
    have hl : lv_has ls 3 [(0, .ref (R 140))] := hl
    refine lv_aload_n hx hb dX7_condition_4 rfl (lv_at hl 0 rfl) ?_
    refine CIs.go (rcV hC hl (c_X7_isGood G l o R tx (qE u (nI (p + 1)) (nI (op + 1)) 0 (u.1 146))  ) hK hP (va_recv hK.1 hP clX7 (oQ_rd _ _ _ _ _)) q423 q425 qs1 q117 q426 mdX7_isGood (room_v hRm (by omega) (by omega) (by omega) (by omega)) rfl rfl dX7_condition_5) ?_
    refine W_top (y := (bI (isGB 0))) (by simp only [qE_f145]) ?_
    refine W_top (y := 1) (by decide) ?_
    refine lv_if_eq (tgt := 26) hx hb dX7_condition_8 (by decide) (fun c8 => ?_) (fun c8 => ?_)
    · exact absurd c8 (by decide)
    · have hge0 := hS.1
      refine F_newA tyX13 hC hK hS in_X13 tyX13_ok q599 q600 q129 clX13 (fs := [.null, .int 0, .null]) (fun j hj => by rcases (show j = 0 ∨ j = 1 ∨ j = 2 by omega) with rfl | rfl | rfl <;> rfl) (by decide) (rmc hRm (by omega)) (rms hRm (by omega)) dX7_condition_11 (fun a11 H ha_a11 hN_a11 hz_a11 hF hS => ?_)
      have hge_a11 : sg.heap.size ≤ a11 := by rw [ha_a11]; exact hge0
      have hP : PwQ G o R tx (qE u (nI (p + 1)) (nI (op + 1)) 0 (u.1 146)) H := va_P.fr hP hF (fun _ _ _ h => h)
      have hF : Fr (AwQ o R) _ _ := hF.up (fun q z => False.elim z)
      refine lv_dup hx hb dX7_condition_14 rfl ?_
      refine lv_aload_n hx hb dX7_condition_15 rfl (lv_at hl 0 rfl) ?_
      have hσ2 : ∀ q, AwQ o R q → σ.1 ≤ q ∧ q < Array.size H := fun q h => ⟨(hσ q h).1, by have := (hσ q h).2; have := hS.1; omega⟩
      refine CRq.goF (rrV (As := []) hC hl (pis d rfl σ o R tx (qE u (nI (p + 1)) (nI (op + 1)) 0 (u.1 146)) n (p + 1) (op + 1) k9 b a H hD hσ2 rfl hn rfl rfl hn2 (by omega) (by omega) (by omega)) hK (stK hT hS hσA) ⟨hP, rfl⟩ (va_recv hK.1 hP clX7 (oQ_rd _ _ _ _ _)) q601 q603 qs13 q117 q604 mdX7_pieces (room_v hRm (by omega) (by omega) (by omega) (by omega)) rfl rfl dX7_condition_16) hS hA (fun r16 w16 g16 X16 H locs hpo16 hP hX16 hF hS => ?_)
      have hN_a11 := hN_a11.fr1 hF (nAw hA hge_a11)
      refine lv_iconst (v := 1) hx hb dX7_condition_19 (by decide) ?_
      rcases CP_c hpo16 with ⟨a9, b9, hx9, hw9, hg9, rfl, hb9⟩ | ⟨e9, q9, hx9, hq9, hw9, he9, hg9⟩
      · change pieS (u.2.1 6) n k9 (op + 1) (p + 1) b a = _ at hx9
        have hb8 := pieS_b (f := (u.2.1 6)) (k := k9) (show (p + 1) ≤ n by omega) hx9
        rw [hw9, qE_again] at hP
        simp only [qE_f144, qE_f146] at hP
        have hpt := hb9 _ hX16
        rw [hz_a11] at hpt
        have hl : lv_has ls 3 [(0, .ref (R 140))] := hl
        refine CXv.go (rcI (As := [va_rf (some b9), .int 1]) hC hl (c_X13_init G l a11 (some b9) 1) hK hN_a11 rfl q638 q639 q129 q640 mdX13_init (room_v hRm (by omega) (by omega) (by omega) (by omega)) rfl rfl dX7_condition_20) hS (fun q z => Or.inr (by rw [show q = a11 from z]; exact hge_a11)) (fun w20 H locs hpo20 hN_a11 hz hk hS => ?_)
        have hN_a11 : va_P G.1 vwCl [(a11, .inr (10, [va_rf (some b9), .int 1, .null]))] H := hN_a11
        have hF : Fr (fun q => q = a11) _ _ := ⟨hz, hk⟩
        have hP := PwQ.frA hP hF hD hA hge_a11
        have hpt := CT.fr hpt hF (fun q z => by have z : q = a11 := z; omega)
        refine lv_goto (tgt := 27) hx hb dX7_condition_23 (by decide) ?_
        refine lv_astore_n (lv' := [(1, .ref a11), (0, .ref (R 140))]) hx hb dX7_condition_27 rfl hl (by decide) rfl (fun ls hl => ?_)
        refine lv_aload_n hx hb dX7_condition_28 rfl (lv_at hl 0 rfl) ?_
        refine lv_astore_n (lv' := [(2, .ref a11), (1, .ref a11), (0, .ref (R 140))]) hx hb dX7_condition_29 rfl hl (by decide) rfl (fun ls hl => ?_)
        have LP30 : ∀ (fu30 : Nat) (q : Nat) (k8 : Nat) (last : Nat) (pp : Nat) (acc : CA) (c : Nat) (H : Heap) (locs : List Loc) (ls : Array Slot), n + 1 - q < fu30 → (p + 1) < q → q ≤ n → 2 * (n + 1 - q) + 2 ≤ k8 → rdC (u.2.1 6) n (k9 + 1) 3 op p b a = bW (rdC (u.2.1 6) n k8 2 (op + 1) q b acc) (fun r2 => if ckN (u.2.1 6) n r2.2 = 41 then .inr (r2.1, r2.2 + 1) else .inl (1, r2.2)) → c + 3 ≤ 3 * (q - p) → sg.heap.size ≤ last → va_P G.1 vwCl [(last, .inr (10, [.ref pp, .int 1, .null]))] H → KC G (AwQ o R) sg.heap.size H a11 last true pp (n - q + 4 * d + 4) (n - (p + 1) + 4 * d + 4 + 1) acc.2 → PwQ G o R tx (qE u (nI q) (nI (op + 1)) 0 (u.1 146)) H → va_S (A0 o R sg.heap.size) sg.heap H locs → lv_has ls 3 [(0, .ref (R 140)), (1, .ref a11), (2, .ref last)] → W pg l en Rm sg mm ar bw mth cd H locs c (3 * c) QQ (F0 mm 30 ls []) := by
          intro fu30
          induction fu30 with
          | zero => intro q k8 last pp acc c H locs ls hm30 hqp hqn hk8 hsp hcc hge_last hN_last hKT hP hS hl; exact absurd hm30 (Nat.not_lt_zero _)
          | succ fu30 ih30 =>
            intro q k8 last pp acc c H locs ls hm30 hqp hqn hk8 hsp hcc hge_last hN_last hKT hP hS hl
            have hSK := SK.ofC (KC.done hKT hN_last)
            have hB := Fr.rf (fun q => AwQ o R q ∨ q = last) H
            have hll := (hN_last 0 _ rfl).lt
            obtain ⟨k8, rfl⟩ : ∃ j, k8 = j + 1 := ⟨k8 - 1, by omega⟩
            refine lv_aload_n hx hb dX7_condition_30 rfl (lv_at hl 0 rfl) ?_
            refine CIs.go (rcV hC hl (c_X7_isGood G l o R tx (qE u (nI q) (nI (op + 1)) 0 (u.1 146))  ) hK hP (va_recv hK.1 hP clX7 (oQ_rd _ _ _ _ _)) q423 q425 qs1 q117 q426 mdX7_isGood (room_v hRm (by omega) (by omega) (by omega) (by omega)) rfl rfl dX7_condition_31) ?_
            refine W_top (y := (bI (isGB 0))) (by simp only [qE_f145]) ?_
            refine W_top (y := 1) (by decide) ?_
            refine lv_if_eq (tgt := 80) hx hb dX7_condition_34 (by decide) (fun c34 => ?_) (fun c34 => ?_)
            · exact absurd c34 (by decide)
            · refine lv_aload_n hx hb dX7_condition_37 rfl (lv_at hl 0 rfl) ?_
              refine CIs.go (rcV hC hl (c_X7_here G l o R tx (qE u (nI q) (nI (op + 1)) 0 (u.1 146)) q n (rfl) (hn) (hn2) (by omega)) hK hP (va_recv hK.1 hP clX7 (oQ_rd _ _ _ _ _)) q431 q433 qs3 q117 q434 mdX7_here (room_v hRm (by omega) (by omega) (by omega) (by omega)) rfl rfl dX7_condition_38) ?_
              refine W_top (y := (nI (hzN (u.2.1 6) n q))) (by simp only [qE_g6]) ?_
              refine lv_bipush (v := 124) hx hb dX7_condition_41 (by decide) ?_
              refine lv_icmp_ne (tgt := 80) hx hb dX7_condition_43 (by decide) (fun c43 => ?_) (fun c43 => ?_)
              · have c43 : ¬ ((hzN (u.2.1 6) n q) = 124) := mt (nI_eq (a := (hzN (u.2.1 6) n q)) (b := 124) (by first | omega | exact hzN_b _ _ _) (by first | omega | exact hzN_b _ _ _)).mpr c43
                have hm : ¬ ckN (u.2.1 6) n q = 124 := mt (hz_ck (by decide) (by decide)).mpr c43
                have hCC := KC.done hKT hN_last
                refine lv_aload_n hx hb dX7_condition_80 rfl (lv_at hl 0 rfl) ?_
                refine CIs.go (rcV hC hl (c_X7_isGood G l o R tx (qE u (nI q) (nI (op + 1)) 0 (u.1 146))  ) hK hP (va_recv hK.1 hP clX7 (oQ_rd _ _ _ _ _)) q423 q425 qs1 q117 q426 mdX7_isGood (room_v hRm (by omega) (by omega) (by omega) (by omega)) rfl rfl dX7_condition_81) ?_
                refine W_top (y := (bI (isGB 0))) (by simp only [qE_f145]) ?_
                refine W_top (y := 1) (by decide) ?_
                refine lv_if_eq (tgt := 93) hx hb dX7_condition_84 (by decide) (fun c84 => ?_) (fun c84 => ?_)
                · exact absurd c84 (by decide)
                · refine lv_aload_n hx hb dX7_condition_87 rfl (lv_at hl 0 rfl) ?_
                  refine lv_bipush (v := 41) hx hb dX7_condition_88 (by decide) ?_
                  refine CXv.go (rcV hC hl (c_X7_must G l o R tx (qE u (nI q) (nI (op + 1)) 0 (u.1 146)) 41 q n (rfl) (hn) (hn2) (by omega) (rfl) (by decide) (by decide) hD) hK hP (va_recv hK.1 hP clX7 (oQ_rd _ _ _ _ _)) q544 q546 qs9 q117 q547 mdX7_must (room_v hRm (by omega) (by omega) (by omega) (by omega)) rfl rfl dX7_condition_90) hS (fun q h => Or.inl h) (fun w90 H locs hpo hP hz hk hS => ?_)
                  obtain ⟨ft_3, pc_4, f90_0, ew90⟩ := hpo
                  rw [ew90] at hP
                  rw [qE_again] at hP
                  simp only [qE_f144] at hP
                  have hF : Fr (AwQ o R) _ _ := ⟨hz, hk⟩
                  have hCC := CT.fr hCC hF (fun q z => by have := hA q z; omega)
                  have hSK := hSK.fr hF (nAw hA hge_a11)
                  by_cases h41 : ckN (u.2.1 6) n q = 41
                  · change (if ckN (u.2.1 6) n q = 41 then ft_3 = 0 ∧ pc_4 = (u.1 146) else ft_3 = 1 ∧ pc_4 = nI q) at f90_0
                    rw [if_pos h41] at f90_0
                    obtain ⟨rfl, rfl⟩ := f90_0
                    have hqn1 := ckN_in (by decide) h41
                    have hl : lv_has ls 3 [(0, .ref (R 140)), (1, .ref a11), (2, .ref last)] := hl
                    refine lv_aload_n hx hb dX7_condition_93 rfl (lv_at hl 0 rfl) ?_
                    refine lv_dup hx hb dX7_condition_94 rfl ?_
                    refine S_get hC hK hP (oQ_rd _ _ _ _ _) clX7 in_X7 3 (by decide) (fD144 _ _ _ _) q400 dX7_condition_95 ?_
                    refine W_top (y := (nI (op + 1))) (by rw [qE_f144]) ?_
                    refine lv_iconst (v := 1) hx hb dX7_condition_98 (by decide) ?_
                    refine lv_isub hx hb dX7_condition_99 ?_
                    refine W_top (y := (nI op)) (pk_sub (a := op + 1) (b := 1) (by omega)) ?_
                    refine F_put hC hK hP (hDA _ _) hS (oQ_rd _ _ _ _ _) clX7 in_X7 tyX7_ok nmX7 3 (by decide) (pQ144 _ _ _ _ _ _) q400 rfl rfl rfl rfl (Nat.le_of_ble_eq_true rfl) dX7_condition_100 (fun H locs hP hS hF => ?_)
                    rw [qE_V144] at hP
                    have hF : Fr (AwQ o R) _ _ := hF.up (fun q z => by rw [show q = R 140 from z]; exact hrd)
                    have hCC := CT.fr hCC hF (fun q z => by have := hA q z; omega)
                    have hSK := hSK.fr hF (nAw hA hge_a11)
                    refine lv_aload_n hx hb dX7_condition_103 rfl (lv_at hl 1 rfl) ?_
                    refine W_size (fun hzz hww => ?_)
                    exact hq _ _ (some a11) ((qE u (nI (q + 1)) (nI op) 0 (u.1 146)), c, (fun H => (CT G (fun q => q < sg.heap.size) H (n - p + 4 * (d + 1) + 2)).1 a11 acc.2 ∧ SK 10 G a11 H)) _ _ _ _ dX7_condition_104 ⟨hP, ⟨hzz, hww⟩, ⟨(CT.upto (show n - (p + 1) + 4 * d + 4 + 1 ≤ n - p + 4 * (d + 1) + 2 by omega)).1 _ _ hCC, hSK⟩⟩ hS (⟨CP_r (a := (acc, q + 1)) (hsp.trans (by rw [rdC_2p, if_neg hm]; exact if_pos h41)) (by rw [ho1] <;> rfl) (by dsimp only; omega) (fun H h => h.1), fun H h b hb => by cases hb; exact ⟨h.2, hge_a11⟩⟩) (by omega) (by omega)
                  · change (if ckN (u.2.1 6) n q = 41 then ft_3 = 0 ∧ pc_4 = (u.1 146) else ft_3 = 1 ∧ pc_4 = nI q) at f90_0
                    rw [if_neg h41] at f90_0
                    obtain ⟨rfl, rfl⟩ := f90_0
                    have hl : lv_has ls 3 [(0, .ref (R 140)), (1, .ref a11), (2, .ref last)] := hl
                    refine lv_aload_n hx hb dX7_condition_93 rfl (lv_at hl 0 rfl) ?_
                    refine lv_dup hx hb dX7_condition_94 rfl ?_
                    refine S_get hC hK hP (oQ_rd _ _ _ _ _) clX7 in_X7 3 (by decide) (fD144 _ _ _ _) q400 dX7_condition_95 ?_
                    refine W_top (y := (nI (op + 1))) (by rw [qE_f144]) ?_
                    refine lv_iconst (v := 1) hx hb dX7_condition_98 (by decide) ?_
                    refine lv_isub hx hb dX7_condition_99 ?_
                    refine W_top (y := (nI op)) (pk_sub (a := op + 1) (b := 1) (by omega)) ?_
                    refine F_put hC hK hP (hDA _ _) hS (oQ_rd _ _ _ _ _) clX7 in_X7 tyX7_ok nmX7 3 (by decide) (pQ144 _ _ _ _ _ _) q400 rfl rfl rfl rfl (Nat.le_of_ble_eq_true rfl) dX7_condition_100 (fun H locs hP hS hF => ?_)
                    rw [qE_V144] at hP
                    have hF : Fr (AwQ o R) _ _ := hF.up (fun q z => by rw [show q = R 140 from z]; exact hrd)
                    have hCC := CT.fr hCC hF (fun q z => by have := hA q z; omega)
                    have hSK := hSK.fr hF (nAw hA hge_a11)
                    refine lv_aload_n hx hb dX7_condition_103 rfl (lv_at hl 1 rfl) ?_
                    refine W_size (fun hzz hww => ?_)
                    exact hq _ _ (some a11) ((qE u (nI (q + 1)) (nI op) 1 (nI q)), c, (fun H => SK 10 G a11 H)) _ _ _ _ dX7_condition_104 ⟨hP, ⟨hzz, hww⟩, hSK⟩ hS (⟨CP_l (e := (1, q)) (q := q + 1) (hsp.trans (by rw [rdC_2p, if_neg hm]; exact if_neg h41)) (by omega) (by rw [ho1] <;> rfl) (show fOK 1 from ⟨by decide, by decide⟩) (by omega), fun H h b hb => by cases hb; exact ⟨h, hge_a11⟩⟩) (by omega) (by omega)
              · have c43 : (hzN (u.2.1 6) n q) = 124 := (nI_eq (a := (hzN (u.2.1 6) n q)) (b := 124) (by first | omega | exact hzN_b _ _ _) (by first | omega | exact hzN_b _ _ _)).mp c43
                have hm : ckN (u.2.1 6) n q = 124 := (hz_ck (by decide) (by decide)).mp c43
                have hqn1 := ckN_in (by decide) hm
                refine lv_aload_n hx hb dX7_condition_46 rfl (lv_at hl 0 rfl) ?_
                refine lv_dup hx hb dX7_condition_47 rfl ?_
                refine S_get hC hK hP (oQ_rd _ _ _ _ _) clX7 in_X7 2 (by decide) (fD143 _ _ _ _) q399 dX7_condition_48 ?_
                refine W_top (y := (nI q)) (by rw [qE_f143]) ?_
                refine lv_iconst (v := 1) hx hb dX7_condition_51 (by decide) ?_
                refine lv_iadd hx hb dX7_condition_52 ?_
                refine W_top (nI_add q 1) ?_
                refine F_put hC hK hP (hDA _ _) hS (oQ_rd _ _ _ _ _) clX7 in_X7 tyX7_ok nmX7 2 (by decide) (pQ143 _ _ _ _ _ _) q399 rfl rfl rfl rfl (Nat.le_of_ble_eq_true rfl) dX7_condition_53 (fun H locs hP hS hF => ?_)
                rw [qE_V143] at hP
                have hF : Fr (AwQ o R) _ _ := hF.up (fun q z => by rw [show q = R 140 from z]; exact hrd)
                have hN_last := hN_last.fr1 hF (nAw hA hge_last)
                have hB := hB.tr (hF.up (fun q z => Or.inl z))
                have hSK := hSK.fr hF (nAw hA hge_a11)
                refine lv_aload_n hx hb dX7_condition_56 rfl (lv_at hl 2 rfl) ?_
                have hge0 := hS.1
                refine F_newA tyX13 hC hK hS in_X13 tyX13_ok q599 q600 q129 clX13 (fs := [.null, .int 0, .null]) (fun j hj => by rcases (show j = 0 ∨ j = 1 ∨ j = 2 by omega) with rfl | rfl | rfl <;> rfl) (by decide) (rmc hRm (by omega)) (rms hRm (by omega)) dX7_condition_57 (fun a57 H ha_a57 hN_a57 hz_a57 hF hS => ?_)
                have hge_a57 : sg.heap.size ≤ a57 := by rw [ha_a57]; exact hge0
                have hla_a57 := Nat.le_trans hB.1 (Nat.le_of_eq ha_a57.symm)
                have hP : PwQ G o R tx (qE u (nI (q + 1)) (nI (op + 1)) 0 (u.1 146)) H := va_P.fr hP hF (fun _ _ _ h => h)
                have hF : Fr (AwQ o R) _ _ := hF.up (fun q z => False.elim z)
                have hN_last := hN_last.fr1 hF (nAw hA hge_last)
                have hB := hB.tr (hF.up (fun q z => Or.inl z))
                have hSK := hSK.fr hF (nAw hA hge_a11)
                refine lv_dup hx hb dX7_condition_60 rfl ?_
                refine lv_aload_n hx hb dX7_condition_61 rfl (lv_at hl 0 rfl) ?_
                have hσ3 : ∀ q, AwQ o R q → σ.1 ≤ q ∧ q < Array.size H := fun q h => ⟨(hσ q h).1, by have := (hσ q h).2; have := hS.1; omega⟩
                refine CRq.goF (rrV (As := []) hC hl (pis d rfl σ o R tx (qE u (nI (q + 1)) (nI (op + 1)) 0 (u.1 146)) n (q + 1) (op + 1) k8 (b + acc.1.length + 1) acc H hD hσ3 rfl hn rfl rfl hn2 (by omega) (by omega) (by omega)) hK (stK hT hS hσA) ⟨hP, rfl⟩ (va_recv hK.1 hP clX7 (oQ_rd _ _ _ _ _)) q601 q603 qs13 q117 q604 mdX7_pieces (room_v hRm (by omega) (by omega) (by omega) (by omega)) rfl rfl dX7_condition_62) hS hA (fun r62 w62 g62 X62 H locs hpo62 hP hX62 hF hS => ?_)
                have hN_last := hN_last.fr1 hF (nAw hA hge_last)
                have hB := hB.tr (hF.up (fun q z => Or.inl z))
                have hSK := hSK.fr hF (nAw hA hge_a11)
                have hN_a57 := hN_a57.fr1 hF (nAw hA hge_a57)
                refine lv_iconst (v := 1) hx hb dX7_condition_65 (by decide) ?_
                rcases CP_c hpo62 with ⟨a8, b8, hx8, hw8, hg8, rfl, hb8⟩ | ⟨e8, q8, hx8, hq8, hw8, he8, hg8⟩
                · change pieS (u.2.1 6) n k8 (op + 1) (q + 1) (b + acc.1.length + 1) acc = _ at hx8
                  have hbb8 := pieS_b (f := (u.2.1 6)) (k := k8) (show q + 1 ≤ n by omega) hx8
                  rw [hw8, qE_again] at hP
                  simp only [qE_f144, qE_f146] at hP
                  have hpt8 := hb8 _ hX62
                  rw [hz_a57] at hpt8
                  have hl : lv_has ls 3 [(0, .ref (R 140)), (1, .ref a11), (2, .ref last)] := hl
                  refine CXv.go (rcI (As := [va_rf (some b8), .int 1]) hC hl (c_X13_init G l a57 (some b8) 1) hK hN_a57 rfl q638 q639 q129 q640 mdX13_init (room_v hRm (by omega) (by omega) (by omega) (by omega)) rfl rfl dX7_condition_66) hS (fun q z => Or.inr (by rw [show q = a57 from z]; exact hge_a57)) (fun w66 H locs hpo66 hN_a57 hz hk hS => ?_)
                  have hN_a57 : va_P G.1 vwCl [(a57, .inr (10, [va_rf (some b8), .int 1, .null]))] H := hN_a57
                  have hF : Fr (fun q => q = a57) _ _ := ⟨hz, hk⟩
                  have hP := PwQ.frA hP hF hD hA hge_a57
                  have hN_last := hN_last.fr1 hF (fun z => by have z : last = a57 := z; omega)
                  have hB := hB.tr1 hF (by first | exact hla_a57 | omega)
                  have hSK := hSK.put hF hN_a57
                  have hpt8 := CT.fr hpt8 hF (fun q z => by have z : q = a57 := z; omega)
                  refine F_putN (q0 := 0) (fs := [.ref pp, .int 1, .null]) (ws' := [(last, .inr (10, [.ref pp, .int 1, .ref a57]))]) hC hK hN_last (va_D.one (Or.inr hge_last)) hS rfl clX13 in_X13 tyX13_ok nmX13 2 (by decide) rfl nq645 rfl rfl rfl rfl (Nat.le_of_ble_eq_true rfl) dX7_condition_69 (fun H locs hN_last hS hF => ?_)
                  have hP := PwQ.frA hP hF hD hA hge_last
                  have hB := hB.tr (hF.up (fun q z => Or.inr z))
                  have hSK := hSK.put hF hN_last
                  have hN_a57 := hN_a57.fr1 hF (fun z => by have z : a57 = last := z; omega)
                  have hpt8 := CT.fr hpt8 hF (fun q z => by have z : q = last := z; omega)
                  refine lv_aload_n hx hb dX7_condition_72 rfl (lv_at hl 2 rfl) ?_
                  refine S_getN (v := .ref a57) hC hK hN_last (q0 := 0) rfl clX13 in_X13 2 (by decide) rfl nq645 dX7_condition_73 ?_
                  refine lv_astore_n (lv' := [(2, .ref a57), (0, .ref (R 140)), (1, .ref a11)]) hx hb dX7_condition_76 rfl hl (by decide) rfl (fun ls hl => ?_)
                  refine lv_goto (tgt := 30) hx hb dX7_condition_77 (by decide) ?_
                  exact ih30 a8.2 k8 a57 b8 (acc.1 ++ [UN * 12 + (b + acc.1.length + 1 + a8.1.1.length)] ++ a8.1.1, fun F => somS true (acc.2 F) (a8.1.2 F)) ((c + 1) + g62) _ _ ls (by have := hbb8.1; omega) (by have := hbb8.1; omega) (hbb8.2.1) (by have := hbb8.1; omega) (hsp.trans (by rw [rdC_2p, if_pos hm, hx8]; rfl)) (by have := hbb8.1; omega) (hge_a57) (hN_a57) (KC.step (D1 := n - (q + 1) + 4 * d + 4) hKT hA hge_last hll hla_a57 hB hN_last hpt8 (Nat.le_refl _) (by have := hbb8.1; omega) (by omega)) hP hS (lv_sub hl [1, 2, 0] rfl)
                · change pieS (u.2.1 6) n k8 (op + 1) (q + 1) (b + acc.1.length + 1) acc = _ at hx8
                  rw [hw8, qE_again] at hP
                  simp only [qE_f144] at hP
                  have hl : lv_has ls 3 [(0, .ref (R 140)), (1, .ref a11), (2, .ref last)] := hl
                  refine CXv.go (rcI (As := [va_rf r62, .int 1]) hC hl (c_X13_init G l a57 r62 1) hK hN_a57 rfl q638 q639 q129 q640 mdX13_init (room_v hRm (by omega) (by omega) (by omega) (by omega)) rfl rfl dX7_condition_66) hS (fun q z => Or.inr (by rw [show q = a57 from z]; exact hge_a57)) (fun w66 H locs hpo66 hN_a57 hz hk hS => ?_)
                  have hN_a57 : va_P G.1 vwCl [(a57, .inr (10, [va_rf r62, .int 1, .null]))] H := hN_a57
                  have hF : Fr (fun q => q = a57) _ _ := ⟨hz, hk⟩
                  have hP := PwQ.frA hP hF hD hA hge_a57
                  have hN_last := hN_last.fr1 hF (fun z => by have z : last = a57 := z; omega)
                  have hB := hB.tr1 hF (by first | exact hla_a57 | omega)
                  have hSK := hSK.put hF hN_a57
                  refine F_putN (q0 := 0) (fs := [.ref pp, .int 1, .null]) (ws' := [(last, .inr (10, [.ref pp, .int 1, .ref a57]))]) hC hK hN_last (va_D.one (Or.inr hge_last)) hS rfl clX13 in_X13 tyX13_ok nmX13 2 (by decide) rfl nq645 rfl rfl rfl rfl (Nat.le_of_ble_eq_true rfl) dX7_condition_69 (fun H locs hN_last hS hF => ?_)
                  have hP := PwQ.frA hP hF hD hA hge_last
                  have hB := hB.tr (hF.up (fun q z => Or.inr z))
                  have hSK := hSK.put hF hN_last
                  have hN_a57 := hN_a57.fr1 hF (fun z => by have z : a57 = last := z; omega)
                  refine lv_aload_n hx hb dX7_condition_72 rfl (lv_at hl 2 rfl) ?_
                  refine S_getN (v := .ref a57) hC hK hN_last (q0 := 0) rfl clX13 in_X13 2 (by decide) rfl nq645 dX7_condition_73 ?_
                  refine lv_astore_n (lv' := [(2, .ref a57), (0, .ref (R 140)), (1, .ref a11)]) hx hb dX7_condition_76 rfl hl (by decide) rfl (fun ls hl => ?_)
                  refine lv_goto (tgt := 30) hx hb dX7_condition_77 (by decide) ?_
                  refine lv_aload_n hx hb dX7_condition_30 rfl (lv_at hl 1 rfl) ?_
                  refine CIs.go (rcV hC hl (c_X7_isGood G l o R tx (qE u (nI q8) (nI (op + 1)) (nI e8.1) (nI e8.2))  ) hK hP (va_recv hK.1 hP clX7 (oQ_rd _ _ _ _ _)) q423 q425 qs1 q117 q426 mdX7_isGood (room_v hRm (by omega) (by omega) (by omega) (by omega)) rfl rfl dX7_condition_31) ?_
                  refine W_top (y := (bI (isGB (nI e8.1)))) (by simp only [qE_f145]) ?_
                  refine W_top (y := 0) (by rw [he8.1]; rfl) ?_
                  refine lv_if_eq (tgt := 80) hx hb dX7_condition_34 (by decide) (fun c34 => ?_) (fun c34 => ?_)
                  · refine lv_aload_n hx hb dX7_condition_80 rfl (lv_at hl 1 rfl) ?_
                    refine CIs.go (rcV hC hl (c_X7_isGood G l o R tx (qE u (nI q8) (nI (op + 1)) (nI e8.1) (nI e8.2))  ) hK hP (va_recv hK.1 hP clX7 (oQ_rd _ _ _ _ _)) q423 q425 qs1 q117 q426 mdX7_isGood (room_v hRm (by omega) (by omega) (by omega) (by omega)) rfl rfl dX7_condition_81) ?_
                    refine W_top (y := (bI (isGB (nI e8.1)))) (by simp only [qE_f145]) ?_
                    refine W_top (y := 0) (by rw [he8.1]; rfl) ?_
                    refine lv_if_eq (tgt := 93) hx hb dX7_condition_84 (by decide) (fun c84 => ?_) (fun c84 => ?_)
                    · refine lv_aload_n hx hb dX7_condition_93 rfl (lv_at hl 1 rfl) ?_
                      refine lv_dup hx hb dX7_condition_94 rfl ?_
                      refine S_get hC hK hP (oQ_rd _ _ _ _ _) clX7 in_X7 3 (by decide) (fD144 _ _ _ _) q400 dX7_condition_95 ?_
                      refine W_top (y := (nI (op + 1))) (by rw [qE_f144]) ?_
                      refine lv_iconst (v := 1) hx hb dX7_condition_98 (by decide) ?_
                      refine lv_isub hx hb dX7_condition_99 ?_
                      refine W_top (y := (nI op)) (pk_sub (a := op + 1) (b := 1) (by omega)) ?_
                      refine F_put hC hK hP (hDA _ _) hS (oQ_rd _ _ _ _ _) clX7 in_X7 tyX7_ok nmX7 3 (by decide) (pQ144 _ _ _ _ _ _) q400 rfl rfl rfl rfl (Nat.le_of_ble_eq_true rfl) dX7_condition_100 (fun H locs hP hS hF => ?_)
                      rw [qE_V144] at hP
                      have hF : Fr (AwQ o R) _ _ := hF.up (fun q z => by rw [show q = R 140 from z]; exact hrd)
                      have hN_last := hN_last.fr1 hF (nAw hA hge_last)
                      have hB := hB.tr (hF.up (fun q z => Or.inl z))
                      have hSK := hSK.fr hF (nAw hA hge_a11)
                      have hN_a57 := hN_a57.fr1 hF (nAw hA hge_a57)
                      refine lv_aload_n hx hb dX7_condition_103 rfl (lv_at hl 2 rfl) ?_
                      refine W_size (fun hzz hww => ?_)
                      exact hq _ _ (some a11) ((qE u (nI q8) (nI op) (nI e8.1) (nI e8.2)), ((c + 1) + g62), (fun H => SK 10 G a11 H)) _ _ _ _ dX7_condition_104 ⟨hP, ⟨hzz, hww⟩, hSK⟩ hS (⟨CP_l (e := e8) (q := q8) (hsp.trans (by rw [rdC_2p, if_pos hm, hx8] <;> rfl)) (by omega) (by rw [ho1] <;> rfl) he8 (by omega), fun H h b hb => by cases hb; exact ⟨h, hge_a11⟩⟩) (by omega) (by omega)
                    · exact absurd c84 (by decide)
                  · exact absurd c34 (by decide)
        exact LP30 _ a9.2 k9 a11 b9 a9.1 ((0 + 1) + g16) _ _ ls (Nat.lt_succ_self _) (hb8.1) (hb8.2.1) (by have := hb8.1; omega) (by rw [rdC_3p, if_neg h6, hx9]; rfl) (by have := hb8.1; omega) (hge_a11) (hN_a11) ((KC.first (b := true) hA hge_a11 hpt (Nat.le_refl _)).mono (by have := hb8.1; omega)) hP hS (lv_sub hl [2, 1, 0] rfl)
      · change pieS (u.2.1 6) n k9 (op + 1) (p + 1) b a = _ at hx9
        rw [hw9, qE_again] at hP
        simp only [qE_f144] at hP
        have hl : lv_has ls 3 [(0, .ref (R 140))] := hl
        refine CXv.go (rcI (As := [va_rf r16, .int 1]) hC hl (c_X13_init G l a11 r16 1) hK hN_a11 rfl q638 q639 q129 q640 mdX13_init (room_v hRm (by omega) (by omega) (by omega) (by omega)) rfl rfl dX7_condition_20) hS (fun q z => Or.inr (by rw [show q = a11 from z]; exact hge_a11)) (fun w20 H locs hpo20 hN_a11 hz hk hS => ?_)
        have hN_a11 : va_P G.1 vwCl [(a11, .inr (10, [va_rf r16, .int 1, .null]))] H := hN_a11
        have hF : Fr (fun q => q = a11) _ _ := ⟨hz, hk⟩
        have hP := PwQ.frA hP hF hD hA hge_a11
        refine lv_goto (tgt := 27) hx hb dX7_condition_23 (by decide) ?_
        refine lv_astore_n (lv' := [(1, .ref a11), (0, .ref (R 140))]) hx hb dX7_condition_27 rfl hl (by decide) rfl (fun ls hl => ?_)
        refine lv_aload_n hx hb dX7_condition_28 rfl (lv_at hl 0 rfl) ?_
        refine lv_astore_n (lv' := [(2, .ref a11), (1, .ref a11), (0, .ref (R 140))]) hx hb dX7_condition_29 rfl hl (by decide) rfl (fun ls hl => ?_)
        refine lv_aload_n hx hb dX7_condition_30 rfl (lv_at hl 2 rfl) ?_
        refine CIs.go (rcV hC hl (c_X7_isGood G l o R tx (qE u (nI q9) (nI (op + 1)) (nI e9.1) (nI e9.2))  ) hK hP (va_recv hK.1 hP clX7 (oQ_rd _ _ _ _ _)) q423 q425 qs1 q117 q426 mdX7_isGood (room_v hRm (by omega) (by omega) (by omega) (by omega)) rfl rfl dX7_condition_31) ?_
        refine W_top (y := (bI (isGB (nI e9.1)))) (by simp only [qE_f145]) ?_
        refine W_top (y := 0) (by rw [he9.1]; rfl) ?_
        refine lv_if_eq (tgt := 80) hx hb dX7_condition_34 (by decide) (fun c34 => ?_) (fun c34 => ?_)
        · refine lv_aload_n hx hb dX7_condition_80 rfl (lv_at hl 2 rfl) ?_
          refine CIs.go (rcV hC hl (c_X7_isGood G l o R tx (qE u (nI q9) (nI (op + 1)) (nI e9.1) (nI e9.2))  ) hK hP (va_recv hK.1 hP clX7 (oQ_rd _ _ _ _ _)) q423 q425 qs1 q117 q426 mdX7_isGood (room_v hRm (by omega) (by omega) (by omega) (by omega)) rfl rfl dX7_condition_81) ?_
          refine W_top (y := (bI (isGB (nI e9.1)))) (by simp only [qE_f145]) ?_
          refine W_top (y := 0) (by rw [he9.1]; rfl) ?_
          refine lv_if_eq (tgt := 93) hx hb dX7_condition_84 (by decide) (fun c84 => ?_) (fun c84 => ?_)
          · refine lv_aload_n hx hb dX7_condition_93 rfl (lv_at hl 2 rfl) ?_
            refine lv_dup hx hb dX7_condition_94 rfl ?_
            refine S_get hC hK hP (oQ_rd _ _ _ _ _) clX7 in_X7 3 (by decide) (fD144 _ _ _ _) q400 dX7_condition_95 ?_
            refine W_top (y := (nI (op + 1))) (by rw [qE_f144]) ?_
            refine lv_iconst (v := 1) hx hb dX7_condition_98 (by decide) ?_
            refine lv_isub hx hb dX7_condition_99 ?_
            refine W_top (y := (nI op)) (pk_sub (a := op + 1) (b := 1) (by omega)) ?_
            refine F_put hC hK hP (hDA _ _) hS (oQ_rd _ _ _ _ _) clX7 in_X7 tyX7_ok nmX7 3 (by decide) (pQ144 _ _ _ _ _ _) q400 rfl rfl rfl rfl (Nat.le_of_ble_eq_true rfl) dX7_condition_100 (fun H locs hP hS hF => ?_)
            rw [qE_V144] at hP
            have hF : Fr (AwQ o R) _ _ := hF.up (fun q z => by rw [show q = R 140 from z]; exact hrd)
            have hN_a11 := hN_a11.fr1 hF (nAw hA hge_a11)
            refine lv_aload_n hx hb dX7_condition_103 rfl (lv_at hl 1 rfl) ?_
            refine W_size (fun hzz hww => ?_)
            exact hq _ _ (some a11) ((qE u (nI q9) (nI op) (nI e9.1) (nI e9.2)), ((0 + 1) + g16), (fun H => SK 10 G a11 H)) _ _ _ _ dX7_condition_104 ⟨hP, ⟨hzz, hww⟩, ⟨10, _, Or.inl rfl, hN_a11⟩⟩ hS (⟨CP_l (e := e9) (q := q9) (by rw [rdC_3p, if_neg h6, hx9]; rfl) (by omega) (by rw [ho1] <;> rfl) he9 (by omega), fun H h b hb => by cases hb; exact ⟨h, hge_a11⟩⟩) (by omega) (by omega)
          · exact absurd c84 (by decide)
        · exact absurd c34 (by decide)
set_option maxHeartbeats 8000000 in
theorem pie_ok (G : GG) (l : Launch) (d : Nat) (pie : ∀ d', d' + 1 = d → PieC G l d') (con : ConC G l d) : PieC G l d := by
  intro σ o R tx u n p op k b a H0 hD hσ hp hn ho1 hf hn2 hpn hop hk
  obtain ⟨k, rfl⟩ : ∃ k9, k = k9 + 1 := ⟨k - 1, by omega⟩
  refine CRq.mk RX7 (Or.inl ⟨_, rfl⟩) pnX7 rfl (Nat.le_of_ble_eq_true rfl) (fun pg en Rm sg mm ar bw mth cd QQ ls hC hRm hK hT hX hS hl hq => ?_)
  obtain ⟨hP, rfl⟩ := hX
  have hx := hC.1; have hb := hC.2.1; have ho := hC.2.2.2.1; have hts := hC.2.2.2.2
  have hrd : AwQ o R (R 140) := Or.inr ⟨140, by decide, rfl⟩
  have hA : ∀ q, AwQ o R q → q < sg.heap.size := fun q h => (hσ q h).2
  have hσ0 : σ.1 ≤ sg.heap.size := Nat.le_trans (hσ _ hrd).1 (Nat.le_of_lt (hσ _ hrd).2)
  have hσA : ∀ q, A0 o R sg.heap.size q → kpA σ q := fun q h => h.elim (fun h => (hσ q h).1) (fun h => Nat.le_trans hσ0 h)
  have hDA : ∀ (tx : Nat) (u : MS), va_D (A0 o R sg.heap.size) (celQ G o R tx u) := fun tx u => (hD G tx u).up (fun q h => Or.inl h)
  refine W_c0 ?_
  have hl : lv_has ls 4 [(0, .ref (R 140))] := hl
  have hP : PwQ G o R tx (qE u (u.1 143) (u.1 144) (u.1 145) (u.1 146)) sg.heap := by rw [qE_self]; exact hP
  rw [hp, ho1, hf] at hP
  refine lv_aload_n hx hb dX7_piece_0 rfl (lv_at hl 0 rfl) ?_
  refine CIs.go (rcV hC hl (c_X7_here G l o R tx (qE u (nI p) (nI op) 0 (u.1 146)) p n (rfl) (hn) (hn2) (by omega)) hK hP (va_recv hK.1 hP clX7 (oQ_rd _ _ _ _ _)) q431 q433 qs3 q117 q434 mdX7_here (room_v hRm (by omega) (by omega) (by omega) (by omega)) rfl rfl dX7_piece_1) ?_
  refine W_top (y := (nI (hzN (u.2.1 6) n p))) (by simp only [qE_g6]) ?_
  refine lv_istore_n (lv' := [(1, .int (nI (hzN (u.2.1 6) n p))), (0, .ref (R 140))]) hx hb dX7_piece_4 rfl hl (by decide) rfl (fun ls hl => ?_)
  refine lv_iload_n hx hb dX7_piece_5 rfl (lv_at hl 0 rfl) ?_
  refine lv_bipush (v := 33) hx hb dX7_piece_6 (by decide) ?_
  refine lv_icmp_ne (tgt := 50) hx hb dX7_piece_8 (by decide) (fun c8 => ?_) (fun c8 => ?_)
  · have c8 : ¬ ((hzN (u.2.1 6) n p) = 33) := mt (nI_eq (a := (hzN (u.2.1 6) n p)) (b := 33) (by first | omega | exact hzN_b _ _ _) (by first | omega | exact hzN_b _ _ _)).mpr c8
    have h33 : ¬ ckN (u.2.1 6) n p = 33 := mt (hz_ck (by decide) (by decide)).mpr c8
    refine lv_iload_n hx hb dX7_piece_50 rfl (lv_at hl 0 rfl) ?_
    refine lv_bipush (v := 40) hx hb dX7_piece_51 (by decide) ?_
    refine lv_icmp_ne (tgt := 61) hx hb dX7_piece_53 (by decide) (fun c53 => ?_) (fun c53 => ?_)
    · have c53 : ¬ ((hzN (u.2.1 6) n p) = 40) := mt (nI_eq (a := (hzN (u.2.1 6) n p)) (b := 40) (by first | omega | exact hzN_b _ _ _) (by first | omega | exact hzN_b _ _ _)).mpr c53
      have h40 : ¬ ckN (u.2.1 6) n p = 40 := mt (hz_ck (by decide) (by decide)).mpr c53
      refine lv_aload_n hx hb dX7_piece_61 rfl (lv_at hl 1 rfl) ?_
      have hσ2 : ∀ q, AwQ o R q → σ.1 ≤ q ∧ q < Array.size sg.heap := fun q h => ⟨(hσ q h).1, by have := (hσ q h).2; have := hS.1; omega⟩
      have hge62 := hS.1
      refine CRq.goF (rrV (As := []) hC hl (sums_all G l d σ o R tx (qE u (nI p) (nI op) 0 (u.1 146)) n p op (2 * n + 6) ([], fun _ => none) sg.heap hD hσ2 rfl hn rfl rfl hn2 (by omega) hop (by omega)) hK (stK hT hS hσA) ⟨hP, rfl⟩ (va_recv hK.1 hP clX7 (oQ_rd _ _ _ _ _)) q526 q528 qs5 q117 q529 mdX7_sum (room_v hRm (by omega) (by omega) (by omega) (by omega)) rfl rfl dX7_piece_62) hS hA (fun r62 w62 g62 X62 H locs hpo62 hP hX62 hF hS => ?_)
      rcases FP_c hpo62.1 with ⟨a9, b9, hx9, hw9, hg9, rfl, hb9⟩ | ⟨e9, q9, hx9, hq9, hw9, he9, hg9⟩
      · change sumE (u.2.1 6) n op p = _ at hx9
        have hs9 := sumE_seg hpn hx9
        rw [hw9, qE_again] at hP
        simp only [qE_f144, qE_f146] at hP
        have hTx := (TT.anti (fun q (z : q < sg.heap.size) => Nat.lt_of_lt_of_le z hge62) _).1 _ _ (hb9 _ hX62)
        have hFa := Fr.rf (AwQ o R) H
        have hl : lv_has ls 4 [(1, .int (nI (hzN (u.2.1 6) n p))), (0, .ref (R 140))] := hl
        refine q_astore_n (lv' := [(2, va_rf (some b9)), (1, .int (nI (hzN (u.2.1 6) n p))), (0, .ref (R 140))]) hx hb dX7_piece_65 rfl hl (by decide) rfl (fun ls hl => ?_)
        refine lv_aload_n hx hb dX7_piece_66 rfl (lv_at hl 2 rfl) ?_
        refine CIs.go (rcV hC hl (c_X7_here G l o R tx (qE u (nI a9.2) (nI op) 0 (u.1 146)) a9.2 n (rfl) (hn) (hn2) (by omega)) hK hP (va_recv hK.1 hP clX7 (oQ_rd _ _ _ _ _)) q431 q433 qs3 q117 q434 mdX7_here (room_v hRm (by omega) (by omega) (by omega) (by omega)) rfl rfl dX7_piece_67) ?_
        refine W_top (y := (nI (hzN (u.2.1 6) n a9.2))) (by simp only [qE_g6]) ?_
        refine lv_istore_n (lv' := [(3, .int (nI (hzN (u.2.1 6) n a9.2))), (2, va_rf (some b9)), (1, .int (nI (hzN (u.2.1 6) n p))), (0, .ref (R 140))]) hx hb dX7_piece_70 rfl hl (by decide) rfl (fun ls hl => ?_)
        have JN98 : ∀  (ls : Array Slot), ((∃ s, cmpN (ckN (u.2.1 6) n a9.2) = some s) ∧ a9.2 < n ∧ nI (hzN (u.2.1 6) n a9.2) = nI (ckN (u.2.1 6) n a9.2)) → lv_has ls 4 [(0, .ref (R 140)), (1, .int (nI (hzN (u.2.1 6) n p))), (2, va_rf (some b9)), (3, .int (nI (hzN (u.2.1 6) n a9.2)))] → W pg l en Rm sg mm ar bw mth cd H locs (0 + g62) (3 * (0 + g62)) QQ (F0 mm 98 ls []) := by
          intro ls hm hl
          obtain ⟨⟨s9, hs⟩, hqn1, hmm⟩ := hm
          refine lv_aload_n hx hb dX7_piece_98 rfl (lv_at hl 0 rfl) ?_
          refine lv_dup hx hb dX7_piece_99 rfl ?_
          refine S_get hC hK hP (oQ_rd _ _ _ _ _) clX7 in_X7 2 (by decide) (fD143 _ _ _ _) q399 dX7_piece_100 ?_
          refine W_top (y := (nI a9.2)) (by rw [qE_f143]) ?_
          refine lv_iconst (v := 1) hx hb dX7_piece_103 (by decide) ?_
          refine lv_iadd hx hb dX7_piece_104 ?_
          refine W_top (nI_add a9.2 1) ?_
          refine F_put hC hK hP (hDA _ _) hS (oQ_rd _ _ _ _ _) clX7 in_X7 tyX7_ok nmX7 2 (by decide) (pQ143 _ _ _ _ _ _) q399 rfl rfl rfl rfl (Nat.le_of_ble_eq_true rfl) dX7_piece_105 (fun H locs hP hS hF => ?_)
          rw [qE_V143] at hP
          have hF : Fr (AwQ o R) _ _ := hF.up (fun q z => by rw [show q = R 140 from z]; exact hrd)
          have hFa := hFa.tr hF
          have hge0 := hS.1
          refine F_newA tyX15 hC hK hS in_X15 tyX15_ok q622 q623 q131 clX15 (fs := [.null, .null, .int 0]) (fun j hj => by rcases (show j = 0 ∨ j = 1 ∨ j = 2 by omega) with rfl | rfl | rfl <;> rfl) (by decide) (rmc hRm (by omega)) (rms hRm (by omega)) dX7_piece_108 (fun a108 H ha_a108 hN_a108 hz_a108 hF hS => ?_)
          have hge_a108 : sg.heap.size ≤ a108 := by rw [ha_a108]; exact hge0
          have hlf_a108 := Nat.le_trans hFa.1 (Nat.le_of_eq ha_a108.symm)
          have hP : PwQ G o R tx (qE u (nI (a9.2 + 1)) (nI op) 0 (u.1 146)) H := va_P.fr hP hF (fun _ _ _ h => h)
          have hF : Fr (AwQ o R) _ _ := hF.up (fun q z => False.elim z)
          have hFa := hFa.tr hF
          refine lv_dup hx hb dX7_piece_111 rfl ?_
          refine q_aload_n hx hb dX7_piece_112 rfl (lv_at hl 2 rfl) ?_
          refine lv_iload_n hx hb dX7_piece_113 rfl (lv_at hl 3 rfl) ?_
          refine lv_aload_n hx hb dX7_piece_114 rfl (lv_at hl 0 rfl) ?_
          refine CIs.go (rcV hC hl (c_X7_isGood G l o R tx (qE u (nI (a9.2 + 1)) (nI op) 0 (u.1 146))  ) hK hP (va_recv hK.1 hP clX7 (oQ_rd _ _ _ _ _)) q423 q425 qs1 q117 q426 mdX7_isGood (room_v hRm (by omega) (by omega) (by omega) (by omega)) rfl rfl dX7_piece_115) ?_
          refine W_top (y := (bI (isGB 0))) (by simp only [qE_f145]) ?_
          refine W_top (y := 1) (by decide) ?_
          refine lv_if_eq (tgt := 128) hx hb dX7_piece_118 (by decide) (fun c118 => ?_) (fun c118 => ?_)
          · exact absurd c118 (by decide)
          · refine lv_aload_n hx hb dX7_piece_121 rfl (lv_at hl 0 rfl) ?_
            have hσ3 : ∀ q, AwQ o R q → σ.1 ≤ q ∧ q < Array.size H := fun q h => ⟨(hσ q h).1, by have := (hσ q h).2; have := hS.1; omega⟩
            have hge122 := hS.1
            refine CRq.goF (rrV (As := []) hC hl (sums_all G l d σ o R tx (qE u (nI (a9.2 + 1)) (nI op) 0 (u.1 146)) n (a9.2 + 1) op (2 * n + 6) ([], fun _ => none) H hD hσ3 rfl hn rfl rfl hn2 (by omega) hop (by omega)) hK (stK hT hS hσA) ⟨hP, rfl⟩ (va_recv hK.1 hP clX7 (oQ_rd _ _ _ _ _)) q526 q528 qs5 q117 q529 mdX7_sum (room_v hRm (by omega) (by omega) (by omega) (by omega)) rfl rfl dX7_piece_122) hS hA (fun r122 w122 g122 X122 H locs hpo122 hP hX122 hF hS => ?_)
            have hFa := hFa.tr hF
            have hN_a108 := hN_a108.fr1 hF (nAw hA hge_a108)
            rcases FP_c hpo122.1 with ⟨a8, b8, hx8, hw8, hg8, rfl, hb8⟩ | ⟨e8, q8, hx8, hq8, hw8, he8, hg8⟩
            · change sumE (u.2.1 6) n op (a9.2 + 1) = _ at hx8
              have hs8 := sumE_seg (show a9.2 + 1 ≤ n by omega) hx8
              rw [hw8, qE_again] at hP
              simp only [qE_f144, qE_f146] at hP
              have hTy := hb8 _ hX122
              rw [hz_a108] at hTy
              have hl : lv_has ls 4 [(0, .ref (R 140)), (1, .int (nI (hzN (u.2.1 6) n p))), (2, va_rf (some b9)), (3, .int (nI (hzN (u.2.1 6) n a9.2)))] := hl
              refine lv_goto (tgt := 129) hx hb dX7_piece_125 (by decide) ?_
              refine CXv.go (rcI (As := [va_rf (some b9), .int (nI (hzN (u.2.1 6) n a9.2)), va_rf (some b8)]) hC hl (c_X15_init G l a108 (some b9) (nI (hzN (u.2.1 6) n a9.2)) (some b8)) hK hN_a108 rfl q624 q625 q131 q626 mdX15_init (room_v hRm (by omega) (by omega) (by omega) (by omega)) rfl rfl dX7_piece_129) hS (fun q z => Or.inr (by rw [show q = a108 from z]; exact hge_a108)) (fun w129 H locs hpo129 hN_a108 hz hk hS => ?_)
              have hN_a108 : va_P G.1 vwCl [(a108, .inr (12, [va_rf (some b9), va_rf (some b8), .int (nI (hzN (u.2.1 6) n a9.2))]))] H := hN_a108
              have hF : Fr (fun q => q = a108) _ _ := ⟨hz, hk⟩
              have hP := PwQ.frA hP hF hD hA hge_a108
              have hFa := hFa.tr1 hF (by first | exact hlf_a108 | omega)
              have hTy := TT.fr hTy hF (fun q z => by have z : q = a108 := z; omega)
              refine W_size (fun hzz hww => ?_)
              exact hq _ _ (some a108) ((qE u (nI a8.2) (nI op) 0 (u.1 146)), (((0 + g62) + 1) + g122), (fun H => (CT G (fun q => q < sg.heap.size) H (n - p + 4 * d + 3)).1 a108 (fun F => cmpS (nI (ckN (u.2.1 6) n a9.2)) (a9.1.2 F) (a8.1.2 F)))) _ _ _ _ dX7_piece_132 ⟨hP, ⟨hzz, hww⟩, by rw [← hmm]; exact (CT.upto (show n - p + 2 * d + 2 + 1 ≤ n - p + 4 * d + 3 by omega)).1 _ _ (CT.cmp hge_a108 hN_a108 (TT.fr hTx hFa (fun q z => hA q z)) ((TT.upto (show n - (a9.2 + 1) + 2 * d + 2 ≤ n - p + 2 * d + 2 by omega)).1 _ _ ((TT.anti (fun q (z : q < sg.heap.size) => (by omega : q < a108 + 1)) _).1 _ _ hTy)))⟩ hS (CP_r (a := ((a9.1.1 ++ a8.1.1 ++ [UN * s9], fun F => cmpS (nI (ckN (u.2.1 6) n a9.2)) (a9.1.2 F) (a8.1.2 F)), a8.2)) (by rw [rdC_0, if_neg h33, if_neg h40, hx9]; dsimp only [bW]; rw [hs]; dsimp only; rw [hx8]) (by rw [ho1] <;> rfl) (by dsimp only; omega) (fun H h => h)) (by omega) (by omega)
            · change sumE (u.2.1 6) n op (a9.2 + 1) = _ at hx8
              rw [hw8, qE_again] at hP
              simp only [qE_f144] at hP
              have hl : lv_has ls 4 [(0, .ref (R 140)), (1, .int (nI (hzN (u.2.1 6) n p))), (2, va_rf (some b9)), (3, .int (nI (hzN (u.2.1 6) n a9.2)))] := hl
              refine lv_goto (tgt := 129) hx hb dX7_piece_125 (by decide) ?_
              refine CXv.go (rcI (As := [va_rf (some b9), .int (nI (hzN (u.2.1 6) n a9.2)), va_rf r122]) hC hl (c_X15_init G l a108 (some b9) (nI (hzN (u.2.1 6) n a9.2)) r122) hK hN_a108 rfl q624 q625 q131 q626 mdX15_init (room_v hRm (by omega) (by omega) (by omega) (by omega)) rfl rfl dX7_piece_129) hS (fun q z => Or.inr (by rw [show q = a108 from z]; exact hge_a108)) (fun w129 H locs hpo129 hN_a108 hz hk hS => ?_)
              have hN_a108 : va_P G.1 vwCl [(a108, .inr (12, [va_rf (some b9), va_rf r122, .int (nI (hzN (u.2.1 6) n a9.2))]))] H := hN_a108
              have hF : Fr (fun q => q = a108) _ _ := ⟨hz, hk⟩
              have hP := PwQ.frA hP hF hD hA hge_a108
              have hFa := hFa.tr1 hF (by first | exact hlf_a108 | omega)
              refine W_size (fun hzz hww => ?_)
              exact hq _ _ (some a108) ((qE u (nI q8) (nI op) (nI e8.1) (nI e8.2)), (((0 + g62) + 1) + g122), (fun _ => True)) _ _ _ _ dX7_piece_132 ⟨hP, ⟨hzz, hww⟩, trivial⟩ hS (CP_l (e := e8) (q := q8) (by rw [rdC_0, if_neg h33, if_neg h40, hx9]; dsimp only [bW]; rw [hs]; dsimp only; rw [hx8]) (by omega) (by rw [ho1] <;> rfl) he8 (by omega)) (by omega) (by omega)
        refine lv_iload_n hx hb dX7_piece_71 rfl (lv_at hl 0 rfl) ?_
        refine lv_bipush (v := 60) hx hb dX7_piece_72 (by decide) ?_
        refine lv_icmp_eq (tgt := 98) hx hb dX7_piece_74 (by decide) (fun c74 => ?_) (fun c74 => ?_)
        · have c74 : (hzN (u.2.1 6) n a9.2) = 60 := (nI_eq (a := (hzN (u.2.1 6) n a9.2)) (b := 60) (by first | omega | exact hzN_b _ _ _) (by first | omega | exact hzN_b _ _ _)).mp c74
          exact JN98  ls (cmp_hz (by omega))  (lv_sub hl [3, 2, 1, 0] rfl)
        · have c74 : ¬ ((hzN (u.2.1 6) n a9.2) = 60) := mt (nI_eq (a := (hzN (u.2.1 6) n a9.2)) (b := 60) (by first | omega | exact hzN_b _ _ _) (by first | omega | exact hzN_b _ _ _)).mpr c74
          refine lv_iload_n hx hb dX7_piece_77 rfl (lv_at hl 0 rfl) ?_
          refine lv_bipush (v := 62) hx hb dX7_piece_78 (by decide) ?_
          refine lv_icmp_eq (tgt := 98) hx hb dX7_piece_80 (by decide) (fun c80 => ?_) (fun c80 => ?_)
          · have c80 : (hzN (u.2.1 6) n a9.2) = 62 := (nI_eq (a := (hzN (u.2.1 6) n a9.2)) (b := 62) (by first | omega | exact hzN_b _ _ _) (by first | omega | exact hzN_b _ _ _)).mp c80
            exact JN98  ls (cmp_hz (by omega))  (lv_sub hl [3, 2, 1, 0] rfl)
          · have c80 : ¬ ((hzN (u.2.1 6) n a9.2) = 62) := mt (nI_eq (a := (hzN (u.2.1 6) n a9.2)) (b := 62) (by first | omega | exact hzN_b _ _ _) (by first | omega | exact hzN_b _ _ _)).mpr c80
            refine lv_iload_n hx hb dX7_piece_83 rfl (lv_at hl 0 rfl) ?_
            refine lv_bipush (v := 61) hx hb dX7_piece_84 (by decide) ?_
            refine lv_icmp_eq (tgt := 98) hx hb dX7_piece_86 (by decide) (fun c86 => ?_) (fun c86 => ?_)
            · have c86 : (hzN (u.2.1 6) n a9.2) = 61 := (nI_eq (a := (hzN (u.2.1 6) n a9.2)) (b := 61) (by first | omega | exact hzN_b _ _ _) (by first | omega | exact hzN_b _ _ _)).mp c86
              exact JN98  ls (cmp_hz (by omega))  (lv_sub hl [3, 2, 1, 0] rfl)
            · have c86 : ¬ ((hzN (u.2.1 6) n a9.2) = 61) := mt (nI_eq (a := (hzN (u.2.1 6) n a9.2)) (b := 61) (by first | omega | exact hzN_b _ _ _) (by first | omega | exact hzN_b _ _ _)).mpr c86
              have hm := cmp_hzn c74 c80 c86
              refine lv_aload_n hx hb dX7_piece_89 rfl (lv_at hl 3 rfl) ?_
              refine lv_iconst (v := 1) hx hb dX7_piece_90 (by decide) ?_
              refine lv_aload_n hx hb dX7_piece_91 rfl (lv_at hl 3 rfl) ?_
              refine S_get hC hK hP (oQ_rd _ _ _ _ _) clX7 in_X7 2 (by decide) (fD143 _ _ _ _) q399 dX7_piece_92 ?_
              refine W_top (y := (nI a9.2)) (by rw [qE_f143]) ?_
              refine CXv.go (rcV hC hl (c_X7_bad G l o R tx (qE u (nI a9.2) (nI op) 0 (u.1 146)) 1 (nI a9.2) (rfl) hD) hK hP (va_recv hK.1 hP clX7 (oQ_rd _ _ _ _ _)) q522 q524 qs4 q117 q525 mdX7_bad (room_v hRm (by omega) (by omega) (by omega) (by omega)) rfl rfl dX7_piece_95) hS (fun q h => Or.inl h) (fun w95 H locs hpo hP hz hk hS => ?_)
              have ew95 := hpo
              rw [ew95] at hP
              rw [qE_again] at hP
              simp only [qE_f143, qE_f144] at hP
              have hF : Fr (AwQ o R) _ _ := ⟨hz, hk⟩
              have hFa := hFa.tr hF
              refine lv_aload_n hx hb dX7_piece_98 rfl (lv_at hl 3 rfl) ?_
              refine lv_dup hx hb dX7_piece_99 rfl ?_
              refine S_get hC hK hP (oQ_rd _ _ _ _ _) clX7 in_X7 2 (by decide) (fD143 _ _ _ _) q399 dX7_piece_100 ?_
              refine W_top (y := (nI a9.2)) (by rw [qE_f143]) ?_
              refine lv_iconst (v := 1) hx hb dX7_piece_103 (by decide) ?_
              refine lv_iadd hx hb dX7_piece_104 ?_
              refine W_top (nI_add a9.2 1) ?_
              refine F_put hC hK hP (hDA _ _) hS (oQ_rd _ _ _ _ _) clX7 in_X7 tyX7_ok nmX7 2 (by decide) (pQ143 _ _ _ _ _ _) q399 rfl rfl rfl rfl (Nat.le_of_ble_eq_true rfl) dX7_piece_105 (fun H locs hP hS hF => ?_)
              rw [qE_V143] at hP
              have hF : Fr (AwQ o R) _ _ := hF.up (fun q z => by rw [show q = R 140 from z]; exact hrd)
              have hFa := hFa.tr hF
              have hge0 := hS.1
              refine F_newA tyX15 hC hK hS in_X15 tyX15_ok q622 q623 q131 clX15 (fs := [.null, .null, .int 0]) (fun j hj => by rcases (show j = 0 ∨ j = 1 ∨ j = 2 by omega) with rfl | rfl | rfl <;> rfl) (by decide) (rmc hRm (by omega)) (rms hRm (by omega)) dX7_piece_108 (fun a108 H ha_a108 hN_a108 hz_a108 hF hS => ?_)
              have hge_a108 : sg.heap.size ≤ a108 := by rw [ha_a108]; exact hge0
              have hlf_a108 := Nat.le_trans hFa.1 (Nat.le_of_eq ha_a108.symm)
              have hP : PwQ G o R tx (qE u (nI (a9.2 + 1)) (nI op) 1 (nI a9.2)) H := va_P.fr hP hF (fun _ _ _ h => h)
              have hF : Fr (AwQ o R) _ _ := hF.up (fun q z => False.elim z)
              have hFa := hFa.tr hF
              refine lv_dup hx hb dX7_piece_111 rfl ?_
              refine q_aload_n hx hb dX7_piece_112 rfl (lv_at hl 1 rfl) ?_
              refine lv_iload_n hx hb dX7_piece_113 rfl (lv_at hl 0 rfl) ?_
              refine lv_aload_n hx hb dX7_piece_114 rfl (lv_at hl 3 rfl) ?_
              refine CIs.go (rcV hC hl (c_X7_isGood G l o R tx (qE u (nI (a9.2 + 1)) (nI op) 1 (nI a9.2))  ) hK hP (va_recv hK.1 hP clX7 (oQ_rd _ _ _ _ _)) q423 q425 qs1 q117 q426 mdX7_isGood (room_v hRm (by omega) (by omega) (by omega) (by omega)) rfl rfl dX7_piece_115) ?_
              refine W_top (y := (bI (isGB 1))) (by simp only [qE_f145]) ?_
              refine W_top (y := 0) (by decide) ?_
              refine lv_if_eq (tgt := 128) hx hb dX7_piece_118 (by decide) (fun c118 => ?_) (fun c118 => ?_)
              · refine lv_null hx hb dX7_piece_128 ?_
                refine CXv.go (rcI (As := [va_rf (some b9), .int (nI (hzN (u.2.1 6) n a9.2)), .null]) hC hl (c_X15_init G l a108 (some b9) (nI (hzN (u.2.1 6) n a9.2)) none) hK hN_a108 rfl q624 q625 q131 q626 mdX15_init (room_v hRm (by omega) (by omega) (by omega) (by omega)) rfl rfl dX7_piece_129) hS (fun q z => Or.inr (by rw [show q = a108 from z]; exact hge_a108)) (fun w129 H locs hpo129 hN_a108 hz hk hS => ?_)
                have hN_a108 : va_P G.1 vwCl [(a108, .inr (12, [va_rf (some b9), .null, .int (nI (hzN (u.2.1 6) n a9.2))]))] H := hN_a108
                have hF : Fr (fun q => q = a108) _ _ := ⟨hz, hk⟩
                have hP := PwQ.frA hP hF hD hA hge_a108
                have hFa := hFa.tr1 hF (by first | exact hlf_a108 | omega)
                refine W_size (fun hzz hww => ?_)
                exact hq _ _ (some a108) ((qE u (nI (a9.2 + 1)) (nI op) 1 (nI a9.2)), ((0 + g62) + 1), (fun _ => True)) _ _ _ _ dX7_piece_132 ⟨hP, ⟨hzz, hww⟩, trivial⟩ hS (CP_l (e := (1, a9.2)) (q := a9.2 + 1) (by rw [rdC_0, if_neg h33, if_neg h40, hx9]; dsimp only [bW]; rw [hm]) (by omega) (by rw [ho1] <;> rfl) (show fOK 1 from ⟨by decide, by decide⟩) (by omega)) (by omega) (by omega)
              · exact absurd c118 (by decide)
      · change sumE (u.2.1 6) n op p = _ at hx9
        rw [hw9, qE_again] at hP
        simp only [qE_f144] at hP
        have hl : lv_has ls 4 [(1, .int (nI (hzN (u.2.1 6) n p))), (0, .ref (R 140))] := hl
        refine q_astore_n (lv' := [(2, va_rf r62), (1, .int (nI (hzN (u.2.1 6) n p))), (0, .ref (R 140))]) hx hb dX7_piece_65 rfl hl (by decide) rfl (fun ls hl => ?_)
        refine lv_aload_n hx hb dX7_piece_66 rfl (lv_at hl 2 rfl) ?_
        refine CIs.go (rcV hC hl (c_X7_here G l o R tx (qE u (nI q9) (nI op) (nI e9.1) (nI e9.2)) q9 n (rfl) (hn) (hn2) (by omega)) hK hP (va_recv hK.1 hP clX7 (oQ_rd _ _ _ _ _)) q431 q433 qs3 q117 q434 mdX7_here (room_v hRm (by omega) (by omega) (by omega) (by omega)) rfl rfl dX7_piece_67) ?_
        refine W_top (y := (nI (hzN (u.2.1 6) n q9))) (by simp only [qE_g6]) ?_
        refine lv_istore_n (lv' := [(3, .int (nI (hzN (u.2.1 6) n q9))), (2, va_rf r62), (1, .int (nI (hzN (u.2.1 6) n p))), (0, .ref (R 140))]) hx hb dX7_piece_70 rfl hl (by decide) (by cases r62 <;> rfl) (fun ls hl => ?_)
        refine lv_iload_n hx hb dX7_piece_71 rfl (lv_at hl 0 rfl) ?_
        refine lv_bipush (v := 60) hx hb dX7_piece_72 (by decide) ?_
        refine lv_icmp_eq (tgt := 98) hx hb dX7_piece_74 (by decide) (fun c74 => ?_) (fun c74 => ?_)
        · have c74 : (hzN (u.2.1 6) n q9) = 60 := (nI_eq (a := (hzN (u.2.1 6) n q9)) (b := 60) (by first | omega | exact hzN_b _ _ _) (by first | omega | exact hzN_b _ _ _)).mp c74
          refine lv_aload_n hx hb dX7_piece_98 rfl (lv_at hl 3 rfl) ?_
          refine lv_dup hx hb dX7_piece_99 rfl ?_
          refine S_get hC hK hP (oQ_rd _ _ _ _ _) clX7 in_X7 2 (by decide) (fD143 _ _ _ _) q399 dX7_piece_100 ?_
          refine W_top (y := (nI q9)) (by rw [qE_f143]) ?_
          refine lv_iconst (v := 1) hx hb dX7_piece_103 (by decide) ?_
          refine lv_iadd hx hb dX7_piece_104 ?_
          refine W_top (nI_add q9 1) ?_
          refine F_put hC hK hP (hDA _ _) hS (oQ_rd _ _ _ _ _) clX7 in_X7 tyX7_ok nmX7 2 (by decide) (pQ143 _ _ _ _ _ _) q399 rfl rfl rfl rfl (Nat.le_of_ble_eq_true rfl) dX7_piece_105 (fun H locs hP hS hF => ?_)
          rw [qE_V143] at hP
          have hF : Fr (AwQ o R) _ _ := hF.up (fun q z => by rw [show q = R 140 from z]; exact hrd)
          have hge0 := hS.1
          refine F_newA tyX15 hC hK hS in_X15 tyX15_ok q622 q623 q131 clX15 (fs := [.null, .null, .int 0]) (fun j hj => by rcases (show j = 0 ∨ j = 1 ∨ j = 2 by omega) with rfl | rfl | rfl <;> rfl) (by decide) (rmc hRm (by omega)) (rms hRm (by omega)) dX7_piece_108 (fun a108 H ha_a108 hN_a108 hz_a108 hF hS => ?_)
          have hge_a108 : sg.heap.size ≤ a108 := by rw [ha_a108]; exact hge0
          have hP : PwQ G o R tx (qE u (nI (q9 + 1)) (nI op) (nI e9.1) (nI e9.2)) H := va_P.fr hP hF (fun _ _ _ h => h)
          have hF : Fr (AwQ o R) _ _ := hF.up (fun q z => False.elim z)
          refine lv_dup hx hb dX7_piece_111 rfl ?_
          refine q_aload_n hx hb dX7_piece_112 rfl (lv_at hl 1 rfl) ?_
          refine lv_iload_n hx hb dX7_piece_113 rfl (lv_at hl 0 rfl) ?_
          refine lv_aload_n hx hb dX7_piece_114 rfl (lv_at hl 3 rfl) ?_
          refine CIs.go (rcV hC hl (c_X7_isGood G l o R tx (qE u (nI (q9 + 1)) (nI op) (nI e9.1) (nI e9.2))  ) hK hP (va_recv hK.1 hP clX7 (oQ_rd _ _ _ _ _)) q423 q425 qs1 q117 q426 mdX7_isGood (room_v hRm (by omega) (by omega) (by omega) (by omega)) (by first | rfl | (cases r62 <;> rfl)) (by first | rfl | (cases r62 <;> rfl)) dX7_piece_115) ?_
          refine W_top (y := (bI (isGB (nI e9.1)))) (by simp only [qE_f145]) ?_
          refine W_top (y := 0) (by rw [he9.1]; rfl) ?_
          refine lv_if_eq (tgt := 128) hx hb dX7_piece_118 (by decide) (fun c118 => ?_) (fun c118 => ?_)
          · refine lv_null hx hb dX7_piece_128 ?_
            refine CXv.go (rcI (As := [va_rf r62, .int (nI (hzN (u.2.1 6) n q9)), .null]) hC hl (c_X15_init G l a108 r62 (nI (hzN (u.2.1 6) n q9)) none) hK hN_a108 rfl q624 q625 q131 q626 mdX15_init (room_v hRm (by omega) (by omega) (by omega) (by omega)) rfl rfl dX7_piece_129) hS (fun q z => Or.inr (by rw [show q = a108 from z]; exact hge_a108)) (fun w129 H locs hpo129 hN_a108 hz hk hS => ?_)
            have hN_a108 : va_P G.1 vwCl [(a108, .inr (12, [va_rf r62, .null, .int (nI (hzN (u.2.1 6) n q9))]))] H := hN_a108
            have hF : Fr (fun q => q = a108) _ _ := ⟨hz, hk⟩
            have hP := PwQ.frA hP hF hD hA hge_a108
            refine W_size (fun hzz hww => ?_)
            exact hq _ _ (some a108) ((qE u (nI (q9 + 1)) (nI op) (nI e9.1) (nI e9.2)), ((0 + g62) + 1), (fun _ => True)) _ _ _ _ dX7_piece_132 ⟨hP, ⟨hzz, hww⟩, trivial⟩ hS (CP_l (e := e9) (q := q9 + 1) (by rw [rdC_0, if_neg h33, if_neg h40, hx9]; rfl) (by omega) (by rw [ho1] <;> rfl) he9 (by omega)) (by omega) (by omega)
          · exact absurd c118 (by decide)
        · have c74 : ¬ ((hzN (u.2.1 6) n q9) = 60) := mt (nI_eq (a := (hzN (u.2.1 6) n q9)) (b := 60) (by first | omega | exact hzN_b _ _ _) (by first | omega | exact hzN_b _ _ _)).mpr c74
          refine lv_iload_n hx hb dX7_piece_77 rfl (lv_at hl 0 rfl) ?_
          refine lv_bipush (v := 62) hx hb dX7_piece_78 (by decide) ?_
          refine lv_icmp_eq (tgt := 98) hx hb dX7_piece_80 (by decide) (fun c80 => ?_) (fun c80 => ?_)
          · have c80 : (hzN (u.2.1 6) n q9) = 62 := (nI_eq (a := (hzN (u.2.1 6) n q9)) (b := 62) (by first | omega | exact hzN_b _ _ _) (by first | omega | exact hzN_b _ _ _)).mp c80
            refine lv_aload_n hx hb dX7_piece_98 rfl (lv_at hl 3 rfl) ?_
            refine lv_dup hx hb dX7_piece_99 rfl ?_
            refine S_get hC hK hP (oQ_rd _ _ _ _ _) clX7 in_X7 2 (by decide) (fD143 _ _ _ _) q399 dX7_piece_100 ?_
            refine W_top (y := (nI q9)) (by rw [qE_f143]) ?_
            refine lv_iconst (v := 1) hx hb dX7_piece_103 (by decide) ?_
            refine lv_iadd hx hb dX7_piece_104 ?_
            refine W_top (nI_add q9 1) ?_
            refine F_put hC hK hP (hDA _ _) hS (oQ_rd _ _ _ _ _) clX7 in_X7 tyX7_ok nmX7 2 (by decide) (pQ143 _ _ _ _ _ _) q399 rfl rfl rfl rfl (Nat.le_of_ble_eq_true rfl) dX7_piece_105 (fun H locs hP hS hF => ?_)
            rw [qE_V143] at hP
            have hF : Fr (AwQ o R) _ _ := hF.up (fun q z => by rw [show q = R 140 from z]; exact hrd)
            have hge0 := hS.1
            refine F_newA tyX15 hC hK hS in_X15 tyX15_ok q622 q623 q131 clX15 (fs := [.null, .null, .int 0]) (fun j hj => by rcases (show j = 0 ∨ j = 1 ∨ j = 2 by omega) with rfl | rfl | rfl <;> rfl) (by decide) (rmc hRm (by omega)) (rms hRm (by omega)) dX7_piece_108 (fun a108 H ha_a108 hN_a108 hz_a108 hF hS => ?_)
            have hge_a108 : sg.heap.size ≤ a108 := by rw [ha_a108]; exact hge0
            have hP : PwQ G o R tx (qE u (nI (q9 + 1)) (nI op) (nI e9.1) (nI e9.2)) H := va_P.fr hP hF (fun _ _ _ h => h)
            have hF : Fr (AwQ o R) _ _ := hF.up (fun q z => False.elim z)
            refine lv_dup hx hb dX7_piece_111 rfl ?_
            refine q_aload_n hx hb dX7_piece_112 rfl (lv_at hl 1 rfl) ?_
            refine lv_iload_n hx hb dX7_piece_113 rfl (lv_at hl 0 rfl) ?_
            refine lv_aload_n hx hb dX7_piece_114 rfl (lv_at hl 3 rfl) ?_
            refine CIs.go (rcV hC hl (c_X7_isGood G l o R tx (qE u (nI (q9 + 1)) (nI op) (nI e9.1) (nI e9.2))  ) hK hP (va_recv hK.1 hP clX7 (oQ_rd _ _ _ _ _)) q423 q425 qs1 q117 q426 mdX7_isGood (room_v hRm (by omega) (by omega) (by omega) (by omega)) (by first | rfl | (cases r62 <;> rfl)) (by first | rfl | (cases r62 <;> rfl)) dX7_piece_115) ?_
            refine W_top (y := (bI (isGB (nI e9.1)))) (by simp only [qE_f145]) ?_
            refine W_top (y := 0) (by rw [he9.1]; rfl) ?_
            refine lv_if_eq (tgt := 128) hx hb dX7_piece_118 (by decide) (fun c118 => ?_) (fun c118 => ?_)
            · refine lv_null hx hb dX7_piece_128 ?_
              refine CXv.go (rcI (As := [va_rf r62, .int (nI (hzN (u.2.1 6) n q9)), .null]) hC hl (c_X15_init G l a108 r62 (nI (hzN (u.2.1 6) n q9)) none) hK hN_a108 rfl q624 q625 q131 q626 mdX15_init (room_v hRm (by omega) (by omega) (by omega) (by omega)) rfl rfl dX7_piece_129) hS (fun q z => Or.inr (by rw [show q = a108 from z]; exact hge_a108)) (fun w129 H locs hpo129 hN_a108 hz hk hS => ?_)
              have hN_a108 : va_P G.1 vwCl [(a108, .inr (12, [va_rf r62, .null, .int (nI (hzN (u.2.1 6) n q9))]))] H := hN_a108
              have hF : Fr (fun q => q = a108) _ _ := ⟨hz, hk⟩
              have hP := PwQ.frA hP hF hD hA hge_a108
              refine W_size (fun hzz hww => ?_)
              exact hq _ _ (some a108) ((qE u (nI (q9 + 1)) (nI op) (nI e9.1) (nI e9.2)), ((0 + g62) + 1), (fun _ => True)) _ _ _ _ dX7_piece_132 ⟨hP, ⟨hzz, hww⟩, trivial⟩ hS (CP_l (e := e9) (q := q9 + 1) (by rw [rdC_0, if_neg h33, if_neg h40, hx9]; rfl) (by omega) (by rw [ho1] <;> rfl) he9 (by omega)) (by omega) (by omega)
            · exact absurd c118 (by decide)
          · have c80 : ¬ ((hzN (u.2.1 6) n q9) = 62) := mt (nI_eq (a := (hzN (u.2.1 6) n q9)) (b := 62) (by first | omega | exact hzN_b _ _ _) (by first | omega | exact hzN_b _ _ _)).mpr c80
            refine lv_iload_n hx hb dX7_piece_83 rfl (lv_at hl 0 rfl) ?_
            refine lv_bipush (v := 61) hx hb dX7_piece_84 (by decide) ?_
            refine lv_icmp_eq (tgt := 98) hx hb dX7_piece_86 (by decide) (fun c86 => ?_) (fun c86 => ?_)
            · have c86 : (hzN (u.2.1 6) n q9) = 61 := (nI_eq (a := (hzN (u.2.1 6) n q9)) (b := 61) (by first | omega | exact hzN_b _ _ _) (by first | omega | exact hzN_b _ _ _)).mp c86
              refine lv_aload_n hx hb dX7_piece_98 rfl (lv_at hl 3 rfl) ?_
              refine lv_dup hx hb dX7_piece_99 rfl ?_
              refine S_get hC hK hP (oQ_rd _ _ _ _ _) clX7 in_X7 2 (by decide) (fD143 _ _ _ _) q399 dX7_piece_100 ?_
              refine W_top (y := (nI q9)) (by rw [qE_f143]) ?_
              refine lv_iconst (v := 1) hx hb dX7_piece_103 (by decide) ?_
              refine lv_iadd hx hb dX7_piece_104 ?_
              refine W_top (nI_add q9 1) ?_
              refine F_put hC hK hP (hDA _ _) hS (oQ_rd _ _ _ _ _) clX7 in_X7 tyX7_ok nmX7 2 (by decide) (pQ143 _ _ _ _ _ _) q399 rfl rfl rfl rfl (Nat.le_of_ble_eq_true rfl) dX7_piece_105 (fun H locs hP hS hF => ?_)
              rw [qE_V143] at hP
              have hF : Fr (AwQ o R) _ _ := hF.up (fun q z => by rw [show q = R 140 from z]; exact hrd)
              have hge0 := hS.1
              refine F_newA tyX15 hC hK hS in_X15 tyX15_ok q622 q623 q131 clX15 (fs := [.null, .null, .int 0]) (fun j hj => by rcases (show j = 0 ∨ j = 1 ∨ j = 2 by omega) with rfl | rfl | rfl <;> rfl) (by decide) (rmc hRm (by omega)) (rms hRm (by omega)) dX7_piece_108 (fun a108 H ha_a108 hN_a108 hz_a108 hF hS => ?_)
              have hge_a108 : sg.heap.size ≤ a108 := by rw [ha_a108]; exact hge0
              have hP : PwQ G o R tx (qE u (nI (q9 + 1)) (nI op) (nI e9.1) (nI e9.2)) H := va_P.fr hP hF (fun _ _ _ h => h)
              have hF : Fr (AwQ o R) _ _ := hF.up (fun q z => False.elim z)
              refine lv_dup hx hb dX7_piece_111 rfl ?_
              refine q_aload_n hx hb dX7_piece_112 rfl (lv_at hl 1 rfl) ?_
              refine lv_iload_n hx hb dX7_piece_113 rfl (lv_at hl 0 rfl) ?_
              refine lv_aload_n hx hb dX7_piece_114 rfl (lv_at hl 3 rfl) ?_
              refine CIs.go (rcV hC hl (c_X7_isGood G l o R tx (qE u (nI (q9 + 1)) (nI op) (nI e9.1) (nI e9.2))  ) hK hP (va_recv hK.1 hP clX7 (oQ_rd _ _ _ _ _)) q423 q425 qs1 q117 q426 mdX7_isGood (room_v hRm (by omega) (by omega) (by omega) (by omega)) (by first | rfl | (cases r62 <;> rfl)) (by first | rfl | (cases r62 <;> rfl)) dX7_piece_115) ?_
              refine W_top (y := (bI (isGB (nI e9.1)))) (by simp only [qE_f145]) ?_
              refine W_top (y := 0) (by rw [he9.1]; rfl) ?_
              refine lv_if_eq (tgt := 128) hx hb dX7_piece_118 (by decide) (fun c118 => ?_) (fun c118 => ?_)
              · refine lv_null hx hb dX7_piece_128 ?_
                refine CXv.go (rcI (As := [va_rf r62, .int (nI (hzN (u.2.1 6) n q9)), .null]) hC hl (c_X15_init G l a108 r62 (nI (hzN (u.2.1 6) n q9)) none) hK hN_a108 rfl q624 q625 q131 q626 mdX15_init (room_v hRm (by omega) (by omega) (by omega) (by omega)) rfl rfl dX7_piece_129) hS (fun q z => Or.inr (by rw [show q = a108 from z]; exact hge_a108)) (fun w129 H locs hpo129 hN_a108 hz hk hS => ?_)
                have hN_a108 : va_P G.1 vwCl [(a108, .inr (12, [va_rf r62, .null, .int (nI (hzN (u.2.1 6) n q9))]))] H := hN_a108
                have hF : Fr (fun q => q = a108) _ _ := ⟨hz, hk⟩
                have hP := PwQ.frA hP hF hD hA hge_a108
                refine W_size (fun hzz hww => ?_)
                exact hq _ _ (some a108) ((qE u (nI (q9 + 1)) (nI op) (nI e9.1) (nI e9.2)), ((0 + g62) + 1), (fun _ => True)) _ _ _ _ dX7_piece_132 ⟨hP, ⟨hzz, hww⟩, trivial⟩ hS (CP_l (e := e9) (q := q9 + 1) (by rw [rdC_0, if_neg h33, if_neg h40, hx9]; rfl) (by omega) (by rw [ho1] <;> rfl) he9 (by omega)) (by omega) (by omega)
              · exact absurd c118 (by decide)
            · have c86 : ¬ ((hzN (u.2.1 6) n q9) = 61) := mt (nI_eq (a := (hzN (u.2.1 6) n q9)) (b := 61) (by first | omega | exact hzN_b _ _ _) (by first | omega | exact hzN_b _ _ _)).mpr c86
              refine lv_aload_n hx hb dX7_piece_89 rfl (lv_at hl 3 rfl) ?_
              refine lv_iconst (v := 1) hx hb dX7_piece_90 (by decide) ?_
              refine lv_aload_n hx hb dX7_piece_91 rfl (lv_at hl 3 rfl) ?_
              refine S_get hC hK hP (oQ_rd _ _ _ _ _) clX7 in_X7 2 (by decide) (fD143 _ _ _ _) q399 dX7_piece_92 ?_
              refine W_top (y := (nI q9)) (by rw [qE_f143]) ?_
              refine CXv.go (rcV hC hl (c_X7_badF G l o R tx (qE u (nI q9) (nI op) (nI e9.1) (nI e9.2)) 1 (nI q9) (he9.2) hD) hK hP (va_recv hK.1 hP clX7 (oQ_rd _ _ _ _ _)) q522 q524 qs4 q117 q525 mdX7_bad (room_v hRm (by omega) (by omega) (by omega) (by omega)) rfl rfl dX7_piece_95) hS (fun q h => Or.inl h) (fun w95 H locs hpo hP hz hk hS => ?_)
              have ew95 := hpo
              rw [ew95] at hP
              rw [qE_again] at hP
              simp only [qE_f143, qE_f144, qE_f145, qE_f146] at hP
              have hF : Fr (AwQ o R) _ _ := ⟨hz, hk⟩
              refine lv_aload_n hx hb dX7_piece_98 rfl (lv_at hl 3 rfl) ?_
              refine lv_dup hx hb dX7_piece_99 rfl ?_
              refine S_get hC hK hP (oQ_rd _ _ _ _ _) clX7 in_X7 2 (by decide) (fD143 _ _ _ _) q399 dX7_piece_100 ?_
              refine W_top (y := (nI q9)) (by rw [qE_f143]) ?_
              refine lv_iconst (v := 1) hx hb dX7_piece_103 (by decide) ?_
              refine lv_iadd hx hb dX7_piece_104 ?_
              refine W_top (nI_add q9 1) ?_
              refine F_put hC hK hP (hDA _ _) hS (oQ_rd _ _ _ _ _) clX7 in_X7 tyX7_ok nmX7 2 (by decide) (pQ143 _ _ _ _ _ _) q399 rfl rfl rfl rfl (Nat.le_of_ble_eq_true rfl) dX7_piece_105 (fun H locs hP hS hF => ?_)
              rw [qE_V143] at hP
              have hF : Fr (AwQ o R) _ _ := hF.up (fun q z => by rw [show q = R 140 from z]; exact hrd)
              have hge0 := hS.1
              refine F_newA tyX15 hC hK hS in_X15 tyX15_ok q622 q623 q131 clX15 (fs := [.null, .null, .int 0]) (fun j hj => by rcases (show j = 0 ∨ j = 1 ∨ j = 2 by omega) with rfl | rfl | rfl <;> rfl) (by decide) (rmc hRm (by omega)) (rms hRm (by omega)) dX7_piece_108 (fun a108 H ha_a108 hN_a108 hz_a108 hF hS => ?_)
              have hge_a108 : sg.heap.size ≤ a108 := by rw [ha_a108]; exact hge0
              have hP : PwQ G o R tx (qE u (nI (q9 + 1)) (nI op) (nI e9.1) (nI e9.2)) H := va_P.fr hP hF (fun _ _ _ h => h)
              have hF : Fr (AwQ o R) _ _ := hF.up (fun q z => False.elim z)
              refine lv_dup hx hb dX7_piece_111 rfl ?_
              refine q_aload_n hx hb dX7_piece_112 rfl (lv_at hl 1 rfl) ?_
              refine lv_iload_n hx hb dX7_piece_113 rfl (lv_at hl 0 rfl) ?_
              refine lv_aload_n hx hb dX7_piece_114 rfl (lv_at hl 3 rfl) ?_
              refine CIs.go (rcV hC hl (c_X7_isGood G l o R tx (qE u (nI (q9 + 1)) (nI op) (nI e9.1) (nI e9.2))  ) hK hP (va_recv hK.1 hP clX7 (oQ_rd _ _ _ _ _)) q423 q425 qs1 q117 q426 mdX7_isGood (room_v hRm (by omega) (by omega) (by omega) (by omega)) (by first | rfl | (cases r62 <;> rfl)) (by first | rfl | (cases r62 <;> rfl)) dX7_piece_115) ?_
              refine W_top (y := (bI (isGB (nI e9.1)))) (by simp only [qE_f145]) ?_
              refine W_top (y := 0) (by rw [he9.1]; rfl) ?_
              refine lv_if_eq (tgt := 128) hx hb dX7_piece_118 (by decide) (fun c118 => ?_) (fun c118 => ?_)
              · refine lv_null hx hb dX7_piece_128 ?_
                refine CXv.go (rcI (As := [va_rf r62, .int (nI (hzN (u.2.1 6) n q9)), .null]) hC hl (c_X15_init G l a108 r62 (nI (hzN (u.2.1 6) n q9)) none) hK hN_a108 rfl q624 q625 q131 q626 mdX15_init (room_v hRm (by omega) (by omega) (by omega) (by omega)) rfl rfl dX7_piece_129) hS (fun q z => Or.inr (by rw [show q = a108 from z]; exact hge_a108)) (fun w129 H locs hpo129 hN_a108 hz hk hS => ?_)
                have hN_a108 : va_P G.1 vwCl [(a108, .inr (12, [va_rf r62, .null, .int (nI (hzN (u.2.1 6) n q9))]))] H := hN_a108
                have hF : Fr (fun q => q = a108) _ _ := ⟨hz, hk⟩
                have hP := PwQ.frA hP hF hD hA hge_a108
                refine W_size (fun hzz hww => ?_)
                exact hq _ _ (some a108) ((qE u (nI (q9 + 1)) (nI op) (nI e9.1) (nI e9.2)), ((0 + g62) + 1), (fun _ => True)) _ _ _ _ dX7_piece_132 ⟨hP, ⟨hzz, hww⟩, trivial⟩ hS (CP_l (e := e9) (q := q9 + 1) (by rw [rdC_0, if_neg h33, if_neg h40, hx9]; rfl) (by omega) (by rw [ho1] <;> rfl) he9 (by omega)) (by omega) (by omega)
              · exact absurd c118 (by decide)
    · have c53 : (hzN (u.2.1 6) n p) = 40 := (nI_eq (a := (hzN (u.2.1 6) n p)) (b := 40) (by first | omega | exact hzN_b _ _ _) (by first | omega | exact hzN_b _ _ _)).mp c53
      have h40 : ckN (u.2.1 6) n p = 40 := (hz_ck (by decide) (by decide)).mp c53
      have hpn1 := ckN_in (by decide) h40
      refine lv_aload_n hx hb dX7_piece_56 rfl (lv_at hl 1 rfl) ?_
      have hσ2 : ∀ q, AwQ o R q → σ.1 ≤ q ∧ q < Array.size sg.heap := fun q h => ⟨(hσ q h).1, by have := (hσ q h).2; have := hS.1; omega⟩
      refine CRq.goF (rrV (As := []) hC hl (con σ o R tx (qE u (nI p) (nI op) 0 (u.1 146)) n p op k b a sg.heap hD hσ2 rfl hn rfl rfl hn2 hpn1 hop (by omega)) hK (stK hT hS hσA) ⟨hP, rfl⟩ (va_recv hK.1 hP clX7 (oQ_rd _ _ _ _ _)) q595 q597 qs12 q117 q598 mdX7_condition (room_v hRm (by omega) (by omega) (by omega) (by omega)) rfl rfl dX7_piece_57) hS hA (fun r57 w57 g57 X57 H locs hpo57 hP hX57 hF hS => ?_)
      rcases CP_c hpo57.1 with ⟨a9, b9, hx9, hw9, hg9, rfl, hb9⟩ | ⟨e9, q9, hx9, hq9, hw9, he9, hg9⟩
      · change rdC (u.2.1 6) n k 3 op p b a = _ at hx9
        rw [hw9, qE_again] at hP
        simp only [qE_f144, qE_f146] at hP
        have hTT := hb9 _ hX57
        have hb8 := con_b hpn1 hx9
        have hl : lv_has ls 4 [(1, .int (nI (hzN (u.2.1 6) n p))), (0, .ref (R 140))] := hl
        refine W_size (fun hzz hww => ?_)
        exact hq _ _ (some b9) ((qE u (nI a9.2) (nI op) 0 (u.1 146)), (0 + g57), (fun H => (CT G (fun q => q < sg.heap.size) H (n - p + 4 * d + 3)).1 b9 a9.1.2)) _ _ _ _ dX7_piece_60 ⟨hP, ⟨hzz, hww⟩, (CT.upto (show n - p + 4 * d + 2 ≤ n - p + 4 * d + 3 by omega)).1 _ _ hTT⟩ hS (CP_r (a := a9) (by rw [rdC_0, if_neg h33, if_pos h40]; exact hx9) (by rw [ho1] <;> rfl) (by omega) (fun H h => h)) (by omega) (by omega)
      · change rdC (u.2.1 6) n k 3 op p b a = _ at hx9
        rw [hw9, qE_again] at hP
        simp only [qE_f144] at hP
        have hl : lv_has ls 4 [(1, .int (nI (hzN (u.2.1 6) n p))), (0, .ref (R 140))] := hl
        refine W_size (fun hzz hww => ?_)
        exact hq _ _ r57 ((qE u (nI q9) (nI op) (nI e9.1) (nI e9.2)), (0 + g57), (fun _ => True)) _ _ _ _ dX7_piece_60 ⟨hP, ⟨hzz, hww⟩, trivial⟩ hS (CP_l (e := e9) (q := q9) (by rw [rdC_0, if_neg h33, if_pos h40]; exact hx9) (by omega) (by rw [ho1] <;> rfl) he9 (by omega)) (by omega) (by omega)
  · have c8 : (hzN (u.2.1 6) n p) = 33 := (nI_eq (a := (hzN (u.2.1 6) n p)) (b := 33) (by first | omega | exact hzN_b _ _ _) (by first | omega | exact hzN_b _ _ _)).mp c8
    have h33 : ckN (u.2.1 6) n p = 33 := (hz_ck (by decide) (by decide)).mp c8
    have hpn1 := ckN_in (by decide) h33
    refine lv_aload_n hx hb dX7_piece_11 rfl (lv_at hl 1 rfl) ?_
    refine CXv.go (rcV hC hl (c_X7_opens G l o R tx (qE u (nI p) (nI op) 0 (u.1 146)) op p (rfl) (by omega) (rfl) (rfl) (by omega) hD) hK hP (va_recv hK.1 hP clX7 (oQ_rd _ _ _ _ _)) q540 q542 qs8 q117 q543 mdX7_opens (room_v hRm (by omega) (by omega) (by omega) (by omega)) rfl rfl dX7_piece_12) hS (fun q h => Or.inl h) (fun w12 H locs hpo hP hz hk hS => ?_)
    obtain ⟨ft_1, pc_2, f12_0, ew12⟩ := hpo
    rw [ew12] at hP
    rw [qE_again] at hP
    have hF : Fr (AwQ o R) _ _ := ⟨hz, hk⟩
    by_cases h6 : op = 6
    · rw [if_pos h6] at f12_0
      obtain ⟨rfl, rfl⟩ := f12_0
      have hl : lv_has ls 4 [(1, .int (nI (hzN (u.2.1 6) n p))), (0, .ref (R 140))] := hl
      refine lv_aload_n hx hb dX7_piece_15 rfl (lv_at hl 1 rfl) ?_
      refine CIs.go (rcV hC hl (c_X7_isGood G l o R tx (qE u (nI (p + 1)) (nI (op + 1)) 5 (nI p))  ) hK hP (va_recv hK.1 hP clX7 (oQ_rd _ _ _ _ _)) q423 q425 qs1 q117 q426 mdX7_isGood (room_v hRm (by omega) (by omega) (by omega) (by omega)) rfl rfl dX7_piece_16) ?_
      refine W_top (y := (bI (isGB 5))) (by simp only [qE_f145]) ?_
      refine W_top (y := 0) (by decide) ?_
      refine lv_if_eq (tgt := 29) hx hb dX7_piece_19 (by decide) (fun c19 => ?_) (fun c19 => ?_)
      · refine lv_null hx hb dX7_piece_29 ?_
        refine lv_astore_nN (lv' := [(2, .null), (1, .int (nI (hzN (u.2.1 6) n p))), (0, .ref (R 140))]) hx hb dX7_piece_30 rfl hl (by decide) rfl (fun ls hl => ?_)
        refine lv_aload_n hx hb dX7_piece_31 rfl (lv_at hl 2 rfl) ?_
        refine lv_dup hx hb dX7_piece_32 rfl ?_
        refine S_get hC hK hP (oQ_rd _ _ _ _ _) clX7 in_X7 3 (by decide) (fD144 _ _ _ _) q400 dX7_piece_33 ?_
        refine W_top (y := (nI (op + 1))) (by rw [qE_f144]) ?_
        refine lv_iconst (v := 1) hx hb dX7_piece_36 (by decide) ?_
        refine lv_isub hx hb dX7_piece_37 ?_
        refine W_top (y := (nI op)) (pk_sub (a := op + 1) (b := 1) (by omega)) ?_
        refine F_put hC hK hP (hDA _ _) hS (oQ_rd _ _ _ _ _) clX7 in_X7 tyX7_ok nmX7 3 (by decide) (pQ144 _ _ _ _ _ _) q400 rfl rfl rfl rfl (Nat.le_of_ble_eq_true rfl) dX7_piece_38 (fun H locs hP hS hF => ?_)
        rw [qE_V144] at hP
        have hF : Fr (AwQ o R) _ _ := hF.up (fun q z => by rw [show q = R 140 from z]; exact hrd)
        have hge0 := hS.1
        refine F_newA tyX14 hC hK hS in_X14 tyX14_ok q609 q610 q130 clX14 (fs := [.null]) (fun j hj => by rcases (show j = 0 by omega) with rfl; rfl) (by decide) (rmc hRm (by omega)) (rms hRm (by omega)) dX7_piece_41 (fun a41 H ha_a41 hN_a41 hz_a41 hF hS => ?_)
        have hge_a41 : sg.heap.size ≤ a41 := by rw [ha_a41]; exact hge0
        have hP : PwQ G o R tx (qE u (nI (p + 1)) (nI op) 5 (nI p)) H := va_P.fr hP hF (fun _ _ _ h => h)
        have hF : Fr (AwQ o R) _ _ := hF.up (fun q z => False.elim z)
        refine lv_dup hx hb dX7_piece_44 rfl ?_
        refine lv_aload_nN hx hb dX7_piece_45 rfl (lv_at hl 0 rfl) ?_
        refine CXv.go (rcI (As := [.null]) hC hl (c_X14_init G l a41 none) hK hN_a41 rfl q611 q612 q130 q613 mdX14_init (room_v hRm (by omega) (by omega) (by omega) (by omega)) rfl rfl dX7_piece_46) hS (fun q z => Or.inr (by rw [show q = a41 from z]; exact hge_a41)) (fun w46 H locs hpo46 hN_a41 hz hk hS => ?_)
        have hN_a41 : va_P G.1 vwCl [(a41, .inr (11, [.null]))] H := hN_a41
        have hF : Fr (fun q => q = a41) _ _ := ⟨hz, hk⟩
        have hP := PwQ.frA hP hF hD hA hge_a41
        refine W_size (fun hzz hww => ?_)
        exact hq _ _ (some a41) ((qE u (nI (p + 1)) (nI op) 5 (nI p)), (0 + 1), (fun _ => True)) _ _ _ _ dX7_piece_49 ⟨hP, ⟨hzz, hww⟩, trivial⟩ hS (CP_l (e := (5, p)) (q := p + 1) (by rw [rdC_0, if_pos h33, if_pos h6]) (by omega) (by rw [ho1] <;> rfl) (show fOK 5 from ⟨by decide, by decide⟩) (by omega)) (by omega) (by omega)
      · exact absurd c19 (by decide)
    · rw [if_neg h6] at f12_0
      obtain ⟨rfl, rfl⟩ := f12_0
      obtain ⟨d, rfl⟩ : ∃ d', d = d' + 1 := ⟨d - 1, by omega⟩
      have hl : lv_has ls 4 [(1, .int (nI (hzN (u.2.1 6) n p))), (0, .ref (R 140))] := hl
      refine lv_aload_n hx hb dX7_piece_15 rfl (lv_at hl 1 rfl) ?_
      refine CIs.go (rcV hC hl (c_X7_isGood G l o R tx (qE u (nI (p + 1)) (nI (op + 1)) 0 (u.1 146))  ) hK hP (va_recv hK.1 hP clX7 (oQ_rd _ _ _ _ _)) q423 q425 qs1 q117 q426 mdX7_isGood (room_v hRm (by omega) (by omega) (by omega) (by omega)) rfl rfl dX7_piece_16) ?_
      refine W_top (y := (bI (isGB 0))) (by simp only [qE_f145]) ?_
      refine W_top (y := 1) (by decide) ?_
      refine lv_if_eq (tgt := 29) hx hb dX7_piece_19 (by decide) (fun c19 => ?_) (fun c19 => ?_)
      · exact absurd c19 (by decide)
      · refine lv_aload_n hx hb dX7_piece_22 rfl (lv_at hl 1 rfl) ?_
        have hσ2 : ∀ q, AwQ o R q → σ.1 ≤ q ∧ q < Array.size H := fun q h => ⟨(hσ q h).1, by have := (hσ q h).2; have := hS.1; omega⟩
        have hge23 := hS.1
        refine CRq.goF (rrV (As := []) hC hl (pie d rfl σ o R tx (qE u (nI (p + 1)) (nI (op + 1)) 0 (u.1 146)) n (p + 1) (op + 1) k b a H hD hσ2 rfl hn rfl rfl hn2 (by omega) (by omega) (by omega)) hK (stK hT hS hσA) ⟨hP, rfl⟩ (va_recv hK.1 hP clX7 (oQ_rd _ _ _ _ _)) q605 q607 qs14 q117 q608 mdX7_piece (room_v hRm (by omega) (by omega) (by omega) (by omega)) rfl rfl dX7_piece_23) hS hA (fun r23 w23 g23 X23 H locs hpo23 hP hX23 hF hS => ?_)
        rcases CP_c hpo23 with ⟨a9, b9, hx9, hw9, hg9, rfl, hb9⟩ | ⟨e9, q9, hx9, hq9, hw9, he9, hg9⟩
        · change rdC (u.2.1 6) n k 0 (op + 1) (p + 1) b a = _ at hx9
          have hb8 := pie_b (show p + 1 ≤ n by omega) hx9
          rw [hw9, qE_again] at hP
          simp only [qE_f144, qE_f146] at hP
          have hTT := (CT.anti (fun q (z : q < sg.heap.size) => Nat.lt_of_lt_of_le z hge23) _).1 _ _ (hb9 _ hX23)
          have hFa := Fr.rf (AwQ o R) H
          have hl : lv_has ls 4 [(1, .int (nI (hzN (u.2.1 6) n p))), (0, .ref (R 140))] := hl
          refine lv_goto (tgt := 30) hx hb dX7_piece_26 (by decide) ?_
          refine q_astore_n (lv' := [(2, va_rf (some b9)), (1, .int (nI (hzN (u.2.1 6) n p))), (0, .ref (R 140))]) hx hb dX7_piece_30 rfl hl (by decide) rfl (fun ls hl => ?_)
          refine lv_aload_n hx hb dX7_piece_31 rfl (lv_at hl 2 rfl) ?_
          refine lv_dup hx hb dX7_piece_32 rfl ?_
          refine S_get hC hK hP (oQ_rd _ _ _ _ _) clX7 in_X7 3 (by decide) (fD144 _ _ _ _) q400 dX7_piece_33 ?_
          refine W_top (y := (nI (op + 1))) (by rw [qE_f144]) ?_
          refine lv_iconst (v := 1) hx hb dX7_piece_36 (by decide) ?_
          refine lv_isub hx hb dX7_piece_37 ?_
          refine W_top (y := (nI op)) (pk_sub (a := op + 1) (b := 1) (by omega)) ?_
          refine F_put hC hK hP (hDA _ _) hS (oQ_rd _ _ _ _ _) clX7 in_X7 tyX7_ok nmX7 3 (by decide) (pQ144 _ _ _ _ _ _) q400 rfl rfl rfl rfl (Nat.le_of_ble_eq_true rfl) dX7_piece_38 (fun H locs hP hS hF => ?_)
          rw [qE_V144] at hP
          have hF : Fr (AwQ o R) _ _ := hF.up (fun q z => by rw [show q = R 140 from z]; exact hrd)
          have hFa := hFa.tr hF
          have hge0 := hS.1
          refine F_newA tyX14 hC hK hS in_X14 tyX14_ok q609 q610 q130 clX14 (fs := [.null]) (fun j hj => by rcases (show j = 0 by omega) with rfl; rfl) (by decide) (rmc hRm (by omega)) (rms hRm (by omega)) dX7_piece_41 (fun a41 H ha_a41 hN_a41 hz_a41 hF hS => ?_)
          have hge_a41 : sg.heap.size ≤ a41 := by rw [ha_a41]; exact hge0
          have hlf_a41 := Nat.le_trans hFa.1 (Nat.le_of_eq ha_a41.symm)
          have hP : PwQ G o R tx (qE u (nI a9.2) (nI op) 0 (u.1 146)) H := va_P.fr hP hF (fun _ _ _ h => h)
          have hF : Fr (AwQ o R) _ _ := hF.up (fun q z => False.elim z)
          have hFa := hFa.tr hF
          refine lv_dup hx hb dX7_piece_44 rfl ?_
          refine q_aload_n hx hb dX7_piece_45 rfl (lv_at hl 0 rfl) ?_
          refine CXv.go (rcI (As := [va_rf (some b9)]) hC hl (c_X14_init G l a41 (some b9)) hK hN_a41 rfl q611 q612 q130 q613 mdX14_init (room_v hRm (by omega) (by omega) (by omega) (by omega)) rfl rfl dX7_piece_46) hS (fun q z => Or.inr (by rw [show q = a41 from z]; exact hge_a41)) (fun w46 H locs hpo46 hN_a41 hz hk hS => ?_)
          have hN_a41 : va_P G.1 vwCl [(a41, .inr (11, [va_rf (some b9)]))] H := hN_a41
          have hF : Fr (fun q => q = a41) _ _ := ⟨hz, hk⟩
          have hP := PwQ.frA hP hF hD hA hge_a41
          have hFa := hFa.tr1 hF (by first | exact hlf_a41 | omega)
          refine W_size (fun hzz hww => ?_)
          exact hq _ _ (some a41) ((qE u (nI a9.2) (nI op) 0 (u.1 146)), ((0 + g23) + 1), (fun H => (CT G (fun q => q < sg.heap.size) H (n - p + 4 * (d + 1) + 3)).1 a41 (fun F => (a9.1.2 F).map (fun b => !b)))) _ _ _ _ dX7_piece_49 ⟨hP, ⟨hzz, hww⟩, (CT.upto (show n - (p + 1) + 4 * d + 3 + 1 ≤ n - p + 4 * (d + 1) + 3 by omega)).1 _ _ (CT.not hge_a41 hN_a41 (CT.fr hTT hFa (fun q z => hA q z)))⟩ hS (CP_r (a := ((a9.1.1 ++ [UN * 10], fun F => (a9.1.2 F).map (fun v => !v)), a9.2)) (by rw [rdC_0, if_pos h33, if_neg h6, hx9]; rfl) (by rw [ho1] <;> rfl) (by dsimp only; omega) (fun H h => h)) (by omega) (by omega)
        · change rdC (u.2.1 6) n k 0 (op + 1) (p + 1) b a = _ at hx9
          rw [hw9, qE_again] at hP
          simp only [qE_f144] at hP
          have hl : lv_has ls 4 [(1, .int (nI (hzN (u.2.1 6) n p))), (0, .ref (R 140))] := hl
          refine lv_goto (tgt := 30) hx hb dX7_piece_26 (by decide) ?_
          refine q_astore_n (lv' := [(2, va_rf r23), (1, .int (nI (hzN (u.2.1 6) n p))), (0, .ref (R 140))]) hx hb dX7_piece_30 rfl hl (by decide) rfl (fun ls hl => ?_)
          refine lv_aload_n hx hb dX7_piece_31 rfl (lv_at hl 2 rfl) ?_
          refine lv_dup hx hb dX7_piece_32 rfl ?_
          refine S_get hC hK hP (oQ_rd _ _ _ _ _) clX7 in_X7 3 (by decide) (fD144 _ _ _ _) q400 dX7_piece_33 ?_
          refine W_top (y := (nI (op + 1))) (by rw [qE_f144]) ?_
          refine lv_iconst (v := 1) hx hb dX7_piece_36 (by decide) ?_
          refine lv_isub hx hb dX7_piece_37 ?_
          refine W_top (y := (nI op)) (pk_sub (a := op + 1) (b := 1) (by omega)) ?_
          refine F_put hC hK hP (hDA _ _) hS (oQ_rd _ _ _ _ _) clX7 in_X7 tyX7_ok nmX7 3 (by decide) (pQ144 _ _ _ _ _ _) q400 rfl rfl rfl rfl (Nat.le_of_ble_eq_true rfl) dX7_piece_38 (fun H locs hP hS hF => ?_)
          rw [qE_V144] at hP
          have hF : Fr (AwQ o R) _ _ := hF.up (fun q z => by rw [show q = R 140 from z]; exact hrd)
          have hge0 := hS.1
          refine F_newA tyX14 hC hK hS in_X14 tyX14_ok q609 q610 q130 clX14 (fs := [.null]) (fun j hj => by rcases (show j = 0 by omega) with rfl; rfl) (by decide) (rmc hRm (by omega)) (rms hRm (by omega)) dX7_piece_41 (fun a41 H ha_a41 hN_a41 hz_a41 hF hS => ?_)
          have hge_a41 : sg.heap.size ≤ a41 := by rw [ha_a41]; exact hge0
          have hP : PwQ G o R tx (qE u (nI q9) (nI op) (nI e9.1) (nI e9.2)) H := va_P.fr hP hF (fun _ _ _ h => h)
          have hF : Fr (AwQ o R) _ _ := hF.up (fun q z => False.elim z)
          refine lv_dup hx hb dX7_piece_44 rfl ?_
          refine q_aload_n hx hb dX7_piece_45 rfl (lv_at hl 0 rfl) ?_
          refine CXv.go (rcI (As := [va_rf r23]) hC hl (c_X14_init G l a41 r23) hK hN_a41 rfl q611 q612 q130 q613 mdX14_init (room_v hRm (by omega) (by omega) (by omega) (by omega)) rfl rfl dX7_piece_46) hS (fun q z => Or.inr (by rw [show q = a41 from z]; exact hge_a41)) (fun w46 H locs hpo46 hN_a41 hz hk hS => ?_)
          have hN_a41 : va_P G.1 vwCl [(a41, .inr (11, [va_rf r23]))] H := hN_a41
          have hF : Fr (fun q => q = a41) _ _ := ⟨hz, hk⟩
          have hP := PwQ.frA hP hF hD hA hge_a41
          refine W_size (fun hzz hww => ?_)
          exact hq _ _ (some a41) ((qE u (nI q9) (nI op) (nI e9.1) (nI e9.2)), ((0 + g23) + 1), (fun _ => True)) _ _ _ _ dX7_piece_49 ⟨hP, ⟨hzz, hww⟩, trivial⟩ hS (CP_l (e := e9) (q := q9) (by rw [rdC_0, if_pos h33, if_neg h6, hx9]; rfl) (by omega) (by rw [ho1] <;> rfl) he9 (by omega)) (by omega) (by omega)
