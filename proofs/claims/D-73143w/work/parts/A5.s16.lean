set_option maxRecDepth 100000
theorem mul_hz {f : Nat → Int32} {n p : Nat} (h : hzN f n p = 42 ∨ hzN f n p = 47 ∨ hzN f n p = 37) : mulC (ckN f n p) = true ∧ p < n ∧ nI (hzN f n p) = nI (ckN f n p) := by
  have h0 : ¬ hzN f n p = 0 := by omega
  obtain ⟨h1, h2⟩ := hz_ne h0
  refine ⟨?_, h1, by rw [h2]⟩
  rw [h2]; unfold mulC
  rcases h with h | h | h <;> rw [h] <;> rfl
theorem mul_hzn {f : Nat → Int32} {n p : Nat} (h1 : ¬ hzN f n p = 42) (h2 : ¬ hzN f n p = 47) (h3 : ¬ hzN f n p = 37) : ¬ mulC (ckN f n p) = true := by
  have k1 := mt (hz_ck (f := f) (n := n) (p := p) (c := 42) (by decide) (by decide)).mpr h1
  have k2 := mt (hz_ck (f := f) (n := n) (p := p) (c := 47) (by decide) (by decide)).mpr h2
  have k3 := mt (hz_ck (f := f) (n := n) (p := p) (c := 37) (by decide) (by decide)).mpr h3
  unfold mulC
  rw [decide_eq_false k1, decide_eq_false k2, decide_eq_false k3]; decide
theorem add_hz {f : Nat → Int32} {n p : Nat} (h : hzN f n p = 43 ∨ hzN f n p = 45) : addC (ckN f n p) = true ∧ p < n ∧ nI (hzN f n p) = nI (ckN f n p) := by
  have h0 : ¬ hzN f n p = 0 := by omega
  obtain ⟨h1, h2⟩ := hz_ne h0
  refine ⟨?_, h1, by rw [h2]⟩
  rw [h2]; unfold addC
  rcases h with h | h <;> rw [h] <;> rfl
theorem add_hzn {f : Nat → Int32} {n p : Nat} (h1 : ¬ hzN f n p = 43) (h2 : ¬ hzN f n p = 45) : ¬ addC (ckN f n p) = true := by
  have k1 := mt (hz_ck (f := f) (n := n) (p := p) (c := 43) (by decide) (by decide)).mpr h1
  have k2 := mt (hz_ck (f := f) (n := n) (p := p) (c := 45) (by decide) (by decide)).mpr h2
  unfold addC
  rw [decide_eq_false k1, decide_eq_false k2]; decide
theorem rdE_2 {f : Nat → Int32} {n k op p : Nat} {a : SA} : rdE f n (k + 1) 2 op p a = if addC (ckN f n p) = true then bW (prodS f n k op (p + 1) a) (fun r2 => rdE f n k 2 op r2.2 (a.1 ++ r2.1.1 ++ [UN * sgC (ckN f n p)], sgD (ckN f n p) a.2 r2.1.2)) else .inr (a, p) := by
  unfold prodS; rw [bW_as]; rfl
theorem rdE_3 {f : Nat → Int32} {n k op p : Nat} {a : SA} : rdE f n (k + 1) 3 op p a = bW (prodS f n k op p a) (fun r2 => rdE f n k 2 op r2.2 r2.1) := by
  unfold prodS; rw [bW_as]; rfl
theorem KT.mono {G : GG} {A : Nat → Prop} {lo : Nat} {H : Heap} {first last pp D D' DD : Nat} {sn : Int32} {acc : SDn} (hK : KT G A lo H first last sn pp D DD acc) (h : D' ≤ D) : KT G A lo H first last sn pp D' DD acc := fun H' r dr h1 h2 h3 => hK H' r dr h1 h2 ((TT.upto h).2 _ _ h3)
theorem prodS_b {f : Nat → Int32} {n k op p : Nat} {a : SA} {r : SA × Nat} (hp : p ≤ n) (h : prodS f n k op p a = .inr r) : p < r.2 ∧ r.2 ≤ n := by
  unfold prodS at h
  obtain ⟨r1, h1, h2⟩ := bW_r h
  have b1 := (rdE_b hp).1 h1
  have b2 := (rdE_b b1.2).2.1 h2
  exact ⟨by omega, b2.2⟩
set_option maxHeartbeats 8000000 in
theorem pro_ok (G : GG) (l : Launch) (d : Nat) (fac : FacC G l d) : ProC G l d := by
  intro σ o R tx u n p op k a H0 hD hσ hp hn ho1 hf hn2 hpn hop hk
  obtain ⟨k9, rfl⟩ : ∃ j, j = k := ⟨k, rfl⟩
  refine CRq.mk RX7 (Or.inl ⟨_, rfl⟩) pnX7 rfl (Nat.le_of_ble_eq_true rfl) (fun pg en Rm sg mm ar bw mth cd QQ ls hC hRm hK hT hX hS hl hq => ?_)
  obtain ⟨hP, rfl⟩ := hX
  have hx := hC.1; have hb := hC.2.1; have ho := hC.2.2.2.1; have hts := hC.2.2.2.2
  have hrd : AwQ o R (R 140) := Or.inr ⟨140, by decide, rfl⟩
  have hA : ∀ q, AwQ o R q → q < sg.heap.size := fun q h => (hσ q h).2
  have hσ0 : σ.1 ≤ sg.heap.size := Nat.le_trans (hσ _ hrd).1 (Nat.le_of_lt (hσ _ hrd).2)
  have hσA : ∀ q, A0 o R sg.heap.size q → kpA σ q := fun q h => h.elim (fun h => (hσ q h).1) (fun h => Nat.le_trans hσ0 h)
  have hDA : ∀ (tx : Nat) (u : MS), va_D (A0 o R sg.heap.size) (celQ G o R tx u) := fun tx u => (hD G tx u).up (fun q h => Or.inl h)
  refine W_c0 ?_
  have hl : lv_has ls 4 [(0, .ref (R 140))] := hl
  have hP : PwQ G o R tx (qE u (u.1 143) (u.1 144) (u.1 145) (u.1 146)) sg.heap := by rw [qE_self]; exact hP
  rw [hp, ho1, hf] at hP
  have hge0 := hS.1
  refine F_newA tyX9 hC hK hS in_X9 tyX9_ok q530 q531 q125 clX9 (fs := [.int 0, .null, .null]) (fun j hj => by rcases (show j = 0 ∨ j = 1 ∨ j = 2 by omega) with rfl | rfl | rfl <;> rfl) (by decide) (rmc hRm (by omega)) (rms hRm (by omega)) dX7_product_0 (fun a0 H ha_a0 hN_a0 hz_a0 hF hS => ?_)
  have hge_a0 : sg.heap.size ≤ a0 := by rw [ha_a0]; exact hge0
  have hP : PwQ G o R tx (qE u (nI p) (nI op) 0 (u.1 146)) H := va_P.fr hP hF (fun _ _ _ h => h)
  have hF : Fr (AwQ o R) _ _ := hF.up (fun q z => False.elim z)
  refine lv_dup hx hb dX7_product_3 rfl ?_
  refine lv_iconst (v := 0) hx hb dX7_product_4 (by decide) ?_
  refine lv_aload_n hx hb dX7_product_5 rfl (lv_at hl 0 rfl) ?_
  have hσ2 : ∀ q, AwQ o R q → σ.1 ≤ q ∧ q < Array.size H := fun q h => ⟨(hσ q h).1, by have := (hσ q h).2; have := hS.1; omega⟩
  refine CRq.goF (rrV (As := []) hC hl (fac σ o R tx (qE u (nI p) (nI op) 0 (u.1 146)) n p op k9 a H hD hσ2 rfl hn rfl rfl hn2 (by omega) hop (by omega)) hK (stK hT hS hσA) ⟨hP, rfl⟩ (va_recv hK.1 hP clX7 (oQ_rd _ _ _ _ _)) q536 q538 qs7 q117 q539 mdX7_factor (room_v hRm (by omega) (by omega) (by omega) (by omega)) rfl rfl dX7_product_6) hS hA (fun r6 w6 g6 X6 H locs hpo6 hP hX6 hF hS => ?_)
  have hN_a0 := hN_a0.fr1 hF (nAw hA hge_a0)
  rcases FP_c hpo6 with ⟨a9, b9, hx9, hw9, hg9, rfl, hb9⟩ | ⟨e9, q9, hx9, hq9, hw9, he9, hg9⟩
  · change rdE (u.2.1 6) n k9 0 op p a = _ at hx9
    have hb8 := (rdE_b (f := (u.2.1 6)) (k := k9) (show p ≤ n by omega)).1 hx9
    rw [hw9, qE_again] at hP
    simp only [qE_f144, qE_f146] at hP
    have hpt := hb9 _ hX6
    rw [hz_a0] at hpt
    have hl : lv_has ls 4 [(0, .ref (R 140))] := hl
    refine CXv.go (rcI (As := [.int 0, va_rf (some b9)]) hC hl (c_X9_init G l a0 0 (some b9)) hK hN_a0 rfl q580 q581 q125 q582 mdX9_init (room_v hRm (by omega) (by omega) (by omega) (by omega)) rfl rfl dX7_product_9) hS (fun q z => Or.inr (by rw [show q = a0 from z]; exact hge_a0)) (fun w9 H locs hpo9 hN_a0 hz hk hS => ?_)
    have hN_a0 : va_P G.1 vwCl [(a0, .inr (7, [.int 0, va_rf (some b9), .null]))] H := hN_a0
    have hF : Fr (fun q => q = a0) _ _ := ⟨hz, hk⟩
    have hP := PwQ.frA hP hF hD hA hge_a0
    have hpt := TT.fr hpt hF (fun q z => by have z : q = a0 := z; omega)
    refine lv_astore_n (lv' := [(1, .ref a0), (0, .ref (R 140))]) hx hb dX7_product_12 rfl hl (by decide) rfl (fun ls hl => ?_)
    refine lv_aload_n hx hb dX7_product_13 rfl (lv_at hl 0 rfl) ?_
    refine lv_astore_n (lv' := [(2, .ref a0), (1, .ref a0), (0, .ref (R 140))]) hx hb dX7_product_14 rfl hl (by decide) rfl (fun ls hl => ?_)
    have LP15 : ∀ (fu15 : Nat) (q : Nat) (k8 : Nat) (last : Nat) (pp : Nat) (sn : Int32) (acc : SA) (c : Nat) (H : Heap) (locs : List Loc) (ls : Array Slot), n + 1 - q < fu15 → p < q → q ≤ n → 2 * (n + 1 - q) + 2 ≤ k8 → prodS (u.2.1 6) n k9 op p a = rdE (u.2.1 6) n k8 1 op q acc → c + 1 ≤ 3 * (q - p) → sg.heap.size ≤ last → va_P G.1 vwCl [(last, .inr (7, [.int sn, .ref pp, .null]))] H → KT G (AwQ o R) sg.heap.size H a0 last sn pp (n - q + 2 * d) (n - p + 2 * d + 1) acc.2 → PwQ G o R tx (qE u (nI q) (nI op) 0 (u.1 146)) H → va_S (A0 o R sg.heap.size) sg.heap H locs → lv_has ls 4 [(0, .ref (R 140)), (1, .ref a0), (2, .ref last)] → W pg l en Rm sg mm ar bw mth cd H locs c (3 * c) QQ (F0 mm 15 ls []) := by
      intro fu15
      induction fu15 with
      | zero => intro q k8 last pp sn acc c H locs ls hm15 hqp hqn hk9 hsp hcc hge_last hN_last hKT hP hS hl; exact absurd hm15 (Nat.not_lt_zero _)
      | succ fu15 ih15 =>
        intro q k8 last pp sn acc c H locs ls hm15 hqp hqn hk9 hsp hcc hge_last hN_last hKT hP hS hl
        have hB := Fr.rf (fun q => AwQ o R q ∨ q = last) H
        have hll := (hN_last 0 _ rfl).lt
        obtain ⟨k8, rfl⟩ : ∃ j, k8 = j + 1 := ⟨k8 - 1, by omega⟩
        refine lv_aload_n hx hb dX7_product_15 rfl (lv_at hl 0 rfl) ?_
        refine CIs.go (rcV hC hl (c_X7_isGood G l o R tx (qE u (nI q) (nI op) 0 (u.1 146))  ) hK hP (va_recv hK.1 hP clX7 (oQ_rd _ _ _ _ _)) q423 q425 qs1 q117 q426 mdX7_isGood (room_v hRm (by omega) (by omega) (by omega) (by omega)) rfl rfl dX7_product_16) ?_
        refine W_top (y := (bI (isGB 0))) (by simp only [qE_f145]) ?_
        refine W_top (y := 1) (by decide) ?_
        refine lv_if_eq (tgt := 88) hx hb dX7_product_19 (by decide) (fun c19 => ?_) (fun c19 => ?_)
        · exact absurd c19 (by decide)
        · have JN49 : ∀  (ls : Array Slot), mulC (ckN (u.2.1 6) n q) = true ∧ q < n ∧ nI (hzN (u.2.1 6) n q) = nI (ckN (u.2.1 6) n q) → lv_has ls 4 [(0, .ref (R 140)), (1, .ref a0), (2, .ref last)] → W pg l en Rm sg mm ar bw mth cd H locs c (3 * c) QQ (F0 mm 49 ls []) := by
            intro ls hm hl
            refine lv_aload_n hx hb dX7_product_49 rfl (lv_at hl 0 rfl) ?_
            refine CIs.go (rcV hC hl (c_X7_here G l o R tx (qE u (nI q) (nI op) 0 (u.1 146)) q n (rfl) (hn) (hn2) (by omega)) hK hP (va_recv hK.1 hP clX7 (oQ_rd _ _ _ _ _)) q431 q433 qs3 q117 q434 mdX7_here (room_v hRm (by omega) (by omega) (by omega) (by omega)) rfl rfl dX7_product_50) ?_
            refine W_top (y := (nI (hzN (u.2.1 6) n q))) (by simp only [qE_g6]) ?_
            refine lv_istore_n (lv' := [(3, .int (nI (hzN (u.2.1 6) n q))), (0, .ref (R 140)), (1, .ref a0), (2, .ref last)]) hx hb dX7_product_53 rfl hl (by decide) rfl (fun ls hl => ?_)
            refine lv_aload_n hx hb dX7_product_54 rfl (lv_at hl 1 rfl) ?_
            refine lv_dup hx hb dX7_product_55 rfl ?_
            refine S_get hC hK hP (oQ_rd _ _ _ _ _) clX7 in_X7 2 (by decide) (fD143 _ _ _ _) q399 dX7_product_56 ?_
            refine W_top (y := (nI q)) (by rw [qE_f143]) ?_
            refine lv_iconst (v := 1) hx hb dX7_product_59 (by decide) ?_
            refine lv_iadd hx hb dX7_product_60 ?_
            refine W_top (nI_add q 1) ?_
            refine F_put hC hK hP (hDA _ _) hS (oQ_rd _ _ _ _ _) clX7 in_X7 tyX7_ok nmX7 2 (by decide) (pQ143 _ _ _ _ _ _) q399 rfl rfl rfl rfl (Nat.le_of_ble_eq_true rfl) dX7_product_61 (fun H locs hP hS hF => ?_)
            rw [qE_V143] at hP
            have hF : Fr (AwQ o R) _ _ := hF.up (fun q z => by rw [show q = R 140 from z]; exact hrd)
            have hN_last := hN_last.fr1 hF (nAw hA hge_last)
            have hB := hB.tr (hF.up (fun q z => Or.inl z))
            refine lv_aload_n hx hb dX7_product_64 rfl (lv_at hl 3 rfl) ?_
            have hge0 := hS.1
            refine F_newA tyX9 hC hK hS in_X9 tyX9_ok q530 q531 q125 clX9 (fs := [.int 0, .null, .null]) (fun j hj => by rcases (show j = 0 ∨ j = 1 ∨ j = 2 by omega) with rfl | rfl | rfl <;> rfl) (by decide) (rmc hRm (by omega)) (rms hRm (by omega)) dX7_product_65 (fun a65 H ha_a65 hN_a65 hz_a65 hF hS => ?_)
            have hge_a65 : sg.heap.size ≤ a65 := by rw [ha_a65]; exact hge0
            have hla_a65 := Nat.le_trans hB.1 (Nat.le_of_eq ha_a65.symm)
            have hP : PwQ G o R tx (qE u (nI (q + 1)) (nI op) 0 (u.1 146)) H := va_P.fr hP hF (fun _ _ _ h => h)
            have hF : Fr (AwQ o R) _ _ := hF.up (fun q z => False.elim z)
            have hN_last := hN_last.fr1 hF (nAw hA hge_last)
            have hB := hB.tr (hF.up (fun q z => Or.inl z))
            refine lv_dup hx hb dX7_product_68 rfl ?_
            refine lv_iload_n hx hb dX7_product_69 rfl (lv_at hl 0 rfl) ?_
            refine lv_aload_n hx hb dX7_product_70 rfl (lv_at hl 1 rfl) ?_
            have hσ3 : ∀ q, AwQ o R q → σ.1 ≤ q ∧ q < Array.size H := fun q h => ⟨(hσ q h).1, by have := (hσ q h).2; have := hS.1; omega⟩
            have hqn1 := hm.2.1
            refine CRq.goF (rrV (As := []) hC hl (fac σ o R tx (qE u (nI (q + 1)) (nI op) 0 (u.1 146)) n (q + 1) op k8 acc H hD hσ3 rfl hn rfl rfl hn2 (by omega) hop (by omega)) hK (stK hT hS hσA) ⟨hP, rfl⟩ (va_recv hK.1 hP clX7 (oQ_rd _ _ _ _ _)) q536 q538 qs7 q117 q539 mdX7_factor (room_v hRm (by omega) (by omega) (by omega) (by omega)) rfl rfl dX7_product_71) hS hA (fun r71 w71 g71 X71 H locs hpo71 hP hX71 hF hS => ?_)
            have hN_last := hN_last.fr1 hF (nAw hA hge_last)
            have hB := hB.tr (hF.up (fun q z => Or.inl z))
            have hN_a65 := hN_a65.fr1 hF (nAw hA hge_a65)
            rcases FP_c hpo71 with ⟨a8, b8, hx8, hw8, hg8, rfl, hb8⟩ | ⟨e8, q8, hx8, hq8, hw8, he8, hg8⟩
            · change rdE (u.2.1 6) n k8 0 op (q + 1) acc = _ at hx8
              have hbb8 := (rdE_b (f := (u.2.1 6)) (k := k8) (show q + 1 ≤ n by omega)).1 hx8
              rw [hw8, qE_again] at hP
              simp only [qE_f144, qE_f146] at hP
              have hpt8 := hb8 _ hX71
              rw [hz_a65] at hpt8
              have hl : lv_has ls 4 [(3, .int (nI (hzN (u.2.1 6) n q))), (0, .ref (R 140)), (1, .ref a0), (2, .ref last)] := hl
              refine CXv.go (rcI (As := [.int (nI (hzN (u.2.1 6) n q)), va_rf (some b8)]) hC hl (c_X9_init G l a65 (nI (hzN (u.2.1 6) n q)) (some b8)) hK hN_a65 rfl q580 q581 q125 q582 mdX9_init (room_v hRm (by omega) (by omega) (by omega) (by omega)) rfl rfl dX7_product_74) hS (fun q z => Or.inr (by rw [show q = a65 from z]; exact hge_a65)) (fun w74 H locs hpo74 hN_a65 hz hk hS => ?_)
              have hN_a65 : va_P G.1 vwCl [(a65, .inr (7, [.int (nI (hzN (u.2.1 6) n q)), va_rf (some b8), .null]))] H := hN_a65
              have hF : Fr (fun q => q = a65) _ _ := ⟨hz, hk⟩
              have hP := PwQ.frA hP hF hD hA hge_a65
              have hN_last := hN_last.fr1 hF (fun z => by have z : last = a65 := z; omega)
              have hB := hB.tr1 hF (by first | exact hla_a65 | omega)
              have hpt8 := TT.fr hpt8 hF (fun q z => by have z : q = a65 := z; omega)
              refine F_putN (q0 := 0) (fs := [.int sn, .ref pp, .null]) (ws' := [(last, .inr (7, [.int sn, .ref pp, .ref a65]))]) hC hK hN_last (va_D.one (Or.inr hge_last)) hS rfl clX9 in_X9 tyX9_ok nmX9 2 (by decide) rfl nq587 rfl rfl rfl rfl (Nat.le_of_ble_eq_true rfl) dX7_product_77 (fun H locs hN_last hS hF => ?_)
              have hP := PwQ.frA hP hF hD hA hge_last
              have hB := hB.tr (hF.up (fun q z => Or.inr z))
              have hN_a65 := hN_a65.fr1 hF (fun z => by have z : a65 = last := z; omega)
              have hpt8 := TT.fr hpt8 hF (fun q z => by have z : q = last := z; omega)
              refine lv_aload_n hx hb dX7_product_80 rfl (lv_at hl 3 rfl) ?_
              refine S_getN (v := .ref a65) hC hK hN_last (q0 := 0) rfl clX9 in_X9 2 (by decide) rfl nq587 dX7_product_81 ?_
              refine lv_astore_n (lv' := [(2, .ref a65), (3, .int (nI (hzN (u.2.1 6) n q))), (0, .ref (R 140)), (1, .ref a0)]) hx hb dX7_product_84 rfl hl (by decide) rfl (fun ls hl => ?_)
              refine lv_goto (tgt := 15) hx hb dX7_product_85 (by decide) ?_
              exact ih15 a8.2 k8 a65 b8 (nI (hzN (u.2.1 6) n q)) (acc.1 ++ a8.1.1 ++ [UN * sgC (ckN (u.2.1 6) n q)], sgD (ckN (u.2.1 6) n q) acc.2 a8.1.2) ((c + 1) + g71) _ _ ls (by have := hbb8.1; omega) (by have := hbb8.1; omega) (hbb8.2) (by have := hbb8.1; omega) (hsp.trans (by rw [rdE_1, if_pos hm.1, hx8]; rfl)) (by have := hbb8.1; omega) (hge_a65) (hN_a65) (KT.step (D1 := n - (q + 1) + 2 * d) hKT hA hge_last hll hla_a65 hB hN_last hpt8 hm.2.2 (Nat.le_refl _) (by have := hbb8.1; omega) (by have := hm.2.1; omega)) hP hS (lv_sub hl [2, 3, 0] rfl)
            · change rdE (u.2.1 6) n k8 0 op (q + 1) acc = _ at hx8
              rw [hw8, qE_again] at hP
              simp only [qE_f144] at hP
              have hl : lv_has ls 4 [(3, .int (nI (hzN (u.2.1 6) n q))), (0, .ref (R 140)), (1, .ref a0), (2, .ref last)] := hl
              refine CXv.go (rcI (As := [.int (nI (hzN (u.2.1 6) n q)), va_rf r71]) hC hl (c_X9_init G l a65 (nI (hzN (u.2.1 6) n q)) r71) hK hN_a65 rfl q580 q581 q125 q582 mdX9_init (room_v hRm (by omega) (by omega) (by omega) (by omega)) rfl rfl dX7_product_74) hS (fun q z => Or.inr (by rw [show q = a65 from z]; exact hge_a65)) (fun w74 H locs hpo74 hN_a65 hz hk hS => ?_)
              have hN_a65 : va_P G.1 vwCl [(a65, .inr (7, [.int (nI (hzN (u.2.1 6) n q)), va_rf r71, .null]))] H := hN_a65
              have hF : Fr (fun q => q = a65) _ _ := ⟨hz, hk⟩
              have hP := PwQ.frA hP hF hD hA hge_a65
              have hN_last := hN_last.fr1 hF (fun z => by have z : last = a65 := z; omega)
              have hB := hB.tr1 hF (by first | exact hla_a65 | omega)
              refine F_putN (q0 := 0) (fs := [.int sn, .ref pp, .null]) (ws' := [(last, .inr (7, [.int sn, .ref pp, .ref a65]))]) hC hK hN_last (va_D.one (Or.inr hge_last)) hS rfl clX9 in_X9 tyX9_ok nmX9 2 (by decide) rfl nq587 rfl rfl rfl rfl (Nat.le_of_ble_eq_true rfl) dX7_product_77 (fun H locs hN_last hS hF => ?_)
              have hP := PwQ.frA hP hF hD hA hge_last
              have hB := hB.tr (hF.up (fun q z => Or.inr z))
              have hN_a65 := hN_a65.fr1 hF (fun z => by have z : a65 = last := z; omega)
              refine lv_aload_n hx hb dX7_product_80 rfl (lv_at hl 3 rfl) ?_
              refine S_getN (v := .ref a65) hC hK hN_last (q0 := 0) rfl clX9 in_X9 2 (by decide) rfl nq587 dX7_product_81 ?_
              refine lv_astore_n (lv' := [(2, .ref a65), (3, .int (nI (hzN (u.2.1 6) n q))), (0, .ref (R 140)), (1, .ref a0)]) hx hb dX7_product_84 rfl hl (by decide) rfl (fun ls hl => ?_)
              refine lv_goto (tgt := 15) hx hb dX7_product_85 (by decide) ?_
              refine lv_aload_n hx hb dX7_product_15 rfl (lv_at hl 2 rfl) ?_
              refine CIs.go (rcV hC hl (c_X7_isGood G l o R tx (qE u (nI q8) (nI op) (nI e8.1) (nI e8.2))  ) hK hP (va_recv hK.1 hP clX7 (oQ_rd _ _ _ _ _)) q423 q425 qs1 q117 q426 mdX7_isGood (room_v hRm (by omega) (by omega) (by omega) (by omega)) rfl rfl dX7_product_16) ?_
              refine W_top (y := (bI (isGB (nI e8.1)))) (by simp only [qE_f145]) ?_
              refine W_top (y := 0) (by rw [he8.1]; rfl) ?_
              refine lv_if_eq (tgt := 88) hx hb dX7_product_19 (by decide) (fun c19 => ?_) (fun c19 => ?_)
              · refine lv_aload_n hx hb dX7_product_88 rfl (lv_at hl 3 rfl) ?_
                refine W_size (fun hzz hww => ?_)
                exact hq _ _ (some a0) ((qE u (nI q8) (nI op) (nI e8.1) (nI e8.2)), ((c + 1) + g71), (fun _ => True)) _ _ _ _ dX7_product_89 ⟨hP, ⟨hzz, hww⟩, trivial⟩ hS (FP_l (e := e8) (q := q8) (hsp.trans (by rw [rdE_1, if_pos hm.1, hx8] <;> rfl)) (by omega) (by rw [ho1] <;> rfl) he8 (by omega)) (by omega) (by omega)
              · exact absurd c19 (by decide)
          refine lv_aload_n hx hb dX7_product_22 rfl (lv_at hl 0 rfl) ?_
          refine CIs.go (rcV hC hl (c_X7_here G l o R tx (qE u (nI q) (nI op) 0 (u.1 146)) q n (rfl) (hn) (hn2) (by omega)) hK hP (va_recv hK.1 hP clX7 (oQ_rd _ _ _ _ _)) q431 q433 qs3 q117 q434 mdX7_here (room_v hRm (by omega) (by omega) (by omega) (by omega)) rfl rfl dX7_product_23) ?_
          refine W_top (y := (nI (hzN (u.2.1 6) n q))) (by simp only [qE_g6]) ?_
          refine lv_bipush (v := 42) hx hb dX7_product_26 (by decide) ?_
          refine lv_icmp_eq (tgt := 49) hx hb dX7_product_28 (by decide) (fun c28 => ?_) (fun c28 => ?_)
          · have c28 : (hzN (u.2.1 6) n q) = 42 := (nI_eq (a := (hzN (u.2.1 6) n q)) (b := 42) (by first | omega | exact hzN_b _ _ _) (by first | omega | exact hzN_b _ _ _)).mp c28
            exact JN49  ls (mul_hz (by omega))  (lv_sub hl [0, 1, 2] rfl)
          · have c28 : ¬ ((hzN (u.2.1 6) n q) = 42) := mt (nI_eq (a := (hzN (u.2.1 6) n q)) (b := 42) (by first | omega | exact hzN_b _ _ _) (by first | omega | exact hzN_b _ _ _)).mpr c28
            refine lv_aload_n hx hb dX7_product_31 rfl (lv_at hl 0 rfl) ?_
            refine CIs.go (rcV hC hl (c_X7_here G l o R tx (qE u (nI q) (nI op) 0 (u.1 146)) q n (rfl) (hn) (hn2) (by omega)) hK hP (va_recv hK.1 hP clX7 (oQ_rd _ _ _ _ _)) q431 q433 qs3 q117 q434 mdX7_here (room_v hRm (by omega) (by omega) (by omega) (by omega)) rfl rfl dX7_product_32) ?_
            refine W_top (y := (nI (hzN (u.2.1 6) n q))) (by simp only [qE_g6]) ?_
            refine lv_bipush (v := 47) hx hb dX7_product_35 (by decide) ?_
            refine lv_icmp_eq (tgt := 49) hx hb dX7_product_37 (by decide) (fun c37 => ?_) (fun c37 => ?_)
            · have c37 : (hzN (u.2.1 6) n q) = 47 := (nI_eq (a := (hzN (u.2.1 6) n q)) (b := 47) (by first | omega | exact hzN_b _ _ _) (by first | omega | exact hzN_b _ _ _)).mp c37
              exact JN49  ls (mul_hz (by omega))  (lv_sub hl [0, 1, 2] rfl)
            · have c37 : ¬ ((hzN (u.2.1 6) n q) = 47) := mt (nI_eq (a := (hzN (u.2.1 6) n q)) (b := 47) (by first | omega | exact hzN_b _ _ _) (by first | omega | exact hzN_b _ _ _)).mpr c37
              refine lv_aload_n hx hb dX7_product_40 rfl (lv_at hl 0 rfl) ?_
              refine CIs.go (rcV hC hl (c_X7_here G l o R tx (qE u (nI q) (nI op) 0 (u.1 146)) q n (rfl) (hn) (hn2) (by omega)) hK hP (va_recv hK.1 hP clX7 (oQ_rd _ _ _ _ _)) q431 q433 qs3 q117 q434 mdX7_here (room_v hRm (by omega) (by omega) (by omega) (by omega)) rfl rfl dX7_product_41) ?_
              refine W_top (y := (nI (hzN (u.2.1 6) n q))) (by simp only [qE_g6]) ?_
              refine lv_bipush (v := 37) hx hb dX7_product_44 (by decide) ?_
              refine lv_icmp_ne (tgt := 88) hx hb dX7_product_46 (by decide) (fun c46 => ?_) (fun c46 => ?_)
              · have c46 : ¬ ((hzN (u.2.1 6) n q) = 37) := mt (nI_eq (a := (hzN (u.2.1 6) n q)) (b := 37) (by first | omega | exact hzN_b _ _ _) (by first | omega | exact hzN_b _ _ _)).mpr c46
                have hm := mul_hzn c28 c37 c46
                refine lv_aload_n hx hb dX7_product_88 rfl (lv_at hl 1 rfl) ?_
                refine W_size (fun hzz hww => ?_)
                exact hq _ _ (some a0) ((qE u (nI q) (nI op) 0 (u.1 146)), c, (fun H => (TT G (fun q => q < sg.heap.size) H (n - p + 2 * d + 1)).1 a0 acc.2)) _ _ _ _ dX7_product_89 ⟨hP, ⟨hzz, hww⟩, KT.done hKT hN_last⟩ hS (FP_r (a := (acc, q)) (hsp.trans (by rw [rdE_1, if_neg hm])) (by rw [ho1] <;> rfl) (by dsimp only; omega) (fun H h => h)) (by omega) (by omega)
              · have c46 : (hzN (u.2.1 6) n q) = 37 := (nI_eq (a := (hzN (u.2.1 6) n q)) (b := 37) (by first | omega | exact hzN_b _ _ _) (by first | omega | exact hzN_b _ _ _)).mp c46
                exact JN49  ls (mul_hz (by omega))  (lv_sub hl [0, 1, 2] rfl)
    exact LP15 _ a9.2 k9 a0 b9 0 a9.1 ((0 + 1) + g6) _ _ ls (Nat.lt_succ_self _) (hb8.1) (hb8.2) (by have := hb8.1; omega) (by unfold prodS; rw [hx9]; rfl) (by omega) (hge_a0) (hN_a0) ((KT.first hA hge_a0 hpt (Nat.le_refl _)).mono (by have := hb8.1; omega)) hP hS (lv_sub hl [2, 1, 0] rfl)
  · change rdE (u.2.1 6) n k9 0 op p a = _ at hx9
    rw [hw9, qE_again] at hP
    simp only [qE_f144] at hP
    have hl : lv_has ls 4 [(0, .ref (R 140))] := hl
    refine CXv.go (rcI (As := [.int 0, va_rf r6]) hC hl (c_X9_init G l a0 0 r6) hK hN_a0 rfl q580 q581 q125 q582 mdX9_init (room_v hRm (by omega) (by omega) (by omega) (by omega)) rfl rfl dX7_product_9) hS (fun q z => Or.inr (by rw [show q = a0 from z]; exact hge_a0)) (fun w9 H locs hpo9 hN_a0 hz hk hS => ?_)
    have hN_a0 : va_P G.1 vwCl [(a0, .inr (7, [.int 0, va_rf r6, .null]))] H := hN_a0
    have hF : Fr (fun q => q = a0) _ _ := ⟨hz, hk⟩
    have hP := PwQ.frA hP hF hD hA hge_a0
    refine lv_astore_n (lv' := [(1, .ref a0), (0, .ref (R 140))]) hx hb dX7_product_12 rfl hl (by decide) rfl (fun ls hl => ?_)
    refine lv_aload_n hx hb dX7_product_13 rfl (lv_at hl 0 rfl) ?_
    refine lv_astore_n (lv' := [(2, .ref a0), (1, .ref a0), (0, .ref (R 140))]) hx hb dX7_product_14 rfl hl (by decide) rfl (fun ls hl => ?_)
    refine lv_aload_n hx hb dX7_product_15 rfl (lv_at hl 2 rfl) ?_
    refine CIs.go (rcV hC hl (c_X7_isGood G l o R tx (qE u (nI q9) (nI op) (nI e9.1) (nI e9.2))  ) hK hP (va_recv hK.1 hP clX7 (oQ_rd _ _ _ _ _)) q423 q425 qs1 q117 q426 mdX7_isGood (room_v hRm (by omega) (by omega) (by omega) (by omega)) rfl rfl dX7_product_16) ?_
    refine W_top (y := (bI (isGB (nI e9.1)))) (by simp only [qE_f145]) ?_
    refine W_top (y := 0) (by rw [he9.1]; rfl) ?_
    refine lv_if_eq (tgt := 88) hx hb dX7_product_19 (by decide) (fun c19 => ?_) (fun c19 => ?_)
    · refine lv_aload_n hx hb dX7_product_88 rfl (lv_at hl 1 rfl) ?_
      refine W_size (fun hzz hww => ?_)
      exact hq _ _ (some a0) ((qE u (nI q9) (nI op) (nI e9.1) (nI e9.2)), ((0 + 1) + g6), (fun _ => True)) _ _ _ _ dX7_product_89 ⟨hP, ⟨hzz, hww⟩, trivial⟩ hS (FP_l (e := e9) (q := q9) (by unfold prodS; rw [hx9]; rfl) (by omega) (by rw [ho1] <;> rfl) he9 (by omega)) (by omega) (by omega)
    · exact absurd c19 (by decide)
set_option maxHeartbeats 8000000 in
theorem sum_ok (G : GG) (l : Launch) (d : Nat) (pro : ProC G l d) : SumC G l d := by
  intro σ o R tx u n p op k a H0 hD hσ hp hn ho1 hf hn2 hpn hop hk
  obtain ⟨k9, rfl⟩ : ∃ j, k = j + 1 := ⟨k - 1, by omega⟩
  refine CRq.mk RX7 (Or.inl ⟨_, rfl⟩) pnX7 rfl (Nat.le_of_ble_eq_true rfl) (fun pg en Rm sg mm ar bw mth cd QQ ls hC hRm hK hT hX hS hl hq => ?_)
  obtain ⟨hP, rfl⟩ := hX
  have hx := hC.1; have hb := hC.2.1; have ho := hC.2.2.2.1; have hts := hC.2.2.2.2
  have hrd : AwQ o R (R 140) := Or.inr ⟨140, by decide, rfl⟩
  have hA : ∀ q, AwQ o R q → q < sg.heap.size := fun q h => (hσ q h).2
  have hσ0 : σ.1 ≤ sg.heap.size := Nat.le_trans (hσ _ hrd).1 (Nat.le_of_lt (hσ _ hrd).2)
  have hσA : ∀ q, A0 o R sg.heap.size q → kpA σ q := fun q h => h.elim (fun h => (hσ q h).1) (fun h => Nat.le_trans hσ0 h)
  have hDA : ∀ (tx : Nat) (u : MS), va_D (A0 o R sg.heap.size) (celQ G o R tx u) := fun tx u => (hD G tx u).up (fun q h => Or.inl h)
  refine W_c0 ?_
  have hl : lv_has ls 4 [(0, .ref (R 140))] := hl
  have hP : PwQ G o R tx (qE u (u.1 143) (u.1 144) (u.1 145) (u.1 146)) sg.heap := by rw [qE_self]; exact hP
  rw [hp, ho1, hf] at hP
  have hge0 := hS.1
  refine F_newA tyX9 hC hK hS in_X9 tyX9_ok q530 q531 q125 clX9 (fs := [.int 0, .null, .null]) (fun j hj => by rcases (show j = 0 ∨ j = 1 ∨ j = 2 by omega) with rfl | rfl | rfl <;> rfl) (by decide) (rmc hRm (by omega)) (rms hRm (by omega)) dX7_sum_0 (fun a0 H ha_a0 hN_a0 hz_a0 hF hS => ?_)
  have hge_a0 : sg.heap.size ≤ a0 := by rw [ha_a0]; exact hge0
  have hP : PwQ G o R tx (qE u (nI p) (nI op) 0 (u.1 146)) H := va_P.fr hP hF (fun _ _ _ h => h)
  have hF : Fr (AwQ o R) _ _ := hF.up (fun q z => False.elim z)
  refine lv_dup hx hb dX7_sum_3 rfl ?_
  refine lv_iconst (v := 0) hx hb dX7_sum_4 (by decide) ?_
  refine lv_aload_n hx hb dX7_sum_5 rfl (lv_at hl 0 rfl) ?_
  have hσ2 : ∀ q, AwQ o R q → σ.1 ≤ q ∧ q < Array.size H := fun q h => ⟨(hσ q h).1, by have := (hσ q h).2; have := hS.1; omega⟩
  refine CRq.goF (rrV (As := []) hC hl (pro σ o R tx (qE u (nI p) (nI op) 0 (u.1 146)) n p op k9 a H hD hσ2 rfl hn rfl rfl hn2 (by omega) hop (by omega)) hK (stK hT hS hσA) ⟨hP, rfl⟩ (va_recv hK.1 hP clX7 (oQ_rd _ _ _ _ _)) q532 q534 qs6 q117 q535 mdX7_product (room_v hRm (by omega) (by omega) (by omega) (by omega)) rfl rfl dX7_sum_6) hS hA (fun r6 w6 g6 X6 H locs hpo6 hP hX6 hF hS => ?_)
  have hN_a0 := hN_a0.fr1 hF (nAw hA hge_a0)
  rcases FP_c hpo6 with ⟨a9, b9, hx9, hw9, hg9, rfl, hb9⟩ | ⟨e9, q9, hx9, hq9, hw9, he9, hg9⟩
  · change prodS (u.2.1 6) n k9 op p a = _ at hx9
    have hb8 := prodS_b (f := (u.2.1 6)) (k := k9) (show p ≤ n by omega) hx9
    rw [hw9, qE_again] at hP
    simp only [qE_f144, qE_f146] at hP
    have hpt := hb9 _ hX6
    rw [hz_a0] at hpt
    have hl : lv_has ls 4 [(0, .ref (R 140))] := hl
    refine CXv.go (rcI (As := [.int 0, va_rf (some b9)]) hC hl (c_X9_init G l a0 0 (some b9)) hK hN_a0 rfl q580 q581 q125 q582 mdX9_init (room_v hRm (by omega) (by omega) (by omega) (by omega)) rfl rfl dX7_sum_9) hS (fun q z => Or.inr (by rw [show q = a0 from z]; exact hge_a0)) (fun w9 H locs hpo9 hN_a0 hz hk hS => ?_)
    have hN_a0 : va_P G.1 vwCl [(a0, .inr (7, [.int 0, va_rf (some b9), .null]))] H := hN_a0
    have hF : Fr (fun q => q = a0) _ _ := ⟨hz, hk⟩
    have hP := PwQ.frA hP hF hD hA hge_a0
    have hpt := TT.fr hpt hF (fun q z => by have z : q = a0 := z; omega)
    refine lv_astore_n (lv' := [(1, .ref a0), (0, .ref (R 140))]) hx hb dX7_sum_12 rfl hl (by decide) rfl (fun ls hl => ?_)
    refine lv_aload_n hx hb dX7_sum_13 rfl (lv_at hl 0 rfl) ?_
    refine lv_astore_n (lv' := [(2, .ref a0), (1, .ref a0), (0, .ref (R 140))]) hx hb dX7_sum_14 rfl hl (by decide) rfl (fun ls hl => ?_)
    have LP15 : ∀ (fu15 : Nat) (q : Nat) (k8 : Nat) (last : Nat) (pp : Nat) (sn : Int32) (acc : SA) (c : Nat) (H : Heap) (locs : List Loc) (ls : Array Slot), n + 1 - q < fu15 → p < q → q ≤ n → 2 * (n + 1 - q) + 2 ≤ k8 → rdE (u.2.1 6) n (k9 + 1) 3 op p a = rdE (u.2.1 6) n k8 2 op q acc → c + 0 ≤ 3 * (q - p) → sg.heap.size ≤ last → va_P G.1 vwCl [(last, .inr (7, [.int sn, .ref pp, .null]))] H → KT G (AwQ o R) sg.heap.size H a0 last sn pp (n - q + 2 * d + 1) (n - p + 2 * d + 1 + 1) acc.2 → PwQ G o R tx (qE u (nI q) (nI op) 0 (u.1 146)) H → va_S (A0 o R sg.heap.size) sg.heap H locs → lv_has ls 4 [(0, .ref (R 140)), (1, .ref a0), (2, .ref last)] → W pg l en Rm sg mm ar bw mth cd H locs c (3 * c) QQ (F0 mm 15 ls []) := by
      intro fu15
      induction fu15 with
      | zero => intro q k8 last pp sn acc c H locs ls hm15 hqp hqn hk9 hsp hcc hge_last hN_last hKT hP hS hl; exact absurd hm15 (Nat.not_lt_zero _)
      | succ fu15 ih15 =>
        intro q k8 last pp sn acc c H locs ls hm15 hqp hqn hk9 hsp hcc hge_last hN_last hKT hP hS hl
        have hSK := SK.ofT (KT.done hKT hN_last)
        have hB := Fr.rf (fun q => AwQ o R q ∨ q = last) H
        have hll := (hN_last 0 _ rfl).lt
        obtain ⟨k8, rfl⟩ : ∃ j, k8 = j + 1 := ⟨k8 - 1, by omega⟩
        refine lv_aload_n hx hb dX7_sum_15 rfl (lv_at hl 0 rfl) ?_
        refine CIs.go (rcV hC hl (c_X7_isGood G l o R tx (qE u (nI q) (nI op) 0 (u.1 146))  ) hK hP (va_recv hK.1 hP clX7 (oQ_rd _ _ _ _ _)) q423 q425 qs1 q117 q426 mdX7_isGood (room_v hRm (by omega) (by omega) (by omega) (by omega)) rfl rfl dX7_sum_16) ?_
        refine W_top (y := (bI (isGB 0))) (by simp only [qE_f145]) ?_
        refine W_top (y := 1) (by decide) ?_
        refine lv_if_eq (tgt := 79) hx hb dX7_sum_19 (by decide) (fun c19 => ?_) (fun c19 => ?_)
        · exact absurd c19 (by decide)
        · have JN40 : ∀  (ls : Array Slot), addC (ckN (u.2.1 6) n q) = true ∧ q < n ∧ nI (hzN (u.2.1 6) n q) = nI (ckN (u.2.1 6) n q) → lv_has ls 4 [(0, .ref (R 140)), (1, .ref a0), (2, .ref last)] → W pg l en Rm sg mm ar bw mth cd H locs c (3 * c) QQ (F0 mm 40 ls []) := by
            intro ls hm hl
            refine lv_aload_n hx hb dX7_sum_40 rfl (lv_at hl 0 rfl) ?_
            refine CIs.go (rcV hC hl (c_X7_here G l o R tx (qE u (nI q) (nI op) 0 (u.1 146)) q n (rfl) (hn) (hn2) (by omega)) hK hP (va_recv hK.1 hP clX7 (oQ_rd _ _ _ _ _)) q431 q433 qs3 q117 q434 mdX7_here (room_v hRm (by omega) (by omega) (by omega) (by omega)) rfl rfl dX7_sum_41) ?_
            refine W_top (y := (nI (hzN (u.2.1 6) n q))) (by simp only [qE_g6]) ?_
            refine lv_istore_n (lv' := [(3, .int (nI (hzN (u.2.1 6) n q))), (0, .ref (R 140)), (1, .ref a0), (2, .ref last)]) hx hb dX7_sum_44 rfl hl (by decide) rfl (fun ls hl => ?_)
            refine lv_aload_n hx hb dX7_sum_45 rfl (lv_at hl 1 rfl) ?_
            refine lv_dup hx hb dX7_sum_46 rfl ?_
            refine S_get hC hK hP (oQ_rd _ _ _ _ _) clX7 in_X7 2 (by decide) (fD143 _ _ _ _) q399 dX7_sum_47 ?_
            refine W_top (y := (nI q)) (by rw [qE_f143]) ?_
            refine lv_iconst (v := 1) hx hb dX7_sum_50 (by decide) ?_
            refine lv_iadd hx hb dX7_sum_51 ?_
            refine W_top (nI_add q 1) ?_
            refine F_put hC hK hP (hDA _ _) hS (oQ_rd _ _ _ _ _) clX7 in_X7 tyX7_ok nmX7 2 (by decide) (pQ143 _ _ _ _ _ _) q399 rfl rfl rfl rfl (Nat.le_of_ble_eq_true rfl) dX7_sum_52 (fun H locs hP hS hF => ?_)
            rw [qE_V143] at hP
            have hF : Fr (AwQ o R) _ _ := hF.up (fun q z => by rw [show q = R 140 from z]; exact hrd)
            have hN_last := hN_last.fr1 hF (nAw hA hge_last)
            have hB := hB.tr (hF.up (fun q z => Or.inl z))
            have hSK := hSK.fr hF (nAw hA hge_a0)
            refine lv_aload_n hx hb dX7_sum_55 rfl (lv_at hl 3 rfl) ?_
            have hge0 := hS.1
            refine F_newA tyX9 hC hK hS in_X9 tyX9_ok q530 q531 q125 clX9 (fs := [.int 0, .null, .null]) (fun j hj => by rcases (show j = 0 ∨ j = 1 ∨ j = 2 by omega) with rfl | rfl | rfl <;> rfl) (by decide) (rmc hRm (by omega)) (rms hRm (by omega)) dX7_sum_56 (fun a56 H ha_a56 hN_a56 hz_a56 hF hS => ?_)
            have hge_a56 : sg.heap.size ≤ a56 := by rw [ha_a56]; exact hge0
            have hla_a56 := Nat.le_trans hB.1 (Nat.le_of_eq ha_a56.symm)
            have hP : PwQ G o R tx (qE u (nI (q + 1)) (nI op) 0 (u.1 146)) H := va_P.fr hP hF (fun _ _ _ h => h)
            have hF : Fr (AwQ o R) _ _ := hF.up (fun q z => False.elim z)
            have hN_last := hN_last.fr1 hF (nAw hA hge_last)
            have hB := hB.tr (hF.up (fun q z => Or.inl z))
            have hSK := hSK.fr hF (nAw hA hge_a0)
            refine lv_dup hx hb dX7_sum_59 rfl ?_
            refine lv_iload_n hx hb dX7_sum_60 rfl (lv_at hl 0 rfl) ?_
            refine lv_aload_n hx hb dX7_sum_61 rfl (lv_at hl 1 rfl) ?_
            have hσ3 : ∀ q, AwQ o R q → σ.1 ≤ q ∧ q < Array.size H := fun q h => ⟨(hσ q h).1, by have := (hσ q h).2; have := hS.1; omega⟩
            have hqn1 := hm.2.1
            refine CRq.goF (rrV (As := []) hC hl (pro σ o R tx (qE u (nI (q + 1)) (nI op) 0 (u.1 146)) n (q + 1) op k8 acc H hD hσ3 rfl hn rfl rfl hn2 (by omega) hop (by omega)) hK (stK hT hS hσA) ⟨hP, rfl⟩ (va_recv hK.1 hP clX7 (oQ_rd _ _ _ _ _)) q532 q534 qs6 q117 q535 mdX7_product (room_v hRm (by omega) (by omega) (by omega) (by omega)) rfl rfl dX7_sum_62) hS hA (fun r62 w62 g62 X62 H locs hpo62 hP hX62 hF hS => ?_)
            have hN_last := hN_last.fr1 hF (nAw hA hge_last)
            have hB := hB.tr (hF.up (fun q z => Or.inl z))
            have hSK := hSK.fr hF (nAw hA hge_a0)
            have hN_a56 := hN_a56.fr1 hF (nAw hA hge_a56)
            rcases FP_c hpo62 with ⟨a8, b8, hx8, hw8, hg8, rfl, hb8⟩ | ⟨e8, q8, hx8, hq8, hw8, he8, hg8⟩
            · change prodS (u.2.1 6) n k8 op (q + 1) acc = _ at hx8
              have hbb8 := prodS_b (f := (u.2.1 6)) (k := k8) (show q + 1 ≤ n by omega) hx8
              rw [hw8, qE_again] at hP
              simp only [qE_f144, qE_f146] at hP
              have hpt8 := hb8 _ hX62
              rw [hz_a56] at hpt8
              have hl : lv_has ls 4 [(3, .int (nI (hzN (u.2.1 6) n q))), (0, .ref (R 140)), (1, .ref a0), (2, .ref last)] := hl
              refine CXv.go (rcI (As := [.int (nI (hzN (u.2.1 6) n q)), va_rf (some b8)]) hC hl (c_X9_init G l a56 (nI (hzN (u.2.1 6) n q)) (some b8)) hK hN_a56 rfl q580 q581 q125 q582 mdX9_init (room_v hRm (by omega) (by omega) (by omega) (by omega)) rfl rfl dX7_sum_65) hS (fun q z => Or.inr (by rw [show q = a56 from z]; exact hge_a56)) (fun w65 H locs hpo65 hN_a56 hz hk hS => ?_)
              have hN_a56 : va_P G.1 vwCl [(a56, .inr (7, [.int (nI (hzN (u.2.1 6) n q)), va_rf (some b8), .null]))] H := hN_a56
              have hF : Fr (fun q => q = a56) _ _ := ⟨hz, hk⟩
              have hP := PwQ.frA hP hF hD hA hge_a56
              have hN_last := hN_last.fr1 hF (fun z => by have z : last = a56 := z; omega)
              have hB := hB.tr1 hF (by first | exact hla_a56 | omega)
              have hSK := hSK.put hF hN_a56
              have hpt8 := TT.fr hpt8 hF (fun q z => by have z : q = a56 := z; omega)
              refine F_putN (q0 := 0) (fs := [.int sn, .ref pp, .null]) (ws' := [(last, .inr (7, [.int sn, .ref pp, .ref a56]))]) hC hK hN_last (va_D.one (Or.inr hge_last)) hS rfl clX9 in_X9 tyX9_ok nmX9 2 (by decide) rfl nq587 rfl rfl rfl rfl (Nat.le_of_ble_eq_true rfl) dX7_sum_68 (fun H locs hN_last hS hF => ?_)
              have hP := PwQ.frA hP hF hD hA hge_last
              have hB := hB.tr (hF.up (fun q z => Or.inr z))
              have hSK := hSK.put hF hN_last
              have hN_a56 := hN_a56.fr1 hF (fun z => by have z : a56 = last := z; omega)
              have hpt8 := TT.fr hpt8 hF (fun q z => by have z : q = last := z; omega)
              refine lv_aload_n hx hb dX7_sum_71 rfl (lv_at hl 3 rfl) ?_
              refine S_getN (v := .ref a56) hC hK hN_last (q0 := 0) rfl clX9 in_X9 2 (by decide) rfl nq587 dX7_sum_72 ?_
              refine lv_astore_n (lv' := [(2, .ref a56), (3, .int (nI (hzN (u.2.1 6) n q))), (0, .ref (R 140)), (1, .ref a0)]) hx hb dX7_sum_75 rfl hl (by decide) rfl (fun ls hl => ?_)
              refine lv_goto (tgt := 15) hx hb dX7_sum_76 (by decide) ?_
              exact ih15 a8.2 k8 a56 b8 (nI (hzN (u.2.1 6) n q)) (acc.1 ++ a8.1.1 ++ [UN * sgC (ckN (u.2.1 6) n q)], sgD (ckN (u.2.1 6) n q) acc.2 a8.1.2) ((c + 1) + g62) _ _ ls (by have := hbb8.1; omega) (by have := hbb8.1; omega) (hbb8.2) (by have := hbb8.1; omega) (hsp.trans (by rw [rdE_2, if_pos hm.1, hx8]; rfl)) (by have := hbb8.1; omega) (hge_a56) (hN_a56) (KT.step (D1 := n - (q + 1) + 2 * d + 1) hKT hA hge_last hll hla_a56 hB hN_last hpt8 hm.2.2 (Nat.le_refl _) (by have := hbb8.1; omega) (by have := hm.2.1; omega)) hP hS (lv_sub hl [2, 3, 0] rfl)
            · change prodS (u.2.1 6) n k8 op (q + 1) acc = _ at hx8
              rw [hw8, qE_again] at hP
              simp only [qE_f144] at hP
              have hl : lv_has ls 4 [(3, .int (nI (hzN (u.2.1 6) n q))), (0, .ref (R 140)), (1, .ref a0), (2, .ref last)] := hl
              refine CXv.go (rcI (As := [.int (nI (hzN (u.2.1 6) n q)), va_rf r62]) hC hl (c_X9_init G l a56 (nI (hzN (u.2.1 6) n q)) r62) hK hN_a56 rfl q580 q581 q125 q582 mdX9_init (room_v hRm (by omega) (by omega) (by omega) (by omega)) rfl rfl dX7_sum_65) hS (fun q z => Or.inr (by rw [show q = a56 from z]; exact hge_a56)) (fun w65 H locs hpo65 hN_a56 hz hk hS => ?_)
              have hN_a56 : va_P G.1 vwCl [(a56, .inr (7, [.int (nI (hzN (u.2.1 6) n q)), va_rf r62, .null]))] H := hN_a56
              have hF : Fr (fun q => q = a56) _ _ := ⟨hz, hk⟩
              have hP := PwQ.frA hP hF hD hA hge_a56
              have hN_last := hN_last.fr1 hF (fun z => by have z : last = a56 := z; omega)
              have hB := hB.tr1 hF (by first | exact hla_a56 | omega)
              have hSK := hSK.put hF hN_a56
              refine F_putN (q0 := 0) (fs := [.int sn, .ref pp, .null]) (ws' := [(last, .inr (7, [.int sn, .ref pp, .ref a56]))]) hC hK hN_last (va_D.one (Or.inr hge_last)) hS rfl clX9 in_X9 tyX9_ok nmX9 2 (by decide) rfl nq587 rfl rfl rfl rfl (Nat.le_of_ble_eq_true rfl) dX7_sum_68 (fun H locs hN_last hS hF => ?_)
              have hP := PwQ.frA hP hF hD hA hge_last
              have hB := hB.tr (hF.up (fun q z => Or.inr z))
              have hSK := hSK.put hF hN_last
              have hN_a56 := hN_a56.fr1 hF (fun z => by have z : a56 = last := z; omega)
              refine lv_aload_n hx hb dX7_sum_71 rfl (lv_at hl 3 rfl) ?_
              refine S_getN (v := .ref a56) hC hK hN_last (q0 := 0) rfl clX9 in_X9 2 (by decide) rfl nq587 dX7_sum_72 ?_
              refine lv_astore_n (lv' := [(2, .ref a56), (3, .int (nI (hzN (u.2.1 6) n q))), (0, .ref (R 140)), (1, .ref a0)]) hx hb dX7_sum_75 rfl hl (by decide) rfl (fun ls hl => ?_)
              refine lv_goto (tgt := 15) hx hb dX7_sum_76 (by decide) ?_
              refine lv_aload_n hx hb dX7_sum_15 rfl (lv_at hl 2 rfl) ?_
              refine CIs.go (rcV hC hl (c_X7_isGood G l o R tx (qE u (nI q8) (nI op) (nI e8.1) (nI e8.2))  ) hK hP (va_recv hK.1 hP clX7 (oQ_rd _ _ _ _ _)) q423 q425 qs1 q117 q426 mdX7_isGood (room_v hRm (by omega) (by omega) (by omega) (by omega)) rfl rfl dX7_sum_16) ?_
              refine W_top (y := (bI (isGB (nI e8.1)))) (by simp only [qE_f145]) ?_
              refine W_top (y := 0) (by rw [he8.1]; rfl) ?_
              refine lv_if_eq (tgt := 79) hx hb dX7_sum_19 (by decide) (fun c19 => ?_) (fun c19 => ?_)
              · refine lv_aload_n hx hb dX7_sum_79 rfl (lv_at hl 3 rfl) ?_
                refine W_size (fun hzz hww => ?_)
                exact hq _ _ (some a0) ((qE u (nI q8) (nI op) (nI e8.1) (nI e8.2)), ((c + 1) + g62), (fun H => SK 7 G a0 H)) _ _ _ _ dX7_sum_80 ⟨hP, ⟨hzz, hww⟩, hSK⟩ hS (⟨FP_l (e := e8) (q := q8) (hsp.trans (by rw [rdE_2, if_pos hm.1, hx8] <;> rfl)) (by omega) (by rw [ho1] <;> rfl) he8 (by omega), fun H h b hb => by cases hb; exact ⟨h, hge_a0⟩⟩) (by omega) (by omega)
              · exact absurd c19 (by decide)
          refine lv_aload_n hx hb dX7_sum_22 rfl (lv_at hl 0 rfl) ?_
          refine CIs.go (rcV hC hl (c_X7_here G l o R tx (qE u (nI q) (nI op) 0 (u.1 146)) q n (rfl) (hn) (hn2) (by omega)) hK hP (va_recv hK.1 hP clX7 (oQ_rd _ _ _ _ _)) q431 q433 qs3 q117 q434 mdX7_here (room_v hRm (by omega) (by omega) (by omega) (by omega)) rfl rfl dX7_sum_23) ?_
          refine W_top (y := (nI (hzN (u.2.1 6) n q))) (by simp only [qE_g6]) ?_
          refine lv_bipush (v := 43) hx hb dX7_sum_26 (by decide) ?_
          refine lv_icmp_eq (tgt := 40) hx hb dX7_sum_28 (by decide) (fun c28 => ?_) (fun c28 => ?_)
          · have c28 : (hzN (u.2.1 6) n q) = 43 := (nI_eq (a := (hzN (u.2.1 6) n q)) (b := 43) (by first | omega | exact hzN_b _ _ _) (by first | omega | exact hzN_b _ _ _)).mp c28
            exact JN40  ls (add_hz (by omega))  (lv_sub hl [0, 1, 2] rfl)
          · have c28 : ¬ ((hzN (u.2.1 6) n q) = 43) := mt (nI_eq (a := (hzN (u.2.1 6) n q)) (b := 43) (by first | omega | exact hzN_b _ _ _) (by first | omega | exact hzN_b _ _ _)).mpr c28
            refine lv_aload_n hx hb dX7_sum_31 rfl (lv_at hl 0 rfl) ?_
            refine CIs.go (rcV hC hl (c_X7_here G l o R tx (qE u (nI q) (nI op) 0 (u.1 146)) q n (rfl) (hn) (hn2) (by omega)) hK hP (va_recv hK.1 hP clX7 (oQ_rd _ _ _ _ _)) q431 q433 qs3 q117 q434 mdX7_here (room_v hRm (by omega) (by omega) (by omega) (by omega)) rfl rfl dX7_sum_32) ?_
            refine W_top (y := (nI (hzN (u.2.1 6) n q))) (by simp only [qE_g6]) ?_
            refine lv_bipush (v := 45) hx hb dX7_sum_35 (by decide) ?_
            refine lv_icmp_ne (tgt := 79) hx hb dX7_sum_37 (by decide) (fun c37 => ?_) (fun c37 => ?_)
            · have c37 : ¬ ((hzN (u.2.1 6) n q) = 45) := mt (nI_eq (a := (hzN (u.2.1 6) n q)) (b := 45) (by first | omega | exact hzN_b _ _ _) (by first | omega | exact hzN_b _ _ _)).mpr c37
              have hm := add_hzn c28 c37
              refine lv_aload_n hx hb dX7_sum_79 rfl (lv_at hl 1 rfl) ?_
              refine W_size (fun hzz hww => ?_)
              exact hq _ _ (some a0) ((qE u (nI q) (nI op) 0 (u.1 146)), c, (fun H => (TT G (fun q => q < sg.heap.size) H (n - p + 2 * d + 1 + 1)).1 a0 acc.2 ∧ SK 7 G a0 H)) _ _ _ _ dX7_sum_80 ⟨hP, ⟨hzz, hww⟩, ⟨KT.done hKT hN_last, hSK⟩⟩ hS (⟨FP_r (a := (acc, q)) (hsp.trans (by rw [rdE_2, if_neg hm])) (by rw [ho1] <;> rfl) (by dsimp only; omega) (fun H h => h.1), fun H h b hb => by cases hb; exact ⟨h.2, hge_a0⟩⟩) (by omega) (by omega)
            · have c37 : (hzN (u.2.1 6) n q) = 45 := (nI_eq (a := (hzN (u.2.1 6) n q)) (b := 45) (by first | omega | exact hzN_b _ _ _) (by first | omega | exact hzN_b _ _ _)).mp c37
              exact JN40  ls (add_hz (by omega))  (lv_sub hl [0, 1, 2] rfl)
    exact LP15 _ a9.2 k9 a0 b9 0 a9.1 ((0 + 1) + g6) _ _ ls (Nat.lt_succ_self _) (hb8.1) (hb8.2) (by have := hb8.1; omega) (by rw [rdE_3, hx9]; rfl) (by omega) (hge_a0) (hN_a0) ((KT.first hA hge_a0 hpt (Nat.le_refl _)).mono (by have := hb8.1; omega)) hP hS (lv_sub hl [2, 1, 0] rfl)
  · change prodS (u.2.1 6) n k9 op p a = _ at hx9
    rw [hw9, qE_again] at hP
    simp only [qE_f144] at hP
    have hl : lv_has ls 4 [(0, .ref (R 140))] := hl
    refine CXv.go (rcI (As := [.int 0, va_rf r6]) hC hl (c_X9_init G l a0 0 r6) hK hN_a0 rfl q580 q581 q125 q582 mdX9_init (room_v hRm (by omega) (by omega) (by omega) (by omega)) rfl rfl dX7_sum_9) hS (fun q z => Or.inr (by rw [show q = a0 from z]; exact hge_a0)) (fun w9 H locs hpo9 hN_a0 hz hk hS => ?_)
    have hN_a0 : va_P G.1 vwCl [(a0, .inr (7, [.int 0, va_rf r6, .null]))] H := hN_a0
    have hF : Fr (fun q => q = a0) _ _ := ⟨hz, hk⟩
    have hP := PwQ.frA hP hF hD hA hge_a0
    refine lv_astore_n (lv' := [(1, .ref a0), (0, .ref (R 140))]) hx hb dX7_sum_12 rfl hl (by decide) rfl (fun ls hl => ?_)
    refine lv_aload_n hx hb dX7_sum_13 rfl (lv_at hl 0 rfl) ?_
    refine lv_astore_n (lv' := [(2, .ref a0), (1, .ref a0), (0, .ref (R 140))]) hx hb dX7_sum_14 rfl hl (by decide) rfl (fun ls hl => ?_)
    refine lv_aload_n hx hb dX7_sum_15 rfl (lv_at hl 2 rfl) ?_
    refine CIs.go (rcV hC hl (c_X7_isGood G l o R tx (qE u (nI q9) (nI op) (nI e9.1) (nI e9.2))  ) hK hP (va_recv hK.1 hP clX7 (oQ_rd _ _ _ _ _)) q423 q425 qs1 q117 q426 mdX7_isGood (room_v hRm (by omega) (by omega) (by omega) (by omega)) rfl rfl dX7_sum_16) ?_
    refine W_top (y := (bI (isGB (nI e9.1)))) (by simp only [qE_f145]) ?_
    refine W_top (y := 0) (by rw [he9.1]; rfl) ?_
    refine lv_if_eq (tgt := 79) hx hb dX7_sum_19 (by decide) (fun c19 => ?_) (fun c19 => ?_)
    · refine lv_aload_n hx hb dX7_sum_79 rfl (lv_at hl 1 rfl) ?_
      refine W_size (fun hzz hww => ?_)
      exact hq _ _ (some a0) ((qE u (nI q9) (nI op) (nI e9.1) (nI e9.2)), ((0 + 1) + g6), (fun H => SK 7 G a0 H)) _ _ _ _ dX7_sum_80 ⟨hP, ⟨hzz, hww⟩, ⟨7, _, Or.inl rfl, hN_a0⟩⟩ hS (⟨FP_l (e := e9) (q := q9) (by rw [rdE_3, hx9]; rfl) (by omega) (by rw [ho1] <;> rfl) he9 (by omega), fun H h b hb => by cases hb; exact ⟨h, hge_a0⟩⟩) (by omega) (by omega)
    · exact absurd c19 (by decide)
