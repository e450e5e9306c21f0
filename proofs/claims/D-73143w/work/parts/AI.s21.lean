set_option maxRecDepth 100000
set_option maxHeartbeats 4000000 in
theorem c_X16_here_sv (G : GG) (l : Launch) (o : Nat) (R : Nat → Nat) (tx : Nat) (u : MS) (p : Nat) (n : Nat) (hp : (u.1 102) = nI p) (hn : (u.1 101) = nI n) (hn2 : n ≤ 240) (hp2 : p ≤ 900) : CIs G l yX16_here cX16_here 1 .int 2 24 [.ref (R 100)] (PwV G o R tx u) (nI (hzN (u.2.1 6) n p)) := by
  refine CIs.mk RX16 pnX16 rfl (rfl) (Nat.le_of_ble_eq_true rfl) (fun pg en Rm sg mm ar bw mth cd QQ ls hC hRm hK hX hl hq => ?_)
  have hx := hC.1; have hb := hC.2.1; have ho := hC.2.2.2.1; have hts := hC.2.2.2.2
  have hP : PwV G o R tx u sg.heap := hX
  have hl : lv_has ls 1 [(0, .ref (R 100))] := hl
  refine lv_aload_n hx hb dX16_here_0 rfl (lv_at hl 0 rfl) ?_
  refine S_get (v := .int (u.1 102)) hC hK hP (oV_sv _ _ _ _ _) clX17 in_X17 1 (by decide) (fD102 _ _ _ _) q673 dX16_here_1 ?_
  refine W_top hp ?_
  refine lv_aload_n hx hb dX16_here_4 rfl (lv_at hl 0 rfl) ?_
  refine S_get (v := .int (u.1 101)) hC hK hP (oV_sv _ _ _ _ _) clX17 in_X17 0 (by decide) (fD101 _ _ _ _) q672 dX16_here_5 ?_
  refine W_top hn ?_
  refine lv_icmp_ge (tgt := 30) hx hb dX16_here_8 (by decide) (fun c8 => ?_) (fun c8 => ?_)
  · have c8 : n ≤ p := (nI_leI (a := n) (b := p) (by omega) (by omega)).mp c8
    refine lv_iconst (v := 0) hx hb dX16_here_30 (by decide) ?_
    exact hq _ _ _ dX16_here_31 (by first | (rw [hzN_t (by omega)]; exact pk_and _ 8 (by decide)) | (rw [hzN_f (by omega)]; rfl))
  · have c8 : ¬ (n ≤ p) := mt (nI_leI (a := n) (b := p) (by omega) (by omega)).mpr c8
    refine lv_aload_n hx hb dX16_here_11 rfl (lv_at hl 0 rfl) ?_
    refine S_get hC hK hP (oV_sv _ _ _ _ _) clX17 in_X17 4 (by decide) (fD105 _ _ _ _) q676 dX16_here_12 ?_
    refine S_getN hC hK hP (oV_main _ _ _ _ _) clX0 in_X0 6 (by decide) (fD6 _ _ _ _) nq301 dX16_here_15 ?_
    refine lv_aload_n hx hb dX16_here_18 rfl (lv_at hl 0 rfl) ?_
    refine S_get (v := .int (u.1 102)) hC hK hP (oV_sv _ _ _ _ _) clX17 in_X17 1 (by decide) (fD102 _ _ _ _) q673 dX16_here_19 ?_
    refine W_top hp ?_
    refine S_bald hC hK hP (aV6 _ _ _ _ _) (j := p) (by decide) (rfl) (by omega) dX16_here_22 ?_
    refine lv_sipush (v := 255) hx hb dX16_here_23 (by decide) ?_
    refine lv_iand hx hb dX16_here_26 ?_
    refine lv_goto (tgt := 31) hx hb dX16_here_27 (by decide) ?_
    exact hq _ _ _ dX16_here_31 (by first | (rw [hzN_t (by omega)]; exact pk_and _ 8 (by decide)) | (rw [hzN_f (by omega)]; rfl))
set_option maxHeartbeats 4000000 in
theorem c_X16_here_ck (G : GG) (l : Launch) (o : Nat) (R : Nat → Nat) (tx : Nat) (u : MS) (p : Nat) (n : Nat) (hp : (u.1 122) = nI p) (hn : (u.1 121) = nI n) (hn2 : n ≤ 240) (hp2 : p ≤ 900) : CIs G l yX16_here cX16_here 1 .int 2 24 [.ref (R 120)] (PwC G o R tx u) (nI (hzN (u.2.1 6) n p)) := by
  refine CIs.mk RX16 pnX16 rfl (rfl) (Nat.le_of_ble_eq_true rfl) (fun pg en Rm sg mm ar bw mth cd QQ ls hC hRm hK hX hl hq => ?_)
  have hx := hC.1; have hb := hC.2.1; have ho := hC.2.2.2.1; have hts := hC.2.2.2.2
  have hP : PwC G o R tx u sg.heap := hX
  have hl : lv_has ls 1 [(0, .ref (R 120))] := hl
  refine lv_aload_n hx hb dX16_here_0 rfl (lv_at hl 0 rfl) ?_
  refine S_get (v := .int (u.1 122)) hC hK hP (oC_ck _ _ _ _ _) clX18 in_X18 1 (by decide) (fD122 _ _ _ _) q673 dX16_here_1 ?_
  refine W_top hp ?_
  refine lv_aload_n hx hb dX16_here_4 rfl (lv_at hl 0 rfl) ?_
  refine S_get (v := .int (u.1 121)) hC hK hP (oC_ck _ _ _ _ _) clX18 in_X18 0 (by decide) (fD121 _ _ _ _) q672 dX16_here_5 ?_
  refine W_top hn ?_
  refine lv_icmp_ge (tgt := 30) hx hb dX16_here_8 (by decide) (fun c8 => ?_) (fun c8 => ?_)
  · have c8 : n ≤ p := (nI_leI (a := n) (b := p) (by omega) (by omega)).mp c8
    refine lv_iconst (v := 0) hx hb dX16_here_30 (by decide) ?_
    exact hq _ _ _ dX16_here_31 (by first | (rw [hzN_t (by omega)]; exact pk_and _ 8 (by decide)) | (rw [hzN_f (by omega)]; rfl))
  · have c8 : ¬ (n ≤ p) := mt (nI_leI (a := n) (b := p) (by omega) (by omega)).mpr c8
    refine lv_aload_n hx hb dX16_here_11 rfl (lv_at hl 0 rfl) ?_
    refine S_get hC hK hP (oC_ck _ _ _ _ _) clX18 in_X18 4 (by decide) (fD125 _ _ _ _) q676 dX16_here_12 ?_
    refine S_getN hC hK hP (oC_main _ _ _ _ _) clX0 in_X0 6 (by decide) (fD6 _ _ _ _) nq301 dX16_here_15 ?_
    refine lv_aload_n hx hb dX16_here_18 rfl (lv_at hl 0 rfl) ?_
    refine S_get (v := .int (u.1 122)) hC hK hP (oC_ck _ _ _ _ _) clX18 in_X18 1 (by decide) (fD122 _ _ _ _) q673 dX16_here_19 ?_
    refine W_top hp ?_
    refine S_bald hC hK hP (aC6 _ _ _ _ _) (j := p) (by decide) (rfl) (by omega) dX16_here_22 ?_
    refine lv_sipush (v := 255) hx hb dX16_here_23 (by decide) ?_
    refine lv_iand hx hb dX16_here_26 ?_
    refine lv_goto (tgt := 31) hx hb dX16_here_27 (by decide) ?_
    exact hq _ _ _ dX16_here_31 (by first | (rw [hzN_t (by omega)]; exact pk_and _ 8 (by decide)) | (rw [hzN_f (by omega)]; rfl))
set_option maxHeartbeats 4000000 in
theorem c_X16_isGood_sv (G : GG) (l : Launch) (o : Nat) (R : Nat → Nat) (tx : Nat) (u : MS) : CIs G l yX16_isGood cX16_isGood 1 .boolean 2 24 [.ref (R 100)] (PwV G o R tx u) (bI (isGB (u.1 103))) := by
  refine CIs.mk RX16 pnX16 rfl (bI_nar _) (Nat.le_of_ble_eq_true rfl) (fun pg en Rm sg mm ar bw mth cd QQ ls hC hRm hK hX hl hq => ?_)
  have hx := hC.1; have hb := hC.2.1; have ho := hC.2.2.2.1; have hts := hC.2.2.2.2
  have hP : PwV G o R tx u sg.heap := hX
  have hl : lv_has ls 1 [(0, .ref (R 100))] := hl
  refine lv_aload_n hx hb dX16_isGood_0 rfl (lv_at hl 0 rfl) ?_
  refine S_get (v := .int (u.1 103)) hC hK hP (oV_sv _ _ _ _ _) clX17 in_X17 2 (by decide) (fD103 _ _ _ _) q674 dX16_isGood_1 ?_
  refine lv_if_ne (tgt := 11) hx hb dX16_isGood_4 (by decide) (fun c4 => ?_) (fun c4 => ?_)
  · refine lv_iconst (v := 0) hx hb dX16_isGood_11 (by decide) ?_
    exact hq _ _ _ dX16_isGood_12 (by simp [isGB, bI, *])
  · refine lv_iconst (v := 1) hx hb dX16_isGood_7 (by decide) ?_
    refine lv_goto (tgt := 12) hx hb dX16_isGood_8 (by decide) ?_
    exact hq _ _ _ dX16_isGood_12 (by simp [isGB, bI, *])
set_option maxHeartbeats 4000000 in
theorem c_X16_isGood_ck (G : GG) (l : Launch) (o : Nat) (R : Nat → Nat) (tx : Nat) (u : MS) : CIs G l yX16_isGood cX16_isGood 1 .boolean 2 24 [.ref (R 120)] (PwC G o R tx u) (bI (isGB (u.1 123))) := by
  refine CIs.mk RX16 pnX16 rfl (bI_nar _) (Nat.le_of_ble_eq_true rfl) (fun pg en Rm sg mm ar bw mth cd QQ ls hC hRm hK hX hl hq => ?_)
  have hx := hC.1; have hb := hC.2.1; have ho := hC.2.2.2.1; have hts := hC.2.2.2.2
  have hP : PwC G o R tx u sg.heap := hX
  have hl : lv_has ls 1 [(0, .ref (R 120))] := hl
  refine lv_aload_n hx hb dX16_isGood_0 rfl (lv_at hl 0 rfl) ?_
  refine S_get (v := .int (u.1 123)) hC hK hP (oC_ck _ _ _ _ _) clX18 in_X18 2 (by decide) (fD123 _ _ _ _) q674 dX16_isGood_1 ?_
  refine lv_if_ne (tgt := 11) hx hb dX16_isGood_4 (by decide) (fun c4 => ?_) (fun c4 => ?_)
  · refine lv_iconst (v := 0) hx hb dX16_isGood_11 (by decide) ?_
    exact hq _ _ _ dX16_isGood_12 (by simp [isGB, bI, *])
  · refine lv_iconst (v := 1) hx hb dX16_isGood_7 (by decide) ?_
    refine lv_goto (tgt := 12) hx hb dX16_isGood_8 (by decide) ?_
    exact hq _ _ _ dX16_isGood_12 (by simp [isGB, bI, *])
set_option maxHeartbeats 4000000 in
theorem c_X16_place_sv (G : GG) (l : Launch) (o : Nat) (R : Nat → Nat) (tx : Nat) (u : MS) : CIs G l yX16_place cX16_place 1 .int 2 24 [.ref (R 100)] (PwV G o R tx u) ((u.1 102)) := by
  refine CIs.mk RX16 pnX16 rfl (rfl) (Nat.le_of_ble_eq_true rfl) (fun pg en Rm sg mm ar bw mth cd QQ ls hC hRm hK hX hl hq => ?_)
  have hx := hC.1; have hb := hC.2.1; have ho := hC.2.2.2.1; have hts := hC.2.2.2.2
  have hP : PwV G o R tx u sg.heap := hX
  have hl : lv_has ls 1 [(0, .ref (R 100))] := hl
  refine lv_aload_n hx hb dX16_place_0 rfl (lv_at hl 0 rfl) ?_
  refine S_get (v := .int (u.1 102)) hC hK hP (oV_sv _ _ _ _ _) clX17 in_X17 1 (by decide) (fD102 _ _ _ _) q673 dX16_place_1 ?_
  exact hq _ _ _ dX16_place_4 (by rfl)
set_option maxHeartbeats 4000000 in
theorem c_X16_place_ck (G : GG) (l : Launch) (o : Nat) (R : Nat → Nat) (tx : Nat) (u : MS) : CIs G l yX16_place cX16_place 1 .int 2 24 [.ref (R 120)] (PwC G o R tx u) ((u.1 122)) := by
  refine CIs.mk RX16 pnX16 rfl (rfl) (Nat.le_of_ble_eq_true rfl) (fun pg en Rm sg mm ar bw mth cd QQ ls hC hRm hK hX hl hq => ?_)
  have hx := hC.1; have hb := hC.2.1; have ho := hC.2.2.2.1; have hts := hC.2.2.2.2
  have hP : PwC G o R tx u sg.heap := hX
  have hl : lv_has ls 1 [(0, .ref (R 120))] := hl
  refine lv_aload_n hx hb dX16_place_0 rfl (lv_at hl 0 rfl) ?_
  refine S_get (v := .int (u.1 122)) hC hK hP (oC_ck _ _ _ _ _) clX18 in_X18 1 (by decide) (fD122 _ _ _ _) q673 dX16_place_1 ?_
  exact hq _ _ _ dX16_place_4 (by rfl)
set_option maxHeartbeats 4000000 in
theorem c_X16_isEnd_sv (G : GG) (l : Launch) (o : Nat) (R : Nat → Nat) (tx : Nat) (u : MS) (p : Nat) (n : Nat) (hp : (u.1 102) = nI p) (hn : (u.1 101) = nI n) (hn2 : n ≤ 240) (hp2 : p ≤ 900) : CIs G l yX16_isEnd cX16_isEnd 1 .boolean 2 24 [.ref (R 100)] (PwV G o R tx u) (bI (!decide (p < n))) := by
  refine CIs.mk RX16 pnX16 rfl (bI_nar _) (Nat.le_of_ble_eq_true rfl) (fun pg en Rm sg mm ar bw mth cd QQ ls hC hRm hK hX hl hq => ?_)
  have hx := hC.1; have hb := hC.2.1; have ho := hC.2.2.2.1; have hts := hC.2.2.2.2
  have hP : PwV G o R tx u sg.heap := hX
  have hl : lv_has ls 1 [(0, .ref (R 100))] := hl
  refine lv_aload_n hx hb dX16_isEnd_0 rfl (lv_at hl 0 rfl) ?_
  refine S_get (v := .int (u.1 102)) hC hK hP (oV_sv _ _ _ _ _) clX17 in_X17 1 (by decide) (fD102 _ _ _ _) q673 dX16_isEnd_1 ?_
  refine W_top hp ?_
  refine lv_aload_n hx hb dX16_isEnd_4 rfl (lv_at hl 0 rfl) ?_
  refine S_get (v := .int (u.1 101)) hC hK hP (oV_sv _ _ _ _ _) clX17 in_X17 0 (by decide) (fD101 _ _ _ _) q672 dX16_isEnd_5 ?_
  refine W_top hn ?_
  refine lv_icmp_lt (tgt := 15) hx hb dX16_isEnd_8 (by decide) (fun c8 => ?_) (fun c8 => ?_)
  · have c8 : p < n := (nI_ltI (a := p) (b := n) (by omega) (by omega)).mp c8
    refine lv_iconst (v := 0) hx hb dX16_isEnd_15 (by decide) ?_
    exact hq _ _ _ dX16_isEnd_16 (by first | (rw [decide_eq_true (by omega)]; rfl) | (rw [decide_eq_false (by omega)]; rfl))
  · have c8 : ¬ (p < n) := mt (nI_ltI (a := p) (b := n) (by omega) (by omega)).mpr c8
    refine lv_iconst (v := 1) hx hb dX16_isEnd_11 (by decide) ?_
    refine lv_goto (tgt := 16) hx hb dX16_isEnd_12 (by decide) ?_
    exact hq _ _ _ dX16_isEnd_16 (by first | (rw [decide_eq_true (by omega)]; rfl) | (rw [decide_eq_false (by omega)]; rfl))
set_option maxHeartbeats 4000000 in
theorem c_X16_isEnd_ck (G : GG) (l : Launch) (o : Nat) (R : Nat → Nat) (tx : Nat) (u : MS) (p : Nat) (n : Nat) (hp : (u.1 122) = nI p) (hn : (u.1 121) = nI n) (hn2 : n ≤ 240) (hp2 : p ≤ 900) : CIs G l yX16_isEnd cX16_isEnd 1 .boolean 2 24 [.ref (R 120)] (PwC G o R tx u) (bI (!decide (p < n))) := by
  refine CIs.mk RX16 pnX16 rfl (bI_nar _) (Nat.le_of_ble_eq_true rfl) (fun pg en Rm sg mm ar bw mth cd QQ ls hC hRm hK hX hl hq => ?_)
  have hx := hC.1; have hb := hC.2.1; have ho := hC.2.2.2.1; have hts := hC.2.2.2.2
  have hP : PwC G o R tx u sg.heap := hX
  have hl : lv_has ls 1 [(0, .ref (R 120))] := hl
  refine lv_aload_n hx hb dX16_isEnd_0 rfl (lv_at hl 0 rfl) ?_
  refine S_get (v := .int (u.1 122)) hC hK hP (oC_ck _ _ _ _ _) clX18 in_X18 1 (by decide) (fD122 _ _ _ _) q673 dX16_isEnd_1 ?_
  refine W_top hp ?_
  refine lv_aload_n hx hb dX16_isEnd_4 rfl (lv_at hl 0 rfl) ?_
  refine S_get (v := .int (u.1 121)) hC hK hP (oC_ck _ _ _ _ _) clX18 in_X18 0 (by decide) (fD121 _ _ _ _) q672 dX16_isEnd_5 ?_
  refine W_top hn ?_
  refine lv_icmp_lt (tgt := 15) hx hb dX16_isEnd_8 (by decide) (fun c8 => ?_) (fun c8 => ?_)
  · have c8 : p < n := (nI_ltI (a := p) (b := n) (by omega) (by omega)).mp c8
    refine lv_iconst (v := 0) hx hb dX16_isEnd_15 (by decide) ?_
    exact hq _ _ _ dX16_isEnd_16 (by first | (rw [decide_eq_true (by omega)]; rfl) | (rw [decide_eq_false (by omega)]; rfl))
  · have c8 : ¬ (p < n) := mt (nI_ltI (a := p) (b := n) (by omega) (by omega)).mpr c8
    refine lv_iconst (v := 1) hx hb dX16_isEnd_11 (by decide) ?_
    refine lv_goto (tgt := 16) hx hb dX16_isEnd_12 (by decide) ?_
    exact hq _ _ _ dX16_isEnd_16 (by first | (rw [decide_eq_true (by omega)]; rfl) | (rw [decide_eq_false (by omega)]; rfl))
set_option maxHeartbeats 4000000 in
theorem c_X16_isIn_sv (G : GG) (l : Launch) (o : Nat) (R : Nat → Nat) (tx : Nat) (u : MS) (a : Nat) (b : Nat) (p : Nat) (n : Nat) (hp : (u.1 102) = nI p) (hn : (u.1 101) = nI n) (hn2 : n ≤ 240) (hp2 : p ≤ 900) (ha : a < 256) (hb9 : b < 256) : CIs G l yX16_isIn cX16_isIn 3 .boolean 3 44 [.ref (R 100), .int (nI a), .int (nI b)] (PwV G o R tx u) (bI (decide (a ≤ hzN (u.2.1 6) n p) && decide (hzN (u.2.1 6) n p ≤ b))) := by
  refine CIs.mk RX16 pnX16 rfl (bI_nar _) (Nat.le_of_ble_eq_true rfl) (fun pg en Rm sg mm ar bw mth cd QQ ls hC hRm hK hX hl hq => ?_)
  have hx := hC.1; have hb := hC.2.1; have ho := hC.2.2.2.1; have hts := hC.2.2.2.2
  have hP : PwV G o R tx u sg.heap := hX
  have hl : lv_has ls 3 [(0, .ref (R 100)), (1, .int (nI a)), (2, .int (nI b))] := hl
  refine lv_aload_n hx hb dX16_isIn_0 rfl (lv_at hl 0 rfl) ?_
  refine CIs.go (rcU (owner := RX16) (As := []) (x := ⟨"SharedWindow$Scribe", "here", "()I"⟩) (C := RX17) hC hl (c_X16_here_sv G l o R tx u p n (by first | assumption | omega | rfl | (simp_all; done)) (by first | assumption | omega | rfl | (simp_all; done)) (by first | assumption | omega | rfl | (simp_all; done)) (by first | assumption | omega | rfl | (simp_all; done))) hK hP (va_recv hK.1 hP clX17 (oV_sv _ _ _ _ _)) nq716 q708 q710 q712 q709 q132 q713 ⟨by decide, by decide, (show (parseMethodDescriptor "()I").map (fun d => d.parameters.length) = some 0 by decide +kernel)⟩ (room_s hRm rfl) rfl rfl dX16_isIn_1) ?_
  refine lv_iload_n hx hb dX16_isIn_4 rfl (lv_at hl 1 rfl) ?_
  refine lv_icmp_lt (tgt := 20) hx hb dX16_isIn_5 (by decide) (fun c5 => ?_) (fun c5 => ?_)
  · have c5 : (hzN (u.2.1 6) n p) < a := (nI_ltI (a := (hzN (u.2.1 6) n p)) (b := a) (by first | omega | exact hzN_b _ _ _) (by first | omega | exact hzN_b _ _ _)).mp c5
    refine lv_iconst (v := 0) hx hb dX16_isIn_20 (by decide) ?_
    exact hq _ _ _ dX16_isIn_21 (by first | (rw [decide_eq_true (by omega), decide_eq_true (by omega)]; rfl) | (rw [decide_eq_false (p := a ≤ hzN _ _ _) (by omega)]; rfl) | (rw [decide_eq_false (p := hzN _ _ _ ≤ b) (by omega), Bool.and_false]; rfl))
  · have c5 : ¬ ((hzN (u.2.1 6) n p) < a) := mt (nI_ltI (a := (hzN (u.2.1 6) n p)) (b := a) (by first | omega | exact hzN_b _ _ _) (by first | omega | exact hzN_b _ _ _)).mpr c5
    refine lv_aload_n hx hb dX16_isIn_8 rfl (lv_at hl 0 rfl) ?_
    refine CIs.go (rcU (owner := RX16) (As := []) (x := ⟨"SharedWindow$Scribe", "here", "()I"⟩) (C := RX17) hC hl (c_X16_here_sv G l o R tx u p n (by first | assumption | omega | rfl | (simp_all; done)) (by first | assumption | omega | rfl | (simp_all; done)) (by first | assumption | omega | rfl | (simp_all; done)) (by first | assumption | omega | rfl | (simp_all; done))) hK hP (va_recv hK.1 hP clX17 (oV_sv _ _ _ _ _)) nq716 q708 q710 q712 q709 q132 q713 ⟨by decide, by decide, (show (parseMethodDescriptor "()I").map (fun d => d.parameters.length) = some 0 by decide +kernel)⟩ (room_s hRm rfl) rfl rfl dX16_isIn_9) ?_
    refine lv_iload_n hx hb dX16_isIn_12 rfl (lv_at hl 2 rfl) ?_
    refine lv_icmp_gt (tgt := 20) hx hb dX16_isIn_13 (by decide) (fun c13 => ?_) (fun c13 => ?_)
    · have c13 : b < (hzN (u.2.1 6) n p) := (nI_ltI (a := b) (b := (hzN (u.2.1 6) n p)) (by first | omega | exact hzN_b _ _ _) (by first | omega | exact hzN_b _ _ _)).mp c13
      refine lv_iconst (v := 0) hx hb dX16_isIn_20 (by decide) ?_
      exact hq _ _ _ dX16_isIn_21 (by first | (rw [decide_eq_true (by omega), decide_eq_true (by omega)]; rfl) | (rw [decide_eq_false (p := a ≤ hzN _ _ _) (by omega)]; rfl) | (rw [decide_eq_false (p := hzN _ _ _ ≤ b) (by omega), Bool.and_false]; rfl))
    · have c13 : ¬ (b < (hzN (u.2.1 6) n p)) := mt (nI_ltI (a := b) (b := (hzN (u.2.1 6) n p)) (by first | omega | exact hzN_b _ _ _) (by first | omega | exact hzN_b _ _ _)).mpr c13
      refine lv_iconst (v := 1) hx hb dX16_isIn_16 (by decide) ?_
      refine lv_goto (tgt := 21) hx hb dX16_isIn_17 (by decide) ?_
      exact hq _ _ _ dX16_isIn_21 (by first | (rw [decide_eq_true (by omega), decide_eq_true (by omega)]; rfl) | (rw [decide_eq_false (p := a ≤ hzN _ _ _) (by omega)]; rfl) | (rw [decide_eq_false (p := hzN _ _ _ ≤ b) (by omega), Bool.and_false]; rfl))
set_option maxHeartbeats 4000000 in
theorem c_X16_isIn_ck (G : GG) (l : Launch) (o : Nat) (R : Nat → Nat) (tx : Nat) (u : MS) (a : Nat) (b : Nat) (p : Nat) (n : Nat) (hp : (u.1 122) = nI p) (hn : (u.1 121) = nI n) (hn2 : n ≤ 240) (hp2 : p ≤ 900) (ha : a < 256) (hb9 : b < 256) : CIs G l yX16_isIn cX16_isIn 3 .boolean 3 44 [.ref (R 120), .int (nI a), .int (nI b)] (PwC G o R tx u) (bI (decide (a ≤ hzN (u.2.1 6) n p) && decide (hzN (u.2.1 6) n p ≤ b))) := by
  refine CIs.mk RX16 pnX16 rfl (bI_nar _) (Nat.le_of_ble_eq_true rfl) (fun pg en Rm sg mm ar bw mth cd QQ ls hC hRm hK hX hl hq => ?_)
  have hx := hC.1; have hb := hC.2.1; have ho := hC.2.2.2.1; have hts := hC.2.2.2.2
  have hP : PwC G o R tx u sg.heap := hX
  have hl : lv_has ls 3 [(0, .ref (R 120)), (1, .int (nI a)), (2, .int (nI b))] := hl
  refine lv_aload_n hx hb dX16_isIn_0 rfl (lv_at hl 0 rfl) ?_
  refine CIs.go (rcU (owner := RX16) (As := []) (x := ⟨"SharedWindow$Scribe", "here", "()I"⟩) (C := RX18) hC hl (c_X16_here_ck G l o R tx u p n (by first | assumption | omega | rfl | (simp_all; done)) (by first | assumption | omega | rfl | (simp_all; done)) (by first | assumption | omega | rfl | (simp_all; done)) (by first | assumption | omega | rfl | (simp_all; done))) hK hP (va_recv hK.1 hP clX18 (oC_ck _ _ _ _ _)) nq716 q708 q710 q711 q709 q132 q713 ⟨by decide, by decide, (show (parseMethodDescriptor "()I").map (fun d => d.parameters.length) = some 0 by decide +kernel)⟩ (room_s hRm rfl) rfl rfl dX16_isIn_1) ?_
  refine lv_iload_n hx hb dX16_isIn_4 rfl (lv_at hl 1 rfl) ?_
  refine lv_icmp_lt (tgt := 20) hx hb dX16_isIn_5 (by decide) (fun c5 => ?_) (fun c5 => ?_)
  · have c5 : (hzN (u.2.1 6) n p) < a := (nI_ltI (a := (hzN (u.2.1 6) n p)) (b := a) (by first | omega | exact hzN_b _ _ _) (by first | omega | exact hzN_b _ _ _)).mp c5
    refine lv_iconst (v := 0) hx hb dX16_isIn_20 (by decide) ?_
    exact hq _ _ _ dX16_isIn_21 (by first | (rw [decide_eq_true (by omega), decide_eq_true (by omega)]; rfl) | (rw [decide_eq_false (p := a ≤ hzN _ _ _) (by omega)]; rfl) | (rw [decide_eq_false (p := hzN _ _ _ ≤ b) (by omega), Bool.and_false]; rfl))
  · have c5 : ¬ ((hzN (u.2.1 6) n p) < a) := mt (nI_ltI (a := (hzN (u.2.1 6) n p)) (b := a) (by first | omega | exact hzN_b _ _ _) (by first | omega | exact hzN_b _ _ _)).mpr c5
    refine lv_aload_n hx hb dX16_isIn_8 rfl (lv_at hl 0 rfl) ?_
    refine CIs.go (rcU (owner := RX16) (As := []) (x := ⟨"SharedWindow$Scribe", "here", "()I"⟩) (C := RX18) hC hl (c_X16_here_ck G l o R tx u p n (by first | assumption | omega | rfl | (simp_all; done)) (by first | assumption | omega | rfl | (simp_all; done)) (by first | assumption | omega | rfl | (simp_all; done)) (by first | assumption | omega | rfl | (simp_all; done))) hK hP (va_recv hK.1 hP clX18 (oC_ck _ _ _ _ _)) nq716 q708 q710 q711 q709 q132 q713 ⟨by decide, by decide, (show (parseMethodDescriptor "()I").map (fun d => d.parameters.length) = some 0 by decide +kernel)⟩ (room_s hRm rfl) rfl rfl dX16_isIn_9) ?_
    refine lv_iload_n hx hb dX16_isIn_12 rfl (lv_at hl 2 rfl) ?_
    refine lv_icmp_gt (tgt := 20) hx hb dX16_isIn_13 (by decide) (fun c13 => ?_) (fun c13 => ?_)
    · have c13 : b < (hzN (u.2.1 6) n p) := (nI_ltI (a := b) (b := (hzN (u.2.1 6) n p)) (by first | omega | exact hzN_b _ _ _) (by first | omega | exact hzN_b _ _ _)).mp c13
      refine lv_iconst (v := 0) hx hb dX16_isIn_20 (by decide) ?_
      exact hq _ _ _ dX16_isIn_21 (by first | (rw [decide_eq_true (by omega), decide_eq_true (by omega)]; rfl) | (rw [decide_eq_false (p := a ≤ hzN _ _ _) (by omega)]; rfl) | (rw [decide_eq_false (p := hzN _ _ _ ≤ b) (by omega), Bool.and_false]; rfl))
    · have c13 : ¬ (b < (hzN (u.2.1 6) n p)) := mt (nI_ltI (a := b) (b := (hzN (u.2.1 6) n p)) (by first | omega | exact hzN_b _ _ _) (by first | omega | exact hzN_b _ _ _)).mpr c13
      refine lv_iconst (v := 1) hx hb dX16_isIn_16 (by decide) ?_
      refine lv_goto (tgt := 21) hx hb dX16_isIn_17 (by decide) ?_
      exact hq _ _ _ dX16_isIn_21 (by first | (rw [decide_eq_true (by omega), decide_eq_true (by omega)]; rfl) | (rw [decide_eq_false (p := a ≤ hzN _ _ _) (by omega)]; rfl) | (rw [decide_eq_false (p := hzN _ _ _ ≤ b) (by omega), Bool.and_false]; rfl))
set_option maxHeartbeats 4000000 in
theorem c_X16_badF_sv (G : GG) (l : Launch) (o : Nat) (R : Nat → Nat) (tx : Nat) (u : MS) (k : Int32) (q : Int32) (hf : 0 < (u.1 103)) (hD : DwV o R) : CXv G l (PwV G o R tx) (AwV o R) yX16_bad cX16_bad 3 2 24 0 0 [.ref (R 100), .int k, .int q] (PwV G o R tx u) (fun w => w = (vE u (u.1 102) (u.1 103) (u.1 104) (u.1 107) (u.1 114) (u.1 115) (u.2.1 110) (u.2.1 111) (u.2.1 112) (u.2.1 113))) := by
  refine CXv.mk RX16 pnX16 rfl (Nat.le_of_ble_eq_true rfl) (fun pg en Rm sg mm ar bw mth cd QQ ls hC hRm hK hX hS hl hq => ?_)
  have hx := hC.1; have hb := hC.2.1; have ho := hC.2.2.2.1; have hts := hC.2.2.2.2
  have hP : PwV G o R tx u sg.heap := hX
  have hl : lv_has ls 3 [(0, .ref (R 100)), (1, .int k), (2, .int q)] := hl
  have hP : PwV G o R tx (vE u (u.1 102) (u.1 103) (u.1 104) (u.1 107) (u.1 114) (u.1 115) (u.2.1 110) (u.2.1 111) (u.2.1 112) (u.2.1 113)) sg.heap := by rw [vE_self]; exact hP
  refine lv_aload_n hx hb dX16_bad_0 rfl (lv_at hl 0 rfl) ?_
  refine S_get hC hK hP (oV_sv _ _ _ _ _) clX17 in_X17 2 (by decide) (fD103 _ _ _ _) q674 dX16_bad_1 ?_
  refine W_top (y := (u.1 103)) (by rw [vE_f103]) ?_
  refine lv_if_le (tgt := 8) hx hb dX16_bad_4 (by decide) (fun c4 => ?_) (fun c4 => ?_)
  · exact absurd hf (Int32.not_lt.mpr c4)
  · exact hq _ _ _ _ _ _ _ dX16_bad_7 hP hS (by exact rfl) (by decide) (by decide)
set_option maxHeartbeats 4000000 in
theorem c_X16_badF_ck (G : GG) (l : Launch) (o : Nat) (R : Nat → Nat) (tx : Nat) (u : MS) (k : Int32) (q : Int32) (hf : 0 < (u.1 123)) (hD : DwC o R) : CXv G l (PwC G o R tx) (AwC o R) yX16_bad cX16_bad 3 2 24 0 0 [.ref (R 120), .int k, .int q] (PwC G o R tx u) (fun w => w = (kE u (u.1 122) (u.1 123) (u.1 124) (u.1 128) (u.1 129) (u.2.1 126) (u.2.1 127))) := by
  refine CXv.mk RX16 pnX16 rfl (Nat.le_of_ble_eq_true rfl) (fun pg en Rm sg mm ar bw mth cd QQ ls hC hRm hK hX hS hl hq => ?_)
  have hx := hC.1; have hb := hC.2.1; have ho := hC.2.2.2.1; have hts := hC.2.2.2.2
  have hP : PwC G o R tx u sg.heap := hX
  have hl : lv_has ls 3 [(0, .ref (R 120)), (1, .int k), (2, .int q)] := hl
  have hP : PwC G o R tx (kE u (u.1 122) (u.1 123) (u.1 124) (u.1 128) (u.1 129) (u.2.1 126) (u.2.1 127)) sg.heap := by rw [kE_self]; exact hP
  refine lv_aload_n hx hb dX16_bad_0 rfl (lv_at hl 0 rfl) ?_
  refine S_get hC hK hP (oC_ck _ _ _ _ _) clX18 in_X18 2 (by decide) (fD123 _ _ _ _) q674 dX16_bad_1 ?_
  refine W_top (y := (u.1 123)) (by rw [kE_f123]) ?_
  refine lv_if_le (tgt := 8) hx hb dX16_bad_4 (by decide) (fun c4 => ?_) (fun c4 => ?_)
  · exact absurd hf (Int32.not_lt.mpr c4)
  · exact hq _ _ _ _ _ _ _ dX16_bad_7 hP hS (by exact rfl) (by decide) (by decide)
set_option maxHeartbeats 4000000 in
theorem c_X16_bad_sv (G : GG) (l : Launch) (o : Nat) (R : Nat → Nat) (tx : Nat) (u : MS) (k : Int32) (q : Int32) (hf : (u.1 103) = 0) (hD : DwV o R) : CXv G l (PwV G o R tx) (AwV o R) yX16_bad cX16_bad 3 2 24 0 0 [.ref (R 100), .int k, .int q] (PwV G o R tx u) (fun w => w = (vE u (u.1 102) k q (u.1 107) (u.1 114) (u.1 115) (u.2.1 110) (u.2.1 111) (u.2.1 112) (u.2.1 113))) := by
  refine CXv.mk RX16 pnX16 rfl (Nat.le_of_ble_eq_true rfl) (fun pg en Rm sg mm ar bw mth cd QQ ls hC hRm hK hX hS hl hq => ?_)
  have hx := hC.1; have hb := hC.2.1; have ho := hC.2.2.2.1; have hts := hC.2.2.2.2
  have hP : PwV G o R tx u sg.heap := hX
  have hl : lv_has ls 3 [(0, .ref (R 100)), (1, .int k), (2, .int q)] := hl
  have hP : PwV G o R tx (vE u (u.1 102) (u.1 103) (u.1 104) (u.1 107) (u.1 114) (u.1 115) (u.2.1 110) (u.2.1 111) (u.2.1 112) (u.2.1 113)) sg.heap := by rw [vE_self]; exact hP
  rw [hf] at hP
  refine lv_aload_n hx hb dX16_bad_0 rfl (lv_at hl 0 rfl) ?_
  refine S_get hC hK hP (oV_sv _ _ _ _ _) clX17 in_X17 2 (by decide) (fD103 _ _ _ _) q674 dX16_bad_1 ?_
  refine W_top (y := 0) (by rw [vE_f103]) ?_
  refine lv_if_le (tgt := 8) hx hb dX16_bad_4 (by decide) (fun c4 => ?_) (fun c4 => ?_)
  · refine lv_aload_n hx hb dX16_bad_8 rfl (lv_at hl 0 rfl) ?_
    refine lv_iload_n hx hb dX16_bad_9 rfl (lv_at hl 1 rfl) ?_
    refine S_put1 hC hK hP (hD _ _ _) hS (oV_sv _ _ _ _ _) clX17 in_X17 tyX17_ok 2 (by decide) (by decide) (pV103 _ _ _ _ _ _) q674 rfl rfl rfl rfl (Nat.le_of_ble_eq_true rfl) dX16_bad_10 (fun H locs hP hS => ?_)
    rw [vE_V103] at hP
    refine lv_aload_n hx hb dX16_bad_13 rfl (lv_at hl 0 rfl) ?_
    refine lv_iload_n hx hb dX16_bad_14 rfl (lv_at hl 2 rfl) ?_
    refine S_put1 hC hK hP (hD _ _ _) hS (oV_sv _ _ _ _ _) clX17 in_X17 tyX17_ok 3 (by decide) (by decide) (pV104 _ _ _ _ _ _) q675 rfl rfl rfl rfl (Nat.le_of_ble_eq_true rfl) dX16_bad_15 (fun H locs hP hS => ?_)
    rw [vE_V104] at hP
    exact hq _ _ _ _ _ _ _ dX16_bad_18 hP hS (by exact rfl) (by decide) (by decide)
  · exact absurd c4 (by decide)
set_option maxHeartbeats 4000000 in
theorem c_X16_bad_ck (G : GG) (l : Launch) (o : Nat) (R : Nat → Nat) (tx : Nat) (u : MS) (k : Int32) (q : Int32) (hf : (u.1 123) = 0) (hD : DwC o R) : CXv G l (PwC G o R tx) (AwC o R) yX16_bad cX16_bad 3 2 24 0 0 [.ref (R 120), .int k, .int q] (PwC G o R tx u) (fun w => w = (kE u (u.1 122) k q (u.1 128) (u.1 129) (u.2.1 126) (u.2.1 127))) := by
  refine CXv.mk RX16 pnX16 rfl (Nat.le_of_ble_eq_true rfl) (fun pg en Rm sg mm ar bw mth cd QQ ls hC hRm hK hX hS hl hq => ?_)
  have hx := hC.1; have hb := hC.2.1; have ho := hC.2.2.2.1; have hts := hC.2.2.2.2
  have hP : PwC G o R tx u sg.heap := hX
  have hl : lv_has ls 3 [(0, .ref (R 120)), (1, .int k), (2, .int q)] := hl
  have hP : PwC G o R tx (kE u (u.1 122) (u.1 123) (u.1 124) (u.1 128) (u.1 129) (u.2.1 126) (u.2.1 127)) sg.heap := by rw [kE_self]; exact hP
  rw [hf] at hP
  refine lv_aload_n hx hb dX16_bad_0 rfl (lv_at hl 0 rfl) ?_
  refine S_get hC hK hP (oC_ck _ _ _ _ _) clX18 in_X18 2 (by decide) (fD123 _ _ _ _) q674 dX16_bad_1 ?_
  refine W_top (y := 0) (by rw [kE_f123]) ?_
  refine lv_if_le (tgt := 8) hx hb dX16_bad_4 (by decide) (fun c4 => ?_) (fun c4 => ?_)
  · refine lv_aload_n hx hb dX16_bad_8 rfl (lv_at hl 0 rfl) ?_
    refine lv_iload_n hx hb dX16_bad_9 rfl (lv_at hl 1 rfl) ?_
    refine S_put1 hC hK hP (hD _ _ _) hS (oC_ck _ _ _ _ _) clX18 in_X18 tyX18_ok 2 (by decide) (by decide) (pC123 _ _ _ _ _ _) q674 rfl rfl rfl rfl (Nat.le_of_ble_eq_true rfl) dX16_bad_10 (fun H locs hP hS => ?_)
    rw [kE_V123] at hP
    refine lv_aload_n hx hb dX16_bad_13 rfl (lv_at hl 0 rfl) ?_
    refine lv_iload_n hx hb dX16_bad_14 rfl (lv_at hl 2 rfl) ?_
    refine S_put1 hC hK hP (hD _ _ _) hS (oC_ck _ _ _ _ _) clX18 in_X18 tyX18_ok 3 (by decide) (by decide) (pC124 _ _ _ _ _ _) q675 rfl rfl rfl rfl (Nat.le_of_ble_eq_true rfl) dX16_bad_15 (fun H locs hP hS => ?_)
    rw [kE_V124] at hP
    exact hq _ _ _ _ _ _ _ dX16_bad_18 hP hS (by exact rfl) (by decide) (by decide)
  · exact absurd c4 (by decide)
set_option maxHeartbeats 4000000 in
theorem c_X16_goesOn_sv (G : GG) (l : Launch) (o : Nat) (R : Nat → Nat) (tx : Nat) (u : MS) (p : Nat) (hp : (u.1 102) = nI p) (hD : DwV o R) : CXv G l (PwV G o R tx) (AwV o R) yX16_goesOn cX16_goesOn 1 2 24 0 0 [.ref (R 100)] (PwV G o R tx u) (fun w => w = (vE u (nI (p + 1)) (u.1 103) (u.1 104) (u.1 107) (u.1 114) (u.1 115) (u.2.1 110) (u.2.1 111) (u.2.1 112) (u.2.1 113))) := by
  refine CXv.mk RX16 pnX16 rfl (Nat.le_of_ble_eq_true rfl) (fun pg en Rm sg mm ar bw mth cd QQ ls hC hRm hK hX hS hl hq => ?_)
  have hx := hC.1; have hb := hC.2.1; have ho := hC.2.2.2.1; have hts := hC.2.2.2.2
  have hP : PwV G o R tx u sg.heap := hX
  have hl : lv_has ls 1 [(0, .ref (R 100))] := hl
  have hP : PwV G o R tx (vE u (u.1 102) (u.1 103) (u.1 104) (u.1 107) (u.1 114) (u.1 115) (u.2.1 110) (u.2.1 111) (u.2.1 112) (u.2.1 113)) sg.heap := by rw [vE_self]; exact hP
  rw [hp] at hP
  refine lv_aload_n hx hb dX16_goesOn_0 rfl (lv_at hl 0 rfl) ?_
  refine lv_dup hx hb dX16_goesOn_1 rfl ?_
  refine S_get hC hK hP (oV_sv _ _ _ _ _) clX17 in_X17 1 (by decide) (fD102 _ _ _ _) q673 dX16_goesOn_2 ?_
  refine W_top (y := (nI p)) (by rw [vE_f102]) ?_
  refine lv_iconst (v := 1) hx hb dX16_goesOn_5 (by decide) ?_
  refine lv_iadd hx hb dX16_goesOn_6 ?_
  refine W_top (nI_add p 1) ?_
  refine S_put1 hC hK hP (hD _ _ _) hS (oV_sv _ _ _ _ _) clX17 in_X17 tyX17_ok 1 (by decide) (by decide) (pV102 _ _ _ _ _ _) q673 rfl rfl rfl rfl (Nat.le_of_ble_eq_true rfl) dX16_goesOn_7 (fun H locs hP hS => ?_)
  rw [vE_V102] at hP
  exact hq _ _ _ _ _ _ _ dX16_goesOn_10 hP hS (by exact rfl) (by decide) (by decide)
set_option maxHeartbeats 4000000 in
theorem c_X16_goesOn_ck (G : GG) (l : Launch) (o : Nat) (R : Nat → Nat) (tx : Nat) (u : MS) (p : Nat) (hp : (u.1 122) = nI p) (hD : DwC o R) : CXv G l (PwC G o R tx) (AwC o R) yX16_goesOn cX16_goesOn 1 2 24 0 0 [.ref (R 120)] (PwC G o R tx u) (fun w => w = (kE u (nI (p + 1)) (u.1 123) (u.1 124) (u.1 128) (u.1 129) (u.2.1 126) (u.2.1 127))) := by
  refine CXv.mk RX16 pnX16 rfl (Nat.le_of_ble_eq_true rfl) (fun pg en Rm sg mm ar bw mth cd QQ ls hC hRm hK hX hS hl hq => ?_)
  have hx := hC.1; have hb := hC.2.1; have ho := hC.2.2.2.1; have hts := hC.2.2.2.2
  have hP : PwC G o R tx u sg.heap := hX
  have hl : lv_has ls 1 [(0, .ref (R 120))] := hl
  have hP : PwC G o R tx (kE u (u.1 122) (u.1 123) (u.1 124) (u.1 128) (u.1 129) (u.2.1 126) (u.2.1 127)) sg.heap := by rw [kE_self]; exact hP
  rw [hp] at hP
  refine lv_aload_n hx hb dX16_goesOn_0 rfl (lv_at hl 0 rfl) ?_
  refine lv_dup hx hb dX16_goesOn_1 rfl ?_
  refine S_get hC hK hP (oC_ck _ _ _ _ _) clX18 in_X18 1 (by decide) (fD122 _ _ _ _) q673 dX16_goesOn_2 ?_
  refine W_top (y := (nI p)) (by rw [kE_f122]) ?_
  refine lv_iconst (v := 1) hx hb dX16_goesOn_5 (by decide) ?_
  refine lv_iadd hx hb dX16_goesOn_6 ?_
  refine W_top (nI_add p 1) ?_
  refine S_put1 hC hK hP (hD _ _ _) hS (oC_ck _ _ _ _ _) clX18 in_X18 tyX18_ok 1 (by decide) (by decide) (pC122 _ _ _ _ _ _) q673 rfl rfl rfl rfl (Nat.le_of_ble_eq_true rfl) dX16_goesOn_7 (fun H locs hP hS => ?_)
  rw [kE_V122] at hP
  exact hq _ _ _ _ _ _ _ dX16_goesOn_10 hP hS (by exact rfl) (by decide) (by decide)
set_option maxHeartbeats 4000000 in
theorem c_X16_mustF_sv (G : GG) (l : Launch) (o : Nat) (R : Nat → Nat) (tx : Nat) (u : MS) (c0 : Nat) (p : Nat) (hp : (u.1 102) = nI p) (hg : isGB (u.1 103) = false) (hD : DwV o R) : CXv G l (PwV G o R tx) (AwV o R) yX16_must cX16_must 2 3 46 0 0 [.ref (R 100), .int (nI c0)] (PwV G o R tx u) (fun w => w = (vE u (nI (p + 1)) (u.1 103) (u.1 104) (u.1 107) (u.1 114) (u.1 115) (u.2.1 110) (u.2.1 111) (u.2.1 112) (u.2.1 113))) := by
  refine CXv.mk RX16 pnX16 rfl (Nat.le_of_ble_eq_true rfl) (fun pg en Rm sg mm ar bw mth cd QQ ls hC hRm hK hX hS hl hq => ?_)
  have hx := hC.1; have hb := hC.2.1; have ho := hC.2.2.2.1; have hts := hC.2.2.2.2
  have hP : PwV G o R tx u sg.heap := hX
  have hl : lv_has ls 2 [(0, .ref (R 100)), (1, .int (nI c0))] := hl
  have hP : PwV G o R tx (vE u (u.1 102) (u.1 103) (u.1 104) (u.1 107) (u.1 114) (u.1 115) (u.2.1 110) (u.2.1 111) (u.2.1 112) (u.2.1 113)) sg.heap := by rw [vE_self]; exact hP
  rw [hp] at hP
  refine lv_aload_n hx hb dX16_must_0 rfl (lv_at hl 0 rfl) ?_
  refine CIs.go (rcU (owner := RX16) (As := []) (x := ⟨"SharedWindow$Scribe", "isGood", "()Z"⟩) (C := RX17) hC hl (c_X16_isGood_sv G l o R tx (vE u (nI p) (u.1 103) (u.1 104) (u.1 107) (u.1 114) (u.1 115) (u.2.1 110) (u.2.1 111) (u.2.1 112) (u.2.1 113))  ) hK hP (va_recv hK.1 hP clX17 (oV_sv _ _ _ _ _)) nq743 q765 q1826 q1828 q745 q132 q746 ⟨by decide, by decide, (show (parseMethodDescriptor "()Z").map (fun d => d.parameters.length) = some 0 by decide +kernel)⟩ (room_s hRm rfl) rfl rfl dX16_must_1) ?_
  refine W_top (y := (bI (isGB (u.1 103)))) (by simp only [vE_f103]) ?_
  refine W_top (y := 0) (by rw [hg]; rfl) ?_
  refine lv_if_eq (tgt := 24) hx hb dX16_must_4 (by decide) (fun c4 => ?_) (fun c4 => ?_)
  · refine lv_aload_n hx hb dX16_must_24 rfl (lv_at hl 0 rfl) ?_
    refine lv_dup hx hb dX16_must_25 rfl ?_
    refine S_get hC hK hP (oV_sv _ _ _ _ _) clX17 in_X17 1 (by decide) (fD102 _ _ _ _) q673 dX16_must_26 ?_
    refine W_top (y := (nI p)) (by rw [vE_f102]) ?_
    refine lv_iconst (v := 1) hx hb dX16_must_29 (by decide) ?_
    refine lv_iadd hx hb dX16_must_30 ?_
    refine W_top (nI_add p 1) ?_
    refine S_put1 hC hK hP (hD _ _ _) hS (oV_sv _ _ _ _ _) clX17 in_X17 tyX17_ok 1 (by decide) (by decide) (pV102 _ _ _ _ _ _) q673 rfl rfl rfl rfl (Nat.le_of_ble_eq_true rfl) dX16_must_31 (fun H locs hP hS => ?_)
    rw [vE_V102] at hP
    exact hq _ _ _ _ _ _ _ dX16_must_34 hP hS (by exact rfl) (by decide) (by decide)
  · exact absurd c4 (by decide)
set_option maxHeartbeats 4000000 in
theorem c_X16_mustF_ck (G : GG) (l : Launch) (o : Nat) (R : Nat → Nat) (tx : Nat) (u : MS) (c0 : Nat) (p : Nat) (hp : (u.1 122) = nI p) (hg : isGB (u.1 123) = false) (hD : DwC o R) : CXv G l (PwC G o R tx) (AwC o R) yX16_must cX16_must 2 3 46 0 0 [.ref (R 120), .int (nI c0)] (PwC G o R tx u) (fun w => w = (kE u (nI (p + 1)) (u.1 123) (u.1 124) (u.1 128) (u.1 129) (u.2.1 126) (u.2.1 127))) := by
  refine CXv.mk RX16 pnX16 rfl (Nat.le_of_ble_eq_true rfl) (fun pg en Rm sg mm ar bw mth cd QQ ls hC hRm hK hX hS hl hq => ?_)
  have hx := hC.1; have hb := hC.2.1; have ho := hC.2.2.2.1; have hts := hC.2.2.2.2
  have hP : PwC G o R tx u sg.heap := hX
  have hl : lv_has ls 2 [(0, .ref (R 120)), (1, .int (nI c0))] := hl
  have hP : PwC G o R tx (kE u (u.1 122) (u.1 123) (u.1 124) (u.1 128) (u.1 129) (u.2.1 126) (u.2.1 127)) sg.heap := by rw [kE_self]; exact hP
  rw [hp] at hP
  refine lv_aload_n hx hb dX16_must_0 rfl (lv_at hl 0 rfl) ?_
  refine CIs.go (rcU (owner := RX16) (As := []) (x := ⟨"SharedWindow$Scribe", "isGood", "()Z"⟩) (C := RX18) hC hl (c_X16_isGood_ck G l o R tx (kE u (nI p) (u.1 123) (u.1 124) (u.1 128) (u.1 129) (u.2.1 126) (u.2.1 127))  ) hK hP (va_recv hK.1 hP clX18 (oC_ck _ _ _ _ _)) nq743 q765 q1826 q1827 q745 q132 q746 ⟨by decide, by decide, (show (parseMethodDescriptor "()Z").map (fun d => d.parameters.length) = some 0 by decide +kernel)⟩ (room_s hRm rfl) rfl rfl dX16_must_1) ?_
  refine W_top (y := (bI (isGB (u.1 123)))) (by simp only [kE_f123]) ?_
  refine W_top (y := 0) (by rw [hg]; rfl) ?_
  refine lv_if_eq (tgt := 24) hx hb dX16_must_4 (by decide) (fun c4 => ?_) (fun c4 => ?_)
  · refine lv_aload_n hx hb dX16_must_24 rfl (lv_at hl 0 rfl) ?_
    refine lv_dup hx hb dX16_must_25 rfl ?_
    refine S_get hC hK hP (oC_ck _ _ _ _ _) clX18 in_X18 1 (by decide) (fD122 _ _ _ _) q673 dX16_must_26 ?_
    refine W_top (y := (nI p)) (by rw [kE_f122]) ?_
    refine lv_iconst (v := 1) hx hb dX16_must_29 (by decide) ?_
    refine lv_iadd hx hb dX16_must_30 ?_
    refine W_top (nI_add p 1) ?_
    refine S_put1 hC hK hP (hD _ _ _) hS (oC_ck _ _ _ _ _) clX18 in_X18 tyX18_ok 1 (by decide) (by decide) (pC122 _ _ _ _ _ _) q673 rfl rfl rfl rfl (Nat.le_of_ble_eq_true rfl) dX16_must_31 (fun H locs hP hS => ?_)
    rw [kE_V122] at hP
    exact hq _ _ _ _ _ _ _ dX16_must_34 hP hS (by exact rfl) (by decide) (by decide)
  · exact absurd c4 (by decide)
set_option maxHeartbeats 4000000 in
theorem c_X16_must_sv (G : GG) (l : Launch) (o : Nat) (R : Nat → Nat) (tx : Nat) (u : MS) (c0 : Nat) (p : Nat) (n : Nat) (hp : (u.1 102) = nI p) (hn : (u.1 101) = nI n) (hn2 : n ≤ 240) (hp2 : p ≤ 900) (hf : (u.1 103) = 0) (hc0 : 0 < c0) (hc1 : c0 < 256) (hD : DwV o R) : CXv G l (PwV G o R tx) (AwV o R) yX16_must cX16_must 2 3 46 0 0 [.ref (R 100), .int (nI c0)] (PwV G o R tx u) (fun w => ∃ ft : Int32, ∃ pc : Int32, (if ckN (u.2.1 6) n p = c0 then ft = 0 ∧ pc = (u.1 104) else ft = 1 ∧ pc = nI p) ∧ w = (vE u (nI (p + 1)) ft pc (u.1 107) (u.1 114) (u.1 115) (u.2.1 110) (u.2.1 111) (u.2.1 112) (u.2.1 113))) := by
  refine CXv.mk RX16 pnX16 rfl (Nat.le_of_ble_eq_true rfl) (fun pg en Rm sg mm ar bw mth cd QQ ls hC hRm hK hX hS hl hq => ?_)
  have hx := hC.1; have hb := hC.2.1; have ho := hC.2.2.2.1; have hts := hC.2.2.2.2
  have hP : PwV G o R tx u sg.heap := hX
  have hl : lv_has ls 2 [(0, .ref (R 100)), (1, .int (nI c0))] := hl
  have hP : PwV G o R tx (vE u (u.1 102) (u.1 103) (u.1 104) (u.1 107) (u.1 114) (u.1 115) (u.2.1 110) (u.2.1 111) (u.2.1 112) (u.2.1 113)) sg.heap := by rw [vE_self]; exact hP
  rw [hp] at hP
  rw [hf] at hP
  refine lv_aload_n hx hb dX16_must_0 rfl (lv_at hl 0 rfl) ?_
  refine CIs.go (rcU (owner := RX16) (As := []) (x := ⟨"SharedWindow$Scribe", "isGood", "()Z"⟩) (C := RX17) hC hl (c_X16_isGood_sv G l o R tx (vE u (nI p) 0 (u.1 104) (u.1 107) (u.1 114) (u.1 115) (u.2.1 110) (u.2.1 111) (u.2.1 112) (u.2.1 113))  ) hK hP (va_recv hK.1 hP clX17 (oV_sv _ _ _ _ _)) nq743 q765 q1826 q1828 q745 q132 q746 ⟨by decide, by decide, (show (parseMethodDescriptor "()Z").map (fun d => d.parameters.length) = some 0 by decide +kernel)⟩ (room_s hRm rfl) rfl rfl dX16_must_1) ?_
  refine W_top (y := (bI (isGB 0))) (by simp only [vE_f103]) ?_
  refine W_top (y := 1) (by decide) ?_
  refine lv_if_eq (tgt := 24) hx hb dX16_must_4 (by decide) (fun c4 => ?_) (fun c4 => ?_)
  · exact absurd c4 (by decide)
  · refine lv_aload_n hx hb dX16_must_7 rfl (lv_at hl 0 rfl) ?_
    refine CIs.go (rcU (owner := RX16) (As := []) (x := ⟨"SharedWindow$Scribe", "here", "()I"⟩) (C := RX17) hC hl (c_X16_here_sv G l o R tx (vE u (nI p) 0 (u.1 104) (u.1 107) (u.1 114) (u.1 115) (u.2.1 110) (u.2.1 111) (u.2.1 112) (u.2.1 113)) p n (rfl) (hn) (hn2) (by omega)) hK hP (va_recv hK.1 hP clX17 (oV_sv _ _ _ _ _)) nq716 q708 q710 q712 q709 q132 q713 ⟨by decide, by decide, (show (parseMethodDescriptor "()I").map (fun d => d.parameters.length) = some 0 by decide +kernel)⟩ (room_s hRm rfl) rfl rfl dX16_must_8) ?_
    refine W_top (y := (nI (hzN (u.2.1 6) n p))) (by simp only [vE_g6]) ?_
    refine lv_iload_n hx hb dX16_must_11 rfl (lv_at hl 1 rfl) ?_
    refine lv_icmp_eq (tgt := 24) hx hb dX16_must_12 (by decide) (fun c12 => ?_) (fun c12 => ?_)
    · have c12 : (hzN (u.2.1 6) n p) = c0 := (nI_eq (a := (hzN (u.2.1 6) n p)) (b := c0) (by first | omega | exact hzN_b _ _ _) (by first | omega | exact hzN_b _ _ _)).mp c12
      refine lv_aload_n hx hb dX16_must_24 rfl (lv_at hl 0 rfl) ?_
      refine lv_dup hx hb dX16_must_25 rfl ?_
      refine S_get hC hK hP (oV_sv _ _ _ _ _) clX17 in_X17 1 (by decide) (fD102 _ _ _ _) q673 dX16_must_26 ?_
      refine W_top (y := (nI p)) (by rw [vE_f102]) ?_
      refine lv_iconst (v := 1) hx hb dX16_must_29 (by decide) ?_
      refine lv_iadd hx hb dX16_must_30 ?_
      refine W_top (nI_add p 1) ?_
      refine S_put1 hC hK hP (hD _ _ _) hS (oV_sv _ _ _ _ _) clX17 in_X17 tyX17_ok 1 (by decide) (by decide) (pV102 _ _ _ _ _ _) q673 rfl rfl rfl rfl (Nat.le_of_ble_eq_true rfl) dX16_must_31 (fun H locs hP hS => ?_)
      rw [vE_V102] at hP
      exact hq _ _ _ _ _ _ _ dX16_must_34 hP hS (by first | exact ⟨0, _, by rw [if_pos ((hz_ck hc0 hc1).mp c12)]; exact ⟨rfl, rfl⟩, rfl⟩ | exact ⟨1, _, by rw [if_neg (mt (hz_ck hc0 hc1).mpr c12)]; exact ⟨rfl, rfl⟩, rfl⟩) (by decide) (by decide)
    · have c12 : ¬ ((hzN (u.2.1 6) n p) = c0) := mt (nI_eq (a := (hzN (u.2.1 6) n p)) (b := c0) (by first | omega | exact hzN_b _ _ _) (by first | omega | exact hzN_b _ _ _)).mpr c12
      refine lv_aload_n hx hb dX16_must_15 rfl (lv_at hl 0 rfl) ?_
      refine lv_iconst (v := 1) hx hb dX16_must_16 (by decide) ?_
      refine lv_aload_n hx hb dX16_must_17 rfl (lv_at hl 0 rfl) ?_
      refine S_get hC hK hP (oV_sv _ _ _ _ _) clX17 in_X17 1 (by decide) (fD102 _ _ _ _) q673 dX16_must_18 ?_
      refine W_top (y := (nI p)) (by rw [vE_f102]) ?_
      refine CXv.go (rcU (owner := RX16) (As := [.int 1, .int (nI p)]) (x := ⟨"SharedWindow$Scribe", "bad", "(II)V"⟩) (C := RX17) hC hl (c_X16_bad_sv G l o R tx (vE u (nI p) 0 (u.1 104) (u.1 107) (u.1 114) (u.1 115) (u.2.1 110) (u.2.1 111) (u.2.1 112) (u.2.1 113)) 1 (nI p) (rfl) hD) hK hP (va_recv hK.1 hP clX17 (oV_sv _ _ _ _ _)) nq726 q766 q1829 q1831 q728 q132 q729 ⟨by decide, by decide, (show (parseMethodDescriptor "(II)V").map (fun d => d.parameters.length) = some 2 by decide +kernel)⟩ (room_s hRm rfl) rfl rfl dX16_must_21) hS (fun q h => h) (fun w21 H locs hpo hP _ _ hS => ?_)
      have ew21 := hpo
      rw [ew21] at hP
      rw [vE_again] at hP
      simp only [vE_f102, vE_f107, vE_f114, vE_f115, vE_g110, vE_g111, vE_g112, vE_g113] at hP
      refine lv_aload_n hx hb dX16_must_24 rfl (lv_at hl 0 rfl) ?_
      refine lv_dup hx hb dX16_must_25 rfl ?_
      refine S_get hC hK hP (oV_sv _ _ _ _ _) clX17 in_X17 1 (by decide) (fD102 _ _ _ _) q673 dX16_must_26 ?_
      refine W_top (y := (nI p)) (by rw [vE_f102]) ?_
      refine lv_iconst (v := 1) hx hb dX16_must_29 (by decide) ?_
      refine lv_iadd hx hb dX16_must_30 ?_
      refine W_top (nI_add p 1) ?_
      refine S_put1 hC hK hP (hD _ _ _) hS (oV_sv _ _ _ _ _) clX17 in_X17 tyX17_ok 1 (by decide) (by decide) (pV102 _ _ _ _ _ _) q673 rfl rfl rfl rfl (Nat.le_of_ble_eq_true rfl) dX16_must_31 (fun H locs hP hS => ?_)
      rw [vE_V102] at hP
      exact hq _ _ _ _ _ _ _ dX16_must_34 hP hS (by first | exact ⟨0, _, by rw [if_pos ((hz_ck hc0 hc1).mp c12)]; exact ⟨rfl, rfl⟩, rfl⟩ | exact ⟨1, _, by rw [if_neg (mt (hz_ck hc0 hc1).mpr c12)]; exact ⟨rfl, rfl⟩, rfl⟩) (by decide) (by decide)
set_option maxHeartbeats 4000000 in
theorem c_X16_must_ck (G : GG) (l : Launch) (o : Nat) (R : Nat → Nat) (tx : Nat) (u : MS) (c0 : Nat) (p : Nat) (n : Nat) (hp : (u.1 122) = nI p) (hn : (u.1 121) = nI n) (hn2 : n ≤ 240) (hp2 : p ≤ 900) (hf : (u.1 123) = 0) (hc0 : 0 < c0) (hc1 : c0 < 256) (hD : DwC o R) : CXv G l (PwC G o R tx) (AwC o R) yX16_must cX16_must 2 3 46 0 0 [.ref (R 120), .int (nI c0)] (PwC G o R tx u) (fun w => ∃ ft : Int32, ∃ pc : Int32, (if ckN (u.2.1 6) n p = c0 then ft = 0 ∧ pc = (u.1 124) else ft = 1 ∧ pc = nI p) ∧ w = (kE u (nI (p + 1)) ft pc (u.1 128) (u.1 129) (u.2.1 126) (u.2.1 127))) := by
  refine CXv.mk RX16 pnX16 rfl (Nat.le_of_ble_eq_true rfl) (fun pg en Rm sg mm ar bw mth cd QQ ls hC hRm hK hX hS hl hq => ?_)
  have hx := hC.1; have hb := hC.2.1; have ho := hC.2.2.2.1; have hts := hC.2.2.2.2
  have hP : PwC G o R tx u sg.heap := hX
  have hl : lv_has ls 2 [(0, .ref (R 120)), (1, .int (nI c0))] := hl
  have hP : PwC G o R tx (kE u (u.1 122) (u.1 123) (u.1 124) (u.1 128) (u.1 129) (u.2.1 126) (u.2.1 127)) sg.heap := by rw [kE_self]; exact hP
  rw [hp] at hP
  rw [hf] at hP
  refine lv_aload_n hx hb dX16_must_0 rfl (lv_at hl 0 rfl) ?_
  refine CIs.go (rcU (owner := RX16) (As := []) (x := ⟨"SharedWindow$Scribe", "isGood", "()Z"⟩) (C := RX18) hC hl (c_X16_isGood_ck G l o R tx (kE u (nI p) 0 (u.1 124) (u.1 128) (u.1 129) (u.2.1 126) (u.2.1 127))  ) hK hP (va_recv hK.1 hP clX18 (oC_ck _ _ _ _ _)) nq743 q765 q1826 q1827 q745 q132 q746 ⟨by decide, by decide, (show (parseMethodDescriptor "()Z").map (fun d => d.parameters.length) = some 0 by decide +kernel)⟩ (room_s hRm rfl) rfl rfl dX16_must_1) ?_
  refine W_top (y := (bI (isGB 0))) (by simp only [kE_f123]) ?_
  refine W_top (y := 1) (by decide) ?_
  refine lv_if_eq (tgt := 24) hx hb dX16_must_4 (by decide) (fun c4 => ?_) (fun c4 => ?_)
  · exact absurd c4 (by decide)
  · refine lv_aload_n hx hb dX16_must_7 rfl (lv_at hl 0 rfl) ?_
    refine CIs.go (rcU (owner := RX16) (As := []) (x := ⟨"SharedWindow$Scribe", "here", "()I"⟩) (C := RX18) hC hl (c_X16_here_ck G l o R tx (kE u (nI p) 0 (u.1 124) (u.1 128) (u.1 129) (u.2.1 126) (u.2.1 127)) p n (rfl) (hn) (hn2) (by omega)) hK hP (va_recv hK.1 hP clX18 (oC_ck _ _ _ _ _)) nq716 q708 q710 q711 q709 q132 q713 ⟨by decide, by decide, (show (parseMethodDescriptor "()I").map (fun d => d.parameters.length) = some 0 by decide +kernel)⟩ (room_s hRm rfl) rfl rfl dX16_must_8) ?_
    refine W_top (y := (nI (hzN (u.2.1 6) n p))) (by simp only [kE_g6]) ?_
    refine lv_iload_n hx hb dX16_must_11 rfl (lv_at hl 1 rfl) ?_
    refine lv_icmp_eq (tgt := 24) hx hb dX16_must_12 (by decide) (fun c12 => ?_) (fun c12 => ?_)
    · have c12 : (hzN (u.2.1 6) n p) = c0 := (nI_eq (a := (hzN (u.2.1 6) n p)) (b := c0) (by first | omega | exact hzN_b _ _ _) (by first | omega | exact hzN_b _ _ _)).mp c12
      refine lv_aload_n hx hb dX16_must_24 rfl (lv_at hl 0 rfl) ?_
      refine lv_dup hx hb dX16_must_25 rfl ?_
      refine S_get hC hK hP (oC_ck _ _ _ _ _) clX18 in_X18 1 (by decide) (fD122 _ _ _ _) q673 dX16_must_26 ?_
      refine W_top (y := (nI p)) (by rw [kE_f122]) ?_
      refine lv_iconst (v := 1) hx hb dX16_must_29 (by decide) ?_
      refine lv_iadd hx hb dX16_must_30 ?_
      refine W_top (nI_add p 1) ?_
      refine S_put1 hC hK hP (hD _ _ _) hS (oC_ck _ _ _ _ _) clX18 in_X18 tyX18_ok 1 (by decide) (by decide) (pC122 _ _ _ _ _ _) q673 rfl rfl rfl rfl (Nat.le_of_ble_eq_true rfl) dX16_must_31 (fun H locs hP hS => ?_)
      rw [kE_V122] at hP
      exact hq _ _ _ _ _ _ _ dX16_must_34 hP hS (by first | exact ⟨0, _, by rw [if_pos ((hz_ck hc0 hc1).mp c12)]; exact ⟨rfl, rfl⟩, rfl⟩ | exact ⟨1, _, by rw [if_neg (mt (hz_ck hc0 hc1).mpr c12)]; exact ⟨rfl, rfl⟩, rfl⟩) (by decide) (by decide)
    · have c12 : ¬ ((hzN (u.2.1 6) n p) = c0) := mt (nI_eq (a := (hzN (u.2.1 6) n p)) (b := c0) (by first | omega | exact hzN_b _ _ _) (by first | omega | exact hzN_b _ _ _)).mpr c12
      refine lv_aload_n hx hb dX16_must_15 rfl (lv_at hl 0 rfl) ?_
      refine lv_iconst (v := 1) hx hb dX16_must_16 (by decide) ?_
      refine lv_aload_n hx hb dX16_must_17 rfl (lv_at hl 0 rfl) ?_
      refine S_get hC hK hP (oC_ck _ _ _ _ _) clX18 in_X18 1 (by decide) (fD122 _ _ _ _) q673 dX16_must_18 ?_
      refine W_top (y := (nI p)) (by rw [kE_f122]) ?_
      refine CXv.go (rcU (owner := RX16) (As := [.int 1, .int (nI p)]) (x := ⟨"SharedWindow$Scribe", "bad", "(II)V"⟩) (C := RX18) hC hl (c_X16_bad_ck G l o R tx (kE u (nI p) 0 (u.1 124) (u.1 128) (u.1 129) (u.2.1 126) (u.2.1 127)) 1 (nI p) (rfl) hD) hK hP (va_recv hK.1 hP clX18 (oC_ck _ _ _ _ _)) nq726 q766 q1829 q1830 q728 q132 q729 ⟨by decide, by decide, (show (parseMethodDescriptor "(II)V").map (fun d => d.parameters.length) = some 2 by decide +kernel)⟩ (room_s hRm rfl) rfl rfl dX16_must_21) hS (fun q h => h) (fun w21 H locs hpo hP _ _ hS => ?_)
      have ew21 := hpo
      rw [ew21] at hP
      rw [kE_again] at hP
      simp only [kE_f122, kE_f128, kE_f129, kE_g126, kE_g127] at hP
      refine lv_aload_n hx hb dX16_must_24 rfl (lv_at hl 0 rfl) ?_
      refine lv_dup hx hb dX16_must_25 rfl ?_
      refine S_get hC hK hP (oC_ck _ _ _ _ _) clX18 in_X18 1 (by decide) (fD122 _ _ _ _) q673 dX16_must_26 ?_
      refine W_top (y := (nI p)) (by rw [kE_f122]) ?_
      refine lv_iconst (v := 1) hx hb dX16_must_29 (by decide) ?_
      refine lv_iadd hx hb dX16_must_30 ?_
      refine W_top (nI_add p 1) ?_
      refine S_put1 hC hK hP (hD _ _ _) hS (oC_ck _ _ _ _ _) clX18 in_X18 tyX18_ok 1 (by decide) (by decide) (pC122 _ _ _ _ _ _) q673 rfl rfl rfl rfl (Nat.le_of_ble_eq_true rfl) dX16_must_31 (fun H locs hP hS => ?_)
      rw [kE_V122] at hP
      exact hq _ _ _ _ _ _ _ dX16_must_34 hP hS (by first | exact ⟨0, _, by rw [if_pos ((hz_ck hc0 hc1).mp c12)]; exact ⟨rfl, rfl⟩, rfl⟩ | exact ⟨1, _, by rw [if_neg (mt (hz_ck hc0 hc1).mpr c12)]; exact ⟨rfl, rfl⟩, rfl⟩) (by decide) (by decide)
set_option maxHeartbeats 4000000 in
theorem c_X16_answer_sv (G : GG) (l : Launch) (o : Nat) (R : Nat → Nat) (tx : Nat) (u : MS) (k : Int32) : CIs G l yX16_answer cX16_answer 2 .int 3 44 [.ref (R 100), .int k] (PwV G o R tx u) (if isGB (u.1 103) = true then k else -1000 * (u.1 103) - (u.1 104)) := by
  refine CIs.mk RX16 pnX16 rfl (rfl) (Nat.le_of_ble_eq_true rfl) (fun pg en Rm sg mm ar bw mth cd QQ ls hC hRm hK hX hl hq => ?_)
  have hx := hC.1; have hb := hC.2.1; have ho := hC.2.2.2.1; have hts := hC.2.2.2.2
  have hP : PwV G o R tx u sg.heap := hX
  have hl : lv_has ls 2 [(0, .ref (R 100)), (1, .int k)] := hl
  refine lv_aload_n hx hb dX16_answer_0 rfl (lv_at hl 0 rfl) ?_
  refine CIs.go (rcU (owner := RX16) (As := []) (x := ⟨"SharedWindow$Scribe", "isGood", "()Z"⟩) (C := RX17) hC hl (c_X16_isGood_sv G l o R tx u  ) hK hP (va_recv hK.1 hP clX17 (oV_sv _ _ _ _ _)) nq743 q765 q1826 q1828 q745 q132 q746 ⟨by decide, by decide, (show (parseMethodDescriptor "()Z").map (fun d => d.parameters.length) = some 0 by decide +kernel)⟩ (room_s hRm rfl) rfl rfl dX16_answer_1) ?_
  refine lv_if_eq (tgt := 11) hx hb dX16_answer_4 (by decide) (fun c4 => ?_) (fun c4 => ?_)
  · have c4 : (isGB (u.1 103)) = false := bI_0.mp c4
    refine lv_sipush (v := (-1000)) hx hb dX16_answer_11 (by decide) ?_
    refine lv_aload_n hx hb dX16_answer_14 rfl (lv_at hl 0 rfl) ?_
    refine S_get (v := .int (u.1 103)) hC hK hP (oV_sv _ _ _ _ _) clX17 in_X17 2 (by decide) (fD103 _ _ _ _) q674 dX16_answer_15 ?_
    refine lv_imul hx hb dX16_answer_18 ?_
    refine lv_aload_n hx hb dX16_answer_19 rfl (lv_at hl 0 rfl) ?_
    refine S_get (v := .int (u.1 104)) hC hK hP (oV_sv _ _ _ _ _) clX17 in_X17 3 (by decide) (fD104 _ _ _ _) q675 dX16_answer_20 ?_
    refine lv_isub hx hb dX16_answer_23 ?_
    exact hq _ _ _ dX16_answer_24 (by first | (rw [if_pos (by assumption)]) | (rw [if_neg (by simp [*])]))
  · have c4 : (isGB (u.1 103)) = true := bI_1.mp c4
    refine lv_iload_n hx hb dX16_answer_7 rfl (lv_at hl 1 rfl) ?_
    refine lv_goto (tgt := 24) hx hb dX16_answer_8 (by decide) ?_
    exact hq _ _ _ dX16_answer_24 (by first | (rw [if_pos (by assumption)]) | (rw [if_neg (by simp [*])]))
set_option maxHeartbeats 4000000 in
theorem c_X16_answer_ck (G : GG) (l : Launch) (o : Nat) (R : Nat → Nat) (tx : Nat) (u : MS) (k : Int32) : CIs G l yX16_answer cX16_answer 2 .int 3 44 [.ref (R 120), .int k] (PwC G o R tx u) (if isGB (u.1 123) = true then k else -1000 * (u.1 123) - (u.1 124)) := by
  refine CIs.mk RX16 pnX16 rfl (rfl) (Nat.le_of_ble_eq_true rfl) (fun pg en Rm sg mm ar bw mth cd QQ ls hC hRm hK hX hl hq => ?_)
  have hx := hC.1; have hb := hC.2.1; have ho := hC.2.2.2.1; have hts := hC.2.2.2.2
  have hP : PwC G o R tx u sg.heap := hX
  have hl : lv_has ls 2 [(0, .ref (R 120)), (1, .int k)] := hl
  refine lv_aload_n hx hb dX16_answer_0 rfl (lv_at hl 0 rfl) ?_
  refine CIs.go (rcU (owner := RX16) (As := []) (x := ⟨"SharedWindow$Scribe", "isGood", "()Z"⟩) (C := RX18) hC hl (c_X16_isGood_ck G l o R tx u  ) hK hP (va_recv hK.1 hP clX18 (oC_ck _ _ _ _ _)) nq743 q765 q1826 q1827 q745 q132 q746 ⟨by decide, by decide, (show (parseMethodDescriptor "()Z").map (fun d => d.parameters.length) = some 0 by decide +kernel)⟩ (room_s hRm rfl) rfl rfl dX16_answer_1) ?_
  refine lv_if_eq (tgt := 11) hx hb dX16_answer_4 (by decide) (fun c4 => ?_) (fun c4 => ?_)
  · have c4 : (isGB (u.1 123)) = false := bI_0.mp c4
    refine lv_sipush (v := (-1000)) hx hb dX16_answer_11 (by decide) ?_
    refine lv_aload_n hx hb dX16_answer_14 rfl (lv_at hl 0 rfl) ?_
    refine S_get (v := .int (u.1 123)) hC hK hP (oC_ck _ _ _ _ _) clX18 in_X18 2 (by decide) (fD123 _ _ _ _) q674 dX16_answer_15 ?_
    refine lv_imul hx hb dX16_answer_18 ?_
    refine lv_aload_n hx hb dX16_answer_19 rfl (lv_at hl 0 rfl) ?_
    refine S_get (v := .int (u.1 124)) hC hK hP (oC_ck _ _ _ _ _) clX18 in_X18 3 (by decide) (fD124 _ _ _ _) q675 dX16_answer_20 ?_
    refine lv_isub hx hb dX16_answer_23 ?_
    exact hq _ _ _ dX16_answer_24 (by first | (rw [if_pos (by assumption)]) | (rw [if_neg (by simp [*])]))
  · have c4 : (isGB (u.1 123)) = true := bI_1.mp c4
    refine lv_iload_n hx hb dX16_answer_7 rfl (lv_at hl 1 rfl) ?_
    refine lv_goto (tgt := 24) hx hb dX16_answer_8 (by decide) ?_
    exact hq _ _ _ dX16_answer_24 (by first | (rw [if_pos (by assumption)]) | (rw [if_neg (by simp [*])]))
