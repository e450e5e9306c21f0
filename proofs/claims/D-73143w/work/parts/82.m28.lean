set_option maxRecDepth 100000
set_option maxHeartbeats 4000000 in
theorem c_X6_readsNumber (G : GG) (l : Launch) (o : Nat) (R : Nat → Nat) (u : MS) (p : Nat) (n : Nat) (hp : (u.1 12) = nI p) (hn : (u.1 13) = nI n) (hn2 : n ≤ 240) (hpn : p ≤ n) (hD : DM o R) : CMi G l o R yX6_readsNumber cX6_readsNumber 2 .boolean 4 56 [] u (fun r w => ∃ ok : Bool, ∃ pl : Int32, ∃ fa : Int32, ∃ nu : Int32, (nlPost (u.2.1 10) n p ok pl fa nu) ∧ r = (bI ok) ∧ w = (lE u pl fa nu (u.1 16) (u.1 17) (u.1 18) (u.1 19) (u.1 11) (nI n) (u.1 20) (u.2.1 21) (u.2.1 22) (u.2.1 23) (u.2.1 24) (u.2.1 25) (u.2.1 26) (u.2.1 27) (u.2.1 28) (u.2.1 29) (u.2.1 30) (u.2.1 31))) := by
  refine CMi.mk pnX6 rfl (Nat.le_of_ble_eq_true rfl) (fun pg en Rm sg mm ar bw mth cd QQ ls hC hRm hK hP hS hl hq => ?_)
  have hx := hC.1; have hb := hC.2.1; have ho := hC.2.2.2.1; have hts := hC.2.2.2.2
  have hl : lv_has ls 2 [(0, .ref o)] := hl
  have hP : PM G o R (lE u (u.1 12) (u.1 14) (u.1 15) (u.1 16) (u.1 17) (u.1 18) (u.1 19) (u.1 11) (u.1 13) (u.1 20) (u.2.1 21) (u.2.1 22) (u.2.1 23) (u.2.1 24) (u.2.1 25) (u.2.1 26) (u.2.1 27) (u.2.1 28) (u.2.1 29) (u.2.1 30) (u.2.1 31)) sg.heap := by rw [lE_self]; exact hP
  rw [hp] at hP
  rw [hn] at hP
  refine lv_aload_n hx hb dX6_readsNumber_0 rfl (lv_at hl 0 rfl) ?_
  refine M_get hC hK hP 12 (by decide) (fM12 _ _) q1213 dX6_readsNumber_1 ?_
  refine W_top (y := (nI p)) (by rw [lE_f12]) ?_
  refine lv_istore_n (lv' := [(1, .int (nI p)), (0, .ref o)]) hx hb dX6_readsNumber_4 rfl hl (by decide) rfl (fun ls hl => ?_)
  refine lv_aload_n hx hb dX6_readsNumber_5 rfl (lv_at hl 1 rfl) ?_
  refine lv_iconst (v := 0) hx hb dX6_readsNumber_6 (by decide) ?_
  refine M_put hC hK hD hP hS 15 (by decide) (sM15 _ _ _) q1216 rfl dX6_readsNumber_7 (fun H locs hP hS => ?_)
  rw [lE_V15] at hP
  have LP10 : ∀ (fu10 : Nat) (q : Nat) (v : Nat) (b : Nat) (pl : Int32) (nu : Int32) (H : Heap) (locs : List Loc) (ls : Array Slot), b < fu10 → pl = nI q → nu = nI v → nmL (u.2.1 10) n b q v = numL (u.2.1 10) n p → q + b = p + 5 → (v + 1) * 10 ^ b ≤ 100000 → q ≤ n → PM G o R (lE u pl (u.1 14) nu (u.1 16) (u.1 17) (u.1 18) (u.1 19) (u.1 11) (nI n) (u.1 20) (u.2.1 21) (u.2.1 22) (u.2.1 23) (u.2.1 24) (u.2.1 25) (u.2.1 26) (u.2.1 27) (u.2.1 28) (u.2.1 29) (u.2.1 30) (u.2.1 31)) H → va_S (AM o R) sg.heap H locs → lv_has ls 2 [(0, .ref o), (1, .int (nI p))] → W pg l en Rm sg mm ar bw mth cd H locs 0 0 QQ (F0 mm 10 ls []) := by
    intro fu10
    induction fu10 with
    | zero => intro q v b pl nu H locs ls hm10 hpl hnu hI hqp hv hqn2 hP hS hl; exact absurd hm10 (Nat.not_lt_zero _)
    | succ fu10 ih10 =>
      intro q v b pl nu H locs ls hm10 hpl hnu hI hqp hv hqn2 hP hS hl
      subst hpl hnu
      refine lv_aload_n hx hb dX6_readsNumber_10 rfl (lv_at hl 0 rfl) ?_
      refine CI.callV hC hK hl (c_X6_isDigit G l o R (lE u (nI q) (u.1 14) (nI v) (u.1 16) (u.1 17) (u.1 18) (u.1 19) (u.1 11) (nI n) (u.1 20) (u.2.1 21) (u.2.1 22) (u.2.1 23) (u.2.1 24) (u.2.1 25) (u.2.1 26) (u.2.1 27) (u.2.1 28) (u.2.1 29) (u.2.1 30) (u.2.1 31)) q n (rfl) (rfl) (hn2) (by omega)) hP (hP.recv hK) q1459 q1461 qs57 q116 q1462 mdX6_isDigit (room_ok hRm rfl) rfl rfl dX6_readsNumber_11 ?_
      refine W_top (y := (bI (digB (u.2.1 10) n q))) (by simp only [lE_g10]) ?_
      refine lv_if_eq (tgt := 69) hx hb dX6_readsNumber_14 (by decide) (fun c14 => ?_) (fun c14 => ?_)
      · have c14 : (digB (u.2.1 10) n q) = false := bI_0.mp c14
        refine lv_iconst (v := 1) hx hb dX6_readsNumber_69 (by decide) ?_
        exact hq _ _ _ _ _ _ dX6_readsNumber_70 hP hS (by first | rfl | exact bI_nar _) (by exact ⟨true, _, _, _, by unfold nlPost; rw [← hI, nmL_e c14]; exact ⟨rfl, rfl, rfl⟩, rfl, rfl⟩)
      · have c14 : (digB (u.2.1 10) n q) = true := bI_1.mp c14
        have hd48 : 48 ≤ ocN (u.2.1 10) q ∧ ocN (u.2.1 10) q ≤ 57 := ⟨(digB_ck c14).2.1, (digB_ck c14).2.2.1⟩
        have hqn := (digB_ck c14).1
        have hvl := nm_lt hv
        refine lv_aload_n hx hb dX6_readsNumber_17 rfl (lv_at hl 0 rfl) ?_
        refine M_get hC hK hP 12 (by decide) (fM12 _ _) q1213 dX6_readsNumber_18 ?_
        refine W_top (y := (nI q)) (by rw [lE_f12]) ?_
        refine lv_iload_n hx hb dX6_readsNumber_21 rfl (lv_at hl 1 rfl) ?_
        refine lv_iconst (v := 5) hx hb dX6_readsNumber_22 (by decide) ?_
        refine lv_iadd hx hb dX6_readsNumber_23 ?_
        refine W_top (nI_add p 5) ?_
        refine lv_icmp_ne (tgt := 37) hx hb dX6_readsNumber_24 (by decide) (fun c24 => ?_) (fun c24 => ?_)
        · have c24 : ¬ (q = (p + 5)) := mt (nI_eq (a := q) (b := (p + 5)) (by omega) (by omega)).mpr c24
          refine lv_aload_n hx hb dX6_readsNumber_37 rfl (lv_at hl 0 rfl) ?_
          refine lv_bipush (v := 10) hx hb dX6_readsNumber_38 (by decide) ?_
          refine lv_aload_n hx hb dX6_readsNumber_40 rfl (lv_at hl 0 rfl) ?_
          refine M_get hC hK hP 15 (by decide) (fM15 _ _) q1216 dX6_readsNumber_41 ?_
          refine W_top (y := (nI v)) (by rw [lE_f15]) ?_
          refine lv_imul hx hb dX6_readsNumber_44 ?_
          refine W_top (pk_mul 10 v) ?_
          refine lv_aload_n hx hb dX6_readsNumber_45 rfl (lv_at hl 0 rfl) ?_
          refine CI.callV hC hK hl (c_X6_here G l o R (lE u (nI q) (u.1 14) (nI v) (u.1 16) (u.1 17) (u.1 18) (u.1 19) (u.1 11) (nI n) (u.1 20) (u.2.1 21) (u.2.1 22) (u.2.1 23) (u.2.1 24) (u.2.1 25) (u.2.1 26) (u.2.1 27) (u.2.1 28) (u.2.1 29) (u.2.1 30) (u.2.1 31)) q n (rfl) (rfl) (hn2) (by omega)) hP (hP.recv hK) q1438 q1440 qs52 q116 q1441 mdX6_here (room_ok hRm rfl) rfl rfl dX6_readsNumber_46 ?_
          refine W_top (y := (hereI (u.2.1 10) n q)) (by simp only [lE_g10]) ?_
          refine W_top (y := (nI (ocN (u.2.1 10) q))) ((digB_ck c14).2.2.2) ?_
          refine lv_iadd hx hb dX6_readsNumber_49 ?_
          refine W_top (nI_add (10 * v) (ocN (u.2.1 10) q)) ?_
          refine lv_bipush (v := 48) hx hb dX6_readsNumber_50 (by decide) ?_
          refine lv_isub hx hb dX6_readsNumber_52 ?_
          refine W_top (y := (nI (10 * v + (ocN (u.2.1 10) q - 48)))) ((pk_sub (a := 10 * v + ocN (u.2.1 10) q) (b := 48) (by omega)).trans (by rw [Nat.add_sub_assoc hd48.1])) ?_
          refine M_put hC hK hD hP hS 15 (by decide) (sM15 _ _ _) q1216 rfl dX6_readsNumber_53 (fun H locs hP hS => ?_)
          rw [lE_V15] at hP
          refine lv_aload_n hx hb dX6_readsNumber_56 rfl (lv_at hl 0 rfl) ?_
          refine lv_aload_n hx hb dX6_readsNumber_57 rfl (lv_at hl 0 rfl) ?_
          refine M_get hC hK hP 12 (by decide) (fM12 _ _) q1213 dX6_readsNumber_58 ?_
          refine W_top (y := (nI q)) (by rw [lE_f12]) ?_
          refine lv_iconst (v := 1) hx hb dX6_readsNumber_61 (by decide) ?_
          refine lv_iadd hx hb dX6_readsNumber_62 ?_
          refine W_top (nI_add q 1) ?_
          refine M_put hC hK hD hP hS 12 (by decide) (sM12 _ _ _) q1213 rfl dX6_readsNumber_63 (fun H locs hP hS => ?_)
          rw [lE_V12] at hP
          refine lv_goto (tgt := 10) hx hb dX6_readsNumber_66 (by decide) ?_
          exact ih10 (q + 1) (10 * v + (ocN (u.2.1 10) q - 48)) (b - 1) (nI (q + 1)) (nI (10 * v + (ocN (u.2.1 10) q - 48))) _ _ ls (by omega) (rfl) (rfl) ((nmL_s (by omega) c14).symm.trans hI) (by omega) (nm10 (by omega) (by omega) hv) (by omega) hP hS (lv_sub hl [0, 1] rfl)
        · have c24 : q = (p + 5) := (nI_eq (a := q) (b := (p + 5)) (by omega) (by omega)).mp c24
          refine lv_aload_n hx hb dX6_readsNumber_27 rfl (lv_at hl 0 rfl) ?_
          refine lv_iconst (v := 2) hx hb dX6_readsNumber_28 (by decide) ?_
          refine lv_aload_n hx hb dX6_readsNumber_29 rfl (lv_at hl 0 rfl) ?_
          refine M_get hC hK hP 12 (by decide) (fM12 _ _) q1213 dX6_readsNumber_30 ?_
          refine W_top (y := (nI q)) (by rw [lE_f12]) ?_
          refine CMi.call hC hK hS (fun q h => h) hl (c_X6_wrongAt G l o R (lE u (nI q) (u.1 14) (nI v) (u.1 16) (u.1 17) (u.1 18) (u.1 19) (u.1 11) (nI n) (u.1 20) (u.2.1 21) (u.2.1 22) (u.2.1 23) (u.2.1 24) (u.2.1 25) (u.2.1 26) (u.2.1 27) (u.2.1 28) (u.2.1 29) (u.2.1 30) (u.2.1 31)) 2 q  hD) hP rfl q1442 q1444 qs53 q116 q1445 mdX6_wrongAt (room_ok hRm rfl) rfl rfl dX6_readsNumber_33 (fun r33 w33 H locs hpo hP _ _ hS => ?_)
          obtain ⟨er33, ew33⟩ := hpo
          rw [ew33] at hP
          refine W_top (y := (bI false)) er33 ?_
          rw [lE_V14] at hP
          exact hq _ _ _ _ _ _ dX6_readsNumber_36 hP hS (by first | rfl | exact bI_nar _) (by have e : b = 0 := (by omega); subst e; exact ⟨false, _, _, _, by unfold nlPost; rw [← hI, nmL_0 c14]; exact ⟨rfl, rfl⟩, rfl, rfl⟩)
  exact LP10 _ p 0 5 (nI p) 0 _ _ ls (Nat.lt_succ_self _) (rfl) (rfl) (rfl) (rfl) (by decide) (hpn) hP hS (lv_sub hl [1, 0] rfl)
set_option maxHeartbeats 4000000 in
theorem c_X6_notes (G : GG) (l : Launch) (o : Nat) (R : Nat → Nat) (u : MS) (op : Nat) (v : Nat) (c : Nat) (hc : (u.1 17) = nI c) (hc2 : c < 260) (hop : op ≤ 14) (hv : v < 1048576) (hD : DM o R) : CMv G l o R yX6_notes cX6_notes 3 2 16 [.int (nI op), .int (nI v)] u (fun w => w = (lE u (u.1 12) (u.1 14) (u.1 15) (u.1 16) (nI (c + 1)) (u.1 18) (u.1 19) (u.1 11) (u.1 13) (u.1 20) (upd (u.2.1 21) c (nI (1048576 * op + v))) (u.2.1 22) (u.2.1 23) (u.2.1 24) (u.2.1 25) (u.2.1 26) (u.2.1 27) (u.2.1 28) (u.2.1 29) (u.2.1 30) (u.2.1 31))) := by
  refine CMv.mk pnX6 rfl (Nat.le_of_ble_eq_true rfl) (fun pg en Rm sg mm ar bw mth cd QQ ls hC hRm hK hP hS hl hq => ?_)
  have hx := hC.1; have hb := hC.2.1; have ho := hC.2.2.2.1; have hts := hC.2.2.2.2
  have hl : lv_has ls 3 [(0, .ref o), (1, .int (nI op)), (2, .int (nI v))] := hl
  have hP : PM G o R (lE u (u.1 12) (u.1 14) (u.1 15) (u.1 16) (u.1 17) (u.1 18) (u.1 19) (u.1 11) (u.1 13) (u.1 20) (u.2.1 21) (u.2.1 22) (u.2.1 23) (u.2.1 24) (u.2.1 25) (u.2.1 26) (u.2.1 27) (u.2.1 28) (u.2.1 29) (u.2.1 30) (u.2.1 31)) sg.heap := by rw [lE_self]; exact hP
  rw [hc] at hP
  refine lv_aload_n hx hb dX6_notes_0 rfl (lv_at hl 0 rfl) ?_
  refine M_get hC hK hP 21 (by decide) (fM21 _ _) q1222 dX6_notes_1 ?_
  refine lv_aload_n hx hb dX6_notes_4 rfl (lv_at hl 0 rfl) ?_
  refine M_get hC hK hP 17 (by decide) (fM17 _ _) q1218 dX6_notes_5 ?_
  refine W_top (y := (nI c)) (by rw [lE_f17]) ?_
  refine lv_ldc (own := RX6) (v := 1048576) hx hb ho (hts _ q1458) dX6_notes_8 ?_
  refine lv_iload_n hx hb dX6_notes_10 rfl (lv_at hl 1 rfl) ?_
  refine lv_imul hx hb dX6_notes_11 ?_
  refine W_top (pk_mul 1048576 op) ?_
  refine lv_iload_n hx hb dX6_notes_12 rfl (lv_at hl 2 rfl) ?_
  refine lv_iadd hx hb dX6_notes_13 ?_
  refine W_top (nI_add (1048576 * op) v) ?_
  refine M_ast hC hK hD hP hS 21 10 260 c (aM21 _ _ _ _) (bM21 _ _ _ _ _ _) (by decide) (rfl) (by omega) dX6_notes_14 (fun H locs hP hS => ?_)
  rw [lE_A21] at hP
  refine lv_aload_n hx hb dX6_notes_15 rfl (lv_at hl 0 rfl) ?_
  refine lv_aload_n hx hb dX6_notes_16 rfl (lv_at hl 0 rfl) ?_
  refine M_get hC hK hP 17 (by decide) (fM17 _ _) q1218 dX6_notes_17 ?_
  refine W_top (y := (nI c)) (by rw [lE_f17]) ?_
  refine lv_iconst (v := 1) hx hb dX6_notes_20 (by decide) ?_
  refine lv_iadd hx hb dX6_notes_21 ?_
  refine W_top (nI_add c 1) ?_
  refine M_put hC hK hD hP hS 17 (by decide) (sM17 _ _ _) q1218 rfl dX6_notes_22 (fun H locs hP hS => ?_)
  rw [lE_V17] at hP
  exact hq _ _ _ _ _ dX6_notes_25 hP hS (by exact rfl)
set_option maxHeartbeats 4000000 in
theorem c_X6_opens (G : GG) (l : Launch) (o : Nat) (R : Nat → Nat) (u : MS) (what : Nat) (o1 : Nat) (w0 : Nat) (p : Nat) (ho1 : (u.1 16) = nI o1) (ho2 : o1 ≤ 6) (hw : (u.1 18) = nI w0) (hw2 : w0 < 260) (hp : (u.1 12) = nI p) (hp2 : p < 2 ^ 30) (hwh : what ≤ 14) (hD : DM o R) : CMi G l o R yX6_opens cX6_opens 2 .boolean 3 38 [.int (nI what)] u (fun r w => ∃ ok : Bool, ∃ fa : Int32, ∃ op : Int32, ∃ wa : Int32, ∃ pl : Int32, ∃ x : Nat → Int32, (if o1 = 6 then ok = false ∧ fa = wrI 5 p else ok = true ∧ op = nI (o1 + 1) ∧ x = upd (u.2.1 22) w0 (nI (1048576 * what)) ∧ wa = nI (w0 + 1) ∧ pl = nI (p + 1)) ∧ r = (bI ok) ∧ w = (lE u pl fa (u.1 15) op (u.1 17) wa (u.1 19) (u.1 11) (u.1 13) (u.1 20) (u.2.1 21) x (u.2.1 23) (u.2.1 24) (u.2.1 25) (u.2.1 26) (u.2.1 27) (u.2.1 28) (u.2.1 29) (u.2.1 30) (u.2.1 31))) := by
  refine CMi.mk pnX6 rfl (Nat.le_of_ble_eq_true rfl) (fun pg en Rm sg mm ar bw mth cd QQ ls hC hRm hK hP hS hl hq => ?_)
  have hx := hC.1; have hb := hC.2.1; have ho := hC.2.2.2.1; have hts := hC.2.2.2.2
  have hl : lv_has ls 2 [(0, .ref o), (1, .int (nI what))] := hl
  have hP : PM G o R (lE u (u.1 12) (u.1 14) (u.1 15) (u.1 16) (u.1 17) (u.1 18) (u.1 19) (u.1 11) (u.1 13) (u.1 20) (u.2.1 21) (u.2.1 22) (u.2.1 23) (u.2.1 24) (u.2.1 25) (u.2.1 26) (u.2.1 27) (u.2.1 28) (u.2.1 29) (u.2.1 30) (u.2.1 31)) sg.heap := by rw [lE_self]; exact hP
  rw [ho1] at hP
  rw [hw] at hP
  rw [hp] at hP
  refine lv_aload_n hx hb dX6_opens_0 rfl (lv_at hl 0 rfl) ?_
  refine M_get hC hK hP 16 (by decide) (fM16 _ _) q1217 dX6_opens_1 ?_
  refine W_top (y := (nI o1)) (by rw [lE_f16]) ?_
  refine lv_bipush (v := 6) hx hb dX6_opens_4 (by decide) ?_
  refine lv_icmp_ne (tgt := 19) hx hb dX6_opens_6 (by decide) (fun c6 => ?_) (fun c6 => ?_)
  · have c6 : ¬ (o1 = 6) := mt (nI_eq (a := o1) (b := 6) (by omega) (by omega)).mpr c6
    refine lv_aload_n hx hb dX6_opens_19 rfl (lv_at hl 0 rfl) ?_
    refine lv_aload_n hx hb dX6_opens_20 rfl (lv_at hl 0 rfl) ?_
    refine M_get hC hK hP 16 (by decide) (fM16 _ _) q1217 dX6_opens_21 ?_
    refine W_top (y := (nI o1)) (by rw [lE_f16]) ?_
    refine lv_iconst (v := 1) hx hb dX6_opens_24 (by decide) ?_
    refine lv_iadd hx hb dX6_opens_25 ?_
    refine W_top (nI_add o1 1) ?_
    refine M_put hC hK hD hP hS 16 (by decide) (sM16 _ _ _) q1217 rfl dX6_opens_26 (fun H locs hP hS => ?_)
    rw [lE_V16] at hP
    refine lv_aload_n hx hb dX6_opens_29 rfl (lv_at hl 0 rfl) ?_
    refine M_get hC hK hP 22 (by decide) (fM22 _ _) q1223 dX6_opens_30 ?_
    refine lv_aload_n hx hb dX6_opens_33 rfl (lv_at hl 0 rfl) ?_
    refine M_get hC hK hP 18 (by decide) (fM18 _ _) q1219 dX6_opens_34 ?_
    refine W_top (y := (nI w0)) (by rw [lE_f18]) ?_
    refine lv_ldc (own := RX6) (v := 1048576) hx hb ho (hts _ q1458) dX6_opens_37 ?_
    refine lv_iload_n hx hb dX6_opens_39 rfl (lv_at hl 1 rfl) ?_
    refine lv_imul hx hb dX6_opens_40 ?_
    refine W_top (pk_mul 1048576 what) ?_
    refine M_ast hC hK hD hP hS 22 11 260 w0 (aM22 _ _ _ _) (bM22 _ _ _ _ _ _) (by decide) (rfl) (by omega) dX6_opens_41 (fun H locs hP hS => ?_)
    rw [lE_A22] at hP
    refine lv_aload_n hx hb dX6_opens_42 rfl (lv_at hl 0 rfl) ?_
    refine lv_aload_n hx hb dX6_opens_43 rfl (lv_at hl 0 rfl) ?_
    refine M_get hC hK hP 18 (by decide) (fM18 _ _) q1219 dX6_opens_44 ?_
    refine W_top (y := (nI w0)) (by rw [lE_f18]) ?_
    refine lv_iconst (v := 1) hx hb dX6_opens_47 (by decide) ?_
    refine lv_iadd hx hb dX6_opens_48 ?_
    refine W_top (nI_add w0 1) ?_
    refine M_put hC hK hD hP hS 18 (by decide) (sM18 _ _ _) q1219 rfl dX6_opens_49 (fun H locs hP hS => ?_)
    rw [lE_V18] at hP
    refine lv_aload_n hx hb dX6_opens_52 rfl (lv_at hl 0 rfl) ?_
    refine lv_aload_n hx hb dX6_opens_53 rfl (lv_at hl 0 rfl) ?_
    refine M_get hC hK hP 12 (by decide) (fM12 _ _) q1213 dX6_opens_54 ?_
    refine W_top (y := (nI p)) (by rw [lE_f12]) ?_
    refine lv_iconst (v := 1) hx hb dX6_opens_57 (by decide) ?_
    refine lv_iadd hx hb dX6_opens_58 ?_
    refine W_top (nI_add p 1) ?_
    refine M_put hC hK hD hP hS 12 (by decide) (sM12 _ _ _) q1213 rfl dX6_opens_59 (fun H locs hP hS => ?_)
    rw [lE_V12] at hP
    refine lv_iconst (v := 1) hx hb dX6_opens_62 (by decide) ?_
    exact hq _ _ _ _ _ _ dX6_opens_63 hP hS (by first | rfl | exact bI_nar _) (by exact ⟨true, _, _, _, _, _, by rw [if_neg c6]; exact ⟨rfl, rfl, rfl, rfl, rfl⟩, rfl, rfl⟩)
  · have c6 : o1 = 6 := (nI_eq (a := o1) (b := 6) (by omega) (by omega)).mp c6
    refine lv_aload_n hx hb dX6_opens_9 rfl (lv_at hl 0 rfl) ?_
    refine lv_iconst (v := 5) hx hb dX6_opens_10 (by decide) ?_
    refine lv_aload_n hx hb dX6_opens_11 rfl (lv_at hl 0 rfl) ?_
    refine M_get hC hK hP 12 (by decide) (fM12 _ _) q1213 dX6_opens_12 ?_
    refine W_top (y := (nI p)) (by rw [lE_f12]) ?_
    refine CMi.call hC hK hS (fun q h => h) hl (c_X6_wrongAt G l o R (lE u (nI p) (u.1 14) (u.1 15) (nI o1) (u.1 17) (nI w0) (u.1 19) (u.1 11) (u.1 13) (u.1 20) (u.2.1 21) (u.2.1 22) (u.2.1 23) (u.2.1 24) (u.2.1 25) (u.2.1 26) (u.2.1 27) (u.2.1 28) (u.2.1 29) (u.2.1 30) (u.2.1 31)) 5 p  hD) hP rfl q1442 q1444 qs53 q116 q1445 mdX6_wrongAt (room_ok hRm rfl) rfl rfl dX6_opens_15 (fun r15 w15 H locs hpo hP _ _ hS => ?_)
    obtain ⟨er15, ew15⟩ := hpo
    rw [ew15] at hP
    refine W_top (y := (bI false)) er15 ?_
    rw [lE_V14] at hP
    exact hq _ _ _ _ _ _ dX6_opens_18 hP hS (by first | rfl | exact bI_nar _) (by exact ⟨false, _, _, _, _, _, by rw [if_pos c6]; exact ⟨rfl, rfl⟩, rfl, rfl⟩)
set_option maxHeartbeats 4000000 in
theorem c_X6_waitTop (G : GG) (l : Launch) (o : Nat) (R : Nat → Nat) (u : MS) (ws : List Nat) (hw : (u.1 18) = nI ws.length) (hw2 : ws.length ≤ 240) (hst : stA ws (u.2.1 22)) : CI G l yX6_waitTop cX6_waitTop 1 .int 2 16 [.ref o] (PM G o R u) (topI ws) := by
  refine CI.mk RX6 pnX6 rfl (rfl) (Nat.le_of_ble_eq_true rfl) (fun pg en Rm sg mm ar bw mth cd QQ ls hC hRm hK hP hl hq => ?_)
  have hx := hC.1; have hb := hC.2.1; have ho := hC.2.2.2.1; have hts := hC.2.2.2.2
  have hl : lv_has ls 1 [(0, .ref o)] := hl
  refine lv_aload_n hx hb dX6_waitTop_0 rfl (lv_at hl 0 rfl) ?_
  refine M_get (v := .int (u.1 18)) hC hK hP 18 (by decide) (fM18 _ _) q1219 dX6_waitTop_1 ?_
  refine W_top hw ?_
  refine lv_if_ne (tgt := 11) hx hb dX6_waitTop_4 (by decide) (fun c4 => ?_) (fun c4 => ?_)
  · have c4 : ¬ (ws.length = 0) := mt (nI_eq (a := ws.length) (b := 0) (by omega) (by omega)).mpr c4
    obtain ⟨x0, w1, rfl⟩ := cons_ofN (ws := ws) (by omega)
    have hl : lv_has ls 1 [(0, .ref o)] := hl
    have hl1 : w1.length ≤ 239 := by rw [List.length_cons] at hw2; omega
    have hx0 := hst.1.2
    refine lv_aload_n hx hb dX6_waitTop_11 rfl (lv_at hl 0 rfl) ?_
    refine M_get hC hK hP 22 (by decide) (fM22 _ _) q1223 dX6_waitTop_12 ?_
    refine lv_aload_n hx hb dX6_waitTop_15 rfl (lv_at hl 0 rfl) ?_
    refine M_get (v := .int (u.1 18)) hC hK hP 18 (by decide) (fM18 _ _) q1219 dX6_waitTop_16 ?_
    refine W_top hw ?_
    refine lv_iconst (v := 1) hx hb dX6_waitTop_19 (by decide) ?_
    refine lv_isub hx hb dX6_waitTop_20 ?_
    refine W_top (y := (nI w1.length)) (pk_sub (a := w1.length + 1) (b := 1) (by omega)) ?_
    refine M_ald hC hK hP 22 11 260 w1.length (aM22 _ _ _ _) (by decide) (rfl) (by omega) dX6_waitTop_21 ?_
    refine W_top (y := (nI x0)) (hst.1.1) ?_
    refine lv_ldc (own := RX6) (v := 1048576) hx hb ho (hts _ q1458) dX6_waitTop_22 ?_
    refine lv_idiv hx hb dX6_waitTop_24 (by decide) ?_
    refine W_top (pk_div (a := x0) (d := 1048576) (by omega) (by omega) (by omega)) ?_
    exact hq _ _ _ dX6_waitTop_25 (by first | (rw [List.length_eq_zero_iff.mp (by omega : ws.length = 0)]; rfl) | rfl)
  · have c4 : ws.length = 0 := (nI_eq (a := ws.length) (b := 0) (by omega) (by omega)).mp c4
    refine lv_iconst (v := (-1)) hx hb dX6_waitTop_7 (by decide) ?_
    refine lv_goto (tgt := 25) hx hb dX6_waitTop_8 (by decide) ?_
    exact hq _ _ _ dX6_waitTop_25 (by first | (rw [List.length_eq_zero_iff.mp (by omega : ws.length = 0)]; rfl) | rfl)
set_option maxHeartbeats 4000000 in
theorem c_X6_factOf (G : GG) (l : Launch) (x : Int32) : CI G l yX6_factOf cX6_factOf 1 .int 2 16 [.int x] (fun _ => True) (factI x) := by
  refine CI.mk RX6 pnX6 rfl (rfl) (Nat.le_of_ble_eq_true rfl) (fun pg en Rm sg mm ar bw mth cd QQ ls hC hRm hK hP hl hq => ?_)
  have hx := hC.1; have hb := hC.2.1; have ho := hC.2.2.2.1; have hts := hC.2.2.2.2
  have hl : lv_has ls 1 [(0, .int x)] := hl
  refine lv_iload_n hx hb dX6_factOf_0 rfl (lv_at hl 0 rfl) ?_
  by_cases s1_98 : x = 98
  · refine lv_tableIn (tgt := 114) hx hb dX6_factOf_1 (by rw [s1_98]; decide) (by rw [s1_98]; decide) (by rw [s1_98]; rfl) (by decide) ?_
    refine lv_iconst (v := 5) hx hb dX6_factOf_114 (by decide) ?_
    exact hq _ _ _ dX6_factOf_115 (by unfold factI; simp [*])
  by_cases s1_99 : x = 99
  · refine lv_tableIn (tgt := 125) hx hb dX6_factOf_1 (by rw [s1_99]; decide) (by rw [s1_99]; decide) (by rw [s1_99]; rfl) (by decide) ?_
    refine lv_iconst (v := (-1)) hx hb dX6_factOf_125 (by decide) ?_
    exact hq _ _ _ dX6_factOf_126 (by unfold factI; simp [*])
  by_cases s1_100 : x = 100
  · refine lv_tableIn (tgt := 110) hx hb dX6_factOf_1 (by rw [s1_100]; decide) (by rw [s1_100]; decide) (by rw [s1_100]; rfl) (by decide) ?_
    refine lv_iconst (v := 3) hx hb dX6_factOf_110 (by decide) ?_
    exact hq _ _ _ dX6_factOf_111 (by unfold factI; simp [*])
  by_cases s1_101 : x = 101
  · refine lv_tableIn (tgt := 125) hx hb dX6_factOf_1 (by rw [s1_101]; decide) (by rw [s1_101]; decide) (by rw [s1_101]; rfl) (by decide) ?_
    refine lv_iconst (v := (-1)) hx hb dX6_factOf_125 (by decide) ?_
    exact hq _ _ _ dX6_factOf_126 (by unfold factI; simp [*])
  by_cases s1_102 : x = 102
  · refine lv_tableIn (tgt := 125) hx hb dX6_factOf_1 (by rw [s1_102]; decide) (by rw [s1_102]; decide) (by rw [s1_102]; rfl) (by decide) ?_
    refine lv_iconst (v := (-1)) hx hb dX6_factOf_125 (by decide) ?_
    exact hq _ _ _ dX6_factOf_126 (by unfold factI; simp [*])
  by_cases s1_103 : x = 103
  · refine lv_tableIn (tgt := 106) hx hb dX6_factOf_1 (by rw [s1_103]; decide) (by rw [s1_103]; decide) (by rw [s1_103]; rfl) (by decide) ?_
    refine lv_iconst (v := 1) hx hb dX6_factOf_106 (by decide) ?_
    exact hq _ _ _ dX6_factOf_107 (by unfold factI; simp [*])
  by_cases s1_104 : x = 104
  · refine lv_tableIn (tgt := 104) hx hb dX6_factOf_1 (by rw [s1_104]; decide) (by rw [s1_104]; decide) (by rw [s1_104]; rfl) (by decide) ?_
    refine lv_iconst (v := 0) hx hb dX6_factOf_104 (by decide) ?_
    exact hq _ _ _ dX6_factOf_105 (by unfold factI; simp [*])
  by_cases s1_105 : x = 105
  · refine lv_tableIn (tgt := 125) hx hb dX6_factOf_1 (by rw [s1_105]; decide) (by rw [s1_105]; decide) (by rw [s1_105]; rfl) (by decide) ?_
    refine lv_iconst (v := (-1)) hx hb dX6_factOf_125 (by decide) ?_
    exact hq _ _ _ dX6_factOf_126 (by unfold factI; simp [*])
  by_cases s1_106 : x = 106
  · refine lv_tableIn (tgt := 125) hx hb dX6_factOf_1 (by rw [s1_106]; decide) (by rw [s1_106]; decide) (by rw [s1_106]; rfl) (by decide) ?_
    refine lv_iconst (v := (-1)) hx hb dX6_factOf_125 (by decide) ?_
    exact hq _ _ _ dX6_factOf_126 (by unfold factI; simp [*])
  by_cases s1_107 : x = 107
  · refine lv_tableIn (tgt := 116) hx hb dX6_factOf_1 (by rw [s1_107]; decide) (by rw [s1_107]; decide) (by rw [s1_107]; rfl) (by decide) ?_
    refine lv_bipush (v := 6) hx hb dX6_factOf_116 (by decide) ?_
    exact hq _ _ _ dX6_factOf_118 (by unfold factI; simp [*])
  by_cases s1_108 : x = 108
  · refine lv_tableIn (tgt := 125) hx hb dX6_factOf_1 (by rw [s1_108]; decide) (by rw [s1_108]; decide) (by rw [s1_108]; rfl) (by decide) ?_
    refine lv_iconst (v := (-1)) hx hb dX6_factOf_125 (by decide) ?_
    exact hq _ _ _ dX6_factOf_126 (by unfold factI; simp [*])
  by_cases s1_109 : x = 109
  · refine lv_tableIn (tgt := 125) hx hb dX6_factOf_1 (by rw [s1_109]; decide) (by rw [s1_109]; decide) (by rw [s1_109]; rfl) (by decide) ?_
    refine lv_iconst (v := (-1)) hx hb dX6_factOf_125 (by decide) ?_
    exact hq _ _ _ dX6_factOf_126 (by unfold factI; simp [*])
  by_cases s1_110 : x = 110
  · refine lv_tableIn (tgt := 112) hx hb dX6_factOf_1 (by rw [s1_110]; decide) (by rw [s1_110]; decide) (by rw [s1_110]; rfl) (by decide) ?_
    refine lv_iconst (v := 4) hx hb dX6_factOf_112 (by decide) ?_
    exact hq _ _ _ dX6_factOf_113 (by unfold factI; simp [*])
  by_cases s1_111 : x = 111
  · refine lv_tableIn (tgt := 125) hx hb dX6_factOf_1 (by rw [s1_111]; decide) (by rw [s1_111]; decide) (by rw [s1_111]; rfl) (by decide) ?_
    refine lv_iconst (v := (-1)) hx hb dX6_factOf_125 (by decide) ?_
    exact hq _ _ _ dX6_factOf_126 (by unfold factI; simp [*])
  by_cases s1_112 : x = 112
  · refine lv_tableIn (tgt := 125) hx hb dX6_factOf_1 (by rw [s1_112]; decide) (by rw [s1_112]; decide) (by rw [s1_112]; rfl) (by decide) ?_
    refine lv_iconst (v := (-1)) hx hb dX6_factOf_125 (by decide) ?_
    exact hq _ _ _ dX6_factOf_126 (by unfold factI; simp [*])
  by_cases s1_113 : x = 113
  · refine lv_tableIn (tgt := 125) hx hb dX6_factOf_1 (by rw [s1_113]; decide) (by rw [s1_113]; decide) (by rw [s1_113]; rfl) (by decide) ?_
    refine lv_iconst (v := (-1)) hx hb dX6_factOf_125 (by decide) ?_
    exact hq _ _ _ dX6_factOf_126 (by unfold factI; simp [*])
  by_cases s1_114 : x = 114
  · refine lv_tableIn (tgt := 125) hx hb dX6_factOf_1 (by rw [s1_114]; decide) (by rw [s1_114]; decide) (by rw [s1_114]; rfl) (by decide) ?_
    refine lv_iconst (v := (-1)) hx hb dX6_factOf_125 (by decide) ?_
    exact hq _ _ _ dX6_factOf_126 (by unfold factI; simp [*])
  by_cases s1_115 : x = 115
  · refine lv_tableIn (tgt := 108) hx hb dX6_factOf_1 (by rw [s1_115]; decide) (by rw [s1_115]; decide) (by rw [s1_115]; rfl) (by decide) ?_
    refine lv_iconst (v := 2) hx hb dX6_factOf_108 (by decide) ?_
    exact hq _ _ _ dX6_factOf_109 (by unfold factI; simp [*])
  by_cases s1_116 : x = 116
  · refine lv_tableIn (tgt := 119) hx hb dX6_factOf_1 (by rw [s1_116]; decide) (by rw [s1_116]; decide) (by rw [s1_116]; rfl) (by decide) ?_
    refine lv_bipush (v := 7) hx hb dX6_factOf_119 (by decide) ?_
    exact hq _ _ _ dX6_factOf_121 (by unfold factI; simp [*])
  by_cases s1_117 : x = 117
  · refine lv_tableIn (tgt := 125) hx hb dX6_factOf_1 (by rw [s1_117]; decide) (by rw [s1_117]; decide) (by rw [s1_117]; rfl) (by decide) ?_
    refine lv_iconst (v := (-1)) hx hb dX6_factOf_125 (by decide) ?_
    exact hq _ _ _ dX6_factOf_126 (by unfold factI; simp [*])
  by_cases s1_118 : x = 118
  · refine lv_tableIn (tgt := 125) hx hb dX6_factOf_1 (by rw [s1_118]; decide) (by rw [s1_118]; decide) (by rw [s1_118]; rfl) (by decide) ?_
    refine lv_iconst (v := (-1)) hx hb dX6_factOf_125 (by decide) ?_
    exact hq _ _ _ dX6_factOf_126 (by unfold factI; simp [*])
  by_cases s1_119 : x = 119
  · refine lv_tableIn (tgt := 122) hx hb dX6_factOf_1 (by rw [s1_119]; decide) (by rw [s1_119]; decide) (by rw [s1_119]; rfl) (by decide) ?_
    refine lv_bipush (v := 8) hx hb dX6_factOf_122 (by decide) ?_
    exact hq _ _ _ dX6_factOf_124 (by unfold factI; simp [*])
  refine lv_tableOut (tgt := 125) hx hb dX6_factOf_1 (sw_out (x := x) (lo := 98) (hi := 119) (fun v h1 h2 => by rcases (show v = 98 ∨ v = 99 ∨ v = 100 ∨ v = 101 ∨ v = 102 ∨ v = 103 ∨ v = 104 ∨ v = 105 ∨ v = 106 ∨ v = 107 ∨ v = 108 ∨ v = 109 ∨ v = 110 ∨ v = 111 ∨ v = 112 ∨ v = 113 ∨ v = 114 ∨ v = 115 ∨ v = 116 ∨ v = 117 ∨ v = 118 ∨ v = 119 by omega) with rfl | rfl | rfl | rfl | rfl | rfl | rfl | rfl | rfl | rfl | rfl | rfl | rfl | rfl | rfl | rfl | rfl | rfl | rfl | rfl | rfl | rfl <;> first | exact s1_98 | exact s1_99 | exact s1_100 | exact s1_101 | exact s1_102 | exact s1_103 | exact s1_104 | exact s1_105 | exact s1_106 | exact s1_107 | exact s1_108 | exact s1_109 | exact s1_110 | exact s1_111 | exact s1_112 | exact s1_113 | exact s1_114 | exact s1_115 | exact s1_116 | exact s1_117 | exact s1_118 | exact s1_119)) (by decide) ?_
  refine lv_iconst (v := (-1)) hx hb dX6_factOf_125 (by decide) ?_
  exact hq _ _ _ dX6_factOf_126 (by unfold factI; simp [*])
set_option maxHeartbeats 4000000 in
theorem c_X6_sumSign (G : GG) (l : Launch) (x : Int32) : CI G l yX6_sumSign cX6_sumSign 1 .int 2 16 [.int x] (fun _ => True) (sgnI x) := by
  refine CI.mk RX6 pnX6 rfl (rfl) (Nat.le_of_ble_eq_true rfl) (fun pg en Rm sg mm ar bw mth cd QQ ls hC hRm hK hP hl hq => ?_)
  have hx := hC.1; have hb := hC.2.1; have ho := hC.2.2.2.1; have hts := hC.2.2.2.2
  have hl : lv_has ls 1 [(0, .int x)] := hl
  refine lv_iload_n hx hb dX6_sumSign_0 rfl (lv_at hl 0 rfl) ?_
  refine lv_bipush (v := 43) hx hb dX6_sumSign_1 (by decide) ?_
  refine lv_icmp_ne (tgt := 10) hx hb dX6_sumSign_3 (by decide) (fun c3 => ?_) (fun c3 => ?_)
  · refine lv_iload_n hx hb dX6_sumSign_10 rfl (lv_at hl 0 rfl) ?_
    refine lv_bipush (v := 45) hx hb dX6_sumSign_11 (by decide) ?_
    refine lv_icmp_ne (tgt := 20) hx hb dX6_sumSign_13 (by decide) (fun c13 => ?_) (fun c13 => ?_)
    · refine lv_iload_n hx hb dX6_sumSign_20 rfl (lv_at hl 0 rfl) ?_
      refine lv_bipush (v := 42) hx hb dX6_sumSign_21 (by decide) ?_
      refine lv_icmp_ne (tgt := 30) hx hb dX6_sumSign_23 (by decide) (fun c23 => ?_) (fun c23 => ?_)
      · refine lv_iload_n hx hb dX6_sumSign_30 rfl (lv_at hl 0 rfl) ?_
        refine lv_bipush (v := 47) hx hb dX6_sumSign_31 (by decide) ?_
        refine lv_icmp_ne (tgt := 40) hx hb dX6_sumSign_33 (by decide) (fun c33 => ?_) (fun c33 => ?_)
        · refine lv_iload_n hx hb dX6_sumSign_40 rfl (lv_at hl 0 rfl) ?_
          refine lv_bipush (v := 37) hx hb dX6_sumSign_41 (by decide) ?_
          refine lv_icmp_ne (tgt := 51) hx hb dX6_sumSign_43 (by decide) (fun c43 => ?_) (fun c43 => ?_)
          · refine lv_iconst (v := (-1)) hx hb dX6_sumSign_51 (by decide) ?_
            exact hq _ _ _ dX6_sumSign_52 (by unfold sgnI; simp [*])
          · refine lv_bipush (v := 6) hx hb dX6_sumSign_46 (by decide) ?_
            refine lv_goto (tgt := 52) hx hb dX6_sumSign_48 (by decide) ?_
            exact hq _ _ _ dX6_sumSign_52 (by unfold sgnI; simp [*])
        · refine lv_iconst (v := 5) hx hb dX6_sumSign_36 (by decide) ?_
          refine lv_goto (tgt := 52) hx hb dX6_sumSign_37 (by decide) ?_
          exact hq _ _ _ dX6_sumSign_52 (by unfold sgnI; simp [*])
      · refine lv_iconst (v := 4) hx hb dX6_sumSign_26 (by decide) ?_
        refine lv_goto (tgt := 52) hx hb dX6_sumSign_27 (by decide) ?_
        exact hq _ _ _ dX6_sumSign_52 (by unfold sgnI; simp [*])
    · refine lv_iconst (v := 3) hx hb dX6_sumSign_16 (by decide) ?_
      refine lv_goto (tgt := 52) hx hb dX6_sumSign_17 (by decide) ?_
      exact hq _ _ _ dX6_sumSign_52 (by unfold sgnI; simp [*])
  · refine lv_iconst (v := 2) hx hb dX6_sumSign_6 (by decide) ?_
    refine lv_goto (tgt := 52) hx hb dX6_sumSign_7 (by decide) ?_
    exact hq _ _ _ dX6_sumSign_52 (by unfold sgnI; simp [*])
set_option maxHeartbeats 4000000 in
theorem c_X6_hasOpenSum (G : GG) (l : Launch) (o : Nat) (R : Nat → Nat) (u : MS) (base : Nat) (ws : List Nat) (hw : (u.1 18) = nI ws.length) (hw2 : ws.length ≤ 240) (hst : stA ws (u.2.1 22)) (hb3 : base ≤ 240) : CI G l yX6_hasOpenSum cX6_hasOpenSum 3 .boolean 2 16 [.ref o, .int (nI base)] (PM G o R u) (bI (opnB base ws)) := by
  refine CI.mk RX6 pnX6 rfl (bI_nar _) (Nat.le_of_ble_eq_true rfl) (fun pg en Rm sg mm ar bw mth cd QQ ls hC hRm hK hP hl hq => ?_)
  have hx := hC.1; have hb := hC.2.1; have ho := hC.2.2.2.1; have hts := hC.2.2.2.2
  have hl : lv_has ls 3 [(0, .ref o), (1, .int (nI base))] := hl
  refine lv_iload_n hx hb dX6_hasOpenSum_0 rfl (lv_at hl 1 rfl) ?_
  refine lv_istore_n (lv' := [(2, .int (nI base)), (0, .ref o), (1, .int (nI base))]) hx hb dX6_hasOpenSum_1 rfl hl (by decide) rfl (fun ls hl => ?_)
  have LP2 : ∀ (fu2 : Nat) (k : Nat) (ls : Array Slot), ws.length - k < fu2 → base ≤ k → k ≤ 240 → (∀ j, base ≤ j → j < k → ¬ idx ws j / 1048576 = 14) → lv_has ls 3 [(0, .ref o), (1, .int (nI base)), (2, .int (nI k))] → W pg l en Rm sg mm ar bw mth cd sg.heap [] 0 0 QQ (F0 mm 2 ls []) := by
    intro fu2
    induction fu2 with
    | zero => intro k ls hm2 hk hk2 hI hl; exact absurd hm2 (Nat.not_lt_zero _)
    | succ fu2 ih2 =>
      intro k ls hm2 hk hk2 hI hl
      refine lv_iload_n hx hb dX6_hasOpenSum_2 rfl (lv_at hl 2 rfl) ?_
      refine lv_aload_n hx hb dX6_hasOpenSum_3 rfl (lv_at hl 0 rfl) ?_
      refine M_get (v := .int (u.1 18)) hC hK hP 18 (by decide) (fM18 _ _) q1219 dX6_hasOpenSum_4 ?_
      refine W_top hw ?_
      refine lv_icmp_ge (tgt := 32) hx hb dX6_hasOpenSum_7 (by decide) (fun c7 => ?_) (fun c7 => ?_)
      · have c7 : ws.length ≤ k := (nI_leI (a := ws.length) (b := k) (by first | omega | (have := (stA_idx ws hst k (by omega)).2; omega)) (by first | omega | (have := (stA_idx ws hst k (by omega)).2; omega))).mp c7
        refine lv_iconst (v := 0) hx hb dX6_hasOpenSum_32 (by decide) ?_
        exact hq _ _ _ dX6_hasOpenSum_33 (by rw [show opnB base ws = false from Bool.eq_false_iff.mpr (fun z => by obtain ⟨j, h1, h2, h3⟩ := (opnB_iff ws).mp z; exact hI j h2 (by omega) h3)]; rfl)
      · have c7 : ¬ (ws.length ≤ k) := mt (nI_leI (a := ws.length) (b := k) (by first | omega | (have := (stA_idx ws hst k (by omega)).2; omega)) (by first | omega | (have := (stA_idx ws hst k (by omega)).2; omega))).mpr c7
        have hix := (stA_idx ws hst k (by omega)).2
        refine lv_aload_n hx hb dX6_hasOpenSum_10 rfl (lv_at hl 0 rfl) ?_
        refine M_get hC hK hP 22 (by decide) (fM22 _ _) q1223 dX6_hasOpenSum_11 ?_
        refine lv_iload_n hx hb dX6_hasOpenSum_14 rfl (lv_at hl 2 rfl) ?_
        refine M_ald hC hK hP 22 11 260 k (aM22 _ _ _ _) (by decide) (rfl) (by omega) dX6_hasOpenSum_15 ?_
        refine W_top (y := (nI (idx ws k))) ((stA_idx ws hst k (by omega)).1) ?_
        refine lv_ldc (own := RX6) (v := 1048576) hx hb ho (hts _ q1458) dX6_hasOpenSum_16 ?_
        refine lv_idiv hx hb dX6_hasOpenSum_18 (by decide) ?_
        refine W_top (pk_div (a := (idx ws k)) (d := 1048576) (by omega) (by omega) (by omega)) ?_
        refine lv_bipush (v := 14) hx hb dX6_hasOpenSum_19 (by decide) ?_
        refine lv_icmp_ne (tgt := 26) hx hb dX6_hasOpenSum_21 (by decide) (fun c21 => ?_) (fun c21 => ?_)
        · have c21 : ¬ (((idx ws k) / 1048576) = 14) := mt (nI_eq (a := ((idx ws k) / 1048576)) (b := 14) (by first | omega | (have := (stA_idx ws hst k (by omega)).2; omega)) (by first | omega | (have := (stA_idx ws hst k (by omega)).2; omega))).mpr c21
          refine lv_iinc (v := (nI (k + 1))) (lv' := [(2, .int (nI (k + 1))), (0, .ref o), (1, .int (nI base))]) hx hb dX6_hasOpenSum_26 hl (k := 2) rfl (nI_inc k) (by decide) rfl (fun ls hl => ?_)
          refine lv_goto (tgt := 2) hx hb dX6_hasOpenSum_29 (by decide) ?_
          exact ih2 (k + 1) ls (by omega) (by first | omega | assumption | rfl | (simp_all; done) | grind) (by first | omega | assumption | rfl | (simp_all; done) | grind) (fun j h1 h2 => by by_cases e : j = k; (subst e; exact c21); exact hI j h1 (by omega))  (lv_sub hl [1, 2, 0] rfl)
        · have c21 : ((idx ws k) / 1048576) = 14 := (nI_eq (a := ((idx ws k) / 1048576)) (b := 14) (by first | omega | (have := (stA_idx ws hst k (by omega)).2; omega)) (by first | omega | (have := (stA_idx ws hst k (by omega)).2; omega))).mp c21
          refine lv_iconst (v := 1) hx hb dX6_hasOpenSum_24 (by decide) ?_
          exact hq _ _ _ dX6_hasOpenSum_25 (by rw [(opnB_iff ws).mpr ⟨k, by omega, hk, c21⟩]; rfl)
  exact LP2 _ base ls (Nat.lt_succ_self _) (Nat.le_refl _) (hb3) (fun j h1 h2 => absurd h2 (by omega))  (lv_sub hl [1, 2, 0] rfl)
