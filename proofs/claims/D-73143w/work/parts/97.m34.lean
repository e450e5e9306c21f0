set_option maxRecDepth 100000
set_option maxHeartbeats 4000000 in
theorem c_X6_readsRule (G : GG) (l : Launch) (o : Nat) (R : Nat → Nat) (u : MS) (n : Nat) (p : Nat) (m : Nat) (cs : List Nat) (hp : (u.1 12) = nI p) (hn : (u.1 13) = nI n) (hn2 : n ≤ 240) (hpn : p ≤ n) (hm : (u.1 19) = nI m) (hm2 : m ≤ 16) (hcm : (u.1 17) = nI cs.length) (hcs : csA cs (u.2.1 21)) (hb0 : cs.length ≤ p) (hD : DM o R) : CMi G l o R yX6_readsRule cX6_readsRule 2 .boolean 9 161 [] u (fun r w => ∃ ok : Bool, ∃ pl : Int32, ∃ fa : Int32, ∃ nu : Int32, ∃ op : Int32, ∃ cm : Int32, ∃ wa : Int32, ∃ sm : Int32, ∃ x : Nat → Int32, ∃ y : Nat → Int32, ∃ La : Nat → Int32, ∃ Fa : Nat → Int32, ∃ Ha : Nat → Int32, ∃ Ta : Nat → Int32, (ruPost (u.2.1 10) n m p cs ok pl fa cm sm x La Fa Ha Ta (u.2.1 23) (u.2.1 24) (u.2.1 25) (u.2.1 26)) ∧ r = (bI ok) ∧ w = (lE u pl fa nu op cm wa sm (u.1 11) (nI n) (u.1 20) x y La Fa Ha Ta (u.2.1 27) (u.2.1 28) (u.2.1 29) (u.2.1 30) (u.2.1 31))) := by
  refine CMi.mk pnX6 rfl (Nat.le_of_ble_eq_true rfl) (fun pg en Rm sg mm ar bw mth cd QQ ls hC hRm hK hP hS hl hq => ?_)
  have hx := hC.1; have hb := hC.2.1; have ho := hC.2.2.2.1; have hts := hC.2.2.2.2
  have hl : lv_has ls 2 [(0, .ref o)] := hl
  have hP : PM G o R (lE u (u.1 12) (u.1 14) (u.1 15) (u.1 16) (u.1 17) (u.1 18) (u.1 19) (u.1 11) (u.1 13) (u.1 20) (u.2.1 21) (u.2.1 22) (u.2.1 23) (u.2.1 24) (u.2.1 25) (u.2.1 26) (u.2.1 27) (u.2.1 28) (u.2.1 29) (u.2.1 30) (u.2.1 31)) sg.heap := by rw [lE_self]; exact hP
  rw [hp, hn, hcm, hm] at hP
  refine lv_aload_n hx hb dX6_readsRule_0 rfl (lv_at hl 0 rfl) ?_
  refine CI.callV hC hK hl (c_X6_here G l o R (lE u (nI p) (u.1 14) (u.1 15) (u.1 16) (nI cs.length) (u.1 18) (nI m) (u.1 11) (nI n) (u.1 20) (u.2.1 21) (u.2.1 22) (u.2.1 23) (u.2.1 24) (u.2.1 25) (u.2.1 26) (u.2.1 27) (u.2.1 28) (u.2.1 29) (u.2.1 30) (u.2.1 31)) p n (rfl) (rfl) (hn2) (by omega)) hP (hP.recv hK) q1438 q1440 qs52 q116 q1441 mdX6_here (room_ok hRm rfl) rfl rfl dX6_readsRule_1 ?_
  refine W_top (y := (hereI (u.2.1 10) n p)) (by simp only [lE_g10]) ?_
  refine lv_istore_n (lv' := [(1, .int (hereI (u.2.1 10) n p)), (0, .ref o)]) hx hb dX6_readsRule_4 rfl hl (by decide) rfl (fun ls hl => ?_)
  have JN33 : ∀  (ls : Array Slot), isRuC (ckN (u.2.1 10) n p) = true → lv_has ls 2 [(0, .ref o), (1, .int (hereI (u.2.1 10) n p))] → W pg l en Rm sg mm ar bw mth cd sg.heap [] 0 0 QQ (F0 mm 33 ls []) := by
    intro ls hru hl
    have hpn1 := isRu_lt hru
    refine lv_aload_n hx hb dX6_readsRule_33 rfl (lv_at hl 0 rfl) ?_
    refine M_get hC hK hP 19 (by decide) (fM19 _ _) q1220 dX6_readsRule_34 ?_
    refine W_top (y := (nI m)) (by rw [lE_f19]) ?_
    refine lv_bipush (v := 16) hx hb dX6_readsRule_37 (by decide) ?_
    refine lv_icmp_ne (tgt := 52) hx hb dX6_readsRule_39 (by decide) (fun c39 => ?_) (fun c39 => ?_)
    · have c39 : ¬ (m = 16) := mt (nI_eq (a := m) (b := 16) (by omega) (by omega)).mpr c39
      have hm16 : ¬ m = 16 := c39
      have hm17 : m < 16 := by omega
      refine lv_aload_n hx hb dX6_readsRule_52 rfl (lv_at hl 0 rfl) ?_
      refine M_get hC hK hP 23 (by decide) (fM23 _ _) q1224 dX6_readsRule_53 ?_
      refine lv_aload_n hx hb dX6_readsRule_56 rfl (lv_at hl 0 rfl) ?_
      refine M_get hC hK hP 19 (by decide) (fM19 _ _) q1220 dX6_readsRule_57 ?_
      refine W_top (y := (nI m)) (by rw [lE_f19]) ?_
      refine lv_iload_n hx hb dX6_readsRule_60 rfl (lv_at hl 1 rfl) ?_
      refine M_ast hC hK hD hP hS 23 12 16 m (aM23 _ _ _ _) (bM23 _ _ _ _ _ _) (by decide) (rfl) (by omega) dX6_readsRule_61 (fun H locs hP hS => ?_)
      rw [lE_A23] at hP
      refine lv_aload_n hx hb dX6_readsRule_62 rfl (lv_at hl 0 rfl) ?_
      refine lv_aload_n hx hb dX6_readsRule_63 rfl (lv_at hl 0 rfl) ?_
      refine M_get hC hK hP 12 (by decide) (fM12 _ _) q1213 dX6_readsRule_64 ?_
      refine W_top (y := (nI p)) (by rw [lE_f12]) ?_
      refine lv_iconst (v := 1) hx hb dX6_readsRule_67 (by decide) ?_
      refine lv_iadd hx hb dX6_readsRule_68 ?_
      refine W_top (nI_add p 1) ?_
      refine M_put hC hK hD hP hS 12 (by decide) (sM12 _ _ _) q1213 rfl dX6_readsRule_69 (fun H locs hP hS => ?_)
      rw [lE_V12] at hP
      refine lv_aload_n hx hb dX6_readsRule_72 rfl (lv_at hl 0 rfl) ?_
      refine M_get hC hK hP 24 (by decide) (fM24 _ _) q1225 dX6_readsRule_73 ?_
      refine lv_aload_n hx hb dX6_readsRule_76 rfl (lv_at hl 0 rfl) ?_
      refine M_get hC hK hP 19 (by decide) (fM19 _ _) q1220 dX6_readsRule_77 ?_
      refine W_top (y := (nI m)) (by rw [lE_f19]) ?_
      refine lv_aload_n hx hb dX6_readsRule_80 rfl (lv_at hl 0 rfl) ?_
      refine M_get hC hK hP 17 (by decide) (fM17 _ _) q1218 dX6_readsRule_81 ?_
      refine W_top (y := (nI cs.length)) (by rw [lE_f17]) ?_
      refine M_ast hC hK hD hP hS 24 13 16 m (aM24 _ _ _ _) (bM24 _ _ _ _ _ _) (by decide) (rfl) (by omega) dX6_readsRule_84 (fun H locs hP hS => ?_)
      rw [lE_A24] at hP
      refine lv_aload_n hx hb dX6_readsRule_85 rfl (lv_at hl 0 rfl) ?_
      refine lv_iconst (v := 0) hx hb dX6_readsRule_86 (by decide) ?_
      refine M_put hC hK hD hP hS 16 (by decide) (sM16 _ _ _) q1217 rfl dX6_readsRule_87 (fun H locs hP hS => ?_)
      rw [lE_V16] at hP
      refine lv_aload_n hx hb dX6_readsRule_90 rfl (lv_at hl 0 rfl) ?_
      refine lv_iconst (v := 0) hx hb dX6_readsRule_91 (by decide) ?_
      refine M_put hC hK hD hP hS 18 (by decide) (sM18 _ _ _) q1219 rfl dX6_readsRule_92 (fun H locs hP hS => ?_)
      rw [lE_V18] at hP
      refine lv_iload_n hx hb dX6_readsRule_95 rfl (lv_at hl 1 rfl) ?_
      refine lv_bipush (v := 120) hx hb dX6_readsRule_96 (by decide) ?_
      refine lv_icmp_eq (tgt := 110) hx hb dX6_readsRule_98 (by decide) (fun c98 => ?_) (fun c98 => ?_)
      · have hh : halfE (u.2.1 10) n p = .inr (([], fun _ => none), p + 1) := if_pos ((hereI_eq (c := 120) (by decide)).mp c98)
        refine lv_aload_n hx hb dX6_readsRule_110 rfl (lv_at hl 0 rfl) ?_
        refine M_get hC hK hP 25 (by decide) (fM25 _ _) q1226 dX6_readsRule_111 ?_
        refine lv_aload_n hx hb dX6_readsRule_114 rfl (lv_at hl 0 rfl) ?_
        refine M_get hC hK hP 19 (by decide) (fM19 _ _) q1220 dX6_readsRule_115 ?_
        refine W_top (y := (nI m)) (by rw [lE_f19]) ?_
        refine lv_aload_n hx hb dX6_readsRule_118 rfl (lv_at hl 0 rfl) ?_
        refine M_get hC hK hP 17 (by decide) (fM17 _ _) q1218 dX6_readsRule_119 ?_
        refine W_top (y := (nI cs.length)) (by rw [lE_f17]) ?_
        refine M_ast hC hK hD hP hS 25 14 16 m (aM25 _ _ _ _) (bM25 _ _ _ _ _ _) (by decide) (rfl) (by omega) dX6_readsRule_122 (fun H locs hP hS => ?_)
        rw [lE_A25] at hP
        refine lv_aload_n hx hb dX6_readsRule_123 rfl (lv_at hl 0 rfl) ?_
        refine CMi.call hC hK hS (fun q h => h) hl (c_X6_readsCondition G l o R (lE u (nI (p + 1)) (u.1 14) (u.1 15) 0 (nI cs.length) 0 (nI m) (u.1 11) (nI n) (u.1 20) (u.2.1 21) (u.2.1 22) (upd (u.2.1 23) m (hereI (u.2.1 10) n p)) (upd (u.2.1 24) m (nI cs.length)) (upd (u.2.1 25) m (nI cs.length)) (u.2.1 26) (u.2.1 27) (u.2.1 28) (u.2.1 29) (u.2.1 30) (u.2.1 31)) n (p + 1) cs (rfl) (rfl) (hn2) (by omega) (rfl) (hcs) (by omega) hD) hP rfl q1489 q1491 qs63 q116 q1492 mdX6_readsCondition (room_ok hRm rfl) rfl rfl dX6_readsRule_124 (fun r124 w124 H locs hpo hP _ _ hS => ?_)
        obtain ⟨ok_1, pl_2, fa_3, nu_4, op_5, cm_6, wa_7, x_8, y_9, f124_0, er124, ew124⟩ := hpo
        rw [ew124] at hP
        refine W_top (y := (bI ok_1)) er124 ?_
        rw [lE_again] at hP
        simp only [lE_f11, lE_f19, lE_f20, lE_g23, lE_g24, lE_g25, lE_g26, lE_g27, lE_g28, lE_g29, lE_g30, lE_g31] at hP
        refine lv_if_ne (tgt := 132) hx hb dX6_readsRule_127 (by decide) (fun c127 => ?_) (fun c127 => ?_)
        · have c127 : ok_1 = true := bI_1.mp c127
          obtain ⟨r9, hr9, rfl, rfl, hcs9⟩ := cdP_t f124_0 c127
          refine lv_aload_n hx hb dX6_readsRule_132 rfl (lv_at hl 0 rfl) ?_
          refine M_get hC hK hP 26 (by decide) (fM26 _ _) q1227 dX6_readsRule_133 ?_
          refine lv_aload_n hx hb dX6_readsRule_136 rfl (lv_at hl 0 rfl) ?_
          refine M_get hC hK hP 19 (by decide) (fM19 _ _) q1220 dX6_readsRule_137 ?_
          refine W_top (y := (nI m)) (by rw [lE_f19]) ?_
          refine lv_aload_n hx hb dX6_readsRule_140 rfl (lv_at hl 0 rfl) ?_
          refine M_get hC hK hP 17 (by decide) (fM17 _ _) q1218 dX6_readsRule_141 ?_
          refine W_top (y := (nI (cs ++ r9.1.1).length)) (by rw [lE_f17]) ?_
          refine M_ast hC hK hD hP hS 26 15 16 m (aM26 _ _ _ _) (bM26 _ _ _ _ _ _) (by decide) (rfl) (by omega) dX6_readsRule_144 (fun H locs hP hS => ?_)
          rw [lE_A26] at hP
          refine lv_aload_n hx hb dX6_readsRule_145 rfl (lv_at hl 0 rfl) ?_
          refine lv_aload_n hx hb dX6_readsRule_146 rfl (lv_at hl 0 rfl) ?_
          refine M_get hC hK hP 19 (by decide) (fM19 _ _) q1220 dX6_readsRule_147 ?_
          refine W_top (y := (nI m)) (by rw [lE_f19]) ?_
          refine lv_iconst (v := 1) hx hb dX6_readsRule_150 (by decide) ?_
          refine lv_iadd hx hb dX6_readsRule_151 ?_
          refine W_top (nI_add m 1) ?_
          refine M_put hC hK hD hP hS 19 (by decide) (sM19 _ _ _) q1220 rfl dX6_readsRule_152 (fun H locs hP hS => ?_)
          rw [lE_V19] at hP
          refine lv_iconst (v := 1) hx hb dX6_readsRule_155 (by decide) ?_
          exact hq _ _ _ _ _ _ dX6_readsRule_156 hP hS (by first | rfl | exact bI_nar _) (by exact ⟨true, _, _, _, _, _, _, _, _, _, _, _, _, _, ruP_ok (s := (([], fun _ => none), p + 1)) (cs1 := cs) (cs' := cs ++ r9.1.1) hru hpn1 hm16 hh hr9 rfl rfl rfl rfl rfl hcs9 rfl rfl rfl rfl, rfl, rfl⟩)
        · have c127 : ok_1 = false := bI_0.mp c127
          obtain ⟨e0, hr9, hfa⟩ := cdP_f f124_0 c127
          refine lv_iconst (v := 0) hx hb dX6_readsRule_130 (by decide) ?_
          exact hq _ _ _ _ _ _ dX6_readsRule_131 hP hS (by first | rfl | exact bI_nar _) (by exact ⟨false, _, _, _, _, _, _, _, _, _, _, _, _, _, ruP_c (s := (([], fun _ => none), p + 1)) hru hm16 hh hr9 hfa, rfl, rfl⟩)
      · have n120 : ¬ ckN (u.2.1 10) n p = 120 := mt (hereI_eq (c := 120) (by decide)).mpr c98
        refine lv_aload_n hx hb dX6_readsRule_101 rfl (lv_at hl 0 rfl) ?_
        refine CMi.call hC hK hS (fun q h => h) hl (c_X6_readsSum G l o R (lE u (nI (p + 1)) (u.1 14) (u.1 15) 0 (nI cs.length) 0 (nI m) (u.1 11) (nI n) (u.1 20) (u.2.1 21) (u.2.1 22) (upd (u.2.1 23) m (hereI (u.2.1 10) n p)) (upd (u.2.1 24) m (nI cs.length)) (u.2.1 25) (u.2.1 26) (u.2.1 27) (u.2.1 28) (u.2.1 29) (u.2.1 30) (u.2.1 31)) n (p + 1) 0 (2 * n + 6) cs ([] : List Nat) (mR (u.2.1 10) n ([] : List Nat).length (2 * n + 6) true cs [] 0 (p + 1)) (⟨⟨rfl, rfl, rfl, rfl⟩, ⟨hcs, trivial⟩, ⟨by show cs.length + 0 ≤ p + 1; omega, Nat.zero_le _, hpn1, Nat.le_refl _, by decide⟩, stG_self []⟩) (rfl) (hn2) (rfl) (by omega) hD) hP rfl q1446 q1448 qs54 q116 q1449 mdX6_readsSum (room_ok hRm rfl) rfl rfl dX6_readsRule_102 (fun r102 w102 H locs hpo hP _ _ hS => ?_)
        obtain ⟨ok_10, pl_11, fa_12, nu_13, op_14, cm_15, wa_16, x_17, y_18, f102_0, er102, ew102⟩ := hpo
        rw [ew102] at hP
        refine W_top (y := (bI ok_10)) er102 ?_
        rw [lE_again] at hP
        simp only [lE_f11, lE_f19, lE_f20, lE_g23, lE_g24, lE_g25, lE_g26, lE_g27, lE_g28, lE_g29, lE_g30, lE_g31] at hP
        refine lv_if_ne (tgt := 110) hx hb dX6_readsRule_105 (by decide) (fun c105 => ?_) (fun c105 => ?_)
        · have c105 : ok_10 = true := bI_1.mp c105
          obtain ⟨r, hr, ⟨rfl, rfl, rfl, rfl⟩, hI1⟩ := smP_t2 f102_0 c105 hpn1 (by omega) (fun x t e => by cases e)
          have hh : halfE (u.2.1 10) n p = .inr r := (if_neg n120).trans hr
          have hhb := halfE_b hpn1 hh
          obtain ⟨_, ⟨hcs1, _⟩, ⟨hl1, _, hpn2, _, _⟩, _⟩ := hI1
          rw [show cntS [] = 0 from rfl, Nat.add_zero] at hl1
          refine lv_aload_n hx hb dX6_readsRule_110 rfl (lv_at hl 0 rfl) ?_
          refine M_get hC hK hP 25 (by decide) (fM25 _ _) q1226 dX6_readsRule_111 ?_
          refine lv_aload_n hx hb dX6_readsRule_114 rfl (lv_at hl 0 rfl) ?_
          refine M_get hC hK hP 19 (by decide) (fM19 _ _) q1220 dX6_readsRule_115 ?_
          refine W_top (y := (nI m)) (by rw [lE_f19]) ?_
          refine lv_aload_n hx hb dX6_readsRule_118 rfl (lv_at hl 0 rfl) ?_
          refine M_get hC hK hP 17 (by decide) (fM17 _ _) q1218 dX6_readsRule_119 ?_
          refine W_top (y := (nI (cs ++ r.1.1).length)) (by rw [lE_f17]) ?_
          refine M_ast hC hK hD hP hS 25 14 16 m (aM25 _ _ _ _) (bM25 _ _ _ _ _ _) (by decide) (rfl) (by omega) dX6_readsRule_122 (fun H locs hP hS => ?_)
          rw [lE_A25] at hP
          refine lv_aload_n hx hb dX6_readsRule_123 rfl (lv_at hl 0 rfl) ?_
          refine CMi.call hC hK hS (fun q h => h) hl (c_X6_readsCondition G l o R (lE u (nI r.2) fa_12 nu_13 (nI 0) (nI (cs ++ r.1.1).length) (nI ([] : List Nat).length) (nI m) (u.1 11) (nI n) (u.1 20) x_17 y_18 (upd (u.2.1 23) m (hereI (u.2.1 10) n p)) (upd (u.2.1 24) m (nI cs.length)) (upd (u.2.1 25) m (nI (cs ++ r.1.1).length)) (u.2.1 26) (u.2.1 27) (u.2.1 28) (u.2.1 29) (u.2.1 30) (u.2.1 31)) n r.2 (cs ++ r.1.1) (rfl) (rfl) (hn2) (by omega) (rfl) (hcs1) (hl1) hD) hP rfl q1489 q1491 qs63 q116 q1492 mdX6_readsCondition (room_ok hRm rfl) rfl rfl dX6_readsRule_124 (fun r124 w124 H locs hpo hP _ _ hS => ?_)
          obtain ⟨ok_19, pl_20, fa_21, nu_22, op_23, cm_24, wa_25, x_26, y_27, f124_0, er124, ew124⟩ := hpo
          rw [ew124] at hP
          refine W_top (y := (bI ok_19)) er124 ?_
          rw [lE_again] at hP
          simp only [lE_f11, lE_f19, lE_f20, lE_g23, lE_g24, lE_g25, lE_g26, lE_g27, lE_g28, lE_g29, lE_g30, lE_g31] at hP
          refine lv_if_ne (tgt := 132) hx hb dX6_readsRule_127 (by decide) (fun c127 => ?_) (fun c127 => ?_)
          · have c127 : ok_19 = true := bI_1.mp c127
            obtain ⟨r9, hr9, rfl, rfl, hcs9⟩ := cdP_t f124_0 c127
            refine lv_aload_n hx hb dX6_readsRule_132 rfl (lv_at hl 0 rfl) ?_
            refine M_get hC hK hP 26 (by decide) (fM26 _ _) q1227 dX6_readsRule_133 ?_
            refine lv_aload_n hx hb dX6_readsRule_136 rfl (lv_at hl 0 rfl) ?_
            refine M_get hC hK hP 19 (by decide) (fM19 _ _) q1220 dX6_readsRule_137 ?_
            refine W_top (y := (nI m)) (by rw [lE_f19]) ?_
            refine lv_aload_n hx hb dX6_readsRule_140 rfl (lv_at hl 0 rfl) ?_
            refine M_get hC hK hP 17 (by decide) (fM17 _ _) q1218 dX6_readsRule_141 ?_
            refine W_top (y := (nI (cs ++ r.1.1 ++ r9.1.1).length)) (by rw [lE_f17]) ?_
            refine M_ast hC hK hD hP hS 26 15 16 m (aM26 _ _ _ _) (bM26 _ _ _ _ _ _) (by decide) (rfl) (by omega) dX6_readsRule_144 (fun H locs hP hS => ?_)
            rw [lE_A26] at hP
            refine lv_aload_n hx hb dX6_readsRule_145 rfl (lv_at hl 0 rfl) ?_
            refine lv_aload_n hx hb dX6_readsRule_146 rfl (lv_at hl 0 rfl) ?_
            refine M_get hC hK hP 19 (by decide) (fM19 _ _) q1220 dX6_readsRule_147 ?_
            refine W_top (y := (nI m)) (by rw [lE_f19]) ?_
            refine lv_iconst (v := 1) hx hb dX6_readsRule_150 (by decide) ?_
            refine lv_iadd hx hb dX6_readsRule_151 ?_
            refine W_top (nI_add m 1) ?_
            refine M_put hC hK hD hP hS 19 (by decide) (sM19 _ _ _) q1220 rfl dX6_readsRule_152 (fun H locs hP hS => ?_)
            rw [lE_V19] at hP
            refine lv_iconst (v := 1) hx hb dX6_readsRule_155 (by decide) ?_
            exact hq _ _ _ _ _ _ dX6_readsRule_156 hP hS (by first | rfl | exact bI_nar _) (by exact ⟨true, _, _, _, _, _, _, _, _, _, _, _, _, _, ruP_ok (cs1 := cs ++ r.1.1) (cs' := cs ++ r.1.1 ++ r9.1.1) hru hpn1 hm16 hh (by rw [← List.length_append]; exact hr9) (List.append_assoc _ _ _) List.length_append rfl rfl rfl hcs9 rfl rfl rfl rfl, rfl, rfl⟩)
          · have c127 : ok_19 = false := bI_0.mp c127
            obtain ⟨e0, hr9, hfa⟩ := cdP_f f124_0 c127
            refine lv_iconst (v := 0) hx hb dX6_readsRule_130 (by decide) ?_
            exact hq _ _ _ _ _ _ dX6_readsRule_131 hP hS (by first | rfl | exact bI_nar _) (by exact ⟨false, _, _, _, _, _, _, _, _, _, _, _, _, _, ruP_c hru hm16 hh (by rw [← List.length_append]; exact hr9) hfa, rfl, rfl⟩)
        · have c105 : ok_10 = false := bI_0.mp c105
          obtain ⟨e0, hr, hfa⟩ := smP_f2 f102_0 c105 hpn1 (by omega) (fun x t e => by cases e)
          refine lv_iconst (v := 0) hx hb dX6_readsRule_108 (by decide) ?_
          exact hq _ _ _ _ _ _ dX6_readsRule_109 hP hS (by first | rfl | exact bI_nar _) (by exact ⟨false, _, _, _, _, _, _, _, _, _, _, _, _, _, ruP_h hru hm16 ((if_neg n120).trans hr) hfa, rfl, rfl⟩)
    · have c39 : m = 16 := (nI_eq (a := m) (b := 16) (by omega) (by omega)).mp c39
      refine lv_aload_n hx hb dX6_readsRule_42 rfl (lv_at hl 0 rfl) ?_
      refine lv_iconst (v := 4) hx hb dX6_readsRule_43 (by decide) ?_
      refine lv_aload_n hx hb dX6_readsRule_44 rfl (lv_at hl 0 rfl) ?_
      refine M_get hC hK hP 12 (by decide) (fM12 _ _) q1213 dX6_readsRule_45 ?_
      refine W_top (y := (nI p)) (by rw [lE_f12]) ?_
      refine CMi.call hC hK hS (fun q h => h) hl (c_X6_wrongAt G l o R (lE u (nI p) (u.1 14) (u.1 15) (u.1 16) (nI cs.length) (u.1 18) (nI m) (u.1 11) (nI n) (u.1 20) (u.2.1 21) (u.2.1 22) (u.2.1 23) (u.2.1 24) (u.2.1 25) (u.2.1 26) (u.2.1 27) (u.2.1 28) (u.2.1 29) (u.2.1 30) (u.2.1 31)) 4 p  hD) hP rfl q1442 q1444 qs53 q116 q1445 mdX6_wrongAt (room_ok hRm rfl) rfl rfl dX6_readsRule_48 (fun r48 w48 H locs hpo hP _ _ hS => ?_)
      obtain ⟨er48, ew48⟩ := hpo
      rw [ew48] at hP
      refine W_top (y := (bI false)) er48 ?_
      rw [lE_V14] at hP
      exact hq _ _ _ _ _ _ dX6_readsRule_51 hP hS (by first | rfl | exact bI_nar _) (by exact ⟨false, _, _, _, _, _, _, _, _, _, _, _, _, _, ruP_4 hru (by first | exact c39 | exact Classical.not_not.mp c39) rfl, rfl, rfl⟩)
  refine lv_iload_n hx hb dX6_readsRule_5 rfl (lv_at hl 0 rfl) ?_
  refine lv_bipush (v := 99) hx hb dX6_readsRule_6 (by decide) ?_
  refine lv_icmp_eq (tgt := 33) hx hb dX6_readsRule_8 (by decide) (fun c8 => ?_) (fun c8 => ?_)
  · exact JN33  ls (isRu_i (by first | exact Or.inl c8 | exact Or.inr (Or.inl c14) | exact Or.inr (Or.inr c20)))  (lv_sub hl [1, 0] rfl)
  · refine lv_iload_n hx hb dX6_readsRule_11 rfl (lv_at hl 0 rfl) ?_
    refine lv_bipush (v := 106) hx hb dX6_readsRule_12 (by decide) ?_
    refine lv_icmp_eq (tgt := 33) hx hb dX6_readsRule_14 (by decide) (fun c14 => ?_) (fun c14 => ?_)
    · exact JN33  ls (isRu_i (by first | exact Or.inl c8 | exact Or.inr (Or.inl c14) | exact Or.inr (Or.inr c20)))  (lv_sub hl [1, 0] rfl)
    · refine lv_iload_n hx hb dX6_readsRule_17 rfl (lv_at hl 0 rfl) ?_
      refine lv_bipush (v := 120) hx hb dX6_readsRule_18 (by decide) ?_
      refine lv_icmp_eq (tgt := 33) hx hb dX6_readsRule_20 (by decide) (fun c20 => ?_) (fun c20 => ?_)
      · exact JN33  ls (isRu_i (by first | exact Or.inl c8 | exact Or.inr (Or.inl c14) | exact Or.inr (Or.inr c20)))  (lv_sub hl [1, 0] rfl)
      · refine lv_aload_n hx hb dX6_readsRule_23 rfl (lv_at hl 1 rfl) ?_
        refine lv_iconst (v := 1) hx hb dX6_readsRule_24 (by decide) ?_
        refine lv_aload_n hx hb dX6_readsRule_25 rfl (lv_at hl 1 rfl) ?_
        refine M_get hC hK hP 12 (by decide) (fM12 _ _) q1213 dX6_readsRule_26 ?_
        refine W_top (y := (nI p)) (by rw [lE_f12]) ?_
        refine CMi.call hC hK hS (fun q h => h) hl (c_X6_wrongAt G l o R (lE u (nI p) (u.1 14) (u.1 15) (u.1 16) (nI cs.length) (u.1 18) (nI m) (u.1 11) (nI n) (u.1 20) (u.2.1 21) (u.2.1 22) (u.2.1 23) (u.2.1 24) (u.2.1 25) (u.2.1 26) (u.2.1 27) (u.2.1 28) (u.2.1 29) (u.2.1 30) (u.2.1 31)) 1 p  hD) hP rfl q1442 q1444 qs53 q116 q1445 mdX6_wrongAt (room_ok hRm rfl) rfl rfl dX6_readsRule_29 (fun r29 w29 H locs hpo hP _ _ hS => ?_)
        obtain ⟨er29, ew29⟩ := hpo
        rw [ew29] at hP
        refine W_top (y := (bI false)) er29 ?_
        rw [lE_V14] at hP
        exact hq _ _ _ _ _ _ dX6_readsRule_32 hP hS (by first | rfl | exact bI_nar _) (by exact ⟨false, _, _, _, _, _, _, _, _, _, _, _, _, _, ruP_1 (isRu_n c8 c14 c20) rfl, rfl, rfl⟩)
set_option maxHeartbeats 4000000 in
theorem c_X6_law (G : GG) (l : Launch) (o : Nat) (R : Nat → Nat) (u : MS) (n0 : Int32) (Lw : LW) (hca : codesA (u.1 20) (u.2.1 27) (u.2.1 28) (u.2.1 29) (u.2.1 30) (u.2.1 31) Lw) (hD : DM o R) : CMi G l o R yX6_law cX6_law 4 .int 10 182 [.int n0] u (fun r w => ∃ pl : Int32, ∃ fa : Int32, ∃ nu : Int32, ∃ op : Int32, ∃ cm : Int32, ∃ wa : Int32, ∃ sm : Int32, ∃ tp : Int32, ∃ le : Int32, ∃ cl : Int32, ∃ x : Nat → Int32, ∃ y : Nat → Int32, ∃ La : Nat → Int32, ∃ Fa : Nat → Int32, ∃ Ha : Nat → Int32, ∃ Ta : Nat → Int32, ∃ co : Nat → Int32, ∃ Lb : Nat → Int32, ∃ Fb : Nat → Int32, ∃ Hb : Nat → Int32, ∃ Tb : Nat → Int32, (codesA cl co Lb Fb Hb Tb (lwNew (lwR (u.2.1 10) (u.1 11) n0) Lw)) ∧ (tp = if lwG (u.1 11) n0 = true then 0 else (u.1 11)) ∧ r = (lwV (lwR (u.2.1 10) (u.1 11) n0)) ∧ w = (lE u pl fa nu op cm wa sm tp le cl x y La Fa Ha Ta co Lb Fb Hb Tb)) := by
  refine CMi.mk pnX6 rfl (Nat.le_of_ble_eq_true rfl) (fun pg en Rm sg mm ar bw mth cd QQ ls hC hRm hK hP hS hl hq => ?_)
  have hx := hC.1; have hb := hC.2.1; have ho := hC.2.2.2.1; have hts := hC.2.2.2.2
  have hl : lv_has ls 4 [(0, .ref o), (1, .int n0)] := hl
  have hP : PM G o R (lE u (u.1 12) (u.1 14) (u.1 15) (u.1 16) (u.1 17) (u.1 18) (u.1 19) (u.1 11) (u.1 13) (u.1 20) (u.2.1 21) (u.2.1 22) (u.2.1 23) (u.2.1 24) (u.2.1 25) (u.2.1 26) (u.2.1 27) (u.2.1 28) (u.2.1 29) (u.2.1 30) (u.2.1 31)) sg.heap := by rw [lE_self]; exact hP
  refine lv_iload_n hx hb dX6_law_0 rfl (lv_at hl 1 rfl) ?_
  refine lv_iconst (v := 1) hx hb dX6_law_1 (by decide) ?_
  refine lv_sipush (v := 240) hx hb dX6_law_2 (by decide) ?_
  refine CI.callS hC hK hl (c_X6_in G l n0 1 240 ) trivial q1392 q1393 q116 q1394 mdX6_in (room_ok hRm rfl) rfl rfl dX6_law_5 ?_
  refine lv_if_eq (tgt := 19) hx hb dX6_law_8 (by decide) (fun c8 => ?_) (fun c8 => ?_)
  · have c8 : (inB n0 1 240) = false := bI_0.mp c8
    refine lv_iconst (v := (-1)) hx hb dX6_law_19 (by decide) ?_
    exact hq _ _ _ _ _ _ dX6_law_20 hP hS (rfl) (by have hg : ¬ lwG (u.1 11) n0 = true := (by simp [lwG, c8]); exact ⟨(u.1 12), (u.1 14), (u.1 15), (u.1 16), (u.1 17), (u.1 18), (u.1 19), (u.1 11), (u.1 13), (u.1 20), (u.2.1 21), (u.2.1 22), (u.2.1 23), (u.2.1 24), (u.2.1 25), (u.2.1 26), (u.2.1 27), (u.2.1 28), (u.2.1 29), (u.2.1 30), (u.2.1 31), by rw [lwR, if_neg hg]; exact hca, by rw [if_neg hg], by rw [lwR, if_neg hg]; rfl, rfl⟩)
  · have c8 : (inB n0 1 240) = true := bI_1.mp c8
    obtain ⟨n, hn1, hn, rfl, hnx⟩ := inB_nI2 1 240 (by decide) (by decide) c8
    have hl : lv_has ls 4 [(0, .ref o), (1, .int (nI n))] := hl
    refine lv_iload_n hx hb dX6_law_11 rfl (lv_at hl 1 rfl) ?_
    refine lv_aload_n hx hb dX6_law_12 rfl (lv_at hl 0 rfl) ?_
    refine M_get hC hK hP 11 (by decide) (fM11 _ _) q1212 dX6_law_13 ?_
    refine W_top (y := (u.1 11)) (by rw [lE_f11]) ?_
    refine lv_icmp_le (tgt := 21) hx hb dX6_law_16 (by decide) (fun c16 => ?_) (fun c16 => ?_)
    · have hg : lwG (u.1 11) (nI n) = true := by simp [lwG, c8, c16]
      refine lv_aload_n hx hb dX6_law_21 rfl (lv_at hl 0 rfl) ?_
      refine lv_iload_n hx hb dX6_law_22 rfl (lv_at hl 1 rfl) ?_
      refine CMv.call hC hK hS (fun q h => h) hl (c_X6_beginsText G l o R (lE u (u.1 12) (u.1 14) (u.1 15) (u.1 16) (u.1 17) (u.1 18) (u.1 19) (u.1 11) (u.1 13) (u.1 20) (u.2.1 21) (u.2.1 22) (u.2.1 23) (u.2.1 24) (u.2.1 25) (u.2.1 26) (u.2.1 27) (u.2.1 28) (u.2.1 29) (u.2.1 30) (u.2.1 31)) n  hD) hP rfl q1430 q1432 qs50 q116 q1433 mdX6_beginsText (room_ok hRm rfl) rfl rfl dX6_law_23 (fun w23 H locs hpo hP _ _ hS => ?_)
      have ew23 := hpo
      rw [ew23] at hP
      rw [lE_V12] at hP
      rw [lE_V13] at hP
      rw [lE_V17] at hP
      rw [lE_V19] at hP
      refine lv_aload_n hx hb dX6_law_26 rfl (lv_at hl 0 rfl) ?_
      refine CMi.call hC hK hS (fun q h => h) hl (c_X6_readsRule G l o R (lE u 0 (u.1 14) (u.1 15) (u.1 16) 0 (u.1 18) 0 (u.1 11) (nI n) (u.1 20) (u.2.1 21) (u.2.1 22) (u.2.1 23) (u.2.1 24) (u.2.1 25) (u.2.1 26) (u.2.1 27) (u.2.1 28) (u.2.1 29) (u.2.1 30) (u.2.1 31)) n 0 0 ([] : List Nat) (rfl) (rfl) (hn) (by omega) (rfl) (by decide) (rfl) (fun i x hx => by cases hx) (Nat.le_refl _) hD) hP rfl q1434 q1436 qs51 q116 q1437 mdX6_readsRule (room_ok hRm rfl) rfl rfl dX6_law_27 (fun r27 w27 H locs hpo hP _ _ hS => ?_)
      obtain ⟨ok_1, pl_2, fa_3, nu_4, op_5, cm_6, wa_7, sm_8, x_9, y_10, La_11, Fa_12, Ha_13, Ta_14, f27_0, er27, ew27⟩ := hpo
      rw [ew27] at hP
      refine W_top (y := (bI ok_1)) er27 ?_
      rw [lE_again] at hP
      simp only [lE_f11, lE_f20, lE_g27, lE_g28, lE_g29, lE_g30, lE_g31] at hP
      have hI0 : lwP (u.2.1 10) n n ok_1 pl_2 fa_3 cm_6 sm_8 x_9 La_11 Fa_12 Ha_13 Ta_14 := lwP_ru (k := n) (rs := []) (p := 0) hn rfl (by omega) (by omega) (by decide) (Nat.le_refl _) (fun q hq => absurd hq (Nat.not_lt_zero _)) (fun q hq => absurd hq (Nat.not_lt_zero _)) f27_0
      refine lv_istore_n (lv' := [(2, .int (bI ok_1)), (0, .ref o), (1, .int (nI n))]) hx hb dX6_law_30 rfl hl (by decide) rfl (fun ls hl => ?_)
      have LP31 : ∀ (fu31 : Nat) (bb : Nat) (ok : Bool) (pl : Int32) (fa : Int32) (nu : Int32) (op : Int32) (cm : Int32) (wa : Int32) (sm : Int32) (x : Nat → Int32) (y : Nat → Int32) (La : Nat → Int32) (Fa : Nat → Int32) (Ha : Nat → Int32) (Ta : Nat → Int32) (H : Heap) (locs : List Loc) (ls : Array Slot), bb < fu31 → lwP (u.2.1 10) n bb ok pl fa cm sm x La Fa Ha Ta → PM G o R (lE u pl fa nu op cm wa sm (u.1 11) (nI n) (u.1 20) x y La Fa Ha Ta (u.2.1 27) (u.2.1 28) (u.2.1 29) (u.2.1 30) (u.2.1 31)) H → va_S (AM o R) sg.heap H locs → lv_has ls 4 [(0, .ref o), (1, .int (nI n)), (2, .int (bI ok))] → W pg l en Rm sg mm ar bw mth cd H locs 0 0 QQ (F0 mm 31 ls []) := by
        intro fu31
        induction fu31 with
        | zero => intro bb ok pl fa nu op cm wa sm x y La Fa Ha Ta H locs ls hm31 hI hP hS hl; exact absurd hm31 (Nat.not_lt_zero _)
        | succ fu31 ih31 =>
          intro bb ok pl fa nu op cm wa sm x y La Fa Ha Ta H locs ls hm31 hI hP hS hl
          refine lv_iload_n hx hb dX6_law_31 rfl (lv_at hl 2 rfl) ?_
          refine lv_if_eq (tgt := 71) hx hb dX6_law_32 (by decide) (fun c32 => ?_) (fun c32 => ?_)
          · have c32 : ok = false := bI_0.mp c32
            obtain ⟨e0, hR, rfl⟩ := lwP_f hI c32
            refine lv_aload_n hx hb dX6_law_71 rfl (lv_at hl 0 rfl) ?_
            refine lv_iconst (v := 0) hx hb dX6_law_72 (by decide) ?_
            refine M_put hC hK hD hP hS 11 (by decide) (sM11 _ _ _) q1212 rfl dX6_law_73 (fun H locs hP hS => ?_)
            rw [lE_V11] at hP
            refine lv_iload_n hx hb dX6_law_76 rfl (lv_at hl 2 rfl) ?_
            refine lv_if_ne (tgt := 85) hx hb dX6_law_77 (by decide) (fun c77 => ?_) (fun c77 => ?_)
            · have c77 : ok = true := bI_1.mp c77
              rw [c32] at c77; exact Bool.noConfusion c77
            · have c77 : ok = false := bI_0.mp c77
              refine lv_aload_n hx hb dX6_law_80 rfl (lv_at hl 0 rfl) ?_
              refine M_get hC hK hP 14 (by decide) (fM14 _ _) q1215 dX6_law_81 ?_
              refine W_top (y := (wrI e0.1 e0.2)) (by rw [lE_f14]) ?_
              exact hq _ _ _ _ _ _ dX6_law_84 hP hS (rfl) (by exact ⟨pl, (wrI e0.1 e0.2), nu, op, cm, wa, sm, 0, (nI n), (u.1 20), x, y, La, Fa, Ha, Ta, (u.2.1 27), (u.2.1 28), (u.2.1 29), (u.2.1 30), (u.2.1 31), by rw [lwR, if_pos hg, hnx, hR]; exact hca, by rw [if_pos hg], by rw [lwR, if_pos hg, hnx, hR]; rfl, rfl⟩)
          · have c32 : ok = true := bI_1.mp c32
            obtain ⟨k, rs, p, hR, hkp, hbp, ⟨hpn, hrs, hcl⟩, ⟨rfl, rfl, rfl⟩, hcs, har, hok⟩ := lwP_t hI c32
            refine lv_aload_n hx hb dX6_law_35 rfl (lv_at hl 0 rfl) ?_
            refine M_get hC hK hP 12 (by decide) (fM12 _ _) q1213 dX6_law_36 ?_
            refine W_top (y := (nI p)) (by rw [lE_f12]) ?_
            refine lv_aload_n hx hb dX6_law_39 rfl (lv_at hl 0 rfl) ?_
            refine M_get hC hK hP 13 (by decide) (fM13 _ _) q1214 dX6_law_40 ?_
            refine W_top (y := (nI n)) (by rw [lE_f13]) ?_
            refine lv_icmp_ge (tgt := 71) hx hb dX6_law_43 (by decide) (fun c43 => ?_) (fun c43 => ?_)
            · have c43 : n ≤ p := (nI_leI (a := n) (b := p) (by first | omega | exact ocN_b _ _ | exact hbN_b _ _ _) (by first | omega | exact ocN_b _ _ | exact hbN_b _ _ _)).mp c43
              refine lv_aload_n hx hb dX6_law_71 rfl (lv_at hl 0 rfl) ?_
              refine lv_iconst (v := 0) hx hb dX6_law_72 (by decide) ?_
              refine M_put hC hK hD hP hS 11 (by decide) (sM11 _ _ _) q1212 rfl dX6_law_73 (fun H locs hP hS => ?_)
              rw [lE_V11] at hP
              refine lv_iload_n hx hb dX6_law_76 rfl (lv_at hl 2 rfl) ?_
              refine lv_if_ne (tgt := 85) hx hb dX6_law_77 (by decide) (fun c77 => ?_) (fun c77 => ?_)
              · have c77 : ok = true := bI_1.mp c77
                have hR2 : lawE (u.2.1 10) n = .inr rs := hR.trans (if_neg (by omega))
                refine lv_aload_n hx hb dX6_law_85 rfl (lv_at hl 0 rfl) ?_
                refine lv_aload_n hx hb dX6_law_86 rfl (lv_at hl 0 rfl) ?_
                refine M_get hC hK hP 19 (by decide) (fM19 _ _) q1220 dX6_law_87 ?_
                refine W_top (y := (nI rs.length)) (by rw [lE_f19]) ?_
                refine M_put hC hK hD hP hS 20 (by decide) (sM20 _ _ _) q1221 rfl dX6_law_90 (fun H locs hP hS => ?_)
                rw [lE_V20] at hP
                refine lv_iconst (v := 0) hx hb dX6_law_93 (by decide) ?_
                refine lv_istore_n (lv' := [(3, .int 0), (0, .ref o), (1, .int (nI n)), (2, .int (bI ok))]) hx hb dX6_law_94 rfl hl (by decide) rfl (fun ls hl => ?_)
                have LP95 : ∀ (fu95 : Nat) (k9 : Nat) (co : Nat → Int32) (H : Heap) (locs : List Loc) (ls : Array Slot), (codR rs).length - k9 < fu95 → k9 ≤ (codR rs).length → cpA k9 x (u.2.1 27) co → PM G o R (lE u (nI p) fa nu op (nI (codR rs).length) wa (nI rs.length) 0 (nI n) (nI rs.length) x y La Fa Ha Ta co (u.2.1 28) (u.2.1 29) (u.2.1 30) (u.2.1 31)) H → va_S (AM o R) sg.heap H locs → lv_has ls 4 [(0, .ref o), (1, .int (nI n)), (2, .int (bI ok)), (3, .int (nI k9))] → W pg l en Rm sg mm ar bw mth cd H locs 0 0 QQ (F0 mm 95 ls []) := by
                  intro fu95
                  induction fu95 with
                  | zero => intro k9 co H locs ls hm95 hk9 hco hP hS hl; exact absurd hm95 (Nat.not_lt_zero _)
                  | succ fu95 ih95 =>
                    intro k9 co H locs ls hm95 hk9 hco hP hS hl
                    refine lv_iload_n hx hb dX6_law_95 rfl (lv_at hl 3 rfl) ?_
                    refine lv_aload_n hx hb dX6_law_96 rfl (lv_at hl 0 rfl) ?_
                    refine M_get hC hK hP 17 (by decide) (fM17 _ _) q1218 dX6_law_97 ?_
                    refine W_top (y := (nI (codR rs).length)) (by rw [lE_f17]) ?_
                    refine lv_icmp_ge (tgt := 121) hx hb dX6_law_100 (by decide) (fun c100 => ?_) (fun c100 => ?_)
                    · have c100 : (codR rs).length ≤ k9 := (nI_leI (a := (codR rs).length) (b := k9) (by first | omega | exact ocN_b _ _ | exact hbN_b _ _ _) (by first | omega | exact ocN_b _ _ | exact hbN_b _ _ _)).mp c100
                      have ek : k9 = (codR rs).length := by omega
                      subst ek
                      refine lv_iconst (v := 0) hx hb dX6_law_121 (by decide) ?_
                      refine lv_istore_n (lv' := [(3, .int 0), (0, .ref o), (1, .int (nI n)), (2, .int (bI ok))]) hx hb dX6_law_122 rfl hl (by decide) rfl (fun ls hl => ?_)
                      have LP123 : ∀ (fu123 : Nat) (j : Nat) (Lb : Nat → Int32) (Fb : Nat → Int32) (Hb : Nat → Int32) (Tb : Nat → Int32) (H : Heap) (locs : List Loc) (ls : Array Slot), rs.length - j < fu123 → j ≤ rs.length → cpA j La (u.2.1 28) Lb → cpA j Fa (u.2.1 29) Fb → cpA j Ha (u.2.1 30) Hb → cpA j Ta (u.2.1 31) Tb → PM G o R (lE u (nI p) fa nu op (nI (codR rs).length) wa (nI rs.length) 0 (nI n) (nI rs.length) x y La Fa Ha Ta co Lb Fb Hb Tb) H → va_S (AM o R) sg.heap H locs → lv_has ls 4 [(0, .ref o), (1, .int (nI n)), (2, .int (bI ok)), (3, .int (nI j))] → W pg l en Rm sg mm ar bw mth cd H locs 0 0 QQ (F0 mm 123 ls []) := by
                        intro fu123
                        induction fu123 with
                        | zero => intro j Lb Fb Hb Tb H locs ls hm123 hj hy1 hy2 hy3 hy4 hP hS hl; exact absurd hm123 (Nat.not_lt_zero _)
                        | succ fu123 ih123 =>
                          intro j Lb Fb Hb Tb H locs ls hm123 hj hy1 hy2 hy3 hy4 hP hS hl
                          refine lv_iload_n hx hb dX6_law_123 rfl (lv_at hl 3 rfl) ?_
                          refine lv_aload_n hx hb dX6_law_124 rfl (lv_at hl 0 rfl) ?_
                          refine M_get hC hK hP 19 (by decide) (fM19 _ _) q1220 dX6_law_125 ?_
                          refine W_top (y := (nI rs.length)) (by rw [lE_f19]) ?_
                          refine lv_icmp_ge (tgt := 185) hx hb dX6_law_128 (by decide) (fun c128 => ?_) (fun c128 => ?_)
                          · have c128 : rs.length ≤ j := (nI_leI (a := rs.length) (b := j) (by first | omega | exact ocN_b _ _ | exact hbN_b _ _ _) (by first | omega | exact ocN_b _ _ | exact hbN_b _ _ _)).mp c128
                            refine lv_aload_n hx hb dX6_law_185 rfl (lv_at hl 0 rfl) ?_
                            refine M_get hC hK hP 19 (by decide) (fM19 _ _) q1220 dX6_law_186 ?_
                            refine W_top (y := (nI rs.length)) (by rw [lE_f19]) ?_
                            exact hq _ _ _ _ _ _ dX6_law_189 hP hS (rfl) (by have ej : j = rs.length := (by omega); subst ej; exact ⟨(nI p), fa, nu, op, (nI (codR rs).length), wa, (nI rs.length), 0, (nI n), (nI rs.length), x, y, La, Fa, Ha, Ta, co, Lb, Fb, Hb, Tb, by rw [lwR, if_pos hg, hnx, hR2]; exact codesA_law hca hrs hok (by omega) hcs hco (arR_cp har hy1 hy2 hy3 hy4), by rw [if_pos hg], by rw [lwR, if_pos hg, hnx, hR2]; rfl, rfl⟩)
                          · have c128 : ¬ (rs.length ≤ j) := mt (nI_leI (a := rs.length) (b := j) (by first | omega | exact ocN_b _ _ | exact hbN_b _ _ _) (by first | omega | exact ocN_b _ _ | exact hbN_b _ _ _)).mpr c128
                            refine lv_aload_n hx hb dX6_law_131 rfl (lv_at hl 0 rfl) ?_
                            refine M_get hC hK hP 28 (by decide) (fM28 _ _) q1229 dX6_law_132 ?_
                            refine lv_iload_n hx hb dX6_law_135 rfl (lv_at hl 3 rfl) ?_
                            refine lv_aload_n hx hb dX6_law_136 rfl (lv_at hl 0 rfl) ?_
                            refine M_get hC hK hP 23 (by decide) (fM23 _ _) q1224 dX6_law_137 ?_
                            refine lv_iload_n hx hb dX6_law_140 rfl (lv_at hl 3 rfl) ?_
                            refine M_ald hC hK hP 23 12 16 j (aM23 _ _ _ _) (by decide) (rfl) (by omega) dX6_law_141 ?_
                            refine W_top (y := (La j)) (by rw [lE_g23]) ?_
                            refine M_ast hC hK hD hP hS 28 17 16 j (aM28 _ _ _ _) (bM28 _ _ _ _ _ _) (by decide) (rfl) (by omega) dX6_law_142 (fun H locs hP hS => ?_)
                            rw [lE_A28] at hP
                            refine lv_aload_n hx hb dX6_law_143 rfl (lv_at hl 0 rfl) ?_
                            refine M_get hC hK hP 29 (by decide) (fM29 _ _) q1230 dX6_law_144 ?_
                            refine lv_iload_n hx hb dX6_law_147 rfl (lv_at hl 3 rfl) ?_
                            refine lv_aload_n hx hb dX6_law_148 rfl (lv_at hl 0 rfl) ?_
                            refine M_get hC hK hP 24 (by decide) (fM24 _ _) q1225 dX6_law_149 ?_
                            refine lv_iload_n hx hb dX6_law_152 rfl (lv_at hl 3 rfl) ?_
                            refine M_ald hC hK hP 24 13 16 j (aM24 _ _ _ _) (by decide) (rfl) (by omega) dX6_law_153 ?_
                            refine W_top (y := (Fa j)) (by rw [lE_g24]) ?_
                            refine M_ast hC hK hD hP hS 29 18 16 j (aM29 _ _ _ _) (bM29 _ _ _ _ _ _) (by decide) (rfl) (by omega) dX6_law_154 (fun H locs hP hS => ?_)
                            rw [lE_A29] at hP
                            refine lv_aload_n hx hb dX6_law_155 rfl (lv_at hl 0 rfl) ?_
                            refine M_get hC hK hP 30 (by decide) (fM30 _ _) q1231 dX6_law_156 ?_
                            refine lv_iload_n hx hb dX6_law_159 rfl (lv_at hl 3 rfl) ?_
                            refine lv_aload_n hx hb dX6_law_160 rfl (lv_at hl 0 rfl) ?_
                            refine M_get hC hK hP 25 (by decide) (fM25 _ _) q1226 dX6_law_161 ?_
                            refine lv_iload_n hx hb dX6_law_164 rfl (lv_at hl 3 rfl) ?_
                            refine M_ald hC hK hP 25 14 16 j (aM25 _ _ _ _) (by decide) (rfl) (by omega) dX6_law_165 ?_
                            refine W_top (y := (Ha j)) (by rw [lE_g25]) ?_
                            refine M_ast hC hK hD hP hS 30 19 16 j (aM30 _ _ _ _) (bM30 _ _ _ _ _ _) (by decide) (rfl) (by omega) dX6_law_166 (fun H locs hP hS => ?_)
                            rw [lE_A30] at hP
                            refine lv_aload_n hx hb dX6_law_167 rfl (lv_at hl 0 rfl) ?_
                            refine M_get hC hK hP 31 (by decide) (fM31 _ _) q1232 dX6_law_168 ?_
                            refine lv_iload_n hx hb dX6_law_171 rfl (lv_at hl 3 rfl) ?_
                            refine lv_aload_n hx hb dX6_law_172 rfl (lv_at hl 0 rfl) ?_
                            refine M_get hC hK hP 26 (by decide) (fM26 _ _) q1227 dX6_law_173 ?_
                            refine lv_iload_n hx hb dX6_law_176 rfl (lv_at hl 3 rfl) ?_
                            refine M_ald hC hK hP 26 15 16 j (aM26 _ _ _ _) (by decide) (rfl) (by omega) dX6_law_177 ?_
                            refine W_top (y := (Ta j)) (by rw [lE_g26]) ?_
                            refine M_ast hC hK hD hP hS 31 20 16 j (aM31 _ _ _ _) (bM31 _ _ _ _ _ _) (by decide) (rfl) (by omega) dX6_law_178 (fun H locs hP hS => ?_)
                            rw [lE_A31] at hP
                            refine lv_iinc (v := (nI (j + 1))) (lv' := [(3, .int (nI (j + 1))), (0, .ref o), (1, .int (nI n)), (2, .int (bI ok))]) hx hb dX6_law_179 hl (k := 3) rfl (nI_inc j) (by decide) rfl (fun ls hl => ?_)
                            refine lv_goto (tgt := 123) hx hb dX6_law_182 (by decide) ?_
                            exact ih123 (j + 1) (upd Lb j (La j)) (upd Fb j (Fa j)) (upd Hb j (Ha j)) (upd Tb j (Ta j)) _ _ ls (by omega) (by omega) (cpA_s hy1) (cpA_s hy2) (cpA_s hy3) (cpA_s hy4) hP hS (lv_sub hl [1, 2, 3, 0] rfl)
                      exact LP123 _ 0 (u.2.1 28) (u.2.1 29) (u.2.1 30) (u.2.1 31) _ _ ls (Nat.lt_succ_self _) (Nat.zero_le _) (cpA_0 _ _) (cpA_0 _ _) (cpA_0 _ _) (cpA_0 _ _) hP hS (lv_sub hl [1, 2, 3, 0] rfl)
                    · have c100 : ¬ ((codR rs).length ≤ k9) := mt (nI_leI (a := (codR rs).length) (b := k9) (by first | omega | exact ocN_b _ _ | exact hbN_b _ _ _) (by first | omega | exact ocN_b _ _ | exact hbN_b _ _ _)).mpr c100
                      refine lv_aload_n hx hb dX6_law_103 rfl (lv_at hl 0 rfl) ?_
                      refine M_get hC hK hP 27 (by decide) (fM27 _ _) q1228 dX6_law_104 ?_
                      refine lv_iload_n hx hb dX6_law_107 rfl (lv_at hl 3 rfl) ?_
                      refine lv_aload_n hx hb dX6_law_108 rfl (lv_at hl 0 rfl) ?_
                      refine M_get hC hK hP 21 (by decide) (fM21 _ _) q1222 dX6_law_109 ?_
                      refine lv_iload_n hx hb dX6_law_112 rfl (lv_at hl 3 rfl) ?_
                      refine M_ald hC hK hP 21 10 260 k9 (aM21 _ _ _ _) (by decide) (rfl) (by omega) dX6_law_113 ?_
                      refine W_top (y := (x k9)) (by rw [lE_g21]) ?_
                      refine M_ast hC hK hD hP hS 27 16 260 k9 (aM27 _ _ _ _) (bM27 _ _ _ _ _ _) (by decide) (rfl) (by omega) dX6_law_114 (fun H locs hP hS => ?_)
                      rw [lE_A27] at hP
                      refine lv_iinc (v := (nI (k9 + 1))) (lv' := [(3, .int (nI (k9 + 1))), (0, .ref o), (1, .int (nI n)), (2, .int (bI ok))]) hx hb dX6_law_115 hl (k := 3) rfl (nI_inc k9) (by decide) rfl (fun ls hl => ?_)
                      refine lv_goto (tgt := 95) hx hb dX6_law_118 (by decide) ?_
                      exact ih95 (k9 + 1) (upd co k9 (x k9)) _ _ ls (by omega) (by omega) (cpA_s hco) hP hS (lv_sub hl [1, 2, 3, 0] rfl)
                exact LP95 _ 0 (u.2.1 27) _ _ ls (Nat.lt_succ_self _) (Nat.zero_le _) (cpA_0 _ _) hP hS (lv_sub hl [1, 2, 3, 0] rfl)
              · have c77 : ok = false := bI_0.mp c77
                rw [c32] at c77; exact Bool.noConfusion c77
            · have c43 : ¬ (n ≤ p) := mt (nI_leI (a := n) (b := p) (by first | omega | exact ocN_b _ _ | exact hbN_b _ _ _) (by first | omega | exact ocN_b _ _ | exact hbN_b _ _ _)).mpr c43
              have hpn1 : p < n := by omega
              refine lv_aload_n hx hb dX6_law_46 rfl (lv_at hl 0 rfl) ?_
              refine lv_bipush (v := 59) hx hb dX6_law_47 (by decide) ?_
              refine CMi.call hC hK hS (fun q h => h) hl (c_X6_takes G l o R (lE u (nI p) fa nu op (nI (codR rs).length) wa (nI rs.length) (u.1 11) (nI n) (u.1 20) x y La Fa Ha Ta (u.2.1 27) (u.2.1 28) (u.2.1 29) (u.2.1 30) (u.2.1 31)) 59 p n (by first | assumption | omega | rfl | (simp_all; done)) (by first | assumption | omega | rfl | (simp_all; done)) (by first | assumption | omega | rfl | (simp_all; done)) (by first | assumption | omega | rfl | (simp_all; done)) (by first | assumption | omega | rfl | (simp_all; done)) hD) hP rfl q1509 q1511 qs68 q116 q1512 mdX6_takes (room_ok hRm rfl) rfl rfl dX6_law_49 (fun r49 w49 H locs hpo hP _ _ hS => ?_)
              obtain ⟨ok_15, pl_16, fa_17, f49_0, er49, ew49⟩ := hpo
              rw [ew49] at hP
              refine W_top (y := (bI ok_15)) er49 ?_
              rw [lE_pM] at hP
              simp only [lE_f15] at hP
              refine lv_if_eq (tgt := 66) hx hb dX6_law_52 (by decide) (fun c52 => ?_) (fun c52 => ?_)
              · have c52 : ok_15 = false := bI_0.mp c52
                have h5 := f49_0
                obtain ⟨k59, hfa5⟩ := tkL_f f49_0 c52
                change ¬ ckN (u.2.1 10) n p = 59 at k59
                have hI5 : lwP (u.2.1 10) n (n - p - 1) false pl_16 fa_17 (nI (codR rs).length) (nI rs.length) x La Fa Ha Ta := lwP_bad (e := (1, p)) (hR.trans (by unfold restE; rw [if_pos hpn1, if_neg k59])) hfa5
                refine lv_iconst (v := 0) hx hb dX6_law_66 (by decide) ?_
                refine lv_istore_n (lv' := [(2, .int 0), (0, .ref o), (1, .int (nI n))]) hx hb dX6_law_67 rfl hl (by decide) rfl (fun ls hl => ?_)
                refine lv_goto (tgt := 31) hx hb dX6_law_68 (by decide) ?_
                exact ih31 (n - p - 1) false pl_16 fa_17 nu op (nI (codR rs).length) wa (nI rs.length) x y La Fa Ha Ta _ _ ls (by omega) (by first | exact hI5 | (rw [c59] at hI5; exact hI5)) hP hS (lv_sub hl [1, 2, 0] rfl)
              · have c52 : ok_15 = true := bI_1.mp c52
                obtain ⟨k59, rfl⟩ := tkL_t f49_0 c52
                change ckN (u.2.1 10) n p = 59 at k59
                refine lv_aload_n hx hb dX6_law_55 rfl (lv_at hl 0 rfl) ?_
                refine CMi.call hC hK hS (fun q h => h) hl (c_X6_readsRule G l o R (lE u (nI (p + 1)) fa_17 nu op (nI (codR rs).length) wa (nI rs.length) (u.1 11) (nI n) (u.1 20) x y La Fa Ha Ta (u.2.1 27) (u.2.1 28) (u.2.1 29) (u.2.1 30) (u.2.1 31)) n (p + 1) rs.length (codR rs) (rfl) (rfl) (hn) (by omega) (rfl) (hrs) (rfl) (hcs) (by omega) hD) hP rfl q1434 q1436 qs51 q116 q1437 mdX6_readsRule (room_ok hRm rfl) rfl rfl dX6_law_56 (fun r56 w56 H locs hpo hP _ _ hS => ?_)
                obtain ⟨ok_18, pl_19, fa_20, nu_21, op_22, cm_23, wa_24, sm_25, x_26, y_27, La_28, Fa_29, Ha_30, Ta_31, f56_0, er56, ew56⟩ := hpo
                rw [ew56] at hP
                refine W_top (y := (bI ok_18)) er56 ?_
                rw [lE_again] at hP
                simp only [lE_f11, lE_f20, lE_g27, lE_g28, lE_g29, lE_g30, lE_g31] at hP
                have hI5 : lwP (u.2.1 10) n (n - p - 1) ok_18 pl_19 fa_20 cm_23 sm_25 x_26 La_28 Fa_29 Ha_30 Ta_31 := lwP_ru (k := k - 1) (rs := rs) (p := p + 1) hn (by rw [hR]; unfold restE; rw [if_pos hpn1, if_pos k59, show k - 1 + 1 = k by omega]) (by omega) (by omega) hrs (by omega) har hok f56_0
                refine lv_if_eq (tgt := 66) hx hb dX6_law_59 (by decide) (fun c59 => ?_) (fun c59 => ?_)
                · have c59 : ok_18 = false := bI_0.mp c59
                  have hgo : 1 = 1 := rfl
                  refine lv_iconst (v := 0) hx hb dX6_law_66 (by decide) ?_
                  refine lv_istore_n (lv' := [(2, .int 0), (0, .ref o), (1, .int (nI n))]) hx hb dX6_law_67 rfl hl (by decide) rfl (fun ls hl => ?_)
                  refine lv_goto (tgt := 31) hx hb dX6_law_68 (by decide) ?_
                  exact ih31 (n - p - 1) false pl_19 fa_20 nu_21 op_22 cm_23 wa_24 sm_25 x_26 y_27 La_28 Fa_29 Ha_30 Ta_31 _ _ ls (by omega) (by first | exact hI5 | (rw [c59] at hI5; exact hI5)) hP hS (lv_sub hl [1, 2, 0] rfl)
                · have c59 : ok_18 = true := bI_1.mp c59
                  have hgo : 1 = 1 := rfl
                  refine lv_iconst (v := 1) hx hb dX6_law_62 (by decide) ?_
                  refine lv_goto (tgt := 67) hx hb dX6_law_63 (by decide) ?_
                  refine lv_istore_n (lv' := [(2, .int 1), (0, .ref o), (1, .int (nI n))]) hx hb dX6_law_67 rfl hl (by decide) rfl (fun ls hl => ?_)
                  refine lv_goto (tgt := 31) hx hb dX6_law_68 (by decide) ?_
                  exact ih31 (n - p - 1) true pl_19 fa_20 nu_21 op_22 cm_23 wa_24 sm_25 x_26 y_27 La_28 Fa_29 Ha_30 Ta_31 _ _ ls (by omega) (by first | exact hI5 | (rw [c59] at hI5; exact hI5)) hP hS (lv_sub hl [1, 2, 0] rfl)
      exact LP31 _ n ok_1 pl_2 fa_3 nu_4 op_5 cm_6 wa_7 sm_8 x_9 y_10 La_11 Fa_12 Ha_13 Ta_14 _ _ ls (Nat.lt_succ_self _) (hI0) hP hS (lv_sub hl [1, 2, 0] rfl)
    · refine lv_iconst (v := (-1)) hx hb dX6_law_19 (by decide) ?_
      exact hq _ _ _ _ _ _ dX6_law_20 hP hS (rfl) (by have hg : ¬ lwG (u.1 11) (nI n) = true := (by simp [lwG, c8, c16]); exact ⟨(u.1 12), (u.1 14), (u.1 15), (u.1 16), (u.1 17), (u.1 18), (u.1 19), (u.1 11), (u.1 13), (u.1 20), (u.2.1 21), (u.2.1 22), (u.2.1 23), (u.2.1 24), (u.2.1 25), (u.2.1 26), (u.2.1 27), (u.2.1 28), (u.2.1 29), (u.2.1 30), (u.2.1 31), by rw [lwR, if_neg hg]; exact hca, by rw [if_neg hg], by rw [lwR, if_neg hg]; rfl, rfl⟩)
