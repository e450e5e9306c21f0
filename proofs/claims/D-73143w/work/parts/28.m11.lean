set_option maxRecDepth 100000
set_option maxHeartbeats 4000000 in
theorem c_X6_halves (G : GG) (l : Launch) (o : Nat) (R : Nat → Nat) (u : MS) (n0 : Int32) (hD : DM o R) : CMi G l o R yX6_halves cX6_halves 6 .int 4 61 [.int n0] u (fun r w => ∃ g : Nat → Int32, r = (halvesI (u.2.1 10) (u.1 11) n0) ∧ w = (if halvesG (u.1 11) n0 = true then mS (mV u 11 0) 55 g else u)) := by
  refine CMi.mk pnX6 rfl (Nat.le_of_ble_eq_true rfl) (fun pg en Rm sg mm ar bw mth cd QQ ls hC hRm hK hP hS hl hq => ?_)
  have hx := hC.1; have hb := hC.2.1; have ho := hC.2.2.2.1; have hts := hC.2.2.2.2
  have hl : lv_has ls 6 [(0, .ref o), (1, .int n0)] := hl
  refine lv_iload_n hx hb dX6_halves_0 rfl (lv_at hl 1 rfl) ?_
  refine lv_iconst (v := 2) hx hb dX6_halves_1 (by decide) ?_
  refine lv_bipush (v := 12) hx hb dX6_halves_2 (by decide) ?_
  refine CI.callS hC hK hl (c_X6_in G l n0 2 12 ) trivial q1392 q1393 q116 q1394 mdX6_in (room_ok hRm rfl) rfl rfl dX6_halves_4 ?_
  refine lv_if_eq (tgt := 18) hx hb dX6_halves_7 (by decide) (fun c7 => ?_) (fun c7 => ?_)
  · have c7 : (inB n0 2 12) = false := bI_0.mp c7
    refine lv_iconst (v := (-1)) hx hb dX6_halves_18 (by decide) ?_
    exact hq _ _ _ _ _ _ dX6_halves_19 hP hS (rfl) (by exact ⟨u.2.1 0, by first | (simp [halvesI, halvesG, c7]; done) | (simp [halvesI, halvesG, c7, c15]; done), by first | (simp [halvesG, c7]; done) | (simp [halvesG, c7, c15]; done)⟩)
  · have c7 : (inB n0 2 12) = true := bI_1.mp c7
    obtain ⟨n, hn1, hn, rfl, hnx⟩ := inB_nI2 2 12 (by decide) (by decide) c7
    have hl : lv_has ls 6 [(0, .ref o), (1, .int (nI n))] := hl
    refine lv_iload_n hx hb dX6_halves_10 rfl (lv_at hl 1 rfl) ?_
    refine lv_aload_n hx hb dX6_halves_11 rfl (lv_at hl 0 rfl) ?_
    refine M_get (v := .int (u.1 11)) hC hK hP 11 (by decide) (fM11 _ _) q1212 dX6_halves_12 ?_
    refine lv_icmp_le (tgt := 20) hx hb dX6_halves_15 (by decide) (fun c15 => ?_) (fun c15 => ?_)
    · refine lv_aload_n hx hb dX6_halves_20 rfl (lv_at hl 0 rfl) ?_
      refine lv_iconst (v := 0) hx hb dX6_halves_21 (by decide) ?_
      refine M_put hC hK hD hP hS 11 (by decide) (sM11 _ _ _) q1212 rfl dX6_halves_22 (fun H locs hP hS => ?_)
      refine lv_iload_n hx hb dX6_halves_25 rfl (lv_at hl 1 rfl) ?_
      refine lv_iconst (v := 1) hx hb dX6_halves_26 (by decide) ?_
      refine lv_isub hx hb dX6_halves_27 ?_
      refine lv_istore_n (lv' := [(2, .int ((nI n) - 1)), (0, .ref o), (1, .int (nI n))]) hx hb dX6_halves_28 rfl hl (by decide) rfl (fun ls hl => ?_)
      have hP : PM G o R (mS (mV u 11 0) 55 (u.2.1 55)) H := by rw [show (u.2.1 55) = ((mV u 11 0).2.1 55) from rfl, mS_self]; exact hP
      have LP29 : ∀ (fu29 : Nat) (q : Nat) (x : Int32) (g : Nat → Int32) (H : Heap) (locs : List Loc) (ls : Array Slot), q < fu29 → q ≤ n → x = nI q - 1 → hvM (u.2.1 10) q n g → PM G o R (mS (mV u 11 0) 55 g) H → va_S (AM o R) sg.heap H locs → lv_has ls 6 [(0, .ref o), (1, .int (nI n)), (2, .int x)] → W pg l en Rm sg mm ar bw mth cd H locs 0 0 QQ (F0 mm 29 ls []) := by
        intro fu29
        induction fu29 with
        | zero => intro q x g H locs ls hm29 hq2 hxq hg hP hS hl; exact absurd hm29 (Nat.not_lt_zero _)
        | succ fu29 ih29 =>
          intro q x g H locs ls hm29 hq2 hxq hg hP hS hl
          rcases q with _ | s
          · have hx0 : x = -1 := by rw [hxq]; rfl
            subst hx0
            have hl : lv_has ls 6 [(0, .ref o), (1, .int (nI n)), (2, .int (-1))] := hl
            refine lv_iload_n hx hb dX6_halves_29 rfl (lv_at hl 2 rfl) ?_
            refine lv_if_lt (tgt := 148) hx hb dX6_halves_30 (by decide) (fun c30 => ?_) (fun c30 => ?_)
            · refine lv_aload_n hx hb dX6_halves_148 rfl (lv_at hl 0 rfl) ?_
              refine M_get hC hK hP 55 (by decide) (fM55 _ _) q1256 dX6_halves_149 ?_
              refine lv_iload_n hx hb dX6_halves_152 rfl (lv_at hl 1 rfl) ?_
              refine lv_iconst (v := 1) hx hb dX6_halves_153 (by decide) ?_
              refine lv_isub hx hb dX6_halves_154 ?_
              refine W_top (y := (nI (n - 1))) (pk_sub (a := n) (b := 1) (by omega)) ?_
              refine M_ald hC hK hP 55 36 144 (n - 1) (aM55 _ _ _ _) (by decide) (rfl) (by omega) dX6_halves_155 ?_
              refine W_top (y := (g (n - 1))) rfl ?_
              refine W_top (y := (nI (hvN (u.2.1 10) n 0))) (by have h := hg 0 (n - 1) (by omega) (by omega) (by omega); rw [show 12 * 0 + (n - 1) = n - 1 by omega, show n - 1 - 0 + 1 = n by omega] at h; exact h) ?_
              exact hq _ _ _ _ _ _ dX6_halves_156 hP hS (rfl) (by have hg0 : halvesG (u.1 11) (nI n) = true := (by simp [halvesG, c7, c15]); exact ⟨g, by rw [halvesI, if_pos hg0, hnx], by rw [if_pos hg0]⟩)
            · exact absurd c30 (by decide)
          · have hx0 : x = nI s := by rw [hxq]; exact nI_pred s
            subst hx0
            have hl : lv_has ls 6 [(0, .ref o), (1, .int (nI n)), (2, .int (nI s))] := hl
            refine lv_iload_n hx hb dX6_halves_29 rfl (lv_at hl 2 rfl) ?_
            refine lv_if_lt (tgt := 148) hx hb dX6_halves_30 (by decide) (fun c30 => ?_) (fun c30 => ?_)
            · exact absurd c30 (nI_pos (by omega))
            · refine lv_aload_n hx hb dX6_halves_33 rfl (lv_at hl 0 rfl) ?_
              refine M_get hC hK hP 55 (by decide) (fM55 _ _) q1256 dX6_halves_34 ?_
              refine lv_bipush (v := 12) hx hb dX6_halves_37 (by decide) ?_
              refine lv_iload_n hx hb dX6_halves_39 rfl (lv_at hl 2 rfl) ?_
              refine lv_imul hx hb dX6_halves_40 ?_
              refine W_top (pk_mul 12 s) ?_
              refine lv_iload_n hx hb dX6_halves_41 rfl (lv_at hl 2 rfl) ?_
              refine lv_iadd hx hb dX6_halves_42 ?_
              refine W_top (nI_add (12 * s) s) ?_
              refine lv_aload_n hx hb dX6_halves_43 rfl (lv_at hl 0 rfl) ?_
              refine lv_iload_n hx hb dX6_halves_44 rfl (lv_at hl 2 rfl) ?_
              refine CI.callV hC hK hl (c_X6_octet G l o R (mS (mV u 11 0) 55 g) s (by first | assumption | omega | rfl | (simp_all; done))) hP (hP.recv hK) q1711 q1713 qs96 q116 q1714 mdX6_octet (room_ok hRm rfl) rfl rfl dX6_halves_45 ?_
              refine W_top (y := (nI (ocN (u.2.1 10) s))) rfl ?_
              refine M_ast hC hK hD hP hS 55 36 144 ((12 * s) + s) (aM55 _ _ _ _) (bM55 _ _ _ _ _ _) (by decide) (rfl) (by omega) dX6_halves_48 (fun H locs hP hS => ?_)
              rw [mS_A] at hP
              refine lv_iload_n hx hb dX6_halves_49 rfl (lv_at hl 2 rfl) ?_
              refine lv_iconst (v := 1) hx hb dX6_halves_50 (by decide) ?_
              refine lv_iadd hx hb dX6_halves_51 ?_
              refine W_top (nI_add s 1) ?_
              refine lv_istore_n (lv' := [(3, .int (nI (s + 1))), (0, .ref o), (1, .int (nI n)), (2, .int (nI s))]) hx hb dX6_halves_52 rfl hl (by decide) rfl (fun ls hl => ?_)
              have LP53 : ∀ (fu53 : Nat) (k : Nat) (g : Nat → Int32) (H : Heap) (locs : List Loc) (ls : Array Slot), n - k < fu53 → k ≤ n → s < k → hvM (u.2.1 10) (s + 1) n g → (∀ t, s ≤ t → t < k → g (12 * s + t) = nI (hvN (u.2.1 10) (t - s + 1) s)) → PM G o R (mS (mV u 11 0) 55 g) H → va_S (AM o R) sg.heap H locs → lv_has ls 6 [(0, .ref o), (1, .int (nI n)), (2, .int (nI s)), (3, .int (nI k))] → W pg l en Rm sg mm ar bw mth cd H locs 0 0 QQ (F0 mm 53 ls []) := by
                intro fu53
                induction fu53 with
                | zero => intro k g H locs ls hm53 hk hks hA hB hP hS hl; exact absurd hm53 (Nat.not_lt_zero _)
                | succ fu53 ih53 =>
                  intro k g H locs ls hm53 hk hks hA hB hP hS hl
                  refine lv_iload_n hx hb dX6_halves_53 rfl (lv_at hl 3 rfl) ?_
                  refine lv_iload_n hx hb dX6_halves_54 rfl (lv_at hl 1 rfl) ?_
                  refine lv_icmp_ge (tgt := 142) hx hb dX6_halves_55 (by decide) (fun c55 => ?_) (fun c55 => ?_)
                  · have c55 : n ≤ k := (nI_leI (a := n) (b := k) (by first | omega | exact ocN_b _ _ | exact hbN_b _ _ _) (by first | omega | exact ocN_b _ _ | exact hbN_b _ _ _)).mp c55
                    refine lv_iinc (v := ((nI s) + (-1))) (lv' := [(2, .int ((nI s) + (-1))), (0, .ref o), (1, .int (nI n)), (3, .int (nI k))]) hx hb dX6_halves_142 hl (k := 2) rfl (rfl) (by decide) rfl (fun ls hl => ?_)
                    refine lv_goto (tgt := 29) hx hb dX6_halves_145 (by decide) ?_
                    exact ih29 s ((nI s) + (-1)) g _ _ ls (by omega) (by first | omega | assumption | rfl | (simp_all; done) | grind) (by rw [Int32.sub_eq_add_neg]) (by intro a t h1 h2 h3; by_cases e : a = s; (rw [e, hB t (by omega) (by omega)]); exact hA a t (by omega) h2 h3) hP hS (lv_sub hl [1, 2, 0] rfl)
                  · have c55 : ¬ (n ≤ k) := mt (nI_leI (a := n) (b := k) (by first | omega | exact ocN_b _ _ | exact hbN_b _ _ _) (by first | omega | exact ocN_b _ _ | exact hbN_b _ _ _)).mpr c55
                    obtain ⟨mm, rfl⟩ : ∃ mm, k = s + mm + 1 := ⟨k - s - 1, by omega⟩
                    have hl : lv_has ls 6 [(0, .ref o), (1, .int (nI n)), (2, .int (nI s)), (3, .int (nI (s + mm + 1)))] := hl
                    have e1 := hvN_le (u.2.1 10) (mm + 1) (s + 1)
                    have e2 := hvN_le (u.2.1 10) (mm + 1) s
                    have e3 := smN_le (u.2.1 10) (s + 1) (mm + 1)
                    have e4 := smN_le (u.2.1 10) s (mm + 1)
                    have e5 := ocN_lt (u.2.1 10) s
                    have e6 := ocN_lt (u.2.1 10) (s + mm + 1)
                    refine lv_aload_n hx hb dX6_halves_58 rfl (lv_at hl 0 rfl) ?_
                    refine lv_iload_n hx hb dX6_halves_59 rfl (lv_at hl 2 rfl) ?_
                    refine CI.callV hC hK hl (c_X6_octet G l o R (mS (mV u 11 0) 55 g) s (by first | assumption | omega | rfl | (simp_all; done))) hP (hP.recv hK) q1711 q1713 qs96 q116 q1714 mdX6_octet (room_ok hRm rfl) rfl rfl dX6_halves_60 ?_
                    refine W_top (y := (nI (ocN (u.2.1 10) s))) rfl ?_
                    refine lv_aload_n hx hb dX6_halves_63 rfl (lv_at hl 0 rfl) ?_
                    refine lv_iload_n hx hb dX6_halves_64 rfl (lv_at hl 2 rfl) ?_
                    refine lv_iconst (v := 1) hx hb dX6_halves_65 (by decide) ?_
                    refine lv_iadd hx hb dX6_halves_66 ?_
                    refine W_top (nI_add s 1) ?_
                    refine lv_iload_n hx hb dX6_halves_67 rfl (lv_at hl 3 rfl) ?_
                    refine CI.callV hC hK hl (c_X6_sumFrom G l o R (mS (mV u 11 0) 55 g) (s + 1) (s + mm + 1) (by omega) (by omega)) hP (hP.recv hK) q1754 q1756 qs102 q116 q1757 mdX6_sumFrom (room_ok hRm rfl) rfl rfl dX6_halves_68 ?_
                    refine W_top (y := (nI (smN (u.2.1 10) (s + 1) ((s + mm + 1) + 1 - (s + 1))))) rfl ?_
                    refine W_top (y := (nI (smN (u.2.1 10) (s + 1) (mm + 1)))) (by rw [show s + mm + 1 + 1 - (s + 1) = mm + 1 by omega]) ?_
                    refine lv_iadd hx hb dX6_halves_71 ?_
                    refine W_top (nI_add (ocN (u.2.1 10) s) (smN (u.2.1 10) (s + 1) (mm + 1))) ?_
                    refine lv_aload_n hx hb dX6_halves_72 rfl (lv_at hl 0 rfl) ?_
                    refine M_get hC hK hP 55 (by decide) (fM55 _ _) q1256 dX6_halves_73 ?_
                    refine lv_bipush (v := 12) hx hb dX6_halves_76 (by decide) ?_
                    refine lv_iload_n hx hb dX6_halves_78 rfl (lv_at hl 2 rfl) ?_
                    refine lv_iconst (v := 1) hx hb dX6_halves_79 (by decide) ?_
                    refine lv_iadd hx hb dX6_halves_80 ?_
                    refine W_top (nI_add s 1) ?_
                    refine lv_imul hx hb dX6_halves_81 ?_
                    refine W_top (pk_mul 12 (s + 1)) ?_
                    refine lv_iload_n hx hb dX6_halves_82 rfl (lv_at hl 3 rfl) ?_
                    refine lv_iadd hx hb dX6_halves_83 ?_
                    refine W_top (nI_add (12 * (s + 1)) (s + mm + 1)) ?_
                    refine M_ald hC hK hP 55 36 144 ((12 * (s + 1)) + (s + mm + 1)) (aM55 _ _ _ _) (by decide) (rfl) (by omega) dX6_halves_84 ?_
                    refine W_top (y := (g ((12 * (s + 1)) + (s + mm + 1)))) rfl ?_
                    refine W_top (y := (nI (hvN (u.2.1 10) (mm + 1) (s + 1)))) (by rw [hA (s + 1) (s + mm + 1) (by omega) (by omega) (by omega), show s + mm + 1 - (s + 1) + 1 = mm + 1 by omega]) ?_
                    refine lv_isub hx hb dX6_halves_85 ?_
                    refine W_top (y := (nI ((ocN (u.2.1 10) s + smN (u.2.1 10) (s + 1) (mm + 1)) - (hvN (u.2.1 10) (mm + 1) (s + 1))))) (pk_sub (by omega)) ?_
                    refine lv_istore (lv' := [(4, .int (nI ((ocN (u.2.1 10) s + smN (u.2.1 10) (s + 1) (mm + 1)) - (hvN (u.2.1 10) (mm + 1) (s + 1))))), (0, .ref o), (1, .int (nI n)), (2, .int (nI s)), (3, .int (nI (s + mm + 1)))]) hx hb dX6_halves_86 hl (by decide) rfl (fun ls hl => ?_)
                    refine lv_aload_n hx hb dX6_halves_88 rfl (lv_at hl 1 rfl) ?_
                    refine lv_iload_n hx hb dX6_halves_89 rfl (lv_at hl 4 rfl) ?_
                    refine CI.callV hC hK hl (c_X6_octet G l o R (mS (mV u 11 0) 55 g) (s + mm + 1) (by first | assumption | omega | rfl | (simp_all; done))) hP (hP.recv hK) q1711 q1713 qs96 q116 q1714 mdX6_octet (room_ok hRm rfl) rfl rfl dX6_halves_90 ?_
                    refine W_top (y := (nI (ocN (u.2.1 10) (s + mm + 1)))) rfl ?_
                    refine lv_aload_n hx hb dX6_halves_93 rfl (lv_at hl 1 rfl) ?_
                    refine lv_iload_n hx hb dX6_halves_94 rfl (lv_at hl 3 rfl) ?_
                    refine lv_iload_n hx hb dX6_halves_95 rfl (lv_at hl 4 rfl) ?_
                    refine lv_iconst (v := 1) hx hb dX6_halves_96 (by decide) ?_
                    refine lv_isub hx hb dX6_halves_97 ?_
                    refine W_top (y := (nI (s + mm))) (pk_sub (a := s + mm + 1) (b := 1) (by omega)) ?_
                    refine CI.callV hC hK hl (c_X6_sumFrom G l o R (mS (mV u 11 0) 55 g) s (s + mm) (by omega) (by omega)) hP (hP.recv hK) q1754 q1756 qs102 q116 q1757 mdX6_sumFrom (room_ok hRm rfl) rfl rfl dX6_halves_98 ?_
                    refine W_top (y := (nI (smN (u.2.1 10) s ((s + mm) + 1 - s)))) rfl ?_
                    refine W_top (y := (nI (smN (u.2.1 10) s (mm + 1)))) (by rw [show s + mm + 1 - s = mm + 1 by omega]) ?_
                    refine lv_iadd hx hb dX6_halves_101 ?_
                    refine W_top (nI_add (ocN (u.2.1 10) (s + mm + 1)) (smN (u.2.1 10) s (mm + 1))) ?_
                    refine lv_aload_n hx hb dX6_halves_102 rfl (lv_at hl 1 rfl) ?_
                    refine M_get hC hK hP 55 (by decide) (fM55 _ _) q1256 dX6_halves_103 ?_
                    refine lv_bipush (v := 12) hx hb dX6_halves_106 (by decide) ?_
                    refine lv_iload_n hx hb dX6_halves_108 rfl (lv_at hl 3 rfl) ?_
                    refine lv_imul hx hb dX6_halves_109 ?_
                    refine W_top (pk_mul 12 s) ?_
                    refine lv_iload_n hx hb dX6_halves_110 rfl (lv_at hl 4 rfl) ?_
                    refine lv_iadd hx hb dX6_halves_111 ?_
                    refine W_top (nI_add (12 * s) (s + mm + 1)) ?_
                    refine lv_iconst (v := 1) hx hb dX6_halves_112 (by decide) ?_
                    refine lv_isub hx hb dX6_halves_113 ?_
                    refine W_top (y := (nI ((12 * s) + (s + mm)))) (pk_sub (a := 12 * s + (s + mm + 1)) (b := 1) (by omega)) ?_
                    refine M_ald hC hK hP 55 36 144 ((12 * s) + (s + mm)) (aM55 _ _ _ _) (by decide) (rfl) (by omega) dX6_halves_114 ?_
                    refine W_top (y := (g ((12 * s) + (s + mm)))) rfl ?_
                    refine W_top (y := (nI (hvN (u.2.1 10) (mm + 1) s))) (by rw [hB (s + mm) (by omega) (by omega), show s + mm - s + 1 = mm + 1 by omega]) ?_
                    refine lv_isub hx hb dX6_halves_115 ?_
                    refine W_top (y := (nI ((ocN (u.2.1 10) (s + mm + 1) + smN (u.2.1 10) s (mm + 1)) - (hvN (u.2.1 10) (mm + 1) s)))) (pk_sub (by omega)) ?_
                    refine lv_istore (lv' := [(5, .int (nI ((ocN (u.2.1 10) (s + mm + 1) + smN (u.2.1 10) s (mm + 1)) - (hvN (u.2.1 10) (mm + 1) s)))), (4, .int (nI ((ocN (u.2.1 10) s + smN (u.2.1 10) (s + 1) (mm + 1)) - (hvN (u.2.1 10) (mm + 1) (s + 1))))), (0, .ref o), (1, .int (nI n)), (2, .int (nI s)), (3, .int (nI (s + mm + 1)))]) hx hb dX6_halves_116 hl (by decide) rfl (fun ls hl => ?_)
                    refine lv_aload_n hx hb dX6_halves_118 rfl (lv_at hl 2 rfl) ?_
                    refine M_get hC hK hP 55 (by decide) (fM55 _ _) q1256 dX6_halves_119 ?_
                    refine lv_bipush (v := 12) hx hb dX6_halves_122 (by decide) ?_
                    refine lv_iload_n hx hb dX6_halves_124 rfl (lv_at hl 4 rfl) ?_
                    refine lv_imul hx hb dX6_halves_125 ?_
                    refine W_top (pk_mul 12 s) ?_
                    refine lv_iload_n hx hb dX6_halves_126 rfl (lv_at hl 5 rfl) ?_
                    refine lv_iadd hx hb dX6_halves_127 ?_
                    refine W_top (nI_add (12 * s) (s + mm + 1)) ?_
                    refine lv_iload hx hb dX6_halves_128 (lv_at hl 1 rfl) ?_
                    refine lv_iload hx hb dX6_halves_130 (lv_at hl 0 rfl) ?_
                    refine CI.callS hC hK hl (c_X6_max G l (nI ((ocN (u.2.1 10) s + smN (u.2.1 10) (s + 1) (mm + 1)) - (hvN (u.2.1 10) (mm + 1) (s + 1)))) (nI ((ocN (u.2.1 10) (s + mm + 1) + smN (u.2.1 10) s (mm + 1)) - (hvN (u.2.1 10) (mm + 1) s))) ) trivial q1631 q1632 q116 q1633 mdX6_max (room_ok hRm rfl) rfl rfl dX6_halves_132 ?_
                    refine W_top (y := (mxI (nI ((ocN (u.2.1 10) s + smN (u.2.1 10) (s + 1) (mm + 1)) - (hvN (u.2.1 10) (mm + 1) (s + 1)))) (nI ((ocN (u.2.1 10) (s + mm + 1) + smN (u.2.1 10) s (mm + 1)) - (hvN (u.2.1 10) (mm + 1) s))))) rfl ?_
                    refine W_top (y := (nI (hvN (u.2.1 10) (mm + 2) s))) (by rw [mxI_nI (by omega) (by omega), hvN_2]; rfl) ?_
                    refine M_ast hC hK hD hP hS 55 36 144 ((12 * s) + (s + mm + 1)) (aM55 _ _ _ _) (bM55 _ _ _ _ _ _) (by decide) (rfl) (by omega) dX6_halves_135 (fun H locs hP hS => ?_)
                    rw [mS_A] at hP
                    refine lv_iinc (v := (nI ((s + mm + 1) + 1))) (lv' := [(3, .int (nI ((s + mm + 1) + 1))), (5, .int (nI ((ocN (u.2.1 10) (s + mm + 1) + smN (u.2.1 10) s (mm + 1)) - (hvN (u.2.1 10) (mm + 1) s)))), (4, .int (nI ((ocN (u.2.1 10) s + smN (u.2.1 10) (s + 1) (mm + 1)) - (hvN (u.2.1 10) (mm + 1) (s + 1))))), (0, .ref o), (1, .int (nI n)), (2, .int (nI s))]) hx hb dX6_halves_136 hl (k := 5) rfl (nI_inc (s + mm + 1)) (by decide) rfl (fun ls hl => ?_)
                    refine lv_goto (tgt := 53) hx hb dX6_halves_139 (by decide) ?_
                    exact ih53 ((s + mm + 1) + 1) (upd g ((12 * s) + (s + mm + 1)) (nI (hvN (u.2.1 10) (mm + 2) s))) _ _ ls (by omega) (by first | omega | assumption | rfl | (simp_all; done) | grind) (by first | omega | assumption | rfl | (simp_all; done) | grind) (by intro a t h1 h2 h3; rw [upd_n _ (by omega)]; exact hA a t h1 h2 h3) (by intro t h1 h2; by_cases e : t = s + mm + 1; (rw [e, upd_s, show s + mm + 1 - s + 1 = mm + 2 by omega]); (rw [upd_n _ (by omega)]; exact hB t h1 (by omega))) hP hS (lv_sub hl [3, 4, 5, 0] rfl)
              exact LP53 _ (s + 1) (upd g ((12 * s) + s) (nI (ocN (u.2.1 10) s))) _ _ ls (Nat.lt_succ_self _) (by first | omega | assumption | rfl | (simp_all; done) | grind) (by first | omega | assumption | rfl | (simp_all; done) | grind) (by intro a t h1 h2 h3; rw [upd_n _ (by omega)]; exact hg a t h1 h2 h3) (by intro t h1 h2; rw [show t = s by omega, upd_s, show s - s + 1 = 1 by omega, hvN_1]) hP hS (lv_sub hl [1, 2, 3, 0] rfl)
      exact LP29 _ n ((nI n) - 1) (u.2.1 55) _ _ ls (Nat.lt_succ_self _) (by first | omega | assumption | rfl | (simp_all; done) | grind) (rfl) (fun a t h1 h2 h3 => absurd h3 (by omega)) hP hS (lv_sub hl [1, 2, 0] rfl)
    · refine lv_iconst (v := (-1)) hx hb dX6_halves_18 (by decide) ?_
      exact hq _ _ _ _ _ _ dX6_halves_19 hP hS (rfl) (by exact ⟨u.2.1 0, by first | (simp [halvesI, halvesG, c7]; done) | (simp [halvesI, halvesG, c7, c15]; done), by first | (simp [halvesG, c7]; done) | (simp [halvesG, c7, c15]; done)⟩)
set_option maxHeartbeats 4000000 in
theorem c_X6_rotas (G : GG) (l : Launch) (o : Nat) (R : Nat → Nat) (u : MS) (k0 : Int32) (hD : DM o R) : CMl G l o R yX6_rotas cX6_rotas 4 3 38 [.int k0] u (fun r w => ∃ al : Nat → Nat → Int64, r = (rotasI k0) ∧ w = (mG u al)) := by
  refine CMl.mk pnX6 rfl (Nat.le_of_ble_eq_true rfl) (fun pg en Rm sg mm ar bw mth cd QQ ls hC hRm hK hP hS hl hq => ?_)
  have hx := hC.1; have hb := hC.2.1; have ho := hC.2.2.2.1; have hts := hC.2.2.2.2
  have hl : lv_has ls 4 [(0, .ref o), (1, .int k0)] := hl
  refine lv_iload_n hx hb dX6_rotas_0 rfl (lv_at hl 1 rfl) ?_
  refine lv_iconst (v := 1) hx hb dX6_rotas_1 (by decide) ?_
  refine lv_bipush (v := 12) hx hb dX6_rotas_2 (by decide) ?_
  refine CI.callS hC hK hl (c_X6_in G l k0 1 12 ) trivial q1392 q1393 q116 q1394 mdX6_in (room_ok hRm rfl) rfl rfl dX6_rotas_4 ?_
  refine lv_if_ne (tgt := 14) hx hb dX6_rotas_7 (by decide) (fun c7 => ?_) (fun c7 => ?_)
  · have c7 : (inB k0 1 12) = true := bI_1.mp c7
    obtain ⟨k, hk1, hk, rfl, hkx⟩ := inB_nI2 1 12 (by decide) (by decide) c7
    have hl : lv_has ls 4 [(0, .ref o), (1, .int (nI k))] := hl
    refine lv_iconst (v := 0) hx hb dX6_rotas_14 (by decide) ?_
    refine lv_istore_n (lv' := [(2, .int 0), (0, .ref o), (1, .int (nI k))]) hx hb dX6_rotas_15 rfl hl (by decide) rfl (fun ls hl => ?_)
    have LP16 : ∀ (fu16 : Nat) (v : Nat) (w : MS) (H : Heap) (locs : List Loc) (ls : Array Slot), k + 1 - v < fu16 → v ≤ k + 1 → w = mG u w.2.2 → (∀ i, i < v → w.2.2 57 i = ryS k 0 i) → PM G o R w H → va_S (AM o R) sg.heap H locs → lv_has ls 4 [(0, .ref o), (1, .int (nI k)), (2, .int (nI v))] → W pg l en Rm sg mm ar bw mth cd H locs 0 0 QQ (F0 mm 16 ls []) := by
      intro fu16
      induction fu16 with
      | zero => intro v w H locs ls hm16 hv hw h1 hP hS hl; exact absurd hm16 (Nat.not_lt_zero _)
      | succ fu16 ih16 =>
        intro v w H locs ls hm16 hv hw h1 hP hS hl
        refine lv_iload_n hx hb dX6_rotas_16 rfl (lv_at hl 2 rfl) ?_
        refine lv_iload_n hx hb dX6_rotas_17 rfl (lv_at hl 1 rfl) ?_
        refine lv_icmp_gt (tgt := 44) hx hb dX6_rotas_18 (by decide) (fun c18 => ?_) (fun c18 => ?_)
        · have c18 : k < v := (nI_ltI (a := k) (b := v) (by omega) (by omega)).mp c18
          refine lv_iconst (v := 1) hx hb dX6_rotas_44 (by decide) ?_
          refine lv_istore_n (lv' := [(2, .int 1), (0, .ref o), (1, .int (nI k))]) hx hb dX6_rotas_45 rfl hl (by decide) rfl (fun ls hl => ?_)
          have LP46 : ∀ (fu46 : Nat) (tt : Nat) (w : MS) (H : Heap) (locs : List Loc) (ls : Array Slot), 12 - tt < fu46 → tt ≤ 12 → 1 ≤ tt → w = mG u w.2.2 → (∀ i, i ≤ k → w.2.2 57 i = ryS k (tt - 1) i) → PM G o R w H → va_S (AM o R) sg.heap H locs → lv_has ls 4 [(0, .ref o), (1, .int (nI k)), (2, .int (nI tt))] → W pg l en Rm sg mm ar bw mth cd H locs 0 0 QQ (F0 mm 46 ls []) := by
            intro fu46
            induction fu46 with
            | zero => intro tt w H locs ls hm46 ht ht1 hw1 h2 hP hS hl; exact absurd hm46 (Nat.not_lt_zero _)
            | succ fu46 ih46 =>
              intro tt w H locs ls hm46 ht ht1 hw1 h2 hP hS hl
              refine lv_iload_n hx hb dX6_rotas_46 rfl (lv_at hl 2 rfl) ?_
              refine lv_bipush (v := 12) hx hb dX6_rotas_47 (by decide) ?_
              refine lv_icmp_ge (tgt := 137) hx hb dX6_rotas_49 (by decide) (fun c49 => ?_) (fun c49 => ?_)
              · have c49 : 12 ≤ tt := (nI_leI (a := 12) (b := tt) (by omega) (by omega)).mp c49
                refine lv_aload_n hx hb dX6_rotas_137 rfl (lv_at hl 0 rfl) ?_
                refine M_get hC hK hP 57 (by decide) (fM57 _ _) q1258 dX6_rotas_138 ?_
                refine lv_iload_n hx hb dX6_rotas_141 rfl (lv_at hl 1 rfl) ?_
                refine M_lald hC hK hP 57 38 13 k (aM57 _ _ _ _) (by decide) (rfl) (by omega) dX6_rotas_142 ?_
                exact hq _ _ _ _ _ _ dX6_rotas_143 hP hS (trivial) (by have hf : tt = 12 := (by omega); subst hf; exact ⟨w.2.2, by rw [rotasI, if_pos c7, hkx]; exact h2 k (Nat.le_refl _), hw1⟩)
              · have c49 : ¬ (12 ≤ tt) := mt (nI_leI (a := 12) (b := tt) (by omega) (by omega)).mpr c49
                refine lv_iconst (v := 0) hx hb dX6_rotas_52 (by decide) ?_
                refine lv_istore_n (lv' := [(3, .int 0), (0, .ref o), (1, .int (nI k)), (2, .int (nI tt))]) hx hb dX6_rotas_53 rfl hl (by decide) rfl (fun ls hl => ?_)
                have LP54 : ∀ (fu54 : Nat) (v : Nat) (w : MS) (H : Heap) (locs : List Loc) (ls : Array Slot), k + 1 - v < fu54 → v ≤ k + 1 → w = mG u w.2.2 → (∀ i, i ≤ k → w.2.2 57 i = ryS k (tt - 1) i) → (∀ i, i < v → w.2.2 58 i = ryS k tt i) → PM G o R w H → va_S (AM o R) sg.heap H locs → lv_has ls 4 [(0, .ref o), (1, .int (nI k)), (2, .int (nI tt)), (3, .int (nI v))] → W pg l en Rm sg mm ar bw mth cd H locs 0 0 QQ (F0 mm 54 ls []) := by
                  intro fu54
                  induction fu54 with
                  | zero => intro v w H locs ls hm54 hv2 hw2 h3 h4 hP hS hl; exact absurd hm54 (Nat.not_lt_zero _)
                  | succ fu54 ih54 =>
                    intro v w H locs ls hm54 hv2 hw2 h3 h4 hP hS hl
                    refine lv_iload_n hx hb dX6_rotas_54 rfl (lv_at hl 3 rfl) ?_
                    refine lv_iload_n hx hb dX6_rotas_55 rfl (lv_at hl 1 rfl) ?_
                    refine lv_icmp_gt (tgt := 106) hx hb dX6_rotas_56 (by decide) (fun c56 => ?_) (fun c56 => ?_)
                    · have c56 : k < v := (nI_ltI (a := k) (b := v) (by omega) (by omega)).mp c56
                      refine lv_iconst (v := 0) hx hb dX6_rotas_106 (by decide) ?_
                      refine lv_istore_n (lv' := [(3, .int 0), (0, .ref o), (1, .int (nI k)), (2, .int (nI tt))]) hx hb dX6_rotas_107 rfl hl (by decide) rfl (fun ls hl => ?_)
                      have LP108 : ∀ (fu108 : Nat) (v : Nat) (w : MS) (H : Heap) (locs : List Loc) (ls : Array Slot), k + 1 - v < fu108 → v ≤ k + 1 → w = mG u w.2.2 → (∀ i, i < v → w.2.2 57 i = ryS k tt i) → (∀ i, i ≤ k → w.2.2 58 i = ryS k tt i) → PM G o R w H → va_S (AM o R) sg.heap H locs → lv_has ls 4 [(0, .ref o), (1, .int (nI k)), (2, .int (nI tt)), (3, .int (nI v))] → W pg l en Rm sg mm ar bw mth cd H locs 0 0 QQ (F0 mm 108 ls []) := by
                        intro fu108
                        induction fu108 with
                        | zero => intro v w H locs ls hm108 hv3 hw3 h5 h6 hP hS hl; exact absurd hm108 (Nat.not_lt_zero _)
                        | succ fu108 ih108 =>
                          intro v w H locs ls hm108 hv3 hw3 h5 h6 hP hS hl
                          refine lv_iload_n hx hb dX6_rotas_108 rfl (lv_at hl 3 rfl) ?_
                          refine lv_iload_n hx hb dX6_rotas_109 rfl (lv_at hl 1 rfl) ?_
                          refine lv_icmp_gt (tgt := 131) hx hb dX6_rotas_110 (by decide) (fun c110 => ?_) (fun c110 => ?_)
                          · have c110 : k < v := (nI_ltI (a := k) (b := v) (by omega) (by omega)).mp c110
                            refine lv_iinc (v := (nI (tt + 1))) (lv' := [(2, .int (nI (tt + 1))), (0, .ref o), (1, .int (nI k)), (3, .int (nI v))]) hx hb dX6_rotas_131 hl (k := 2) rfl (nI_inc tt) (by decide) rfl (fun ls hl => ?_)
                            refine lv_goto (tgt := 46) hx hb dX6_rotas_134 (by decide) ?_
                            exact ih46 (tt + 1) w _ _ ls (by omega) (by first | omega | assumption | rfl | (simp_all; done) | grind) (by first | omega | assumption | rfl | (simp_all; done) | grind) (hw3) (fun i hi => by rw [h5 i (by omega), show tt + 1 - 1 = tt by omega]) hP hS (lv_sub hl [1, 2, 0] rfl)
                          · have c110 : ¬ (k < v) := mt (nI_ltI (a := k) (b := v) (by omega) (by omega)).mpr c110
                            refine lv_aload_n hx hb dX6_rotas_113 rfl (lv_at hl 0 rfl) ?_
                            refine M_get hC hK hP 57 (by decide) (fM57 _ _) q1258 dX6_rotas_114 ?_
                            refine lv_iload_n hx hb dX6_rotas_117 rfl (lv_at hl 3 rfl) ?_
                            refine lv_aload_n hx hb dX6_rotas_118 rfl (lv_at hl 0 rfl) ?_
                            refine M_get hC hK hP 58 (by decide) (fM58 _ _) q1259 dX6_rotas_119 ?_
                            refine lv_iload_n hx hb dX6_rotas_122 rfl (lv_at hl 3 rfl) ?_
                            refine M_lald hC hK hP 58 39 13 v (aM58 _ _ _ _) (by decide) (rfl) (by omega) dX6_rotas_123 ?_
                            refine M_last hC hK hD hP hS 57 38 13 v (aM57 _ _ _ _) (bM57 _ _ _ _ _ _) (by decide) (rfl) (by omega) dX6_rotas_124 (fun H locs hP hS => ?_)
                            refine lv_iinc (v := (nI (v + 1))) (lv' := [(3, .int (nI (v + 1))), (0, .ref o), (1, .int (nI k)), (2, .int (nI tt))]) hx hb dX6_rotas_125 hl (k := 3) rfl (nI_inc v) (by decide) rfl (fun ls hl => ?_)
                            refine lv_goto (tgt := 108) hx hb dX6_rotas_128 (by decide) ?_
                            exact ih108 (v + 1) (mL w 57 v (w.2.2 58 v)) _ _ ls (by omega) (by first | omega | assumption | rfl | (simp_all; done) | grind) (by rw [hw3]; rfl) (by intro i hi; rw [mL_3, if_pos rfl]; by_cases e : i = v; (subst e; rw [pk_uLs]; exact h6 i (by omega)); (rw [pk_uLn e]; exact h5 i (by omega))) (by intro i hi; rw [mL_3, if_neg (by decide)]; exact h6 i hi) hP hS (lv_sub hl [1, 2, 3, 0] rfl)
                      exact LP108 _ 0 w _ _ ls (Nat.lt_succ_self _) (by first | omega | assumption | rfl | (simp_all; done) | grind) (hw2) (fun i hi => absurd hi (Nat.not_lt_zero i)) (fun i hi => h4 i (by omega)) hP hS (lv_sub hl [1, 2, 3, 0] rfl)
                    · have c56 : ¬ (k < v) := mt (nI_ltI (a := k) (b := v) (by omega) (by omega)).mpr c56
                      refine lv_aload_n hx hb dX6_rotas_59 rfl (lv_at hl 0 rfl) ?_
                      refine M_get hC hK hP 58 (by decide) (fM58 _ _) q1259 dX6_rotas_60 ?_
                      refine lv_iload_n hx hb dX6_rotas_63 rfl (lv_at hl 3 rfl) ?_
                      refine lv_iload_n hx hb dX6_rotas_64 rfl (lv_at hl 3 rfl) ?_
                      refine lv_if_ne (tgt := 72) hx hb dX6_rotas_65 (by decide) (fun c65 => ?_) (fun c65 => ?_)
                      · have c65 : ¬ (v = 0) := mt (nI_eq (a := v) (b := 0) (by omega) (by omega)).mpr c65
                        refine lv_aload_n hx hb dX6_rotas_72 rfl (lv_at hl 0 rfl) ?_
                        refine M_get hC hK hP 57 (by decide) (fM57 _ _) q1258 dX6_rotas_73 ?_
                        refine lv_iload_n hx hb dX6_rotas_76 rfl (lv_at hl 3 rfl) ?_
                        refine M_lald hC hK hP 57 38 13 v (aM57 _ _ _ _) (by decide) (rfl) (by omega) dX6_rotas_77 ?_
                        refine lv_iload_n hx hb dX6_rotas_78 rfl (lv_at hl 3 rfl) ?_
                        refine lv_iconst (v := 1) hx hb dX6_rotas_79 (by decide) ?_
                        refine lv_isub hx hb dX6_rotas_80 ?_
                        refine lv_i2l (v := (((nI v) - 1)).toInt64) hx hb dX6_rotas_81 rfl ?_
                        refine lv_lmul hx hb dX6_rotas_82 ?_
                        refine lv_aload_n hx hb dX6_rotas_83 rfl (lv_at hl 0 rfl) ?_
                        refine M_get hC hK hP 57 (by decide) (fM57 _ _) q1258 dX6_rotas_84 ?_
                        refine lv_iload_n hx hb dX6_rotas_87 rfl (lv_at hl 3 rfl) ?_
                        refine lv_iconst (v := 1) hx hb dX6_rotas_88 (by decide) ?_
                        refine lv_isub hx hb dX6_rotas_89 ?_
                        refine W_top (y := (nI (v - 1))) (pk_sub (a := v) (b := 1) (by omega)) ?_
                        refine M_lald hC hK hP 57 38 13 (v - 1) (aM57 _ _ _ _) (by decide) (rfl) (by omega) dX6_rotas_90 ?_
                        refine lv_iload_n hx hb dX6_rotas_91 rfl (lv_at hl 1 rfl) ?_
                        refine lv_iload_n hx hb dX6_rotas_92 rfl (lv_at hl 3 rfl) ?_
                        refine lv_isub hx hb dX6_rotas_93 ?_
                        refine lv_iconst (v := 1) hx hb dX6_rotas_94 (by decide) ?_
                        refine lv_iadd hx hb dX6_rotas_95 ?_
                        refine lv_i2l (v := ((((nI k) - (nI v)) + 1)).toInt64) hx hb dX6_rotas_96 rfl ?_
                        refine lv_lmul hx hb dX6_rotas_97 ?_
                        refine lv_ladd hx hb dX6_rotas_98 ?_
                        refine M_last hC hK hD hP hS 58 39 13 v (aM58 _ _ _ _) (bM58 _ _ _ _ _ _) (by decide) (rfl) (by omega) dX6_rotas_99 (fun H locs hP hS => ?_)
                        refine lv_iinc (v := (nI (v + 1))) (lv' := [(3, .int (nI (v + 1))), (0, .ref o), (1, .int (nI k)), (2, .int (nI tt))]) hx hb dX6_rotas_100 hl (k := 3) rfl (nI_inc v) (by decide) rfl (fun ls hl => ?_)
                        refine lv_goto (tgt := 54) hx hb dX6_rotas_103 (by decide) ?_
                        exact ih54 (v + 1) (mL w 58 v (((w.2.2 57 v) * (((nI v) - 1)).toInt64) + ((w.2.2 57 (v - 1)) * ((((nI k) - (nI v)) + 1)).toInt64))) _ _ ls (by omega) (by first | omega | assumption | rfl | (simp_all; done) | grind) (by rw [hw2]; rfl) (by intro i hi; rw [mL_3, if_neg (by decide)]; exact h3 i hi) (by intro i hi; rw [mL_3, if_pos rfl]; obtain ⟨t0, rfl⟩ : ∃ t0, tt = t0 + 1 := ⟨tt - 1, by omega⟩; by_cases e : i = v; (subst e; rw [pk_uLs]; show _ = (if i = 0 then _ else _); first | rw [if_pos c65] | (rw [if_neg c65, h3 i (by omega), h3 (i - 1) (by omega)]; rfl)); (rw [pk_uLn e]; exact h4 i (by omega))) hP hS (lv_sub hl [1, 2, 3, 0] rfl)
                      · have c65 : v = 0 := (nI_eq (a := v) (b := 0) (by omega) (by omega)).mp c65
                        refine lv_lconst (v := 0) hx hb dX6_rotas_68 (by decide) ?_
                        refine lv_goto (tgt := 99) hx hb dX6_rotas_69 (by decide) ?_
                        refine M_last hC hK hD hP hS 58 39 13 v (aM58 _ _ _ _) (bM58 _ _ _ _ _ _) (by decide) (rfl) (by omega) dX6_rotas_99 (fun H locs hP hS => ?_)
                        refine lv_iinc (v := (nI (v + 1))) (lv' := [(3, .int (nI (v + 1))), (0, .ref o), (1, .int (nI k)), (2, .int (nI tt))]) hx hb dX6_rotas_100 hl (k := 3) rfl (nI_inc v) (by decide) rfl (fun ls hl => ?_)
                        refine lv_goto (tgt := 54) hx hb dX6_rotas_103 (by decide) ?_
                        exact ih54 (v + 1) (mL w 58 v 0) _ _ ls (by omega) (by first | omega | assumption | rfl | (simp_all; done) | grind) (by rw [hw2]; rfl) (by intro i hi; rw [mL_3, if_neg (by decide)]; exact h3 i hi) (by intro i hi; rw [mL_3, if_pos rfl]; obtain ⟨t0, rfl⟩ : ∃ t0, tt = t0 + 1 := ⟨tt - 1, by omega⟩; by_cases e : i = v; (subst e; rw [pk_uLs]; show _ = (if i = 0 then _ else _); first | rw [if_pos c65] | (rw [if_neg c65, h3 i (by omega), h3 (i - 1) (by omega)]; rfl)); (rw [pk_uLn e]; exact h4 i (by omega))) hP hS (lv_sub hl [1, 2, 3, 0] rfl)
                exact LP54 _ 0 w _ _ ls (Nat.lt_succ_self _) (by first | omega | assumption | rfl | (simp_all; done) | grind) (hw1) (h2) (fun i hi => absurd hi (Nat.not_lt_zero i)) hP hS (lv_sub hl [1, 2, 3, 0] rfl)
          exact LP46 _ 1 w _ _ ls (Nat.lt_succ_self _) (by first | omega | assumption | rfl | (simp_all; done) | grind) (by first | omega | assumption | rfl | (simp_all; done) | grind) (hw) (fun i hi => h1 i (by omega)) hP hS (lv_sub hl [1, 2, 0] rfl)
        · have c18 : ¬ (k < v) := mt (nI_ltI (a := k) (b := v) (by omega) (by omega)).mpr c18
          refine lv_aload_n hx hb dX6_rotas_21 rfl (lv_at hl 0 rfl) ?_
          refine M_get hC hK hP 57 (by decide) (fM57 _ _) q1258 dX6_rotas_22 ?_
          refine lv_iload_n hx hb dX6_rotas_25 rfl (lv_at hl 2 rfl) ?_
          refine lv_iload_n hx hb dX6_rotas_26 rfl (lv_at hl 2 rfl) ?_
          refine lv_iconst (v := 1) hx hb dX6_rotas_27 (by decide) ?_
          refine lv_icmp_ne (tgt := 36) hx hb dX6_rotas_28 (by decide) (fun c28 => ?_) (fun c28 => ?_)
          · have c28 : ¬ (v = 1) := mt (nI_eq (a := v) (b := 1) (by omega) (by omega)).mpr c28
            refine lv_lconst (v := 0) hx hb dX6_rotas_36 (by decide) ?_
            refine M_last hC hK hD hP hS 57 38 13 v (aM57 _ _ _ _) (bM57 _ _ _ _ _ _) (by decide) (rfl) (by omega) dX6_rotas_37 (fun H locs hP hS => ?_)
            refine lv_iinc (v := (nI (v + 1))) (lv' := [(2, .int (nI (v + 1))), (0, .ref o), (1, .int (nI k))]) hx hb dX6_rotas_38 hl (k := 2) rfl (nI_inc v) (by decide) rfl (fun ls hl => ?_)
            refine lv_goto (tgt := 16) hx hb dX6_rotas_41 (by decide) ?_
            exact ih16 (v + 1) (mL w 57 v 0) _ _ ls (by omega) (by first | omega | assumption | rfl | (simp_all; done) | grind) (by rw [hw]; rfl) (by intro i hi; rw [mL_3, if_pos rfl]; by_cases e : i = v; (subst e; rw [pk_uLs]; show _ = (if i = 1 then _ else _); first | rw [if_pos c28] | rw [if_neg c28]); (rw [pk_uLn e]; exact h1 i (by omega))) hP hS (lv_sub hl [1, 2, 0] rfl)
          · have c28 : v = 1 := (nI_eq (a := v) (b := 1) (by omega) (by omega)).mp c28
            refine lv_iload_n hx hb dX6_rotas_31 rfl (lv_at hl 1 rfl) ?_
            refine lv_i2l (v := ((nI k)).toInt64) hx hb dX6_rotas_32 rfl ?_
            refine lv_goto (tgt := 37) hx hb dX6_rotas_33 (by decide) ?_
            refine M_last hC hK hD hP hS 57 38 13 v (aM57 _ _ _ _) (bM57 _ _ _ _ _ _) (by decide) (rfl) (by omega) dX6_rotas_37 (fun H locs hP hS => ?_)
            refine lv_iinc (v := (nI (v + 1))) (lv' := [(2, .int (nI (v + 1))), (0, .ref o), (1, .int (nI k))]) hx hb dX6_rotas_38 hl (k := 2) rfl (nI_inc v) (by decide) rfl (fun ls hl => ?_)
            refine lv_goto (tgt := 16) hx hb dX6_rotas_41 (by decide) ?_
            exact ih16 (v + 1) (mL w 57 v (((nI k)).toInt64)) _ _ ls (by omega) (by first | omega | assumption | rfl | (simp_all; done) | grind) (by rw [hw]; rfl) (by intro i hi; rw [mL_3, if_pos rfl]; by_cases e : i = v; (subst e; rw [pk_uLs]; show _ = (if i = 1 then _ else _); first | rw [if_pos c28] | rw [if_neg c28]); (rw [pk_uLn e]; exact h1 i (by omega))) hP hS (lv_sub hl [1, 2, 0] rfl)
    exact LP16 _ 0 u _ _ ls (Nat.lt_succ_self _) (by first | omega | assumption | rfl | (simp_all; done) | grind) (rfl) (fun i hi => absurd hi (Nat.not_lt_zero i)) hP hS (lv_sub hl [1, 2, 0] rfl)
  · have c7 : (inB k0 1 12) = false := bI_0.mp c7
    refine lv_ldc2 (own := RX6) hx hb ho (hts _ q1786) dX6_rotas_10 ?_
    exact hq _ _ _ _ _ _ dX6_rotas_13 hP hS (trivial) (by exact ⟨u.2.2, by simp [rotasI, c7], rfl⟩)
