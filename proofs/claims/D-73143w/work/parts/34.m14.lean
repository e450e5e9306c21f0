set_option maxRecDepth 100000
set_option maxHeartbeats 4000000 in
theorem c_X6_reckon (G : GG) (l : Launch) (op : Nat) (x : Int32) (y : Int32) (hop : op < 2 ^ 30) (hne : (op = 5 ∨ op = 6) → ¬ y = 0) : CI G l yX6_reckon cX6_reckon 3 .int 2 16 [.int (nI op), .int x, .int y] (fun _ => True) (reckS (nI op) x y) := by
  refine CI.mk RX6 pnX6 rfl (rfl) (Nat.le_of_ble_eq_true rfl) (fun pg en Rm sg mm ar bw mth cd QQ ls hC hRm hK hP hl hq => ?_)
  have hx := hC.1; have hb := hC.2.1; have ho := hC.2.2.2.1; have hts := hC.2.2.2.2
  have hl : lv_has ls 3 [(0, .int (nI op)), (1, .int x), (2, .int y)] := hl
  refine lv_iload_n hx hb dX6_reckon_0 rfl (lv_at hl 0 rfl) ?_
  by_cases s1_2 : (nI op) = 2
  · refine lv_tableIn (tgt := 44) hx hb dX6_reckon_1 (by rw [s1_2]; decide) (by rw [s1_2]; decide) (by rw [s1_2]; rfl) (by decide) ?_
    refine lv_iload_n hx hb dX6_reckon_44 rfl (lv_at hl 1 rfl) ?_
    refine lv_iload_n hx hb dX6_reckon_45 rfl (lv_at hl 2 rfl) ?_
    refine lv_iadd hx hb dX6_reckon_46 ?_
    exact hq _ _ _ dX6_reckon_47 (by first | grind [reckS, remI])
  by_cases s1_3 : (nI op) = 3
  · refine lv_tableIn (tgt := 48) hx hb dX6_reckon_1 (by rw [s1_3]; decide) (by rw [s1_3]; decide) (by rw [s1_3]; rfl) (by decide) ?_
    refine lv_iload_n hx hb dX6_reckon_48 rfl (lv_at hl 1 rfl) ?_
    refine lv_iload_n hx hb dX6_reckon_49 rfl (lv_at hl 2 rfl) ?_
    refine lv_isub hx hb dX6_reckon_50 ?_
    exact hq _ _ _ dX6_reckon_51 (by first | grind [reckS, remI])
  by_cases s1_4 : (nI op) = 4
  · refine lv_tableIn (tgt := 52) hx hb dX6_reckon_1 (by rw [s1_4]; decide) (by rw [s1_4]; decide) (by rw [s1_4]; rfl) (by decide) ?_
    refine lv_iload_n hx hb dX6_reckon_52 rfl (lv_at hl 1 rfl) ?_
    refine lv_iload_n hx hb dX6_reckon_53 rfl (lv_at hl 2 rfl) ?_
    refine lv_imul hx hb dX6_reckon_54 ?_
    exact hq _ _ _ dX6_reckon_55 (by first | grind [reckS, remI])
  by_cases s1_5 : (nI op) = 5
  · refine lv_tableIn (tgt := 56) hx hb dX6_reckon_1 (by rw [s1_5]; decide) (by rw [s1_5]; decide) (by rw [s1_5]; rfl) (by decide) ?_
    refine lv_iload_n hx hb dX6_reckon_56 rfl (lv_at hl 1 rfl) ?_
    refine lv_iload_n hx hb dX6_reckon_57 rfl (lv_at hl 2 rfl) ?_
    refine lv_idiv hx hb dX6_reckon_58 (hne (Or.inl ((nI_eq (by omega) (by omega)).mp s1_5))) ?_
    exact hq _ _ _ dX6_reckon_59 (by first | grind [reckS, remI])
  by_cases s1_6 : (nI op) = 6
  · refine lv_tableIn (tgt := 60) hx hb dX6_reckon_1 (by rw [s1_6]; decide) (by rw [s1_6]; decide) (by rw [s1_6]; rfl) (by decide) ?_
    refine lv_iload_n hx hb dX6_reckon_60 rfl (lv_at hl 1 rfl) ?_
    refine lv_iload_n hx hb dX6_reckon_61 rfl (lv_at hl 2 rfl) ?_
    refine lv_irem hx hb dX6_reckon_62 (hne (Or.inr ((nI_eq (by omega) (by omega)).mp s1_6))) ?_
    exact hq _ _ _ dX6_reckon_63 (by first | grind [reckS, remI])
  by_cases s1_7 : (nI op) = 7
  · refine lv_tableIn (tgt := 64) hx hb dX6_reckon_1 (by rw [s1_7]; decide) (by rw [s1_7]; decide) (by rw [s1_7]; rfl) (by decide) ?_
    refine lv_iload_n hx hb dX6_reckon_64 rfl (lv_at hl 1 rfl) ?_
    refine lv_iload_n hx hb dX6_reckon_65 rfl (lv_at hl 2 rfl) ?_
    refine lv_icmp_ge (tgt := 73) hx hb dX6_reckon_66 (by decide) (fun c66 => ?_) (fun c66 => ?_)
    · refine lv_iconst (v := 0) hx hb dX6_reckon_73 (by decide) ?_
      exact hq _ _ _ dX6_reckon_74 (by first | grind [reckS, remI])
    · refine lv_iconst (v := 1) hx hb dX6_reckon_69 (by decide) ?_
      refine lv_goto (tgt := 74) hx hb dX6_reckon_70 (by decide) ?_
      exact hq _ _ _ dX6_reckon_74 (by first | grind [reckS, remI])
  by_cases s1_8 : (nI op) = 8
  · refine lv_tableIn (tgt := 75) hx hb dX6_reckon_1 (by rw [s1_8]; decide) (by rw [s1_8]; decide) (by rw [s1_8]; rfl) (by decide) ?_
    refine lv_iload_n hx hb dX6_reckon_75 rfl (lv_at hl 1 rfl) ?_
    refine lv_iload_n hx hb dX6_reckon_76 rfl (lv_at hl 2 rfl) ?_
    refine lv_icmp_le (tgt := 84) hx hb dX6_reckon_77 (by decide) (fun c77 => ?_) (fun c77 => ?_)
    · refine lv_iconst (v := 0) hx hb dX6_reckon_84 (by decide) ?_
      exact hq _ _ _ dX6_reckon_85 (by first | grind [reckS, remI])
    · refine lv_iconst (v := 1) hx hb dX6_reckon_80 (by decide) ?_
      refine lv_goto (tgt := 85) hx hb dX6_reckon_81 (by decide) ?_
      exact hq _ _ _ dX6_reckon_85 (by first | grind [reckS, remI])
  refine lv_tableOut (tgt := 86) hx hb dX6_reckon_1 (sw_out (x := (nI op)) (lo := 2) (hi := 8) (fun v h1 h2 => by rcases (show v = 2 ∨ v = 3 ∨ v = 4 ∨ v = 5 ∨ v = 6 ∨ v = 7 ∨ v = 8 by omega) with rfl | rfl | rfl | rfl | rfl | rfl | rfl <;> first | exact s1_2 | exact s1_3 | exact s1_4 | exact s1_5 | exact s1_6 | exact s1_7 | exact s1_8)) (by decide) ?_
  refine lv_iload_n hx hb dX6_reckon_86 rfl (lv_at hl 1 rfl) ?_
  refine lv_iload_n hx hb dX6_reckon_87 rfl (lv_at hl 2 rfl) ?_
  refine lv_icmp_ne (tgt := 95) hx hb dX6_reckon_88 (by decide) (fun c88 => ?_) (fun c88 => ?_)
  · refine lv_iconst (v := 0) hx hb dX6_reckon_95 (by decide) ?_
    exact hq _ _ _ dX6_reckon_96 (by first | grind [reckS, remI])
  · refine lv_iconst (v := 1) hx hb dX6_reckon_91 (by decide) ?_
    refine lv_goto (tgt := 96) hx hb dX6_reckon_92 (by decide) ?_
    exact hq _ _ _ dX6_reckon_96 (by first | grind [reckS, remI])
set_option maxHeartbeats 4000000 in
theorem c_X6_reckonsTo (G : GG) (l : Launch) (o : Nat) (R : Nat → Nat) (u : MS) (fr : Nat) (to : Nat) (f0 : Nat) (cs : Nat → Nat) (rv : Int32) (hfr : fr ≤ 240) (hto : to ≤ 240) (hcd : ∀ k, k < 260 → (u.2.1 27) k = nI (cs k) ∧ cs k < 2 ^ 31) (hrun : rkS cs (u.2.1 33) to f0 fr 0 (u.2.1 32) = some rv) (hD : DM o R) : CMi G l o R yX6_reckonsTo cX6_reckonsTo 8 .int 3 38 [.int (nI fr), .int (nI to)] u (fun r w => ∃ g : Nat → Int32, r = rv ∧ w = (mS u 32 g)) := by
  refine CMi.mk pnX6 rfl (Nat.le_of_ble_eq_true rfl) (fun pg en Rm sg mm ar bw mth cd QQ ls hC hRm hK hP hS hl hq => ?_)
  have hx := hC.1; have hb := hC.2.1; have ho := hC.2.2.2.1; have hts := hC.2.2.2.2
  have hl : lv_has ls 8 [(0, .ref o), (1, .int (nI fr)), (2, .int (nI to))] := hl
  refine lv_iconst (v := 0) hx hb dX6_reckonsTo_0 (by decide) ?_
  refine lv_istore_n (lv' := [(3, .int 0), (0, .ref o), (1, .int (nI fr)), (2, .int (nI to))]) hx hb dX6_reckonsTo_1 rfl hl (by decide) rfl (fun ls hl => ?_)
  refine lv_sipush (v := 260) hx hb dX6_reckonsTo_2 (by decide) ?_
  refine lv_iload_n hx hb dX6_reckonsTo_5 rfl (lv_at hl 2 rfl) ?_
  refine lv_sipush (v := 260) hx hb dX6_reckonsTo_6 (by decide) ?_
  refine lv_idiv hx hb dX6_reckonsTo_9 (by decide) ?_
  refine W_top (pk_div (a := fr) (d := 260) (by omega) (by omega) (by omega)) ?_
  refine lv_imul hx hb dX6_reckonsTo_10 ?_
  refine W_top (pk_mul 260 (fr / 260)) ?_
  refine lv_istore (lv' := [(4, .int (nI (260 * (fr / 260)))), (3, .int 0), (0, .ref o), (1, .int (nI fr)), (2, .int (nI to))]) hx hb dX6_reckonsTo_11 hl (by decide) rfl (fun ls hl => ?_)
  refine lv_iload_n hx hb dX6_reckonsTo_13 rfl (lv_at hl 3 rfl) ?_
  refine lv_istore (lv' := [(5, .int (nI fr)), (4, .int (nI (260 * (fr / 260)))), (3, .int 0), (0, .ref o), (1, .int (nI fr)), (2, .int (nI to))]) hx hb dX6_reckonsTo_14 hl (by decide) rfl (fun ls hl => ?_)
  have hP : PM G o R (mS u 32 (u.2.1 32)) sg.heap := by rw [show (u.2.1 32) = (u.2.1 32) from rfl, mS_self]; exact hP
  have LP16 : ∀ (fu16 : Nat) (k : Nat) (n : Nat) (fu : Nat) (g : Nat → Int32) (H : Heap) (locs : List Loc) (ls : Array Slot), fu < fu16 → n ≤ 260 → k < 2 ^ 30 → rkS cs (u.2.1 33) to fu k n g = some rv → PM G o R (mS u 32 g) H → va_S (AM o R) sg.heap H locs → lv_has ls 8 [(0, .ref o), (1, .int (nI fr)), (2, .int (nI to)), (3, .int (nI n)), (4, .int (nI (260 * (fr / 260)))), (5, .int (nI k))] → W pg l en Rm sg mm ar bw mth cd H locs 0 0 QQ (F0 mm 16 ls []) := by
    intro fu16
    induction fu16 with
    | zero => intro k n fu g H locs ls hm16 hn2 hk2 hrun0 hP hS hl; exact absurd hm16 (Nat.not_lt_zero _)
    | succ fu16 ih16 =>
      intro k n fu g H locs ls hm16 hn2 hk2 hrun0 hP hS hl
      obtain ⟨f1, rfl⟩ := rk_pos hrun0
      have hrun2 := hrun0
      refine lv_iload hx hb dX6_reckonsTo_16 (lv_at hl 5 rfl) ?_
      refine lv_iload_n hx hb dX6_reckonsTo_18 rfl (lv_at hl 2 rfl) ?_
      refine lv_icmp_ge (tgt := 233) hx hb dX6_reckonsTo_19 (by decide) (fun c19 => ?_) (fun c19 => ?_)
      · have c19 : to ≤ k := (nI_leI (a := to) (b := k) (by omega) (by omega)).mp c19
        refine lv_aload_n hx hb dX6_reckonsTo_233 rfl (lv_at hl 0 rfl) ?_
        refine M_get hC hK hP 32 (by decide) (fM32 _ _) q1233 dX6_reckonsTo_234 ?_
        refine lv_iconst (v := 0) hx hb dX6_reckonsTo_237 (by decide) ?_
        refine M_ald hC hK hP 32 21 260 0 (aM32 _ _ _ _) (by decide) (by decide) (by omega) dX6_reckonsTo_238 ?_
        refine W_top (y := (g 0)) rfl ?_
        exact hq _ _ _ _ _ _ dX6_reckonsTo_239 hP hS (rfl) (by exact ⟨g, (rk_end hrun2 c19).symm, rfl⟩)
      · have c19 : ¬ (to ≤ k) := mt (nI_leI (a := to) (b := k) (by omega) (by omega)).mpr c19
        refine lv_aload_n hx hb dX6_reckonsTo_22 rfl (lv_at hl 0 rfl) ?_
        refine M_get hC hK hP 27 (by decide) (fM27 _ _) q1228 dX6_reckonsTo_23 ?_
        refine lv_iload hx hb dX6_reckonsTo_26 (lv_at hl 5 rfl) ?_
        have hcb := (hcd k (by omega)).2
        have hcb2 : cs k / 1048576 < 2048 := by omega
        refine M_ald hC hK hP 27 16 260 k (aM27 _ _ _ _) (by decide) (rfl) (by omega) dX6_reckonsTo_28 ?_
        refine W_top (y := (u.2.1 27 k)) rfl ?_
        refine W_top (y := (nI (cs k))) ((hcd k (by omega)).1) ?_
        refine lv_ldc (own := RX6) (v := 1048576) hx hb ho (hts _ q1458) dX6_reckonsTo_29 ?_
        refine lv_idiv hx hb dX6_reckonsTo_31 (by decide) ?_
        refine W_top (pk_div (a := (cs k)) (d := 1048576) (by omega) (by omega) (by omega)) ?_
        refine lv_istore (lv' := [(6, .int (nI ((cs k) / 1048576))), (0, .ref o), (1, .int (nI fr)), (2, .int (nI to)), (3, .int (nI n)), (4, .int (nI (260 * (fr / 260)))), (5, .int (nI k))]) hx hb dX6_reckonsTo_32 hl (by decide) rfl (fun ls hl => ?_)
        refine lv_aload_n hx hb dX6_reckonsTo_34 rfl (lv_at hl 1 rfl) ?_
        refine M_get hC hK hP 27 (by decide) (fM27 _ _) q1228 dX6_reckonsTo_35 ?_
        refine lv_iload hx hb dX6_reckonsTo_38 (lv_at hl 6 rfl) ?_
        refine M_ald hC hK hP 27 16 260 k (aM27 _ _ _ _) (by decide) (rfl) (by omega) dX6_reckonsTo_40 ?_
        refine W_top (y := (u.2.1 27 k)) rfl ?_
        refine W_top (y := (nI (cs k))) ((hcd k (by omega)).1) ?_
        refine lv_ldc (own := RX6) (v := 1048576) hx hb ho (hts _ q1458) dX6_reckonsTo_41 ?_
        refine lv_irem hx hb dX6_reckonsTo_43 (by decide) ?_
        refine W_top (pk_rem (a := (cs k)) (d := 1048576) (by omega) (by omega) (by omega)) ?_
        refine lv_istore (lv' := [(7, .int (nI ((cs k) % 1048576))), (6, .int (nI ((cs k) / 1048576))), (0, .ref o), (1, .int (nI fr)), (2, .int (nI to)), (3, .int (nI n)), (4, .int (nI (260 * (fr / 260)))), (5, .int (nI k))]) hx hb dX6_reckonsTo_44 hl (by decide) rfl (fun ls hl => ?_)
        refine lv_iload hx hb dX6_reckonsTo_46 (lv_at hl 7 rfl) ?_
        refine lv_iconst (v := 1) hx hb dX6_reckonsTo_48 (by decide) ?_
        refine lv_iadd hx hb dX6_reckonsTo_49 ?_
        refine W_top (nI_add k 1) ?_
        refine lv_istore (lv' := [(5, .int (nI (k + 1))), (7, .int (nI ((cs k) % 1048576))), (6, .int (nI ((cs k) / 1048576))), (0, .ref o), (1, .int (nI fr)), (2, .int (nI to)), (3, .int (nI n)), (4, .int (nI (260 * (fr / 260))))]) hx hb dX6_reckonsTo_50 hl (by decide) rfl (fun ls hl => ?_)
        refine lv_iload hx hb dX6_reckonsTo_52 (lv_at hl 2 rfl) ?_
        refine lv_if_eq (tgt := 63) hx hb dX6_reckonsTo_54 (by decide) (fun c54 => ?_) (fun c54 => ?_)
        · have c54 : ((cs k) / 1048576) = 0 := (nI_eq (a := ((cs k) / 1048576)) (b := 0) (by omega) (by omega)).mp c54
          have hq63 : n < 260 ∧ (¬ cs k / 1048576 = 0 → cs k % 1048576 < 9) := by
            by_cases e : cs k / 1048576 = 0
            · exact ⟨(rk_num hrun2 c19 e).1, fun z => absurd e z⟩
            · exact ⟨(rk_let hrun2 c19 (by omega)).1.1, fun _ => (rk_let hrun2 c19 (by omega)).1.2⟩
          refine lv_aload_n hx hb dX6_reckonsTo_63 rfl (lv_at hl 3 rfl) ?_
          refine M_get hC hK hP 32 (by decide) (fM32 _ _) q1233 dX6_reckonsTo_64 ?_
          refine lv_iload_n hx hb dX6_reckonsTo_67 rfl (lv_at hl 6 rfl) ?_
          refine lv_iload hx hb dX6_reckonsTo_68 (lv_at hl 2 rfl) ?_
          refine lv_if_ne (tgt := 78) hx hb dX6_reckonsTo_70 (by decide) (fun c70 => ?_) (fun c70 => ?_)
          · have c70 : ¬ (((cs k) / 1048576) = 0) := mt (nI_eq (a := ((cs k) / 1048576)) (b := 0) (by omega) (by omega)).mpr c70
            refine lv_aload_n hx hb dX6_reckonsTo_78 rfl (lv_at hl 3 rfl) ?_
            refine M_get hC hK hP 33 (by decide) (fM33 _ _) q1234 dX6_reckonsTo_79 ?_
            refine lv_iload hx hb dX6_reckonsTo_82 (lv_at hl 1 rfl) ?_
            refine M_ald hC hK hP 33 22 9 ((cs k) % 1048576) (aM33 _ _ _ _) (by decide) (rfl) (by omega) dX6_reckonsTo_84 ?_
            refine W_top (y := (u.2.1 33 ((cs k) % 1048576))) rfl ?_
            refine M_ast hC hK hD hP hS 32 21 260 n (aM32 _ _ _ _) (bM32 _ _ _ _ _ _) (by decide) (rfl) (by omega) dX6_reckonsTo_85 (fun H locs hP hS => ?_)
            rw [mS_A] at hP
            refine lv_iload_n hx hb dX6_reckonsTo_86 rfl (lv_at hl 6 rfl) ?_
            refine lv_iconst (v := 1) hx hb dX6_reckonsTo_87 (by decide) ?_
            refine lv_iadd hx hb dX6_reckonsTo_88 ?_
            refine W_top (nI_add n 1) ?_
            refine lv_istore_n (lv' := [(3, .int (nI (n + 1))), (5, .int (nI (k + 1))), (7, .int (nI ((cs k) % 1048576))), (6, .int (nI ((cs k) / 1048576))), (0, .ref o), (1, .int (nI fr)), (2, .int (nI to)), (4, .int (nI (260 * (fr / 260))))]) hx hb dX6_reckonsTo_89 rfl hl (by decide) rfl (fun ls hl => ?_)
            refine lv_goto (tgt := 230) hx hb dX6_reckonsTo_90 (by decide) ?_
            refine lv_goto (tgt := 16) hx hb dX6_reckonsTo_230 (by decide) ?_
            exact ih16 (k + 1) (n + 1) f1 (upd g n (u.2.1 33 ((cs k) % 1048576))) _ _ ls (by omega) (by first | omega | (have := hq63.1; omega) | (have := hq2.1; omega)) (by omega) (by first | exact (rk_num hrun2 c19 c54).2 | exact (rk_num hrun2 c19 c70).2 | exact (rk_let hrun2 c19 c60).2 | exact (rk_not hrun2 c19 c97).2 | (have h := hq2.2; rw [if_pos c147, if_pos c155] at h; exact h) | (have h := hq2.2; rw [if_neg c147, if_pos c155] at h; exact h) | (have h := hq2.2; rw [if_pos c147, if_neg c155] at h; exact h) | (have h := hq2.2; rw [if_neg c147, if_neg c155] at h; exact h) | (have h := hq3.2; rw [if_neg (fun z => c198 z.2)] at h; exact h) | (have h := hq3.2; rw [if_neg (fun z => absurd z.1 (by omega))] at h; exact h) | (exfalso; omega)) hP hS (lv_sub hl [4, 5, 6, 0, 7, 1] rfl)
          · have c70 : ((cs k) / 1048576) = 0 := (nI_eq (a := ((cs k) / 1048576)) (b := 0) (by omega) (by omega)).mp c70
            refine lv_iload hx hb dX6_reckonsTo_73 (lv_at hl 1 rfl) ?_
            refine lv_goto (tgt := 85) hx hb dX6_reckonsTo_75 (by decide) ?_
            refine M_ast hC hK hD hP hS 32 21 260 n (aM32 _ _ _ _) (bM32 _ _ _ _ _ _) (by decide) (rfl) (by omega) dX6_reckonsTo_85 (fun H locs hP hS => ?_)
            rw [mS_A] at hP
            refine lv_iload_n hx hb dX6_reckonsTo_86 rfl (lv_at hl 6 rfl) ?_
            refine lv_iconst (v := 1) hx hb dX6_reckonsTo_87 (by decide) ?_
            refine lv_iadd hx hb dX6_reckonsTo_88 ?_
            refine W_top (nI_add n 1) ?_
            refine lv_istore_n (lv' := [(3, .int (nI (n + 1))), (5, .int (nI (k + 1))), (7, .int (nI ((cs k) % 1048576))), (6, .int (nI ((cs k) / 1048576))), (0, .ref o), (1, .int (nI fr)), (2, .int (nI to)), (4, .int (nI (260 * (fr / 260))))]) hx hb dX6_reckonsTo_89 rfl hl (by decide) rfl (fun ls hl => ?_)
            refine lv_goto (tgt := 230) hx hb dX6_reckonsTo_90 (by decide) ?_
            refine lv_goto (tgt := 16) hx hb dX6_reckonsTo_230 (by decide) ?_
            exact ih16 (k + 1) (n + 1) f1 (upd g n (nI ((cs k) % 1048576))) _ _ ls (by omega) (by first | omega | (have := hq63.1; omega) | (have := hq2.1; omega)) (by omega) (by first | exact (rk_num hrun2 c19 c54).2 | exact (rk_num hrun2 c19 c70).2 | exact (rk_let hrun2 c19 c60).2 | exact (rk_not hrun2 c19 c97).2 | (have h := hq2.2; rw [if_pos c147, if_pos c155] at h; exact h) | (have h := hq2.2; rw [if_neg c147, if_pos c155] at h; exact h) | (have h := hq2.2; rw [if_pos c147, if_neg c155] at h; exact h) | (have h := hq2.2; rw [if_neg c147, if_neg c155] at h; exact h) | (have h := hq3.2; rw [if_neg (fun z => c198 z.2)] at h; exact h) | (have h := hq3.2; rw [if_neg (fun z => absurd z.1 (by omega))] at h; exact h) | (exfalso; omega)) hP hS (lv_sub hl [4, 5, 6, 0, 7, 1] rfl)
        · have c54 : ¬ (((cs k) / 1048576) = 0) := mt (nI_eq (a := ((cs k) / 1048576)) (b := 0) (by omega) (by omega)).mpr c54
          refine lv_iload hx hb dX6_reckonsTo_57 (lv_at hl 2 rfl) ?_
          refine lv_iconst (v := 1) hx hb dX6_reckonsTo_59 (by decide) ?_
          refine lv_icmp_ne (tgt := 93) hx hb dX6_reckonsTo_60 (by decide) (fun c60 => ?_) (fun c60 => ?_)
          · have c60 : ¬ (((cs k) / 1048576) = 1) := mt (nI_eq (a := ((cs k) / 1048576)) (b := 1) (by omega) (by omega)).mpr c60
            refine lv_iload hx hb dX6_reckonsTo_93 (lv_at hl 2 rfl) ?_
            refine lv_bipush (v := 10) hx hb dX6_reckonsTo_95 (by decide) ?_
            refine lv_icmp_ne (tgt := 121) hx hb dX6_reckonsTo_97 (by decide) (fun c97 => ?_) (fun c97 => ?_)
            · have c97 : ¬ (((cs k) / 1048576) = 10) := mt (nI_eq (a := ((cs k) / 1048576)) (b := 10) (by omega) (by omega)).mpr c97
              refine lv_iload hx hb dX6_reckonsTo_121 (lv_at hl 2 rfl) ?_
              refine lv_bipush (v := 11) hx hb dX6_reckonsTo_123 (by decide) ?_
              refine lv_icmp_eq (tgt := 135) hx hb dX6_reckonsTo_125 (by decide) (fun c125 => ?_) (fun c125 => ?_)
              · have c125 : ((cs k) / 1048576) = 11 := (nI_eq (a := ((cs k) / 1048576)) (b := 11) (by omega) (by omega)).mp c125
                have hq2 := rk_if hrun2 c19 (by omega)
                refine lv_aload_n hx hb dX6_reckonsTo_135 rfl (lv_at hl 3 rfl) ?_
                refine M_get hC hK hP 32 (by decide) (fM32 _ _) q1233 dX6_reckonsTo_136 ?_
                refine lv_iload_n hx hb dX6_reckonsTo_139 rfl (lv_at hl 6 rfl) ?_
                refine lv_iconst (v := 1) hx hb dX6_reckonsTo_140 (by decide) ?_
                refine lv_isub hx hb dX6_reckonsTo_141 ?_
                refine W_top (y := (nI (n - 1))) (pk_sub (a := n) (b := 1) (by omega)) ?_
                refine M_ald hC hK hP 32 21 260 (n - 1) (aM32 _ _ _ _) (by decide) (rfl) (by omega) dX6_reckonsTo_142 ?_
                refine W_top (y := (g (n - 1))) rfl ?_
                refine lv_iload hx hb dX6_reckonsTo_143 (lv_at hl 2 rfl) ?_
                refine lv_bipush (v := 12) hx hb dX6_reckonsTo_145 (by decide) ?_
                refine lv_icmp_ne (tgt := 154) hx hb dX6_reckonsTo_147 (by decide) (fun c147 => ?_) (fun c147 => ?_)
                · have c147 : ¬ (((cs k) / 1048576) = 12) := mt (nI_eq (a := ((cs k) / 1048576)) (b := 12) (by omega) (by omega)).mpr c147
                  refine lv_iconst (v := 0) hx hb dX6_reckonsTo_154 (by decide) ?_
                  refine lv_icmp_ne (tgt := 168) hx hb dX6_reckonsTo_155 (by decide) (fun c155 => ?_) (fun c155 => ?_)
                  · refine lv_iload_n hx hb dX6_reckonsTo_168 rfl (lv_at hl 6 rfl) ?_
                    refine lv_iconst (v := 1) hx hb dX6_reckonsTo_169 (by decide) ?_
                    refine lv_isub hx hb dX6_reckonsTo_170 ?_
                    refine W_top (y := (nI (n - 1))) (pk_sub (a := n) (b := 1) (by omega)) ?_
                    refine lv_istore_n (lv' := [(3, .int (nI (n - 1))), (5, .int (nI (k + 1))), (7, .int (nI ((cs k) % 1048576))), (6, .int (nI ((cs k) / 1048576))), (0, .ref o), (1, .int (nI fr)), (2, .int (nI to)), (4, .int (nI (260 * (fr / 260))))]) hx hb dX6_reckonsTo_171 rfl hl (by decide) rfl (fun ls hl => ?_)
                    refine lv_goto (tgt := 230) hx hb dX6_reckonsTo_172 (by decide) ?_
                    refine lv_goto (tgt := 16) hx hb dX6_reckonsTo_230 (by decide) ?_
                    exact ih16 (k + 1) (n - 1) f1 g _ _ ls (by omega) (by first | omega | (have := hq63.1; omega) | (have := hq2.1; omega)) (by omega) (by first | exact (rk_num hrun2 c19 c54).2 | exact (rk_num hrun2 c19 c70).2 | exact (rk_let hrun2 c19 c60).2 | exact (rk_not hrun2 c19 c97).2 | (have h := hq2.2; rw [if_pos c147, if_pos c155] at h; exact h) | (have h := hq2.2; rw [if_neg c147, if_pos c155] at h; exact h) | (have h := hq2.2; rw [if_pos c147, if_neg c155] at h; exact h) | (have h := hq2.2; rw [if_neg c147, if_neg c155] at h; exact h) | (have h := hq3.2; rw [if_neg (fun z => c198 z.2)] at h; exact h) | (have h := hq3.2; rw [if_neg (fun z => absurd z.1 (by omega))] at h; exact h) | (exfalso; omega)) hP hS (lv_sub hl [4, 5, 6, 0, 7, 1] rfl)
                  · refine lv_iload hx hb dX6_reckonsTo_158 (lv_at hl 7 rfl) ?_
                    refine lv_iload hx hb dX6_reckonsTo_160 (lv_at hl 1 rfl) ?_
                    refine lv_iadd hx hb dX6_reckonsTo_162 ?_
                    refine W_top (y := (nI (cs k % 1048576))) (by rw [nI_add, show fr / 260 = 0 by omega, Nat.mul_zero, Nat.zero_add]) ?_
                    refine lv_istore (lv' := [(5, .int (nI (cs k % 1048576))), (7, .int (nI ((cs k) % 1048576))), (6, .int (nI ((cs k) / 1048576))), (0, .ref o), (1, .int (nI fr)), (2, .int (nI to)), (3, .int (nI n)), (4, .int (nI (260 * (fr / 260))))]) hx hb dX6_reckonsTo_163 hl (by decide) rfl (fun ls hl => ?_)
                    refine lv_goto (tgt := 230) hx hb dX6_reckonsTo_165 (by decide) ?_
                    refine lv_goto (tgt := 16) hx hb dX6_reckonsTo_230 (by decide) ?_
                    exact ih16 (cs k % 1048576) n f1 g _ _ ls (by omega) (by first | omega | (have := hq63.1; omega) | (have := hq2.1; omega)) (by omega) (by first | exact (rk_num hrun2 c19 c54).2 | exact (rk_num hrun2 c19 c70).2 | exact (rk_let hrun2 c19 c60).2 | exact (rk_not hrun2 c19 c97).2 | (have h := hq2.2; rw [if_pos c147, if_pos c155] at h; exact h) | (have h := hq2.2; rw [if_neg c147, if_pos c155] at h; exact h) | (have h := hq2.2; rw [if_pos c147, if_neg c155] at h; exact h) | (have h := hq2.2; rw [if_neg c147, if_neg c155] at h; exact h) | (have h := hq3.2; rw [if_neg (fun z => c198 z.2)] at h; exact h) | (have h := hq3.2; rw [if_neg (fun z => absurd z.1 (by omega))] at h; exact h) | (exfalso; omega)) hP hS (lv_sub hl [3, 4, 5, 6, 7, 0] rfl)
                · have c147 : ((cs k) / 1048576) = 12 := (nI_eq (a := ((cs k) / 1048576)) (b := 12) (by omega) (by omega)).mp c147
                  refine lv_iconst (v := 1) hx hb dX6_reckonsTo_150 (by decide) ?_
                  refine lv_goto (tgt := 155) hx hb dX6_reckonsTo_151 (by decide) ?_
                  refine lv_icmp_ne (tgt := 168) hx hb dX6_reckonsTo_155 (by decide) (fun c155 => ?_) (fun c155 => ?_)
                  · refine lv_iload_n hx hb dX6_reckonsTo_168 rfl (lv_at hl 6 rfl) ?_
                    refine lv_iconst (v := 1) hx hb dX6_reckonsTo_169 (by decide) ?_
                    refine lv_isub hx hb dX6_reckonsTo_170 ?_
                    refine W_top (y := (nI (n - 1))) (pk_sub (a := n) (b := 1) (by omega)) ?_
                    refine lv_istore_n (lv' := [(3, .int (nI (n - 1))), (5, .int (nI (k + 1))), (7, .int (nI ((cs k) % 1048576))), (6, .int (nI ((cs k) / 1048576))), (0, .ref o), (1, .int (nI fr)), (2, .int (nI to)), (4, .int (nI (260 * (fr / 260))))]) hx hb dX6_reckonsTo_171 rfl hl (by decide) rfl (fun ls hl => ?_)
                    refine lv_goto (tgt := 230) hx hb dX6_reckonsTo_172 (by decide) ?_
                    refine lv_goto (tgt := 16) hx hb dX6_reckonsTo_230 (by decide) ?_
                    exact ih16 (k + 1) (n - 1) f1 g _ _ ls (by omega) (by first | omega | (have := hq63.1; omega) | (have := hq2.1; omega)) (by omega) (by first | exact (rk_num hrun2 c19 c54).2 | exact (rk_num hrun2 c19 c70).2 | exact (rk_let hrun2 c19 c60).2 | exact (rk_not hrun2 c19 c97).2 | (have h := hq2.2; rw [if_pos c147, if_pos c155] at h; exact h) | (have h := hq2.2; rw [if_neg c147, if_pos c155] at h; exact h) | (have h := hq2.2; rw [if_pos c147, if_neg c155] at h; exact h) | (have h := hq2.2; rw [if_neg c147, if_neg c155] at h; exact h) | (have h := hq3.2; rw [if_neg (fun z => c198 z.2)] at h; exact h) | (have h := hq3.2; rw [if_neg (fun z => absurd z.1 (by omega))] at h; exact h) | (exfalso; omega)) hP hS (lv_sub hl [4, 5, 6, 0, 7, 1] rfl)
                  · refine lv_iload hx hb dX6_reckonsTo_158 (lv_at hl 7 rfl) ?_
                    refine lv_iload hx hb dX6_reckonsTo_160 (lv_at hl 1 rfl) ?_
                    refine lv_iadd hx hb dX6_reckonsTo_162 ?_
                    refine W_top (y := (nI (cs k % 1048576))) (by rw [nI_add, show fr / 260 = 0 by omega, Nat.mul_zero, Nat.zero_add]) ?_
                    refine lv_istore (lv' := [(5, .int (nI (cs k % 1048576))), (7, .int (nI ((cs k) % 1048576))), (6, .int (nI ((cs k) / 1048576))), (0, .ref o), (1, .int (nI fr)), (2, .int (nI to)), (3, .int (nI n)), (4, .int (nI (260 * (fr / 260))))]) hx hb dX6_reckonsTo_163 hl (by decide) rfl (fun ls hl => ?_)
                    refine lv_goto (tgt := 230) hx hb dX6_reckonsTo_165 (by decide) ?_
                    refine lv_goto (tgt := 16) hx hb dX6_reckonsTo_230 (by decide) ?_
                    exact ih16 (cs k % 1048576) n f1 g _ _ ls (by omega) (by first | omega | (have := hq63.1; omega) | (have := hq2.1; omega)) (by omega) (by first | exact (rk_num hrun2 c19 c54).2 | exact (rk_num hrun2 c19 c70).2 | exact (rk_let hrun2 c19 c60).2 | exact (rk_not hrun2 c19 c97).2 | (have h := hq2.2; rw [if_pos c147, if_pos c155] at h; exact h) | (have h := hq2.2; rw [if_neg c147, if_pos c155] at h; exact h) | (have h := hq2.2; rw [if_pos c147, if_neg c155] at h; exact h) | (have h := hq2.2; rw [if_neg c147, if_neg c155] at h; exact h) | (have h := hq3.2; rw [if_neg (fun z => c198 z.2)] at h; exact h) | (have h := hq3.2; rw [if_neg (fun z => absurd z.1 (by omega))] at h; exact h) | (exfalso; omega)) hP hS (lv_sub hl [3, 4, 5, 6, 7, 0] rfl)
              · have c125 : ¬ (((cs k) / 1048576) = 11) := mt (nI_eq (a := ((cs k) / 1048576)) (b := 11) (by omega) (by omega)).mpr c125
                refine lv_iload hx hb dX6_reckonsTo_128 (lv_at hl 2 rfl) ?_
                refine lv_bipush (v := 12) hx hb dX6_reckonsTo_130 (by decide) ?_
                refine lv_icmp_ne (tgt := 175) hx hb dX6_reckonsTo_132 (by decide) (fun c132 => ?_) (fun c132 => ?_)
                · have c132 : ¬ (((cs k) / 1048576) = 12) := mt (nI_eq (a := ((cs k) / 1048576)) (b := 12) (by omega) (by omega)).mpr c132
                  have hq3 := rk_bin hrun2 c19 c54 c60 c97 c125 c132
                  refine lv_iload_n hx hb dX6_reckonsTo_175 rfl (lv_at hl 6 rfl) ?_
                  refine lv_iconst (v := 1) hx hb dX6_reckonsTo_176 (by decide) ?_
                  refine lv_isub hx hb dX6_reckonsTo_177 ?_
                  refine W_top (y := (nI (n - 1))) (pk_sub (a := n) (b := 1) (by omega)) ?_
                  refine lv_istore_n (lv' := [(3, .int (nI (n - 1))), (5, .int (nI (k + 1))), (7, .int (nI ((cs k) % 1048576))), (6, .int (nI ((cs k) / 1048576))), (0, .ref o), (1, .int (nI fr)), (2, .int (nI to)), (4, .int (nI (260 * (fr / 260))))]) hx hb dX6_reckonsTo_178 rfl hl (by decide) rfl (fun ls hl => ?_)
                  refine lv_iload hx hb dX6_reckonsTo_179 (lv_at hl 3 rfl) ?_
                  refine lv_iconst (v := 5) hx hb dX6_reckonsTo_181 (by decide) ?_
                  refine lv_icmp_eq (tgt := 192) hx hb dX6_reckonsTo_182 (by decide) (fun c182 => ?_) (fun c182 => ?_)
                  · have c182 : ((cs k) / 1048576) = 5 := (nI_eq (a := ((cs k) / 1048576)) (b := 5) (by omega) (by omega)).mp c182
                    refine lv_aload_n hx hb dX6_reckonsTo_192 rfl (lv_at hl 4 rfl) ?_
                    refine M_get hC hK hP 32 (by decide) (fM32 _ _) q1233 dX6_reckonsTo_193 ?_
                    refine lv_iload_n hx hb dX6_reckonsTo_196 rfl (lv_at hl 0 rfl) ?_
                    refine M_ald hC hK hP 32 21 260 (n - 1) (aM32 _ _ _ _) (by decide) (rfl) (by omega) dX6_reckonsTo_197 ?_
                    refine W_top (y := (g (n - 1))) rfl ?_
                    refine lv_if_ne (tgt := 203) hx hb dX6_reckonsTo_198 (by decide) (fun c198 => ?_) (fun c198 => ?_)
                    · refine lv_aload_n hx hb dX6_reckonsTo_203 rfl (lv_at hl 4 rfl) ?_
                      refine M_get hC hK hP 32 (by decide) (fM32 _ _) q1233 dX6_reckonsTo_204 ?_
                      refine lv_iload_n hx hb dX6_reckonsTo_207 rfl (lv_at hl 0 rfl) ?_
                      refine lv_iconst (v := 1) hx hb dX6_reckonsTo_208 (by decide) ?_
                      refine lv_isub hx hb dX6_reckonsTo_209 ?_
                      refine W_top (y := (nI (n - 2))) (pk_sub (a := n - 1) (b := 1) (by omega)) ?_
                      refine lv_iload hx hb dX6_reckonsTo_210 (lv_at hl 3 rfl) ?_
                      refine lv_aload_n hx hb dX6_reckonsTo_212 rfl (lv_at hl 4 rfl) ?_
                      refine M_get hC hK hP 32 (by decide) (fM32 _ _) q1233 dX6_reckonsTo_213 ?_
                      refine lv_iload_n hx hb dX6_reckonsTo_216 rfl (lv_at hl 0 rfl) ?_
                      refine lv_iconst (v := 1) hx hb dX6_reckonsTo_217 (by decide) ?_
                      refine lv_isub hx hb dX6_reckonsTo_218 ?_
                      refine W_top (y := (nI (n - 2))) (pk_sub (a := n - 1) (b := 1) (by omega)) ?_
                      refine M_ald hC hK hP 32 21 260 (n - 2) (aM32 _ _ _ _) (by decide) (rfl) (by omega) dX6_reckonsTo_219 ?_
                      refine W_top (y := (g (n - 2))) rfl ?_
                      refine lv_aload_n hx hb dX6_reckonsTo_220 rfl (lv_at hl 4 rfl) ?_
                      refine M_get hC hK hP 32 (by decide) (fM32 _ _) q1233 dX6_reckonsTo_221 ?_
                      refine lv_iload_n hx hb dX6_reckonsTo_224 rfl (lv_at hl 0 rfl) ?_
                      refine M_ald hC hK hP 32 21 260 (n - 1) (aM32 _ _ _ _) (by decide) (rfl) (by omega) dX6_reckonsTo_225 ?_
                      refine W_top (y := (g (n - 1))) rfl ?_
                      refine CI.callS hC hK hl (c_X6_reckon G l ((cs k) / 1048576) (g (n - 2)) (g (n - 1)) (by omega) (by first | exact fun _ => c198 | (intro z; exfalso; omega))) trivial q1591 q1592 q116 q1593 mdX6_reckon (room_ok hRm rfl) rfl rfl dX6_reckonsTo_226 ?_
                      refine W_top (y := (reckS (nI ((cs k) / 1048576)) (g (n - 2)) (g (n - 1)))) rfl ?_
                      refine M_ast hC hK hD hP hS 32 21 260 (n - 2) (aM32 _ _ _ _) (bM32 _ _ _ _ _ _) (by decide) (rfl) (by omega) dX6_reckonsTo_229 (fun H locs hP hS => ?_)
                      rw [mS_A] at hP
                      refine lv_goto (tgt := 16) hx hb dX6_reckonsTo_230 (by decide) ?_
                      exact ih16 (k + 1) (n - 1) f1 (upd g (n - 2) (reckS (nI ((cs k) / 1048576)) (g (n - 2)) (g (n - 1)))) _ _ ls (by omega) (by first | omega | (have := hq63.1; omega) | (have := hq2.1; omega)) (by omega) (by first | exact (rk_num hrun2 c19 c54).2 | exact (rk_num hrun2 c19 c70).2 | exact (rk_let hrun2 c19 c60).2 | exact (rk_not hrun2 c19 c97).2 | (have h := hq2.2; rw [if_pos c147, if_pos c155] at h; exact h) | (have h := hq2.2; rw [if_neg c147, if_pos c155] at h; exact h) | (have h := hq2.2; rw [if_pos c147, if_neg c155] at h; exact h) | (have h := hq2.2; rw [if_neg c147, if_neg c155] at h; exact h) | (have h := hq3.2; rw [if_neg (fun z => c198 z.2)] at h; exact h) | (have h := hq3.2; rw [if_neg (fun z => absurd z.1 (by omega))] at h; exact h) | (exfalso; omega)) hP hS (lv_sub hl [4, 5, 6, 0, 7, 1] rfl)
                    · refine lv_iconst (v := 0) hx hb dX6_reckonsTo_201 (by decide) ?_
                      exact hq _ _ _ _ _ _ dX6_reckonsTo_202 hP hS (rfl) (by have h := hq3.2; rw [if_pos ⟨by omega, c198⟩] at h; exact ⟨g, Option.some.inj h, rfl⟩)
                  · have c182 : ¬ (((cs k) / 1048576) = 5) := mt (nI_eq (a := ((cs k) / 1048576)) (b := 5) (by omega) (by omega)).mpr c182
                    refine lv_iload hx hb dX6_reckonsTo_185 (lv_at hl 3 rfl) ?_
                    refine lv_bipush (v := 6) hx hb dX6_reckonsTo_187 (by decide) ?_
                    refine lv_icmp_ne (tgt := 203) hx hb dX6_reckonsTo_189 (by decide) (fun c189 => ?_) (fun c189 => ?_)
                    · have c189 : ¬ (((cs k) / 1048576) = 6) := mt (nI_eq (a := ((cs k) / 1048576)) (b := 6) (by omega) (by omega)).mpr c189
                      refine lv_aload_n hx hb dX6_reckonsTo_203 rfl (lv_at hl 4 rfl) ?_
                      refine M_get hC hK hP 32 (by decide) (fM32 _ _) q1233 dX6_reckonsTo_204 ?_
                      refine lv_iload_n hx hb dX6_reckonsTo_207 rfl (lv_at hl 0 rfl) ?_
                      refine lv_iconst (v := 1) hx hb dX6_reckonsTo_208 (by decide) ?_
                      refine lv_isub hx hb dX6_reckonsTo_209 ?_
                      refine W_top (y := (nI (n - 2))) (pk_sub (a := n - 1) (b := 1) (by omega)) ?_
                      refine lv_iload hx hb dX6_reckonsTo_210 (lv_at hl 3 rfl) ?_
                      refine lv_aload_n hx hb dX6_reckonsTo_212 rfl (lv_at hl 4 rfl) ?_
                      refine M_get hC hK hP 32 (by decide) (fM32 _ _) q1233 dX6_reckonsTo_213 ?_
                      refine lv_iload_n hx hb dX6_reckonsTo_216 rfl (lv_at hl 0 rfl) ?_
                      refine lv_iconst (v := 1) hx hb dX6_reckonsTo_217 (by decide) ?_
                      refine lv_isub hx hb dX6_reckonsTo_218 ?_
                      refine W_top (y := (nI (n - 2))) (pk_sub (a := n - 1) (b := 1) (by omega)) ?_
                      refine M_ald hC hK hP 32 21 260 (n - 2) (aM32 _ _ _ _) (by decide) (rfl) (by omega) dX6_reckonsTo_219 ?_
                      refine W_top (y := (g (n - 2))) rfl ?_
                      refine lv_aload_n hx hb dX6_reckonsTo_220 rfl (lv_at hl 4 rfl) ?_
                      refine M_get hC hK hP 32 (by decide) (fM32 _ _) q1233 dX6_reckonsTo_221 ?_
                      refine lv_iload_n hx hb dX6_reckonsTo_224 rfl (lv_at hl 0 rfl) ?_
                      refine M_ald hC hK hP 32 21 260 (n - 1) (aM32 _ _ _ _) (by decide) (rfl) (by omega) dX6_reckonsTo_225 ?_
                      refine W_top (y := (g (n - 1))) rfl ?_
                      refine CI.callS hC hK hl (c_X6_reckon G l ((cs k) / 1048576) (g (n - 2)) (g (n - 1)) (by omega) (by first | exact fun _ => c198 | (intro z; exfalso; omega))) trivial q1591 q1592 q116 q1593 mdX6_reckon (room_ok hRm rfl) rfl rfl dX6_reckonsTo_226 ?_
                      refine W_top (y := (reckS (nI ((cs k) / 1048576)) (g (n - 2)) (g (n - 1)))) rfl ?_
                      refine M_ast hC hK hD hP hS 32 21 260 (n - 2) (aM32 _ _ _ _) (bM32 _ _ _ _ _ _) (by decide) (rfl) (by omega) dX6_reckonsTo_229 (fun H locs hP hS => ?_)
                      rw [mS_A] at hP
                      refine lv_goto (tgt := 16) hx hb dX6_reckonsTo_230 (by decide) ?_
                      exact ih16 (k + 1) (n - 1) f1 (upd g (n - 2) (reckS (nI ((cs k) / 1048576)) (g (n - 2)) (g (n - 1)))) _ _ ls (by omega) (by first | omega | (have := hq63.1; omega) | (have := hq2.1; omega)) (by omega) (by first | exact (rk_num hrun2 c19 c54).2 | exact (rk_num hrun2 c19 c70).2 | exact (rk_let hrun2 c19 c60).2 | exact (rk_not hrun2 c19 c97).2 | (have h := hq2.2; rw [if_pos c147, if_pos c155] at h; exact h) | (have h := hq2.2; rw [if_neg c147, if_pos c155] at h; exact h) | (have h := hq2.2; rw [if_pos c147, if_neg c155] at h; exact h) | (have h := hq2.2; rw [if_neg c147, if_neg c155] at h; exact h) | (have h := hq3.2; rw [if_neg (fun z => c198 z.2)] at h; exact h) | (have h := hq3.2; rw [if_neg (fun z => absurd z.1 (by omega))] at h; exact h) | (exfalso; omega)) hP hS (lv_sub hl [4, 5, 6, 0, 7, 1] rfl)
                    · have c189 : ((cs k) / 1048576) = 6 := (nI_eq (a := ((cs k) / 1048576)) (b := 6) (by omega) (by omega)).mp c189
                      refine lv_aload_n hx hb dX6_reckonsTo_192 rfl (lv_at hl 4 rfl) ?_
                      refine M_get hC hK hP 32 (by decide) (fM32 _ _) q1233 dX6_reckonsTo_193 ?_
                      refine lv_iload_n hx hb dX6_reckonsTo_196 rfl (lv_at hl 0 rfl) ?_
                      refine M_ald hC hK hP 32 21 260 (n - 1) (aM32 _ _ _ _) (by decide) (rfl) (by omega) dX6_reckonsTo_197 ?_
                      refine W_top (y := (g (n - 1))) rfl ?_
                      refine lv_if_ne (tgt := 203) hx hb dX6_reckonsTo_198 (by decide) (fun c198 => ?_) (fun c198 => ?_)
                      · refine lv_aload_n hx hb dX6_reckonsTo_203 rfl (lv_at hl 4 rfl) ?_
                        refine M_get hC hK hP 32 (by decide) (fM32 _ _) q1233 dX6_reckonsTo_204 ?_
                        refine lv_iload_n hx hb dX6_reckonsTo_207 rfl (lv_at hl 0 rfl) ?_
                        refine lv_iconst (v := 1) hx hb dX6_reckonsTo_208 (by decide) ?_
                        refine lv_isub hx hb dX6_reckonsTo_209 ?_
                        refine W_top (y := (nI (n - 2))) (pk_sub (a := n - 1) (b := 1) (by omega)) ?_
                        refine lv_iload hx hb dX6_reckonsTo_210 (lv_at hl 3 rfl) ?_
                        refine lv_aload_n hx hb dX6_reckonsTo_212 rfl (lv_at hl 4 rfl) ?_
                        refine M_get hC hK hP 32 (by decide) (fM32 _ _) q1233 dX6_reckonsTo_213 ?_
                        refine lv_iload_n hx hb dX6_reckonsTo_216 rfl (lv_at hl 0 rfl) ?_
                        refine lv_iconst (v := 1) hx hb dX6_reckonsTo_217 (by decide) ?_
                        refine lv_isub hx hb dX6_reckonsTo_218 ?_
                        refine W_top (y := (nI (n - 2))) (pk_sub (a := n - 1) (b := 1) (by omega)) ?_
                        refine M_ald hC hK hP 32 21 260 (n - 2) (aM32 _ _ _ _) (by decide) (rfl) (by omega) dX6_reckonsTo_219 ?_
                        refine W_top (y := (g (n - 2))) rfl ?_
                        refine lv_aload_n hx hb dX6_reckonsTo_220 rfl (lv_at hl 4 rfl) ?_
                        refine M_get hC hK hP 32 (by decide) (fM32 _ _) q1233 dX6_reckonsTo_221 ?_
                        refine lv_iload_n hx hb dX6_reckonsTo_224 rfl (lv_at hl 0 rfl) ?_
                        refine M_ald hC hK hP 32 21 260 (n - 1) (aM32 _ _ _ _) (by decide) (rfl) (by omega) dX6_reckonsTo_225 ?_
                        refine W_top (y := (g (n - 1))) rfl ?_
                        refine CI.callS hC hK hl (c_X6_reckon G l ((cs k) / 1048576) (g (n - 2)) (g (n - 1)) (by omega) (by first | exact fun _ => c198 | (intro z; exfalso; omega))) trivial q1591 q1592 q116 q1593 mdX6_reckon (room_ok hRm rfl) rfl rfl dX6_reckonsTo_226 ?_
                        refine W_top (y := (reckS (nI ((cs k) / 1048576)) (g (n - 2)) (g (n - 1)))) rfl ?_
                        refine M_ast hC hK hD hP hS 32 21 260 (n - 2) (aM32 _ _ _ _) (bM32 _ _ _ _ _ _) (by decide) (rfl) (by omega) dX6_reckonsTo_229 (fun H locs hP hS => ?_)
                        rw [mS_A] at hP
                        refine lv_goto (tgt := 16) hx hb dX6_reckonsTo_230 (by decide) ?_
                        exact ih16 (k + 1) (n - 1) f1 (upd g (n - 2) (reckS (nI ((cs k) / 1048576)) (g (n - 2)) (g (n - 1)))) _ _ ls (by omega) (by first | omega | (have := hq63.1; omega) | (have := hq2.1; omega)) (by omega) (by first | exact (rk_num hrun2 c19 c54).2 | exact (rk_num hrun2 c19 c70).2 | exact (rk_let hrun2 c19 c60).2 | exact (rk_not hrun2 c19 c97).2 | (have h := hq2.2; rw [if_pos c147, if_pos c155] at h; exact h) | (have h := hq2.2; rw [if_neg c147, if_pos c155] at h; exact h) | (have h := hq2.2; rw [if_pos c147, if_neg c155] at h; exact h) | (have h := hq2.2; rw [if_neg c147, if_neg c155] at h; exact h) | (have h := hq3.2; rw [if_neg (fun z => c198 z.2)] at h; exact h) | (have h := hq3.2; rw [if_neg (fun z => absurd z.1 (by omega))] at h; exact h) | (exfalso; omega)) hP hS (lv_sub hl [4, 5, 6, 0, 7, 1] rfl)
                      · refine lv_iconst (v := 0) hx hb dX6_reckonsTo_201 (by decide) ?_
                        exact hq _ _ _ _ _ _ dX6_reckonsTo_202 hP hS (rfl) (by have h := hq3.2; rw [if_pos ⟨by omega, c198⟩] at h; exact ⟨g, Option.some.inj h, rfl⟩)
                · have c132 : ((cs k) / 1048576) = 12 := (nI_eq (a := ((cs k) / 1048576)) (b := 12) (by omega) (by omega)).mp c132
                  have hq2 := rk_if hrun2 c19 (by omega)
                  refine lv_aload_n hx hb dX6_reckonsTo_135 rfl (lv_at hl 3 rfl) ?_
                  refine M_get hC hK hP 32 (by decide) (fM32 _ _) q1233 dX6_reckonsTo_136 ?_
                  refine lv_iload_n hx hb dX6_reckonsTo_139 rfl (lv_at hl 6 rfl) ?_
                  refine lv_iconst (v := 1) hx hb dX6_reckonsTo_140 (by decide) ?_
                  refine lv_isub hx hb dX6_reckonsTo_141 ?_
                  refine W_top (y := (nI (n - 1))) (pk_sub (a := n) (b := 1) (by omega)) ?_
                  refine M_ald hC hK hP 32 21 260 (n - 1) (aM32 _ _ _ _) (by decide) (rfl) (by omega) dX6_reckonsTo_142 ?_
                  refine W_top (y := (g (n - 1))) rfl ?_
                  refine lv_iload hx hb dX6_reckonsTo_143 (lv_at hl 2 rfl) ?_
                  refine lv_bipush (v := 12) hx hb dX6_reckonsTo_145 (by decide) ?_
                  refine lv_icmp_ne (tgt := 154) hx hb dX6_reckonsTo_147 (by decide) (fun c147 => ?_) (fun c147 => ?_)
                  · have c147 : ¬ (((cs k) / 1048576) = 12) := mt (nI_eq (a := ((cs k) / 1048576)) (b := 12) (by omega) (by omega)).mpr c147
                    refine lv_iconst (v := 0) hx hb dX6_reckonsTo_154 (by decide) ?_
                    refine lv_icmp_ne (tgt := 168) hx hb dX6_reckonsTo_155 (by decide) (fun c155 => ?_) (fun c155 => ?_)
                    · refine lv_iload_n hx hb dX6_reckonsTo_168 rfl (lv_at hl 6 rfl) ?_
                      refine lv_iconst (v := 1) hx hb dX6_reckonsTo_169 (by decide) ?_
                      refine lv_isub hx hb dX6_reckonsTo_170 ?_
                      refine W_top (y := (nI (n - 1))) (pk_sub (a := n) (b := 1) (by omega)) ?_
                      refine lv_istore_n (lv' := [(3, .int (nI (n - 1))), (5, .int (nI (k + 1))), (7, .int (nI ((cs k) % 1048576))), (6, .int (nI ((cs k) / 1048576))), (0, .ref o), (1, .int (nI fr)), (2, .int (nI to)), (4, .int (nI (260 * (fr / 260))))]) hx hb dX6_reckonsTo_171 rfl hl (by decide) rfl (fun ls hl => ?_)
                      refine lv_goto (tgt := 230) hx hb dX6_reckonsTo_172 (by decide) ?_
                      refine lv_goto (tgt := 16) hx hb dX6_reckonsTo_230 (by decide) ?_
                      exact ih16 (k + 1) (n - 1) f1 g _ _ ls (by omega) (by first | omega | (have := hq63.1; omega) | (have := hq2.1; omega)) (by omega) (by first | exact (rk_num hrun2 c19 c54).2 | exact (rk_num hrun2 c19 c70).2 | exact (rk_let hrun2 c19 c60).2 | exact (rk_not hrun2 c19 c97).2 | (have h := hq2.2; rw [if_pos c147, if_pos c155] at h; exact h) | (have h := hq2.2; rw [if_neg c147, if_pos c155] at h; exact h) | (have h := hq2.2; rw [if_pos c147, if_neg c155] at h; exact h) | (have h := hq2.2; rw [if_neg c147, if_neg c155] at h; exact h) | (have h := hq3.2; rw [if_neg (fun z => c198 z.2)] at h; exact h) | (have h := hq3.2; rw [if_neg (fun z => absurd z.1 (by omega))] at h; exact h) | (exfalso; omega)) hP hS (lv_sub hl [4, 5, 6, 0, 7, 1] rfl)
                    · refine lv_iload hx hb dX6_reckonsTo_158 (lv_at hl 7 rfl) ?_
                      refine lv_iload hx hb dX6_reckonsTo_160 (lv_at hl 1 rfl) ?_
                      refine lv_iadd hx hb dX6_reckonsTo_162 ?_
                      refine W_top (y := (nI (cs k % 1048576))) (by rw [nI_add, show fr / 260 = 0 by omega, Nat.mul_zero, Nat.zero_add]) ?_
                      refine lv_istore (lv' := [(5, .int (nI (cs k % 1048576))), (7, .int (nI ((cs k) % 1048576))), (6, .int (nI ((cs k) / 1048576))), (0, .ref o), (1, .int (nI fr)), (2, .int (nI to)), (3, .int (nI n)), (4, .int (nI (260 * (fr / 260))))]) hx hb dX6_reckonsTo_163 hl (by decide) rfl (fun ls hl => ?_)
                      refine lv_goto (tgt := 230) hx hb dX6_reckonsTo_165 (by decide) ?_
                      refine lv_goto (tgt := 16) hx hb dX6_reckonsTo_230 (by decide) ?_
                      exact ih16 (cs k % 1048576) n f1 g _ _ ls (by omega) (by first | omega | (have := hq63.1; omega) | (have := hq2.1; omega)) (by omega) (by first | exact (rk_num hrun2 c19 c54).2 | exact (rk_num hrun2 c19 c70).2 | exact (rk_let hrun2 c19 c60).2 | exact (rk_not hrun2 c19 c97).2 | (have h := hq2.2; rw [if_pos c147, if_pos c155] at h; exact h) | (have h := hq2.2; rw [if_neg c147, if_pos c155] at h; exact h) | (have h := hq2.2; rw [if_pos c147, if_neg c155] at h; exact h) | (have h := hq2.2; rw [if_neg c147, if_neg c155] at h; exact h) | (have h := hq3.2; rw [if_neg (fun z => c198 z.2)] at h; exact h) | (have h := hq3.2; rw [if_neg (fun z => absurd z.1 (by omega))] at h; exact h) | (exfalso; omega)) hP hS (lv_sub hl [3, 4, 5, 6, 7, 0] rfl)
                  · have c147 : ((cs k) / 1048576) = 12 := (nI_eq (a := ((cs k) / 1048576)) (b := 12) (by omega) (by omega)).mp c147
                    refine lv_iconst (v := 1) hx hb dX6_reckonsTo_150 (by decide) ?_
                    refine lv_goto (tgt := 155) hx hb dX6_reckonsTo_151 (by decide) ?_
                    refine lv_icmp_ne (tgt := 168) hx hb dX6_reckonsTo_155 (by decide) (fun c155 => ?_) (fun c155 => ?_)
                    · refine lv_iload_n hx hb dX6_reckonsTo_168 rfl (lv_at hl 6 rfl) ?_
                      refine lv_iconst (v := 1) hx hb dX6_reckonsTo_169 (by decide) ?_
                      refine lv_isub hx hb dX6_reckonsTo_170 ?_
                      refine W_top (y := (nI (n - 1))) (pk_sub (a := n) (b := 1) (by omega)) ?_
                      refine lv_istore_n (lv' := [(3, .int (nI (n - 1))), (5, .int (nI (k + 1))), (7, .int (nI ((cs k) % 1048576))), (6, .int (nI ((cs k) / 1048576))), (0, .ref o), (1, .int (nI fr)), (2, .int (nI to)), (4, .int (nI (260 * (fr / 260))))]) hx hb dX6_reckonsTo_171 rfl hl (by decide) rfl (fun ls hl => ?_)
                      refine lv_goto (tgt := 230) hx hb dX6_reckonsTo_172 (by decide) ?_
                      refine lv_goto (tgt := 16) hx hb dX6_reckonsTo_230 (by decide) ?_
                      exact ih16 (k + 1) (n - 1) f1 g _ _ ls (by omega) (by first | omega | (have := hq63.1; omega) | (have := hq2.1; omega)) (by omega) (by first | exact (rk_num hrun2 c19 c54).2 | exact (rk_num hrun2 c19 c70).2 | exact (rk_let hrun2 c19 c60).2 | exact (rk_not hrun2 c19 c97).2 | (have h := hq2.2; rw [if_pos c147, if_pos c155] at h; exact h) | (have h := hq2.2; rw [if_neg c147, if_pos c155] at h; exact h) | (have h := hq2.2; rw [if_pos c147, if_neg c155] at h; exact h) | (have h := hq2.2; rw [if_neg c147, if_neg c155] at h; exact h) | (have h := hq3.2; rw [if_neg (fun z => c198 z.2)] at h; exact h) | (have h := hq3.2; rw [if_neg (fun z => absurd z.1 (by omega))] at h; exact h) | (exfalso; omega)) hP hS (lv_sub hl [4, 5, 6, 0, 7, 1] rfl)
                    · refine lv_iload hx hb dX6_reckonsTo_158 (lv_at hl 7 rfl) ?_
                      refine lv_iload hx hb dX6_reckonsTo_160 (lv_at hl 1 rfl) ?_
                      refine lv_iadd hx hb dX6_reckonsTo_162 ?_
                      refine W_top (y := (nI (cs k % 1048576))) (by rw [nI_add, show fr / 260 = 0 by omega, Nat.mul_zero, Nat.zero_add]) ?_
                      refine lv_istore (lv' := [(5, .int (nI (cs k % 1048576))), (7, .int (nI ((cs k) % 1048576))), (6, .int (nI ((cs k) / 1048576))), (0, .ref o), (1, .int (nI fr)), (2, .int (nI to)), (3, .int (nI n)), (4, .int (nI (260 * (fr / 260))))]) hx hb dX6_reckonsTo_163 hl (by decide) rfl (fun ls hl => ?_)
                      refine lv_goto (tgt := 230) hx hb dX6_reckonsTo_165 (by decide) ?_
                      refine lv_goto (tgt := 16) hx hb dX6_reckonsTo_230 (by decide) ?_
                      exact ih16 (cs k % 1048576) n f1 g _ _ ls (by omega) (by first | omega | (have := hq63.1; omega) | (have := hq2.1; omega)) (by omega) (by first | exact (rk_num hrun2 c19 c54).2 | exact (rk_num hrun2 c19 c70).2 | exact (rk_let hrun2 c19 c60).2 | exact (rk_not hrun2 c19 c97).2 | (have h := hq2.2; rw [if_pos c147, if_pos c155] at h; exact h) | (have h := hq2.2; rw [if_neg c147, if_pos c155] at h; exact h) | (have h := hq2.2; rw [if_pos c147, if_neg c155] at h; exact h) | (have h := hq2.2; rw [if_neg c147, if_neg c155] at h; exact h) | (have h := hq3.2; rw [if_neg (fun z => c198 z.2)] at h; exact h) | (have h := hq3.2; rw [if_neg (fun z => absurd z.1 (by omega))] at h; exact h) | (exfalso; omega)) hP hS (lv_sub hl [3, 4, 5, 6, 7, 0] rfl)
            · have c97 : ((cs k) / 1048576) = 10 := (nI_eq (a := ((cs k) / 1048576)) (b := 10) (by omega) (by omega)).mp c97
              have hq1 := (rk_not hrun2 c19 c97).1
              refine lv_aload_n hx hb dX6_reckonsTo_100 rfl (lv_at hl 3 rfl) ?_
              refine M_get hC hK hP 32 (by decide) (fM32 _ _) q1233 dX6_reckonsTo_101 ?_
              refine lv_iload_n hx hb dX6_reckonsTo_104 rfl (lv_at hl 6 rfl) ?_
              refine lv_iconst (v := 1) hx hb dX6_reckonsTo_105 (by decide) ?_
              refine lv_isub hx hb dX6_reckonsTo_106 ?_
              refine W_top (y := (nI (n - 1))) (pk_sub (a := n) (b := 1) (by omega)) ?_
              refine lv_iconst (v := 1) hx hb dX6_reckonsTo_107 (by decide) ?_
              refine lv_aload_n hx hb dX6_reckonsTo_108 rfl (lv_at hl 3 rfl) ?_
              refine M_get hC hK hP 32 (by decide) (fM32 _ _) q1233 dX6_reckonsTo_109 ?_
              refine lv_iload_n hx hb dX6_reckonsTo_112 rfl (lv_at hl 6 rfl) ?_
              refine lv_iconst (v := 1) hx hb dX6_reckonsTo_113 (by decide) ?_
              refine lv_isub hx hb dX6_reckonsTo_114 ?_
              refine W_top (y := (nI (n - 1))) (pk_sub (a := n) (b := 1) (by omega)) ?_
              refine M_ald hC hK hP 32 21 260 (n - 1) (aM32 _ _ _ _) (by decide) (rfl) (by omega) dX6_reckonsTo_115 ?_
              refine W_top (y := (g (n - 1))) rfl ?_
              refine lv_isub hx hb dX6_reckonsTo_116 ?_
              refine M_ast hC hK hD hP hS 32 21 260 (n - 1) (aM32 _ _ _ _) (bM32 _ _ _ _ _ _) (by decide) (rfl) (by omega) dX6_reckonsTo_117 (fun H locs hP hS => ?_)
              rw [mS_A] at hP
              refine lv_goto (tgt := 230) hx hb dX6_reckonsTo_118 (by decide) ?_
              refine lv_goto (tgt := 16) hx hb dX6_reckonsTo_230 (by decide) ?_
              exact ih16 (k + 1) n f1 (upd g (n - 1) (1 - (g (n - 1)))) _ _ ls (by omega) (by first | omega | (have := hq63.1; omega) | (have := hq2.1; omega)) (by omega) (by first | exact (rk_num hrun2 c19 c54).2 | exact (rk_num hrun2 c19 c70).2 | exact (rk_let hrun2 c19 c60).2 | exact (rk_not hrun2 c19 c97).2 | (have h := hq2.2; rw [if_pos c147, if_pos c155] at h; exact h) | (have h := hq2.2; rw [if_neg c147, if_pos c155] at h; exact h) | (have h := hq2.2; rw [if_pos c147, if_neg c155] at h; exact h) | (have h := hq2.2; rw [if_neg c147, if_neg c155] at h; exact h) | (have h := hq3.2; rw [if_neg (fun z => c198 z.2)] at h; exact h) | (have h := hq3.2; rw [if_neg (fun z => absurd z.1 (by omega))] at h; exact h) | (exfalso; omega)) hP hS (lv_sub hl [3, 4, 5, 6, 7, 0] rfl)
          · have c60 : ((cs k) / 1048576) = 1 := (nI_eq (a := ((cs k) / 1048576)) (b := 1) (by omega) (by omega)).mp c60
            have hq63 : n < 260 ∧ (¬ cs k / 1048576 = 0 → cs k % 1048576 < 9) := by
              by_cases e : cs k / 1048576 = 0
              · exact ⟨(rk_num hrun2 c19 e).1, fun z => absurd e z⟩
              · exact ⟨(rk_let hrun2 c19 (by omega)).1.1, fun _ => (rk_let hrun2 c19 (by omega)).1.2⟩
            refine lv_aload_n hx hb dX6_reckonsTo_63 rfl (lv_at hl 3 rfl) ?_
            refine M_get hC hK hP 32 (by decide) (fM32 _ _) q1233 dX6_reckonsTo_64 ?_
            refine lv_iload_n hx hb dX6_reckonsTo_67 rfl (lv_at hl 6 rfl) ?_
            refine lv_iload hx hb dX6_reckonsTo_68 (lv_at hl 2 rfl) ?_
            refine lv_if_ne (tgt := 78) hx hb dX6_reckonsTo_70 (by decide) (fun c70 => ?_) (fun c70 => ?_)
            · have c70 : ¬ (((cs k) / 1048576) = 0) := mt (nI_eq (a := ((cs k) / 1048576)) (b := 0) (by omega) (by omega)).mpr c70
              refine lv_aload_n hx hb dX6_reckonsTo_78 rfl (lv_at hl 3 rfl) ?_
              refine M_get hC hK hP 33 (by decide) (fM33 _ _) q1234 dX6_reckonsTo_79 ?_
              refine lv_iload hx hb dX6_reckonsTo_82 (lv_at hl 1 rfl) ?_
              refine M_ald hC hK hP 33 22 9 ((cs k) % 1048576) (aM33 _ _ _ _) (by decide) (rfl) (by omega) dX6_reckonsTo_84 ?_
              refine W_top (y := (u.2.1 33 ((cs k) % 1048576))) rfl ?_
              refine M_ast hC hK hD hP hS 32 21 260 n (aM32 _ _ _ _) (bM32 _ _ _ _ _ _) (by decide) (rfl) (by omega) dX6_reckonsTo_85 (fun H locs hP hS => ?_)
              rw [mS_A] at hP
              refine lv_iload_n hx hb dX6_reckonsTo_86 rfl (lv_at hl 6 rfl) ?_
              refine lv_iconst (v := 1) hx hb dX6_reckonsTo_87 (by decide) ?_
              refine lv_iadd hx hb dX6_reckonsTo_88 ?_
              refine W_top (nI_add n 1) ?_
              refine lv_istore_n (lv' := [(3, .int (nI (n + 1))), (5, .int (nI (k + 1))), (7, .int (nI ((cs k) % 1048576))), (6, .int (nI ((cs k) / 1048576))), (0, .ref o), (1, .int (nI fr)), (2, .int (nI to)), (4, .int (nI (260 * (fr / 260))))]) hx hb dX6_reckonsTo_89 rfl hl (by decide) rfl (fun ls hl => ?_)
              refine lv_goto (tgt := 230) hx hb dX6_reckonsTo_90 (by decide) ?_
              refine lv_goto (tgt := 16) hx hb dX6_reckonsTo_230 (by decide) ?_
              exact ih16 (k + 1) (n + 1) f1 (upd g n (u.2.1 33 ((cs k) % 1048576))) _ _ ls (by omega) (by first | omega | (have := hq63.1; omega) | (have := hq2.1; omega)) (by omega) (by first | exact (rk_num hrun2 c19 c54).2 | exact (rk_num hrun2 c19 c70).2 | exact (rk_let hrun2 c19 c60).2 | exact (rk_not hrun2 c19 c97).2 | (have h := hq2.2; rw [if_pos c147, if_pos c155] at h; exact h) | (have h := hq2.2; rw [if_neg c147, if_pos c155] at h; exact h) | (have h := hq2.2; rw [if_pos c147, if_neg c155] at h; exact h) | (have h := hq2.2; rw [if_neg c147, if_neg c155] at h; exact h) | (have h := hq3.2; rw [if_neg (fun z => c198 z.2)] at h; exact h) | (have h := hq3.2; rw [if_neg (fun z => absurd z.1 (by omega))] at h; exact h) | (exfalso; omega)) hP hS (lv_sub hl [4, 5, 6, 0, 7, 1] rfl)
            · have c70 : ((cs k) / 1048576) = 0 := (nI_eq (a := ((cs k) / 1048576)) (b := 0) (by omega) (by omega)).mp c70
              refine lv_iload hx hb dX6_reckonsTo_73 (lv_at hl 1 rfl) ?_
              refine lv_goto (tgt := 85) hx hb dX6_reckonsTo_75 (by decide) ?_
              refine M_ast hC hK hD hP hS 32 21 260 n (aM32 _ _ _ _) (bM32 _ _ _ _ _ _) (by decide) (rfl) (by omega) dX6_reckonsTo_85 (fun H locs hP hS => ?_)
              rw [mS_A] at hP
              refine lv_iload_n hx hb dX6_reckonsTo_86 rfl (lv_at hl 6 rfl) ?_
              refine lv_iconst (v := 1) hx hb dX6_reckonsTo_87 (by decide) ?_
              refine lv_iadd hx hb dX6_reckonsTo_88 ?_
              refine W_top (nI_add n 1) ?_
              refine lv_istore_n (lv' := [(3, .int (nI (n + 1))), (5, .int (nI (k + 1))), (7, .int (nI ((cs k) % 1048576))), (6, .int (nI ((cs k) / 1048576))), (0, .ref o), (1, .int (nI fr)), (2, .int (nI to)), (4, .int (nI (260 * (fr / 260))))]) hx hb dX6_reckonsTo_89 rfl hl (by decide) rfl (fun ls hl => ?_)
              refine lv_goto (tgt := 230) hx hb dX6_reckonsTo_90 (by decide) ?_
              refine lv_goto (tgt := 16) hx hb dX6_reckonsTo_230 (by decide) ?_
              exact ih16 (k + 1) (n + 1) f1 (upd g n (nI ((cs k) % 1048576))) _ _ ls (by omega) (by first | omega | (have := hq63.1; omega) | (have := hq2.1; omega)) (by omega) (by first | exact (rk_num hrun2 c19 c54).2 | exact (rk_num hrun2 c19 c70).2 | exact (rk_let hrun2 c19 c60).2 | exact (rk_not hrun2 c19 c97).2 | (have h := hq2.2; rw [if_pos c147, if_pos c155] at h; exact h) | (have h := hq2.2; rw [if_neg c147, if_pos c155] at h; exact h) | (have h := hq2.2; rw [if_pos c147, if_neg c155] at h; exact h) | (have h := hq2.2; rw [if_neg c147, if_neg c155] at h; exact h) | (have h := hq3.2; rw [if_neg (fun z => c198 z.2)] at h; exact h) | (have h := hq3.2; rw [if_neg (fun z => absurd z.1 (by omega))] at h; exact h) | (exfalso; omega)) hP hS (lv_sub hl [4, 5, 6, 0, 7, 1] rfl)
  exact LP16 _ fr 0 f0 (u.2.1 32) _ _ ls (Nat.lt_succ_self _) (by first | omega | assumption | rfl | (simp_all; done) | grind) (by first | omega | assumption | rfl | (simp_all; done) | grind) (hrun) hP hS (lv_sub hl [3, 4, 5, 2, 1, 0] rfl)
