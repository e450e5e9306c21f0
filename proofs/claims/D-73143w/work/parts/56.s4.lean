set_option maxRecDepth 100000
set_option maxHeartbeats 4000000 in
theorem c_X3_value (G : GG) (l : Launch) (o : Nat) (R : Nat → Nat) (tx : Nat) (u : MS) (i : Nat) (hi : i < 9) : CIs G l yX3_value cX3_value 2 .int 2 24 [.ref (R 2), .int (letC i)] (PwS G o R tx u) (u.1 (31 + i)) := by
  refine CIs.mk RX3 pnX3 rfl (rfl) (Nat.le_of_ble_eq_true rfl) (fun pg en Rm sg mm ar bw mth cd QQ ls hC hRm hK hX hl hq => ?_)
  have hx := hC.1; have hb := hC.2.1; have ho := hC.2.2.2.1; have hts := hC.2.2.2.2
  have hP : PwS G o R tx u sg.heap := hX
  have hl : lv_has ls 2 [(0, .ref (R 2)), (1, .int (letC i))] := hl
  refine lv_iload_n hx hb dX3_value_0 rfl (lv_at hl 1 rfl) ?_
  by_cases s1_98 : (letC i) = 98
  · refine lv_tableIn (tgt := 117) hx hb dX3_value_1 (by rw [s1_98]; decide) (by rw [s1_98]; decide) (by rw [s1_98]; rfl) (by decide) ?_
    refine lv_aload_n hx hb dX3_value_117 rfl (lv_at hl 0 rfl) ?_
    refine S_get (v := .int (u.1 36)) hC hK hP (oS_moment _ _ _ _ _) clX3 in_X3 6 (by decide) (fD36 _ _ _ _) q193 dX3_value_118 ?_
    exact hq _ _ _ dX3_value_121 (by rw [← valS_let u hi]; simp [valS, *])
  by_cases s1_99 : (letC i) = 99
  · refine lv_tableIn (tgt := 132) hx hb dX3_value_1 (by rw [s1_99]; decide) (by rw [s1_99]; decide) (by rw [s1_99]; rfl) (by decide) ?_
    refine lv_aload_n hx hb dX3_value_132 rfl (lv_at hl 0 rfl) ?_
    refine S_get (v := .int (u.1 39)) hC hK hP (oS_moment _ _ _ _ _) clX3 in_X3 9 (by decide) (fD39 _ _ _ _) q196 dX3_value_133 ?_
    exact hq _ _ _ dX3_value_136 (by rw [← valS_let u hi]; simp [valS, *])
  by_cases s1_100 : (letC i) = 100
  · refine lv_tableIn (tgt := 107) hx hb dX3_value_1 (by rw [s1_100]; decide) (by rw [s1_100]; decide) (by rw [s1_100]; rfl) (by decide) ?_
    refine lv_aload_n hx hb dX3_value_107 rfl (lv_at hl 0 rfl) ?_
    refine S_get (v := .int (u.1 34)) hC hK hP (oS_moment _ _ _ _ _) clX3 in_X3 4 (by decide) (fD34 _ _ _ _) q191 dX3_value_108 ?_
    exact hq _ _ _ dX3_value_111 (by rw [← valS_let u hi]; simp [valS, *])
  by_cases s1_101 : (letC i) = 101
  · refine lv_tableIn (tgt := 132) hx hb dX3_value_1 (by rw [s1_101]; decide) (by rw [s1_101]; decide) (by rw [s1_101]; rfl) (by decide) ?_
    refine lv_aload_n hx hb dX3_value_132 rfl (lv_at hl 0 rfl) ?_
    refine S_get (v := .int (u.1 39)) hC hK hP (oS_moment _ _ _ _ _) clX3 in_X3 9 (by decide) (fD39 _ _ _ _) q196 dX3_value_133 ?_
    exact hq _ _ _ dX3_value_136 (by rw [← valS_let u hi]; simp [valS, *])
  by_cases s1_102 : (letC i) = 102
  · refine lv_tableIn (tgt := 132) hx hb dX3_value_1 (by rw [s1_102]; decide) (by rw [s1_102]; decide) (by rw [s1_102]; rfl) (by decide) ?_
    refine lv_aload_n hx hb dX3_value_132 rfl (lv_at hl 0 rfl) ?_
    refine S_get (v := .int (u.1 39)) hC hK hP (oS_moment _ _ _ _ _) clX3 in_X3 9 (by decide) (fD39 _ _ _ _) q196 dX3_value_133 ?_
    exact hq _ _ _ dX3_value_136 (by rw [← valS_let u hi]; simp [valS, *])
  by_cases s1_103 : (letC i) = 103
  · refine lv_tableIn (tgt := 97) hx hb dX3_value_1 (by rw [s1_103]; decide) (by rw [s1_103]; decide) (by rw [s1_103]; rfl) (by decide) ?_
    refine lv_aload_n hx hb dX3_value_97 rfl (lv_at hl 0 rfl) ?_
    refine S_get (v := .int (u.1 32)) hC hK hP (oS_moment _ _ _ _ _) clX3 in_X3 2 (by decide) (fD32 _ _ _ _) q189 dX3_value_98 ?_
    exact hq _ _ _ dX3_value_101 (by rw [← valS_let u hi]; simp [valS, *])
  by_cases s1_104 : (letC i) = 104
  · refine lv_tableIn (tgt := 92) hx hb dX3_value_1 (by rw [s1_104]; decide) (by rw [s1_104]; decide) (by rw [s1_104]; rfl) (by decide) ?_
    refine lv_aload_n hx hb dX3_value_92 rfl (lv_at hl 0 rfl) ?_
    refine S_get (v := .int (u.1 31)) hC hK hP (oS_moment _ _ _ _ _) clX3 in_X3 1 (by decide) (fD31 _ _ _ _) q188 dX3_value_93 ?_
    exact hq _ _ _ dX3_value_96 (by rw [← valS_let u hi]; simp [valS, *])
  by_cases s1_105 : (letC i) = 105
  · refine lv_tableIn (tgt := 132) hx hb dX3_value_1 (by rw [s1_105]; decide) (by rw [s1_105]; decide) (by rw [s1_105]; rfl) (by decide) ?_
    refine lv_aload_n hx hb dX3_value_132 rfl (lv_at hl 0 rfl) ?_
    refine S_get (v := .int (u.1 39)) hC hK hP (oS_moment _ _ _ _ _) clX3 in_X3 9 (by decide) (fD39 _ _ _ _) q196 dX3_value_133 ?_
    exact hq _ _ _ dX3_value_136 (by rw [← valS_let u hi]; simp [valS, *])
  by_cases s1_106 : (letC i) = 106
  · refine lv_tableIn (tgt := 132) hx hb dX3_value_1 (by rw [s1_106]; decide) (by rw [s1_106]; decide) (by rw [s1_106]; rfl) (by decide) ?_
    refine lv_aload_n hx hb dX3_value_132 rfl (lv_at hl 0 rfl) ?_
    refine S_get (v := .int (u.1 39)) hC hK hP (oS_moment _ _ _ _ _) clX3 in_X3 9 (by decide) (fD39 _ _ _ _) q196 dX3_value_133 ?_
    exact hq _ _ _ dX3_value_136 (by rw [← valS_let u hi]; simp [valS, *])
  by_cases s1_107 : (letC i) = 107
  · refine lv_tableIn (tgt := 122) hx hb dX3_value_1 (by rw [s1_107]; decide) (by rw [s1_107]; decide) (by rw [s1_107]; rfl) (by decide) ?_
    refine lv_aload_n hx hb dX3_value_122 rfl (lv_at hl 0 rfl) ?_
    refine S_get (v := .int (u.1 37)) hC hK hP (oS_moment _ _ _ _ _) clX3 in_X3 7 (by decide) (fD37 _ _ _ _) q194 dX3_value_123 ?_
    exact hq _ _ _ dX3_value_126 (by rw [← valS_let u hi]; simp [valS, *])
  by_cases s1_108 : (letC i) = 108
  · refine lv_tableIn (tgt := 132) hx hb dX3_value_1 (by rw [s1_108]; decide) (by rw [s1_108]; decide) (by rw [s1_108]; rfl) (by decide) ?_
    refine lv_aload_n hx hb dX3_value_132 rfl (lv_at hl 0 rfl) ?_
    refine S_get (v := .int (u.1 39)) hC hK hP (oS_moment _ _ _ _ _) clX3 in_X3 9 (by decide) (fD39 _ _ _ _) q196 dX3_value_133 ?_
    exact hq _ _ _ dX3_value_136 (by rw [← valS_let u hi]; simp [valS, *])
  by_cases s1_109 : (letC i) = 109
  · refine lv_tableIn (tgt := 132) hx hb dX3_value_1 (by rw [s1_109]; decide) (by rw [s1_109]; decide) (by rw [s1_109]; rfl) (by decide) ?_
    refine lv_aload_n hx hb dX3_value_132 rfl (lv_at hl 0 rfl) ?_
    refine S_get (v := .int (u.1 39)) hC hK hP (oS_moment _ _ _ _ _) clX3 in_X3 9 (by decide) (fD39 _ _ _ _) q196 dX3_value_133 ?_
    exact hq _ _ _ dX3_value_136 (by rw [← valS_let u hi]; simp [valS, *])
  by_cases s1_110 : (letC i) = 110
  · refine lv_tableIn (tgt := 112) hx hb dX3_value_1 (by rw [s1_110]; decide) (by rw [s1_110]; decide) (by rw [s1_110]; rfl) (by decide) ?_
    refine lv_aload_n hx hb dX3_value_112 rfl (lv_at hl 0 rfl) ?_
    refine S_get (v := .int (u.1 35)) hC hK hP (oS_moment _ _ _ _ _) clX3 in_X3 5 (by decide) (fD35 _ _ _ _) q192 dX3_value_113 ?_
    exact hq _ _ _ dX3_value_116 (by rw [← valS_let u hi]; simp [valS, *])
  by_cases s1_111 : (letC i) = 111
  · refine lv_tableIn (tgt := 132) hx hb dX3_value_1 (by rw [s1_111]; decide) (by rw [s1_111]; decide) (by rw [s1_111]; rfl) (by decide) ?_
    refine lv_aload_n hx hb dX3_value_132 rfl (lv_at hl 0 rfl) ?_
    refine S_get (v := .int (u.1 39)) hC hK hP (oS_moment _ _ _ _ _) clX3 in_X3 9 (by decide) (fD39 _ _ _ _) q196 dX3_value_133 ?_
    exact hq _ _ _ dX3_value_136 (by rw [← valS_let u hi]; simp [valS, *])
  by_cases s1_112 : (letC i) = 112
  · refine lv_tableIn (tgt := 132) hx hb dX3_value_1 (by rw [s1_112]; decide) (by rw [s1_112]; decide) (by rw [s1_112]; rfl) (by decide) ?_
    refine lv_aload_n hx hb dX3_value_132 rfl (lv_at hl 0 rfl) ?_
    refine S_get (v := .int (u.1 39)) hC hK hP (oS_moment _ _ _ _ _) clX3 in_X3 9 (by decide) (fD39 _ _ _ _) q196 dX3_value_133 ?_
    exact hq _ _ _ dX3_value_136 (by rw [← valS_let u hi]; simp [valS, *])
  by_cases s1_113 : (letC i) = 113
  · refine lv_tableIn (tgt := 132) hx hb dX3_value_1 (by rw [s1_113]; decide) (by rw [s1_113]; decide) (by rw [s1_113]; rfl) (by decide) ?_
    refine lv_aload_n hx hb dX3_value_132 rfl (lv_at hl 0 rfl) ?_
    refine S_get (v := .int (u.1 39)) hC hK hP (oS_moment _ _ _ _ _) clX3 in_X3 9 (by decide) (fD39 _ _ _ _) q196 dX3_value_133 ?_
    exact hq _ _ _ dX3_value_136 (by rw [← valS_let u hi]; simp [valS, *])
  by_cases s1_114 : (letC i) = 114
  · refine lv_tableIn (tgt := 132) hx hb dX3_value_1 (by rw [s1_114]; decide) (by rw [s1_114]; decide) (by rw [s1_114]; rfl) (by decide) ?_
    refine lv_aload_n hx hb dX3_value_132 rfl (lv_at hl 0 rfl) ?_
    refine S_get (v := .int (u.1 39)) hC hK hP (oS_moment _ _ _ _ _) clX3 in_X3 9 (by decide) (fD39 _ _ _ _) q196 dX3_value_133 ?_
    exact hq _ _ _ dX3_value_136 (by rw [← valS_let u hi]; simp [valS, *])
  by_cases s1_115 : (letC i) = 115
  · refine lv_tableIn (tgt := 102) hx hb dX3_value_1 (by rw [s1_115]; decide) (by rw [s1_115]; decide) (by rw [s1_115]; rfl) (by decide) ?_
    refine lv_aload_n hx hb dX3_value_102 rfl (lv_at hl 0 rfl) ?_
    refine S_get (v := .int (u.1 33)) hC hK hP (oS_moment _ _ _ _ _) clX3 in_X3 3 (by decide) (fD33 _ _ _ _) q190 dX3_value_103 ?_
    exact hq _ _ _ dX3_value_106 (by rw [← valS_let u hi]; simp [valS, *])
  by_cases s1_116 : (letC i) = 116
  · refine lv_tableIn (tgt := 127) hx hb dX3_value_1 (by rw [s1_116]; decide) (by rw [s1_116]; decide) (by rw [s1_116]; rfl) (by decide) ?_
    refine lv_aload_n hx hb dX3_value_127 rfl (lv_at hl 0 rfl) ?_
    refine S_get (v := .int (u.1 38)) hC hK hP (oS_moment _ _ _ _ _) clX3 in_X3 8 (by decide) (fD38 _ _ _ _) q195 dX3_value_128 ?_
    exact hq _ _ _ dX3_value_131 (by rw [← valS_let u hi]; simp [valS, *])
  refine lv_tableOut (tgt := 132) hx hb dX3_value_1 (sw_out (x := (letC i)) (lo := 98) (hi := 116) (fun v h1 h2 => by rcases (show v = 98 ∨ v = 99 ∨ v = 100 ∨ v = 101 ∨ v = 102 ∨ v = 103 ∨ v = 104 ∨ v = 105 ∨ v = 106 ∨ v = 107 ∨ v = 108 ∨ v = 109 ∨ v = 110 ∨ v = 111 ∨ v = 112 ∨ v = 113 ∨ v = 114 ∨ v = 115 ∨ v = 116 by omega) with rfl | rfl | rfl | rfl | rfl | rfl | rfl | rfl | rfl | rfl | rfl | rfl | rfl | rfl | rfl | rfl | rfl | rfl | rfl <;> first | exact s1_98 | exact s1_99 | exact s1_100 | exact s1_101 | exact s1_102 | exact s1_103 | exact s1_104 | exact s1_105 | exact s1_106 | exact s1_107 | exact s1_108 | exact s1_109 | exact s1_110 | exact s1_111 | exact s1_112 | exact s1_113 | exact s1_114 | exact s1_115 | exact s1_116)) (by decide) ?_
  refine lv_aload_n hx hb dX3_value_132 rfl (lv_at hl 0 rfl) ?_
  refine S_get (v := .int (u.1 39)) hC hK hP (oS_moment _ _ _ _ _) clX3 in_X3 9 (by decide) (fD39 _ _ _ _) q196 dX3_value_133 ?_
  exact hq _ _ _ dX3_value_136 (by rw [← valS_let u hi]; simp [valS, *])
set_option maxHeartbeats 4000000 in
theorem c_X9_worked_moment (G : GG) (l : Launch) (o : Nat) (R : Nat → Nat) (tx : Nat) (u : MS) (si : Int32) (x : Int32) (y : Int32) (hD : DwS o R) : CXi G l (PwS G o R tx) (AwS o R) yX9_worked cX9_worked 4 .int 2 24 0 0 [.int si, .int x, .int y, .ref (R 2)] (PwS G o R tx u) (fun r w => WPost0 u (workS si x y) r w) := by
  refine CXi.mk RX9 pnX9 rfl (Nat.le_of_ble_eq_true rfl) (fun pg en Rm sg mm ar bw mth cd QQ ls hC hRm hK hX hS hl hq => ?_)
  have hx := hC.1; have hb := hC.2.1; have ho := hC.2.2.2.1; have hts := hC.2.2.2.2
  have hP : PwS G o R tx u sg.heap := hX
  have hl : lv_has ls 4 [(0, .int si), (1, .int x), (2, .int y), (3, .ref (R 2))] := hl
  refine lv_iload_n hx hb dX9_worked_0 rfl (lv_at hl 0 rfl) ?_
  by_cases s1_42 : si = 42
  · refine lv_tableIn (tgt := 40) hx hb dX9_worked_1 (by rw [s1_42]; decide) (by rw [s1_42]; decide) (by rw [s1_42]; rfl) (by decide) ?_
    refine lv_iload_n hx hb dX9_worked_40 rfl (lv_at hl 1 rfl) ?_
    refine lv_iload_n hx hb dX9_worked_41 rfl (lv_at hl 2 rfl) ?_
    refine lv_imul hx hb dX9_worked_42 ?_
    exact hq _ _ _ _ _ _ _ _ dX9_worked_43 hP hS (rfl) (by first | (simp [WPost0, workS, remI, *]; done) | (exfalso; simp_all; done)) (by decide) (by decide)
  by_cases s1_43 : si = 43
  · refine lv_tableIn (tgt := 32) hx hb dX9_worked_1 (by rw [s1_43]; decide) (by rw [s1_43]; decide) (by rw [s1_43]; rfl) (by decide) ?_
    refine lv_iload_n hx hb dX9_worked_32 rfl (lv_at hl 1 rfl) ?_
    refine lv_iload_n hx hb dX9_worked_33 rfl (lv_at hl 2 rfl) ?_
    refine lv_iadd hx hb dX9_worked_34 ?_
    exact hq _ _ _ _ _ _ _ _ dX9_worked_35 hP hS (rfl) (by first | (simp [WPost0, workS, remI, *]; done) | (exfalso; simp_all; done)) (by decide) (by decide)
  by_cases s1_44 : si = 44
  · refine lv_tableIn (tgt := 44) hx hb dX9_worked_1 (by rw [s1_44]; decide) (by rw [s1_44]; decide) (by rw [s1_44]; rfl) (by decide) ?_
    refine lv_iload_n hx hb dX9_worked_44 rfl (lv_at hl 2 rfl) ?_
    refine lv_if_ne (tgt := 53) hx hb dX9_worked_45 (by decide) (fun c45 => ?_) (fun c45 => ?_)
    · refine lv_iload_n hx hb dX9_worked_53 rfl (lv_at hl 2 rfl) ?_
      refine lv_if_ne (tgt := 61) hx hb dX9_worked_54 (by decide) (fun c54 => ?_) (fun c54 => ?_)
      · refine lv_iload_n hx hb dX9_worked_61 rfl (lv_at hl 0 rfl) ?_
        refine lv_bipush (v := 47) hx hb dX9_worked_62 (by decide) ?_
        refine lv_icmp_ne (tgt := 73) hx hb dX9_worked_64 (by decide) (fun c64 => ?_) (fun c64 => ?_)
        · refine lv_iload_n hx hb dX9_worked_73 rfl (lv_at hl 1 rfl) ?_
          refine lv_iload_n hx hb dX9_worked_74 rfl (lv_at hl 2 rfl) ?_
          refine lv_irem hx hb dX9_worked_75 (by assumption) ?_
          exact hq _ _ _ _ _ _ _ _ dX9_worked_76 hP hS (rfl) (by first | (simp [WPost0, workS, remI, *]; done) | (exfalso; simp_all; done)) (by decide) (by decide)
        · refine lv_iload_n hx hb dX9_worked_67 rfl (lv_at hl 1 rfl) ?_
          refine lv_iload_n hx hb dX9_worked_68 rfl (lv_at hl 2 rfl) ?_
          refine lv_idiv hx hb dX9_worked_69 (by assumption) ?_
          refine lv_goto (tgt := 76) hx hb dX9_worked_70 (by decide) ?_
          exact hq _ _ _ _ _ _ _ _ dX9_worked_76 hP hS (rfl) (by first | (simp [WPost0, workS, remI, *]; done) | (exfalso; simp_all; done)) (by decide) (by decide)
      · refine lv_iconst (v := 0) hx hb dX9_worked_57 (by decide) ?_
        refine lv_goto (tgt := 76) hx hb dX9_worked_58 (by decide) ?_
        exact hq _ _ _ _ _ _ _ _ dX9_worked_76 hP hS (rfl) (by first | (simp [WPost0, workS, remI, *]; done) | (exfalso; simp_all; done)) (by decide) (by decide)
    · refine lv_aload_n hx hb dX9_worked_48 rfl (lv_at hl 3 rfl) ?_
      refine lv_iconst (v := 1) hx hb dX9_worked_49 (by decide) ?_
      refine S_putN hC hK hP (hD _ _ _) hS (oS_moment _ _ _ _ _) clX3 in_X3 tyX3_ok nmX3 0 (by decide) (pS30 _ _ _ _ _ _) nq198 rfl rfl (by first | rfl | exact bI_nar _) (by first | rfl | exact bI_fit _) (Nat.le_of_ble_eq_true rfl) dX9_worked_50 (fun H locs hP hS => ?_)
      refine lv_iload_n hx hb dX9_worked_53 rfl (lv_at hl 2 rfl) ?_
      refine lv_if_ne (tgt := 61) hx hb dX9_worked_54 (by decide) (fun c54 => ?_) (fun c54 => ?_)
      · refine lv_iload_n hx hb dX9_worked_61 rfl (lv_at hl 0 rfl) ?_
        refine lv_bipush (v := 47) hx hb dX9_worked_62 (by decide) ?_
        refine lv_icmp_ne (tgt := 73) hx hb dX9_worked_64 (by decide) (fun c64 => ?_) (fun c64 => ?_)
        · refine lv_iload_n hx hb dX9_worked_73 rfl (lv_at hl 1 rfl) ?_
          refine lv_iload_n hx hb dX9_worked_74 rfl (lv_at hl 2 rfl) ?_
          refine lv_irem hx hb dX9_worked_75 (by assumption) ?_
          exact hq _ _ _ _ _ _ _ _ dX9_worked_76 hP hS (rfl) (by first | (simp [WPost0, workS, remI, *]; done) | (exfalso; simp_all; done)) (by decide) (by decide)
        · refine lv_iload_n hx hb dX9_worked_67 rfl (lv_at hl 1 rfl) ?_
          refine lv_iload_n hx hb dX9_worked_68 rfl (lv_at hl 2 rfl) ?_
          refine lv_idiv hx hb dX9_worked_69 (by assumption) ?_
          refine lv_goto (tgt := 76) hx hb dX9_worked_70 (by decide) ?_
          exact hq _ _ _ _ _ _ _ _ dX9_worked_76 hP hS (rfl) (by first | (simp [WPost0, workS, remI, *]; done) | (exfalso; simp_all; done)) (by decide) (by decide)
      · refine lv_iconst (v := 0) hx hb dX9_worked_57 (by decide) ?_
        refine lv_goto (tgt := 76) hx hb dX9_worked_58 (by decide) ?_
        exact hq _ _ _ _ _ _ _ _ dX9_worked_76 hP hS (rfl) (by first | (simp [WPost0, workS, remI, *]; done) | (exfalso; simp_all; done)) (by decide) (by decide)
  by_cases s1_45 : si = 45
  · refine lv_tableIn (tgt := 36) hx hb dX9_worked_1 (by rw [s1_45]; decide) (by rw [s1_45]; decide) (by rw [s1_45]; rfl) (by decide) ?_
    refine lv_iload_n hx hb dX9_worked_36 rfl (lv_at hl 1 rfl) ?_
    refine lv_iload_n hx hb dX9_worked_37 rfl (lv_at hl 2 rfl) ?_
    refine lv_isub hx hb dX9_worked_38 ?_
    exact hq _ _ _ _ _ _ _ _ dX9_worked_39 hP hS (rfl) (by first | (simp [WPost0, workS, remI, *]; done) | (exfalso; simp_all; done)) (by decide) (by decide)
  refine lv_tableOut (tgt := 44) hx hb dX9_worked_1 (sw_out (x := si) (lo := 42) (hi := 45) (fun v h1 h2 => by rcases (show v = 42 ∨ v = 43 ∨ v = 44 ∨ v = 45 by omega) with rfl | rfl | rfl | rfl <;> first | exact s1_42 | exact s1_43 | exact s1_44 | exact s1_45)) (by decide) ?_
  refine lv_iload_n hx hb dX9_worked_44 rfl (lv_at hl 2 rfl) ?_
  refine lv_if_ne (tgt := 53) hx hb dX9_worked_45 (by decide) (fun c45 => ?_) (fun c45 => ?_)
  · refine lv_iload_n hx hb dX9_worked_53 rfl (lv_at hl 2 rfl) ?_
    refine lv_if_ne (tgt := 61) hx hb dX9_worked_54 (by decide) (fun c54 => ?_) (fun c54 => ?_)
    · refine lv_iload_n hx hb dX9_worked_61 rfl (lv_at hl 0 rfl) ?_
      refine lv_bipush (v := 47) hx hb dX9_worked_62 (by decide) ?_
      refine lv_icmp_ne (tgt := 73) hx hb dX9_worked_64 (by decide) (fun c64 => ?_) (fun c64 => ?_)
      · refine lv_iload_n hx hb dX9_worked_73 rfl (lv_at hl 1 rfl) ?_
        refine lv_iload_n hx hb dX9_worked_74 rfl (lv_at hl 2 rfl) ?_
        refine lv_irem hx hb dX9_worked_75 (by assumption) ?_
        exact hq _ _ _ _ _ _ _ _ dX9_worked_76 hP hS (rfl) (by first | (simp [WPost0, workS, remI, *]; done) | (exfalso; simp_all; done)) (by decide) (by decide)
      · refine lv_iload_n hx hb dX9_worked_67 rfl (lv_at hl 1 rfl) ?_
        refine lv_iload_n hx hb dX9_worked_68 rfl (lv_at hl 2 rfl) ?_
        refine lv_idiv hx hb dX9_worked_69 (by assumption) ?_
        refine lv_goto (tgt := 76) hx hb dX9_worked_70 (by decide) ?_
        exact hq _ _ _ _ _ _ _ _ dX9_worked_76 hP hS (rfl) (by first | (simp [WPost0, workS, remI, *]; done) | (exfalso; simp_all; done)) (by decide) (by decide)
    · refine lv_iconst (v := 0) hx hb dX9_worked_57 (by decide) ?_
      refine lv_goto (tgt := 76) hx hb dX9_worked_58 (by decide) ?_
      exact hq _ _ _ _ _ _ _ _ dX9_worked_76 hP hS (rfl) (by first | (simp [WPost0, workS, remI, *]; done) | (exfalso; simp_all; done)) (by decide) (by decide)
  · refine lv_aload_n hx hb dX9_worked_48 rfl (lv_at hl 3 rfl) ?_
    refine lv_iconst (v := 1) hx hb dX9_worked_49 (by decide) ?_
    refine S_putN hC hK hP (hD _ _ _) hS (oS_moment _ _ _ _ _) clX3 in_X3 tyX3_ok nmX3 0 (by decide) (pS30 _ _ _ _ _ _) nq198 rfl rfl (by first | rfl | exact bI_nar _) (by first | rfl | exact bI_fit _) (Nat.le_of_ble_eq_true rfl) dX9_worked_50 (fun H locs hP hS => ?_)
    refine lv_iload_n hx hb dX9_worked_53 rfl (lv_at hl 2 rfl) ?_
    refine lv_if_ne (tgt := 61) hx hb dX9_worked_54 (by decide) (fun c54 => ?_) (fun c54 => ?_)
    · refine lv_iload_n hx hb dX9_worked_61 rfl (lv_at hl 0 rfl) ?_
      refine lv_bipush (v := 47) hx hb dX9_worked_62 (by decide) ?_
      refine lv_icmp_ne (tgt := 73) hx hb dX9_worked_64 (by decide) (fun c64 => ?_) (fun c64 => ?_)
      · refine lv_iload_n hx hb dX9_worked_73 rfl (lv_at hl 1 rfl) ?_
        refine lv_iload_n hx hb dX9_worked_74 rfl (lv_at hl 2 rfl) ?_
        refine lv_irem hx hb dX9_worked_75 (by assumption) ?_
        exact hq _ _ _ _ _ _ _ _ dX9_worked_76 hP hS (rfl) (by first | (simp [WPost0, workS, remI, *]; done) | (exfalso; simp_all; done)) (by decide) (by decide)
      · refine lv_iload_n hx hb dX9_worked_67 rfl (lv_at hl 1 rfl) ?_
        refine lv_iload_n hx hb dX9_worked_68 rfl (lv_at hl 2 rfl) ?_
        refine lv_idiv hx hb dX9_worked_69 (by assumption) ?_
        refine lv_goto (tgt := 76) hx hb dX9_worked_70 (by decide) ?_
        exact hq _ _ _ _ _ _ _ _ dX9_worked_76 hP hS (rfl) (by first | (simp [WPost0, workS, remI, *]; done) | (exfalso; simp_all; done)) (by decide) (by decide)
    · refine lv_iconst (v := 0) hx hb dX9_worked_57 (by decide) ?_
      refine lv_goto (tgt := 76) hx hb dX9_worked_58 (by decide) ?_
      exact hq _ _ _ _ _ _ _ _ dX9_worked_76 hP hS (rfl) (by first | (simp [WPost0, workS, remI, *]; done) | (exfalso; simp_all; done)) (by decide) (by decide)
