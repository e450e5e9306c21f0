set_option maxRecDepth 100000
/-! constructors, with what they make -/
theorem pnX2 : plainName RX2 = true := by decide
theorem mdX2_init : MD yX2_init 0 := by unfold MD; decide +kernel
def KP_X5 (G : GG) (a h0 : Nat)  (_ : Unit) (H : Heap) : Prop := va_P G.1 vwCl [(a, .inr (4, [.ref h0, .ref (h0 + 1), .ref (h0 + 2), .int 0]))] H ∧ va_P G.1 vwCl [(h0, .inl (G.2 0, 16, .inl (fun _ => 0)))] H ∧ va_P G.1 vwCl [((h0 + 1), .inl (G.2 4, 16, .inr (.inr (.inr (.inr (fun _ => none))))))] H ∧ va_P G.1 vwCl [((h0 + 2), .inl (G.2 5, 16, .inr (.inr (.inr (.inr (fun _ => none))))))] H ∧ H.size = h0 + 3
theorem c_X5_init (G : GG) (l : Launch) (a h0 : Nat)   (ha : a < h0) : CXv G l (KP_X5 G a h0) (fun q => q = a ∨ h0 ≤ q) yX5_init cX5_init 1 2 24 3 48 [.ref a] (fun H => va_P G.1 vwCl [(a, .inr (4, [.null, .null, .null, .int 0]))] H ∧ H.size = h0) (fun _ => True) := by
  refine CXv.mkI RX5 pnX5 rfl rfl (Nat.le_of_ble_eq_true rfl) (fun pg en Rm sg mm ar bw mth cd QQ ls hC hmn hRm hK hX hS hl hq => ?_)
  obtain ⟨hN_a, hz⟩ := hX
  have hz : sg.heap.size = h0 + 0 := hz
  have hx := hC.1; have hb := hC.2.1; have ho := hC.2.2.2.1; have hts := hC.2.2.2.2
  have hl : lv_has ls 1 [(0, .ref a)] := hl
  refine lv_aload_n hx hb dX5_init_0 rfl (lv_at hl 0 rfl) ?_
  refine W.objInit hx hb ho (hts _ q264) (hts _ q142) (hts _ q143) rfl (hl.1.trans hC.2.2.1.symm) rfl dX5_init_1 (by subst hRm; exact Nat.le_of_ble_eq_true rfl) (by subst hRm; exact Nat.le_of_ble_eq_true rfl) ?_
  refine lv_aload_n hx hb dX5_init_4 rfl (lv_at hl 0 rfl) ?_
  refine lv_bipush (v := 16) hx hb dX5_init_5 (by decide) ?_
  refine K_newa (atype := .int) (t0 := 0) (a0 := (16, .inl (fun _ => 0))) hC hK hS q178 rfl (fun _ => rfl) (by decide) rfl (by decide) hz (by subst hRm; exact Nat.le_of_ble_eq_true rfl) (by subst hRm; exact Nat.le_of_ble_eq_true rfl) dX5_init_7 (fun H hN_n7 hz hF hS => ?_)
  have hz : Array.size H = h0 + 1 := hz
  have hN_a := hN_a.fr1 hF (fun z => z)
  refine K_putF (fs' := [.ref h0, .null, .null, .int 0]) hC hmn hK hN_a (Or.inl rfl) hS clX5 in_X5 tyX5_ok nmX5 0 (by decide) rfl q269 rfl rfl rfl rfl rfl (Nat.le_of_ble_eq_true rfl) dX5_init_9 (fun H locs hN_a hS hz9 hF => ?_)
  have hz : Array.size H = h0 + 1 := hz9.trans hz
  have hN_n7 := hN_n7.fr1 hF (fun z => by have z : h0 = a := z; omega)
  refine lv_aload_n hx hb dX5_init_12 rfl (lv_at hl 0 rfl) ?_
  refine lv_bipush (v := 16) hx hb dX5_init_13 (by decide) ?_
  refine K_newq (t0 := 4) hC hK hS q265 hK.2.2.2.2.2.1 rfl (by decide) rfl (by decide) hz (by subst hRm; exact Nat.le_of_ble_eq_true rfl) (by subst hRm; exact Nat.le_of_ble_eq_true rfl) dX5_init_15 (fun H hN_n15 hz hF hS => ?_)
  have hz : Array.size H = h0 + 2 := hz
  have hN_a := hN_a.fr1 hF (fun z => z)
  have hN_n7 := hN_n7.fr1 hF (fun z => z)
  refine K_putF (fs' := [.ref h0, .ref (h0 + 1), .null, .int 0]) hC hmn hK hN_a (Or.inl rfl) hS clX5 in_X5 tyX5_ok nmX5 1 (by decide) rfl q271 rfl rfl rfl rfl rfl (Nat.le_of_ble_eq_true rfl) dX5_init_18 (fun H locs hN_a hS hz9 hF => ?_)
  have hz : Array.size H = h0 + 2 := hz9.trans hz
  have hN_n7 := hN_n7.fr1 hF (fun z => by have z : h0 = a := z; omega)
  have hN_n15 := hN_n15.fr1 hF (fun z => by have z : (h0 + 1) = a := z; omega)
  refine lv_aload_n hx hb dX5_init_21 rfl (lv_at hl 0 rfl) ?_
  refine lv_bipush (v := 16) hx hb dX5_init_22 (by decide) ?_
  refine K_newq (t0 := 5) hC hK hS q267 hK.2.2.2.2.2.2 rfl (by decide) rfl (by decide) hz (by subst hRm; exact Nat.le_of_ble_eq_true rfl) (by subst hRm; exact Nat.le_of_ble_eq_true rfl) dX5_init_24 (fun H hN_n24 hz hF hS => ?_)
  have hz : Array.size H = h0 + 3 := hz
  have hN_a := hN_a.fr1 hF (fun z => z)
  have hN_n7 := hN_n7.fr1 hF (fun z => z)
  have hN_n15 := hN_n15.fr1 hF (fun z => z)
  refine K_putF (fs' := [.ref h0, .ref (h0 + 1), .ref (h0 + 2), .int 0]) hC hmn hK hN_a (Or.inl rfl) hS clX5 in_X5 tyX5_ok nmX5 2 (by decide) rfl q273 rfl rfl rfl rfl rfl (Nat.le_of_ble_eq_true rfl) dX5_init_27 (fun H locs hN_a hS hz9 hF => ?_)
  have hz : Array.size H = h0 + 3 := hz9.trans hz
  have hN_n7 := hN_n7.fr1 hF (fun z => by have z : h0 = a := z; omega)
  have hN_n15 := hN_n15.fr1 hF (fun z => by have z : (h0 + 1) = a := z; omega)
  have hN_n24 := hN_n24.fr1 hF (fun z => by have z : (h0 + 2) = a := z; omega)
  exact hq _ _ () _ _ _ _ dX5_init_30 ⟨hN_a, hN_n7, hN_n15, hN_n24, hz⟩ hS trivial (Nat.le_of_ble_eq_true rfl) (Nat.le_of_ble_eq_true rfl)
def KP_X7 (G : GG) (a h0 : Nat) (o : Nat) (n : Int32) (_ : Unit) (H : Heap) : Prop := va_P G.1 vwCl [(a, .inr (6, [.int n, .ref h0, .int 0, .int 0, .int 0, .int 0, .ref o]))] H ∧ va_P G.1 vwCl [(h0, .inr (4, [.ref (h0 + 1), .ref (h0 + 2), .ref (h0 + 3), .int 0]))] H ∧ va_P G.1 vwCl [((h0 + 1), .inl (G.2 0, 16, .inl (fun _ => 0)))] H ∧ va_P G.1 vwCl [((h0 + 2), .inl (G.2 4, 16, .inr (.inr (.inr (.inr (fun _ => none))))))] H ∧ va_P G.1 vwCl [((h0 + 3), .inl (G.2 5, 16, .inr (.inr (.inr (.inr (fun _ => none))))))] H ∧ H.size = h0 + 4
theorem c_X7_init (G : GG) (l : Launch) (a h0 : Nat) (o : Nat) (n : Int32)  (ha : a < h0) : CXv G l (KP_X7 G a h0 o n) (fun q => q = a ∨ h0 ≤ q) yX7_init cX7_init 3 3 44 4 52 [.ref a, .ref o, .int n] (fun H => va_P G.1 vwCl [(a, .inr (6, [.int 0, .null, .int 0, .int 0, .int 0, .int 0, .null]))] H ∧ H.size = h0) (fun _ => True) := by
  refine CXv.mkI RX7 pnX7 rfl rfl (Nat.le_of_ble_eq_true rfl) (fun pg en Rm sg mm ar bw mth cd QQ ls hC hmn hRm hK hX hS hl hq => ?_)
  obtain ⟨hN_a, hz⟩ := hX
  have hz : sg.heap.size = h0 + 0 := hz
  have hx := hC.1; have hb := hC.2.1; have ho := hC.2.2.2.1; have hts := hC.2.2.2.2
  have hl : lv_has ls 3 [(0, .ref a), (1, .ref o), (2, .int n)] := hl
  refine lv_aload_n hx hb dX7_init_0 rfl (lv_at hl 0 rfl) ?_
  refine lv_aload_n hx hb dX7_init_1 rfl (lv_at hl 1 rfl) ?_
  refine K_putF (fs' := [.int 0, .null, .int 0, .int 0, .int 0, .int 0, .ref o]) hC hmn hK hN_a (Or.inl rfl) hS clX7 in_X7 tyX7_ok nmX7 6 (by decide) rfl q403 rfl rfl rfl rfl rfl (Nat.le_of_ble_eq_true rfl) dX7_init_2 (fun H locs hN_a hS hz9 hF => ?_)
  have hz : Array.size H = h0 + 0 := hz9.trans hz
  refine lv_aload_n hx hb dX7_init_5 rfl (lv_at hl 0 rfl) ?_
  refine W.objInit hx hb ho (hts _ q393) (hts _ q142) (hts _ q143) rfl (hl.1.trans hC.2.2.1.symm) rfl dX7_init_6 (by subst hRm; exact Nat.le_of_ble_eq_true rfl) (by subst hRm; exact Nat.le_of_ble_eq_true rfl) ?_
  refine lv_aload_n hx hb dX7_init_9 rfl (lv_at hl 0 rfl) ?_
  refine K_new tyX5 hC hK hS in_X5 tyX5_ok q394 q260 q115 clX5 (fs := [.null, .null, .null, .int 0]) (fun j hj => by rcases (show j = 0 ∨ j = 1 ∨ j = 2 ∨ j = 3 by omega) with rfl | rfl | rfl | rfl <;> rfl) hz (by subst hRm; exact Nat.le_of_ble_eq_true rfl) (by subst hRm; exact Nat.le_of_ble_eq_true rfl) dX7_init_10 (fun H hN_n10 hz hF hS => ?_)
  have hz : Array.size H = h0 + 1 := hz
  have hN_a := hN_a.fr1 hF (fun z => z)
  refine lv_dup hx hb dX7_init_13 rfl ?_
  refine CXv.go (rcIN (As := []) hC hl (c_X5_init G l h0 (h0 + 1) (by omega)) hK ⟨hN_n10, hz⟩ rfl nq395 q262 q115 q263 mdX5_init (room_v hRm (Nat.le_of_ble_eq_true rfl) (Nat.le_of_ble_eq_true rfl) (Nat.le_of_ble_eq_true rfl) (Nat.le_of_ble_eq_true rfl)) rfl rfl dX7_init_14) hS (fun q h => h.elim (fun z => Or.inr (by omega)) (fun z => Or.inr (Nat.le_trans (by omega) z))) (fun w14 H locs hpo hP hz1 hk hS => ?_)
  obtain ⟨hN_n10, hN_n10_1, hN_n10_2, hN_n10_3, hz⟩ := hP
  have hF : Fr (fun q => q = h0 ∨ (h0 + 1) ≤ q) _ _ := ⟨hz1, hk⟩
  have hz : Array.size H = h0 + 4 := hz
  have hN_a := hN_a.fr1 hF (fun z => by have z : a = h0 ∨ (h0 + 1) ≤ a := z; omega)
  have hN_n10 : va_P G.1 vwCl [(h0, .inr (4, [.ref (h0 + 1), .ref (h0 + 2), .ref (h0 + 3), .int 0]))] H := hN_n10
  have hN_n10_1 : va_P G.1 vwCl [((h0 + 1), .inl (G.2 0, 16, .inl (fun _ => 0)))] H := hN_n10_1
  have hN_n10_2 : va_P G.1 vwCl [((h0 + 2), .inl (G.2 4, 16, .inr (.inr (.inr (.inr (fun _ => none))))))] H := hN_n10_2
  have hN_n10_3 : va_P G.1 vwCl [((h0 + 3), .inl (G.2 5, 16, .inr (.inr (.inr (.inr (fun _ => none))))))] H := hN_n10_3
  refine K_putF (fs' := [.int 0, .ref h0, .int 0, .int 0, .int 0, .int 0, .ref o]) hC hmn hK hN_a (Or.inl rfl) hS clX7 in_X7 tyX7_ok nmX7 1 (by decide) rfl q397 rfl rfl rfl rfl rfl (Nat.le_of_ble_eq_true rfl) dX7_init_17 (fun H locs hN_a hS hz9 hF => ?_)
  have hz : Array.size H = h0 + 4 := hz9.trans hz
  have hN_n10 := hN_n10.fr1 hF (fun z => by have z : h0 = a := z; omega)
  have hN_n10_1 := hN_n10_1.fr1 hF (fun z => by have z : (h0 + 1) = a := z; omega)
  have hN_n10_2 := hN_n10_2.fr1 hF (fun z => by have z : (h0 + 2) = a := z; omega)
  have hN_n10_3 := hN_n10_3.fr1 hF (fun z => by have z : (h0 + 3) = a := z; omega)
  refine lv_aload_n hx hb dX7_init_20 rfl (lv_at hl 0 rfl) ?_
  refine lv_iload_n hx hb dX7_init_21 rfl (lv_at hl 2 rfl) ?_
  refine K_putF (fs' := [.int n, .ref h0, .int 0, .int 0, .int 0, .int 0, .ref o]) hC hmn hK hN_a (Or.inl rfl) hS clX7 in_X7 tyX7_ok nmX7 0 (by decide) rfl q396 rfl rfl rfl rfl rfl (Nat.le_of_ble_eq_true rfl) dX7_init_22 (fun H locs hN_a hS hz9 hF => ?_)
  have hz : Array.size H = h0 + 4 := hz9.trans hz
  have hN_n10 := hN_n10.fr1 hF (fun z => by have z : h0 = a := z; omega)
  have hN_n10_1 := hN_n10_1.fr1 hF (fun z => by have z : (h0 + 1) = a := z; omega)
  have hN_n10_2 := hN_n10_2.fr1 hF (fun z => by have z : (h0 + 2) = a := z; omega)
  have hN_n10_3 := hN_n10_3.fr1 hF (fun z => by have z : (h0 + 3) = a := z; omega)
  exact hq _ _ () _ _ _ _ dX7_init_25 ⟨hN_a, hN_n10, hN_n10_1, hN_n10_2, hN_n10_3, hz⟩ hS trivial (Nat.le_of_ble_eq_true rfl) (Nat.le_of_ble_eq_true rfl)
def KP_X1 (G : GG) (a h0 : Nat)  (_ : Unit) (H : Heap) : Prop := va_P G.1 vwCl [(a, .inr (1, [.ref h0, .ref (h0 + 1), .ref (h0 + 2), .ref (h0 + 3), .int 0, .int 0]))] H ∧ va_P G.1 vwCl [(h0, .inl (G.2 0, 16, .inl (fun _ => 0)))] H ∧ va_P G.1 vwCl [((h0 + 1), .inl (G.2 0, 16, .inl (fun _ => 0)))] H ∧ va_P G.1 vwCl [((h0 + 2), .inl (G.2 0, 16, .inl (fun _ => 0)))] H ∧ va_P G.1 vwCl [((h0 + 3), .inl (G.2 0, 16, .inl (fun _ => 0)))] H ∧ H.size = h0 + 4
theorem c_X1_init (G : GG) (l : Launch) (a h0 : Nat)   (ha : a < h0) : CXv G l (KP_X1 G a h0) (fun q => q = a ∨ h0 ≤ q) yX1_init cX1_init 1 2 24 4 64 [.ref a] (fun H => va_P G.1 vwCl [(a, .inr (1, [.null, .null, .null, .null, .int 0, .int 0]))] H ∧ H.size = h0) (fun _ => True) := by
  refine CXv.mkI RX1 pnX1 rfl rfl (Nat.le_of_ble_eq_true rfl) (fun pg en Rm sg mm ar bw mth cd QQ ls hC hmn hRm hK hX hS hl hq => ?_)
  obtain ⟨hN_a, hz⟩ := hX
  have hz : sg.heap.size = h0 + 0 := hz
  have hx := hC.1; have hb := hC.2.1; have ho := hC.2.2.2.1; have hts := hC.2.2.2.2
  have hl : lv_has ls 1 [(0, .ref a)] := hl
  refine lv_aload_n hx hb dX1_init_0 rfl (lv_at hl 0 rfl) ?_
  refine W.objInit hx hb ho (hts _ q149) (hts _ q142) (hts _ q143) rfl (hl.1.trans hC.2.2.1.symm) rfl dX1_init_1 (by subst hRm; exact Nat.le_of_ble_eq_true rfl) (by subst hRm; exact Nat.le_of_ble_eq_true rfl) ?_
  refine lv_aload_n hx hb dX1_init_4 rfl (lv_at hl 0 rfl) ?_
  refine lv_bipush (v := 16) hx hb dX1_init_5 (by decide) ?_
  refine K_newa (atype := .int) (t0 := 0) (a0 := (16, .inl (fun _ => 0))) hC hK hS q178 rfl (fun _ => rfl) (by decide) rfl (by decide) hz (by subst hRm; exact Nat.le_of_ble_eq_true rfl) (by subst hRm; exact Nat.le_of_ble_eq_true rfl) dX1_init_7 (fun H hN_n7 hz hF hS => ?_)
  have hz : Array.size H = h0 + 1 := hz
  have hN_a := hN_a.fr1 hF (fun z => z)
  refine K_putF (fs' := [.ref h0, .null, .null, .null, .int 0, .int 0]) hC hmn hK hN_a (Or.inl rfl) hS clX1 in_X1 tyX1_ok nmX1 0 (by decide) rfl q150 rfl rfl rfl rfl rfl (Nat.le_of_ble_eq_true rfl) dX1_init_9 (fun H locs hN_a hS hz9 hF => ?_)
  have hz : Array.size H = h0 + 1 := hz9.trans hz
  have hN_n7 := hN_n7.fr1 hF (fun z => by have z : h0 = a := z; omega)
  refine lv_aload_n hx hb dX1_init_12 rfl (lv_at hl 0 rfl) ?_
  refine lv_bipush (v := 16) hx hb dX1_init_13 (by decide) ?_
  refine K_newa (atype := .int) (t0 := 0) (a0 := (16, .inl (fun _ => 0))) hC hK hS q178 rfl (fun _ => rfl) (by decide) rfl (by decide) hz (by subst hRm; exact Nat.le_of_ble_eq_true rfl) (by subst hRm; exact Nat.le_of_ble_eq_true rfl) dX1_init_15 (fun H hN_n15 hz hF hS => ?_)
  have hz : Array.size H = h0 + 2 := hz
  have hN_a := hN_a.fr1 hF (fun z => z)
  have hN_n7 := hN_n7.fr1 hF (fun z => z)
  refine K_putF (fs' := [.ref h0, .ref (h0 + 1), .null, .null, .int 0, .int 0]) hC hmn hK hN_a (Or.inl rfl) hS clX1 in_X1 tyX1_ok nmX1 1 (by decide) rfl q153 rfl rfl rfl rfl rfl (Nat.le_of_ble_eq_true rfl) dX1_init_17 (fun H locs hN_a hS hz9 hF => ?_)
  have hz : Array.size H = h0 + 2 := hz9.trans hz
  have hN_n7 := hN_n7.fr1 hF (fun z => by have z : h0 = a := z; omega)
  have hN_n15 := hN_n15.fr1 hF (fun z => by have z : (h0 + 1) = a := z; omega)
  refine lv_aload_n hx hb dX1_init_20 rfl (lv_at hl 0 rfl) ?_
  refine lv_bipush (v := 16) hx hb dX1_init_21 (by decide) ?_
  refine K_newa (atype := .int) (t0 := 0) (a0 := (16, .inl (fun _ => 0))) hC hK hS q178 rfl (fun _ => rfl) (by decide) rfl (by decide) hz (by subst hRm; exact Nat.le_of_ble_eq_true rfl) (by subst hRm; exact Nat.le_of_ble_eq_true rfl) dX1_init_23 (fun H hN_n23 hz hF hS => ?_)
  have hz : Array.size H = h0 + 3 := hz
  have hN_a := hN_a.fr1 hF (fun z => z)
  have hN_n7 := hN_n7.fr1 hF (fun z => z)
  have hN_n15 := hN_n15.fr1 hF (fun z => z)
  refine K_putF (fs' := [.ref h0, .ref (h0 + 1), .ref (h0 + 2), .null, .int 0, .int 0]) hC hmn hK hN_a (Or.inl rfl) hS clX1 in_X1 tyX1_ok nmX1 2 (by decide) rfl q155 rfl rfl rfl rfl rfl (Nat.le_of_ble_eq_true rfl) dX1_init_25 (fun H locs hN_a hS hz9 hF => ?_)
  have hz : Array.size H = h0 + 3 := hz9.trans hz
  have hN_n7 := hN_n7.fr1 hF (fun z => by have z : h0 = a := z; omega)
  have hN_n15 := hN_n15.fr1 hF (fun z => by have z : (h0 + 1) = a := z; omega)
  have hN_n23 := hN_n23.fr1 hF (fun z => by have z : (h0 + 2) = a := z; omega)
  refine lv_aload_n hx hb dX1_init_28 rfl (lv_at hl 0 rfl) ?_
  refine lv_bipush (v := 16) hx hb dX1_init_29 (by decide) ?_
  refine K_newa (atype := .int) (t0 := 0) (a0 := (16, .inl (fun _ => 0))) hC hK hS q178 rfl (fun _ => rfl) (by decide) rfl (by decide) hz (by subst hRm; exact Nat.le_of_ble_eq_true rfl) (by subst hRm; exact Nat.le_of_ble_eq_true rfl) dX1_init_31 (fun H hN_n31 hz hF hS => ?_)
  have hz : Array.size H = h0 + 4 := hz
  have hN_a := hN_a.fr1 hF (fun z => z)
  have hN_n7 := hN_n7.fr1 hF (fun z => z)
  have hN_n15 := hN_n15.fr1 hF (fun z => z)
  have hN_n23 := hN_n23.fr1 hF (fun z => z)
  refine K_putF (fs' := [.ref h0, .ref (h0 + 1), .ref (h0 + 2), .ref (h0 + 3), .int 0, .int 0]) hC hmn hK hN_a (Or.inl rfl) hS clX1 in_X1 tyX1_ok nmX1 3 (by decide) rfl q157 rfl rfl rfl rfl rfl (Nat.le_of_ble_eq_true rfl) dX1_init_33 (fun H locs hN_a hS hz9 hF => ?_)
  have hz : Array.size H = h0 + 4 := hz9.trans hz
  have hN_n7 := hN_n7.fr1 hF (fun z => by have z : h0 = a := z; omega)
  have hN_n15 := hN_n15.fr1 hF (fun z => by have z : (h0 + 1) = a := z; omega)
  have hN_n23 := hN_n23.fr1 hF (fun z => by have z : (h0 + 2) = a := z; omega)
  have hN_n31 := hN_n31.fr1 hF (fun z => by have z : (h0 + 3) = a := z; omega)
  exact hq _ _ () _ _ _ _ dX1_init_36 ⟨hN_a, hN_n7, hN_n15, hN_n23, hN_n31, hz⟩ hS trivial (Nat.le_of_ble_eq_true rfl) (Nat.le_of_ble_eq_true rfl)
def KP_X4 (G : GG) (a h0 : Nat) (o : Nat) (_ : Unit) (H : Heap) : Prop := va_P G.1 vwCl [(a, .inr (3, [.ref h0, .int (-1), .int 0, .int 0, .int 0, .int 0, .int 0, .ref o]))] H ∧ va_P G.1 vwCl [(h0, .inl (G.2 0, 16, .inl (fun _ => 0)))] H ∧ H.size = h0 + 1
theorem c_X4_init (G : GG) (l : Launch) (a h0 : Nat) (o : Nat)  (ha : a < h0) : CXv G l (KP_X4 G a h0 o) (fun q => q = a ∨ h0 ≤ q) yX4_init cX4_init 2 2 24 1 16 [.ref a, .ref o] (fun H => va_P G.1 vwCl [(a, .inr (3, [.null, .int 0, .int 0, .int 0, .int 0, .int 0, .int 0, .null]))] H ∧ H.size = h0) (fun _ => True) := by
  refine CXv.mkI RX4 pnX4 rfl rfl (Nat.le_of_ble_eq_true rfl) (fun pg en Rm sg mm ar bw mth cd QQ ls hC hmn hRm hK hX hS hl hq => ?_)
  obtain ⟨hN_a, hz⟩ := hX
  have hz : sg.heap.size = h0 + 0 := hz
  have hx := hC.1; have hb := hC.2.1; have ho := hC.2.2.2.1; have hts := hC.2.2.2.2
  have hl : lv_has ls 2 [(0, .ref a), (1, .ref o)] := hl
  refine lv_aload_n hx hb dX4_init_0 rfl (lv_at hl 0 rfl) ?_
  refine lv_aload_n hx hb dX4_init_1 rfl (lv_at hl 1 rfl) ?_
  refine K_putF (fs' := [.null, .int 0, .int 0, .int 0, .int 0, .int 0, .int 0, .ref o]) hC hmn hK hN_a (Or.inl rfl) hS clX4 in_X4 tyX4_ok nmX4 7 (by decide) rfl q241 rfl rfl rfl rfl rfl (Nat.le_of_ble_eq_true rfl) dX4_init_2 (fun H locs hN_a hS hz9 hF => ?_)
  have hz : Array.size H = h0 + 0 := hz9.trans hz
  refine lv_aload_n hx hb dX4_init_5 rfl (lv_at hl 0 rfl) ?_
  refine W.objInit hx hb ho (hts _ q226) (hts _ q142) (hts _ q143) rfl (hl.1.trans hC.2.2.1.symm) rfl dX4_init_6 (by subst hRm; exact Nat.le_of_ble_eq_true rfl) (by subst hRm; exact Nat.le_of_ble_eq_true rfl) ?_
  refine lv_aload_n hx hb dX4_init_9 rfl (lv_at hl 0 rfl) ?_
  refine lv_bipush (v := 16) hx hb dX4_init_10 (by decide) ?_
  refine K_newa (atype := .int) (t0 := 0) (a0 := (16, .inl (fun _ => 0))) hC hK hS q178 rfl (fun _ => rfl) (by decide) rfl (by decide) hz (by subst hRm; exact Nat.le_of_ble_eq_true rfl) (by subst hRm; exact Nat.le_of_ble_eq_true rfl) dX4_init_12 (fun H hN_n12 hz hF hS => ?_)
  have hz : Array.size H = h0 + 1 := hz
  have hN_a := hN_a.fr1 hF (fun z => z)
  refine K_putF (fs' := [.ref h0, .int 0, .int 0, .int 0, .int 0, .int 0, .int 0, .ref o]) hC hmn hK hN_a (Or.inl rfl) hS clX4 in_X4 tyX4_ok nmX4 0 (by decide) rfl q227 rfl rfl rfl rfl rfl (Nat.le_of_ble_eq_true rfl) dX4_init_14 (fun H locs hN_a hS hz9 hF => ?_)
  have hz : Array.size H = h0 + 1 := hz9.trans hz
  have hN_n12 := hN_n12.fr1 hF (fun z => by have z : h0 = a := z; omega)
  refine lv_aload_n hx hb dX4_init_17 rfl (lv_at hl 0 rfl) ?_
  refine lv_iconst (v := (-1)) hx hb dX4_init_18 (by decide) ?_
  refine K_put (fs' := [.ref h0, .int (-1), .int 0, .int 0, .int 0, .int 0, .int 0, .ref o]) hC hK hN_a (Or.inl rfl) hS clX4 in_X4 tyX4_ok nmX4 1 (by decide) rfl q229 rfl rfl rfl rfl (Nat.le_of_ble_eq_true rfl) dX4_init_19 (fun H locs hN_a hS hz9 hF => ?_)
  have hz : Array.size H = h0 + 1 := hz9.trans hz
  have hN_n12 := hN_n12.fr1 hF (fun z => by have z : h0 = a := z; omega)
  exact hq _ _ () _ _ _ _ dX4_init_22 ⟨hN_a, hN_n12, hz⟩ hS trivial (Nat.le_of_ble_eq_true rfl) (Nat.le_of_ble_eq_true rfl)
def KP_X2_X3 (G : GG) (a h0 : Nat)  (_ : Unit) (H : Heap) : Prop := va_P G.1 vwCl [(a, .inr (2, [.int 0, .int 0, .int 0, .int 0, .int 0, .int 0, .int 0, .int 0, .int 0, .int 0]))] H ∧ H.size = h0 + 0
theorem c_X2_X3_init (G : GG) (l : Launch) (a h0 : Nat)   (ha : a < h0) : CXv G l (KP_X2_X3 G a h0) (fun q => q = a ∨ h0 ≤ q) yX2_init cX2_init 1 2 24 0 0 [.ref a] (fun H => va_P G.1 vwCl [(a, .inr (2, [.int 0, .int 0, .int 0, .int 0, .int 0, .int 0, .int 0, .int 0, .int 0, .int 0]))] H ∧ H.size = h0) (fun _ => True) := by
  refine CXv.mkI RX2 pnX2 rfl rfl (Nat.le_of_ble_eq_true rfl) (fun pg en Rm sg mm ar bw mth cd QQ ls hC hmn hRm hK hX hS hl hq => ?_)
  obtain ⟨hN_a, hz⟩ := hX
  have hz : sg.heap.size = h0 + 0 := hz
  have hx := hC.1; have hb := hC.2.1; have ho := hC.2.2.2.1; have hts := hC.2.2.2.2
  have hl : lv_has ls 1 [(0, .ref a)] := hl
  refine lv_aload_n hx hb dX2_init_0 rfl (lv_at hl 0 rfl) ?_
  refine W.objInit hx hb ho (hts _ q187) (hts _ q142) (hts _ q143) rfl (hl.1.trans hC.2.2.1.symm) rfl dX2_init_1 (by subst hRm; exact Nat.le_of_ble_eq_true rfl) (by subst hRm; exact Nat.le_of_ble_eq_true rfl) ?_
  exact hq _ _ () _ _ _ _ dX2_init_4 ⟨hN_a, hz⟩ hS trivial (Nat.le_of_ble_eq_true rfl) (Nat.le_of_ble_eq_true rfl)
def KP_X3 (G : GG) (a h0 : Nat)  (_ : Unit) (H : Heap) : Prop := va_P G.1 vwCl [(a, .inr (2, [.int 0, .int 0, .int 0, .int 0, .int 0, .int 0, .int 0, .int 0, .int 0, .int 0]))] H ∧ H.size = h0 + 0
theorem c_X3_init (G : GG) (l : Launch) (a h0 : Nat)   (ha : a < h0) : CXv G l (KP_X3 G a h0) (fun q => q = a ∨ h0 ≤ q) yX3_init cX3_init 1 3 44 0 0 [.ref a] (fun H => va_P G.1 vwCl [(a, .inr (2, [.int 0, .int 0, .int 0, .int 0, .int 0, .int 0, .int 0, .int 0, .int 0, .int 0]))] H ∧ H.size = h0) (fun _ => True) := by
  refine CXv.mkI RX3 pnX3 rfl rfl (Nat.le_of_ble_eq_true rfl) (fun pg en Rm sg mm ar bw mth cd QQ ls hC hmn hRm hK hX hS hl hq => ?_)
  obtain ⟨hN_a, hz⟩ := hX
  have hz : sg.heap.size = h0 + 0 := hz
  have hx := hC.1; have hb := hC.2.1; have ho := hC.2.2.2.1; have hts := hC.2.2.2.2
  have hl : lv_has ls 1 [(0, .ref a)] := hl
  refine lv_aload_n hx hb dX3_init_0 rfl (lv_at hl 0 rfl) ?_
  refine CXv.go (rcIN (As := []) hC hl (c_X2_X3_init G l a h0 (by omega)) hK ⟨hN_a, hz⟩ rfl nq184 q185 q112 q186 mdX2_init (room_v hRm (Nat.le_of_ble_eq_true rfl) (Nat.le_of_ble_eq_true rfl) (Nat.le_of_ble_eq_true rfl) (Nat.le_of_ble_eq_true rfl)) rfl rfl dX3_init_1) hS (fun q h => h.elim (fun z => Or.inl z) (fun z => Or.inr (Nat.le_trans (by omega) z))) (fun w1 H locs hpo hP hz1 hk hS => ?_)
  obtain ⟨hN_a, hz⟩ := hP
  have hF : Fr (fun q => q = a ∨ h0 ≤ q) _ _ := ⟨hz1, hk⟩
  have hz : Array.size H = h0 + 0 := hz
  have hN_a : va_P G.1 vwCl [(a, .inr (2, [.int 0, .int 0, .int 0, .int 0, .int 0, .int 0, .int 0, .int 0, .int 0, .int 0]))] H := hN_a
  exact hq _ _ () _ _ _ _ dX3_init_4 ⟨hN_a, hz⟩ hS trivial (Nat.le_of_ble_eq_true rfl) (Nat.le_of_ble_eq_true rfl)
