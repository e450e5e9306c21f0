set_option maxRecDepth 100000
def KP_X16_X17 (G : GG) (a h0 : Nat) (o : Nat) (n : Int32) (_ : Unit) (H : Heap) : Prop := va_P G.1 vwCl [(a, .inr (13, [.int n, .int 0, .int 0, .int 0, .ref o, .null, .int 0, .ref o]))] H ∧ H.size = h0 + 0
theorem c_X16_X17_init (G : GG) (l : Launch) (a h0 : Nat) (o : Nat) (n : Int32) (x9 : Value) (ha : a < h0) : CXv G l (KP_X16_X17 G a h0 o n) (fun q => q = a ∨ h0 ≤ q) yX16_init cX16_init 3 2 24 0 0 [.ref a, .ref o, .int n] (fun H => va_P G.1 vwCl [(a, .inr (13, [.int 0, .int 0, .int 0, .int 0, x9, .null, .int 0, .ref o]))] H ∧ H.size = h0) (fun _ => True) := by
  refine CXv.mkI RX16 pnX16 rfl rfl (Nat.le_of_ble_eq_true rfl) (fun pg en Rm sg mm ar bw mth cd QQ ls hC hmn hRm hK hX hS hl hq => ?_)
  obtain ⟨hN_a, hz⟩ := hX
  have hz : sg.heap.size = h0 + 0 := hz
  have hx := hC.1; have hb := hC.2.1; have ho := hC.2.2.2.1; have hts := hC.2.2.2.2
  have hl : lv_has ls 3 [(0, .ref a), (1, .ref o), (2, .int n)] := hl
  refine lv_aload_n hx hb dX16_init_0 rfl (lv_at hl 0 rfl) ?_
  refine lv_aload_n hx hb dX16_init_1 rfl (lv_at hl 1 rfl) ?_
  refine K_putFT hC hmn hK hN_a (Or.inl rfl) hS clX17 in_X17 tyX17_ok 4 7 (by decide) (by decide) (by decide) (by decide) rfl q676 rfl rfl rfl rfl rfl (Nat.le_of_ble_eq_true rfl) dX16_init_2 (fun H locs x9 hx9 hN_a hS hz9 hF => ?_)
  obtain rfl : x9 = .ref o := hx9.elim id id
  have hN_a : va_P G.1 vwCl [(a, .inr (13, [.int 0, .int 0, .int 0, .int 0, .ref o, .null, .int 0, .ref o]))] H := hN_a
  have hz : Array.size H = h0 + 0 := hz9.trans hz
  refine lv_aload_n hx hb dX16_init_5 rfl (lv_at hl 0 rfl) ?_
  refine W.objInit hx hb ho (hts _ q665) (hts _ q142) (hts _ q143) rfl (hl.1.trans hC.2.2.1.symm) rfl dX16_init_6 (by subst hRm; exact Nat.le_of_ble_eq_true rfl) (by subst hRm; exact Nat.le_of_ble_eq_true rfl) ?_
  refine lv_aload_n hx hb dX16_init_9 rfl (lv_at hl 0 rfl) ?_
  refine lv_iload_n hx hb dX16_init_10 rfl (lv_at hl 2 rfl) ?_
  refine K_put1F (fs' := [.int n, .int 0, .int 0, .int 0, .ref o, .null, .int 0, .ref o]) hC hmn hK hN_a (Or.inl rfl) hS clX17 in_X17 tyX17_ok 0 (by decide) (by decide) rfl q672 rfl rfl rfl rfl rfl (Nat.le_of_ble_eq_true rfl) dX16_init_11 (fun H locs hN_a hS hz9 hF => ?_)
  have hz : Array.size H = h0 + 0 := hz9.trans hz
  exact hq _ _ () _ _ _ _ dX16_init_14 ⟨hN_a, hz⟩ hS trivial (Nat.le_of_ble_eq_true rfl) (Nat.le_of_ble_eq_true rfl)
def KP_X16_X18 (G : GG) (a h0 : Nat) (o : Nat) (n : Int32) (_ : Unit) (H : Heap) : Prop := va_P G.1 vwCl [(a, .inr (14, [.int n, .int 0, .int 0, .int 0, .ref o, .null, .null, .int 0, .int 0, .ref o]))] H ∧ H.size = h0 + 0
theorem c_X16_X18_init (G : GG) (l : Launch) (a h0 : Nat) (o : Nat) (n : Int32) (x9 : Value) (ha : a < h0) : CXv G l (KP_X16_X18 G a h0 o n) (fun q => q = a ∨ h0 ≤ q) yX16_init cX16_init 3 2 24 0 0 [.ref a, .ref o, .int n] (fun H => va_P G.1 vwCl [(a, .inr (14, [.int 0, .int 0, .int 0, .int 0, x9, .null, .null, .int 0, .int 0, .ref o]))] H ∧ H.size = h0) (fun _ => True) := by
  refine CXv.mkI RX16 pnX16 rfl rfl (Nat.le_of_ble_eq_true rfl) (fun pg en Rm sg mm ar bw mth cd QQ ls hC hmn hRm hK hX hS hl hq => ?_)
  obtain ⟨hN_a, hz⟩ := hX
  have hz : sg.heap.size = h0 + 0 := hz
  have hx := hC.1; have hb := hC.2.1; have ho := hC.2.2.2.1; have hts := hC.2.2.2.2
  have hl : lv_has ls 3 [(0, .ref a), (1, .ref o), (2, .int n)] := hl
  refine lv_aload_n hx hb dX16_init_0 rfl (lv_at hl 0 rfl) ?_
  refine lv_aload_n hx hb dX16_init_1 rfl (lv_at hl 1 rfl) ?_
  refine K_putFT hC hmn hK hN_a (Or.inl rfl) hS clX18 in_X18 tyX18_ok 4 9 (by decide) (by decide) (by decide) (by decide) rfl q676 rfl rfl rfl rfl rfl (Nat.le_of_ble_eq_true rfl) dX16_init_2 (fun H locs x9 hx9 hN_a hS hz9 hF => ?_)
  obtain rfl : x9 = .ref o := hx9.elim id id
  have hN_a : va_P G.1 vwCl [(a, .inr (14, [.int 0, .int 0, .int 0, .int 0, .ref o, .null, .null, .int 0, .int 0, .ref o]))] H := hN_a
  have hz : Array.size H = h0 + 0 := hz9.trans hz
  refine lv_aload_n hx hb dX16_init_5 rfl (lv_at hl 0 rfl) ?_
  refine W.objInit hx hb ho (hts _ q665) (hts _ q142) (hts _ q143) rfl (hl.1.trans hC.2.2.1.symm) rfl dX16_init_6 (by subst hRm; exact Nat.le_of_ble_eq_true rfl) (by subst hRm; exact Nat.le_of_ble_eq_true rfl) ?_
  refine lv_aload_n hx hb dX16_init_9 rfl (lv_at hl 0 rfl) ?_
  refine lv_iload_n hx hb dX16_init_10 rfl (lv_at hl 2 rfl) ?_
  refine K_put1F (fs' := [.int n, .int 0, .int 0, .int 0, .ref o, .null, .null, .int 0, .int 0, .ref o]) hC hmn hK hN_a (Or.inl rfl) hS clX18 in_X18 tyX18_ok 0 (by decide) (by decide) rfl q672 rfl rfl rfl rfl rfl (Nat.le_of_ble_eq_true rfl) dX16_init_11 (fun H locs hN_a hS hz9 hF => ?_)
  have hz : Array.size H = h0 + 0 := hz9.trans hz
  exact hq _ _ () _ _ _ _ dX16_init_14 ⟨hN_a, hz⟩ hS trivial (Nat.le_of_ble_eq_true rfl) (Nat.le_of_ble_eq_true rfl)
def KP_X17 (G : GG) (a h0 : Nat) (o : Nat) (n : Int32) (_ : Unit) (H : Heap) : Prop := va_P G.1 vwCl [(a, .inr (13, [.int n, .int 0, .int 0, .int 0, .ref o, .ref h0, .int 0, .ref o]))] H ∧ va_P G.1 vwCl [(h0, .inr (1, [.ref (h0 + 1), .ref (h0 + 2), .ref (h0 + 3), .ref (h0 + 4), .int 0, .int 0]))] H ∧ va_P G.1 vwCl [((h0 + 1), .inl (G.2 0, 16, .inl (fun _ => 0)))] H ∧ va_P G.1 vwCl [((h0 + 2), .inl (G.2 0, 16, .inl (fun _ => 0)))] H ∧ va_P G.1 vwCl [((h0 + 3), .inl (G.2 0, 16, .inl (fun _ => 0)))] H ∧ va_P G.1 vwCl [((h0 + 4), .inl (G.2 0, 16, .inl (fun _ => 0)))] H ∧ H.size = h0 + 5
theorem c_X17_init (G : GG) (l : Launch) (a h0 : Nat) (o : Nat) (n : Int32)  (ha : a < h0) : CXv G l (KP_X17 G a h0 o n) (fun q => q = a ∨ h0 ≤ q) yX17_init cX17_init 3 3 46 5 70 [.ref a, .ref o, .int n] (fun H => va_P G.1 vwCl [(a, .inr (13, [.int 0, .int 0, .int 0, .int 0, .null, .null, .int 0, .null]))] H ∧ H.size = h0) (fun _ => True) := by
  refine CXv.mkI RX17 pnX17 rfl rfl (Nat.le_of_ble_eq_true rfl) (fun pg en Rm sg mm ar bw mth cd QQ ls hC hmn hRm hK hX hS hl hq => ?_)
  obtain ⟨hN_a, hz⟩ := hX
  have hz : sg.heap.size = h0 + 0 := hz
  have hx := hC.1; have hb := hC.2.1; have ho := hC.2.2.2.1; have hts := hC.2.2.2.2
  have hl : lv_has ls 3 [(0, .ref a), (1, .ref o), (2, .int n)] := hl
  refine lv_aload_n hx hb dX17_init_0 rfl (lv_at hl 0 rfl) ?_
  refine lv_aload_n hx hb dX17_init_1 rfl (lv_at hl 1 rfl) ?_
  refine K_putFT hC hmn hK hN_a (Or.inl rfl) hS clX17 in_X17 tyX17_ok 7 4 (by decide) (by decide) (by decide) (by decide) rfl q671 rfl rfl rfl rfl rfl (Nat.le_of_ble_eq_true rfl) dX17_init_2 (fun H locs x9 hx9 hN_a hS hz9 hF => ?_)
  have hN_a : va_P G.1 vwCl [(a, .inr (13, [.int 0, .int 0, .int 0, .int 0, x9, .null, .int 0, .ref o]))] H := hN_a
  have hz : Array.size H = h0 + 0 := hz9.trans hz
  refine lv_aload_n hx hb dX17_init_5 rfl (lv_at hl 0 rfl) ?_
  refine lv_aload_n hx hb dX17_init_6 rfl (lv_at hl 1 rfl) ?_
  refine lv_iload_n hx hb dX17_init_7 rfl (lv_at hl 2 rfl) ?_
  refine CXv.go (rcI (As := [.ref o, .int n]) hC hl (c_X16_X17_init G l a h0 o n x9 (by omega)) hK ⟨hN_a, hz⟩ rfl q662 q663 q132 q664 mdX16_init (room_v hRm (Nat.le_of_ble_eq_true rfl) (Nat.le_of_ble_eq_true rfl) (Nat.le_of_ble_eq_true rfl) (Nat.le_of_ble_eq_true rfl)) rfl rfl dX17_init_8) hS (fun q h => h.elim (fun z => Or.inl z) (fun z => Or.inr (Nat.le_trans (by omega) z))) (fun w8 H locs hpo hP hz1 hk hS => ?_)
  obtain ⟨hN_a, hz⟩ := hP
  have hF : Fr (fun q => q = a ∨ h0 ≤ q) _ _ := ⟨hz1, hk⟩
  have hz : Array.size H = h0 + 0 := hz
  have hN_a : va_P G.1 vwCl [(a, .inr (13, [.int n, .int 0, .int 0, .int 0, .ref o, .null, .int 0, .ref o]))] H := hN_a
  refine lv_aload_n hx hb dX17_init_11 rfl (lv_at hl 0 rfl) ?_
  refine K_new tyX1 hC hK hS in_X1 tyX1_ok q666 q145 q111 clX1 (fs := [.null, .null, .null, .null, .int 0, .int 0]) (fun j hj => by rcases (show j = 0 ∨ j = 1 ∨ j = 2 ∨ j = 3 ∨ j = 4 ∨ j = 5 by omega) with rfl | rfl | rfl | rfl | rfl | rfl <;> rfl) hz (by subst hRm; exact Nat.le_of_ble_eq_true rfl) (by subst hRm; exact Nat.le_of_ble_eq_true rfl) dX17_init_12 (fun H hN_n12 hz hF hS => ?_)
  have hz : Array.size H = h0 + 1 := hz
  have hN_a := hN_a.fr1 hF (fun z => z)
  refine lv_dup hx hb dX17_init_15 rfl ?_
  refine CXv.go (rcIN (As := []) hC hl (c_X1_init G l h0 (h0 + 1) (by omega)) hK ⟨hN_n12, hz⟩ rfl nq667 q147 q111 q148 mdX1_init (room_v hRm (Nat.le_of_ble_eq_true rfl) (Nat.le_of_ble_eq_true rfl) (Nat.le_of_ble_eq_true rfl) (Nat.le_of_ble_eq_true rfl)) rfl rfl dX17_init_16) hS (fun q h => h.elim (fun z => Or.inr (by omega)) (fun z => Or.inr (Nat.le_trans (by omega) z))) (fun w16 H locs hpo hP hz1 hk hS => ?_)
  obtain ⟨hN_n12, hN_n12_1, hN_n12_2, hN_n12_3, hN_n12_4, hz⟩ := hP
  have hF : Fr (fun q => q = h0 ∨ (h0 + 1) ≤ q) _ _ := ⟨hz1, hk⟩
  have hz : Array.size H = h0 + 5 := hz
  have hN_a := hN_a.fr1 hF (fun z => by have z : a = h0 ∨ (h0 + 1) ≤ a := z; omega)
  have hN_n12 : va_P G.1 vwCl [(h0, .inr (1, [.ref (h0 + 1), .ref (h0 + 2), .ref (h0 + 3), .ref (h0 + 4), .int 0, .int 0]))] H := hN_n12
  have hN_n12_1 : va_P G.1 vwCl [((h0 + 1), .inl (G.2 0, 16, .inl (fun _ => 0)))] H := hN_n12_1
  have hN_n12_2 : va_P G.1 vwCl [((h0 + 2), .inl (G.2 0, 16, .inl (fun _ => 0)))] H := hN_n12_2
  have hN_n12_3 : va_P G.1 vwCl [((h0 + 3), .inl (G.2 0, 16, .inl (fun _ => 0)))] H := hN_n12_3
  have hN_n12_4 : va_P G.1 vwCl [((h0 + 4), .inl (G.2 0, 16, .inl (fun _ => 0)))] H := hN_n12_4
  refine K_put1F (fs' := [.int n, .int 0, .int 0, .int 0, .ref o, .ref h0, .int 0, .ref o]) hC hmn hK hN_a (Or.inl rfl) hS clX17 in_X17 tyX17_ok 5 (by decide) (by decide) rfl q668 rfl rfl rfl rfl rfl (Nat.le_of_ble_eq_true rfl) dX17_init_19 (fun H locs hN_a hS hz9 hF => ?_)
  have hz : Array.size H = h0 + 5 := hz9.trans hz
  have hN_n12 := hN_n12.fr1 hF (fun z => by have z : h0 = a := z; omega)
  have hN_n12_1 := hN_n12_1.fr1 hF (fun z => by have z : (h0 + 1) = a := z; omega)
  have hN_n12_2 := hN_n12_2.fr1 hF (fun z => by have z : (h0 + 2) = a := z; omega)
  have hN_n12_3 := hN_n12_3.fr1 hF (fun z => by have z : (h0 + 3) = a := z; omega)
  have hN_n12_4 := hN_n12_4.fr1 hF (fun z => by have z : (h0 + 4) = a := z; omega)
  exact hq _ _ () _ _ _ _ dX17_init_22 ⟨hN_a, hN_n12, hN_n12_1, hN_n12_2, hN_n12_3, hN_n12_4, hz⟩ hS trivial (Nat.le_of_ble_eq_true rfl) (Nat.le_of_ble_eq_true rfl)
def KP_X18 (G : GG) (a h0 : Nat) (o : Nat) (n : Int32) (_ : Unit) (H : Heap) : Prop := va_P G.1 vwCl [(a, .inr (14, [.int n, .int 0, .int 0, .int 0, .ref o, .ref h0, .ref (h0 + 1), .int 0, .int 0, .ref o]))] H ∧ va_P G.1 vwCl [(h0, .inl (G.2 0, 12, .inl (fun _ => 0)))] H ∧ va_P G.1 vwCl [((h0 + 1), .inl (G.2 0, 12, .inl (fun _ => 0)))] H ∧ H.size = h0 + 2
theorem c_X18_init (G : GG) (l : Launch) (a h0 : Nat) (o : Nat) (n : Int32)  (ha : a < h0) : CXv G l (KP_X18 G a h0 o n) (fun q => q = a ∨ h0 ≤ q) yX18_init cX18_init 3 3 46 2 24 [.ref a, .ref o, .int n] (fun H => va_P G.1 vwCl [(a, .inr (14, [.int 0, .int 0, .int 0, .int 0, .null, .null, .null, .int 0, .int 0, .null]))] H ∧ H.size = h0) (fun _ => True) := by
  refine CXv.mkI RX18 pnX18 rfl rfl (Nat.le_of_ble_eq_true rfl) (fun pg en Rm sg mm ar bw mth cd QQ ls hC hmn hRm hK hX hS hl hq => ?_)
  obtain ⟨hN_a, hz⟩ := hX
  have hz : sg.heap.size = h0 + 0 := hz
  have hx := hC.1; have hb := hC.2.1; have ho := hC.2.2.2.1; have hts := hC.2.2.2.2
  have hl : lv_has ls 3 [(0, .ref a), (1, .ref o), (2, .int n)] := hl
  refine lv_aload_n hx hb dX18_init_0 rfl (lv_at hl 0 rfl) ?_
  refine lv_aload_n hx hb dX18_init_1 rfl (lv_at hl 1 rfl) ?_
  refine K_putFT hC hmn hK hN_a (Or.inl rfl) hS clX18 in_X18 tyX18_ok 9 4 (by decide) (by decide) (by decide) (by decide) rfl q802 rfl rfl rfl rfl rfl (Nat.le_of_ble_eq_true rfl) dX18_init_2 (fun H locs x9 hx9 hN_a hS hz9 hF => ?_)
  have hN_a : va_P G.1 vwCl [(a, .inr (14, [.int 0, .int 0, .int 0, .int 0, x9, .null, .null, .int 0, .int 0, .ref o]))] H := hN_a
  have hz : Array.size H = h0 + 0 := hz9.trans hz
  refine lv_aload_n hx hb dX18_init_5 rfl (lv_at hl 0 rfl) ?_
  refine lv_aload_n hx hb dX18_init_6 rfl (lv_at hl 1 rfl) ?_
  refine lv_iload_n hx hb dX18_init_7 rfl (lv_at hl 2 rfl) ?_
  refine CXv.go (rcI (As := [.ref o, .int n]) hC hl (c_X16_X18_init G l a h0 o n x9 (by omega)) hK ⟨hN_a, hz⟩ rfl q796 q663 q132 q664 mdX16_init (room_v hRm (Nat.le_of_ble_eq_true rfl) (Nat.le_of_ble_eq_true rfl) (Nat.le_of_ble_eq_true rfl) (Nat.le_of_ble_eq_true rfl)) rfl rfl dX18_init_8) hS (fun q h => h.elim (fun z => Or.inl z) (fun z => Or.inr (Nat.le_trans (by omega) z))) (fun w8 H locs hpo hP hz1 hk hS => ?_)
  obtain ⟨hN_a, hz⟩ := hP
  have hF : Fr (fun q => q = a ∨ h0 ≤ q) _ _ := ⟨hz1, hk⟩
  have hz : Array.size H = h0 + 0 := hz
  have hN_a : va_P G.1 vwCl [(a, .inr (14, [.int n, .int 0, .int 0, .int 0, .ref o, .null, .null, .int 0, .int 0, .ref o]))] H := hN_a
  refine lv_aload_n hx hb dX18_init_11 rfl (lv_at hl 0 rfl) ?_
  refine lv_bipush (v := 12) hx hb dX18_init_12 (by decide) ?_
  refine K_newa (atype := .int) (t0 := 0) (a0 := (12, .inl (fun _ => 0))) hC hK hS q178 rfl (fun _ => rfl) (by decide) rfl (by decide) hz (by subst hRm; exact Nat.le_of_ble_eq_true rfl) (by subst hRm; exact Nat.le_of_ble_eq_true rfl) dX18_init_14 (fun H hN_n14 hz hF hS => ?_)
  have hz : Array.size H = h0 + 1 := hz
  have hN_a := hN_a.fr1 hF (fun z => z)
  refine K_put1F (fs' := [.int n, .int 0, .int 0, .int 0, .ref o, .ref h0, .null, .int 0, .int 0, .ref o]) hC hmn hK hN_a (Or.inl rfl) hS clX18 in_X18 tyX18_ok 5 (by decide) (by decide) rfl q797 rfl rfl rfl rfl rfl (Nat.le_of_ble_eq_true rfl) dX18_init_16 (fun H locs hN_a hS hz9 hF => ?_)
  have hz : Array.size H = h0 + 1 := hz9.trans hz
  have hN_n14 := hN_n14.fr1 hF (fun z => by have z : h0 = a := z; omega)
  refine lv_aload_n hx hb dX18_init_19 rfl (lv_at hl 0 rfl) ?_
  refine lv_bipush (v := 12) hx hb dX18_init_20 (by decide) ?_
  refine K_newa (atype := .int) (t0 := 0) (a0 := (12, .inl (fun _ => 0))) hC hK hS q178 rfl (fun _ => rfl) (by decide) rfl (by decide) hz (by subst hRm; exact Nat.le_of_ble_eq_true rfl) (by subst hRm; exact Nat.le_of_ble_eq_true rfl) dX18_init_22 (fun H hN_n22 hz hF hS => ?_)
  have hz : Array.size H = h0 + 2 := hz
  have hN_a := hN_a.fr1 hF (fun z => z)
  have hN_n14 := hN_n14.fr1 hF (fun z => z)
  refine K_put1F (fs' := [.int n, .int 0, .int 0, .int 0, .ref o, .ref h0, .ref (h0 + 1), .int 0, .int 0, .ref o]) hC hmn hK hN_a (Or.inl rfl) hS clX18 in_X18 tyX18_ok 6 (by decide) (by decide) rfl q799 rfl rfl rfl rfl rfl (Nat.le_of_ble_eq_true rfl) dX18_init_24 (fun H locs hN_a hS hz9 hF => ?_)
  have hz : Array.size H = h0 + 2 := hz9.trans hz
  have hN_n14 := hN_n14.fr1 hF (fun z => by have z : h0 = a := z; omega)
  have hN_n22 := hN_n22.fr1 hF (fun z => by have z : (h0 + 1) = a := z; omega)
  exact hq _ _ () _ _ _ _ dX18_init_27 ⟨hN_a, hN_n14, hN_n22, hz⟩ hS trivial (Nat.le_of_ble_eq_true rfl) (Nat.le_of_ble_eq_true rfl)
