set_option maxRecDepth 100000
/-! constructors of the law's nodes -/
def noP (_ : Unit) (_ : Heap) : Prop := True
def PN1 (G : GG) (a : Nat) (e : va_E) (_ : Unit) (H : Heap) : Prop := va_P G.1 vwCl [(a, e)] H
section QAL
variable {p : Program} {l : Launch} {e : Env} {R : Room} {s : State} {m : MethodId} {args : Array Value} {below : List Frame} {meth : Method} {c : Code} {H : Heap} {locs : List Loc} {cells slots : Nat} {Q : State → Prop}
variable {cc : ByteArray} {pc : Nat} {ls : Array Slot} {rest : List Value}
theorem q_aload_n (hexec : p.tables.exec = Jvm.exec) (hb : c.code = cc) {r : Option Nat} {k : Fin 4} {i : Nat} (hdg : decode cc pc = .ok (.aload_n k, 1)) (hi : (k : Nat) = i) (hl : ls[i]? = some (.val (va_rf r)))
    (kk : W p l e R s m args below meth c H locs cells slots Q (F0 m (pc + 1) ls (va_rf r :: rest))) : W p l e R s m args below meth c H locs cells slots Q (F0 m pc ls rest) := by
  cases r with
  | none => exact lv_aload_nN hexec hb hdg hi hl kk
  | some a => exact lv_aload_n hexec hb hdg hi hl kk
end QAL
theorem c_X8_init (G : GG) (l : Launch) (a : Nat) : CXv G l noP (fun _ => False) yX8_init cX8_init 1 2 24 0 0 [.ref a] (fun _ => True) (fun _ => True) := by
  refine CXv.mk RX8 pnX8 rfl (Nat.le_of_ble_eq_true rfl) (fun pg en Rm sg mm ar bw mth cd QQ ls hC hRm hK hX hS hl hq => ?_)
  have hx := hC.1; have hb := hC.2.1; have ho := hC.2.2.2.1; have hts := hC.2.2.2.2
  have hl : lv_has ls 1 [(0, .ref a)] := hl
  refine lv_aload_n hx hb dX8_init_0 rfl (lv_at hl 0 rfl) ?_
  refine W.objInit hx hb ho (hts _ q564) (hts _ q142) (hts _ q143) rfl (hl.1.trans hC.2.2.1.symm) rfl dX8_init_1 (by subst hRm; exact Nat.le_of_ble_eq_true rfl) (by subst hRm; exact Nat.le_of_ble_eq_true rfl) ?_
  exact hq _ _ () _ _ _ _ dX8_init_4 trivial hS trivial (Nat.le_refl _) (Nat.le_refl _)
theorem c_X12_init (G : GG) (l : Launch) (a : Nat) : CXv G l noP (fun _ => False) yX12_init cX12_init 1 2 24 0 0 [.ref a] (fun _ => True) (fun _ => True) := by
  refine CXv.mk RX12 pnX12 rfl (Nat.le_of_ble_eq_true rfl) (fun pg en Rm sg mm ar bw mth cd QQ ls hC hRm hK hX hS hl hq => ?_)
  have hx := hC.1; have hb := hC.2.1; have ho := hC.2.2.2.1; have hts := hC.2.2.2.2
  have hl : lv_has ls 1 [(0, .ref a)] := hl
  refine lv_aload_n hx hb dX12_init_0 rfl (lv_at hl 0 rfl) ?_
  refine W.objInit hx hb ho (hts _ q617) (hts _ q142) (hts _ q143) rfl (hl.1.trans hC.2.2.1.symm) rfl dX12_init_1 (by subst hRm; exact Nat.le_of_ble_eq_true rfl) (by subst hRm; exact Nat.le_of_ble_eq_true rfl) ?_
  exact hq _ _ () _ _ _ _ dX12_init_4 trivial hS trivial (Nat.le_refl _) (Nat.le_refl _)
theorem c_X10_init (G : GG) (l : Launch) (a : Nat) (n : Int32) : CXv G l (PN1 G a (.inr (8, [.int n]))) (fun q => q = a) yX10_init cX10_init 2 3 60 0 0 [.ref a, .int n] (PN1 G a (.inr (8, [.int 0])) ()) (fun _ => True) := by
  refine CXv.mkI RX10 pnX10 rfl rfl (Nat.le_of_ble_eq_true rfl) (fun pg en Rm sg mm ar bw mth cd QQ ls hC hmn hRm hK hX hS hl hq => ?_)
  have hx := hC.1; have hb := hC.2.1; have ho := hC.2.2.2.1; have hts := hC.2.2.2.2
  have hl : lv_has ls 2 [(0, .ref a), (1, .int n)] := hl
  refine lv_aload_n hx hb dX10_init_0 rfl (lv_at hl 0 rfl) ?_
  refine CXv.go (rcIN (As := []) hC hl (c_X8_init G l a) hK trivial rfl nq561 q562 q124 q563 mdX8_init (room_s hRm rfl) rfl rfl dX10_init_1) hS (fun q h => h.elim) (fun w1 H1 locs1 _ _ _ hk1 hS1 => ?_)
  have hX : va_P G.1 vwCl [(a, .inr (8, [.int 0]))] sg.heap := hX; have hP := one_keep hX (fun h => h) hk1; have hS := hS1; have hD : va_D (fun q => q = a) [(a, .inr (8, [.int 0]))] := va_D.one rfl
  refine lv_aload_n hx hb dX10_init_4 rfl (lv_at hl 0 rfl) ?_
  refine lv_iload_n hx hb dX10_init_5 rfl (lv_at hl 1 rfl) ?_
  refine S_putF (q0 := 0) (fs := [.int 0]) (ws' := [(a, .inr (8, [.int n]))]) hC hmn hK hP hD hS rfl clX10 in_X10 tyX10_ok nmX10 0 (by decide) rfl q565 rfl rfl rfl rfl rfl (Nat.le_of_ble_eq_true rfl) dX10_init_6 (fun H locs hP hD hS => ?_)
  exact hq _ _ () _ _ _ _ dX10_init_9 hP hS trivial (Nat.le_refl _) (Nat.le_refl _)
theorem c_X11_init (G : GG) (l : Launch) (a : Nat) (n : Int32) : CXv G l (PN1 G a (.inr (9, [.int n]))) (fun q => q = a) yX11_init cX11_init 2 3 60 0 0 [.ref a, .int n] (PN1 G a (.inr (9, [.int 0])) ()) (fun _ => True) := by
  refine CXv.mkI RX11 pnX11 rfl rfl (Nat.le_of_ble_eq_true rfl) (fun pg en Rm sg mm ar bw mth cd QQ ls hC hmn hRm hK hX hS hl hq => ?_)
  have hx := hC.1; have hb := hC.2.1; have ho := hC.2.2.2.1; have hts := hC.2.2.2.2
  have hl : lv_has ls 2 [(0, .ref a), (1, .int n)] := hl
  refine lv_aload_n hx hb dX11_init_0 rfl (lv_at hl 0 rfl) ?_
  refine CXv.go (rcIN (As := []) hC hl (c_X8_init G l a) hK trivial rfl nq575 q562 q124 q563 mdX8_init (room_s hRm rfl) rfl rfl dX11_init_1) hS (fun q h => h.elim) (fun w1 H1 locs1 _ _ _ hk1 hS1 => ?_)
  have hX : va_P G.1 vwCl [(a, .inr (9, [.int 0]))] sg.heap := hX; have hP := one_keep hX (fun h => h) hk1; have hS := hS1; have hD : va_D (fun q => q = a) [(a, .inr (9, [.int 0]))] := va_D.one rfl
  refine lv_aload_n hx hb dX11_init_4 rfl (lv_at hl 0 rfl) ?_
  refine lv_iload_n hx hb dX11_init_5 rfl (lv_at hl 1 rfl) ?_
  refine S_putF (q0 := 0) (fs := [.int 0]) (ws' := [(a, .inr (9, [.int n]))]) hC hmn hK hP hD hS rfl clX11 in_X11 tyX11_ok nmX11 0 (by decide) rfl q576 rfl rfl rfl rfl rfl (Nat.le_of_ble_eq_true rfl) dX11_init_6 (fun H locs hP hD hS => ?_)
  exact hq _ _ () _ _ _ _ dX11_init_9 hP hS trivial (Nat.le_refl _) (Nat.le_refl _)
theorem c_X9_init (G : GG) (l : Launch) (a : Nat) (sn : Int32) (r : Option Nat) : CXv G l (PN1 G a (.inr (7, [.int sn, va_rf r, .null]))) (fun q => q = a) yX9_init cX9_init 3 3 60 0 0 [.ref a, .int sn, va_rf r] (PN1 G a (.inr (7, [.int 0, .null, .null])) ()) (fun _ => True) := by
  refine CXv.mkI RX9 pnX9 rfl rfl (by cases r <;> exact Nat.le_of_ble_eq_true rfl) (fun pg en Rm sg mm ar bw mth cd QQ ls hC hmn hRm hK hX hS hl hq => ?_)
  have hx := hC.1; have hb := hC.2.1; have ho := hC.2.2.2.1; have hts := hC.2.2.2.2
  have hl : lv_has ls 3 [(0, .ref a), (1, .int sn), (2, va_rf r)] := by cases r <;> exact hl
  refine lv_aload_n hx hb dX9_init_0 rfl (lv_at hl 0 rfl) ?_
  refine CXv.go (rcIN (As := []) hC hl (c_X8_init G l a) hK trivial rfl nq583 q562 q124 q563 mdX8_init (room_s hRm rfl) rfl rfl dX9_init_1) hS (fun q h => h.elim) (fun w1 H1 locs1 _ _ _ hk1 hS1 => ?_)
  have hX : va_P G.1 vwCl [(a, .inr (7, [.int 0, .null, .null]))] sg.heap := hX; have hP := one_keep hX (fun h => h) hk1; have hS := hS1; have hD : va_D (fun q => q = a) [(a, .inr (7, [.int 0, .null, .null]))] := va_D.one rfl
  refine lv_aload_n hx hb dX9_init_4 rfl (lv_at hl 0 rfl) ?_
  refine lv_iload_n hx hb dX9_init_5 rfl (lv_at hl 1 rfl) ?_
  refine S_putF (q0 := 0) (fs := [.int 0, .null, .null]) (ws' := [(a, .inr (7, [.int sn, .null, .null]))]) hC hmn hK hP hD hS rfl clX9 in_X9 tyX9_ok nmX9 0 (by decide) rfl q584 rfl rfl rfl rfl rfl (Nat.le_of_ble_eq_true rfl) dX9_init_6 (fun H locs hP hD hS => ?_)
  refine lv_aload_n hx hb dX9_init_9 rfl (lv_at hl 0 rfl) ?_
  refine q_aload_n hx hb dX9_init_10 rfl (lv_at hl 2 rfl) ?_
  refine S_putF (q0 := 0) (fs := [.int sn, .null, .null]) (ws' := [(a, .inr (7, [.int sn, va_rf r, .null]))]) hC hmn hK hP hD hS rfl clX9 in_X9 tyX9_ok nmX9 1 (by decide) rfl q585 rfl rfl rfl (by cases r <;> rfl) (by cases r <;> rfl) (Nat.le_of_ble_eq_true rfl) dX9_init_11 (fun H locs hP hD hS => ?_)
  exact hq _ _ () _ _ _ _ dX9_init_14 hP hS trivial (Nat.le_refl _) (Nat.le_refl _)
theorem c_X13_init (G : GG) (l : Launch) (a : Nat) (r : Option Nat) (b : Int32) : CXv G l (PN1 G a (.inr (10, [va_rf r, .int b, .null]))) (fun q => q = a) yX13_init cX13_init 3 3 60 0 0 [.ref a, va_rf r, .int b] (PN1 G a (.inr (10, [.null, .int 0, .null])) ()) (fun _ => True) := by
  refine CXv.mkI RX13 pnX13 rfl rfl (by cases r <;> exact Nat.le_of_ble_eq_true rfl) (fun pg en Rm sg mm ar bw mth cd QQ ls hC hmn hRm hK hX hS hl hq => ?_)
  have hx := hC.1; have hb := hC.2.1; have ho := hC.2.2.2.1; have hts := hC.2.2.2.2
  have hl : lv_has ls 3 [(0, .ref a), (1, va_rf r), (2, .int b)] := by cases r <;> exact hl
  refine lv_aload_n hx hb dX13_init_0 rfl (lv_at hl 0 rfl) ?_
  refine CXv.go (rcIN (As := []) hC hl (c_X12_init G l a) hK trivial rfl nq641 q615 q128 q616 mdX12_init (room_s hRm rfl) rfl rfl dX13_init_1) hS (fun q h => h.elim) (fun w1 H1 locs1 _ _ _ hk1 hS1 => ?_)
  have hX : va_P G.1 vwCl [(a, .inr (10, [.null, .int 0, .null]))] sg.heap := hX; have hP := one_keep hX (fun h => h) hk1; have hS := hS1; have hD : va_D (fun q => q = a) [(a, .inr (10, [.null, .int 0, .null]))] := va_D.one rfl
  refine lv_aload_n hx hb dX13_init_4 rfl (lv_at hl 0 rfl) ?_
  refine q_aload_n hx hb dX13_init_5 rfl (lv_at hl 1 rfl) ?_
  refine S_putF (q0 := 0) (fs := [.null, .int 0, .null]) (ws' := [(a, .inr (10, [va_rf r, .int 0, .null]))]) hC hmn hK hP hD hS rfl clX13 in_X13 tyX13_ok nmX13 0 (by decide) rfl q642 rfl rfl rfl (by cases r <;> rfl) (by cases r <;> rfl) (Nat.le_of_ble_eq_true rfl) dX13_init_6 (fun H locs hP hD hS => ?_)
  refine lv_aload_n hx hb dX13_init_9 rfl (lv_at hl 0 rfl) ?_
  refine lv_iload_n hx hb dX13_init_10 rfl (lv_at hl 2 rfl) ?_
  refine S_putF (q0 := 0) (fs := [va_rf r, .int 0, .null]) (ws' := [(a, .inr (10, [va_rf r, .int b, .null]))]) hC hmn hK hP hD hS rfl clX13 in_X13 tyX13_ok nmX13 1 (by decide) rfl q643 rfl rfl rfl rfl rfl (Nat.le_of_ble_eq_true rfl) dX13_init_11 (fun H locs hP hD hS => ?_)
  exact hq _ _ () _ _ _ _ dX13_init_14 hP hS trivial (Nat.le_refl _) (Nat.le_refl _)
theorem c_X14_init (G : GG) (l : Launch) (a : Nat) (r : Option Nat) : CXv G l (PN1 G a (.inr (11, [va_rf r]))) (fun q => q = a) yX14_init cX14_init 2 3 60 0 0 [.ref a, va_rf r] (PN1 G a (.inr (11, [.null])) ()) (fun _ => True) := by
  refine CXv.mkI RX14 pnX14 rfl rfl (by cases r <;> exact Nat.le_of_ble_eq_true rfl) (fun pg en Rm sg mm ar bw mth cd QQ ls hC hmn hRm hK hX hS hl hq => ?_)
  have hx := hC.1; have hb := hC.2.1; have ho := hC.2.2.2.1; have hts := hC.2.2.2.2
  have hl : lv_has ls 2 [(0, .ref a), (1, va_rf r)] := by cases r <;> exact hl
  refine lv_aload_n hx hb dX14_init_0 rfl (lv_at hl 0 rfl) ?_
  refine CXv.go (rcIN (As := []) hC hl (c_X12_init G l a) hK trivial rfl nq614 q615 q128 q616 mdX12_init (room_s hRm rfl) rfl rfl dX14_init_1) hS (fun q h => h.elim) (fun w1 H1 locs1 _ _ _ hk1 hS1 => ?_)
  have hX : va_P G.1 vwCl [(a, .inr (11, [.null]))] sg.heap := hX; have hP := one_keep hX (fun h => h) hk1; have hS := hS1; have hD : va_D (fun q => q = a) [(a, .inr (11, [.null]))] := va_D.one rfl
  refine lv_aload_n hx hb dX14_init_4 rfl (lv_at hl 0 rfl) ?_
  refine q_aload_n hx hb dX14_init_5 rfl (lv_at hl 1 rfl) ?_
  refine S_putF (q0 := 0) (fs := [.null]) (ws' := [(a, .inr (11, [va_rf r]))]) hC hmn hK hP hD hS rfl clX14 in_X14 tyX14_ok nmX14 0 (by decide) rfl q618 rfl rfl rfl (by cases r <;> rfl) (by cases r <;> rfl) (Nat.le_of_ble_eq_true rfl) dX14_init_6 (fun H locs hP hD hS => ?_)
  exact hq _ _ () _ _ _ _ dX14_init_9 hP hS trivial (Nat.le_refl _) (Nat.le_refl _)
theorem c_X15_init (G : GG) (l : Launch) (a : Nat) (x : Option Nat) (sn : Int32) (y : Option Nat) : CXv G l (PN1 G a (.inr (12, [va_rf x, va_rf y, .int sn]))) (fun q => q = a) yX15_init cX15_init 4 3 60 0 0 [.ref a, va_rf x, .int sn, va_rf y] (PN1 G a (.inr (12, [.null, .null, .int 0])) ()) (fun _ => True) := by
  refine CXv.mkI RX15 pnX15 rfl rfl (by cases x <;> cases y <;> exact Nat.le_of_ble_eq_true rfl) (fun pg en Rm sg mm ar bw mth cd QQ ls hC hmn hRm hK hX hS hl hq => ?_)
  have hx := hC.1; have hb := hC.2.1; have ho := hC.2.2.2.1; have hts := hC.2.2.2.2
  have hl : lv_has ls 4 [(0, .ref a), (1, va_rf x), (2, .int sn), (3, va_rf y)] := by cases x <;> cases y <;> exact hl
  refine lv_aload_n hx hb dX15_init_0 rfl (lv_at hl 0 rfl) ?_
  refine CXv.go (rcIN (As := []) hC hl (c_X12_init G l a) hK trivial rfl nq627 q615 q128 q616 mdX12_init (room_s hRm rfl) rfl rfl dX15_init_1) hS (fun q h => h.elim) (fun w1 H1 locs1 _ _ _ hk1 hS1 => ?_)
  have hX : va_P G.1 vwCl [(a, .inr (12, [.null, .null, .int 0]))] sg.heap := hX; have hP := one_keep hX (fun h => h) hk1; have hS := hS1; have hD : va_D (fun q => q = a) [(a, .inr (12, [.null, .null, .int 0]))] := va_D.one rfl
  refine lv_aload_n hx hb dX15_init_4 rfl (lv_at hl 0 rfl) ?_
  refine q_aload_n hx hb dX15_init_5 rfl (lv_at hl 1 rfl) ?_
  refine S_putF (q0 := 0) (fs := [.null, .null, .int 0]) (ws' := [(a, .inr (12, [va_rf x, .null, .int 0]))]) hC hmn hK hP hD hS rfl clX15 in_X15 tyX15_ok nmX15 0 (by decide) rfl q628 rfl rfl rfl (by cases x <;> rfl) (by cases x <;> rfl) (Nat.le_of_ble_eq_true rfl) dX15_init_6 (fun H locs hP hD hS => ?_)
  refine lv_aload_n hx hb dX15_init_9 rfl (lv_at hl 0 rfl) ?_
  refine lv_iload_n hx hb dX15_init_10 rfl (lv_at hl 2 rfl) ?_
  refine S_putF (q0 := 0) (fs := [va_rf x, .null, .int 0]) (ws' := [(a, .inr (12, [va_rf x, .null, .int sn]))]) hC hmn hK hP hD hS rfl clX15 in_X15 tyX15_ok nmX15 2 (by decide) rfl q630 rfl rfl rfl rfl rfl (Nat.le_of_ble_eq_true rfl) dX15_init_11 (fun H locs hP hD hS => ?_)
  refine lv_aload_n hx hb dX15_init_14 rfl (lv_at hl 0 rfl) ?_
  refine q_aload_n hx hb dX15_init_15 rfl (lv_at hl 3 rfl) ?_
  refine S_putF (q0 := 0) (fs := [va_rf x, .null, .int sn]) (ws' := [(a, .inr (12, [va_rf x, va_rf y, .int sn]))]) hC hmn hK hP hD hS rfl clX15 in_X15 tyX15_ok nmX15 1 (by decide) rfl q629 rfl rfl rfl (by cases y <;> rfl) (by cases y <;> rfl) (Nat.le_of_ble_eq_true rfl) dX15_init_16 (fun H locs hP hD hS => ?_)
  exact hq _ _ () _ _ _ _ dX15_init_19 hP hS trivial (Nat.le_refl _) (Nat.le_refl _)
