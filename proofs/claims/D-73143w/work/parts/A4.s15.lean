set_option maxRecDepth 100000
theorem vaS_up {A B : Nat → Prop} {H0 H : Heap} {locs : List Loc} (h : va_S A H0 H locs) (hAB : ∀ q, A q → B q) : va_S B H0 H locs := ⟨h.1, fun q h1 h2 => h.2.1 q h1 (fun z => h2 (hAB q z)), fun l hl => hAB _ (h.2.2 l hl)⟩
theorem rmc {Rm : Room} {fr lo mc ms k : Nat} (h : Rm = rm_ fr lo mc ms) (h1 : k ≤ mc) : k ≤ Rm.cells := by subst h; exact h1
theorem rms {Rm : Room} {fr lo mc ms k : Nat} (h : Rm = rm_ fr lo mc ms) (h1 : k ≤ ms) : k ≤ Rm.slots := by subst h; exact h1
theorem rdE_0 {f : Nat → Int32} {n k op p : Nat} {a : SA} : rdE f n (k + 1) 0 op p a = if ckN f n p = 91 then (if op = 6 then .inl (5, p) else bW (rdE f n k 3 (op + 1) (p + 1) a) fun r => if ckN f n r.2 = 93 then .inr (r.1, r.2 + 1) else .inl (1, r.2))
    else if digB f n p = true then bW (numL f n p) (fun v => .inr (([v.1], fun _ => some (nI v.1)), v.2)) else match letN (ckN f n p) with
      | some i => .inr (([UN + i], fun F => some (F i)), p + 1)
      | none => .inl (1, p) := rfl
theorem rdE_1 {f : Nat → Int32} {n k op p : Nat} {a : SA} : rdE f n (k + 1) 1 op p a = if mulC (ckN f n p) = true then bW (rdE f n k 0 op (p + 1) a) (fun r => rdE f n k 1 op r.2 (a.1 ++ r.1.1 ++ [UN * sgC (ckN f n p)], sgD (ckN f n p) a.2 r.1.2)) else .inr (a, p) := rfl
theorem nzP_c {f : Nat → Int32} {n p : Nat} {r at9 ft pc pl0 : Int32} (h : nzPost f n p r at9 ft pc pl0) : (∃ v : Nat × Nat, numL f n p = .inr v ∧ r = nI v.1 ∧ at9 = nI v.2 ∧ ft = 0 ∧ pc = pl0) ∨ ∃ (e : Nat × Nat) (q : Nat), numL f n p = .inl e ∧ at9 = nI q ∧ ft = nI e.1 ∧ pc = nI e.2 ∧ q ≤ n := by
  unfold nzPost at h
  split at h
  · rename_i e he; obtain ⟨h1, h2, q, h3, h4⟩ := h; exact Or.inr ⟨e, q, he, h3, h1, h2, h4⟩
  · rename_i v hv; exact Or.inl ⟨v, hv, h⟩
theorem TT.num {G : GG} {H : Heap} {lo a D : Nat} {n : Int32} (hl : lo ≤ a) (hD : 1 ≤ D) (h : va_P G.1 vwCl [(a, .inr (8, [.int n]))] H) : (TT G (fun q => q < lo) H D).1 a (fun _ => some n) := by
  obtain ⟨d, rfl⟩ : ∃ d, D = d + 1 := ⟨D - 1, by omega⟩
  exact ⟨by omega, Or.inl ⟨n, h, fun _ => rfl⟩⟩
theorem TT.letr {G : GG} {H : Heap} {lo a D i : Nat} {n : Int32} (hl : lo ≤ a) (hD : 1 ≤ D) (hi : i < 9) (hn : n = letC i) (h : va_P G.1 vwCl [(a, .inr (9, [.int n]))] H) : (TT G (fun q => q < lo) H D).1 a (fun F => some (F i)) := by
  obtain ⟨d, rfl⟩ : ∃ d, D = d + 1 := ⟨D - 1, by omega⟩
  subst hn
  exact ⟨by omega, Or.inr (Or.inl ⟨i, hi, h, fun _ => rfl⟩)⟩
theorem let_0 {f : Nat → Int32} {n p : Nat} (h : hzN f n p = 0) : letN (ckN f n p) = none := by
  by_cases q : p < n
  · rw [hzN_t q] at h; rw [ckN_t q, h]; rfl
  · rw [ckN_f q]; rfl
theorem let_ix {f : Nat → Int32} {n p : Nat} (h0 : ¬ hzN f n p = 0) (h : 0 ≤ ixJ 0 (hzN f n p)) : ∃ i, letN (ckN f n p) = some i ∧ i < 9 ∧ nI (hzN f n p) = letC i ∧ p < n := by
  obtain ⟨h1, h2⟩ := hz_ne h0
  have h3 := ixJ_0 _ (hzN_lt f n p)
  rw [decide_eq_true h, ← h2] at h3
  obtain ⟨i, hi⟩ := Option.isSome_iff_exists.mp h3.symm
  exact ⟨i, hi, (letN_lt hi).1, by rw [← h2]; exact letC_ck hi, h1⟩
theorem let_ixn {f : Nat → Int32} {n p : Nat} (h0 : ¬ hzN f n p = 0) (h : ¬ 0 ≤ ixJ 0 (hzN f n p)) : letN (ckN f n p) = none := by
  obtain ⟨h1, h2⟩ := hz_ne h0
  have h3 := ixJ_0 _ (hzN_lt f n p)
  rw [decide_eq_false h, ← h2] at h3
  cases hl : letN (ckN f n p) with
  | none => rfl
  | some i => rw [hl] at h3; cases h3
def FacC (G : GG) (l : Launch) (d : Nat) : Prop := ∀ (σ : SD) (o : Nat) (R : Nat → Nat) (tx : Nat) (u : MS) (n p op k : Nat) (a : SA) (H0 : Heap), DwQ o R → (∀ q, AwQ o R q → σ.1 ≤ q ∧ q < H0.size) → u.1 143 = nI p → u.1 141 = nI n → u.1 144 = nI op → u.1 145 = 0 → n ≤ 240 → p ≤ n → op + d = 6 → 2 * (n + 1 - p) + 1 ≤ k → CRq G l σ (PrQ G o R tx H0) (A0 o R H0.size) yX7_factor cX7_factor 3 (.object "SharedWindow$Sum") (8 + 3 * d) (160 + 90 * d) (3 * (n + 1 - p)) (9 * (n + 1 - p)) [.ref (R 140)] (fun H => PwQ G o R tx u H ∧ H = H0) (FPost G u n p H0 (n - p + 2 * d) 2 0 (rdE (u.2.1 6) n k 0 op p a))
def ProC (G : GG) (l : Launch) (d : Nat) : Prop := ∀ (σ : SD) (o : Nat) (R : Nat → Nat) (tx : Nat) (u : MS) (n p op k : Nat) (a : SA) (H0 : Heap), DwQ o R → (∀ q, AwQ o R q → σ.1 ≤ q ∧ q < H0.size) → u.1 143 = nI p → u.1 141 = nI n → u.1 144 = nI op → u.1 145 = 0 → n ≤ 240 → p ≤ n → op + d = 6 → 2 * (n + 1 - p) + 1 ≤ k → CRq G l σ (PrQ G o R tx H0) (A0 o R H0.size) yX7_product cX7_product 4 (.object "SharedWindow$Sum") (9 + 3 * d) (190 + 90 * d) (3 * (n + 1 - p) + 1) (9 * (n + 1 - p) + 3) [.ref (R 140)] (fun H => PwQ G o R tx u H ∧ H = H0) (FPost G u n p H0 (n - p + 2 * d + 1) 1 1 (prodS (u.2.1 6) n k op p a))
/-- the class of a node, whatever it holds -/
def SK (z : Nat) (G : GG) (b : Nat) (H : Heap) : Prop := ∃ ci fs, (ci = z ∨ ci = z + 1 ∨ ci = z + 2) ∧ va_P G.1 vwCl [(b, .inr (ci, fs))] H
theorem SK.fr {z : Nat} {G : GG} {b : Nat} {A : Nat → Prop} {H H1 : Heap} (h : SK z G b H) (hf : Fr A H H1) (hA : ¬ A b) : SK z G b H1 := by
  obtain ⟨ci, fs, h1, h2⟩ := h
  exact ⟨ci, fs, h1, h2.fr1 hf hA⟩
theorem SK.put {z : Nat} {G : GG} {b x : Nat} {H H1 : Heap} {fs : List Value} (h : SK z G b H) (hf : Fr (fun q => q = x) H H1) (hN : va_P G.1 vwCl [(x, .inr (z, fs))] H1) : SK z G b H1 := by
  by_cases e : b = x
  · subst e; exact ⟨z, fs, Or.inl rfl, hN⟩
  · exact h.fr hf e
theorem SK.ofT {G : GG} {A : Nat → Prop} {H : Heap} {d a : Nat} {den : SDn} (h : (TT G A H d).1 a den) : SK 7 G a H := by
  cases d with
  | zero => exact h.elim
  | succ d =>
    obtain ⟨-, ⟨n, h1, -⟩ | ⟨i, -, h1, -⟩ | ⟨sg, p, r, dp, dr, h1, -⟩⟩ := h
    · exact ⟨8, _, Or.inr (Or.inl rfl), h1⟩
    · exact ⟨9, _, Or.inr (Or.inr rfl), h1⟩
    · exact ⟨7, _, Or.inl rfl, h1⟩
theorem SK.ofC {G : GG} {A : Nat → Prop} {H : Heap} {d a : Nat} {den : CDn} (h : (CT G A H d).1 a den) : SK 10 G a H := by
  cases d with
  | zero => exact h.elim
  | succ d =>
    obtain ⟨-, ⟨x, y, sg, dx, dy, h1, -⟩ | ⟨x, dx, h1, -⟩ | ⟨p, b, r, dp, dr, h1, -⟩⟩ := h
    · exact ⟨12, _, Or.inr (Or.inr rfl), h1⟩
    · exact ⟨11, _, Or.inr (Or.inl rfl), h1⟩
    · exact ⟨10, _, Or.inl rfl, h1⟩
def KF (z : Nat) (G : GG) (r : Option Nat) (h0 : Nat) (H : Heap) : Prop := ∀ b, r = some b → SK z G b H ∧ h0 ≤ b
theorem KF.fr {z : Nat} {G : GG} {r : Option Nat} {h0 : Nat} {A : Nat → Prop} {H H1 : Heap} (h : KF z G r h0 H) (hf : Fr A H H1) (hA : ∀ q, A q → q < h0) : KF z G r h0 H1 := fun b hb => by
  obtain ⟨h1, h2⟩ := h b hb
  exact ⟨h1.fr hf (fun k => by have := hA b k; omega), h2⟩
theorem KF.no (z : Nat) (G : GG) (h0 : Nat) (H : Heap) : KF z G none h0 H := fun b hb => by cases hb
theorem KF.lo {z : Nat} {G : GG} {r : Option Nat} {h0 h1 : Nat} {H : Heap} (h : KF z G r h0 H) (hh : h1 ≤ h0) : KF z G r h1 H := fun b hb => ⟨(h b hb).1, Nat.le_trans hh (h b hb).2⟩
def KPost (z : Nat) (G : GG) (H0 : Heap) (r : Option Nat) (w : MS × Nat × (Heap → Prop)) : Prop := ∀ H, w.2.2 H → KF z G r H0.size H
def SumC (G : GG) (l : Launch) (d : Nat) : Prop := ∀ (σ : SD) (o : Nat) (R : Nat → Nat) (tx : Nat) (u : MS) (n p op k : Nat) (a : SA) (H0 : Heap), DwQ o R → (∀ q, AwQ o R q → σ.1 ≤ q ∧ q < H0.size) → u.1 143 = nI p → u.1 141 = nI n → u.1 144 = nI op → u.1 145 = 0 → n ≤ 240 → p ≤ n → op + d = 6 → 2 * (n + 1 - p) + 2 ≤ k → CRq G l σ (PrQ G o R tx H0) (A0 o R H0.size) yX7_sum cX7_sum 4 (.object "SharedWindow$Sum") (10 + 3 * d) (220 + 90 * d) (3 * (n + 1 - p) + 2) (9 * (n + 1 - p) + 6) [.ref (R 140)] (fun H => PwQ G o R tx u H ∧ H = H0) (fun r w => FPost G u n p H0 (n - p + 2 * d + 2) 0 2 (rdE (u.2.1 6) n k 3 op p a) r w ∧ KPost 7 G H0 r w)
set_option maxHeartbeats 8000000 in
theorem fac_ok (G : GG) (l : Launch) (d : Nat) (ihS : ∀ d', d' + 1 = d → SumC G l d') : FacC G l d := by
  intro σ o R tx u n p op k a H0 hD hσ hp hn ho1 hf hn2 hpn hop hk
  obtain ⟨k, rfl⟩ : ∃ k9, k = k9 + 1 := ⟨k - 1, by omega⟩
  refine CRq.mk RX7 (Or.inl ⟨_, rfl⟩) pnX7 rfl (Nat.le_of_ble_eq_true rfl) (fun pg en Rm sg mm ar bw mth cd QQ ls hC hRm hK hT hX hS hl hq => ?_)
  obtain ⟨hP, rfl⟩ := hX
  have hx := hC.1; have hb := hC.2.1; have ho := hC.2.2.2.1; have hts := hC.2.2.2.2
  have hrd : AwQ o R (R 140) := Or.inr ⟨140, by decide, rfl⟩
  have hA : ∀ q, AwQ o R q → q < sg.heap.size := fun q h => (hσ q h).2
  have hσ0 : σ.1 ≤ sg.heap.size := Nat.le_trans (hσ _ hrd).1 (Nat.le_of_lt (hσ _ hrd).2)
  have hσA : ∀ q, A0 o R sg.heap.size q → kpA σ q := fun q h => h.elim (fun h => (hσ q h).1) (fun h => Nat.le_trans hσ0 h)
  have hDA : ∀ (tx : Nat) (u : MS), va_D (A0 o R sg.heap.size) (celQ G o R tx u) := fun tx u => (hD G tx u).up (fun q h => Or.inl h)
  refine W_c0 ?_
  have hl : lv_has ls 3 [(0, .ref (R 140))] := hl
  have hP : PwQ G o R tx (qE u (u.1 143) (u.1 144) (u.1 145) (u.1 146)) sg.heap := by rw [qE_self]; exact hP
  rw [hp, ho1, hf] at hP
  refine lv_aload_n hx hb dX7_factor_0 rfl (lv_at hl 0 rfl) ?_
  refine CIs.go (rcV hC hl (c_X7_here G l o R tx (qE u (nI p) (nI op) 0 (u.1 146)) p n (rfl) (hn) (hn2) (by omega)) hK hP (va_recv hK.1 hP clX7 (oQ_rd _ _ _ _ _)) q431 q433 qs3 q117 q434 mdX7_here (room_v hRm (by omega) (by omega) (by omega) (by omega)) rfl rfl dX7_factor_1) ?_
  refine W_top (y := (nI (hzN (u.2.1 6) n p))) (by simp only [qE_g6]) ?_
  refine lv_istore_n (lv' := [(1, .int (nI (hzN (u.2.1 6) n p))), (0, .ref (R 140))]) hx hb dX7_factor_4 rfl hl (by decide) rfl (fun ls hl => ?_)
  refine lv_iload_n hx hb dX7_factor_5 rfl (lv_at hl 0 rfl) ?_
  refine lv_bipush (v := 91) hx hb dX7_factor_6 (by decide) ?_
  refine lv_icmp_ne (tgt := 56) hx hb dX7_factor_8 (by decide) (fun c8 => ?_) (fun c8 => ?_)
  · have c8 : ¬ ((hzN (u.2.1 6) n p) = 91) := mt (nI_eq (a := (hzN (u.2.1 6) n p)) (b := 91) (by first | omega | exact hzN_b _ _ _) (by first | omega | exact hzN_b _ _ _)).mpr c8
    have h91 : ¬ ckN (u.2.1 6) n p = 91 := mt (hz_ck (by decide) (by decide)).mpr c8
    refine lv_aload_n hx hb dX7_factor_56 rfl (lv_at hl 1 rfl) ?_
    refine CIs.go (rcV hC hl (c_X7_seesDigit G l o R tx (qE u (nI p) (nI op) 0 (u.1 146)) p n (rfl) (hn) (hn2) (by omega)) hK hP (va_recv hK.1 hP clX7 (oQ_rd _ _ _ _ _)) q548 q550 qs10 q117 q551 mdX7_seesDigit (room_v hRm (by omega) (by omega) (by omega) (by omega)) rfl rfl dX7_factor_57) ?_
    refine W_top (y := (bI (digB (u.2.1 6) n p))) (by simp only [qE_g6]) ?_
    refine lv_if_eq (tgt := 75) hx hb dX7_factor_60 (by decide) (fun c60 => ?_) (fun c60 => ?_)
    · have c60 : (digB (u.2.1 6) n p) = false := bI_0.mp c60
      refine lv_iload_n hx hb dX7_factor_75 rfl (lv_at hl 0 rfl) ?_
      refine lv_if_eq (tgt := 88) hx hb dX7_factor_76 (by decide) (fun c76 => ?_) (fun c76 => ?_)
      · have c76 : (hzN (u.2.1 6) n p) = 0 := (nI_eq (a := (hzN (u.2.1 6) n p)) (b := 0) (by first | omega | exact hzN_b _ _ _) (by first | omega | exact hzN_b _ _ _)).mp c76
        have hln := let_0 c76
        refine lv_aload_n hx hb dX7_factor_88 rfl (lv_at hl 1 rfl) ?_
        refine lv_iconst (v := 1) hx hb dX7_factor_89 (by decide) ?_
        refine lv_aload_n hx hb dX7_factor_90 rfl (lv_at hl 1 rfl) ?_
        refine S_get hC hK hP (oQ_rd _ _ _ _ _) clX7 in_X7 2 (by decide) (fD143 _ _ _ _) q399 dX7_factor_91 ?_
        refine W_top (y := (nI p)) (by rw [qE_f143]) ?_
        refine CXv.go (rcV hC hl (c_X7_bad G l o R tx (qE u (nI p) (nI op) 0 (u.1 146)) 1 (nI p) (rfl) hD) hK hP (va_recv hK.1 hP clX7 (oQ_rd _ _ _ _ _)) q522 q524 qs4 q117 q525 mdX7_bad (room_v hRm (by omega) (by omega) (by omega) (by omega)) rfl rfl dX7_factor_94) hS (fun q h => Or.inl h) (fun w94 H locs hpo hP hz hk hS => ?_)
        have ew94 := hpo
        rw [ew94] at hP
        rw [qE_again] at hP
        simp only [qE_f143, qE_f144] at hP
        have hF : Fr (AwQ o R) _ _ := ⟨hz, hk⟩
        refine lv_aload_n hx hb dX7_factor_97 rfl (lv_at hl 1 rfl) ?_
        refine lv_dup hx hb dX7_factor_98 rfl ?_
        refine S_get hC hK hP (oQ_rd _ _ _ _ _) clX7 in_X7 2 (by decide) (fD143 _ _ _ _) q399 dX7_factor_99 ?_
        refine W_top (y := (nI p)) (by rw [qE_f143]) ?_
        refine lv_iconst (v := 1) hx hb dX7_factor_102 (by decide) ?_
        refine lv_iadd hx hb dX7_factor_103 ?_
        refine W_top (nI_add p 1) ?_
        refine F_put hC hK hP (hDA _ _) hS (oQ_rd _ _ _ _ _) clX7 in_X7 tyX7_ok nmX7 2 (by decide) (pQ143 _ _ _ _ _ _) q399 rfl rfl rfl rfl (Nat.le_of_ble_eq_true rfl) dX7_factor_104 (fun H locs hP hS hF => ?_)
        rw [qE_V143] at hP
        have hF : Fr (AwQ o R) _ _ := hF.up (fun q z => by rw [show q = R 140 from z]; exact hrd)
        have hge0 := hS.1
        refine F_newA tyX11 hC hK hS in_X11 tyX11_ok q570 q571 q127 clX11 (fs := [.int 0]) (fun j hj => by rcases (show j = 0 by omega) with rfl; rfl) (by decide) (rmc hRm (by omega)) (rms hRm (by omega)) dX7_factor_107 (fun a107 H ha_a107 hN_a107 hz_a107 hF hS => ?_)
        have hge_a107 : sg.heap.size ≤ a107 := by rw [ha_a107]; exact hge0
        have hP : PwQ G o R tx (qE u (nI (p + 1)) (nI op) 1 (nI p)) H := va_P.fr hP hF (fun _ _ _ h => h)
        have hF : Fr (AwQ o R) _ _ := hF.up (fun q z => False.elim z)
        refine lv_dup hx hb dX7_factor_110 rfl ?_
        refine lv_iload_n hx hb dX7_factor_111 rfl (lv_at hl 0 rfl) ?_
        refine CXv.go (rcI (As := [.int (nI (hzN (u.2.1 6) n p))]) hC hl (c_X11_init G l a107 (nI (hzN (u.2.1 6) n p))) hK hN_a107 rfl q572 q573 q127 q574 mdX11_init (room_v hRm (by omega) (by omega) (by omega) (by omega)) rfl rfl dX7_factor_112) hS (fun q z => Or.inr (by rw [show q = a107 from z]; exact hge_a107)) (fun w112 H locs hpo112 hN_a107 hz hk hS => ?_)
        have hN_a107 : va_P G.1 vwCl [(a107, .inr (9, [.int (nI (hzN (u.2.1 6) n p))]))] H := hN_a107
        have hF : Fr (fun q => q = a107) _ _ := ⟨hz, hk⟩
        have hP := PwQ.frA hP hF hD hA hge_a107
        refine W_size (fun hzz hww => ?_)
        exact hq _ _ (some a107) ((qE u (nI (p + 1)) (nI op) 1 (nI p)), (0 + 1), (fun _ => True)) _ _ _ _ dX7_factor_115 ⟨hP, ⟨hzz, hww⟩, trivial⟩ hS (FP_l (e := (1, p)) (q := p + 1) (by rw [rdE_0, if_neg h91, if_neg (by rw [c60]; decide), hln]) (by omega) (by rw [ho1] <;> rfl) (show fOK 1 from ⟨by decide, by decide⟩) (by omega)) (by omega) (by omega)
      · have c76 : ¬ ((hzN (u.2.1 6) n p) = 0) := mt (nI_eq (a := (hzN (u.2.1 6) n p)) (b := 0) (by first | omega | exact hzN_b _ _ _) (by first | omega | exact hzN_b _ _ _)).mpr c76
        refine va_ldcS hx hb ho hT.1.1 dX7_factor_79 ?_
        refine lv_iload_n hx hb dX7_factor_81 rfl (lv_at hl 0 rfl) ?_
        refine CIs.go (rrV (As := [.int (nI (hzN (u.2.1 6) n p))]) hC hl (c_J0_indexOf G l σ 0 (hzN (u.2.1 6) n p) (by decide) (hzN_lt _ _ _)) hK (stK hT hS hσA) trivial (vk_recv (A := kpA σ) hT.2.2 (i := 0) (by decide) (vaS_up hS hσA)) q436 q437 q438 q118 q439 mdJ0_indexOf (room_v hRm (by omega) (by omega) (by omega) (by omega)) rfl rfl dX7_factor_82) ?_
        refine lv_if_ge (tgt := 97) hx hb dX7_factor_85 (by decide) (fun c85 => ?_) (fun c85 => ?_)
        · obtain ⟨li, hli, hli9, hlic, hpn1⟩ := let_ix c76 c85
          refine lv_aload_n hx hb dX7_factor_97 rfl (lv_at hl 1 rfl) ?_
          refine lv_dup hx hb dX7_factor_98 rfl ?_
          refine S_get hC hK hP (oQ_rd _ _ _ _ _) clX7 in_X7 2 (by decide) (fD143 _ _ _ _) q399 dX7_factor_99 ?_
          refine W_top (y := (nI p)) (by rw [qE_f143]) ?_
          refine lv_iconst (v := 1) hx hb dX7_factor_102 (by decide) ?_
          refine lv_iadd hx hb dX7_factor_103 ?_
          refine W_top (nI_add p 1) ?_
          refine F_put hC hK hP (hDA _ _) hS (oQ_rd _ _ _ _ _) clX7 in_X7 tyX7_ok nmX7 2 (by decide) (pQ143 _ _ _ _ _ _) q399 rfl rfl rfl rfl (Nat.le_of_ble_eq_true rfl) dX7_factor_104 (fun H locs hP hS hF => ?_)
          rw [qE_V143] at hP
          have hF : Fr (AwQ o R) _ _ := hF.up (fun q z => by rw [show q = R 140 from z]; exact hrd)
          have hge0 := hS.1
          refine F_newA tyX11 hC hK hS in_X11 tyX11_ok q570 q571 q127 clX11 (fs := [.int 0]) (fun j hj => by rcases (show j = 0 by omega) with rfl; rfl) (by decide) (rmc hRm (by omega)) (rms hRm (by omega)) dX7_factor_107 (fun a107 H ha_a107 hN_a107 hz_a107 hF hS => ?_)
          have hge_a107 : sg.heap.size ≤ a107 := by rw [ha_a107]; exact hge0
          have hP : PwQ G o R tx (qE u (nI (p + 1)) (nI op) 0 (u.1 146)) H := va_P.fr hP hF (fun _ _ _ h => h)
          have hF : Fr (AwQ o R) _ _ := hF.up (fun q z => False.elim z)
          refine lv_dup hx hb dX7_factor_110 rfl ?_
          refine lv_iload_n hx hb dX7_factor_111 rfl (lv_at hl 0 rfl) ?_
          refine CXv.go (rcI (As := [.int (nI (hzN (u.2.1 6) n p))]) hC hl (c_X11_init G l a107 (nI (hzN (u.2.1 6) n p))) hK hN_a107 rfl q572 q573 q127 q574 mdX11_init (room_v hRm (by omega) (by omega) (by omega) (by omega)) rfl rfl dX7_factor_112) hS (fun q z => Or.inr (by rw [show q = a107 from z]; exact hge_a107)) (fun w112 H locs hpo112 hN_a107 hz hk hS => ?_)
          have hN_a107 : va_P G.1 vwCl [(a107, .inr (9, [.int (nI (hzN (u.2.1 6) n p))]))] H := hN_a107
          have hF : Fr (fun q => q = a107) _ _ := ⟨hz, hk⟩
          have hP := PwQ.frA hP hF hD hA hge_a107
          refine W_size (fun hzz hww => ?_)
          exact hq _ _ (some a107) ((qE u (nI (p + 1)) (nI op) 0 (u.1 146)), (0 + 1), (fun H => va_P G.1 vwCl [(a107, .inr (9, [.int (nI (hzN (u.2.1 6) n p))]))] H)) _ _ _ _ dX7_factor_115 ⟨hP, ⟨hzz, hww⟩, hN_a107⟩ hS (FP_r (a := (([UN + li], fun F => some (F li)), p + 1)) (by rw [rdE_0, if_neg h91, if_neg (by rw [c60]; decide), hli]) (by rw [ho1] <;> rfl) (by dsimp only; omega) (fun H h => TT.letr hge_a107 (by omega) hli9 hlic h)) (by omega) (by omega)
        · have hln := let_ixn c76 c85
          refine lv_aload_n hx hb dX7_factor_88 rfl (lv_at hl 1 rfl) ?_
          refine lv_iconst (v := 1) hx hb dX7_factor_89 (by decide) ?_
          refine lv_aload_n hx hb dX7_factor_90 rfl (lv_at hl 1 rfl) ?_
          refine S_get hC hK hP (oQ_rd _ _ _ _ _) clX7 in_X7 2 (by decide) (fD143 _ _ _ _) q399 dX7_factor_91 ?_
          refine W_top (y := (nI p)) (by rw [qE_f143]) ?_
          refine CXv.go (rcV hC hl (c_X7_bad G l o R tx (qE u (nI p) (nI op) 0 (u.1 146)) 1 (nI p) (rfl) hD) hK hP (va_recv hK.1 hP clX7 (oQ_rd _ _ _ _ _)) q522 q524 qs4 q117 q525 mdX7_bad (room_v hRm (by omega) (by omega) (by omega) (by omega)) rfl rfl dX7_factor_94) hS (fun q h => Or.inl h) (fun w94 H locs hpo hP hz hk hS => ?_)
          have ew94 := hpo
          rw [ew94] at hP
          rw [qE_again] at hP
          simp only [qE_f143, qE_f144] at hP
          have hF : Fr (AwQ o R) _ _ := ⟨hz, hk⟩
          refine lv_aload_n hx hb dX7_factor_97 rfl (lv_at hl 1 rfl) ?_
          refine lv_dup hx hb dX7_factor_98 rfl ?_
          refine S_get hC hK hP (oQ_rd _ _ _ _ _) clX7 in_X7 2 (by decide) (fD143 _ _ _ _) q399 dX7_factor_99 ?_
          refine W_top (y := (nI p)) (by rw [qE_f143]) ?_
          refine lv_iconst (v := 1) hx hb dX7_factor_102 (by decide) ?_
          refine lv_iadd hx hb dX7_factor_103 ?_
          refine W_top (nI_add p 1) ?_
          refine F_put hC hK hP (hDA _ _) hS (oQ_rd _ _ _ _ _) clX7 in_X7 tyX7_ok nmX7 2 (by decide) (pQ143 _ _ _ _ _ _) q399 rfl rfl rfl rfl (Nat.le_of_ble_eq_true rfl) dX7_factor_104 (fun H locs hP hS hF => ?_)
          rw [qE_V143] at hP
          have hF : Fr (AwQ o R) _ _ := hF.up (fun q z => by rw [show q = R 140 from z]; exact hrd)
          have hge0 := hS.1
          refine F_newA tyX11 hC hK hS in_X11 tyX11_ok q570 q571 q127 clX11 (fs := [.int 0]) (fun j hj => by rcases (show j = 0 by omega) with rfl; rfl) (by decide) (rmc hRm (by omega)) (rms hRm (by omega)) dX7_factor_107 (fun a107 H ha_a107 hN_a107 hz_a107 hF hS => ?_)
          have hge_a107 : sg.heap.size ≤ a107 := by rw [ha_a107]; exact hge0
          have hP : PwQ G o R tx (qE u (nI (p + 1)) (nI op) 1 (nI p)) H := va_P.fr hP hF (fun _ _ _ h => h)
          have hF : Fr (AwQ o R) _ _ := hF.up (fun q z => False.elim z)
          refine lv_dup hx hb dX7_factor_110 rfl ?_
          refine lv_iload_n hx hb dX7_factor_111 rfl (lv_at hl 0 rfl) ?_
          refine CXv.go (rcI (As := [.int (nI (hzN (u.2.1 6) n p))]) hC hl (c_X11_init G l a107 (nI (hzN (u.2.1 6) n p))) hK hN_a107 rfl q572 q573 q127 q574 mdX11_init (room_v hRm (by omega) (by omega) (by omega) (by omega)) rfl rfl dX7_factor_112) hS (fun q z => Or.inr (by rw [show q = a107 from z]; exact hge_a107)) (fun w112 H locs hpo112 hN_a107 hz hk hS => ?_)
          have hN_a107 : va_P G.1 vwCl [(a107, .inr (9, [.int (nI (hzN (u.2.1 6) n p))]))] H := hN_a107
          have hF : Fr (fun q => q = a107) _ _ := ⟨hz, hk⟩
          have hP := PwQ.frA hP hF hD hA hge_a107
          refine W_size (fun hzz hww => ?_)
          exact hq _ _ (some a107) ((qE u (nI (p + 1)) (nI op) 1 (nI p)), (0 + 1), (fun _ => True)) _ _ _ _ dX7_factor_115 ⟨hP, ⟨hzz, hww⟩, trivial⟩ hS (FP_l (e := (1, p)) (q := p + 1) (by rw [rdE_0, if_neg h91, if_neg (by rw [c60]; decide), hln]) (by omega) (by rw [ho1] <;> rfl) (show fOK 1 from ⟨by decide, by decide⟩) (by omega)) (by omega) (by omega)
    · have c60 : (digB (u.2.1 6) n p) = true := bI_1.mp c60
      have hpn1 := (digB_ck c60).1
      have hge0 := hS.1
      refine F_newA tyX10 hC hK hS in_X10 tyX10_ok q552 q553 q126 clX10 (fs := [.int 0]) (fun j hj => by rcases (show j = 0 by omega) with rfl; rfl) (by decide) (rmc hRm (by omega)) (rms hRm (by omega)) dX7_factor_63 (fun a63 H ha_a63 hN_a63 hz_a63 hF hS => ?_)
      have hge_a63 : sg.heap.size ≤ a63 := by rw [ha_a63]; exact hge0
      have hP : PwQ G o R tx (qE u (nI p) (nI op) 0 (u.1 146)) H := va_P.fr hP hF (fun _ _ _ h => h)
      have hF : Fr (AwQ o R) _ _ := hF.up (fun q z => False.elim z)
      refine lv_dup hx hb dX7_factor_66 rfl ?_
      refine lv_aload_n hx hb dX7_factor_67 rfl (lv_at hl 1 rfl) ?_
      refine CXi.go (rcV hC hl (c_X7_number G l o R tx (qE u (nI p) (nI op) 0 (u.1 146)) p n (rfl) (hn) (hn2) (hpn) (rfl) hD) hK hP (va_recv hK.1 hP clX7 (oQ_rd _ _ _ _ _)) q554 q556 qs11 q117 q557 mdX7_number (room_v hRm (by omega) (by omega) (by omega) (by omega)) rfl rfl dX7_factor_68) hS (fun q h => Or.inl h) (fun r68 w68 H locs hpo hP hz hk hS => ?_)
      obtain ⟨r0_1, at9_2, ft_3, pc_4, f68_0, er68, ew68⟩ := hpo
      rw [ew68] at hP
      refine W_top (y := r0_1) er68 ?_
      rw [qE_again] at hP
      simp only [qE_f144] at hP
      have hF : Fr (AwQ o R) _ _ := ⟨hz, hk⟩
      have hN_a63 := hN_a63.fr1 hF (nAw hA hge_a63)
      rcases nzP_c f68_0 with ⟨v9, hv9, rfl, rfl, rfl, rfl⟩ | ⟨e9, q9, hv9, rfl, rfl, rfl, hq9⟩
      · change numL (u.2.1 6) n p = _ at hv9
        have hvb := numL_b c60 hv9
        have hl : lv_has ls 3 [(1, .int (nI (hzN (u.2.1 6) n p))), (0, .ref (R 140))] := hl
        refine CXv.go (rcI (As := [.int (nI v9.1)]) hC hl (c_X10_init G l a63 (nI v9.1)) hK hN_a63 rfl q558 q559 q126 q560 mdX10_init (room_v hRm (by omega) (by omega) (by omega) (by omega)) rfl rfl dX7_factor_71) hS (fun q z => Or.inr (by rw [show q = a63 from z]; exact hge_a63)) (fun w71 H locs hpo71 hN_a63 hz hk hS => ?_)
        have hN_a63 : va_P G.1 vwCl [(a63, .inr (8, [.int (nI v9.1)]))] H := hN_a63
        have hF : Fr (fun q => q = a63) _ _ := ⟨hz, hk⟩
        have hP := PwQ.frA hP hF hD hA hge_a63
        refine W_size (fun hzz hww => ?_)
        exact hq _ _ (some a63) ((qE u (nI v9.2) (nI op) 0 (u.1 146)), (0 + 1), (fun H => va_P G.1 vwCl [(a63, .inr (8, [.int (nI v9.1)]))] H)) _ _ _ _ dX7_factor_74 ⟨hP, ⟨hzz, hww⟩, hN_a63⟩ hS (FP_r (a := (([v9.1], fun _ => some (nI v9.1)), v9.2)) (by rw [rdE_0, if_neg h91, if_pos c60, hv9]; rfl) (by rw [ho1] <;> rfl) (by dsimp only; omega) (fun H h => TT.num hge_a63 (by omega) h)) (by omega) (by omega)
      · change numL (u.2.1 6) n p = _ at hv9
        have hl : lv_has ls 3 [(1, .int (nI (hzN (u.2.1 6) n p))), (0, .ref (R 140))] := hl
        refine CXv.go (rcI (As := [.int r0_1]) hC hl (c_X10_init G l a63 r0_1) hK hN_a63 rfl q558 q559 q126 q560 mdX10_init (room_v hRm (by omega) (by omega) (by omega) (by omega)) rfl rfl dX7_factor_71) hS (fun q z => Or.inr (by rw [show q = a63 from z]; exact hge_a63)) (fun w71 H locs hpo71 hN_a63 hz hk hS => ?_)
        have hN_a63 : va_P G.1 vwCl [(a63, .inr (8, [.int r0_1]))] H := hN_a63
        have hF : Fr (fun q => q = a63) _ _ := ⟨hz, hk⟩
        have hP := PwQ.frA hP hF hD hA hge_a63
        refine W_size (fun hzz hww => ?_)
        exact hq _ _ (some a63) ((qE u (nI q9) (nI op) (nI e9.1) (nI e9.2)), (0 + 1), (fun _ => True)) _ _ _ _ dX7_factor_74 ⟨hP, ⟨hzz, hww⟩, trivial⟩ hS (FP_l (e := e9) (q := q9) (by rw [rdE_0, if_neg h91, if_pos c60, hv9]; rfl) (by omega) (by rw [ho1] <;> rfl) (numL_e hv9) (by omega)) (by omega) (by omega)
  · have c8 : (hzN (u.2.1 6) n p) = 91 := (nI_eq (a := (hzN (u.2.1 6) n p)) (b := 91) (by first | omega | exact hzN_b _ _ _) (by first | omega | exact hzN_b _ _ _)).mp c8
    have h91 : ckN (u.2.1 6) n p = 91 := (hz_ck (by decide) (by decide)).mp c8
    have hpn1 := ckN_in (by decide) h91
    refine lv_aload_n hx hb dX7_factor_11 rfl (lv_at hl 1 rfl) ?_
    refine CXv.go (rcV hC hl (c_X7_opens G l o R tx (qE u (nI p) (nI op) 0 (u.1 146)) op p (rfl) (by omega) (rfl) (rfl) (by omega) hD) hK hP (va_recv hK.1 hP clX7 (oQ_rd _ _ _ _ _)) q540 q542 qs8 q117 q543 mdX7_opens (room_v hRm (by omega) (by omega) (by omega) (by omega)) rfl rfl dX7_factor_12) hS (fun q h => Or.inl h) (fun w12 H locs hpo hP hz hk hS => ?_)
    obtain ⟨ft_5, pc_6, f12_0, ew12⟩ := hpo
    rw [ew12] at hP
    rw [qE_again] at hP
    have hF : Fr (AwQ o R) _ _ := ⟨hz, hk⟩
    by_cases h6 : op = 6
    · rw [if_pos h6] at f12_0
      obtain ⟨rfl, rfl⟩ := f12_0
      have hl : lv_has ls 3 [(1, .int (nI (hzN (u.2.1 6) n p))), (0, .ref (R 140))] := hl
      refine lv_aload_n hx hb dX7_factor_15 rfl (lv_at hl 1 rfl) ?_
      refine CIs.go (rcV hC hl (c_X7_isGood G l o R tx (qE u (nI (p + 1)) (nI (op + 1)) 5 (nI p))  ) hK hP (va_recv hK.1 hP clX7 (oQ_rd _ _ _ _ _)) q423 q425 qs1 q117 q426 mdX7_isGood (room_v hRm (by omega) (by omega) (by omega) (by omega)) rfl rfl dX7_factor_16) ?_
      refine W_top (y := (bI (isGB 5))) (by simp only [qE_f145]) ?_
      refine W_top (y := 0) (by decide) ?_
      refine lv_if_eq (tgt := 29) hx hb dX7_factor_19 (by decide) (fun c19 => ?_) (fun c19 => ?_)
      · refine lv_null hx hb dX7_factor_29 ?_
        refine lv_astore_nN (lv' := [(2, .null), (1, .int (nI (hzN (u.2.1 6) n p))), (0, .ref (R 140))]) hx hb dX7_factor_30 rfl hl (by decide) rfl (fun ls hl => ?_)
        refine lv_aload_n hx hb dX7_factor_31 rfl (lv_at hl 2 rfl) ?_
        refine CIs.go (rcV hC hl (c_X7_isGood G l o R tx (qE u (nI (p + 1)) (nI (op + 1)) 5 (nI p))  ) hK hP (va_recv hK.1 hP clX7 (oQ_rd _ _ _ _ _)) q423 q425 qs1 q117 q426 mdX7_isGood (room_v hRm (by omega) (by omega) (by omega) (by omega)) rfl rfl dX7_factor_32) ?_
        refine W_top (y := (bI (isGB 5))) (by simp only [qE_f145]) ?_
        refine W_top (y := 0) (by decide) ?_
        refine lv_if_eq (tgt := 44) hx hb dX7_factor_35 (by decide) (fun c35 => ?_) (fun c35 => ?_)
        · refine lv_aload_n hx hb dX7_factor_44 rfl (lv_at hl 2 rfl) ?_
          refine lv_dup hx hb dX7_factor_45 rfl ?_
          refine S_get hC hK hP (oQ_rd _ _ _ _ _) clX7 in_X7 3 (by decide) (fD144 _ _ _ _) q400 dX7_factor_46 ?_
          refine W_top (y := (nI (op + 1))) (by rw [qE_f144]) ?_
          refine lv_iconst (v := 1) hx hb dX7_factor_49 (by decide) ?_
          refine lv_isub hx hb dX7_factor_50 ?_
          refine W_top (y := (nI op)) (pk_sub (a := op + 1) (b := 1) (by omega)) ?_
          refine F_put hC hK hP (hDA _ _) hS (oQ_rd _ _ _ _ _) clX7 in_X7 tyX7_ok nmX7 3 (by decide) (pQ144 _ _ _ _ _ _) q400 rfl rfl rfl rfl (Nat.le_of_ble_eq_true rfl) dX7_factor_51 (fun H locs hP hS hF => ?_)
          rw [qE_V144] at hP
          have hF : Fr (AwQ o R) _ _ := hF.up (fun q z => by rw [show q = R 140 from z]; exact hrd)
          refine lv_aload_nN hx hb dX7_factor_54 rfl (lv_at hl 0 rfl) ?_
          refine W_size (fun hzz hww => ?_)
          exact hq _ _ none ((qE u (nI (p + 1)) (nI op) 5 (nI p)), 0, (fun _ => True)) _ _ _ _ dX7_factor_55 ⟨hP, ⟨hzz, hww⟩, trivial⟩ hS (FP_l (e := (5, p)) (q := p + 1) (by rw [rdE_0, if_pos h91, if_pos h6]) (by omega) (by rw [ho1] <;> rfl) (show fOK 5 from ⟨by decide, by decide⟩) (by omega)) (by omega) (by omega)
        · exact absurd c35 (by decide)
      · exact absurd c19 (by decide)
    · rw [if_neg h6] at f12_0
      obtain ⟨rfl, rfl⟩ := f12_0
      obtain ⟨d, rfl⟩ : ∃ d', d = d' + 1 := ⟨d - 1, by omega⟩
      have hge23 := hS.1
      have hσ2 : ∀ q, AwQ o R q → σ.1 ≤ q ∧ q < Array.size H := fun q h => ⟨(hσ q h).1, by have := (hσ q h).2; have := hS.1; omega⟩
      have hl : lv_has ls 3 [(1, .int (nI (hzN (u.2.1 6) n p))), (0, .ref (R 140))] := hl
      refine lv_aload_n hx hb dX7_factor_15 rfl (lv_at hl 1 rfl) ?_
      refine CIs.go (rcV hC hl (c_X7_isGood G l o R tx (qE u (nI (p + 1)) (nI (op + 1)) 0 (u.1 146))  ) hK hP (va_recv hK.1 hP clX7 (oQ_rd _ _ _ _ _)) q423 q425 qs1 q117 q426 mdX7_isGood (room_v hRm (by omega) (by omega) (by omega) (by omega)) rfl rfl dX7_factor_16) ?_
      refine W_top (y := (bI (isGB 0))) (by simp only [qE_f145]) ?_
      refine W_top (y := 1) (by decide) ?_
      refine lv_if_eq (tgt := 29) hx hb dX7_factor_19 (by decide) (fun c19 => ?_) (fun c19 => ?_)
      · exact absurd c19 (by decide)
      · refine lv_aload_n hx hb dX7_factor_22 rfl (lv_at hl 1 rfl) ?_
        refine CRq.goF (rrV (As := []) hC hl (ihS d rfl σ o R tx (qE u (nI (p + 1)) (nI (op + 1)) 0 (u.1 146)) n (p + 1) (op + 1) k a H hD hσ2 rfl hn rfl rfl hn2 (by omega) (by omega) (by omega)) hK (stK hT hS hσA) ⟨hP, rfl⟩ (va_recv hK.1 hP clX7 (oQ_rd _ _ _ _ _)) q526 q528 qs5 q117 q529 mdX7_sum (room_v hRm (by omega) (by omega) (by omega) (by omega)) rfl rfl dX7_factor_23) hS hA (fun r23 w23 g23 X23 H locs hpo23 hP hX23 hF hS => ?_)
        rcases FP_c hpo23.1 with ⟨a9, b9, hx9, hw9, hg9, rfl, hb9⟩ | ⟨e9, q9, hx9, hq9, hw9, he9, hg9⟩
        · change rdE (u.2.1 6) n k 3 (op + 1) (p + 1) a = _ at hx9
          have hb8 := (rdE_b (f := (u.2.1 6)) (k := k) (show p + 1 ≤ n by omega)).2.2.2 hx9
          rw [hw9, qE_again] at hP
          simp only [qE_f144, qE_f146] at hP
          have hTT := (TT.anti (fun q (z : q < sg.heap.size) => Nat.lt_of_lt_of_le z hge23) _).1 _ _ (hb9 _ hX23)
          have hl : lv_has ls 3 [(1, .int (nI (hzN (u.2.1 6) n p))), (0, .ref (R 140))] := hl
          refine lv_goto (tgt := 30) hx hb dX7_factor_26 (by decide) ?_
          refine q_astore_n (lv' := [(2, va_rf (some b9)), (1, .int (nI (hzN (u.2.1 6) n p))), (0, .ref (R 140))]) hx hb dX7_factor_30 rfl hl (by decide) rfl (fun ls hl => ?_)
          refine lv_aload_n hx hb dX7_factor_31 rfl (lv_at hl 2 rfl) ?_
          refine CIs.go (rcV hC hl (c_X7_isGood G l o R tx (qE u (nI a9.2) (nI (op + 1)) 0 (u.1 146))  ) hK hP (va_recv hK.1 hP clX7 (oQ_rd _ _ _ _ _)) q423 q425 qs1 q117 q426 mdX7_isGood (room_v hRm (by omega) (by omega) (by omega) (by omega)) rfl rfl dX7_factor_32) ?_
          refine W_top (y := (bI (isGB 0))) (by simp only [qE_f145]) ?_
          refine W_top (y := 1) (by decide) ?_
          refine lv_if_eq (tgt := 44) hx hb dX7_factor_35 (by decide) (fun c35 => ?_) (fun c35 => ?_)
          · exact absurd c35 (by decide)
          · refine lv_aload_n hx hb dX7_factor_38 rfl (lv_at hl 2 rfl) ?_
            refine lv_bipush (v := 93) hx hb dX7_factor_39 (by decide) ?_
            refine CXv.go (rcV hC hl (c_X7_must G l o R tx (qE u (nI a9.2) (nI (op + 1)) 0 (u.1 146)) 93 a9.2 n (rfl) (hn) (hn2) (by omega) (rfl) (by decide) (by decide) hD) hK hP (va_recv hK.1 hP clX7 (oQ_rd _ _ _ _ _)) q544 q546 qs9 q117 q547 mdX7_must (room_v hRm (by omega) (by omega) (by omega) (by omega)) rfl rfl dX7_factor_41) hS (fun q h => Or.inl h) (fun w41 H locs hpo hP hz hk hS => ?_)
            obtain ⟨ft_7, pc_8, f41_0, ew41⟩ := hpo
            rw [ew41] at hP
            rw [qE_again] at hP
            simp only [qE_f144] at hP
            have hF : Fr (AwQ o R) _ _ := ⟨hz, hk⟩
            have hTT := TT.fr hTT hF (fun q z => by have := hA q z; omega)
            by_cases h93 : ckN (u.2.1 6) n a9.2 = 93
            · change (if ckN (u.2.1 6) n a9.2 = 93 then ft_7 = 0 ∧ pc_8 = (u.1 146) else ft_7 = 1 ∧ pc_8 = nI a9.2) at f41_0
              rw [if_pos h93] at f41_0
              obtain ⟨rfl, rfl⟩ := f41_0
              have hl : lv_has ls 3 [(2, va_rf (some b9)), (1, .int (nI (hzN (u.2.1 6) n p))), (0, .ref (R 140))] := hl
              refine lv_aload_n hx hb dX7_factor_44 rfl (lv_at hl 2 rfl) ?_
              refine lv_dup hx hb dX7_factor_45 rfl ?_
              refine S_get hC hK hP (oQ_rd _ _ _ _ _) clX7 in_X7 3 (by decide) (fD144 _ _ _ _) q400 dX7_factor_46 ?_
              refine W_top (y := (nI (op + 1))) (by rw [qE_f144]) ?_
              refine lv_iconst (v := 1) hx hb dX7_factor_49 (by decide) ?_
              refine lv_isub hx hb dX7_factor_50 ?_
              refine W_top (y := (nI op)) (pk_sub (a := op + 1) (b := 1) (by omega)) ?_
              refine F_put hC hK hP (hDA _ _) hS (oQ_rd _ _ _ _ _) clX7 in_X7 tyX7_ok nmX7 3 (by decide) (pQ144 _ _ _ _ _ _) q400 rfl rfl rfl rfl (Nat.le_of_ble_eq_true rfl) dX7_factor_51 (fun H locs hP hS hF => ?_)
              rw [qE_V144] at hP
              have hF : Fr (AwQ o R) _ _ := hF.up (fun q z => by rw [show q = R 140 from z]; exact hrd)
              have hTT := TT.fr hTT hF (fun q z => by have := hA q z; omega)
              refine q_aload_n hx hb dX7_factor_54 rfl (lv_at hl 0 rfl) ?_
              refine W_size (fun hzz hww => ?_)
              exact hq _ _ (some b9) ((qE u (nI (a9.2 + 1)) (nI op) 0 (u.1 146)), (0 + g23), (fun H => (TT G (fun q => q < sg.heap.size) H (n - p + 2 * (d + 1))).1 b9 a9.1.2)) _ _ _ _ dX7_factor_55 ⟨hP, ⟨hzz, hww⟩, (TT.upto (show n - (p + 1) + 2 * d + 2 ≤ n - p + 2 * (d + 1) by omega)).1 _ _ hTT⟩ hS (FP_r (a := (a9.1, a9.2 + 1)) (by rw [rdE_0, if_pos h91, if_neg h6, hx9]; exact if_pos h93) (by rw [ho1] <;> rfl) (by dsimp only; omega) (fun H h => h)) (by omega) (by omega)
            · change (if ckN (u.2.1 6) n a9.2 = 93 then ft_7 = 0 ∧ pc_8 = (u.1 146) else ft_7 = 1 ∧ pc_8 = nI a9.2) at f41_0
              rw [if_neg h93] at f41_0
              obtain ⟨rfl, rfl⟩ := f41_0
              have hl : lv_has ls 3 [(2, va_rf (some b9)), (1, .int (nI (hzN (u.2.1 6) n p))), (0, .ref (R 140))] := hl
              refine lv_aload_n hx hb dX7_factor_44 rfl (lv_at hl 2 rfl) ?_
              refine lv_dup hx hb dX7_factor_45 rfl ?_
              refine S_get hC hK hP (oQ_rd _ _ _ _ _) clX7 in_X7 3 (by decide) (fD144 _ _ _ _) q400 dX7_factor_46 ?_
              refine W_top (y := (nI (op + 1))) (by rw [qE_f144]) ?_
              refine lv_iconst (v := 1) hx hb dX7_factor_49 (by decide) ?_
              refine lv_isub hx hb dX7_factor_50 ?_
              refine W_top (y := (nI op)) (pk_sub (a := op + 1) (b := 1) (by omega)) ?_
              refine F_put hC hK hP (hDA _ _) hS (oQ_rd _ _ _ _ _) clX7 in_X7 tyX7_ok nmX7 3 (by decide) (pQ144 _ _ _ _ _ _) q400 rfl rfl rfl rfl (Nat.le_of_ble_eq_true rfl) dX7_factor_51 (fun H locs hP hS hF => ?_)
              rw [qE_V144] at hP
              have hF : Fr (AwQ o R) _ _ := hF.up (fun q z => by rw [show q = R 140 from z]; exact hrd)
              have hTT := TT.fr hTT hF (fun q z => by have := hA q z; omega)
              refine q_aload_n hx hb dX7_factor_54 rfl (lv_at hl 0 rfl) ?_
              refine W_size (fun hzz hww => ?_)
              exact hq _ _ (some b9) ((qE u (nI (a9.2 + 1)) (nI op) 1 (nI a9.2)), (0 + g23), (fun _ => True)) _ _ _ _ dX7_factor_55 ⟨hP, ⟨hzz, hww⟩, trivial⟩ hS (FP_l (e := (1, a9.2)) (q := a9.2 + 1) (by rw [rdE_0, if_pos h91, if_neg h6, hx9]; exact if_neg h93) (by omega) (by rw [ho1] <;> rfl) (show fOK 1 from ⟨by decide, by decide⟩) (by omega)) (by omega) (by omega)
        · change rdE (u.2.1 6) n k 3 (op + 1) (p + 1) a = _ at hx9
          rw [hw9, qE_again] at hP
          simp only [qE_f144] at hP
          have hl : lv_has ls 3 [(1, .int (nI (hzN (u.2.1 6) n p))), (0, .ref (R 140))] := hl
          refine lv_goto (tgt := 30) hx hb dX7_factor_26 (by decide) ?_
          refine q_astore_n (lv' := [(2, va_rf r23), (1, .int (nI (hzN (u.2.1 6) n p))), (0, .ref (R 140))]) hx hb dX7_factor_30 rfl hl (by decide) rfl (fun ls hl => ?_)
          refine lv_aload_n hx hb dX7_factor_31 rfl (lv_at hl 2 rfl) ?_
          refine CIs.go (rcV hC hl (c_X7_isGood G l o R tx (qE u (nI q9) (nI (op + 1)) (nI e9.1) (nI e9.2))  ) hK hP (va_recv hK.1 hP clX7 (oQ_rd _ _ _ _ _)) q423 q425 qs1 q117 q426 mdX7_isGood (room_v hRm (by omega) (by omega) (by omega) (by omega)) rfl rfl dX7_factor_32) ?_
          refine W_top (y := (bI (isGB (nI e9.1)))) (by simp only [qE_f145]) ?_
          refine W_top (y := 0) (by rw [he9.1]; rfl) ?_
          refine lv_if_eq (tgt := 44) hx hb dX7_factor_35 (by decide) (fun c35 => ?_) (fun c35 => ?_)
          · refine lv_aload_n hx hb dX7_factor_44 rfl (lv_at hl 2 rfl) ?_
            refine lv_dup hx hb dX7_factor_45 rfl ?_
            refine S_get hC hK hP (oQ_rd _ _ _ _ _) clX7 in_X7 3 (by decide) (fD144 _ _ _ _) q400 dX7_factor_46 ?_
            refine W_top (y := (nI (op + 1))) (by rw [qE_f144]) ?_
            refine lv_iconst (v := 1) hx hb dX7_factor_49 (by decide) ?_
            refine lv_isub hx hb dX7_factor_50 ?_
            refine W_top (y := (nI op)) (pk_sub (a := op + 1) (b := 1) (by omega)) ?_
            refine F_put hC hK hP (hDA _ _) hS (oQ_rd _ _ _ _ _) clX7 in_X7 tyX7_ok nmX7 3 (by decide) (pQ144 _ _ _ _ _ _) q400 rfl rfl rfl rfl (Nat.le_of_ble_eq_true rfl) dX7_factor_51 (fun H locs hP hS hF => ?_)
            rw [qE_V144] at hP
            have hF : Fr (AwQ o R) _ _ := hF.up (fun q z => by rw [show q = R 140 from z]; exact hrd)
            refine q_aload_n hx hb dX7_factor_54 rfl (lv_at hl 0 rfl) ?_
            refine W_size (fun hzz hww => ?_)
            exact hq _ _ r23 ((qE u (nI q9) (nI op) (nI e9.1) (nI e9.2)), (0 + g23), (fun _ => True)) _ _ _ _ dX7_factor_55 ⟨hP, ⟨hzz, hww⟩, trivial⟩ hS (FP_l (e := e9) (q := q9) (by rw [rdE_0, if_pos h91, if_neg h6, hx9]; rfl) (by omega) (by rw [ho1] <;> rfl) he9 (by omega)) (by omega) (by omega)
          · exact absurd c35 (by decide)
