set_option maxRecDepth 100000
/-! the law is laid: SharedWindow.law -/
def PrL (G : GG) (o : Nat) (R : Nat → Nat) (Lw : LW) (w : Nat × MS) (H : Heap) : Prop := PwS G o R w.1 w.2 H ∧ TxW G (AwS o R) w.1 Lw H
def R9 (R : Nat → Nat) (h0 : Nat) : Nat → Nat := fun k => if k = 140 then h0 else if k = 142 then h0 + 1 else R k
def u9 (u : MS) (n : Nat) : MS := (fun k => if k = 141 then nI n else if k = 143 then 0 else if k = 144 then 0 else if k = 145 then 0 else if k = 146 then 0 else u.1 k, u.2)
theorem celQ_9 (G : GG) (o : Nat) (R : Nat → Nat) (tx h0 n : Nat) (u : MS) : celQ G o (R9 R h0) tx (u9 u n) = celS G o R tx u ++ [(h0, .inr (6, [.int (nI n), .ref (h0 + 1), .int 0, .int 0, .int 0, .int 0, .ref o]))] := rfl
theorem celQ_8 (G : GG) (o : Nat) (R : Nat → Nat) (tx h0 : Nat) (u : MS) : celQ G o (R9 R h0) tx u = celS G o R tx u ++ [(h0, .inr (6, fs_rd o (R9 R h0) tx u.1))] := rfl
theorem celQ_7 (G : GG) (o : Nat) (R : Nat → Nat) (tx h0 n : Nat) (u : MS) (a b c d : Int32) : celQ G o (R9 R h0) tx (qE (u9 u n) a b c d) = celS G o R tx u ++ [(h0, .inr (6, fs_rd o (R9 R h0) tx (qE (u9 u n) a b c d).1))] := rfl
theorem va_P.left {D : va_G} {cl : List vw_C} {w1 w2 : va_W} {H : Heap} (h : va_P D cl (w1 ++ w2) H) : va_P D cl w1 H := fun k q hq => h k q (by
  have hl : k < w1.length := (List.getElem?_eq_some_iff.mp hq).1
  rw [List.getElem?_append_left hl]; exact hq)
theorem va_D.snoc {A : Nat → Prop} {ws : va_W} {a : Nat} {e : va_E} (hD : va_D A ws) (hn : ∀ (k : Nat) (q : Nat × va_E), ws[k]? = some q → q.1 ≠ a) (hA : A a) : va_D A (ws ++ [(a, e)]) := by
  have key : ∀ (k : Nat) (q : Nat × va_E), (ws ++ [(a, e)])[k]? = some q → ws[k]? = some q ∨ (k = ws.length ∧ q.1 = a) := by
    intro k q hk
    by_cases hl : k < ws.length
    · rw [List.getElem?_append_left hl] at hk; exact Or.inl hk
    · rw [List.getElem?_append_right (by omega)] at hk
      have hz : k - ws.length < 1 := (List.getElem?_eq_some_iff.mp hk).1
      rw [show k - ws.length = 0 by omega] at hk
      cases hk
      exact Or.inr ⟨by omega, rfl⟩
  refine ⟨fun i j p q hi hj hpq => ?_, fun k q hk => ?_⟩
  · rcases key i p hi with h1 | ⟨h1, h2⟩ <;> rcases key j q hj with h3 | ⟨h3, h4⟩
    · exact hD.1 i j p q h1 h3 hpq
    · exact absurd (hpq.trans h4) (hn i p h1)
    · exact absurd (hpq.symm.trans h2) (hn j q h3)
    · omega
  · rcases key k q hk with h1 | ⟨h1, h2⟩
    · exact hD.2 k q h1
    · rw [h2]; exact hA
theorem AwQ_9 {o : Nat} {R : Nat → Nat} {h0 q : Nat} (h : AwQ o (R9 R h0) q) : AwS o R q ∨ q = h0 := by
  rcases h with h | ⟨k, hk, h⟩
  · exact Or.inl (Or.inl h)
  · simp only [adrQ, List.mem_cons, List.not_mem_nil, or_false] at hk
    rcases hk with rfl | rfl | rfl | rfl | rfl | rfl | rfl | rfl | rfl | rfl | rfl | rfl | rfl | rfl | rfl | rfl | rfl | rfl | rfl
    all_goals first | exact Or.inr h | exact Or.inl (Or.inr ⟨_, by decide, h⟩)
theorem AwS_9 {o : Nat} {R : Nat → Nat} {h0 q : Nat} (h : AwS o R q) : AwQ o (R9 R h0) q := by
  rcases h with h | ⟨k, hk, h⟩
  · exact Or.inl h
  · refine Or.inr ⟨k, ?_, ?_⟩
    · simp only [adrS, List.mem_cons, List.not_mem_nil, or_false] at hk
      rcases hk with rfl | rfl | rfl | rfl | rfl | rfl | rfl | rfl | rfl | rfl | rfl | rfl | rfl | rfl | rfl | rfl | rfl | rfl <;> decide
    · simp only [adrS, List.mem_cons, List.not_mem_nil, or_false] at hk
      rcases hk with rfl | rfl | rfl | rfl | rfl | rfl | rfl | rfl | rfl | rfl | rfl | rfl | rfl | rfl | rfl | rfl | rfl | rfl <;> exact h
theorem DwQ_9 {o : Nat} {R : Nat → Nat} {h0 : Nat} (hD : DwS o R) (hn : ∀ q, AwS o R q → q < h0) : DwQ o (R9 R h0) := fun G tx u => by
  rw [celQ_8]
  exact va_D.snoc ((hD G tx u).up (fun q h => AwS_9 h)) (fun k q hq => by have := hn _ ((hD G tx u).2 k q hq); omega) (Or.inr ⟨140, by decide, rfl⟩)
theorem ClAll.tx {G : GG} {A : Nat → Prop} {lo t r0 r1 r2 : Nat} {H : Heap} {rs : List RL} {le : Nat → Int32} {sm cm : Nat → Option Nat} (h : ClAll G lo H rs le sm cm) (hT : va_P G.1 vwCl (cT G t r0 r1 r2 (rs.length, le, sm, cm)) H) (hA : ∀ q, A q → q < lo) (hAT : ∀ q, AT t r0 r1 r2 q → ¬ A q) (h16 : rs.length ≤ 16) : TxW G A t (lwL rs) H := by
  refine ⟨r0, r1, r2, le, sm, cm, hT, ⟨hAT _ (Or.inl rfl), hAT _ (Or.inr (Or.inl rfl)), hAT _ (Or.inr (Or.inr (Or.inl rfl))), hAT _ (Or.inr (Or.inr (Or.inr rfl)))⟩, h16, fun q hq => ?_⟩
  obtain ⟨k1, ⟨a, den, k2, k3, k4⟩, k5⟩ := h q hq
  refine ⟨k1, ⟨a, den, k2, (CT.anti hA _).1 _ _ k3, k4⟩, fun hn => ?_⟩
  obtain ⟨a, den, k6, k7, k8⟩ := k5 hn
  exact ⟨a, den, k6, (TT.anti hA _).1 _ _ k7, k8⟩
theorem TT.antiL {G : GG} {A B : Nat → Prop} {H : Heap} (hAB : ∀ q, q < H.size → B q → A q) : ∀ d, (∀ a den, (TT G A H d).1 a den → (TT G B H d).1 a den) ∧ (∀ r dr, (TT G A H d).2 r dr → (TT G B H d).2 r dr) := by
  intro d
  induction d with
  | zero => exact ⟨fun _ _ h => h, fun _ _ h => h⟩
  | succ d ih =>
    refine ⟨fun a den h => ?_, fun r dr h => ?_⟩
    · obtain ⟨hA, h⟩ := h
      rcases h with ⟨n, h, h2⟩ | ⟨i, hi, h, h2⟩ | ⟨sg, p, r, dp, dr, h1, h2, h3, h4⟩
      · exact ⟨fun z => hA (hAB _ (h 0 _ rfl).lt z), Or.inl ⟨n, h, h2⟩⟩
      · exact ⟨fun z => hA (hAB _ (h 0 _ rfl).lt z), Or.inr (Or.inl ⟨i, hi, h, h2⟩)⟩
      · exact ⟨fun z => hA (hAB _ (h1 0 _ rfl).lt z), Or.inr (Or.inr ⟨sg, p, r, dp, dr, h1, ih.1 _ _ h2, ih.2 _ _ h3, h4⟩)⟩
    · rcases h with h | ⟨a, sg, p, r', dp, dr', h0, hA, h1, h2, h3, h4⟩
      · exact Or.inl h
      · exact Or.inr ⟨a, sg, p, r', dp, dr', h0, fun z => hA (hAB _ (h1 0 _ rfl).lt z), h1, ih.1 _ _ h2, ih.2 _ _ h3, h4⟩
theorem CT.antiL {G : GG} {A B : Nat → Prop} {H : Heap} (hAB : ∀ q, q < H.size → B q → A q) : ∀ d, (∀ a den, (CT G A H d).1 a den → (CT G B H d).1 a den) ∧ (∀ r b dr, (CT G A H d).2 r b dr → (CT G B H d).2 r b dr) := by
  intro d
  induction d with
  | zero => exact ⟨fun _ _ h => h, fun _ _ _ h => h⟩
  | succ d ih =>
    have ht := TT.antiL (G := G) (H := H) hAB d
    refine ⟨fun a den h => ?_, fun r b dr h => ?_⟩
    · obtain ⟨hA, h⟩ := h
      rcases h with ⟨x, y, sg, dx, dy, h1, h2, h3, h4⟩ | ⟨x, dx, h1, h2, h3⟩ | ⟨p, b, r, dp, dr, h1, h2, h3, h4⟩
      · exact ⟨fun z => hA (hAB _ (h1 0 _ rfl).lt z), Or.inl ⟨x, y, sg, dx, dy, h1, ht.1 _ _ h2, ht.1 _ _ h3, h4⟩⟩
      · exact ⟨fun z => hA (hAB _ (h1 0 _ rfl).lt z), Or.inr (Or.inl ⟨x, dx, h1, ih.1 _ _ h2, h3⟩)⟩
      · exact ⟨fun z => hA (hAB _ (h1 0 _ rfl).lt z), Or.inr (Or.inr ⟨p, b, r, dp, dr, h1, ih.1 _ _ h2, ih.2 _ _ _ h3, h4⟩)⟩
    · rcases h with h | ⟨a, p, e, r', dp, dr', h0, hA, h1, h2, h3, h4⟩
      · exact Or.inl h
      · exact Or.inr ⟨a, p, e, r', dp, dr', h0, fun z => hA (hAB _ (h1 0 _ rfl).lt z), h1, ih.1 _ _ h2, ih.2 _ _ _ h3, h4⟩
theorem TxW.antiL {G : GG} {A B : Nat → Prop} {tx : Nat} {Lw : LW} {H : Heap} (hAB : ∀ q, q < H.size → B q → A q) (h : TxW G A tx Lw H) : TxW G B tx Lw H := by
  obtain ⟨r0, r1, r2, le, sm, cd, h1, ⟨a0, a1, a2, a3⟩, h3, h4⟩ := h
  refine ⟨r0, r1, r2, le, sm, cd, h1, ⟨fun z => a0 (hAB _ (h1 0 _ rfl).lt z), fun z => a1 (hAB _ (h1 1 _ rfl).lt z), fun z => a2 (hAB _ (h1 2 _ rfl).lt z), fun z => a3 (hAB _ (h1 3 _ rfl).lt z)⟩, h3, fun q hq => ?_⟩
  obtain ⟨k1, ⟨a, den, k2, k3, k4⟩, k5⟩ := h4 q hq
  refine ⟨k1, ⟨a, den, k2, (CT.antiL hAB _).1 _ _ k3, k4⟩, fun hn => ?_⟩
  obtain ⟨a, den, k6, k7, k8⟩ := k5 hn
  exact ⟨a, den, k6, (TT.antiL hAB _).1 _ _ k7, k8⟩
/-- the old text stays, whatever is made -/
theorem TxW.stay {G : GG} {A : Nat → Prop} {tx : Nat} {Lw : LW} {H0 H : Heap} {locs : List Loc} (h : TxW G A tx Lw H0) (hS : va_S (fun q => A q ∨ H0.size ≤ q) H0 H locs) : TxW G A tx Lw H :=
  TxW.antiL (A := fun q => A q ∨ H0.size ≤ q) (fun q _ z => Or.inl z) (TxW.keep hS.2.1 (TxW.antiL (A := A) (fun q h1 z => z.elim id (fun z => by omega)) h))
set_option maxHeartbeats 4000000 in
theorem c_X0_law (G : GG) (l : Launch) (σ : SD) (o : Nat) (R : Nat → Nat) (tx : Nat) (u : MS) (n0 : Int32) (Lw : LW) (H0 : Heap) (hD : DwS o R) (hσ : ∀ q, AwS o R q → σ.1 ≤ q ∧ q < H0.size) : CRi G l σ (PrL G o R (lwNew (lwR (u.2.1 6) (u.1 8) n0) Lw)) (fun q => AwS o R q ∨ H0.size ≤ q) yX0_law cX0_law 4 .int 34 1060 800 2400 [.ref o, .int n0] (fun H => PwS G o R tx u H ∧ TxW G (AwS o R) tx Lw H ∧ H = H0) (fun r w => r = lwV (lwR (u.2.1 6) (u.1 8) n0) ∧ w.2 = (if lwG (u.1 8) n0 = true then mV u 8 0 else u)) := by
  refine CRi.mk RX0 pnX0 rfl (Nat.le_of_ble_eq_true rfl) (fun pg en Rm sg mm ar bw mth cd QQ ls hC hRm hK hT hX hS hl hq => ?_)
  obtain ⟨hP, hX2, rfl⟩ := hX
  have hx := hC.1; have hb := hC.2.1; have ho := hC.2.2.2.1; have hts := hC.2.2.2.2
  have hl : lv_has ls 4 [(0, .ref o), (1, .int n0)] := hl
  have hA : ∀ q, AwS o R q → q < sg.heap.size := fun q h => (hσ q h).2
  have hoS : AwS o R o := Or.inl rfl
  have hσ0 : σ.1 ≤ sg.heap.size := Nat.le_trans (hσ _ hoS).1 (Nat.le_of_lt (hσ _ hoS).2)
  have hσA : ∀ q, (AwS o R q ∨ sg.heap.size ≤ q) → kpA σ q := fun q h => h.elim (fun h => (hσ q h).1) (fun h => Nat.le_trans hσ0 h)
  have hDA : ∀ (tx : Nat) (u : MS), va_D (fun q => AwS o R q ∨ sg.heap.size ≤ q) (celS G o R tx u) := fun tx u => (hD G tx u).up (fun q h => Or.inl h)
  refine lv_iload_n hx hb dX0_law_0 rfl (lv_at hl 1 rfl) ?_
  refine lv_iconst (v := 1) hx hb dX0_law_1 (by decide) ?_
  refine lv_sipush (v := 240) hx hb dX0_law_2 (by decide) ?_
  refine CIs.go (rcS hC hl (c_X0_within G l n0 1 240) hK trivial q385 q386 q110 q387 mdX0_within (room_v hRm (by omega) (by omega) (by omega) (by omega)) rfl rfl dX0_law_5) ?_
  refine lv_if_eq (tgt := 19) hx hb dX0_law_8 (by decide) (fun c8 => ?_) (fun c8 => ?_)
  · have c8 : (inB n0 1 240) = false := bI_0.mp c8
    have hg : ¬ lwG (u.1 8) n0 = true := (by simp [lwG, c8])
    refine lv_iconst (v := (-1)) hx hb dX0_law_19 (by decide) ?_
    exact hq _ _ _ (tx, u) _ _ _ _ dX0_law_20 ⟨hP, by rw [lwR, if_neg hg]; exact hX2⟩ hS rfl ⟨by rw [lwR, if_neg hg]; rfl, by rw [if_neg hg]⟩ (by omega) (by omega)
  have c8 : (inB n0 1 240) = true := bI_1.mp c8
  obtain ⟨n, hn1, hn, rfl, hnx⟩ := inB_nI2 1 240 (by decide) (by decide) c8
  have hl : lv_has ls 4 [(0, .ref o), (1, .int (nI n))] := hl
  refine lv_iload_n hx hb dX0_law_11 rfl (lv_at hl 1 rfl) ?_
  refine lv_aload_n hx hb dX0_law_12 rfl (lv_at hl 0 rfl) ?_
  refine S_get hC hK hP (oS_main _ _ _ _ _) clX0 in_X0 8 (by decide) (fD8 _ _ _ _) q305 dX0_law_13 ?_
  refine lv_icmp_le (tgt := 21) hx hb dX0_law_16 (by decide) (fun c16 => ?_) (fun c16 => ?_)
  · have hg : lwG (u.1 8) (nI n) = true := by simp [lwG, c8, c16]
    refine lv_aload_n hx hb dX0_law_21 rfl (lv_at hl 0 rfl) ?_
    refine lv_iconst (v := 0) hx hb dX0_law_22 (by decide) ?_
    refine F_put hC hK hP (hDA _ _) hS (oS_main _ _ _ _ _) clX0 in_X0 tyX0_ok nmX0 8 (by decide) (pS8 _ _ _ _ _ _) q305 rfl rfl rfl rfl (Nat.le_of_ble_eq_true rfl) dX0_law_23 (fun H locs hP hS hF => ?_)
    obtain ⟨h0, hz⟩ : ∃ h0, H.size = h0 := ⟨_, rfl⟩
    have hh0 : sg.heap.size ≤ h0 := by rw [← hz]; exact hS.1
    refine K_new tyX7 hC hK hS in_X7 tyX7_ok q388 q389 q117 clX7 (fs := [.int 0, .null, .int 0, .int 0, .int 0, .int 0, .null]) (fun j hj => by rcases (show j = 0 ∨ j = 1 ∨ j = 2 ∨ j = 3 ∨ j = 4 ∨ j = 5 ∨ j = 6 by omega) with rfl | rfl | rfl | rfl | rfl | rfl | rfl <;> rfl) hz (by subst hRm; exact Nat.le_of_ble_eq_true rfl) (by subst hRm; exact Nat.le_of_ble_eq_true rfl) dX0_law_26 (fun H hN hz hF hS => ?_)
    have hP := va_P.fr hP hF (fun _ _ _ h => h)
    refine lv_dup hx hb dX0_law_29 rfl ?_
    refine lv_aload_n hx hb dX0_law_30 rfl (lv_at hl 0 rfl) ?_
    refine lv_iload_n hx hb dX0_law_31 rfl (lv_at hl 1 rfl) ?_
    refine CXv.go (rcI (As := [.ref o, .int (nI n)]) hC hl (c_X7_init G l h0 (h0 + 1) o (nI n) (by omega)) hK ⟨hN, hz⟩ rfl q390 q391 q117 q392 mdX7_init (room_v hRm (by omega) (by omega) (by omega) (by omega)) rfl rfl dX0_law_32) hS (fun q h => h.elim (fun z => Or.inr (by omega)) (fun z => Or.inr (by omega))) (fun w32 H locs hpo hP1 hz1 hk hS => ?_)
    obtain ⟨hN, hN1, hN2, hN3, hN4, hz⟩ := hP1
    have hF : Fr (fun q => q = h0 ∨ h0 + 1 ≤ q) _ _ := ⟨hz1, hk⟩
    have hP := va_P.fr hP hF (fun k q hq z => by have z : q.1 = h0 ∨ h0 + 1 ≤ q.1 := z; have := hA _ ((hD G tx _).2 k q hq); omega)
    have hDQ := DwQ_9 (h0 := h0) hD (fun q h => Nat.lt_of_lt_of_le (hA q h) hh0)
    have hPQ : PwQ G o (R9 R h0) tx (u9 (mV u 8 0) n) H := by
      show va_P G.1 vwCl (celQ G o (R9 R h0) tx (u9 (mV u 8 0) n)) H
      rw [celQ_9]
      exact hP.app hN
    have hTx : va_P G.1 vwCl (cT G (R9 R h0 142) (h0 + 1 + 1) (h0 + 1 + 2) (h0 + 1 + 3) (0, (fun _ => 0), (fun _ => none), (fun _ => none))) H := hN1.app (hN2.app (hN3.app hN4))
    refine lv_astore_n (lv' := [(2, .ref h0), (0, .ref o), (1, .int (nI n))]) hx hb dX0_law_35 rfl hl (by decide) rfl (fun ls hl => ?_)
    refine lv_aload_n hx hb dX0_law_36 rfl (lv_at hl 0 rfl) ?_
    have hAT : ∀ q, AT (R9 R h0 142) (h0 + 1 + 1) (h0 + 1 + 2) (h0 + 1 + 3) q → h0 < q ∧ q < H.size := fun q h => by
      rcases h with h | h | h | h
      · have h : q = h0 + 1 := h; omega
      all_goals omega
    have hσQ : ∀ q, AwQ o (R9 R h0) q → σ.1 ≤ q ∧ q < H.size := fun q h => by
      rcases AwQ_9 h with h | h
      · have := hσ q h; omega
      · omega
    refine CXi.go (rrV (As := []) hC hl (red_ok G l σ o (R9 R h0) tx (u9 (mV u 8 0) n) n (h0 + 1 + 1) (h0 + 1 + 2) (h0 + 1 + 3) (fun _ => 0) (fun _ => none) (fun _ => none) H hDQ ⟨by show h0 + 1 ≠ _; omega, by show h0 + 1 ≠ _; omega, by show h0 + 1 ≠ _; omega, by omega, by omega, by omega⟩ hσQ (fun q h => by have := hAT q h; omega) (fun q h z => (AwQ_9 z).elim (fun z => by have h1 := hAT q h; have := hA q z; omega) (fun z => by have h1 := hAT q h; omega)) rfl rfl rfl hn) hK (stK hT hS hσA) ⟨hPQ, hTx, rfl⟩ (va_recv hK.1 hPQ clX7 (oQ_rd _ _ _ _ _)) q419 q420 q421 q117 q422 mdX7_read (room_v hRm (by omega) (by omega) (by omega) (by omega)) rfl rfl dX0_law_37) hS (fun q h => by
        rcases h with h | h | h
        · rcases AwQ_9 h with h | h
          · exact Or.inl h
          · exact Or.inr (by omega)
        · exact Or.inr (by have := hAT q h; omega)
        · exact Or.inr (by omega)) (fun r37 w37 H1 locs1 hpo hP1 hz1 hk hS => ?_)
    obtain ⟨w, w1, g, X⟩ := w37
    obtain ⟨hPQ, hTx, -, hXX⟩ := hP1
    obtain ⟨⟨a, b, c, d, hw⟩, hpo⟩ := hpo
    have hw : w = qE (u9 (mV u 8 0) n) a b c d := hw
    subst hw
    have hP : PwS G o R tx (mV u 8 0) H1 := by
      have h : va_P G.1 vwCl (celQ G o (R9 R h0) tx (qE (u9 (mV u 8 0) n) a b c d)) H1 := hPQ
      rw [celQ_7] at h
      exact h.left
    cases hL : lawE (u.2.1 6) n with
    | inl e =>
      have hpo : (match lawE (u.2.1 6) n with
        | .inl e => r37 = wrI e.1 e.2 ∧ fOK e.1
        | .inr rs => r37 = nI rs.length ∧ rs.length ≤ 16 ∧ ∃ le sm cm, w1 = (rs.length, le, sm, cm) ∧ ∀ H', X H' → ClAll G H.size H' rs le sm cm) := hpo
      rw [hL] at hpo
      obtain ⟨rfl, he⟩ := hpo
      refine lv_istore_n (lv' := [(3, .int (wrI e.1 e.2)), (2, .ref h0), (0, .ref o), (1, .int (nI n))]) hx hb dX0_law_40 rfl hl (by decide) rfl (fun ls hl => ?_)
      refine lv_iload_n hx hb dX0_law_41 rfl (lv_at hl 0 rfl) ?_
      refine lv_if_lt (tgt := 53) hx hb dX0_law_42 (by decide) (fun c42 => ?_) (fun c42 => ?_)
      · refine lv_iload_n hx hb dX0_law_53 rfl (lv_at hl 0 rfl) ?_
        exact hq _ _ _ (tx, mV u 8 0) _ _ _ _ dX0_law_54 ⟨hP, by rw [lwR, if_pos hg, hnx, hL]; exact hX2.stay hS⟩ hS rfl ⟨by rw [lwR, if_pos hg, hnx, hL]; rfl, by rw [if_pos hg]⟩ (by omega) (by omega)
      · exact absurd (lawE_neg hn hL he) c42
    | inr rs =>
      have hpo : (match lawE (u.2.1 6) n with
        | .inl e => r37 = wrI e.1 e.2 ∧ fOK e.1
        | .inr rs => r37 = nI rs.length ∧ rs.length ≤ 16 ∧ ∃ le sm cm, w1 = (rs.length, le, sm, cm) ∧ ∀ H', X H' → ClAll G H.size H' rs le sm cm) := hpo
      rw [hL] at hpo
      obtain ⟨rfl, h16, le, sm, cm, rfl, hCl⟩ := hpo
      have hCl := hCl _ hXX
      have hTW : TxW G (AwS o R) (h0 + 1) (lwL rs) H1 := hCl.tx hTx (fun q h => by have := hA q h; omega) (fun q h z => by have h1 := hAT q h; have := hA q z; omega) h16
      refine lv_istore_n (lv' := [(3, .int (nI rs.length)), (2, .ref h0), (0, .ref o), (1, .int (nI n))]) hx hb dX0_law_40 rfl hl (by decide) rfl (fun ls hl => ?_)
      refine lv_iload_n hx hb dX0_law_41 rfl (lv_at hl 0 rfl) ?_
      refine lv_if_lt (tgt := 53) hx hb dX0_law_42 (by decide) (fun c42 => ?_) (fun c42 => ?_)
      · exact absurd c42 (nI_pos (by omega))
      · refine lv_aload_n hx hb dX0_law_45 rfl (lv_at hl 2 rfl) ?_
        refine lv_aload_n hx hb dX0_law_46 rfl (lv_at hl 1 rfl) ?_
        refine S_getN hC hK hPQ (oQ_rd _ _ _ _ _) clX7 in_X7 1 (by decide) (fD142 _ _ _ _) nq398 dX0_law_47 ?_
        refine F_put (ws' := celS G o R (h0 + 1) (mV u 8 0)) hC hK hP (hDA _ _) hS (oS_main _ _ _ _ _) clX0 in_X0 tyX0_ok nmX0 7 (by decide) rfl q303 rfl rfl rfl rfl (Nat.le_of_ble_eq_true rfl) dX0_law_50 (fun H2 locs2 hP hS hF => ?_)
        have hTW := TxW.keep (fun q h1 h2 => hF.2 q h1 (fun z => h2 (by rw [show q = o from z]; exact hoS))) hTW
        refine lv_iload_n hx hb dX0_law_53 rfl (lv_at hl 0 rfl) ?_
        exact hq _ _ _ (h0 + 1, mV u 8 0) _ _ _ _ dX0_law_54 ⟨hP, by rw [lwR, if_pos hg, hnx, hL]; exact hTW⟩ hS rfl ⟨by rw [lwR, if_pos hg, hnx, hL]; rfl, by rw [if_pos hg]⟩ (by omega) (by omega)
  · have hg : ¬ lwG (u.1 8) (nI n) = true := by simp [lwG, c8, c16]
    refine lv_iconst (v := (-1)) hx hb dX0_law_19 (by decide) ?_
    exact hq _ _ _ (tx, u) _ _ _ _ dX0_law_20 ⟨hP, by rw [lwR, if_neg hg]; exact hX2⟩ hS rfl ⟨by rw [lwR, if_neg hg]; rfl, by rw [if_neg hg]⟩ (by omega) (by omega)
