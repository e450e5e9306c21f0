set_option maxRecDepth 100000
/-! the reader's read: clauses one behind the other -/
def ClAll (G : GG) (lo : Nat) (H : Heap) (rs : List RL) (le : Nat → Int32) (sm cm : Nat → Option Nat) : Prop := ∀ q, q < rs.length → ClT G (fun x => x < lo) H (lwL rs) q le sm cm
theorem ClAll.fr {G : GG} {lo : Nat} {H H1 : Heap} {rs : List RL} {le : Nat → Int32} {sm cm : Nat → Option Nat} {A : Nat → Prop} (h : ClAll G lo H rs le sm cm) (hf : Fr A H H1) (hA : ∀ q, A q → q < lo) : ClAll G lo H1 rs le sm cm := fun q hq => (h q hq).keep (fun a h1 h2 => hf.2 a h1 (fun z => h2 (hA a z)))
theorem nthR_l {rs : List RL} {r : RL} {q : Nat} (h : q < rs.length) : nthR (rs ++ [r]) q = nthR rs q := by
  unfold nthR; rw [List.getElem?_append_left h]
theorem nthR_n {rs : List RL} {r : RL} : nthR (rs ++ [r]) rs.length = r := by
  unfold nthR; rw [List.getElem?_append_right (Nat.le_refl _)]; simp
theorem ClAll.push {G : GG} {lo : Nat} {H : Heap} {rs : List RL} {r : RL} {le : Nat → Int32} {sm cm : Nat → Option Nat} {sb : Option Nat} {cb : Nat} (h : ClAll G lo H rs le sm cm) (h1 : (CT G (fun x => x < lo) H DEP).1 cb r.2.2.2) (h2 : ¬ r.1 = 120 → ∃ a, sb = some a ∧ (TT G (fun x => x < lo) H DEP).1 a r.2.1.2) : ClAll G lo H (rs ++ [r]) (upd le rs.length (nI r.1)) (va_up sm rs.length sb) (va_up cm rs.length (some cb)) := fun q hq => by
  rw [List.length_append, List.length_singleton] at hq
  by_cases e : q = rs.length
  · subst e
    refine ⟨by show upd _ _ _ _ = nI (nthR _ _).1; rw [nthR_n]; exact upd_s _ _ _, ⟨cb, r.2.2.2, if_pos rfl, h1, fun F => by show decide ((nthR _ _).2.2.2 F = some true) = _; rw [nthR_n]⟩, fun hn => ?_⟩
    have hn : ¬ nI (nthR (rs ++ [r]) rs.length).1 = 120 := hn
    rw [nthR_n] at hn
    obtain ⟨a, h3, h4⟩ := h2 (fun z => hn (by rw [z]; rfl))
    exact ⟨a, r.2.1.2, (if_pos rfl).trans h3, h4, fun F => by show ((nthR _ _).2.1.2 F).getD 0 = _; rw [nthR_n]⟩
  · obtain ⟨k1, ⟨a, den, k2, k3, k4⟩, k5⟩ := h q (by omega)
    have k1 : le q = nI (nthR rs q).1 := k1
    have k4 : ∀ F, decide ((nthR rs q).2.2.2 F = some true) = decide (den F = some true) := k4
    refine ⟨by show upd _ _ _ _ = nI (nthR _ _).1; rw [nthR_l (by omega), upd_n _ (by omega)]; exact k1, ⟨a, den, (if_neg e).trans k2, k3, fun F => by show decide ((nthR _ _).2.2.2 F = some true) = _; rw [nthR_l (by omega)]; exact k4 F⟩, fun hn => ?_⟩
    have hn : ¬ nI (nthR (rs ++ [r]) q).1 = 120 := hn
    rw [nthR_l (by omega)] at hn
    obtain ⟨a, den, k6, k7, k8⟩ := k5 hn
    have k8 : ∀ F, ((nthR rs q).2.1.2 F).getD 0 = (den F).getD 0 := k8
    exact ⟨a, den, (if_neg e).trans k6, k7, fun F => by show ((nthR _ _).2.1.2 F).getD 0 = _; rw [nthR_l (by omega)]; exact k8 F⟩
theorem ClP_c {G : GG} {u w : MS} {n p g : Nat} {H0 : Heap} {w0 w1 : ClS} {x : (Nat × Nat) ⊕ (RL × Nat)} {X : Heap → Prop} (h : ClPost G u n p H0 w0 x (w, w1, g, X)) : (∃ r sb cb, x = .inr r ∧ w = qE u (nI r.2) 0 0 (u.1 146) ∧ g ≤ 3 * (r.2 - p) ∧ w1 = (w0.1 + 1, upd w0.2.1 w0.1 (nI r.1.1), va_up w0.2.2.1 w0.1 sb, va_up w0.2.2.2 w0.1 (some cb)) ∧ ∀ H, X H → (CT G (fun q => q < H0.size) H DEP).1 cb r.1.2.2.2 ∧ (¬ r.1.1 = 120 → ∃ a, sb = some a ∧ (TT G (fun q => q < H0.size) H DEP).1 a r.1.2.1.2)) ∨ ∃ e q op, x = .inl e ∧ q ≤ n + 2 ∧ w = qE u (nI q) op (nI e.1) (nI e.2) ∧ fOK e.1 ∧ g ≤ 3 * (n + 1 - p) + 2 := by
  cases x with
  | inl e => obtain ⟨⟨q, op, h1, h2⟩, h3, h4⟩ := h; exact Or.inr ⟨e, q, op, rfl, h1, h2, h3, h4⟩
  | inr r => obtain ⟨h1, h2, sb, cb, h3, h4⟩ := h; exact Or.inl ⟨r, sb, cb, rfl, h1, h2, h3, h4⟩
theorem ruleE_m {f : Nat → Int32} {n m p b : Nat} {r : RL × Nat} (h : ruleE f n m p b = .inr r) : ¬ m = 16 := fun e => by
  unfold ruleE at h
  by_cases hc : isRuC (ckN f n p) = true
  · rw [if_pos hc, if_pos e] at h; cases h
  · rw [if_neg hc] at h; cases h
section READ
variable {G : GG} {p : Program} {l : Launch} {e : Env} {Rm : Room} {s : State} {m : MethodId} {args : Array Value} {below : List Frame} {meth : Method} {c : Code} {H H0 : Heap} {locs : List Loc} {cells slots k : Nat} {Q : State → Prop} {A : Nat → Prop}
variable {cc : ByteArray} {nL pc mc ms : Nat} {own : String} {ls : Array Slot} {rest st : List Value}
theorem CRv.goC {o r0 r1 r2 : Nat} {R : Nat → Nat} {tx : Nat} {post : (MS × ClS × Nat × (Heap → Prop)) → Prop} {av : Array Value} (hr : va_Run p l e Rm s m args below meth c H locs k (3 * k) mc ms (F0 m pc ls st) rest (va_Qv post (fun w t => PrC G o R tx r0 r1 r2 H w t.heap) (AcQ o R r0 r1 r2 H.size) av) (AcQ o R r0 r1 r2 H.size)) (hS : va_S A s.heap H locs) (hup : ∀ q, AcQ o R r0 r1 r2 H.size q → A q) (hA : ∀ q, AwQ o R q → q < s.heap.size) (hTl : ∀ q, AT (R 142) r0 r1 r2 q → q < s.heap.size)
    (kk : ∀ (w : MS) (w1 : ClS) (g : Nat) (X : Heap → Prop) (H1 : Heap) (locs1 : List Loc), post (w, w1, g, X) → PwQ G o R tx w H1 → va_P G.1 vwCl (cT G (R 142) r0 r1 r2 w1) H1 → X H1 → Fr (fun q => AwQ o R q ∨ AT (R 142) r0 r1 r2 q) H H1 → va_S A s.heap H1 locs1 → W p l e Rm s m args below meth c H1 locs1 (k + g) (3 * (k + g)) Q (F0 m (pc + 3) ls rest)) : W p l e Rm s m args below meth c H locs k (3 * k) Q (F0 m pc ls st) := by
  refine W_size (fun hz hw => ?_)
  have hHs := hS.1
  refine va_callv hr hS (fun q _ h => hup q h) hup (fun w t H1 locs1 ht hvm hpo hB hz1 hk hS1 => ?_)
  obtain ⟨w, w1, g, X⟩ := w
  have hB : PrC G o R tx r0 r1 r2 H (w, w1, g, X) t.heap := hB
  rw [ht] at hB
  obtain ⟨hP, hT, ⟨hg1, hg2⟩, hX⟩ := hB
  have hf : Fr (fun q => AwQ o R q ∨ AT (R 142) r0 r1 r2 q) H H1 := ⟨hz1, fun q h1 h2 => hk q h1 (fun z => z.elim (fun z => h2 (Or.inl z)) (fun z => z.elim (fun z => h2 (Or.inr z)) (fun z => by omega)))⟩
  have hg1 : H1.size ≤ H.size + g := hg1
  refine W_fit (by omega) ?_ (kk w w1 g X H1 locs1 hpo hP hT hX hf hS1)
  rw [nw_add hHs (fun q h1 h2 => hf.2 q h2 (fun z => z.elim (fun z => by have := hA q z; omega) (fun z => by have := hTl q z; omega)))]
  have hg2 : nw H.size H1 ≤ 3 * g := hg2
  omega
end READ
/-- what reading comes to -/
def RdPost (G : GG) (u : MS) (n : Nat) (H0 : Heap) (v : Int32) (w : MS × ClS × Nat × (Heap → Prop)) : Prop := (∃ a b c d, w.1 = qE u a b c d) ∧ match lawE (u.2.1 6) n with
  | .inl e => v = wrI e.1 e.2 ∧ fOK e.1
  | .inr rs => v = nI rs.length ∧ rs.length ≤ 16 ∧ ∃ le sm cm, w.2.1 = (rs.length, le, sm, cm) ∧ ∀ H, w.2.2.2 H → ClAll G H0.size H rs le sm cm
theorem RdP_l {G : GG} {u w : MS} {n g : Nat} {H0 : Heap} {v : Int32} {w1 : ClS} {X : Heap → Prop} {a b c d : Int32} {e : Nat × Nat} (h : lawE (u.2.1 6) n = .inl e) (hw : w = qE u a b c d) (hv : v = wrI e.1 e.2) (he : fOK e.1) : RdPost G u n H0 v (w, w1, g, X) := by
  refine ⟨⟨a, b, c, d, hw⟩, ?_⟩; rw [h]; exact ⟨hv, he⟩
theorem RdP_r {G : GG} {u w : MS} {n g : Nat} {H0 : Heap} {v : Int32} {w1 : ClS} {X : Heap → Prop} {a b c d : Int32} {rs : List RL} {le : Nat → Int32} {sm cm : Nat → Option Nat} (h : lawE (u.2.1 6) n = .inr rs) (hw : w = qE u a b c d) (hv : v = nI rs.length) (hl : rs.length ≤ 16) (h1 : w1 = (rs.length, le, sm, cm)) (hX : ∀ H, X H → ClAll G H0.size H rs le sm cm) : RdPost G u n H0 v (w, w1, g, X) := by
  refine ⟨⟨a, b, c, d, hw⟩, ?_⟩; rw [h]; exact ⟨hv, hl, le, sm, cm, h1, hX⟩
theorem rulesE_s {f : Nat → Int32} {n k b p : Nat} {rs : List RL} : rulesE f n (k + 1) rs b p = bW (ruleE f n rs.length p b) fun r => if r.2 < n then (if ckN f n r.2 = 59 then rulesE f n k (rs ++ [r.1]) (b + lenR r.1) (r.2 + 1) else .inl (1, r.2)) else .inr (rs ++ [r.1]) := rfl
set_option maxHeartbeats 8000000 in
theorem red_ok (G : GG) (l : Launch) (σ : SD) (o : Nat) (R : Nat → Nat) (tx : Nat) (u : MS) (n r0 r1 r2 : Nat) (le0 : Nat → Int32) (sm0 cm0 : Nat → Option Nat) (H0 : Heap) : DwQ o R → dT (R 142) r0 r1 r2 → (∀ q, AwQ o R q → σ.1 ≤ q ∧ q < H0.size) → (∀ q, AT (R 142) r0 r1 r2 q → σ.1 ≤ q ∧ q < H0.size) → (∀ q, AT (R 142) r0 r1 r2 q → ¬ AwQ o R q) → u.1 143 = nI 0 → u.1 141 = nI n → u.1 145 = 0 → n ≤ 240 → CRi G l σ (PrC G o R tx r0 r1 r2 H0) (AcQ o R r0 r1 r2 H0.size) yX7_read cX7_read 2 .int 32 1030 (3 * (n + 1) + 2) (9 * (n + 1) + 6) [.ref (R 140)] (fun H => PwQ G o R tx u H ∧ va_P G.1 vwCl (cT G (R 142) r0 r1 r2 (0, le0, sm0, cm0)) H ∧ H = H0) (RdPost G u n H0) := by
  intro hD hT0 hσ hτ hAT hp hn hf hn2
  refine CRi.mk RX7 pnX7 rfl (Nat.le_of_ble_eq_true rfl) (fun pg en Rm sg mm ar bw mth cd QQ ls hC hRm hK hT hX hS hl hq => ?_)
  obtain ⟨hP, hTx, rfl⟩ := hX
  have hx := hC.1; have hb := hC.2.1; have ho := hC.2.2.2.1; have hts := hC.2.2.2.2
  have hrd : AwQ o R (R 140) := Or.inr ⟨140, by decide, rfl⟩
  have hA : ∀ q, AwQ o R q → q < sg.heap.size := fun q h => (hσ q h).2
  have hTl : ∀ q, AT (R 142) r0 r1 r2 q → q < sg.heap.size := fun q h => (hτ q h).2
  have hσ0 : σ.1 ≤ sg.heap.size := Nat.le_trans (hσ _ hrd).1 (Nat.le_of_lt (hσ _ hrd).2)
  have hσA : ∀ q, AcQ o R r0 r1 r2 sg.heap.size q → kpA σ q := fun q h => h.elim (fun h => (hσ q h).1) (fun h => h.elim (fun h => (hτ q h).1) (fun h => Nat.le_trans hσ0 h))
  have hDA : ∀ (tx : Nat) (u : MS), va_D (AcQ o R r0 r1 r2 sg.heap.size) (celQ G o R tx u) := fun tx u => (hD G tx u).up (fun q h => Or.inl h)
  have hDT : ∀ (w : ClS), va_D (AcQ o R r0 r1 r2 sg.heap.size) (cT G (R 142) r0 r1 r2 w) := fun w => hT0.D (fun q h => Or.inr (Or.inl h)) w
  have hup : ∀ {H1 : Heap}, sg.heap.size ≤ H1.size → ∀ q, A0 o R H1.size q → AcQ o R r0 r1 r2 sg.heap.size q := fun h q z => z.elim Or.inl (fun z => Or.inr (Or.inr (Nat.le_trans h z)))
  have hupC : ∀ {H1 : Heap}, sg.heap.size ≤ H1.size → ∀ q, AcQ o R r0 r1 r2 H1.size q → AcQ o R r0 r1 r2 sg.heap.size q := fun h q z => z.elim Or.inl (fun z => z.elim (fun z => Or.inr (Or.inl z)) (fun z => Or.inr (Or.inr (Nat.le_trans h z))))
  have hCl0 : ClAll G sg.heap.size sg.heap [] le0 sm0 cm0 := fun q hq => by cases hq
  refine W_c0 ?_
  have hl : lv_has ls 2 [(0, .ref (R 140))] := hl
  have hP : PwQ G o R tx (qE u (u.1 143) (u.1 144) (u.1 145) (u.1 146)) sg.heap := by rw [qE_self]; exact hP
  rw [hp, hf] at hP
  refine lv_iconst (v := 1) hx hb dX7_read_0 (by decide) ?_
  refine lv_istore_n (lv' := [(1, .int 1), (0, .ref (R 140))]) hx hb dX7_read_1 rfl hl (by decide) rfl (fun ls hl => ?_)
  have LP2 : ∀ (fu2 : Nat) (q : Nat) (k : Nat) (b : Nat) (op0 : Int32) (rs : List RL) (le : Nat → Int32) (sm : Nat → Option Nat) (cm : Nat → Option Nat) (c : Nat) (H : Heap) (locs : List Loc) (ls : Array Slot), n + 1 - q < fu2 → q ≤ n → n + 1 - q ≤ k → lawE (u.2.1 6) n = rulesE (u.2.1 6) n k rs b q → rs.length ≤ 16 → c ≤ 3 * q → va_P G.1 vwCl (cT G (R 142) r0 r1 r2 (rs.length, le, sm, cm)) H → ClAll G sg.heap.size H rs le sm cm → PwQ G o R tx (qE u (nI q) op0 0 (u.1 146)) H → va_S (AcQ o R r0 r1 r2 sg.heap.size) sg.heap H locs → lv_has ls 2 [(0, .ref (R 140)), (1, .int 1)] → W pg l en Rm sg mm ar bw mth cd H locs c (3 * c) QQ (F0 mm 2 ls []) := by
    intro fu2
    induction fu2 with
    | zero => intro q k b op0 rs le sm cm c H locs ls hm2 hqn hk hsp hrs hcc hTx hCl hP hS hl; exact absurd hm2 (Nat.not_lt_zero _)
    | succ fu2 ih2 =>
      intro q k b op0 rs le sm cm c H locs ls hm2 hqn hk hsp hrs hcc hTx hCl hP hS hl
      obtain ⟨k, rfl⟩ : ∃ j, k = j + 1 := ⟨k - 1, by omega⟩
      refine lv_iload_n hx hb dX7_read_2 rfl (lv_at hl 1 rfl) ?_
      refine lv_if_eq (tgt := 54) hx hb dX7_read_3 (by decide) (fun c3 => ?_) (fun c3 => ?_)
      · exact absurd c3 (by decide)
      · refine lv_aload_n hx hb dX7_read_6 rfl (lv_at hl 0 rfl) ?_
        refine CIs.go (rcV hC hl (c_X7_isGood G l o R tx (qE u (nI q) op0 0 (u.1 146))  ) hK hP (va_recv hK.1 hP clX7 (oQ_rd _ _ _ _ _)) q423 q425 qs1 q117 q426 mdX7_isGood (room_v hRm (by omega) (by omega) (by omega) (by omega)) rfl rfl dX7_read_7) ?_
        refine W_top (y := (bI (isGB 0))) (by simp only [qE_f145]) ?_
        refine W_top (y := 1) (by decide) ?_
        refine lv_if_eq (tgt := 54) hx hb dX7_read_10 (by decide) (fun c10 => ?_) (fun c10 => ?_)
        · exact absurd c10 (by decide)
        · refine lv_aload_n hx hb dX7_read_13 rfl (lv_at hl 0 rfl) ?_
          have hσ2 : ∀ q, AwQ o R q → σ.1 ≤ q ∧ q < Array.size H := fun q h => ⟨(hσ q h).1, by have := (hσ q h).2; have := hS.1; omega⟩
          have hτ2 : ∀ q, AT (R 142) r0 r1 r2 q → σ.1 ≤ q ∧ q < Array.size H := fun q h => ⟨(hτ q h).1, by have := (hτ q h).2; have := hS.1; omega⟩
          have hge14 := hS.1
          refine CRv.goC (rrV (As := []) hC hl (cla_ok G l σ o R tx (qE u (nI q) op0 0 (u.1 146)) n q rs.length b r0 r1 r2 le sm cm H hD hT0 hσ2 hτ2 hAT rfl hn rfl hn2 (by omega) hrs) hK (stK hT hS hσA) ⟨hP, hTx, rfl⟩ (va_recv hK.1 hP clX7 (oQ_rd _ _ _ _ _)) q427 q429 qs2 q117 q430 mdX7_clause (room_v hRm (by omega) (by omega) (by omega) (by omega)) rfl rfl dX7_read_14) hS (hupC hS.1) hA hTl (fun w14 v14 g14 X14 H locs hpo14 hP hTx hX14 hF hS => ?_)
          have hCl := hCl.fr hF (fun q z => z.elim (hA q) (hTl q))
          rcases ClP_c hpo14 with ⟨r9, sb9, cb9, hx9, hw9, hg9, rfl, hX9⟩ | ⟨e9, q9, op9, hx9, hq9, hw9, he9, hg9⟩
          · change ruleE (u.2.1 6) n rs.length q b = _ at hx9
            have hrb := ruleE_b hx9
            have hr16 := ruleE_m hx9
            have hln : (rs ++ [r9.1]).length = rs.length + 1 := by rw [List.length_append]; rfl
            rw [hw9, qE_again] at hP
            simp only [qE_f146] at hP
            obtain ⟨hXc, hXs⟩ := hX9 _ hX14
            have hCl := hCl.push (r := r9.1) (sb := sb9) (cb := cb9) ((CT.anti (fun q (z : q < sg.heap.size) => Nat.lt_of_lt_of_le z hge14) _).1 _ _ hXc) (fun z => by obtain ⟨a, h1, h2⟩ := hXs z; exact ⟨a, h1, (TT.anti (fun q (z : q < sg.heap.size) => Nat.lt_of_lt_of_le z hge14) _).1 _ _ h2⟩)
            have hTx : va_P G.1 vwCl (cT G (R 142) r0 r1 r2 (rs.length + 1, upd le rs.length (nI r9.1.1), va_up sm rs.length sb9, va_up cm rs.length (some cb9))) _ := hTx
            have hl : lv_has ls 2 [(0, .ref (R 140)), (1, .int 1)] := hl
            refine lv_aload_n hx hb dX7_read_17 rfl (lv_at hl 0 rfl) ?_
            refine CIs.go (rcV hC hl (c_X7_isGood G l o R tx (qE u (nI r9.2) 0 0 (u.1 146))  ) hK hP (va_recv hK.1 hP clX7 (oQ_rd _ _ _ _ _)) q423 q425 qs1 q117 q426 mdX7_isGood (room_v hRm (by omega) (by omega) (by omega) (by omega)) rfl rfl dX7_read_18) ?_
            refine W_top (y := (bI (isGB 0))) (by simp only [qE_f145]) ?_
            refine W_top (y := 1) (by decide) ?_
            refine lv_if_eq (tgt := 39) hx hb dX7_read_21 (by decide) (fun c21 => ?_) (fun c21 => ?_)
            · exact absurd c21 (by decide)
            · refine lv_aload_n hx hb dX7_read_24 rfl (lv_at hl 0 rfl) ?_
              refine S_get hC hK hP (oQ_rd _ _ _ _ _) clX7 in_X7 2 (by decide) (fD143 _ _ _ _) q399 dX7_read_25 ?_
              refine W_top (y := (nI r9.2)) (by rw [qE_f143]) ?_
              refine lv_aload_n hx hb dX7_read_28 rfl (lv_at hl 0 rfl) ?_
              refine S_get hC hK hP (oQ_rd _ _ _ _ _) clX7 in_X7 0 (by decide) (fD141 _ _ _ _) q396 dX7_read_29 ?_
              refine W_top (y := (nI n)) (by rw [qE_f141]; exact hn) ?_
              refine lv_icmp_ge (tgt := 39) hx hb dX7_read_32 (by decide) (fun c32 => ?_) (fun c32 => ?_)
              · have c32 : n ≤ r9.2 := (nI_leI (a := n) (b := r9.2) (by first | omega | exact hzN_b _ _ _) (by first | omega | exact hzN_b _ _ _)).mp c32
                refine lv_iconst (v := 0) hx hb dX7_read_39 (by decide) ?_
                refine lv_istore_n (lv' := [(1, .int 0), (0, .ref (R 140))]) hx hb dX7_read_40 rfl hl (by decide) rfl (fun ls hl => ?_)
                refine lv_iload_n hx hb dX7_read_41 rfl (lv_at hl 0 rfl) ?_
                refine lv_if_eq (tgt := 2) hx hb dX7_read_42 (by decide) (fun c42 => ?_) (fun c42 => ?_)
                · refine lv_iload_n hx hb dX7_read_2 rfl (lv_at hl 0 rfl) ?_
                  refine lv_if_eq (tgt := 54) hx hb dX7_read_3 (by decide) (fun c3 => ?_) (fun c3 => ?_)
                  · refine lv_aload_n hx hb dX7_read_54 rfl (lv_at hl 1 rfl) ?_
                    refine CIs.go (rcV hC hl (c_X7_isGood G l o R tx (qE u (nI r9.2) 0 0 (u.1 146))  ) hK hP (va_recv hK.1 hP clX7 (oQ_rd _ _ _ _ _)) q423 q425 qs1 q117 q426 mdX7_isGood (room_v hRm (by omega) (by omega) (by omega) (by omega)) rfl rfl dX7_read_55) ?_
                    refine W_top (y := (bI (isGB 0))) (by simp only [qE_f145]) ?_
                    refine W_top (y := 1) (by decide) ?_
                    refine lv_if_eq (tgt := 71) hx hb dX7_read_58 (by decide) (fun c58 => ?_) (fun c58 => ?_)
                    · exact absurd c58 (by decide)
                    · refine lv_aload_n hx hb dX7_read_61 rfl (lv_at hl 1 rfl) ?_
                      refine S_get hC hK hP (oQ_rd _ _ _ _ _) clX7 in_X7 1 (by decide) (fD142 _ _ _ _) q397 dX7_read_62 ?_
                      refine S_getN (v := .int (nI (rs.length + 1))) hC hK hTx (q0 := 0) rfl clX5 in_X5 3 (by decide) rfl nq276 dX7_read_65 ?_
                      refine lv_goto (tgt := 84) hx hb dX7_read_68 (by decide) ?_
                      refine W_size (fun hzz hww => ?_)
                      exact hq _ _ (nI (rs.length + 1)) ((qE u (nI r9.2) 0 0 (u.1 146)), (rs.length + 1, upd le rs.length (nI r9.1.1), va_up sm rs.length sb9, va_up cm rs.length (some cb9)), (c + g14), (fun H => ClAll G sg.heap.size H (rs ++ [r9.1]) (upd le rs.length (nI r9.1.1)) (va_up sm rs.length sb9) (va_up cm rs.length (some cb9)))) _ _ _ _ dX7_read_84 ⟨hP, hTx, ⟨hzz, hww⟩, hCl⟩ hS rfl (RdP_r (rs := rs ++ [r9.1]) (hsp.trans (by rw [rulesE_s, hx9]; dsimp only [bW]; rw [if_neg (Nat.not_lt.mpr c32)])) rfl (by rw [hln]) (by omega) (by rw [hln]) (fun H h => h)) (by omega) (by omega)
                  · exact absurd c3 (by decide)
                · exact absurd c42 (by decide)
              · have c32 : ¬ (n ≤ r9.2) := mt (nI_leI (a := n) (b := r9.2) (by first | omega | exact hzN_b _ _ _) (by first | omega | exact hzN_b _ _ _)).mpr c32
                refine lv_iconst (v := 1) hx hb dX7_read_35 (by decide) ?_
                refine lv_goto (tgt := 40) hx hb dX7_read_36 (by decide) ?_
                refine lv_istore_n (lv' := [(1, .int 1), (0, .ref (R 140))]) hx hb dX7_read_40 rfl hl (by decide) rfl (fun ls hl => ?_)
                refine lv_iload_n hx hb dX7_read_41 rfl (lv_at hl 0 rfl) ?_
                refine lv_if_eq (tgt := 2) hx hb dX7_read_42 (by decide) (fun c42 => ?_) (fun c42 => ?_)
                · exact absurd c42 (by decide)
                · refine lv_aload_n hx hb dX7_read_45 rfl (lv_at hl 1 rfl) ?_
                  refine lv_bipush (v := 59) hx hb dX7_read_46 (by decide) ?_
                  refine CXv.go (rcV hC hl (c_X7_must G l o R tx (qE u (nI r9.2) 0 0 (u.1 146)) 59 r9.2 n (rfl) (hn) (hn2) (by omega) (rfl) (by decide) (by decide) hD) hK hP (va_recv hK.1 hP clX7 (oQ_rd _ _ _ _ _)) q544 q546 qs9 q117 q547 mdX7_must (room_v hRm (by omega) (by omega) (by omega) (by omega)) rfl rfl dX7_read_48) hS (fun q h => Or.inl h) (fun w48 H locs hpo hP hz hk hS => ?_)
                  obtain ⟨ft_1, pc_2, f48_0, ew48⟩ := hpo
                  rw [ew48] at hP
                  rw [qE_again] at hP
                  simp only [qE_f144] at hP
                  have hF : Fr (AwQ o R) _ _ := ⟨hz, hk⟩
                  have hTx := cT_fr hTx hF hAT
                  have hCl := hCl.fr hF hA
                  by_cases h59 : ckN (u.2.1 6) n r9.2 = 59
                  · change (if ckN (u.2.1 6) n r9.2 = 59 then ft_1 = 0 ∧ pc_2 = (u.1 146) else ft_1 = 1 ∧ pc_2 = nI r9.2) at f48_0
                    rw [if_pos h59] at f48_0
                    obtain ⟨rfl, rfl⟩ := f48_0
                    have hl : lv_has ls 2 [(1, .int 1), (0, .ref (R 140))] := hl
                    refine lv_goto (tgt := 2) hx hb dX7_read_51 (by decide) ?_
                    exact ih2 (r9.2 + 1) k (b + lenR r9.1) 0 (rs ++ [r9.1]) (upd le rs.length (nI r9.1.1)) (va_up sm rs.length sb9) (va_up cm rs.length (some cb9)) (c + g14) _ _ ls (by omega) (by omega) (by omega) (hsp.trans (by rw [rulesE_s, hx9]; dsimp only [bW]; rw [if_pos (Nat.not_le.mp c32), if_pos h59])) (by omega) (by omega) (by rw [hln]; exact hTx) (hCl) hP hS (lv_sub hl [1, 0] rfl)
                  · change (if ckN (u.2.1 6) n r9.2 = 59 then ft_1 = 0 ∧ pc_2 = (u.1 146) else ft_1 = 1 ∧ pc_2 = nI r9.2) at f48_0
                    rw [if_neg h59] at f48_0
                    obtain ⟨rfl, rfl⟩ := f48_0
                    have hl : lv_has ls 2 [(1, .int 1), (0, .ref (R 140))] := hl
                    refine lv_goto (tgt := 2) hx hb dX7_read_51 (by decide) ?_
                    refine lv_iload_n hx hb dX7_read_2 rfl (lv_at hl 0 rfl) ?_
                    refine lv_if_eq (tgt := 54) hx hb dX7_read_3 (by decide) (fun c3 => ?_) (fun c3 => ?_)
                    · exact absurd c3 (by decide)
                    · refine lv_aload_n hx hb dX7_read_6 rfl (lv_at hl 1 rfl) ?_
                      refine CIs.go (rcV hC hl (c_X7_isGood G l o R tx (qE u (nI (r9.2 + 1)) 0 1 (nI r9.2))  ) hK hP (va_recv hK.1 hP clX7 (oQ_rd _ _ _ _ _)) q423 q425 qs1 q117 q426 mdX7_isGood (room_v hRm (by omega) (by omega) (by omega) (by omega)) rfl rfl dX7_read_7) ?_
                      refine W_top (y := (bI (isGB 1))) (by simp only [qE_f145]) ?_
                      refine W_top (y := 0) (by decide) ?_
                      refine lv_if_eq (tgt := 54) hx hb dX7_read_10 (by decide) (fun c10 => ?_) (fun c10 => ?_)
                      · refine lv_aload_n hx hb dX7_read_54 rfl (lv_at hl 1 rfl) ?_
                        refine CIs.go (rcV hC hl (c_X7_isGood G l o R tx (qE u (nI (r9.2 + 1)) 0 1 (nI r9.2))  ) hK hP (va_recv hK.1 hP clX7 (oQ_rd _ _ _ _ _)) q423 q425 qs1 q117 q426 mdX7_isGood (room_v hRm (by omega) (by omega) (by omega) (by omega)) rfl rfl dX7_read_55) ?_
                        refine W_top (y := (bI (isGB 1))) (by simp only [qE_f145]) ?_
                        refine W_top (y := 0) (by decide) ?_
                        refine lv_if_eq (tgt := 71) hx hb dX7_read_58 (by decide) (fun c58 => ?_) (fun c58 => ?_)
                        · refine lv_sipush (v := (-1000)) hx hb dX7_read_71 (by decide) ?_
                          refine lv_aload_n hx hb dX7_read_74 rfl (lv_at hl 1 rfl) ?_
                          refine S_get hC hK hP (oQ_rd _ _ _ _ _) clX7 in_X7 4 (by decide) (fD145 _ _ _ _) q401 dX7_read_75 ?_
                          refine W_top (y := 1) (by rw [qE_f145]) ?_
                          refine lv_imul hx hb dX7_read_78 ?_
                          refine W_top (y := (-1000)) (by decide) ?_
                          refine lv_aload_n hx hb dX7_read_79 rfl (lv_at hl 1 rfl) ?_
                          refine S_get hC hK hP (oQ_rd _ _ _ _ _) clX7 in_X7 5 (by decide) (fD146 _ _ _ _) q402 dX7_read_80 ?_
                          refine W_top (y := (nI r9.2)) (by rw [qE_f146]) ?_
                          refine lv_isub hx hb dX7_read_83 ?_
                          refine W_size (fun hzz hww => ?_)
                          exact hq _ _ ((-1000) - (nI r9.2)) ((qE u (nI (r9.2 + 1)) 0 1 (nI r9.2)), (rs.length + 1, upd le rs.length (nI r9.1.1), va_up sm rs.length sb9, va_up cm rs.length (some cb9)), (c + g14), (fun _ => True)) _ _ _ _ dX7_read_84 ⟨hP, hTx, ⟨hzz, hww⟩, trivial⟩ hS rfl (RdP_l (e := (1, r9.2)) (hsp.trans (by rw [rulesE_s, hx9]; dsimp only [bW]; rw [if_pos (Nat.not_le.mp c32), if_neg h59])) rfl rfl (show fOK 1 from ⟨by decide, by decide⟩)) (by omega) (by omega)
                        · exact absurd c58 (by decide)
                      · exact absurd c10 (by decide)
          · change ruleE (u.2.1 6) n rs.length q b = _ at hx9
            rw [hw9, qE_again] at hP
            obtain ⟨m9, le9, sm9, cm9⟩ := v14
            have hl : lv_has ls 2 [(0, .ref (R 140)), (1, .int 1)] := hl
            refine lv_aload_n hx hb dX7_read_17 rfl (lv_at hl 0 rfl) ?_
            refine CIs.go (rcV hC hl (c_X7_isGood G l o R tx (qE u (nI q9) op9 (nI e9.1) (nI e9.2))  ) hK hP (va_recv hK.1 hP clX7 (oQ_rd _ _ _ _ _)) q423 q425 qs1 q117 q426 mdX7_isGood (room_v hRm (by omega) (by omega) (by omega) (by omega)) rfl rfl dX7_read_18) ?_
            refine W_top (y := (bI (isGB (nI e9.1)))) (by simp only [qE_f145]) ?_
            refine W_top (y := 0) (by rw [he9.1]; rfl) ?_
            refine lv_if_eq (tgt := 39) hx hb dX7_read_21 (by decide) (fun c21 => ?_) (fun c21 => ?_)
            · refine lv_iconst (v := 0) hx hb dX7_read_39 (by decide) ?_
              refine lv_istore_n (lv' := [(1, .int 0), (0, .ref (R 140))]) hx hb dX7_read_40 rfl hl (by decide) rfl (fun ls hl => ?_)
              refine lv_iload_n hx hb dX7_read_41 rfl (lv_at hl 0 rfl) ?_
              refine lv_if_eq (tgt := 2) hx hb dX7_read_42 (by decide) (fun c42 => ?_) (fun c42 => ?_)
              · refine lv_iload_n hx hb dX7_read_2 rfl (lv_at hl 0 rfl) ?_
                refine lv_if_eq (tgt := 54) hx hb dX7_read_3 (by decide) (fun c3 => ?_) (fun c3 => ?_)
                · refine lv_aload_n hx hb dX7_read_54 rfl (lv_at hl 1 rfl) ?_
                  refine CIs.go (rcV hC hl (c_X7_isGood G l o R tx (qE u (nI q9) op9 (nI e9.1) (nI e9.2))  ) hK hP (va_recv hK.1 hP clX7 (oQ_rd _ _ _ _ _)) q423 q425 qs1 q117 q426 mdX7_isGood (room_v hRm (by omega) (by omega) (by omega) (by omega)) rfl rfl dX7_read_55) ?_
                  refine W_top (y := (bI (isGB (nI e9.1)))) (by simp only [qE_f145]) ?_
                  refine W_top (y := 0) (by rw [he9.1]; rfl) ?_
                  refine lv_if_eq (tgt := 71) hx hb dX7_read_58 (by decide) (fun c58 => ?_) (fun c58 => ?_)
                  · refine lv_sipush (v := (-1000)) hx hb dX7_read_71 (by decide) ?_
                    refine lv_aload_n hx hb dX7_read_74 rfl (lv_at hl 1 rfl) ?_
                    refine S_get hC hK hP (oQ_rd _ _ _ _ _) clX7 in_X7 4 (by decide) (fD145 _ _ _ _) q401 dX7_read_75 ?_
                    refine W_top (y := (nI e9.1)) (by rw [qE_f145]) ?_
                    refine lv_imul hx hb dX7_read_78 ?_
                    refine lv_aload_n hx hb dX7_read_79 rfl (lv_at hl 1 rfl) ?_
                    refine S_get hC hK hP (oQ_rd _ _ _ _ _) clX7 in_X7 5 (by decide) (fD146 _ _ _ _) q402 dX7_read_80 ?_
                    refine W_top (y := (nI e9.2)) (by rw [qE_f146]) ?_
                    refine lv_isub hx hb dX7_read_83 ?_
                    refine W_size (fun hzz hww => ?_)
                    exact hq _ _ (((-1000) * (nI e9.1)) - (nI e9.2)) ((qE u (nI q9) op9 (nI e9.1) (nI e9.2)), (m9, le9, sm9, cm9), (c + g14), (fun _ => True)) _ _ _ _ dX7_read_84 ⟨hP, hTx, ⟨hzz, hww⟩, trivial⟩ hS rfl (RdP_l (e := e9) (hsp.trans (by rw [rulesE_s, hx9]; rfl)) rfl rfl he9) (by omega) (by omega)
                  · exact absurd c58 (by decide)
                · exact absurd c3 (by decide)
              · exact absurd c42 (by decide)
            · exact absurd c21 (by decide)
  exact LP2 _ 0 (n + 1) 0 (u.1 144) ([]) le0 sm0 cm0 0 _ _ ls (Nat.lt_succ_self _) (by omega) (by omega) (rfl) (by decide) (by omega) (hTx) (hCl0) hP hS (lv_sub hl [1, 0] rfl)
