set_option maxRecDepth 100000
/-! S: joy of what is no house is nothing; the window is with a house -/
def houseOr (hs x : Int32) : Prop := x = -1 ∨ isHouseB hs x = true
def whoseH (hs : Int32) (w : Nat → Int32) : Prop := ∀ t, t < 12 → houseOr hs (w t)
def JZ (hs : Int32) (f : Nat → Int32) : Prop := ∀ k, k < 16 → isHouseB hs (nI k) = false → f k = 0
def dJ (hs : Int32) (nw : Nat → Int32) : Prop := JZ hs nw ∧ houseOr hs (nw 16)
theorem houseOr.at {hs x : Int32} (h : houseOr hs x) : atOK x := by
  rcases h with h | h
  · exact Or.inl h
  · obtain ⟨j, hj, e, _⟩ := isHouseB_nI h; exact Or.inr ⟨j, hj, e⟩
theorem whoseH.ok {hs : Int32} {w : Nat → Int32} (h : whoseH hs w) : WOK w := fun t ht => (h t ht).at
theorem dJ_car {hs : Int32} {Lw : LW} {sn : Nat → Int32 → Int32} {F0 nw : Nat → Int32} {h : Nat} {t d cn : Int32} (hh : isHouseB hs (nI h) = true) (ho : dJ hs nw) : dJ hs (carS Lw sn F0 h t d (nw, cn)).1 := by
  refine ⟨fun k hk hn => by rw [carS_k (by omega) (by omega)]; exact ho.1 k hk hn, ?_⟩
  cases hs' : staysB Lw sn F0 nw h t d with
  | true => rw [carS_t hs']; exact ho.2
  | false => rw [carS_f hs']; exact Or.inr hh
theorem dJ_glad {hs : Int32} {Lw : LW} {sn : Nat → Int32 → Int32} {F0 nw : Nat → Int32} {t d : Int32} (ho : dJ hs nw) : dJ hs (gladS Lw sn F0 t d nw) := by
  have ha := ho.2.at
  refine ⟨fun k hk hn => ?_, by rw [gladS_16 ha]; exact ho.2⟩
  by_cases h : nw 16 = -1
  · rw [gladS_n h]; exact ho.1 k hk hn
  · have hj := ha.ix h
    have hne : k ≠ ix (nw 16) := by
      intro e
      rcases ho.2 with q | q
      · exact h q
      · rw [hj.1, ← e, hn] at q; cases q
    by_cases hz : sn (ix (nw 16)) t = 0
    · rw [gladS_z h rfl hz, upd_n _ hne]; exact ho.1 k hk hn
    · rw [gladS_p h rfl hz, upd_n _ (by omega), upd_n _ hne]; exact ho.1 k hk hn
theorem dJ_lot {hs : Int32} {nw : Nat → Int32} (ho : dJ hs nw) : dJ hs (lotS nw) := ⟨fun k hk hn => by rw [show lotS nw k = nw k from upd_n _ (by omega)]; exact ho.1 k hk hn, ho.2⟩
theorem dJ_go {hs : Int32} {Lw : LW} {sn : Nat → Int32 → Int32} {F0 w : Nat → Int32} {t : Nat} {q : DS} (hw : whoseH hs w) (ht : t < 12) (hn : ¬ w t = -1) (ho : dJ hs q.1) : dJ hs (goS Lw sn F0 w t q).1 := by
  refine dJ_glad ?_
  refine dJ_car ?_ (dJ_lot ho)
  rw [← (hw.ok.ix ht hn).1]
  rcases hw t ht with h | h
  · exact absurd h hn
  · exact h
theorem dJ_turns {hs : Int32} {Lw : LW} {sn : Nat → Int32 → Int32} {F0 w : Nat → Int32} {q : DS} (hw : whoseH hs w) (ho : dJ hs q.1) : ∀ t, t ≤ 12 → dJ hs (turnsG Lw sn F0 w q t).1 := by
  intro t
  induction t with
  | zero => intro _; exact ho
  | succ t ih =>
    intro ht
    by_cases h : w t = -1
    · rw [turnsG_n h]; exact ih (by omega)
    · rw [turnsG_g h]; exact dJ_go hw (by omega) h (ih (by omega))
theorem dJ_day {hs : Int32} {Lw : LW} {sn : Nat → Int32 → Int32} {F0 w : Nat → Int32} {q : DS} (hw : whoseH hs w) (ho : dJ hs q.1) : dJ hs (dayS Lw sn F0 w q).1 := by
  have h := dJ_turns (Lw := Lw) (sn := sn) (F0 := F0) hw ho 12 (Nat.le_refl _)
  exact ⟨fun k hk hn => by
    show upd (turnsG Lw sn F0 w q 12).1 19 _ k = 0
    rw [upd_n _ (by omega)]; exact h.1 k hk hn, h.2⟩
theorem dJ_days {hs : Int32} {Lw : LW} {sn : Nat → Int32 → Int32} {F0 w : Nat → Int32} (hw : whoseH hs w) : ∀ n (q : DS), dJ hs q.1 → dJ hs (daysS Lw sn F0 w n q).1 := by
  intro n
  induction n with
  | zero => intro q h; exact h
  | succ n ih =>
    intro q h
    unfold daysS
    split
    · exact h
    · exact ih _ (dJ_day hw h)
theorem sum_all {hs : Int32} {f g : Nat → Int32} (hf : ∀ k, k < 16 → f k = g k) (hz : JZ hs g) : ∀ k, k ≤ 16 → sumJ f k = joyAll hs g k := by
  intro k
  induction k with
  | zero => intro _; rfl
  | succ k ih =>
    intro hk
    show sumJ f k + f k = if isHouseB hs (nI k) = true then joyAll hs g k + g k else joyAll hs g k
    rw [ih (by omega), hf k (by omega)]
    by_cases h : isHouseB hs (nI k) = true
    · rw [if_pos h]
    · rw [if_neg h, hz k (by omega) (by simpa using h)]; exact Int32.add_zero _
/-- joy's bound -/
theorem JB_mn {x : Int32} (h : ∃ j : Nat, j < 2 ^ 30 ∧ x = nI j) : ∃ j : Nat, j < 100000 ∧ mnI 99999 x = nI j := by
  obtain ⟨j, hj, e⟩ := h
  exact ⟨min 99999 j, by omega, by rw [e, show (99999 : Int32) = nI 99999 from rfl, mnI_nI (by omega) (by omega)]⟩
theorem byLaw_99 {W : LW} {c no : Int32} {F : FF} (h0 : 0 ≤ no) (h1 : no ≤ 99) : ∃ b : Nat, b ≤ 99 ∧ byLawS W c 99 no F = nI b := by
  unfold byLawS
  cases findW W c F W.1 0 with
  | none =>
    obtain ⟨j, hj, e⟩ := nI_of2 (x := no) (M := 99) (n := 99) (by decide) (Int32.not_lt.mpr h0) h1
    exact ⟨j, hj, e⟩
  | some q =>
    show ∃ b : Nat, b ≤ 99 ∧ (if W.2.2.1 q F < 0 then 0 else if 99 < W.2.2.1 q F then 99 else W.2.2.1 q F) = nI b
    generalize W.2.2.1 q F = x
    by_cases h1 : x < 0
    · exact ⟨0, by omega, by rw [if_pos h1]; rfl⟩
    · by_cases h2 : 99 < x
      · exact ⟨99, by omega, by rw [if_neg h1, if_pos h2]; rfl⟩
      · obtain ⟨j, hj, e⟩ := nI_of2 (x := x) (M := 99) (n := 99) (by decide) h1 (Int32.not_lt.mp h2)
        exact ⟨j, hj, by rw [if_neg h1, if_neg h2]; exact e⟩
theorem JB_glad {Lw : LW} {sn : Nat → Int32 → Int32} {F0 nw : Nat → Int32} {t d : Int32} (hb : JB nw) (ha : atOK (nw 16)) : JB (gladS Lw sn F0 t d nw) := by
  by_cases h : nw 16 = -1
  · rw [gladS_n h]; exact hb
  · have hj := ha.ix h
    have hx : JB (upd nw (ix (nw 16)) (mnI 99999 (nw (ix (nw 16)) + byLawS Lw 106 99 (bitsI (sn (ix (nw 16)) t) + bitsI (nw 17)) (factS sn F0 nw (ix (nw 16)) t d)))) := by
      intro k hk
      by_cases e : k = ix (nw 16)
      · subst e
        rw [upd_s]
        obtain ⟨j, hj1, e1⟩ := hb _ hj.2
        obtain ⟨b, hb1, e2⟩ := byLaw_99 (W := Lw) (c := 106) (F := factS sn F0 nw (ix (nw 16)) t d) (bits2_b (x := sn (ix (nw 16)) t) (y := nw 17)).1 bits2_b.2
        exact JB_mn ⟨j + b, by omega, by rw [e1, e2, nI_add]⟩
      · rw [upd_n _ e]; exact hb k hk
    by_cases hz : sn (ix (nw 16)) t = 0
    · rw [gladS_z h rfl hz]; exact hx
    · rw [gladS_p h rfl hz]
      intro k hk
      rw [upd_n _ (by omega)]; exact hx k hk
theorem JB_days {hs : Int32} {Lw : LW} {sn : Nat → Int32 → Int32} {F0 w : Nat → Int32} (hw : whoseH hs w) : ∀ n (q : DS), dJ hs q.1 → JB q.1 → JB (daysS Lw sn F0 w n q).1 := by
  intro n
  induction n with
  | zero => intro q _ h; exact h
  | succ n ih =>
    intro q hd h
    unfold daysS
    split
    · exact h
    · refine ih _ (dJ_day hw hd) ?_
      have ht : ∀ t, t ≤ 12 → JB (turnsG Lw sn F0 w q t).1 := by
        intro t
        induction t with
        | zero => intro _; exact h
        | succ t iht =>
          intro ht
          by_cases e : w t = -1
          · rw [turnsG_n e]; exact iht (by omega)
          · rw [turnsG_g e]
            have h1 := iht (by omega)
            have h2 := dJ_turns (Lw := Lw) (sn := sn) (F0 := F0) hw hd t (by omega)
            have h3 : dJ hs (carQ Lw sn F0 w t (turnsG Lw sn F0 w q t)).1 := by
              refine dJ_car ?_ (dJ_lot h2)
              rw [← (hw.ok.ix (by omega) e).1]
              rcases hw t (by omega) with q | q
              · exact absurd q e
              · exact q
            refine JB_glad ?_ h3.2.at
            intro k hk
            rw [show (carQ Lw sn F0 w t (turnsG Lw sn F0 w q t)).1 k = (turnsG Lw sn F0 w q t).1 k from ?_]
            · exact h1 k hk
            · unfold carQ
              rw [carS_k (by omega) (by omega)]; exact upd_n _ (by omega)
      intro k hk
      show ∃ j, j < 100000 ∧ upd (turnsG Lw sn F0 w q 12).1 19 _ k = nI j
      rw [upd_n _ (by omega)]; exact ht 12 (Nat.le_refl _) k hk
section SMANY
variable {G : GG} {p : Program} {l : Launch} {e : Env} {Rm : Room} {s : State} {m : MethodId} {args : Array Value} {below : List Frame} {meth : Method} {c : Code} {H : Heap} {locs : List Loc} {cells slots : Nat} {Q : State → Prop}
variable {cc : ByteArray} {nL index pc tx : Nat} {own host : String} {ls : Array Slot} {rest : List Value} {A : Nat → Prop} {Lw : LW}
theorem S_manyN (hC : CallFix p m c cc nL s args lw_all own) (hK : KS G s) (hT : TxW G A tx Lw H) (hl : (own, index, "SharedWindow$Text", "many", "I", host) ∈ nestF) (hdg : decode cc pc = .ok (.getfield index, 3))
    (kk : W p l e Rm s m args below meth c H locs cells slots Q (F0 m (pc + 3) ls (.int (nI Lw.1) :: rest))) : W p l e Rm s m args below meth c H locs cells slots Q (F0 m pc ls (.ref tx :: rest)) := by
  obtain ⟨r0, r1, r2, le, sm, cd, h1, -⟩ := hT
  exact S_getN (v := .int (nI Lw.1)) hC hK h1 (q0 := 0) rfl clX5 in_X5 3 (by decide) rfl hl hdg kk
end SMANY
/-- what tried leaves alone -/
def sameT (u w : MS) : Prop := (∀ k, k < 30 ∨ (40 ≤ k ∧ k < 50) ∨ 60 ≤ k → w.1 k = u.1 k) ∧ (∀ k, k ≠ 50 → w.2.1 k = u.2.1 k) ∧ w.2.2 = u.2.2
theorem rowA_tk {u : MS} {nw : Nat → Int32} (h : rowA u 40 nw) : rowA (tkS u 50 40) 50 nw := by
  refine ⟨(tkS_k u (i := 1) (by decide) (by decide)).trans h.1, (tkS_k u (i := 2) (by decide) (by decide)).trans h.2.1, (tkS_k u (i := 3) (by decide) (by decide)).trans h.2.2.1, (tkS_k u (i := 4) (by decide) (by decide)).trans h.2.2.2.1, (tkS_k u (i := 5) (by decide) (by decide)).trans h.2.2.2.2.1, fun k hk => (tkS_j u hk).trans (h.2.2.2.2.2 k hk)⟩
theorem sameT_tk (u : MS) (z : Int32) (F : Nat → Int32) (a b c d e f : Int32) (jo : Nat → Int32) : sameT u (dSb (tkS u 50 40) z F a b c d e f jo) := by
  refine ⟨fun k hk => ?_, fun k hk => ?_, rfl⟩
  · simp only [dSb]
    rw [if_neg (by omega), if_neg (by omega), if_neg (by omega), if_neg (by omega), if_neg (by omega), if_neg (by omega), if_neg (by omega), if_neg (by omega)]
    exact tkS_1 u (by omega)
  · simp only [dSb]
    rw [if_neg hk]
    exact tkS_2 u hk
