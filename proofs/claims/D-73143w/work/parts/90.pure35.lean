set_option maxRecDepth 100000
def bD (d : CDn) : SDn := fun F => (d F).map bI
theorem Seg_not {cd : Nat → Nat} {a e : Nat} {d : CDn} (h : Seg cd a e (bD d)) (hae : a < e) (hc : cd e = UN * 10) : Seg cd a (e + 1) (bD fun F => (d F).map (fun v => !v)) := fun F to n g r he hn hk => by
  have e1 : (UN * 10) / 1048576 = 10 := un_div 10
  refine h F to n g r (by omega) (by omega) ?_
  cases hd : d F with
  | none => simp only [bD, hd, Option.map_none] at hk ⊢; exact hk
  | some v =>
    simp only [bD, hd, Option.map_some] at hk ⊢
    intro g1 hg1 hv1
    obtain ⟨fu, hfu⟩ := hk (upd g1 n (1 - g1 n)) (fun i hi => by rw [upd_n _ (by omega)]; exact hg1 i hi) (by rw [upd_s, hv1]; cases v <;> rfl)
    refine ⟨fu + 1, ?_⟩
    unfold rkS
    rw [if_neg (by omega), hc, e1, if_neg (by decide), if_neg (by decide), if_pos rfl, if_pos (by omega), show n + 1 - 1 = n by omega]; exact hfu
theorem Seg_jmp {cd : Nat → Nat} {a m e s : Nat} {x y : CDn} (h1 : Seg cd a m (bD x)) (h2 : Seg cd (m + 1) e (bD y)) (ham : a < m) (hme : m + 1 < e) (hs : s = 11 ∨ s = 12) (hc : cd m = UN * s + e) (heU : e < UN) : Seg cd a e (bD fun F => somS (decide (s = 12)) (x F) (y F)) := fun F to n g r he hn hk => by
  have e1 : (UN * s + e) / 1048576 = s := by show (1048576 * s + e) / 1048576 = s; have : e < 1048576 := heU; omega
  have e2 : (UN * s + e) % 1048576 = e := by show (1048576 * s + e) % 1048576 = e; have : e < 1048576 := heU; omega
  refine h1 F to n g r (by omega) (by omega) ?_
  cases hx : x F with
  | none => simp only [bD, hx, somS, Option.map_none] at hk ⊢; exact hk
  | some v =>
    simp only [bD, hx, Option.map_some]
    intro g1 hg1 hv1
    by_cases q : v = decide (s = 12)
    · simp only [bD, hx, somS, if_pos q, Option.map_some] at hk
      obtain ⟨fu, hfu⟩ := hk g1 hg1 hv1
      refine ⟨fu + 1, ?_⟩
      unfold rkS
      rw [if_neg (by omega), hc, e1, e2, if_neg (by omega), if_neg (by omega), if_neg (by omega), if_pos hs, if_pos (by omega), show n + 1 - 1 = n by omega, if_pos (by rw [hv1, q]; rcases hs with rfl | rfl <;> rfl)]; exact hfu
    · simp only [bD, hx, somS, if_neg q] at hk
      obtain ⟨fu, hfu⟩ := h2 F to n g1 r (by omega) (by omega) (by
        cases hy : y F with
        | none => simp only [bD, hy, Option.map_none] at hk ⊢; exact hk
        | some w =>
          simp only [bD, hy, Option.map_some] at hk ⊢
          exact fun g2 hg2 hv2 => hk g2 (fun i hi => (hg2 i hi).trans (hg1 i hi)) hv2)
      refine ⟨fu + 1, ?_⟩
      unfold rkS
      rw [if_neg (by omega), hc, e1, e2, if_neg (by omega), if_neg (by omega), if_neg (by omega), if_pos hs, if_pos (by omega), show n + 1 - 1 = n by omega, if_neg (by rw [hv1]; rcases hs with rfl | rfl <;> (cases v <;> first | exact absurd rfl q | decide))]; exact hfu
theorem Seg_cmp {cd : Nat → Nat} {a b c ch s : Nat} {x y : SDn} (h1 : Seg cd a b x) (h2 : Seg cd b c y) (hab : a < b) (hbc : b < c) (hs : cmpN ch = some s) (hc : cd c = UN * s) : Seg cd a (c + 1) (bD fun F => cmpS (nI ch) (x F) (y F)) := fun F to n g r he hn hk => by
  have hcs : (ch = 60 ∧ s = 7) ∨ (ch = 62 ∧ s = 8) ∨ (ch = 61 ∧ s = 9) := by
    unfold cmpN at hs
    repeat (split at hs; (rename_i e; cases hs; omega))
    cases hs
  have e1 : (UN * s) / 1048576 = s := un_div _
  refine h1 F to n g r (by omega) (by omega) ?_
  cases hx : x F with
  | none => simp only [bD, hx, cmpS, Option.map_none] at hk ⊢; exact hk
  | some v =>
    intro g1 hg1 hv1
    refine h2 F to (n + 1) g1 r (by omega) (by omega) ?_
    cases hy : y F with
    | none => simp only [bD, hx, hy, cmpS, Option.map_none] at hk ⊢; exact hk
    | some w =>
      intro g2 hg2 hv2
      have ev : g2 n = v := by rw [hg2 n (by omega)]; exact hv1
      simp only [bD, hx, hy, cmpS, Option.map_some] at hk
      obtain ⟨fu, hfu⟩ := hk (upd g2 n (reckS (nI s) v w)) (fun i hi => by rw [upd_n _ (by omega), hg2 i (by omega), hg1 i hi]) (by
        rw [upd_s]
        rcases hcs with ⟨rfl, rfl⟩ | ⟨rfl, rfl⟩ | ⟨rfl, rfl⟩
        · show (if v < w then (1 : Int32) else 0) = bI (decide (v < w)); by_cases q : v < w <;> simp [q, bI]
        · show (if w < v then (1 : Int32) else 0) = bI (decide (w < v)); by_cases q : w < v <;> simp [q, bI]
        · show (if v = w then (1 : Int32) else 0) = bI (decide (v = w)); by_cases q : v = w <;> simp [q, bI])
      refine ⟨fu + 1, ?_⟩
      unfold rkS
      rw [if_neg (by omega), hc, e1, if_neg (by omega), if_neg (by omega), if_neg (by omega), if_neg (by omega), if_pos (by omega), show n + 1 + 1 - 1 = n + 1 by omega, hv2, if_neg (by omega), show n + 1 + 1 - 2 = n by omega, ev]; exact hfu
