set_option maxRecDepth 100000
/-! the tables of rows of the class under test; the shortest rota with moves that meet nothing -/
def rwG (i : Nat) : Nat := if i < 256 then 17 else 13
def outW (G : GG) (R : Nat → Nat) (k n a : Nat) : Nat × va_E := (R k, .inl (G.2 3, n, .inr (.inr (.inr (.inr fun i => some (R (1000 + (a + i))))))))
def rowW (G : GG) (R : Nat → Nat) (g : Nat → Nat → Int32) (i : Nat) : Nat × va_E := (R (1000 + i), .inl (G.2 0, rwG i, .inl (g i)))
def rwsU (u : MS) : Nat → Nat → Int32 := fun i => u.2.1 (1000 + i)
def rwsW (G : GG) (R : Nat → Nat) (g : Nat → Nat → Int32) : va_W := (List.range 269).map (rowW G R g)
def celGd (G : GG) (o : Nat) (R : Nat → Nat) (tx : Nat) (u : MS) : va_W := celS G o R tx u ++ ([outW G R 10 64 0, outW G R 11 64 64, outW G R 12 64 128, outW G R 13 64 192, outW G R 15 13 256] ++ rwsW G R (rwsU u))
def PwGd (G : GG) (o : Nat) (R : Nat → Nat) (tx : Nat) (u : MS) (H : Heap) : Prop := va_P G.1 vwCl (celGd G o R tx u) H
def AwGd (o : Nat) (R : Nat → Nat) : Nat → Prop := fun q => AwS o R q ∨ (∃ k ∈ [10, 11, 12, 13, 15], q = R k) ∨ ∃ i, i < 269 ∧ q = R (1000 + i)
def DwGd (o : Nat) (R : Nat → Nat) : Prop := ∀ (G : GG) (tx : Nat) (u : MS), va_D (AwGd o R) (celGd G o R tx u)
theorem PwGd.toS {G : GG} {o : Nat} {R : Nat → Nat} {tx : Nat} {u : MS} {H : Heap} (h : PwGd G o R tx u H) : PwS G o R tx u H := fun k q hk => h k q (by
  unfold celGd
  obtain ⟨h1, h2⟩ := List.getElem?_eq_some_iff.mp hk
  rw [List.getElem?_append_left h1]; exact hk)
/-- the state with its rows, by one number -/
def gE (u : MS) (v : Int32) (g : Nat → Nat → Int32) : MS := (upd u.1 8 v, fun k => if k < 1000 then u.2.1 k else g (k - 1000), u.2.2)
theorem gE_self (u : MS) : gE u (u.1 8) (rwsU u) = u := by
  refine Prod.ext ?_ (Prod.ext ?_ rfl)
  · funext k; show (if k = 8 then _ else _) = _; split
    · rename_i h; rw [h]
    · rfl
  · funext k; show (if k < 1000 then _ else u.2.1 (1000 + (k - 1000))) = _; split
    · rfl
    · rw [show 1000 + (k - 1000) = k by omega]
theorem gE_again (u : MS) (v v' : Int32) (g g' : Nat → Nat → Int32) : gE (gE u v g) v' g' = gE u v' g' := by
  refine Prod.ext ?_ (Prod.ext ?_ rfl)
  · funext k; show (if k = 8 then _ else (if k = 8 then _ else _)) = (if k = 8 then _ else _); split <;> rfl
  · funext k; show (if k < 1000 then (if k < 1000 then _ else _) else _) = (if k < 1000 then _ else _); split <;> rfl
theorem gE_V8 (u : MS) (v x : Int32) (g : Nat → Nat → Int32) : mV (gE u v g) 8 x = gE u x g := by
  refine Prod.ext ?_ rfl
  funext k; show (if k = 8 then _ else (if k = 8 then _ else _)) = (if k = 8 then _ else _); split <;> rfl
theorem gE_r (u : MS) (v : Int32) (g : Nat → Nat → Int32) (i : Nat) : (gE u v g).2.1 (1000 + i) = g i := by
  show (if 1000 + i < 1000 then _ else g (1000 + i - 1000)) = _
  rw [if_neg (by omega), show 1000 + i - 1000 = i by omega]
theorem gE_rw (u : MS) (v : Int32) (g : Nat → Nat → Int32) : rwsU (gE u v g) = g := funext fun i => gE_r u v g i
theorem gE_W (u : MS) (v : Int32) (g : Nat → Nat → Int32) (i j : Nat) (x : Int32) : mA (gE u v g) (1000 + i) j x = gE u v (upd2 g i j x) := by
  refine Prod.ext rfl (Prod.ext ?_ rfl)
  funext k
  show (if k = 1000 + i then upd ((gE u v g).2.1 (1000 + i)) j x else (gE u v g).2.1 k) = (if k < 1000 then _ else upd2 g i j x (k - 1000))
  rw [gE_r]
  by_cases e : k = 1000 + i
  · subst e
    rw [if_pos rfl, if_neg (by omega), show 1000 + i - 1000 = i by omega]
    show _ = (if i = i then _ else _); rw [if_pos rfl]
  · rw [if_neg e]
    show (if k < 1000 then _ else _) = _
    by_cases h : k < 1000
    · rw [if_pos h, if_pos h]
    · rw [if_neg h, if_neg h]
      show _ = (if k - 1000 = i then _ else _); rw [if_neg (by omega)]
theorem celS_rows (G : GG) (o : Nat) (R : Nat → Nat) (tx : Nat) (u : MS) (i j : Nat) (x : Int32) : celS G o R tx (mA u (1000 + i) j x) = celS G o R tx u := by
  have h : ∀ k, k < 1000 → (mA u (1000 + i) j x).2.1 k = u.2.1 k := fun k hk => by rw [mA_2f, if_neg (by omega)]
  unfold celS
  rw [h 1 (by decide), h 6 (by decide), h 14 (by decide), h 16 (by decide), h 17 (by decide), h 20 (by decide), h 21 (by decide), h 22 (by decide), h 23 (by decide), h 40 (by decide), h 50 (by decide), h 60 (by decide)]
  rfl
theorem rwsW_get (G : GG) (R : Nat → Nat) (g : Nat → Nat → Int32) {i : Nat} (hi : i < 269) : (rwsW G R g)[i]? = some (rowW G R g i) := by
  unfold rwsW
  rw [List.getElem?_map, List.getElem?_range hi]; rfl
theorem aGr (G : GG) (o : Nat) (R : Nat → Nat) (tx : Nat) (u : MS) {i n : Nat} (hi : i < 269) (hn : rwG i = n) : (celGd G o R tx u)[24 + i]? = some (R (1000 + i), .inl (G.2 0, n, .inl (u.2.1 (1000 + i)))) := by
  have h := rwsW_get G R (rwsU u) hi
  unfold rowW at h
  rw [hn] at h
  unfold celGd
  rw [List.getElem?_append_right (by show 19 ≤ 24 + i; omega), show 24 + i - (celS G o R tx u).length = 5 + i by show 24 + i - 19 = _; omega, List.getElem?_append_right (by show 5 ≤ 5 + i; omega)]
  show (rwsW G R (rwsU u))[5 + i - 5]? = _
  rw [show 5 + i - 5 = i by omega]; exact h
theorem rwsW_set (G : GG) (R : Nat → Nat) (g : Nat → Nat → Int32) {i n : Nat} (j : Nat) (x : Int32) (hn : rwG i = n) : (rwsW G R g).set i (R (1000 + i), .inl (G.2 0, n, .inl (upd (g i) j x))) = rwsW G R (upd2 g i j x) := by
  apply List.ext_getElem?
  intro k
  rw [List.getElem?_set]
  have hl : (rwsW G R g).length = 269 := by unfold rwsW; rw [List.length_map, List.length_range]
  by_cases e : i = k
  · subst e
    rw [if_pos rfl, hl]
    by_cases h : i < 269
    · rw [if_pos h, rwsW_get G R _ h]; unfold rowW; rw [hn]
      show _ = some (_, Sum.inl (_, _, Sum.inl (if i = i then _ else _))); rw [if_pos rfl]
    · rw [if_neg h, List.getElem?_eq_none]; unfold rwsW; rw [List.length_map, List.length_range]; omega
  · rw [if_neg e]
    by_cases h : k < 269
    · rw [rwsW_get G R _ h, rwsW_get G R _ h]; unfold rowW
      show _ = some (_, Sum.inl (_, _, Sum.inl (if k = i then _ else _))); rw [if_neg (fun z => e z.symm)]
    · rw [List.getElem?_eq_none (by rw [hl]; omega), List.getElem?_eq_none]; unfold rwsW; rw [List.length_map, List.length_range]; omega
theorem bGr (G : GG) (o : Nat) (R : Nat → Nat) (tx : Nat) (u : MS) {i n : Nat} (j : Nat) (x : Int32) (hn : rwG i = n) : (celGd G o R tx u).set (24 + i) (R (1000 + i), .inl (G.2 0, n, .inl (upd (u.2.1 (1000 + i)) j x))) = celGd G o R tx (mA u (1000 + i) j x) := by
  unfold celGd
  rw [List.set_append_right _ _ (by show 19 ≤ 24 + i; omega), show 24 + i - (celS G o R tx u).length = 5 + i by show 24 + i - 19 = _; omega, List.set_append_right _ _ (by show 5 ≤ 5 + i; omega), celS_rows]
  congr 1; congr 1
  show (rwsW G R (rwsU u)).set (5 + i - 5) (R (1000 + i), .inl (G.2 0, n, .inl (upd ((rwsU u) i) j x))) = _
  rw [show 5 + i - 5 = i by omega, rwsW_set G R (rwsU u) j x hn]
  congr 1
  funext k
  show (if k = i then upd (u.2.1 (1000 + i)) j x else u.2.1 (1000 + k)) = (mA u (1000 + i) j x).2.1 (1000 + k)
  rw [mA_2f]
  by_cases e : k = i
  · subst e; rw [if_pos rfl, if_pos rfl]
  · rw [if_neg e, if_neg (by omega)]
theorem rwG_17 {i : Nat} (h : i < 256) : rwG i = 17 := if_pos h
theorem rwG_13 {i : Nat} (h : 256 ≤ i) : rwG i = 13 := if_neg (by omega)
theorem oGd_main (G : GG) (o : Nat) (R : Nat → Nat) (tx : Nat) (u : MS) : (celGd G o R tx u)[0]? = some (o, .inr (0, fs_main o R tx u.1)) := rfl
theorem oGd_plan (G : GG) (o : Nat) (R : Nat → Nat) (tx : Nat) (u : MS) : (celGd G o R tx u)[1]? = some ((R 0), .inr (1, fs_plan o R tx u.1)) := rfl
theorem oGd_moment (G : GG) (o : Nat) (R : Nat → Nat) (tx : Nat) (u : MS) : (celGd G o R tx u)[2]? = some ((R 2), .inr (2, fs_moment o R tx u.1)) := rfl
theorem oGd_street (G : GG) (o : Nat) (R : Nat → Nat) (tx : Nat) (u : MS) : (celGd G o R tx u)[3]? = some ((R 3), .inr (3, fs_street o R tx u.1)) := rfl
theorem oGd_then (G : GG) (o : Nat) (R : Nat → Nat) (tx : Nat) (u : MS) : (celGd G o R tx u)[4]? = some ((R 4), .inr (3, fs_then o R tx u.1)) := rfl
theorem oGd_kept (G : GG) (o : Nat) (R : Nat → Nat) (tx : Nat) (u : MS) : (celGd G o R tx u)[5]? = some ((R 5), .inr (3, fs_kept o R tx u.1)) := rfl
theorem pGd8 (G : GG) (o : Nat) (R : Nat → Nat) (tx : Nat) (u : MS) (x : Int32) : (celGd G o R tx u).set 0 (o, .inr (0, (fs_main o R tx u.1).set 8 (.int x))) = celGd G o R tx (mV u 8 x) := rfl
theorem aGd10 (G : GG) (o : Nat) (R : Nat → Nat) (tx : Nat) (u : MS) : (celGd G o R tx u)[19]? = some (R 10, .inl (G.2 3, 64, .inr (.inr (.inr (.inr fun i => some (R (1000 + (0 + i)))))))) := rfl
theorem aGd11 (G : GG) (o : Nat) (R : Nat → Nat) (tx : Nat) (u : MS) : (celGd G o R tx u)[20]? = some (R 11, .inl (G.2 3, 64, .inr (.inr (.inr (.inr fun i => some (R (1000 + (64 + i)))))))) := rfl
theorem aGd12 (G : GG) (o : Nat) (R : Nat → Nat) (tx : Nat) (u : MS) : (celGd G o R tx u)[21]? = some (R 12, .inl (G.2 3, 64, .inr (.inr (.inr (.inr fun i => some (R (1000 + (128 + i)))))))) := rfl
theorem aGd13 (G : GG) (o : Nat) (R : Nat → Nat) (tx : Nat) (u : MS) : (celGd G o R tx u)[22]? = some (R 13, .inl (G.2 3, 64, .inr (.inr (.inr (.inr fun i => some (R (1000 + (192 + i)))))))) := rfl
theorem aGd15 (G : GG) (o : Nat) (R : Nat → Nat) (tx : Nat) (u : MS) : (celGd G o R tx u)[23]? = some (R 15, .inl (G.2 3, 13, .inr (.inr (.inr (.inr fun i => some (R (1000 + (256 + i)))))))) := rfl
theorem gE_g1 (u : MS) (v : Int32) (g : Nat → Nat → Int32) : (gE u v g).2.1 1 = u.2.1 1 := rfl
theorem gE_g6 (u : MS) (v : Int32) (g : Nat → Nat → Int32) : (gE u v g).2.1 6 = u.2.1 6 := rfl
theorem gE_f8 (u : MS) (v : Int32) (g : Nat → Nat → Int32) : (gE u v g).1 8 = v := rfl
theorem gE_f9 (u : MS) (v : Int32) (g : Nat → Nat → Int32) : (gE u v g).1 9 = u.1 9 := rfl
theorem gE_g14 (u : MS) (v : Int32) (g : Nat → Nat → Int32) : (gE u v g).2.1 14 = u.2.1 14 := rfl
theorem gE_g16 (u : MS) (v : Int32) (g : Nat → Nat → Int32) : (gE u v g).2.1 16 = u.2.1 16 := rfl
theorem gE_g17 (u : MS) (v : Int32) (g : Nat → Nat → Int32) : (gE u v g).2.1 17 = u.2.1 17 := rfl
theorem gE_f18 (u : MS) (v : Int32) (g : Nat → Nat → Int32) : (gE u v g).1 18 = u.1 18 := rfl
theorem gE_g20 (u : MS) (v : Int32) (g : Nat → Nat → Int32) : (gE u v g).2.1 20 = u.2.1 20 := rfl
theorem gE_g21 (u : MS) (v : Int32) (g : Nat → Nat → Int32) : (gE u v g).2.1 21 = u.2.1 21 := rfl
theorem gE_g22 (u : MS) (v : Int32) (g : Nat → Nat → Int32) : (gE u v g).2.1 22 = u.2.1 22 := rfl
theorem gE_g23 (u : MS) (v : Int32) (g : Nat → Nat → Int32) : (gE u v g).2.1 23 = u.2.1 23 := rfl
theorem gE_f24 (u : MS) (v : Int32) (g : Nat → Nat → Int32) : (gE u v g).1 24 = u.1 24 := rfl
theorem gE_f25 (u : MS) (v : Int32) (g : Nat → Nat → Int32) : (gE u v g).1 25 = u.1 25 := rfl
theorem gE_f30 (u : MS) (v : Int32) (g : Nat → Nat → Int32) : (gE u v g).1 30 = u.1 30 := rfl
theorem gE_f31 (u : MS) (v : Int32) (g : Nat → Nat → Int32) : (gE u v g).1 31 = u.1 31 := rfl
theorem gE_f32 (u : MS) (v : Int32) (g : Nat → Nat → Int32) : (gE u v g).1 32 = u.1 32 := rfl
theorem gE_f33 (u : MS) (v : Int32) (g : Nat → Nat → Int32) : (gE u v g).1 33 = u.1 33 := rfl
theorem gE_f34 (u : MS) (v : Int32) (g : Nat → Nat → Int32) : (gE u v g).1 34 = u.1 34 := rfl
theorem gE_f35 (u : MS) (v : Int32) (g : Nat → Nat → Int32) : (gE u v g).1 35 = u.1 35 := rfl
theorem gE_f36 (u : MS) (v : Int32) (g : Nat → Nat → Int32) : (gE u v g).1 36 = u.1 36 := rfl
theorem gE_f37 (u : MS) (v : Int32) (g : Nat → Nat → Int32) : (gE u v g).1 37 = u.1 37 := rfl
theorem gE_f38 (u : MS) (v : Int32) (g : Nat → Nat → Int32) : (gE u v g).1 38 = u.1 38 := rfl
theorem gE_f39 (u : MS) (v : Int32) (g : Nat → Nat → Int32) : (gE u v g).1 39 = u.1 39 := rfl
theorem gE_g40 (u : MS) (v : Int32) (g : Nat → Nat → Int32) : (gE u v g).2.1 40 = u.2.1 40 := rfl
theorem gE_f41 (u : MS) (v : Int32) (g : Nat → Nat → Int32) : (gE u v g).1 41 = u.1 41 := rfl
theorem gE_f42 (u : MS) (v : Int32) (g : Nat → Nat → Int32) : (gE u v g).1 42 = u.1 42 := rfl
theorem gE_f43 (u : MS) (v : Int32) (g : Nat → Nat → Int32) : (gE u v g).1 43 = u.1 43 := rfl
theorem gE_f44 (u : MS) (v : Int32) (g : Nat → Nat → Int32) : (gE u v g).1 44 = u.1 44 := rfl
theorem gE_f45 (u : MS) (v : Int32) (g : Nat → Nat → Int32) : (gE u v g).1 45 = u.1 45 := rfl
theorem gE_f46 (u : MS) (v : Int32) (g : Nat → Nat → Int32) : (gE u v g).1 46 = u.1 46 := rfl
theorem gE_g50 (u : MS) (v : Int32) (g : Nat → Nat → Int32) : (gE u v g).2.1 50 = u.2.1 50 := rfl
theorem gE_f51 (u : MS) (v : Int32) (g : Nat → Nat → Int32) : (gE u v g).1 51 = u.1 51 := rfl
theorem gE_f52 (u : MS) (v : Int32) (g : Nat → Nat → Int32) : (gE u v g).1 52 = u.1 52 := rfl
theorem gE_f53 (u : MS) (v : Int32) (g : Nat → Nat → Int32) : (gE u v g).1 53 = u.1 53 := rfl
theorem gE_f54 (u : MS) (v : Int32) (g : Nat → Nat → Int32) : (gE u v g).1 54 = u.1 54 := rfl
theorem gE_f55 (u : MS) (v : Int32) (g : Nat → Nat → Int32) : (gE u v g).1 55 = u.1 55 := rfl
theorem gE_f56 (u : MS) (v : Int32) (g : Nat → Nat → Int32) : (gE u v g).1 56 = u.1 56 := rfl
theorem gE_g60 (u : MS) (v : Int32) (g : Nat → Nat → Int32) : (gE u v g).2.1 60 = u.2.1 60 := rfl
theorem gE_f61 (u : MS) (v : Int32) (g : Nat → Nat → Int32) : (gE u v g).1 61 = u.1 61 := rfl
theorem gE_f62 (u : MS) (v : Int32) (g : Nat → Nat → Int32) : (gE u v g).1 62 = u.1 62 := rfl
theorem gE_f63 (u : MS) (v : Int32) (g : Nat → Nat → Int32) : (gE u v g).1 63 = u.1 63 := rfl
theorem gE_f64 (u : MS) (v : Int32) (g : Nat → Nat → Int32) : (gE u v g).1 64 = u.1 64 := rfl
theorem gE_f65 (u : MS) (v : Int32) (g : Nat → Nat → Int32) : (gE u v g).1 65 = u.1 65 := rfl
theorem gE_f66 (u : MS) (v : Int32) (g : Nat → Nat → Int32) : (gE u v g).1 66 = u.1 66 := rfl
section SALDA
variable {G : GG} {p : Program} {l : Launch} {e : Env} {Rm : Room} {s : State} {m : MethodId} {args : Array Value} {below : List Frame} {meth : Method} {c : Code} {H : Heap} {locs : List Loc} {cells slots : Nat} {Q : State → Prop}
variable {cc : ByteArray} {nL pc : Nat} {own : String} {ls : Array Slot} {rest : List Value}
theorem S_aldA {i : Int32} {a b q0 n j : Nat} {f : Nat → Option Nat} {ws : va_W} (hC : CallFix p m c cc nL s args lw_all own) (hK : KS G s) (hP : va_P G.1 vwCl ws H) (ha : ws[q0]? = some (a, .inl (G.2 3, n, .inr (.inr (.inr (.inr f)))))) (hf : f j = some b) (hn : n < 2 ^ 31) (hi : i = nI j) (hj : j < n) (hdg : decode cc pc = .ok (.aaload, 1))
    (kk : W p l e Rm s m args below meth c H locs cells slots Q (F0 m (pc + 1) ls (.ref b :: rest))) : W p l e Rm s m args below meth c H locs cells slots Q (F0 m pc ls (.int i :: .ref a :: rest)) := by
  obtain ⟨h1, h2⟩ := ix_nI hi hj hn
  have hlt : i.toNatClampNeg < n := Nat.not_le.mp fun q => h1 (Or.inr q)
  have e1 : va_rf (f i.toNatClampNeg) = .ref b := by rw [h2, hf]; rfl
  exact W.aald (v := .ref b) (ty := .array .int) hC.1 hC.2.1 (hP q0 _ ha) ((hK.1.2 3 (G.2 3, .array .int) rfl).1 n (fun j => va_rf (f j))) rfl (fun q => by cases q) (by show ¬ (i < 0 ∨ (arrV _ _ _).slots.size ≤ _); rw [arrV_size]; exact h1) (by show (arrV _ _ _).slots[_]? = _; rw [arrV_read _ _ hlt, e1]) rfl rfl hdg kk
end SALDA
theorem upd2_o {g : Nat → Nat → Int32} {i j r k : Nat} {x : Int32} (h : r ≠ i) : upd2 g i j x r k = g r k := by
  show (if r = i then _ else g r) k = _; rw [if_neg h]
theorem upd2_k {g : Nat → Nat → Int32} {i j k : Nat} {x : Int32} (h : k ≠ j) : upd2 g i j x i k = g i k := by
  show (if i = i then upd (g i) j x else g i) k = _; rw [if_pos rfl, upd_n _ h]
theorem upd2_s (g : Nat → Nat → Int32) (i j : Nat) (x : Int32) : upd2 g i j x i j = x := by
  show (if i = i then upd (g i) j x else g i) j = _; rw [if_pos rfl, upd_s]
/-- the rows hold the table up to a state -/
def grd (a b c : Nat) (g : Nat → Nat → Int32) (T : Nat → Nat) : Prop := ∀ s h, h < 17 → 17 * s + h < c → g (a + s) h = nI (T (17 * s + h) / 32) ∧ g (b + s) h = nI (T (17 * s + h) % 32)
theorem grd_0 (a b : Nat) (g : Nat → Nat → Int32) (T : Nat → Nat) : grd a b 0 g T := fun s h _ hc => absurd hc (Nat.not_lt_zero _)
theorem grd_o {a b c r h0 : Nat} {g : Nat → Nat → Int32} {T : Nat → Nat} {x : Int32} (hr : ∀ s, 17 * s < c → a + s ≠ r ∧ b + s ≠ r) (hg : grd a b c g T) : grd a b c (upd2 g r h0 x) T := fun s h hh hc => by
  obtain ⟨h1, h2⟩ := hr s (by omega)
  rw [upd2_o h1, upd2_o h2]; exact hg s h hh hc
theorem grd_n {a b c s h : Nat} {g : Nat → Nat → Int32} {T : Nat → Nat} {x y : Int32} (hab : a + 64 ≤ b) (hc : c = 17 * s + h) (hh : h < 17) (hs : s < 64) (hg : grd a b c g T) (hx : x = nI (T c / 32)) (hy : y = nI (T c % 32)) : grd a b (c + 1) (upd2 (upd2 g (a + s) h x) (b + s) h y) T := by
  intro s' h' hh' hc'
  have hs' : s' < 64 := by omega
  by_cases e : 17 * s' + h' = c
  · have e1 : s' = s := by omega
    have e2 : h' = h := by omega
    subst e1 e2
    rw [upd2_o (by omega), upd2_s, upd2_s, hx, hy, e]; exact ⟨rfl, rfl⟩
  · have hq := hg s' h' hh' (by omega)
    constructor
    · rw [upd2_o (by omega)]
      by_cases e1 : s' = s
      · subst e1; rw [upd2_k (by omega)]; exact hq.1
      · rw [upd2_o (by omega)]; exact hq.1
    · by_cases e1 : s' = s
      · subst e1; rw [upd2_k (by omega), upd2_o (by omega)]; exact hq.2
      · rw [upd2_o (by omega), upd2_o (by omega)]; exact hq.2
/-- a better way is kept -/
def bettG (g : Nat → Nat → Int32) (s h w f a b : Nat) : Nat → Nat → Int32 := if w < a ∨ (w = a ∧ f < b) then upd2 (upd2 g (128 + s) h (nI w)) (192 + s) h (nI f) else g
theorem grd_b {s h w f c : Nat} {g : Nat → Nat → Int32} {A : Nat → Nat} (hc : c ≤ 1088) (hh : h < 17) (hs : 17 * s + h < c) (hf : f < 32) (hg : grd 128 192 c g A) : grd 128 192 c (bettG g s h w f (A (17 * s + h) / 32) (A (17 * s + h) % 32)) (updN A (17 * s + h) (min (A (17 * s + h)) (32 * w + f))) := by
  intro s' h' hh' hc'
  have hq := hg s' h' hh' hc'
  unfold bettG updN
  by_cases e : 17 * s' + h' = 17 * s + h
  · have e1 : s' = s := by omega
    have e2 : h' = h := by omega
    subst e1 e2
    rw [if_pos rfl]
    by_cases hb : w < A (17 * s' + h') / 32 ∨ (w = A (17 * s' + h') / 32 ∧ f < A (17 * s' + h') % 32)
    · rw [if_pos hb, upd2_o (by omega), upd2_s, upd2_s, Nat.min_eq_right (by omega), show (32 * w + f) / 32 = w by omega, show (32 * w + f) % 32 = f by omega]; exact ⟨rfl, rfl⟩
    · rw [if_neg hb, Nat.min_eq_left (by omega)]; exact hq
  · rw [if_neg e]
    split
    · constructor
      · rw [upd2_o (by omega)]
        by_cases e1 : s' = s
        · subst e1; rw [upd2_k (by omega)]; exact hq.1
        · rw [upd2_o (by omega)]; exact hq.1
      · by_cases e1 : s' = s
        · subst e1; rw [upd2_k (by omega), upd2_o (by omega)]; exact hq.2
        · rw [upd2_o (by omega), upd2_o (by omega)]; exact hq.2
    · exact hq
theorem bettG_o {g : Nat → Nat → Int32} {s h w f a b c : Nat} {T : Nat → Nat} (hc : c ≤ 1088) (hg : grd 0 64 c g T) : grd 0 64 c (bettG g s h w f a b) T := by
  unfold bettG
  split
  · exact grd_o (fun s' hs' => by omega) (grd_o (fun s' hs' => by omega) hg)
  · exact hg
abbrev FARS : Nat := 268435456
def thenS (to h v : Nat) : Nat := 32 * (v / 32 + (if h = 16 then 0 else absN h to)) + (if h = 16 then to else v % 32)
def chLS (T : Nat → Nat) (to m s : Nat) (A : Nat → Nat) : Nat → (Nat → Nat)
  | 0 => A
  | h + 1 => if T (17 * s + h) / 32 < FARS then updN (chLS T to m s A h) (17 * (s ||| m) + to) (min (chLS T to m s A h (17 * (s ||| m) + to)) (thenS to h (T (17 * s + h)))) else chLS T to m s A h
def chMS (T : Nat → Nat) (to m : Nat) (A : Nat → Nat) : Nat → (Nat → Nat)
  | 0 => A
  | s + 1 => chLS T to m s (chMS T to m A s) 17
def layS (T : Nat → Nat) (wh mt : Nat → Nat) (N : Nat) : Nat → (Nat → Nat)
  | 0 => T
  | i + 1 => chMS T (wh i) (mt i) (layS T wh mt N i) N
def tabS (wh : Nat → Nat) (met : Nat → Nat → Nat) (n : Nat) : Nat → (Nat → Nat)
  | 0 => fun c => if c = 16 then 16 else 32 * FARS + 16
  | t + 1 => layS (tabS wh met n t) wh (fun i => met t (wh i)) (2 ^ n) n
def bestS (T : Nat → Nat) (al : Nat) : Nat → Nat
  | 0 => 16
  | h + 1 => if T (17 * al + h) < T (17 * al + bestS T al h) then h else bestS T al h
/-- what a fold of minima leaves -/
def Low (A B : Nat → Nat) (m : Nat → Nat → Prop) : Prop := (∀ i, B i ≤ A i) ∧ (∀ i v, m i v → B i ≤ v) ∧ ∀ i, B i = A i ∨ m i (B i)
theorem Low.id (A : Nat → Nat) {m : Nat → Nat → Prop} (h : ∀ i v, ¬ m i v) : Low A A m := ⟨fun _ => Nat.le_refl _, fun i v z => absurd z (h i v), fun _ => Or.inl rfl⟩
theorem Low.upd (A : Nat → Nat) (k x : Nat) : Low A (updN A k (min (A k) x)) (fun i v => i = k ∧ v = x) := by
  refine ⟨fun i => ?_, fun i v h => ?_, fun i => ?_⟩
  · unfold updN; split
    · rename_i h; rw [h]; exact Nat.min_le_left _ _
    · exact Nat.le_refl _
  · rw [h.1, h.2]; unfold updN; rw [if_pos rfl]; exact Nat.min_le_right _ _
  · unfold updN
    by_cases e : i = k
    · subst e; rw [if_pos rfl]
      by_cases q : A i ≤ x
      · rw [Nat.min_eq_left q]; exact Or.inl rfl
      · rw [Nat.min_eq_right (by omega)]; exact Or.inr ⟨rfl, rfl⟩
    · rw [if_neg e]; exact Or.inl rfl
theorem Low.trans {A B C : Nat → Nat} {m n : Nat → Nat → Prop} (h : Low A B m) (k : Low B C n) : Low A C (fun i v => m i v ∨ n i v) := by
  refine ⟨fun i => Nat.le_trans (k.1 i) (h.1 i), fun i v z => ?_, fun i => ?_⟩
  · rcases z with z | z
    · exact Nat.le_trans (k.1 i) (h.2.1 i v z)
    · exact k.2.1 i v z
  · rcases k.2.2 i with z | z
    · rcases h.2.2 i with y | y
      · exact Or.inl (z.trans y)
      · exact Or.inr (Or.inl (by rw [z]; exact y))
    · exact Or.inr (Or.inr z)
theorem Low.iff {A B : Nat → Nat} {m n : Nat → Nat → Prop} (h : Low A B m) (k : ∀ i v, m i v ↔ n i v) : Low A B n := ⟨h.1, fun i v z => h.2.1 i v ((k i v).mpr z), fun i => (h.2.2 i).imp (fun z => z) ((k i _).mp)⟩
theorem Low.loop (f : Nat → Nat → Nat) (m : Nat → Nat → Nat → Prop) : ∀ n, (∀ k, k < n → Low (f k) (f (k + 1)) (m k)) → Low (f 0) (f n) (fun i v => ∃ k, k < n ∧ m k i v) := by
  intro n
  induction n with
  | zero => intro _; exact Low.id _ (fun i v ⟨k, h, _⟩ => absurd h (Nat.not_lt_zero k))
  | succ n ih =>
    intro h
    refine ((ih fun k hk => h k (by omega)).trans (h n (by omega))).iff (fun i v => ⟨?_, ?_⟩)
    · rintro (⟨k, h1, h2⟩ | h2)
      · exact ⟨k, by omega, h2⟩
      · exact ⟨n, by omega, h2⟩
    · rintro ⟨k, h1, h2⟩
      by_cases e : k = n
      · subst e; exact Or.inr h2
      · exact Or.inl ⟨k, by omega, h2⟩
theorem chL_low (T : Nat → Nat) (h m met : Nat) (A : Nat → Nat) : Low A (chL T h m met A 17) (fun i v => ∃ la, la < 17 ∧ (T (17 * met + la) < FARN ∧ i = 17 * (met ||| m) + h ∧ v = thenN h la (T (17 * met + la)))) := by
  refine Low.loop (chL T h m met A) (fun la i v => T (17 * met + la) < FARN ∧ i = 17 * (met ||| m) + h ∧ v = thenN h la (T (17 * met + la))) 17 (fun la _ => ?_)
  by_cases q : FARN ≤ T (17 * met + la)
  · rw [chL_f q]; exact Low.id _ (fun i v z => absurd z.1 (by omega))
  · rw [chL_n q]; exact (Low.upd _ _ _).iff (fun i v => ⟨fun z => ⟨by omega, z.1, z.2⟩, fun z => z.2⟩)
def mvM (hs : Int32) (met : Nat → Nat) (T : Nat → Nat) (n i v : Nat) : Prop := ∃ h, h < 16 ∧ (isHouseB hs (nI h) = true ∧ met h ≠ 0 ∧ ∃ s, s < 2 ^ n ∧ ∃ la, la < 17 ∧ (T (17 * s + la) < FARN ∧ i = 17 * (s ||| met h) + h ∧ v = thenN h la (T (17 * s + la))))
theorem layN_low (hs : Int32) (met T : Nat → Nat) (n : Nat) : Low T (layN hs met T n 16) (mvM hs met T n) := by
  refine Low.loop (layN hs met T n) (fun h i v => isHouseB hs (nI h) = true ∧ met h ≠ 0 ∧ ∃ s, s < 2 ^ n ∧ ∃ la, la < 17 ∧ (T (17 * s + la) < FARN ∧ i = 17 * (s ||| met h) + h ∧ v = thenN h la (T (17 * s + la)))) 16 (fun h _ => ?_)
  by_cases q : isHouseB hs (nI h) = true
  · rw [layN_t q]
    unfold chN
    by_cases z : met h = 0
    · rw [if_pos z]; exact Low.id _ (fun i v y => absurd z y.2.1)
    · rw [if_neg z]
      exact (Low.loop (chM T h (met h) (layN hs met T n h)) _ (2 ^ n) (fun k _ => chL_low T h (met h) k _)).iff (fun i v => ⟨fun y => ⟨q, z, y⟩, fun y => y.2.2⟩)
  · rw [layN_f (by simpa using q)]; exact Low.id _ (fun i v y => absurd y.1 q)
def mvS (wh mt : Nat → Nat) (T : Nat → Nat) (N n i v : Nat) : Prop := ∃ j, j < n ∧ ∃ s, s < N ∧ ∃ la, la < 17 ∧ (T (17 * s + la) / 32 < FARS ∧ i = 17 * (s ||| mt j) + wh j ∧ v = thenS (wh j) la (T (17 * s + la)))
theorem chLS_t {T : Nat → Nat} {to m s : Nat} {A : Nat → Nat} {h : Nat} (q : T (17 * s + h) / 32 < FARS) : chLS T to m s A (h + 1) = updN (chLS T to m s A h) (17 * (s ||| m) + to) (min (chLS T to m s A h (17 * (s ||| m) + to)) (thenS to h (T (17 * s + h)))) := if_pos q
theorem chLS_f {T : Nat → Nat} {to m s : Nat} {A : Nat → Nat} {h : Nat} (q : ¬ T (17 * s + h) / 32 < FARS) : chLS T to m s A (h + 1) = chLS T to m s A h := if_neg q
theorem layS_low (T wh mt : Nat → Nat) (N n : Nat) : Low T (layS T wh mt N n) (mvS wh mt T N n) := by
  refine Low.loop (layS T wh mt N) (fun j i v => ∃ s, s < N ∧ ∃ la, la < 17 ∧ (T (17 * s + la) / 32 < FARS ∧ i = 17 * (s ||| mt j) + wh j ∧ v = thenS (wh j) la (T (17 * s + la)))) n (fun j _ => ?_)
  refine Low.loop (chMS T (wh j) (mt j) (layS T wh mt N j)) (fun s i v => ∃ la, la < 17 ∧ (T (17 * s + la) / 32 < FARS ∧ i = 17 * (s ||| mt j) + wh j ∧ v = thenS (wh j) la (T (17 * s + la)))) N (fun s _ => ?_)
  refine Low.loop (chLS T (wh j) (mt j) s (chMS T (wh j) (mt j) (layS T wh mt N j) s)) (fun la i v => T (17 * s + la) / 32 < FARS ∧ i = 17 * (s ||| mt j) + wh j ∧ v = thenS (wh j) la (T (17 * s + la))) 17 (fun la _ => ?_)
  by_cases q : T (17 * s + la) / 32 < FARS
  · rw [chLS_t q]; exact (Low.upd _ _ _).iff (fun i v => ⟨fun z => ⟨q, z.1, z.2⟩, fun z => z.2⟩)
  · rw [chLS_f q]; exact Low.id _ (fun i v z => absurd z.1 q)
theorem absN_e (a b : Nat) : absN a b = (a - b) + (b - a) := by unfold absN; split <;> omega
/-- the two tables side by side -/
def Dom (t : Nat) (TM TS : Nat → Nat) : Prop :=
  (∀ s, TM (17 * s + 16) = (if s = 0 then 0 else FARN) ∧ TS (17 * s + 16) = (if s = 0 then 16 else 32 * FARS + 16)) ∧
  (∀ s h, h < 16 → TM (17 * s + h) < FARN → TS (17 * s + h) ≤ TM (17 * s + h)) ∧
  (∀ s h, h < 16 → TS (17 * s + h) / 32 < FARS → (∃ h', h' < 16 ∧ TM (17 * s + h') < FARN ∧ TM (17 * s + h') + 32 * absN h h' ≤ TS (17 * s + h)) ∨ (s = 0 ∧ ∃ f, f < 16 ∧ 32 * absN h f + f ≤ TS (17 * s + h))) ∧
  (∀ i, TS i / 32 < FARS → TS i ≤ 512 * t + 31) ∧ ∀ i, TM i < FARN → TM i ≤ 512 * t + 31
theorem dom_0 (hs : Int32) (met : Nat → Nat → Nat) (wh : Nat → Nat) (n : Nat) : Dom 0 (tabN hs met n 0) (tabS wh met n 0) := by
  have hM : ∀ c, tabN hs met n 0 c = if c = 16 then 0 else FARN := fun c => rfl
  have hS : ∀ c, tabS wh met n 0 c = if c = 16 then 16 else 32 * FARS + 16 := fun c => rfl
  refine ⟨fun s => ⟨?_, ?_⟩, fun s h hh hq => ?_, fun s h hh hq => ?_, fun i hq => ?_, fun i hq => ?_⟩
  · rw [hM]; by_cases e : s = 0
    · rw [if_pos e, if_pos (by omega)]
    · rw [if_neg e, if_neg (by omega)]
  · rw [hS]; by_cases e : s = 0
    · rw [if_pos e, if_pos (by omega)]
    · rw [if_neg e, if_neg (by omega)]
  · rw [hM, if_neg (by omega)] at hq; exact absurd hq (Nat.lt_irrefl _)
  · rw [hS, if_neg (by omega)] at hq; exact absurd hq (by decide)
  · rw [hS] at hq ⊢; split at hq
    · rename_i e; rw [if_pos e]; decide
    · exact absurd hq (by decide)
  · rw [hM] at hq ⊢; split at hq
    · rename_i e; rw [if_pos e]; decide
    · exact absurd hq (by decide)
theorem dom_s {hs : Int32} {met : Nat → Nat} {wh : Nat → Nat} {n t : Nat} {TM TS TM' TS' : Nat → Nat} (ht : t < 12) (hw : ∀ j, j < n → wh j < 16 ∧ isHouseB hs (nI (wh j)) = true) (hm : ∀ h, met h ≠ 0 → ∃ j, j < n ∧ wh j = h)
    (hD : Dom t TM TS) (hM : Low TM TM' (mvM hs met TM n)) (hS : Low TS TS' (mvS wh (fun i => met (wh i)) TS (2 ^ n) n)) : Dom (t + 1) TM' TS' := by
  obtain ⟨d1, d2, d3, d4, d5⟩ := hD
  have s16 : ∀ s, TS (17 * s + 16) / 32 < FARS → s = 0 ∧ TS (17 * s + 16) = 16 := fun s h => by
    by_cases e : s = 0
    · refine ⟨e, ?_⟩; rw [(d1 s).2, if_pos e]
    · rw [(d1 s).2, if_neg e] at h; exact absurd h (by decide)
  have m16 : ∀ s, TM (17 * s + 16) < FARN → s = 0 ∧ TM (17 * s + 16) = 0 := fun s h => by
    by_cases e : s = 0
    · refine ⟨e, ?_⟩; rw [(d1 s).1, if_pos e]
    · rw [(d1 s).1, if_neg e] at h; exact absurd h (Nat.lt_irrefl _)
  have hTS : ∀ to la v, la ≠ 16 → thenS to la v = v + 32 * absN la to := fun to la v h => by unfold thenS; rw [if_neg h, if_neg h]; omega
  have hTS16 : ∀ to, thenS to 16 16 = to := fun to => by unfold thenS; rw [if_pos rfl, if_pos rfl]; omega
  have hTM : ∀ h la v, la ≠ 16 → thenN h la v = v + 32 * absN h la := fun h la v q => by unfold thenN; rw [if_neg q]
  have hTM16 : ∀ h v, thenN h 16 v = h := fun h v => by unfold thenN; rw [if_pos rfl]
  have ab : ∀ a b, absN a b = (a - b) + (b - a) := absN_e
  refine ⟨fun s => ⟨?_, ?_⟩, fun s h hh hq => ?_, fun s h hh hq => ?_, fun i hq => ?_, fun i hq => ?_⟩
  · rcases hM.2.2 (17 * s + 16) with e | ⟨h, h1, -, -, s0, -, la, -, -, e, -⟩
    · rw [e]; exact (d1 s).1
    · omega
  · rcases hS.2.2 (17 * s + 16) with e | ⟨j, h1, s0, -, la, -, -, e, -⟩
    · rw [e]; exact (d1 s).2
    · have := (hw j h1).1; omega
  · rcases hM.2.2 (17 * s + h) with e | ⟨h0, h1, h2, h3, s0, h4, la, h5, h6, e, ev⟩
    · rw [e] at hq ⊢; exact Nat.le_trans (hS.1 _) (d2 s h hh hq)
    · have eh : h0 = h := by omega
      subst eh
      obtain ⟨j, hj, ej⟩ := hm h0 h3
      have es : s = s0 ||| met h0 := by omega
      rw [ev]
      by_cases q : la = 16
      · subst q
        obtain ⟨z1, z2⟩ := m16 s0 h6
        rw [hTM16]
        refine hS.2.1 _ _ ⟨j, hj, s0, h4, 16, by decide, ?_, by rw [es]; show _ = 17 * (s0 ||| met (wh j)) + _; rw [ej], ?_⟩
        · rw [(d1 s0).2, if_pos z1]; decide
        · rw [(d1 s0).2, if_pos z1, hTS16, ej]
      · have hlt := d2 s0 la (by omega) h6
        have h6' : TM (17 * s0 + la) < 100000000 := h6
        refine Nat.le_trans (hS.2.1 _ _ ⟨j, hj, s0, h4, la, h5, ?_, by rw [es]; show _ = 17 * (s0 ||| met (wh j)) + _; rw [ej], rfl⟩) ?_
        · show _ < 268435456; omega
        · rw [hTS _ _ _ q, hTM _ _ _ q, ej, ab, ab]; omega
  · rcases hS.2.2 (17 * s + h) with e | ⟨j, h1, s0, h4, la, h5, h6, e, ev⟩
    · rw [e] at hq
      rcases d3 s h hh hq with ⟨h', z1, z2, z3⟩ | ⟨z1, f, z2, z3⟩
      · have := hM.1 (17 * s + h'); exact Or.inl ⟨h', z1, by omega, by rw [e]; omega⟩
      · exact Or.inr ⟨z1, f, z2, by rw [e]; exact z3⟩
    · have hw1 := hw j h1
      have eh : wh j = h := by omega
      have es : s = s0 ||| met h := by simp only [eh] at e; omega
      rw [eh] at hw1 ev
      have hmove : ∀ la', la' < 17 → met h ≠ 0 → TM (17 * s0 + la') < FARN → TM' (17 * s + h) ≤ thenN h la' (TM (17 * s0 + la')) := fun la' y1 y2 y3 =>
        hM.2.1 _ _ ⟨h, hh, hw1.2, y2, s0, h4, la', y1, y3, by rw [es], rfl⟩
      by_cases q : la = 16
      · subst q
        obtain ⟨z1, z2⟩ := s16 s0 h6
        rw [z2, hTS16] at ev
        by_cases y : met h = 0
        · refine Or.inr ⟨by rw [es, y, z1]; rfl, h, hh, ?_⟩; rw [ev, ab]; omega
        · have hz := (d1 s0).1
          rw [if_pos z1] at hz
          have := hmove 16 (by decide) y (by rw [hz]; decide)
          rw [hTM16] at this
          refine Or.inl ⟨h, hh, ?_, ?_⟩
          · show _ < 100000000; omega
          · rw [ev, ab]; omega
      · rw [hTS _ _ _ q, ab] at ev
        by_cases y : met h = 0
        · have es0 : s = s0 := by rw [es, y, Nat.or_zero]
          subst es0
          rcases d3 s la (by omega) h6 with ⟨h', z1, z2, z3⟩ | ⟨z1, f, z2, z3⟩
          · rw [ab] at z3
            have := hM.1 (17 * s + h')
            refine Or.inl ⟨h', z1, by omega, ?_⟩; rw [ev, ab]; omega
          · rw [ab] at z3
            refine Or.inr ⟨z1, f, z2, ?_⟩; rw [ev, ab]; omega
        · have hb := d4 _ h6
          rcases d3 s0 la (by omega) h6 with ⟨h', z1, z2, z3⟩ | ⟨z1, f, z2, z3⟩
          · rw [ab] at z3
            have := hmove h' (by omega) y z2
            rw [hTM _ _ _ (by omega), ab] at this
            refine Or.inl ⟨h, hh, ?_, ?_⟩
            · show _ < 100000000; omega
            · rw [ev, ab]; omega
          · rw [ab] at z3
            have hz := (d1 s0).1
            rw [if_pos z1] at hz
            have := hmove 16 (by decide) y (by rw [hz]; decide)
            rw [hTM16] at this
            refine Or.inl ⟨h, hh, ?_, ?_⟩
            · show _ < 100000000; omega
            · rw [ev, ab]; omega
  · rcases hS.2.2 i with e | ⟨j, h1, s0, h4, la, h5, h6, e, ev⟩
    · rw [e] at hq ⊢; have := d4 i hq; omega
    · have hw1 := hw j h1
      rw [ev]
      by_cases q : la = 16
      · subst q; rw [(s16 s0 h6).2, hTS16]; omega
      · have := d4 _ h6; rw [hTS _ _ _ q, ab]; omega
  · rcases hM.2.2 i with e | ⟨h0, h1, h2, h3, s0, h4, la, h5, h6, e, ev⟩
    · rw [e] at hq ⊢; have := d5 i hq; omega
    · rw [ev]
      by_cases q : la = 16
      · subst q; rw [hTM16]; omega
      · have := d5 _ h6; rw [hTM _ _ _ q, ab]; omega
theorem dom_t {hs : Int32} {met : Nat → Nat → Nat} {wh : Nat → Nat} {n : Nat} (hw : ∀ j, j < n → wh j < 16 ∧ isHouseB hs (nI (wh j)) = true) (hm : ∀ t h, met t h ≠ 0 → ∃ j, j < n ∧ wh j = h) : ∀ t, t ≤ 12 → Dom t (tabN hs met n t) (tabS wh met n t) := by
  intro t
  induction t with
  | zero => intro _; exact dom_0 hs met wh n
  | succ t ih => intro ht; exact dom_s (by omega) hw (hm t) (ih (by omega)) (layN_low _ _ _ _) (layS_low _ _ _ _ _)
theorem leaN_get {T : Nat → Nat} {n : Nat} : ∀ k, leaN T n k < FARN → ∃ h, h < k ∧ leaN T n k = T (17 * (2 ^ n - 1) + h) := by
  intro k
  induction k with
  | zero => intro h; exact absurd h (Nat.lt_irrefl _)
  | succ k ih =>
    intro h
    have e : leaN T n (k + 1) = min (leaN T n k) (T (17 * (2 ^ n - 1) + k)) := rfl
    by_cases q : leaN T n k ≤ T (17 * (2 ^ n - 1) + k)
    · rw [e, Nat.min_eq_left q] at h ⊢
      obtain ⟨h0, h1, h2⟩ := ih h
      exact ⟨h0, by omega, h2⟩
    · rw [e, Nat.min_eq_right (by omega)]; exact ⟨k, by omega, rfl⟩
theorem leaN_lt {T : Nat → Nat} {n : Nat} : ∀ k h, h < k → leaN T n k ≤ T (17 * (2 ^ n - 1) + h) := by
  intro k
  induction k with
  | zero => intro h q; omega
  | succ k ih =>
    intro h q
    have e : leaN T n (k + 1) = min (leaN T n k) (T (17 * (2 ^ n - 1) + k)) := rfl
    rw [e]
    by_cases z : h = k
    · subst z; exact Nat.min_le_right _ _
    · exact Nat.le_trans (Nat.min_le_left _ _) (ih h (by omega))
theorem bestS_le {T : Nat → Nat} {al : Nat} : ∀ k, (bestS T al k = 16 ∨ bestS T al k < k) ∧ T (17 * al + bestS T al k) ≤ T (17 * al + 16) ∧ ∀ h, h < k → T (17 * al + bestS T al k) ≤ T (17 * al + h) := by
  intro k
  induction k with
  | zero => exact ⟨Or.inl rfl, Nat.le_refl _, fun h q => absurd q (Nat.not_lt_zero h)⟩
  | succ k ih =>
    obtain ⟨i1, i2, i3⟩ := ih
    have e : bestS T al (k + 1) = if T (17 * al + k) < T (17 * al + bestS T al k) then k else bestS T al k := rfl
    by_cases q : T (17 * al + k) < T (17 * al + bestS T al k)
    · rw [e, if_pos q]
      refine ⟨Or.inr (by omega), by omega, fun h z => ?_⟩
      by_cases y : h = k
      · subst y; exact Nat.le_refl _
      · have := i3 h (by omega); omega
    · rw [e, if_neg q]
      refine ⟨i1.imp (fun z => z) (fun z => by omega), i2, fun h z => ?_⟩
      by_cases y : h = k
      · subst y; omega
      · exact i3 h (by omega)
/-- the best ways of both sides -/
theorem shortS_eq {hs : Int32} {met : Nat → Nat → Nat} {wh : Nat → Nat} {n : Nat} (hn : 1 ≤ n) (hw : ∀ j, j < n → wh j < 16 ∧ isHouseB hs (nI (wh j)) = true) (hm : ∀ t h, met t h ≠ 0 → ∃ j, j < n ∧ wh j = h) :
    (FARN ≤ shortV hs met n ∧ FARS ≤ tabS wh met n 12 (17 * (2 ^ n - 1) + bestS (tabS wh met n 12) (2 ^ n - 1) 16) / 32) ∨ (shortV hs met n < FARN ∧ tabS wh met n 12 (17 * (2 ^ n - 1) + bestS (tabS wh met n 12) (2 ^ n - 1) 16) = shortV hs met n) := by
  obtain ⟨d1, d2, d3, d4, d5⟩ := dom_t hw hm 12 (Nat.le_refl _)
  obtain ⟨b1, b2, b3⟩ := bestS_le (T := tabS wh met n 12) (al := 2 ^ n - 1) 16
  have h2 : 2 ≤ 2 ^ n := Nat.pow_le_pow_right (n := 2) (by decide) hn
  have hal : 2 ^ n - 1 ≠ 0 := by omega
  unfold shortV
  have hback : tabS wh met n 12 (17 * (2 ^ n - 1) + bestS (tabS wh met n 12) (2 ^ n - 1) 16) / 32 < FARS → leaN (tabN hs met n 12) n 16 ≤ tabS wh met n 12 (17 * (2 ^ n - 1) + bestS (tabS wh met n 12) (2 ^ n - 1) 16) ∧ leaN (tabN hs met n 12) n 16 < FARN := by
    intro q
    rcases b1 with e | e
    · rw [e, (d1 (2 ^ n - 1)).2, if_neg hal] at q; exact absurd q (by decide)
    · rcases d3 _ _ e q with ⟨h', z1, z2, z3⟩ | ⟨z1, -⟩
      · have := leaN_lt (T := tabN hs met n 12) (n := n) 16 h' z1
        exact ⟨by omega, by omega⟩
      · exact absurd z1 hal
  by_cases q : FARN ≤ leaN (tabN hs met n 12) n 16
  · refine Or.inl ⟨q, Nat.not_lt.mp fun z => ?_⟩
    have := (hback z).2; omega
  · refine Or.inr ⟨by omega, ?_⟩
    obtain ⟨h0, z1, z2⟩ := leaN_get 16 (show leaN (tabN hs met n 12) n 16 < FARN by omega)
    have y1 := d2 (2 ^ n - 1) h0 z1 (by omega)
    have y2 := b3 h0 z1
    have hF1 : FARN = 100000000 := rfl
    have hF2 : FARS = 268435456 := rfl
    have y3 := hback (by omega)
    omega
theorem chLS_le {T : Nat → Nat} {to m s : Nat} {A : Nat → Nat} (hA : ∀ i, A i ≤ 32 * FARS + 16) (k i : Nat) : chLS T to m s A k i ≤ 32 * FARS + 16 := by
  induction k generalizing i with
  | zero => exact hA i
  | succ k ih =>
    unfold chLS
    split
    · unfold updN
      split
      · exact Nat.le_trans (Nat.min_le_left _ _) (ih _)
      · exact ih i
    · exact ih i
theorem chMS_le {T : Nat → Nat} {to m : Nat} {A : Nat → Nat} (hA : ∀ i, A i ≤ 32 * FARS + 16) (k i : Nat) : chMS T to m A k i ≤ 32 * FARS + 16 := by
  induction k generalizing i with
  | zero => exact hA i
  | succ k ih => exact chLS_le ih 17 i
theorem layS_le {T wh mt : Nat → Nat} {N : Nat} (hT : ∀ i, T i ≤ 32 * FARS + 16) (k i : Nat) : layS T wh mt N k i ≤ 32 * FARS + 16 := by
  induction k generalizing i with
  | zero => exact hT i
  | succ k ih => exact chMS_le ih N i
theorem tabS_le (wh : Nat → Nat) (met : Nat → Nat → Nat) (n t i : Nat) : tabS wh met n t i ≤ 32 * FARS + 16 := by
  induction t generalizing i with
  | zero => show (if i = 16 then _ else _) ≤ _; split <;> omega
  | succ t ih => exact layS_le ih n i
def mtS (f sd fr un fc : Nat → Int32) (n t h : Nat) : Nat := orT (metC f sd fr un fc h (nI t)) n
def whS (f : Nat → Int32) (j : Nat) : Nat := ocN f (2 * j)
theorem orT_ne {c : Nat → Bool} : ∀ n, orT c n ≠ 0 → ∃ j, j < n ∧ c j = true := by
  intro n
  induction n with
  | zero => intro h; exact absurd rfl h
  | succ n ih =>
    intro h
    by_cases q : c n = true
    · exact ⟨n, by omega, q⟩
    · unfold orT at h; rw [if_neg q] at h
      obtain ⟨j, h1, h2⟩ := ih h
      exact ⟨j, by omega, h2⟩
theorem mtS_ne {f sd fr un fc : Nat → Int32} {n t h : Nat} (q : mtS f sd fr un fc n t h ≠ 0) : ∃ j, j < n ∧ whS f j = h := by
  obtain ⟨j, h1, h2⟩ := orT_ne n q
  simp only [metC, Bool.and_eq_true, decide_eq_true_eq] at h2
  exact ⟨j, h1, h2.1⟩
theorem T0_a {wh : Nat → Nat} {met : Nat → Nat → Nat} {n s h : Nat} (h1 : s = 0) (h2 : h = 16) : (0 : Int32) = nI (tabS wh met n 0 (17 * s + h) / 32) := by
  subst h1 h2
  show (0 : Int32) = nI ((if 17 * 0 + 16 = 16 then 16 else 32 * FARS + 16) / 32)
  rw [if_pos (by omega)]; rfl
theorem T0_b {wh : Nat → Nat} {met : Nat → Nat → Nat} {n s h : Nat} (hh : h < 17) (h1 : ¬ (s = 0 ∧ h = 16)) : (268435456 : Int32) = nI (tabS wh met n 0 (17 * s + h) / 32) := by
  show _ = nI ((if 17 * s + h = 16 then 16 else 32 * FARS + 16) / 32)
  rw [if_neg (by omega)]; rfl
theorem T0_c {wh : Nat → Nat} {met : Nat → Nat → Nat} {n c : Nat} : (16 : Int32) = nI (tabS wh met n 0 c % 32) := by
  show _ = nI ((if c = 16 then 16 else 32 * FARS + 16) % 32)
  split <;> rfl
theorem bestS_t {T : Nat → Nat} {al h b : Nat} (hb : b = bestS T al h) (q : T (17 * al + h) < T (17 * al + b)) : h = bestS T al (h + 1) := by
  subst hb; exact (if_pos q).symm
theorem bestS_f {T : Nat → Nat} {al h b : Nat} (hb : b = bestS T al h) (q : ¬ T (17 * al + h) < T (17 * al + b)) : b = bestS T al (h + 1) := by
  subst hb; exact (if_neg q).symm
def hvG (f : Nat → Int32) (n sz fr : Nat) (g : Nat → Nat → Int32) : Prop := ∀ m a, a + m ≤ n → (m < sz ∨ (m = sz ∧ a < fr)) → g (256 + a) (a + m) = nI (hvN f m a)
theorem hvG_s {f : Nat → Int32} {n sz fr : Nat} {g : Nat → Nat → Int32} {x : Int32} (hg : hvG f n sz fr g) (hx : x = nI (hvN f sz fr)) : hvG f n sz (fr + 1) (upd2 g (256 + fr) (fr + sz) x) := by
  intro m a h1 h2
  by_cases e : a = fr
  · subst e
    by_cases e2 : m = sz
    · subst e2; rw [upd2_s]; exact hx
    · rw [upd2_k (by omega)]; exact hg m a h1 (by omega)
  · rw [upd2_o (by omega)]; exact hg m a h1 (by omega)
theorem hvN_p {f : Nat → Int32} {sz fr sm : Nat} (h : 1 ≤ sz) (hz : sz ≤ 12) (hsm : sm = smN f fr sz) : nI sm - nI (min (hvN f (sz - 1) (fr + 1)) (hvN f (sz - 1) fr)) = nI (hvN f sz fr) := by
  obtain ⟨q, rfl⟩ : ∃ q, sz = q + 1 := ⟨sz - 1, by omega⟩
  rw [show q + 1 - 1 = q by omega, hsm]
  have h1 := hvN_le f q fr
  have h2 : smN f fr (q + 1) = smN f fr q + ocN f (fr + q) := rfl
  rw [pk_sub (by omega)]; rfl
theorem hasB_seen {th : Int32} {sd fr un : Nat → Int32} {fc t : Int32} {x : Nat} (hx : x < 2 ^ 31) (h : isHouseB th (nI x) = true) : hasB (seenS th sd fr un fc t) (nI x) = isSeenB (sd x) fc (fr x) (un x) t := by
  have h16 := isHouseB_lt hx h
  unfold seenS
  rw [hasB_orN _ (by omega) h16, h]; rfl
theorem orT_t {c : Nat → Bool} {k : Nat} (h : c k = true) : orT c (k + 1) = orT c k ||| 2 ^ k := if_pos h
theorem orT_f {c : Nat → Bool} {k : Nat} (h : c k = false) : orT c (k + 1) = orT c k := if_neg (by rw [h]; decide)
theorem wishS {hs th : Int32} {f : Nat → Int32} {n : Nat} (h : allC (wishC hs th f) n = true) {j : Nat} (hj : j < n) : (ocN f (2 * j) < 16 ∧ isHouseB hs (nI (ocN f (2 * j))) = true) ∧ isHouseB th (nI (ocN f (2 * j + 1))) = true := by
  have h1 := (allC_iff.mp h) j hj
  simp only [wishC, Bool.and_eq_true] at h1
  exact ⟨⟨isHouseB_lt (by have := ocN_lt f (2 * j); omega) h1.1, h1.1⟩, h1.2⟩
