set_option maxRecDepth 100000
def rE (u : MS) (v12 : Int32) (v14 : Int32) (v13 : Int32) (v17 : Int32) (v19 : Int32) (v11 : Int32) (v46 : Int32) (v47 : Int32) (v48 : Int32) (v49 : Int32) (a41 : Nat → Int32) (a42 : Nat → Int32) (a43 : Nat → Int32) (a44 : Nat → Int32) (a45 : Nat → Int32) (a3 : Nat → Int32) : MS := (fun k => if k = 12 then v12 else if k = 14 then v14 else if k = 13 then v13 else if k = 17 then v17 else if k = 19 then v19 else if k = 11 then v11 else if k = 46 then v46 else if k = 47 then v47 else if k = 48 then v48 else if k = 49 then v49 else u.1 k, fun k => if k = 41 then a41 else if k = 42 then a42 else if k = 43 then a43 else if k = 44 then a44 else if k = 45 then a45 else if k = 3 then a3 else u.2.1 k, u.2.2)
theorem rE_self (u : MS) : rE u (u.1 12) (u.1 14) (u.1 13) (u.1 17) (u.1 19) (u.1 11) (u.1 46) (u.1 47) (u.1 48) (u.1 49) (u.2.1 41) (u.2.1 42) (u.2.1 43) (u.2.1 44) (u.2.1 45) (u.2.1 3) = u := by
  refine Prod.ext ?_ (Prod.ext ?_ rfl)
  · funext k; by_cases h12 : k = 12; (subst h12; rfl); by_cases h14 : k = 14; (subst h14; rfl); by_cases h13 : k = 13; (subst h13; rfl); by_cases h17 : k = 17; (subst h17; rfl); by_cases h19 : k = 19; (subst h19; rfl); by_cases h11 : k = 11; (subst h11; rfl); by_cases h46 : k = 46; (subst h46; rfl); by_cases h47 : k = 47; (subst h47; rfl); by_cases h48 : k = 48; (subst h48; rfl); by_cases h49 : k = 49; (subst h49; rfl); simp only [rE, h12, h14, h13, h17, h19, h11, h46, h47, h48, h49, if_false]
  · funext k; by_cases h41 : k = 41; (subst h41; rfl); by_cases h42 : k = 42; (subst h42; rfl); by_cases h43 : k = 43; (subst h43; rfl); by_cases h44 : k = 44; (subst h44; rfl); by_cases h45 : k = 45; (subst h45; rfl); by_cases h3 : k = 3; (subst h3; rfl); simp only [rE, h41, h42, h43, h44, h45, h3, if_false]
theorem rE_again (u : MS) (v12 : Int32) (v14 : Int32) (v13 : Int32) (v17 : Int32) (v19 : Int32) (v11 : Int32) (v46 : Int32) (v47 : Int32) (v48 : Int32) (v49 : Int32) (a41 : Nat → Int32) (a42 : Nat → Int32) (a43 : Nat → Int32) (a44 : Nat → Int32) (a45 : Nat → Int32) (a3 : Nat → Int32) (xv12 : Int32) (xv14 : Int32) (xv13 : Int32) (xv17 : Int32) (xv19 : Int32) (xv11 : Int32) (xv46 : Int32) (xv47 : Int32) (xv48 : Int32) (xv49 : Int32) (xa41 : Nat → Int32) (xa42 : Nat → Int32) (xa43 : Nat → Int32) (xa44 : Nat → Int32) (xa45 : Nat → Int32) (xa3 : Nat → Int32) : rE (rE u v12 v14 v13 v17 v19 v11 v46 v47 v48 v49 a41 a42 a43 a44 a45 a3) xv12 xv14 xv13 xv17 xv19 xv11 xv46 xv47 xv48 xv49 xa41 xa42 xa43 xa44 xa45 xa3 = rE u xv12 xv14 xv13 xv17 xv19 xv11 xv46 xv47 xv48 xv49 xa41 xa42 xa43 xa44 xa45 xa3 := by
  refine Prod.ext ?_ (Prod.ext ?_ rfl)
  · funext k; by_cases h12 : k = 12; (subst h12; rfl); by_cases h14 : k = 14; (subst h14; rfl); by_cases h13 : k = 13; (subst h13; rfl); by_cases h17 : k = 17; (subst h17; rfl); by_cases h19 : k = 19; (subst h19; rfl); by_cases h11 : k = 11; (subst h11; rfl); by_cases h46 : k = 46; (subst h46; rfl); by_cases h47 : k = 47; (subst h47; rfl); by_cases h48 : k = 48; (subst h48; rfl); by_cases h49 : k = 49; (subst h49; rfl); simp only [rE, h12, h14, h13, h17, h19, h11, h46, h47, h48, h49, if_false]
  · funext k; by_cases h41 : k = 41; (subst h41; rfl); by_cases h42 : k = 42; (subst h42; rfl); by_cases h43 : k = 43; (subst h43; rfl); by_cases h44 : k = 44; (subst h44; rfl); by_cases h45 : k = 45; (subst h45; rfl); by_cases h3 : k = 3; (subst h3; rfl); simp only [rE, h41, h42, h43, h44, h45, h3, if_false]
theorem rE_V12 (u : MS) (v12 : Int32) (v14 : Int32) (v13 : Int32) (v17 : Int32) (v19 : Int32) (v11 : Int32) (v46 : Int32) (v47 : Int32) (v48 : Int32) (v49 : Int32) (a41 : Nat → Int32) (a42 : Nat → Int32) (a43 : Nat → Int32) (a44 : Nat → Int32) (a45 : Nat → Int32) (a3 : Nat → Int32) (x : Int32) : mV (rE u v12 v14 v13 v17 v19 v11 v46 v47 v48 v49 a41 a42 a43 a44 a45 a3) 12 x = rE u x v14 v13 v17 v19 v11 v46 v47 v48 v49 a41 a42 a43 a44 a45 a3 := by
  refine Prod.ext ?_ (Prod.ext ?_ rfl)
  · funext k; by_cases h12 : k = 12; (subst h12; rfl); by_cases h14 : k = 14; (subst h14; rfl); by_cases h13 : k = 13; (subst h13; rfl); by_cases h17 : k = 17; (subst h17; rfl); by_cases h19 : k = 19; (subst h19; rfl); by_cases h11 : k = 11; (subst h11; rfl); by_cases h46 : k = 46; (subst h46; rfl); by_cases h47 : k = 47; (subst h47; rfl); by_cases h48 : k = 48; (subst h48; rfl); by_cases h49 : k = 49; (subst h49; rfl); simp only [rE, mV, upd, h12, h14, h13, h17, h19, h11, h46, h47, h48, h49, if_false]
  · rfl
theorem rE_V14 (u : MS) (v12 : Int32) (v14 : Int32) (v13 : Int32) (v17 : Int32) (v19 : Int32) (v11 : Int32) (v46 : Int32) (v47 : Int32) (v48 : Int32) (v49 : Int32) (a41 : Nat → Int32) (a42 : Nat → Int32) (a43 : Nat → Int32) (a44 : Nat → Int32) (a45 : Nat → Int32) (a3 : Nat → Int32) (x : Int32) : mV (rE u v12 v14 v13 v17 v19 v11 v46 v47 v48 v49 a41 a42 a43 a44 a45 a3) 14 x = rE u v12 x v13 v17 v19 v11 v46 v47 v48 v49 a41 a42 a43 a44 a45 a3 := by
  refine Prod.ext ?_ (Prod.ext ?_ rfl)
  · funext k; by_cases h12 : k = 12; (subst h12; rfl); by_cases h14 : k = 14; (subst h14; rfl); by_cases h13 : k = 13; (subst h13; rfl); by_cases h17 : k = 17; (subst h17; rfl); by_cases h19 : k = 19; (subst h19; rfl); by_cases h11 : k = 11; (subst h11; rfl); by_cases h46 : k = 46; (subst h46; rfl); by_cases h47 : k = 47; (subst h47; rfl); by_cases h48 : k = 48; (subst h48; rfl); by_cases h49 : k = 49; (subst h49; rfl); simp only [rE, mV, upd, h12, h14, h13, h17, h19, h11, h46, h47, h48, h49, if_false]
  · rfl
theorem rE_V13 (u : MS) (v12 : Int32) (v14 : Int32) (v13 : Int32) (v17 : Int32) (v19 : Int32) (v11 : Int32) (v46 : Int32) (v47 : Int32) (v48 : Int32) (v49 : Int32) (a41 : Nat → Int32) (a42 : Nat → Int32) (a43 : Nat → Int32) (a44 : Nat → Int32) (a45 : Nat → Int32) (a3 : Nat → Int32) (x : Int32) : mV (rE u v12 v14 v13 v17 v19 v11 v46 v47 v48 v49 a41 a42 a43 a44 a45 a3) 13 x = rE u v12 v14 x v17 v19 v11 v46 v47 v48 v49 a41 a42 a43 a44 a45 a3 := by
  refine Prod.ext ?_ (Prod.ext ?_ rfl)
  · funext k; by_cases h12 : k = 12; (subst h12; rfl); by_cases h14 : k = 14; (subst h14; rfl); by_cases h13 : k = 13; (subst h13; rfl); by_cases h17 : k = 17; (subst h17; rfl); by_cases h19 : k = 19; (subst h19; rfl); by_cases h11 : k = 11; (subst h11; rfl); by_cases h46 : k = 46; (subst h46; rfl); by_cases h47 : k = 47; (subst h47; rfl); by_cases h48 : k = 48; (subst h48; rfl); by_cases h49 : k = 49; (subst h49; rfl); simp only [rE, mV, upd, h12, h14, h13, h17, h19, h11, h46, h47, h48, h49, if_false]
  · rfl
theorem rE_V17 (u : MS) (v12 : Int32) (v14 : Int32) (v13 : Int32) (v17 : Int32) (v19 : Int32) (v11 : Int32) (v46 : Int32) (v47 : Int32) (v48 : Int32) (v49 : Int32) (a41 : Nat → Int32) (a42 : Nat → Int32) (a43 : Nat → Int32) (a44 : Nat → Int32) (a45 : Nat → Int32) (a3 : Nat → Int32) (x : Int32) : mV (rE u v12 v14 v13 v17 v19 v11 v46 v47 v48 v49 a41 a42 a43 a44 a45 a3) 17 x = rE u v12 v14 v13 x v19 v11 v46 v47 v48 v49 a41 a42 a43 a44 a45 a3 := by
  refine Prod.ext ?_ (Prod.ext ?_ rfl)
  · funext k; by_cases h12 : k = 12; (subst h12; rfl); by_cases h14 : k = 14; (subst h14; rfl); by_cases h13 : k = 13; (subst h13; rfl); by_cases h17 : k = 17; (subst h17; rfl); by_cases h19 : k = 19; (subst h19; rfl); by_cases h11 : k = 11; (subst h11; rfl); by_cases h46 : k = 46; (subst h46; rfl); by_cases h47 : k = 47; (subst h47; rfl); by_cases h48 : k = 48; (subst h48; rfl); by_cases h49 : k = 49; (subst h49; rfl); simp only [rE, mV, upd, h12, h14, h13, h17, h19, h11, h46, h47, h48, h49, if_false]
  · rfl
theorem rE_V19 (u : MS) (v12 : Int32) (v14 : Int32) (v13 : Int32) (v17 : Int32) (v19 : Int32) (v11 : Int32) (v46 : Int32) (v47 : Int32) (v48 : Int32) (v49 : Int32) (a41 : Nat → Int32) (a42 : Nat → Int32) (a43 : Nat → Int32) (a44 : Nat → Int32) (a45 : Nat → Int32) (a3 : Nat → Int32) (x : Int32) : mV (rE u v12 v14 v13 v17 v19 v11 v46 v47 v48 v49 a41 a42 a43 a44 a45 a3) 19 x = rE u v12 v14 v13 v17 x v11 v46 v47 v48 v49 a41 a42 a43 a44 a45 a3 := by
  refine Prod.ext ?_ (Prod.ext ?_ rfl)
  · funext k; by_cases h12 : k = 12; (subst h12; rfl); by_cases h14 : k = 14; (subst h14; rfl); by_cases h13 : k = 13; (subst h13; rfl); by_cases h17 : k = 17; (subst h17; rfl); by_cases h19 : k = 19; (subst h19; rfl); by_cases h11 : k = 11; (subst h11; rfl); by_cases h46 : k = 46; (subst h46; rfl); by_cases h47 : k = 47; (subst h47; rfl); by_cases h48 : k = 48; (subst h48; rfl); by_cases h49 : k = 49; (subst h49; rfl); simp only [rE, mV, upd, h12, h14, h13, h17, h19, h11, h46, h47, h48, h49, if_false]
  · rfl
theorem rE_V11 (u : MS) (v12 : Int32) (v14 : Int32) (v13 : Int32) (v17 : Int32) (v19 : Int32) (v11 : Int32) (v46 : Int32) (v47 : Int32) (v48 : Int32) (v49 : Int32) (a41 : Nat → Int32) (a42 : Nat → Int32) (a43 : Nat → Int32) (a44 : Nat → Int32) (a45 : Nat → Int32) (a3 : Nat → Int32) (x : Int32) : mV (rE u v12 v14 v13 v17 v19 v11 v46 v47 v48 v49 a41 a42 a43 a44 a45 a3) 11 x = rE u v12 v14 v13 v17 v19 x v46 v47 v48 v49 a41 a42 a43 a44 a45 a3 := by
  refine Prod.ext ?_ (Prod.ext ?_ rfl)
  · funext k; by_cases h12 : k = 12; (subst h12; rfl); by_cases h14 : k = 14; (subst h14; rfl); by_cases h13 : k = 13; (subst h13; rfl); by_cases h17 : k = 17; (subst h17; rfl); by_cases h19 : k = 19; (subst h19; rfl); by_cases h11 : k = 11; (subst h11; rfl); by_cases h46 : k = 46; (subst h46; rfl); by_cases h47 : k = 47; (subst h47; rfl); by_cases h48 : k = 48; (subst h48; rfl); by_cases h49 : k = 49; (subst h49; rfl); simp only [rE, mV, upd, h12, h14, h13, h17, h19, h11, h46, h47, h48, h49, if_false]
  · rfl
theorem rE_V46 (u : MS) (v12 : Int32) (v14 : Int32) (v13 : Int32) (v17 : Int32) (v19 : Int32) (v11 : Int32) (v46 : Int32) (v47 : Int32) (v48 : Int32) (v49 : Int32) (a41 : Nat → Int32) (a42 : Nat → Int32) (a43 : Nat → Int32) (a44 : Nat → Int32) (a45 : Nat → Int32) (a3 : Nat → Int32) (x : Int32) : mV (rE u v12 v14 v13 v17 v19 v11 v46 v47 v48 v49 a41 a42 a43 a44 a45 a3) 46 x = rE u v12 v14 v13 v17 v19 v11 x v47 v48 v49 a41 a42 a43 a44 a45 a3 := by
  refine Prod.ext ?_ (Prod.ext ?_ rfl)
  · funext k; by_cases h12 : k = 12; (subst h12; rfl); by_cases h14 : k = 14; (subst h14; rfl); by_cases h13 : k = 13; (subst h13; rfl); by_cases h17 : k = 17; (subst h17; rfl); by_cases h19 : k = 19; (subst h19; rfl); by_cases h11 : k = 11; (subst h11; rfl); by_cases h46 : k = 46; (subst h46; rfl); by_cases h47 : k = 47; (subst h47; rfl); by_cases h48 : k = 48; (subst h48; rfl); by_cases h49 : k = 49; (subst h49; rfl); simp only [rE, mV, upd, h12, h14, h13, h17, h19, h11, h46, h47, h48, h49, if_false]
  · rfl
theorem rE_V47 (u : MS) (v12 : Int32) (v14 : Int32) (v13 : Int32) (v17 : Int32) (v19 : Int32) (v11 : Int32) (v46 : Int32) (v47 : Int32) (v48 : Int32) (v49 : Int32) (a41 : Nat → Int32) (a42 : Nat → Int32) (a43 : Nat → Int32) (a44 : Nat → Int32) (a45 : Nat → Int32) (a3 : Nat → Int32) (x : Int32) : mV (rE u v12 v14 v13 v17 v19 v11 v46 v47 v48 v49 a41 a42 a43 a44 a45 a3) 47 x = rE u v12 v14 v13 v17 v19 v11 v46 x v48 v49 a41 a42 a43 a44 a45 a3 := by
  refine Prod.ext ?_ (Prod.ext ?_ rfl)
  · funext k; by_cases h12 : k = 12; (subst h12; rfl); by_cases h14 : k = 14; (subst h14; rfl); by_cases h13 : k = 13; (subst h13; rfl); by_cases h17 : k = 17; (subst h17; rfl); by_cases h19 : k = 19; (subst h19; rfl); by_cases h11 : k = 11; (subst h11; rfl); by_cases h46 : k = 46; (subst h46; rfl); by_cases h47 : k = 47; (subst h47; rfl); by_cases h48 : k = 48; (subst h48; rfl); by_cases h49 : k = 49; (subst h49; rfl); simp only [rE, mV, upd, h12, h14, h13, h17, h19, h11, h46, h47, h48, h49, if_false]
  · rfl
theorem rE_V48 (u : MS) (v12 : Int32) (v14 : Int32) (v13 : Int32) (v17 : Int32) (v19 : Int32) (v11 : Int32) (v46 : Int32) (v47 : Int32) (v48 : Int32) (v49 : Int32) (a41 : Nat → Int32) (a42 : Nat → Int32) (a43 : Nat → Int32) (a44 : Nat → Int32) (a45 : Nat → Int32) (a3 : Nat → Int32) (x : Int32) : mV (rE u v12 v14 v13 v17 v19 v11 v46 v47 v48 v49 a41 a42 a43 a44 a45 a3) 48 x = rE u v12 v14 v13 v17 v19 v11 v46 v47 x v49 a41 a42 a43 a44 a45 a3 := by
  refine Prod.ext ?_ (Prod.ext ?_ rfl)
  · funext k; by_cases h12 : k = 12; (subst h12; rfl); by_cases h14 : k = 14; (subst h14; rfl); by_cases h13 : k = 13; (subst h13; rfl); by_cases h17 : k = 17; (subst h17; rfl); by_cases h19 : k = 19; (subst h19; rfl); by_cases h11 : k = 11; (subst h11; rfl); by_cases h46 : k = 46; (subst h46; rfl); by_cases h47 : k = 47; (subst h47; rfl); by_cases h48 : k = 48; (subst h48; rfl); by_cases h49 : k = 49; (subst h49; rfl); simp only [rE, mV, upd, h12, h14, h13, h17, h19, h11, h46, h47, h48, h49, if_false]
  · rfl
theorem rE_V49 (u : MS) (v12 : Int32) (v14 : Int32) (v13 : Int32) (v17 : Int32) (v19 : Int32) (v11 : Int32) (v46 : Int32) (v47 : Int32) (v48 : Int32) (v49 : Int32) (a41 : Nat → Int32) (a42 : Nat → Int32) (a43 : Nat → Int32) (a44 : Nat → Int32) (a45 : Nat → Int32) (a3 : Nat → Int32) (x : Int32) : mV (rE u v12 v14 v13 v17 v19 v11 v46 v47 v48 v49 a41 a42 a43 a44 a45 a3) 49 x = rE u v12 v14 v13 v17 v19 v11 v46 v47 v48 x a41 a42 a43 a44 a45 a3 := by
  refine Prod.ext ?_ (Prod.ext ?_ rfl)
  · funext k; by_cases h12 : k = 12; (subst h12; rfl); by_cases h14 : k = 14; (subst h14; rfl); by_cases h13 : k = 13; (subst h13; rfl); by_cases h17 : k = 17; (subst h17; rfl); by_cases h19 : k = 19; (subst h19; rfl); by_cases h11 : k = 11; (subst h11; rfl); by_cases h46 : k = 46; (subst h46; rfl); by_cases h47 : k = 47; (subst h47; rfl); by_cases h48 : k = 48; (subst h48; rfl); by_cases h49 : k = 49; (subst h49; rfl); simp only [rE, mV, upd, h12, h14, h13, h17, h19, h11, h46, h47, h48, h49, if_false]
  · rfl
theorem rE_A41 (u : MS) (v12 : Int32) (v14 : Int32) (v13 : Int32) (v17 : Int32) (v19 : Int32) (v11 : Int32) (v46 : Int32) (v47 : Int32) (v48 : Int32) (v49 : Int32) (a41 : Nat → Int32) (a42 : Nat → Int32) (a43 : Nat → Int32) (a44 : Nat → Int32) (a45 : Nat → Int32) (a3 : Nat → Int32) (i : Nat) (x : Int32) : mA (rE u v12 v14 v13 v17 v19 v11 v46 v47 v48 v49 a41 a42 a43 a44 a45 a3) 41 i x = rE u v12 v14 v13 v17 v19 v11 v46 v47 v48 v49 (upd a41 i x) a42 a43 a44 a45 a3 := by
  refine Prod.ext ?_ (Prod.ext ?_ rfl)
  · rfl
  · funext k; by_cases h41 : k = 41; (subst h41; rfl); by_cases h42 : k = 42; (subst h42; rfl); by_cases h43 : k = 43; (subst h43; rfl); by_cases h44 : k = 44; (subst h44; rfl); by_cases h45 : k = 45; (subst h45; rfl); by_cases h3 : k = 3; (subst h3; rfl); simp only [rE, mA, upd2, h41, h42, h43, h44, h45, h3, if_false]
theorem rE_S41 (u : MS) (v12 : Int32) (v14 : Int32) (v13 : Int32) (v17 : Int32) (v19 : Int32) (v11 : Int32) (v46 : Int32) (v47 : Int32) (v48 : Int32) (v49 : Int32) (a41 : Nat → Int32) (a42 : Nat → Int32) (a43 : Nat → Int32) (a44 : Nat → Int32) (a45 : Nat → Int32) (a3 : Nat → Int32) (x : Nat → Int32) : mS (rE u v12 v14 v13 v17 v19 v11 v46 v47 v48 v49 a41 a42 a43 a44 a45 a3) 41 x = rE u v12 v14 v13 v17 v19 v11 v46 v47 v48 v49 x a42 a43 a44 a45 a3 := by
  refine Prod.ext ?_ (Prod.ext ?_ rfl)
  · rfl
  · funext k; by_cases h41 : k = 41; (subst h41; rfl); by_cases h42 : k = 42; (subst h42; rfl); by_cases h43 : k = 43; (subst h43; rfl); by_cases h44 : k = 44; (subst h44; rfl); by_cases h45 : k = 45; (subst h45; rfl); by_cases h3 : k = 3; (subst h3; rfl); simp only [rE, mS, h41, h42, h43, h44, h45, h3, if_false]
theorem rE_A42 (u : MS) (v12 : Int32) (v14 : Int32) (v13 : Int32) (v17 : Int32) (v19 : Int32) (v11 : Int32) (v46 : Int32) (v47 : Int32) (v48 : Int32) (v49 : Int32) (a41 : Nat → Int32) (a42 : Nat → Int32) (a43 : Nat → Int32) (a44 : Nat → Int32) (a45 : Nat → Int32) (a3 : Nat → Int32) (i : Nat) (x : Int32) : mA (rE u v12 v14 v13 v17 v19 v11 v46 v47 v48 v49 a41 a42 a43 a44 a45 a3) 42 i x = rE u v12 v14 v13 v17 v19 v11 v46 v47 v48 v49 a41 (upd a42 i x) a43 a44 a45 a3 := by
  refine Prod.ext ?_ (Prod.ext ?_ rfl)
  · rfl
  · funext k; by_cases h41 : k = 41; (subst h41; rfl); by_cases h42 : k = 42; (subst h42; rfl); by_cases h43 : k = 43; (subst h43; rfl); by_cases h44 : k = 44; (subst h44; rfl); by_cases h45 : k = 45; (subst h45; rfl); by_cases h3 : k = 3; (subst h3; rfl); simp only [rE, mA, upd2, h41, h42, h43, h44, h45, h3, if_false]
theorem rE_S42 (u : MS) (v12 : Int32) (v14 : Int32) (v13 : Int32) (v17 : Int32) (v19 : Int32) (v11 : Int32) (v46 : Int32) (v47 : Int32) (v48 : Int32) (v49 : Int32) (a41 : Nat → Int32) (a42 : Nat → Int32) (a43 : Nat → Int32) (a44 : Nat → Int32) (a45 : Nat → Int32) (a3 : Nat → Int32) (x : Nat → Int32) : mS (rE u v12 v14 v13 v17 v19 v11 v46 v47 v48 v49 a41 a42 a43 a44 a45 a3) 42 x = rE u v12 v14 v13 v17 v19 v11 v46 v47 v48 v49 a41 x a43 a44 a45 a3 := by
  refine Prod.ext ?_ (Prod.ext ?_ rfl)
  · rfl
  · funext k; by_cases h41 : k = 41; (subst h41; rfl); by_cases h42 : k = 42; (subst h42; rfl); by_cases h43 : k = 43; (subst h43; rfl); by_cases h44 : k = 44; (subst h44; rfl); by_cases h45 : k = 45; (subst h45; rfl); by_cases h3 : k = 3; (subst h3; rfl); simp only [rE, mS, h41, h42, h43, h44, h45, h3, if_false]
theorem rE_A43 (u : MS) (v12 : Int32) (v14 : Int32) (v13 : Int32) (v17 : Int32) (v19 : Int32) (v11 : Int32) (v46 : Int32) (v47 : Int32) (v48 : Int32) (v49 : Int32) (a41 : Nat → Int32) (a42 : Nat → Int32) (a43 : Nat → Int32) (a44 : Nat → Int32) (a45 : Nat → Int32) (a3 : Nat → Int32) (i : Nat) (x : Int32) : mA (rE u v12 v14 v13 v17 v19 v11 v46 v47 v48 v49 a41 a42 a43 a44 a45 a3) 43 i x = rE u v12 v14 v13 v17 v19 v11 v46 v47 v48 v49 a41 a42 (upd a43 i x) a44 a45 a3 := by
  refine Prod.ext ?_ (Prod.ext ?_ rfl)
  · rfl
  · funext k; by_cases h41 : k = 41; (subst h41; rfl); by_cases h42 : k = 42; (subst h42; rfl); by_cases h43 : k = 43; (subst h43; rfl); by_cases h44 : k = 44; (subst h44; rfl); by_cases h45 : k = 45; (subst h45; rfl); by_cases h3 : k = 3; (subst h3; rfl); simp only [rE, mA, upd2, h41, h42, h43, h44, h45, h3, if_false]
theorem rE_S43 (u : MS) (v12 : Int32) (v14 : Int32) (v13 : Int32) (v17 : Int32) (v19 : Int32) (v11 : Int32) (v46 : Int32) (v47 : Int32) (v48 : Int32) (v49 : Int32) (a41 : Nat → Int32) (a42 : Nat → Int32) (a43 : Nat → Int32) (a44 : Nat → Int32) (a45 : Nat → Int32) (a3 : Nat → Int32) (x : Nat → Int32) : mS (rE u v12 v14 v13 v17 v19 v11 v46 v47 v48 v49 a41 a42 a43 a44 a45 a3) 43 x = rE u v12 v14 v13 v17 v19 v11 v46 v47 v48 v49 a41 a42 x a44 a45 a3 := by
  refine Prod.ext ?_ (Prod.ext ?_ rfl)
  · rfl
  · funext k; by_cases h41 : k = 41; (subst h41; rfl); by_cases h42 : k = 42; (subst h42; rfl); by_cases h43 : k = 43; (subst h43; rfl); by_cases h44 : k = 44; (subst h44; rfl); by_cases h45 : k = 45; (subst h45; rfl); by_cases h3 : k = 3; (subst h3; rfl); simp only [rE, mS, h41, h42, h43, h44, h45, h3, if_false]
theorem rE_A44 (u : MS) (v12 : Int32) (v14 : Int32) (v13 : Int32) (v17 : Int32) (v19 : Int32) (v11 : Int32) (v46 : Int32) (v47 : Int32) (v48 : Int32) (v49 : Int32) (a41 : Nat → Int32) (a42 : Nat → Int32) (a43 : Nat → Int32) (a44 : Nat → Int32) (a45 : Nat → Int32) (a3 : Nat → Int32) (i : Nat) (x : Int32) : mA (rE u v12 v14 v13 v17 v19 v11 v46 v47 v48 v49 a41 a42 a43 a44 a45 a3) 44 i x = rE u v12 v14 v13 v17 v19 v11 v46 v47 v48 v49 a41 a42 a43 (upd a44 i x) a45 a3 := by
  refine Prod.ext ?_ (Prod.ext ?_ rfl)
  · rfl
  · funext k; by_cases h41 : k = 41; (subst h41; rfl); by_cases h42 : k = 42; (subst h42; rfl); by_cases h43 : k = 43; (subst h43; rfl); by_cases h44 : k = 44; (subst h44; rfl); by_cases h45 : k = 45; (subst h45; rfl); by_cases h3 : k = 3; (subst h3; rfl); simp only [rE, mA, upd2, h41, h42, h43, h44, h45, h3, if_false]
theorem rE_S44 (u : MS) (v12 : Int32) (v14 : Int32) (v13 : Int32) (v17 : Int32) (v19 : Int32) (v11 : Int32) (v46 : Int32) (v47 : Int32) (v48 : Int32) (v49 : Int32) (a41 : Nat → Int32) (a42 : Nat → Int32) (a43 : Nat → Int32) (a44 : Nat → Int32) (a45 : Nat → Int32) (a3 : Nat → Int32) (x : Nat → Int32) : mS (rE u v12 v14 v13 v17 v19 v11 v46 v47 v48 v49 a41 a42 a43 a44 a45 a3) 44 x = rE u v12 v14 v13 v17 v19 v11 v46 v47 v48 v49 a41 a42 a43 x a45 a3 := by
  refine Prod.ext ?_ (Prod.ext ?_ rfl)
  · rfl
  · funext k; by_cases h41 : k = 41; (subst h41; rfl); by_cases h42 : k = 42; (subst h42; rfl); by_cases h43 : k = 43; (subst h43; rfl); by_cases h44 : k = 44; (subst h44; rfl); by_cases h45 : k = 45; (subst h45; rfl); by_cases h3 : k = 3; (subst h3; rfl); simp only [rE, mS, h41, h42, h43, h44, h45, h3, if_false]
theorem rE_A45 (u : MS) (v12 : Int32) (v14 : Int32) (v13 : Int32) (v17 : Int32) (v19 : Int32) (v11 : Int32) (v46 : Int32) (v47 : Int32) (v48 : Int32) (v49 : Int32) (a41 : Nat → Int32) (a42 : Nat → Int32) (a43 : Nat → Int32) (a44 : Nat → Int32) (a45 : Nat → Int32) (a3 : Nat → Int32) (i : Nat) (x : Int32) : mA (rE u v12 v14 v13 v17 v19 v11 v46 v47 v48 v49 a41 a42 a43 a44 a45 a3) 45 i x = rE u v12 v14 v13 v17 v19 v11 v46 v47 v48 v49 a41 a42 a43 a44 (upd a45 i x) a3 := by
  refine Prod.ext ?_ (Prod.ext ?_ rfl)
  · rfl
  · funext k; by_cases h41 : k = 41; (subst h41; rfl); by_cases h42 : k = 42; (subst h42; rfl); by_cases h43 : k = 43; (subst h43; rfl); by_cases h44 : k = 44; (subst h44; rfl); by_cases h45 : k = 45; (subst h45; rfl); by_cases h3 : k = 3; (subst h3; rfl); simp only [rE, mA, upd2, h41, h42, h43, h44, h45, h3, if_false]
theorem rE_S45 (u : MS) (v12 : Int32) (v14 : Int32) (v13 : Int32) (v17 : Int32) (v19 : Int32) (v11 : Int32) (v46 : Int32) (v47 : Int32) (v48 : Int32) (v49 : Int32) (a41 : Nat → Int32) (a42 : Nat → Int32) (a43 : Nat → Int32) (a44 : Nat → Int32) (a45 : Nat → Int32) (a3 : Nat → Int32) (x : Nat → Int32) : mS (rE u v12 v14 v13 v17 v19 v11 v46 v47 v48 v49 a41 a42 a43 a44 a45 a3) 45 x = rE u v12 v14 v13 v17 v19 v11 v46 v47 v48 v49 a41 a42 a43 a44 x a3 := by
  refine Prod.ext ?_ (Prod.ext ?_ rfl)
  · rfl
  · funext k; by_cases h41 : k = 41; (subst h41; rfl); by_cases h42 : k = 42; (subst h42; rfl); by_cases h43 : k = 43; (subst h43; rfl); by_cases h44 : k = 44; (subst h44; rfl); by_cases h45 : k = 45; (subst h45; rfl); by_cases h3 : k = 3; (subst h3; rfl); simp only [rE, mS, h41, h42, h43, h44, h45, h3, if_false]
theorem rE_A3 (u : MS) (v12 : Int32) (v14 : Int32) (v13 : Int32) (v17 : Int32) (v19 : Int32) (v11 : Int32) (v46 : Int32) (v47 : Int32) (v48 : Int32) (v49 : Int32) (a41 : Nat → Int32) (a42 : Nat → Int32) (a43 : Nat → Int32) (a44 : Nat → Int32) (a45 : Nat → Int32) (a3 : Nat → Int32) (i : Nat) (x : Int32) : mA (rE u v12 v14 v13 v17 v19 v11 v46 v47 v48 v49 a41 a42 a43 a44 a45 a3) 3 i x = rE u v12 v14 v13 v17 v19 v11 v46 v47 v48 v49 a41 a42 a43 a44 a45 (upd a3 i x) := by
  refine Prod.ext ?_ (Prod.ext ?_ rfl)
  · rfl
  · funext k; by_cases h41 : k = 41; (subst h41; rfl); by_cases h42 : k = 42; (subst h42; rfl); by_cases h43 : k = 43; (subst h43; rfl); by_cases h44 : k = 44; (subst h44; rfl); by_cases h45 : k = 45; (subst h45; rfl); by_cases h3 : k = 3; (subst h3; rfl); simp only [rE, mA, upd2, h41, h42, h43, h44, h45, h3, if_false]
theorem rE_S3 (u : MS) (v12 : Int32) (v14 : Int32) (v13 : Int32) (v17 : Int32) (v19 : Int32) (v11 : Int32) (v46 : Int32) (v47 : Int32) (v48 : Int32) (v49 : Int32) (a41 : Nat → Int32) (a42 : Nat → Int32) (a43 : Nat → Int32) (a44 : Nat → Int32) (a45 : Nat → Int32) (a3 : Nat → Int32) (x : Nat → Int32) : mS (rE u v12 v14 v13 v17 v19 v11 v46 v47 v48 v49 a41 a42 a43 a44 a45 a3) 3 x = rE u v12 v14 v13 v17 v19 v11 v46 v47 v48 v49 a41 a42 a43 a44 a45 x := by
  refine Prod.ext ?_ (Prod.ext ?_ rfl)
  · rfl
  · funext k; by_cases h41 : k = 41; (subst h41; rfl); by_cases h42 : k = 42; (subst h42; rfl); by_cases h43 : k = 43; (subst h43; rfl); by_cases h44 : k = 44; (subst h44; rfl); by_cases h45 : k = 45; (subst h45; rfl); by_cases h3 : k = 3; (subst h3; rfl); simp only [rE, mS, h41, h42, h43, h44, h45, h3, if_false]
theorem rE_g0 (u : MS) (v12 : Int32) (v14 : Int32) (v13 : Int32) (v17 : Int32) (v19 : Int32) (v11 : Int32) (v46 : Int32) (v47 : Int32) (v48 : Int32) (v49 : Int32) (a41 : Nat → Int32) (a42 : Nat → Int32) (a43 : Nat → Int32) (a44 : Nat → Int32) (a45 : Nat → Int32) (a3 : Nat → Int32) : (rE u v12 v14 v13 v17 v19 v11 v46 v47 v48 v49 a41 a42 a43 a44 a45 a3).2.1 0 = (u.2.1 0) := rfl
theorem rE_g1 (u : MS) (v12 : Int32) (v14 : Int32) (v13 : Int32) (v17 : Int32) (v19 : Int32) (v11 : Int32) (v46 : Int32) (v47 : Int32) (v48 : Int32) (v49 : Int32) (a41 : Nat → Int32) (a42 : Nat → Int32) (a43 : Nat → Int32) (a44 : Nat → Int32) (a45 : Nat → Int32) (a3 : Nat → Int32) : (rE u v12 v14 v13 v17 v19 v11 v46 v47 v48 v49 a41 a42 a43 a44 a45 a3).2.1 1 = (u.2.1 1) := rfl
theorem rE_g2 (u : MS) (v12 : Int32) (v14 : Int32) (v13 : Int32) (v17 : Int32) (v19 : Int32) (v11 : Int32) (v46 : Int32) (v47 : Int32) (v48 : Int32) (v49 : Int32) (a41 : Nat → Int32) (a42 : Nat → Int32) (a43 : Nat → Int32) (a44 : Nat → Int32) (a45 : Nat → Int32) (a3 : Nat → Int32) : (rE u v12 v14 v13 v17 v19 v11 v46 v47 v48 v49 a41 a42 a43 a44 a45 a3).2.1 2 = (u.2.1 2) := rfl
theorem rE_g3 (u : MS) (v12 : Int32) (v14 : Int32) (v13 : Int32) (v17 : Int32) (v19 : Int32) (v11 : Int32) (v46 : Int32) (v47 : Int32) (v48 : Int32) (v49 : Int32) (a41 : Nat → Int32) (a42 : Nat → Int32) (a43 : Nat → Int32) (a44 : Nat → Int32) (a45 : Nat → Int32) (a3 : Nat → Int32) : (rE u v12 v14 v13 v17 v19 v11 v46 v47 v48 v49 a41 a42 a43 a44 a45 a3).2.1 3 = a3 := rfl
theorem rE_g4 (u : MS) (v12 : Int32) (v14 : Int32) (v13 : Int32) (v17 : Int32) (v19 : Int32) (v11 : Int32) (v46 : Int32) (v47 : Int32) (v48 : Int32) (v49 : Int32) (a41 : Nat → Int32) (a42 : Nat → Int32) (a43 : Nat → Int32) (a44 : Nat → Int32) (a45 : Nat → Int32) (a3 : Nat → Int32) : (rE u v12 v14 v13 v17 v19 v11 v46 v47 v48 v49 a41 a42 a43 a44 a45 a3).2.1 4 = (u.2.1 4) := rfl
theorem rE_g5 (u : MS) (v12 : Int32) (v14 : Int32) (v13 : Int32) (v17 : Int32) (v19 : Int32) (v11 : Int32) (v46 : Int32) (v47 : Int32) (v48 : Int32) (v49 : Int32) (a41 : Nat → Int32) (a42 : Nat → Int32) (a43 : Nat → Int32) (a44 : Nat → Int32) (a45 : Nat → Int32) (a3 : Nat → Int32) : (rE u v12 v14 v13 v17 v19 v11 v46 v47 v48 v49 a41 a42 a43 a44 a45 a3).2.1 5 = (u.2.1 5) := rfl
theorem rE_g6 (u : MS) (v12 : Int32) (v14 : Int32) (v13 : Int32) (v17 : Int32) (v19 : Int32) (v11 : Int32) (v46 : Int32) (v47 : Int32) (v48 : Int32) (v49 : Int32) (a41 : Nat → Int32) (a42 : Nat → Int32) (a43 : Nat → Int32) (a44 : Nat → Int32) (a45 : Nat → Int32) (a3 : Nat → Int32) : (rE u v12 v14 v13 v17 v19 v11 v46 v47 v48 v49 a41 a42 a43 a44 a45 a3).2.1 6 = (u.2.1 6) := rfl
theorem rE_g7 (u : MS) (v12 : Int32) (v14 : Int32) (v13 : Int32) (v17 : Int32) (v19 : Int32) (v11 : Int32) (v46 : Int32) (v47 : Int32) (v48 : Int32) (v49 : Int32) (a41 : Nat → Int32) (a42 : Nat → Int32) (a43 : Nat → Int32) (a44 : Nat → Int32) (a45 : Nat → Int32) (a3 : Nat → Int32) : (rE u v12 v14 v13 v17 v19 v11 v46 v47 v48 v49 a41 a42 a43 a44 a45 a3).2.1 7 = (u.2.1 7) := rfl
theorem rE_f8 (u : MS) (v12 : Int32) (v14 : Int32) (v13 : Int32) (v17 : Int32) (v19 : Int32) (v11 : Int32) (v46 : Int32) (v47 : Int32) (v48 : Int32) (v49 : Int32) (a41 : Nat → Int32) (a42 : Nat → Int32) (a43 : Nat → Int32) (a44 : Nat → Int32) (a45 : Nat → Int32) (a3 : Nat → Int32) : (rE u v12 v14 v13 v17 v19 v11 v46 v47 v48 v49 a41 a42 a43 a44 a45 a3).1 8 = (u.1 8) := rfl
theorem rE_f9 (u : MS) (v12 : Int32) (v14 : Int32) (v13 : Int32) (v17 : Int32) (v19 : Int32) (v11 : Int32) (v46 : Int32) (v47 : Int32) (v48 : Int32) (v49 : Int32) (a41 : Nat → Int32) (a42 : Nat → Int32) (a43 : Nat → Int32) (a44 : Nat → Int32) (a45 : Nat → Int32) (a3 : Nat → Int32) : (rE u v12 v14 v13 v17 v19 v11 v46 v47 v48 v49 a41 a42 a43 a44 a45 a3).1 9 = (u.1 9) := rfl
theorem rE_g10 (u : MS) (v12 : Int32) (v14 : Int32) (v13 : Int32) (v17 : Int32) (v19 : Int32) (v11 : Int32) (v46 : Int32) (v47 : Int32) (v48 : Int32) (v49 : Int32) (a41 : Nat → Int32) (a42 : Nat → Int32) (a43 : Nat → Int32) (a44 : Nat → Int32) (a45 : Nat → Int32) (a3 : Nat → Int32) : (rE u v12 v14 v13 v17 v19 v11 v46 v47 v48 v49 a41 a42 a43 a44 a45 a3).2.1 10 = (u.2.1 10) := rfl
theorem rE_f11 (u : MS) (v12 : Int32) (v14 : Int32) (v13 : Int32) (v17 : Int32) (v19 : Int32) (v11 : Int32) (v46 : Int32) (v47 : Int32) (v48 : Int32) (v49 : Int32) (a41 : Nat → Int32) (a42 : Nat → Int32) (a43 : Nat → Int32) (a44 : Nat → Int32) (a45 : Nat → Int32) (a3 : Nat → Int32) : (rE u v12 v14 v13 v17 v19 v11 v46 v47 v48 v49 a41 a42 a43 a44 a45 a3).1 11 = v11 := rfl
theorem rE_f12 (u : MS) (v12 : Int32) (v14 : Int32) (v13 : Int32) (v17 : Int32) (v19 : Int32) (v11 : Int32) (v46 : Int32) (v47 : Int32) (v48 : Int32) (v49 : Int32) (a41 : Nat → Int32) (a42 : Nat → Int32) (a43 : Nat → Int32) (a44 : Nat → Int32) (a45 : Nat → Int32) (a3 : Nat → Int32) : (rE u v12 v14 v13 v17 v19 v11 v46 v47 v48 v49 a41 a42 a43 a44 a45 a3).1 12 = v12 := rfl
theorem rE_f13 (u : MS) (v12 : Int32) (v14 : Int32) (v13 : Int32) (v17 : Int32) (v19 : Int32) (v11 : Int32) (v46 : Int32) (v47 : Int32) (v48 : Int32) (v49 : Int32) (a41 : Nat → Int32) (a42 : Nat → Int32) (a43 : Nat → Int32) (a44 : Nat → Int32) (a45 : Nat → Int32) (a3 : Nat → Int32) : (rE u v12 v14 v13 v17 v19 v11 v46 v47 v48 v49 a41 a42 a43 a44 a45 a3).1 13 = v13 := rfl
theorem rE_f14 (u : MS) (v12 : Int32) (v14 : Int32) (v13 : Int32) (v17 : Int32) (v19 : Int32) (v11 : Int32) (v46 : Int32) (v47 : Int32) (v48 : Int32) (v49 : Int32) (a41 : Nat → Int32) (a42 : Nat → Int32) (a43 : Nat → Int32) (a44 : Nat → Int32) (a45 : Nat → Int32) (a3 : Nat → Int32) : (rE u v12 v14 v13 v17 v19 v11 v46 v47 v48 v49 a41 a42 a43 a44 a45 a3).1 14 = v14 := rfl
theorem rE_f15 (u : MS) (v12 : Int32) (v14 : Int32) (v13 : Int32) (v17 : Int32) (v19 : Int32) (v11 : Int32) (v46 : Int32) (v47 : Int32) (v48 : Int32) (v49 : Int32) (a41 : Nat → Int32) (a42 : Nat → Int32) (a43 : Nat → Int32) (a44 : Nat → Int32) (a45 : Nat → Int32) (a3 : Nat → Int32) : (rE u v12 v14 v13 v17 v19 v11 v46 v47 v48 v49 a41 a42 a43 a44 a45 a3).1 15 = (u.1 15) := rfl
theorem rE_f16 (u : MS) (v12 : Int32) (v14 : Int32) (v13 : Int32) (v17 : Int32) (v19 : Int32) (v11 : Int32) (v46 : Int32) (v47 : Int32) (v48 : Int32) (v49 : Int32) (a41 : Nat → Int32) (a42 : Nat → Int32) (a43 : Nat → Int32) (a44 : Nat → Int32) (a45 : Nat → Int32) (a3 : Nat → Int32) : (rE u v12 v14 v13 v17 v19 v11 v46 v47 v48 v49 a41 a42 a43 a44 a45 a3).1 16 = (u.1 16) := rfl
theorem rE_f17 (u : MS) (v12 : Int32) (v14 : Int32) (v13 : Int32) (v17 : Int32) (v19 : Int32) (v11 : Int32) (v46 : Int32) (v47 : Int32) (v48 : Int32) (v49 : Int32) (a41 : Nat → Int32) (a42 : Nat → Int32) (a43 : Nat → Int32) (a44 : Nat → Int32) (a45 : Nat → Int32) (a3 : Nat → Int32) : (rE u v12 v14 v13 v17 v19 v11 v46 v47 v48 v49 a41 a42 a43 a44 a45 a3).1 17 = v17 := rfl
theorem rE_f18 (u : MS) (v12 : Int32) (v14 : Int32) (v13 : Int32) (v17 : Int32) (v19 : Int32) (v11 : Int32) (v46 : Int32) (v47 : Int32) (v48 : Int32) (v49 : Int32) (a41 : Nat → Int32) (a42 : Nat → Int32) (a43 : Nat → Int32) (a44 : Nat → Int32) (a45 : Nat → Int32) (a3 : Nat → Int32) : (rE u v12 v14 v13 v17 v19 v11 v46 v47 v48 v49 a41 a42 a43 a44 a45 a3).1 18 = (u.1 18) := rfl
theorem rE_f19 (u : MS) (v12 : Int32) (v14 : Int32) (v13 : Int32) (v17 : Int32) (v19 : Int32) (v11 : Int32) (v46 : Int32) (v47 : Int32) (v48 : Int32) (v49 : Int32) (a41 : Nat → Int32) (a42 : Nat → Int32) (a43 : Nat → Int32) (a44 : Nat → Int32) (a45 : Nat → Int32) (a3 : Nat → Int32) : (rE u v12 v14 v13 v17 v19 v11 v46 v47 v48 v49 a41 a42 a43 a44 a45 a3).1 19 = v19 := rfl
theorem rE_f20 (u : MS) (v12 : Int32) (v14 : Int32) (v13 : Int32) (v17 : Int32) (v19 : Int32) (v11 : Int32) (v46 : Int32) (v47 : Int32) (v48 : Int32) (v49 : Int32) (a41 : Nat → Int32) (a42 : Nat → Int32) (a43 : Nat → Int32) (a44 : Nat → Int32) (a45 : Nat → Int32) (a3 : Nat → Int32) : (rE u v12 v14 v13 v17 v19 v11 v46 v47 v48 v49 a41 a42 a43 a44 a45 a3).1 20 = (u.1 20) := rfl
theorem rE_g21 (u : MS) (v12 : Int32) (v14 : Int32) (v13 : Int32) (v17 : Int32) (v19 : Int32) (v11 : Int32) (v46 : Int32) (v47 : Int32) (v48 : Int32) (v49 : Int32) (a41 : Nat → Int32) (a42 : Nat → Int32) (a43 : Nat → Int32) (a44 : Nat → Int32) (a45 : Nat → Int32) (a3 : Nat → Int32) : (rE u v12 v14 v13 v17 v19 v11 v46 v47 v48 v49 a41 a42 a43 a44 a45 a3).2.1 21 = (u.2.1 21) := rfl
theorem rE_g22 (u : MS) (v12 : Int32) (v14 : Int32) (v13 : Int32) (v17 : Int32) (v19 : Int32) (v11 : Int32) (v46 : Int32) (v47 : Int32) (v48 : Int32) (v49 : Int32) (a41 : Nat → Int32) (a42 : Nat → Int32) (a43 : Nat → Int32) (a44 : Nat → Int32) (a45 : Nat → Int32) (a3 : Nat → Int32) : (rE u v12 v14 v13 v17 v19 v11 v46 v47 v48 v49 a41 a42 a43 a44 a45 a3).2.1 22 = (u.2.1 22) := rfl
theorem rE_g23 (u : MS) (v12 : Int32) (v14 : Int32) (v13 : Int32) (v17 : Int32) (v19 : Int32) (v11 : Int32) (v46 : Int32) (v47 : Int32) (v48 : Int32) (v49 : Int32) (a41 : Nat → Int32) (a42 : Nat → Int32) (a43 : Nat → Int32) (a44 : Nat → Int32) (a45 : Nat → Int32) (a3 : Nat → Int32) : (rE u v12 v14 v13 v17 v19 v11 v46 v47 v48 v49 a41 a42 a43 a44 a45 a3).2.1 23 = (u.2.1 23) := rfl
theorem rE_g24 (u : MS) (v12 : Int32) (v14 : Int32) (v13 : Int32) (v17 : Int32) (v19 : Int32) (v11 : Int32) (v46 : Int32) (v47 : Int32) (v48 : Int32) (v49 : Int32) (a41 : Nat → Int32) (a42 : Nat → Int32) (a43 : Nat → Int32) (a44 : Nat → Int32) (a45 : Nat → Int32) (a3 : Nat → Int32) : (rE u v12 v14 v13 v17 v19 v11 v46 v47 v48 v49 a41 a42 a43 a44 a45 a3).2.1 24 = (u.2.1 24) := rfl
theorem rE_g25 (u : MS) (v12 : Int32) (v14 : Int32) (v13 : Int32) (v17 : Int32) (v19 : Int32) (v11 : Int32) (v46 : Int32) (v47 : Int32) (v48 : Int32) (v49 : Int32) (a41 : Nat → Int32) (a42 : Nat → Int32) (a43 : Nat → Int32) (a44 : Nat → Int32) (a45 : Nat → Int32) (a3 : Nat → Int32) : (rE u v12 v14 v13 v17 v19 v11 v46 v47 v48 v49 a41 a42 a43 a44 a45 a3).2.1 25 = (u.2.1 25) := rfl
theorem rE_g26 (u : MS) (v12 : Int32) (v14 : Int32) (v13 : Int32) (v17 : Int32) (v19 : Int32) (v11 : Int32) (v46 : Int32) (v47 : Int32) (v48 : Int32) (v49 : Int32) (a41 : Nat → Int32) (a42 : Nat → Int32) (a43 : Nat → Int32) (a44 : Nat → Int32) (a45 : Nat → Int32) (a3 : Nat → Int32) : (rE u v12 v14 v13 v17 v19 v11 v46 v47 v48 v49 a41 a42 a43 a44 a45 a3).2.1 26 = (u.2.1 26) := rfl
theorem rE_g27 (u : MS) (v12 : Int32) (v14 : Int32) (v13 : Int32) (v17 : Int32) (v19 : Int32) (v11 : Int32) (v46 : Int32) (v47 : Int32) (v48 : Int32) (v49 : Int32) (a41 : Nat → Int32) (a42 : Nat → Int32) (a43 : Nat → Int32) (a44 : Nat → Int32) (a45 : Nat → Int32) (a3 : Nat → Int32) : (rE u v12 v14 v13 v17 v19 v11 v46 v47 v48 v49 a41 a42 a43 a44 a45 a3).2.1 27 = (u.2.1 27) := rfl
theorem rE_g28 (u : MS) (v12 : Int32) (v14 : Int32) (v13 : Int32) (v17 : Int32) (v19 : Int32) (v11 : Int32) (v46 : Int32) (v47 : Int32) (v48 : Int32) (v49 : Int32) (a41 : Nat → Int32) (a42 : Nat → Int32) (a43 : Nat → Int32) (a44 : Nat → Int32) (a45 : Nat → Int32) (a3 : Nat → Int32) : (rE u v12 v14 v13 v17 v19 v11 v46 v47 v48 v49 a41 a42 a43 a44 a45 a3).2.1 28 = (u.2.1 28) := rfl
theorem rE_g29 (u : MS) (v12 : Int32) (v14 : Int32) (v13 : Int32) (v17 : Int32) (v19 : Int32) (v11 : Int32) (v46 : Int32) (v47 : Int32) (v48 : Int32) (v49 : Int32) (a41 : Nat → Int32) (a42 : Nat → Int32) (a43 : Nat → Int32) (a44 : Nat → Int32) (a45 : Nat → Int32) (a3 : Nat → Int32) : (rE u v12 v14 v13 v17 v19 v11 v46 v47 v48 v49 a41 a42 a43 a44 a45 a3).2.1 29 = (u.2.1 29) := rfl
theorem rE_g30 (u : MS) (v12 : Int32) (v14 : Int32) (v13 : Int32) (v17 : Int32) (v19 : Int32) (v11 : Int32) (v46 : Int32) (v47 : Int32) (v48 : Int32) (v49 : Int32) (a41 : Nat → Int32) (a42 : Nat → Int32) (a43 : Nat → Int32) (a44 : Nat → Int32) (a45 : Nat → Int32) (a3 : Nat → Int32) : (rE u v12 v14 v13 v17 v19 v11 v46 v47 v48 v49 a41 a42 a43 a44 a45 a3).2.1 30 = (u.2.1 30) := rfl
theorem rE_g31 (u : MS) (v12 : Int32) (v14 : Int32) (v13 : Int32) (v17 : Int32) (v19 : Int32) (v11 : Int32) (v46 : Int32) (v47 : Int32) (v48 : Int32) (v49 : Int32) (a41 : Nat → Int32) (a42 : Nat → Int32) (a43 : Nat → Int32) (a44 : Nat → Int32) (a45 : Nat → Int32) (a3 : Nat → Int32) : (rE u v12 v14 v13 v17 v19 v11 v46 v47 v48 v49 a41 a42 a43 a44 a45 a3).2.1 31 = (u.2.1 31) := rfl
theorem rE_g32 (u : MS) (v12 : Int32) (v14 : Int32) (v13 : Int32) (v17 : Int32) (v19 : Int32) (v11 : Int32) (v46 : Int32) (v47 : Int32) (v48 : Int32) (v49 : Int32) (a41 : Nat → Int32) (a42 : Nat → Int32) (a43 : Nat → Int32) (a44 : Nat → Int32) (a45 : Nat → Int32) (a3 : Nat → Int32) : (rE u v12 v14 v13 v17 v19 v11 v46 v47 v48 v49 a41 a42 a43 a44 a45 a3).2.1 32 = (u.2.1 32) := rfl
theorem rE_g33 (u : MS) (v12 : Int32) (v14 : Int32) (v13 : Int32) (v17 : Int32) (v19 : Int32) (v11 : Int32) (v46 : Int32) (v47 : Int32) (v48 : Int32) (v49 : Int32) (a41 : Nat → Int32) (a42 : Nat → Int32) (a43 : Nat → Int32) (a44 : Nat → Int32) (a45 : Nat → Int32) (a3 : Nat → Int32) : (rE u v12 v14 v13 v17 v19 v11 v46 v47 v48 v49 a41 a42 a43 a44 a45 a3).2.1 33 = (u.2.1 33) := rfl
theorem rE_g34 (u : MS) (v12 : Int32) (v14 : Int32) (v13 : Int32) (v17 : Int32) (v19 : Int32) (v11 : Int32) (v46 : Int32) (v47 : Int32) (v48 : Int32) (v49 : Int32) (a41 : Nat → Int32) (a42 : Nat → Int32) (a43 : Nat → Int32) (a44 : Nat → Int32) (a45 : Nat → Int32) (a3 : Nat → Int32) : (rE u v12 v14 v13 v17 v19 v11 v46 v47 v48 v49 a41 a42 a43 a44 a45 a3).2.1 34 = (u.2.1 34) := rfl
theorem rE_g35 (u : MS) (v12 : Int32) (v14 : Int32) (v13 : Int32) (v17 : Int32) (v19 : Int32) (v11 : Int32) (v46 : Int32) (v47 : Int32) (v48 : Int32) (v49 : Int32) (a41 : Nat → Int32) (a42 : Nat → Int32) (a43 : Nat → Int32) (a44 : Nat → Int32) (a45 : Nat → Int32) (a3 : Nat → Int32) : (rE u v12 v14 v13 v17 v19 v11 v46 v47 v48 v49 a41 a42 a43 a44 a45 a3).2.1 35 = (u.2.1 35) := rfl
theorem rE_g36 (u : MS) (v12 : Int32) (v14 : Int32) (v13 : Int32) (v17 : Int32) (v19 : Int32) (v11 : Int32) (v46 : Int32) (v47 : Int32) (v48 : Int32) (v49 : Int32) (a41 : Nat → Int32) (a42 : Nat → Int32) (a43 : Nat → Int32) (a44 : Nat → Int32) (a45 : Nat → Int32) (a3 : Nat → Int32) : (rE u v12 v14 v13 v17 v19 v11 v46 v47 v48 v49 a41 a42 a43 a44 a45 a3).2.1 36 = (u.2.1 36) := rfl
theorem rE_g37 (u : MS) (v12 : Int32) (v14 : Int32) (v13 : Int32) (v17 : Int32) (v19 : Int32) (v11 : Int32) (v46 : Int32) (v47 : Int32) (v48 : Int32) (v49 : Int32) (a41 : Nat → Int32) (a42 : Nat → Int32) (a43 : Nat → Int32) (a44 : Nat → Int32) (a45 : Nat → Int32) (a3 : Nat → Int32) : (rE u v12 v14 v13 v17 v19 v11 v46 v47 v48 v49 a41 a42 a43 a44 a45 a3).2.1 37 = (u.2.1 37) := rfl
theorem rE_f38 (u : MS) (v12 : Int32) (v14 : Int32) (v13 : Int32) (v17 : Int32) (v19 : Int32) (v11 : Int32) (v46 : Int32) (v47 : Int32) (v48 : Int32) (v49 : Int32) (a41 : Nat → Int32) (a42 : Nat → Int32) (a43 : Nat → Int32) (a44 : Nat → Int32) (a45 : Nat → Int32) (a3 : Nat → Int32) : (rE u v12 v14 v13 v17 v19 v11 v46 v47 v48 v49 a41 a42 a43 a44 a45 a3).1 38 = (u.1 38) := rfl
theorem rE_f39 (u : MS) (v12 : Int32) (v14 : Int32) (v13 : Int32) (v17 : Int32) (v19 : Int32) (v11 : Int32) (v46 : Int32) (v47 : Int32) (v48 : Int32) (v49 : Int32) (a41 : Nat → Int32) (a42 : Nat → Int32) (a43 : Nat → Int32) (a44 : Nat → Int32) (a45 : Nat → Int32) (a3 : Nat → Int32) : (rE u v12 v14 v13 v17 v19 v11 v46 v47 v48 v49 a41 a42 a43 a44 a45 a3).1 39 = (u.1 39) := rfl
theorem rE_f40 (u : MS) (v12 : Int32) (v14 : Int32) (v13 : Int32) (v17 : Int32) (v19 : Int32) (v11 : Int32) (v46 : Int32) (v47 : Int32) (v48 : Int32) (v49 : Int32) (a41 : Nat → Int32) (a42 : Nat → Int32) (a43 : Nat → Int32) (a44 : Nat → Int32) (a45 : Nat → Int32) (a3 : Nat → Int32) : (rE u v12 v14 v13 v17 v19 v11 v46 v47 v48 v49 a41 a42 a43 a44 a45 a3).1 40 = (u.1 40) := rfl
theorem rE_g41 (u : MS) (v12 : Int32) (v14 : Int32) (v13 : Int32) (v17 : Int32) (v19 : Int32) (v11 : Int32) (v46 : Int32) (v47 : Int32) (v48 : Int32) (v49 : Int32) (a41 : Nat → Int32) (a42 : Nat → Int32) (a43 : Nat → Int32) (a44 : Nat → Int32) (a45 : Nat → Int32) (a3 : Nat → Int32) : (rE u v12 v14 v13 v17 v19 v11 v46 v47 v48 v49 a41 a42 a43 a44 a45 a3).2.1 41 = a41 := rfl
theorem rE_g42 (u : MS) (v12 : Int32) (v14 : Int32) (v13 : Int32) (v17 : Int32) (v19 : Int32) (v11 : Int32) (v46 : Int32) (v47 : Int32) (v48 : Int32) (v49 : Int32) (a41 : Nat → Int32) (a42 : Nat → Int32) (a43 : Nat → Int32) (a44 : Nat → Int32) (a45 : Nat → Int32) (a3 : Nat → Int32) : (rE u v12 v14 v13 v17 v19 v11 v46 v47 v48 v49 a41 a42 a43 a44 a45 a3).2.1 42 = a42 := rfl
theorem rE_g43 (u : MS) (v12 : Int32) (v14 : Int32) (v13 : Int32) (v17 : Int32) (v19 : Int32) (v11 : Int32) (v46 : Int32) (v47 : Int32) (v48 : Int32) (v49 : Int32) (a41 : Nat → Int32) (a42 : Nat → Int32) (a43 : Nat → Int32) (a44 : Nat → Int32) (a45 : Nat → Int32) (a3 : Nat → Int32) : (rE u v12 v14 v13 v17 v19 v11 v46 v47 v48 v49 a41 a42 a43 a44 a45 a3).2.1 43 = a43 := rfl
theorem rE_g44 (u : MS) (v12 : Int32) (v14 : Int32) (v13 : Int32) (v17 : Int32) (v19 : Int32) (v11 : Int32) (v46 : Int32) (v47 : Int32) (v48 : Int32) (v49 : Int32) (a41 : Nat → Int32) (a42 : Nat → Int32) (a43 : Nat → Int32) (a44 : Nat → Int32) (a45 : Nat → Int32) (a3 : Nat → Int32) : (rE u v12 v14 v13 v17 v19 v11 v46 v47 v48 v49 a41 a42 a43 a44 a45 a3).2.1 44 = a44 := rfl
theorem rE_g45 (u : MS) (v12 : Int32) (v14 : Int32) (v13 : Int32) (v17 : Int32) (v19 : Int32) (v11 : Int32) (v46 : Int32) (v47 : Int32) (v48 : Int32) (v49 : Int32) (a41 : Nat → Int32) (a42 : Nat → Int32) (a43 : Nat → Int32) (a44 : Nat → Int32) (a45 : Nat → Int32) (a3 : Nat → Int32) : (rE u v12 v14 v13 v17 v19 v11 v46 v47 v48 v49 a41 a42 a43 a44 a45 a3).2.1 45 = a45 := rfl
theorem rE_f46 (u : MS) (v12 : Int32) (v14 : Int32) (v13 : Int32) (v17 : Int32) (v19 : Int32) (v11 : Int32) (v46 : Int32) (v47 : Int32) (v48 : Int32) (v49 : Int32) (a41 : Nat → Int32) (a42 : Nat → Int32) (a43 : Nat → Int32) (a44 : Nat → Int32) (a45 : Nat → Int32) (a3 : Nat → Int32) : (rE u v12 v14 v13 v17 v19 v11 v46 v47 v48 v49 a41 a42 a43 a44 a45 a3).1 46 = v46 := rfl
theorem rE_f47 (u : MS) (v12 : Int32) (v14 : Int32) (v13 : Int32) (v17 : Int32) (v19 : Int32) (v11 : Int32) (v46 : Int32) (v47 : Int32) (v48 : Int32) (v49 : Int32) (a41 : Nat → Int32) (a42 : Nat → Int32) (a43 : Nat → Int32) (a44 : Nat → Int32) (a45 : Nat → Int32) (a3 : Nat → Int32) : (rE u v12 v14 v13 v17 v19 v11 v46 v47 v48 v49 a41 a42 a43 a44 a45 a3).1 47 = v47 := rfl
theorem rE_f48 (u : MS) (v12 : Int32) (v14 : Int32) (v13 : Int32) (v17 : Int32) (v19 : Int32) (v11 : Int32) (v46 : Int32) (v47 : Int32) (v48 : Int32) (v49 : Int32) (a41 : Nat → Int32) (a42 : Nat → Int32) (a43 : Nat → Int32) (a44 : Nat → Int32) (a45 : Nat → Int32) (a3 : Nat → Int32) : (rE u v12 v14 v13 v17 v19 v11 v46 v47 v48 v49 a41 a42 a43 a44 a45 a3).1 48 = v48 := rfl
theorem rE_f49 (u : MS) (v12 : Int32) (v14 : Int32) (v13 : Int32) (v17 : Int32) (v19 : Int32) (v11 : Int32) (v46 : Int32) (v47 : Int32) (v48 : Int32) (v49 : Int32) (a41 : Nat → Int32) (a42 : Nat → Int32) (a43 : Nat → Int32) (a44 : Nat → Int32) (a45 : Nat → Int32) (a3 : Nat → Int32) : (rE u v12 v14 v13 v17 v19 v11 v46 v47 v48 v49 a41 a42 a43 a44 a45 a3).1 49 = v49 := rfl
theorem rE_f50 (u : MS) (v12 : Int32) (v14 : Int32) (v13 : Int32) (v17 : Int32) (v19 : Int32) (v11 : Int32) (v46 : Int32) (v47 : Int32) (v48 : Int32) (v49 : Int32) (a41 : Nat → Int32) (a42 : Nat → Int32) (a43 : Nat → Int32) (a44 : Nat → Int32) (a45 : Nat → Int32) (a3 : Nat → Int32) : (rE u v12 v14 v13 v17 v19 v11 v46 v47 v48 v49 a41 a42 a43 a44 a45 a3).1 50 = (u.1 50) := rfl
theorem rE_g51 (u : MS) (v12 : Int32) (v14 : Int32) (v13 : Int32) (v17 : Int32) (v19 : Int32) (v11 : Int32) (v46 : Int32) (v47 : Int32) (v48 : Int32) (v49 : Int32) (a41 : Nat → Int32) (a42 : Nat → Int32) (a43 : Nat → Int32) (a44 : Nat → Int32) (a45 : Nat → Int32) (a3 : Nat → Int32) : (rE u v12 v14 v13 v17 v19 v11 v46 v47 v48 v49 a41 a42 a43 a44 a45 a3).2.1 51 = (u.2.1 51) := rfl
theorem rE_g52 (u : MS) (v12 : Int32) (v14 : Int32) (v13 : Int32) (v17 : Int32) (v19 : Int32) (v11 : Int32) (v46 : Int32) (v47 : Int32) (v48 : Int32) (v49 : Int32) (a41 : Nat → Int32) (a42 : Nat → Int32) (a43 : Nat → Int32) (a44 : Nat → Int32) (a45 : Nat → Int32) (a3 : Nat → Int32) : (rE u v12 v14 v13 v17 v19 v11 v46 v47 v48 v49 a41 a42 a43 a44 a45 a3).2.1 52 = (u.2.1 52) := rfl
theorem rE_g53 (u : MS) (v12 : Int32) (v14 : Int32) (v13 : Int32) (v17 : Int32) (v19 : Int32) (v11 : Int32) (v46 : Int32) (v47 : Int32) (v48 : Int32) (v49 : Int32) (a41 : Nat → Int32) (a42 : Nat → Int32) (a43 : Nat → Int32) (a44 : Nat → Int32) (a45 : Nat → Int32) (a3 : Nat → Int32) : (rE u v12 v14 v13 v17 v19 v11 v46 v47 v48 v49 a41 a42 a43 a44 a45 a3).2.1 53 = (u.2.1 53) := rfl
theorem rE_g54 (u : MS) (v12 : Int32) (v14 : Int32) (v13 : Int32) (v17 : Int32) (v19 : Int32) (v11 : Int32) (v46 : Int32) (v47 : Int32) (v48 : Int32) (v49 : Int32) (a41 : Nat → Int32) (a42 : Nat → Int32) (a43 : Nat → Int32) (a44 : Nat → Int32) (a45 : Nat → Int32) (a3 : Nat → Int32) : (rE u v12 v14 v13 v17 v19 v11 v46 v47 v48 v49 a41 a42 a43 a44 a45 a3).2.1 54 = (u.2.1 54) := rfl
theorem rE_g55 (u : MS) (v12 : Int32) (v14 : Int32) (v13 : Int32) (v17 : Int32) (v19 : Int32) (v11 : Int32) (v46 : Int32) (v47 : Int32) (v48 : Int32) (v49 : Int32) (a41 : Nat → Int32) (a42 : Nat → Int32) (a43 : Nat → Int32) (a44 : Nat → Int32) (a45 : Nat → Int32) (a3 : Nat → Int32) : (rE u v12 v14 v13 v17 v19 v11 v46 v47 v48 v49 a41 a42 a43 a44 a45 a3).2.1 55 = (u.2.1 55) := rfl
theorem rE_g56 (u : MS) (v12 : Int32) (v14 : Int32) (v13 : Int32) (v17 : Int32) (v19 : Int32) (v11 : Int32) (v46 : Int32) (v47 : Int32) (v48 : Int32) (v49 : Int32) (a41 : Nat → Int32) (a42 : Nat → Int32) (a43 : Nat → Int32) (a44 : Nat → Int32) (a45 : Nat → Int32) (a3 : Nat → Int32) : (rE u v12 v14 v13 v17 v19 v11 v46 v47 v48 v49 a41 a42 a43 a44 a45 a3).2.1 56 = (u.2.1 56) := rfl
theorem rE_f59 (u : MS) (v12 : Int32) (v14 : Int32) (v13 : Int32) (v17 : Int32) (v19 : Int32) (v11 : Int32) (v46 : Int32) (v47 : Int32) (v48 : Int32) (v49 : Int32) (a41 : Nat → Int32) (a42 : Nat → Int32) (a43 : Nat → Int32) (a44 : Nat → Int32) (a45 : Nat → Int32) (a3 : Nat → Int32) : (rE u v12 v14 v13 v17 v19 v11 v46 v47 v48 v49 a41 a42 a43 a44 a45 a3).1 59 = (u.1 59) := rfl
theorem rE_f60 (u : MS) (v12 : Int32) (v14 : Int32) (v13 : Int32) (v17 : Int32) (v19 : Int32) (v11 : Int32) (v46 : Int32) (v47 : Int32) (v48 : Int32) (v49 : Int32) (a41 : Nat → Int32) (a42 : Nat → Int32) (a43 : Nat → Int32) (a44 : Nat → Int32) (a45 : Nat → Int32) (a3 : Nat → Int32) : (rE u v12 v14 v13 v17 v19 v11 v46 v47 v48 v49 a41 a42 a43 a44 a45 a3).1 60 = (u.1 60) := rfl
/-! a rota's text: rounds on a stack -/
def timesC (f : Nat → Int32) (n p : Nat) : Nat := if 50 ≤ ckN f n p ∧ ckN f n p ≤ 57 then ckN f n p - 48 else 1
def timesP (f : Nat → Int32) (n p : Nat) : Nat := if 50 ≤ ckN f n p ∧ ckN f n p ≤ 57 then p + 1 else p
def isOneC (c : Nat) : Bool := decide (c = 45) || (decide (97 ≤ c) && decide (c < 113))
def oneV (c : Nat) : Int32 := if c = 45 then -1 else nI (c - 97)
def repF {α : Type} (r : Nat → α) (a sz t : Nat) : Nat → α := fun k => if a + sz ≤ k ∧ k < a + sz * t then r (a + (k - a) % sz) else r k
def updG {α : Type} (r : Nat → α) (k : Nat) (x : α) : Nat → α := fun j => if j = k then x else r j
abbrev Rnd : Type := Nat × Nat × Nat
abbrev ClR : Type := (Nat × Nat) ⊕ (Nat × (Nat → Int32) × (Nat → Nat))
def clk (f : Nat → Int32) (n : Nat) : Nat → Bool → Nat → Nat → (Nat → Int32) → (Nat → Nat) → List Rnd → ClR
  | 0, _, _, _, _, _, _ => .inl (0, 0)
  | k + 1, true, p, m, row, pls, sg =>
    if ckN f n (timesP f n p) = 40 then (if sg.length = 2 then .inl (5, timesP f n p) else clk f n k true (timesP f n p + 1) m row pls ((p, m, timesC f n p) :: sg))
    else if isOneC (ckN f n (timesP f n p)) = true then
      (if 12 < m + timesC f n p then .inl (6, p)
       else clk f n k false (timesP f n p + 1) (m + timesC f n p) (repF (updG row m (oneV (ckN f n (timesP f n p)))) m 1 (timesC f n p)) (repF (updG pls m (timesP f n p)) m 1 (timesC f n p)) sg)
    else .inl (1, timesP f n p)
  | k + 1, false, p, m, row, pls, [] => if p < n then clk f n k true p m row pls [] else .inr (m, row, pls)
  | k + 1, false, p, m, row, pls, x :: sg =>
    if ckN f n p = 41 then (if 12 < x.2.1 + (m - x.2.1) * x.2.2 then .inl (6, x.1) else clk f n k false (p + 1) (x.2.1 + (m - x.2.1) * x.2.2) (repF row x.2.1 (m - x.2.1) x.2.2) (repF pls x.2.1 (m - x.2.1) x.2.2) sg)
    else clk f n k true p m row pls (x :: sg)
def clkW (f : Nat → Int32) (n : Nat) : ClR := clk f n (2 * n + 3) true 0 0 (fun _ => 0) (fun _ => 0) []
/-- the first place for which something holds -/
def fstN (c : Nat → Bool) : Nat → Option Nat
  | 0 => none
  | k + 1 => match fstN c k with
    | some j => some j
    | none => if c k = true then some k else none
def toldC (hs : Int32) (row : Nat → Int32) (k : Nat) : Bool := !decide (row k = -1) && !isHouseB hs (row k)
def roW (f : Nat → Int32) (n : Nat) (hs : Int32) : ClR := match clkW f n with
  | .inl e => .inl e
  | .inr s => match fstN (toldC hs s.2.1) s.1 with
    | some j => .inl (7, s.2.2 j)
    | none => .inr s
def roG (tp n : Int32) : Bool := inB n 1 60 && !decide (tp < n)
def roR (f : Nat → Int32) (tp n hs : Int32) : Option ClR := if roG tp n = true then some (roW f (ix n) hs) else none
def roV (r : Option ClR) : Int32 := match r with
  | none => -1
  | some (.inl e) => wrI e.1 e.2
  | some (.inr s) => nI s.1
def roOut (r : Option ClR) (ro0 ro : Nat → Int32) : Prop := match r with
  | some (.inr s) => ∀ t, t < 12 → ro t = if t < s.1 then s.2.1 t else -1
  | _ => ro = ro0
theorem timesP_b (f : Nat → Int32) (n p : Nat) : p ≤ timesP f n p ∧ timesP f n p ≤ p + 1 ∧ (p < timesP f n p → p < n) := by
  unfold timesP
  split
  · rename_i h
    have : p < n := Nat.not_le.mp fun q => by rw [ckN_f (by omega)] at h; omega
    omega
  · omega
theorem timesC_b (f : Nat → Int32) (n p : Nat) : 1 ≤ timesC f n p ∧ timesC f n p ≤ 9 := by
  unfold timesC; split <;> omega
theorem isOne_in {f : Nat → Int32} {n p : Nat} (h : isOneC (ckN f n p) = true) : p < n := Nat.not_le.mp fun q => by
  rw [ckN_f (by omega)] at h; exact absurd h (by decide)
/-- the arrays hold rows up to m -/
def rowsR (row : Nat → Int32) (pls : Nat → Nat) (m : Nat) (a b : Nat → Int32) : Prop := ∀ k, k < m → a k = row k ∧ b k = nI (pls k)
def stkR (sg : List Rnd) (fr at_ ti : Nat → Int32) : Prop := match sg with
  | [] => True
  | [a] => fr 0 = nI a.1 ∧ at_ 0 = nI a.2.1 ∧ ti 0 = nI a.2.2
  | [b, a] => (fr 0 = nI a.1 ∧ at_ 0 = nI a.2.1 ∧ ti 0 = nI a.2.2) ∧ (fr 1 = nI b.1 ∧ at_ 1 = nI b.2.1 ∧ ti 1 = nI b.2.2)
  | _ => False
/-- what holds of a stack: places within the text, starts below m, times 1..9 -/
def stkG (n m : Nat) (sg : List Rnd) : Prop := sg.length ≤ 2 ∧ ∀ x ∈ sg, x.1 ≤ n ∧ x.2.1 ≤ m ∧ 1 ≤ x.2.2 ∧ x.2.2 ≤ 9
theorem stkR_push {sg : List Rnd} {fr at_ ti : Nat → Int32} {x : Rnd} (h : stkR sg fr at_ ti) (hl : sg.length < 2) : stkR (x :: sg) (upd fr sg.length (nI x.1)) (upd at_ sg.length (nI x.2.1)) (upd ti sg.length (nI x.2.2)) := by
  match sg, h, hl with
  | [], _, _ => exact ⟨rfl, rfl, rfl⟩
  | [a], h, _ => exact ⟨h, ⟨rfl, rfl, rfl⟩⟩
theorem stkR_pop {sg : List Rnd} {fr at_ ti : Nat → Int32} {x : Rnd} (h : stkR (x :: sg) fr at_ ti) : stkR sg fr at_ ti ∧ fr sg.length = nI x.1 ∧ at_ sg.length = nI x.2.1 ∧ ti sg.length = nI x.2.2 := by
  match sg, h with
  | [], h => exact ⟨trivial, h⟩
  | [a], h => exact ⟨h.1, h.2⟩
theorem stkG_push {n m p t : Nat} {sg : List Rnd} (h : stkG n m sg) (hl : sg.length < 2) (hp : p ≤ n) (ht : 1 ≤ t ∧ t ≤ 9) : stkG n m ((p, m, t) :: sg) :=
  ⟨by show sg.length + 1 ≤ 2; omega, fun x hx => by
    rcases List.mem_cons.mp hx with e | e
    · subst e; exact ⟨hp, Nat.le_refl _, ht.1, ht.2⟩
    · exact h.2 x e⟩
theorem stkG_pop {n m m' : Nat} {sg : List Rnd} {x : Rnd} (h : stkG n m (x :: sg)) (hm : m ≤ m') : stkG n m' sg := ⟨by have : sg.length + 1 ≤ 2 := h.1; omega, fun y hy => by have := h.2 y (List.mem_cons_of_mem _ hy); omega⟩
theorem stkG_up {n m m' : Nat} {sg : List Rnd} (h : stkG n m sg) (hm : m ≤ m') : stkG n m' sg := ⟨h.1, fun y hy => by have := h.2 y hy; omega⟩
theorem repF_lo {α : Type} {r : Nat → α} {a sz t k : Nat} (h : k < a + sz) : repF r a sz t k = r k := if_neg (by omega)
theorem repF_s {α : Type} {r : Nat → α} {a sz t k : Nat} (h1 : a + sz ≤ k) (h2 : k < a + sz * t) : repF r a sz t (k - sz) = repF r a sz t k := by
  by_cases hz : sz = 0
  · subst hz; rw [Nat.sub_zero]
  have e2 : repF r a sz t k = r (a + (k - a) % sz) := if_pos ⟨h1, h2⟩
  rw [e2, show k - a = (k - sz - a) + sz by omega, Nat.add_mod_right]
  by_cases q : a + sz ≤ k - sz
  · exact if_pos ⟨q, by omega⟩
  · rw [repF_lo (by omega), Nat.mod_eq_of_lt (by omega), show a + (k - sz - a) = k - sz by omega]
def repI (row : Nat → Int32) (pls : Nat → Nat) (a sz t k : Nat) (x y : Nat → Int32) : Prop := ∀ i, i < k → x i = repF row a sz t i ∧ y i = nI (repF pls a sz t i)
theorem repI_0 {row : Nat → Int32} {pls : Nat → Nat} {a sz t m : Nat} {x y : Nat → Int32} (h : rowsR row pls m x y) (hm : m = a + sz) : repI row pls a sz t (a + sz) x y := fun i hi => by
  rw [repF_lo hi, repF_lo hi]; exact h i (by omega)
theorem repI_s {row : Nat → Int32} {pls : Nat → Nat} {a sz t k : Nat} {x y : Nat → Int32} (hz : 1 ≤ sz) (h1 : a + sz ≤ k) (h2 : k < a + sz * t) (h : repI row pls a sz t k x y) : repI row pls a sz t (k + 1) (upd x k (x (k - sz))) (upd y k (y (k - sz))) := fun i hi => by
  by_cases e : i = k
  · subst e
    rw [upd_s, upd_s, ← repF_s h1 h2, ← repF_s h1 h2]; exact h _ (by omega)
  · rw [upd_n _ e, upd_n _ e]; exact h i (by omega)
def repPost (row : Nat → Int32) (pls : Nat → Nat) (m a t wh : Nat) (ok : Bool) (fa tm : Int32) (x y : Nat → Int32) : Prop :=
  if 12 < a + (m - a) * t then ok = false ∧ fa = wrI 6 wh else ok = true ∧ tm = nI (a + (m - a) * t) ∧ rowsR (repF row a (m - a) t) (repF pls a (m - a) t) (a + (m - a) * t) x y
theorem repP_f {row : Nat → Int32} {pls : Nat → Nat} {m a t wh : Nat} {ok : Bool} {fa tm : Int32} {x y : Nat → Int32} (h : repPost row pls m a t wh ok fa tm x y) (hk : ok = false) : 12 < a + (m - a) * t ∧ fa = wrI 6 wh := by
  unfold repPost at h
  split at h
  · rename_i q; exact ⟨q, h.2⟩
  · rw [h.1] at hk; exact Bool.noConfusion hk
theorem repP_t {row : Nat → Int32} {pls : Nat → Nat} {m a t wh : Nat} {ok : Bool} {fa tm : Int32} {x y : Nat → Int32} (h : repPost row pls m a t wh ok fa tm x y) (hk : ok = true) : ¬ 12 < a + (m - a) * t ∧ tm = nI (a + (m - a) * t) ∧ rowsR (repF row a (m - a) t) (repF pls a (m - a) t) (a + (m - a) * t) x y := by
  unfold repPost at h
  split at h
  · rw [h.1] at hk; exact Bool.noConfusion hk
  · rename_i q; exact ⟨q, h.2.1, h.2.2⟩
theorem rowsR_upd {row : Nat → Int32} {pls : Nat → Nat} {m p : Nat} {x y : Nat → Int32} {v : Int32} (h : rowsR row pls m x y) : rowsR (updG row m v) (updG pls m p) (m + 1) (upd x m v) (upd y m (nI p)) := fun k hk => by
  by_cases e : k = m
  · subst e; rw [upd_s, upd_s]; unfold updG; rw [if_pos rfl, if_pos rfl]; exact ⟨rfl, rfl⟩
  · rw [upd_n _ e, upd_n _ e]; unfold updG; rw [if_neg e, if_neg e]; exact h k (by omega)
theorem inB_dig {f : Nat → Int32} {n p : Nat} : inB (hereI f n p) 50 57 = decide (50 ≤ ckN f n p ∧ ckN f n p ≤ 57) := by
  by_cases h : p < n
  · have hb := ocN_lt f p
    rw [hereI_t h, ckN_t h]
    have h1 : ((50 : Int32) ≤ nI (ocN f p)) ↔ 50 ≤ ocN f p := nI_leI (a := 50) (by omega) (by omega)
    have h2 : (nI (ocN f p) ≤ (57 : Int32)) ↔ ocN f p ≤ 57 := nI_leI (b := 57) (by omega) (by omega)
    simp only [inB, h1, h2, Bool.decide_and]
  · rw [hereI_f h, ckN_f h]; rfl
theorem hereI_ck {f : Nat → Int32} {n p : Nat} (h : ckN f n p < 256) : hereI f n p = nI (ckN f n p) := by
  by_cases q : p < n
  · rw [hereI_t q, ckN_t q]
  · rw [ckN_f q] at h; omega
/-- what a letter of a rota is, on the side of the reference -/
theorem oneI_in {f : Nat → Int32} {n p : Nat} : inB (hereI f n p - 97) (-1) 15 = decide (96 ≤ ckN f n p ∧ ckN f n p < 113) := by
  by_cases h : p < n
  · have hb := ocN_lt f p
    rw [hereI_t h, ckN_t h]
    have key : ∀ c, c < 256 → inB (nI c - 97) (-1) 15 = decide (96 ≤ c ∧ c < 113) := by decide +kernel
    exact key _ hb
  · rw [hereI_f h, ckN_f h]; rfl
section CLK
variable {f : Nat → Int32} {n fu p m : Nat} {row : Nat → Int32} {pls : Nat → Nat} {sg : List Rnd} {x : Rnd}
theorem clk_push (hf : 1 ≤ fu) (h : ckN f n (timesP f n p) = 40) (hl : ¬ sg.length = 2) : clk f n fu true p m row pls sg = clk f n (fu - 1) true (timesP f n p + 1) m row pls ((p, m, timesC f n p) :: sg) := by
  obtain ⟨k, rfl⟩ : ∃ k, fu = k + 1 := ⟨fu - 1, by omega⟩
  show (if _ then _ else _) = _
  rw [if_pos h, if_neg hl]; rfl
theorem clk_5 (hf : 1 ≤ fu) (h : ckN f n (timesP f n p) = 40) (hl : sg.length = 2) : clk f n fu true p m row pls sg = .inl (5, timesP f n p) := by
  obtain ⟨k, rfl⟩ : ∃ k, fu = k + 1 := ⟨fu - 1, by omega⟩
  show (if _ then _ else _) = _
  rw [if_pos h, if_pos hl]
theorem clk_1 (hf : 1 ≤ fu) (h : ¬ ckN f n (timesP f n p) = 40) (hl : isOneC (ckN f n (timesP f n p)) = false) : clk f n fu true p m row pls sg = .inl (1, timesP f n p) := by
  obtain ⟨k, rfl⟩ : ∃ k, fu = k + 1 := ⟨fu - 1, by omega⟩
  show (if _ then _ else _) = _
  rw [if_neg h, if_neg (by rw [hl]; decide)]
theorem clk_6 (hf : 1 ≤ fu) (h : ¬ ckN f n (timesP f n p) = 40) (hl : isOneC (ckN f n (timesP f n p)) = true) (h6 : 12 < m + timesC f n p) : clk f n fu true p m row pls sg = .inl (6, p) := by
  obtain ⟨k, rfl⟩ : ∃ k, fu = k + 1 := ⟨fu - 1, by omega⟩
  show (if _ then _ else _) = _
  rw [if_neg h, if_pos hl, if_pos h6]
theorem clk_one (hf : 1 ≤ fu) (h : ¬ ckN f n (timesP f n p) = 40) (hl : isOneC (ckN f n (timesP f n p)) = true) (h6 : ¬ 12 < m + timesC f n p) : clk f n fu true p m row pls sg = clk f n (fu - 1) false (timesP f n p + 1) (m + timesC f n p) (repF (updG row m (oneV (ckN f n (timesP f n p)))) m 1 (timesC f n p)) (repF (updG pls m (timesP f n p)) m 1 (timesC f n p)) sg := by
  obtain ⟨k, rfl⟩ : ∃ k, fu = k + 1 := ⟨fu - 1, by omega⟩
  show (if _ then _ else _) = _
  rw [if_neg h, if_pos hl, if_neg h6]; rfl
theorem clk_popf (hf : 1 ≤ fu) (h : ckN f n p = 41) (h6 : 12 < x.2.1 + (m - x.2.1) * x.2.2) : clk f n fu false p m row pls (x :: sg) = .inl (6, x.1) := by
  obtain ⟨k, rfl⟩ : ∃ k, fu = k + 1 := ⟨fu - 1, by omega⟩
  show (if _ then _ else _) = _
  rw [if_pos h, if_pos h6]
theorem clk_pop (hf : 1 ≤ fu) (h : ckN f n p = 41) (h6 : ¬ 12 < x.2.1 + (m - x.2.1) * x.2.2) : clk f n fu false p m row pls (x :: sg) = clk f n (fu - 1) false (p + 1) (x.2.1 + (m - x.2.1) * x.2.2) (repF row x.2.1 (m - x.2.1) x.2.2) (repF pls x.2.1 (m - x.2.1) x.2.2) sg := by
  obtain ⟨k, rfl⟩ : ∃ k, fu = k + 1 := ⟨fu - 1, by omega⟩
  show (if _ then _ else _) = _
  rw [if_pos h, if_neg h6]; rfl
theorem clk_go (hf : 1 ≤ fu) (h : ¬ (ckN f n p = 41 ∧ sg ≠ [])) (hp : p < n ∨ sg ≠ []) : clk f n fu false p m row pls sg = clk f n (fu - 1) true p m row pls sg := by
  obtain ⟨k, rfl⟩ : ∃ k, fu = k + 1 := ⟨fu - 1, by omega⟩
  cases sg with
  | nil => show (if _ then _ else _) = _; rw [if_pos (hp.elim (fun z => z) (fun z => absurd rfl z))]; rfl
  | cons x sg => show (if _ then _ else _) = _; rw [if_neg (fun z => h ⟨z, by simp⟩)]; rfl
theorem clk_end (hf : 1 ≤ fu) (hp : ¬ (p < n ∨ sg ≠ [])) : clk f n fu false p m row pls sg = .inr (m, row, pls) := by
  obtain ⟨k, rfl⟩ : ∃ k, fu = k + 1 := ⟨fu - 1, by omega⟩
  cases sg with
  | nil => show (if _ then _ else _) = _; rw [if_neg (fun z => hp (Or.inl z))]
  | cons x sg => exact absurd (Or.inr (by simp)) hp
end CLK
def tnPost (R : ClR) (f : Nat → Int32) (n b : Nat) (ok : Bool) (pl fa tm rd : Int32) (x y F A T : Nat → Int32) : Prop :=
  if ok = true then ∃ p m row pls sg fu, R = clk f n fu false p m row pls sg ∧ 2 * (n + 1 - p) + 2 ≤ fu ∧ p ≤ n ∧ m ≤ 12 ∧ pl = nI p ∧ tm = nI m ∧ rd = nI sg.length ∧ rowsR row pls m x y ∧ stkR sg F A T ∧ stkG n m sg ∧ ¬ (ckN f n p = 41 ∧ sg ≠ []) ∧ n + 1 ≤ p + b
  else ∃ e, R = .inl e ∧ fa = wrI e.1 e.2
theorem tnP_f {R : ClR} {f : Nat → Int32} {n b : Nat} {ok : Bool} {pl fa tm rd : Int32} {x y F A T : Nat → Int32} (h : tnPost R f n b ok pl fa tm rd x y F A T) (hk : ok = false) : ∃ e, R = .inl e ∧ fa = wrI e.1 e.2 := by
  unfold tnPost at h; rw [if_neg (by rw [hk]; decide)] at h; exact h
theorem tnP_t {R : ClR} {f : Nat → Int32} {n b : Nat} {ok : Bool} {pl fa tm rd : Int32} {x y F A T : Nat → Int32} (h : tnPost R f n b ok pl fa tm rd x y F A T) (hk : ok = true) : ∃ p m row pls sg fu, R = clk f n fu false p m row pls sg ∧ 2 * (n + 1 - p) + 2 ≤ fu ∧ p ≤ n ∧ m ≤ 12 ∧ pl = nI p ∧ tm = nI m ∧ rd = nI sg.length ∧ rowsR row pls m x y ∧ stkR sg F A T ∧ stkG n m sg ∧ ¬ (ckN f n p = 41 ∧ sg ≠ []) ∧ n + 1 ≤ p + b := by
  unfold tnPost at h; rw [if_pos hk] at h; exact h
theorem tnP_bad {R : ClR} {f : Nat → Int32} {n b0 : Nat} {pl tm rd : Int32} {x y F A T : Nat → Int32} {a b : Nat} (h : R = .inl (a, b)) : tnPost R f n b0 false pl (wrI a b) tm rd x y F A T := by
  unfold tnPost; rw [if_neg (by decide)]; exact ⟨(a, b), h, rfl⟩
theorem fstN_s {c : Nat → Bool} {k : Nat} (h : fstN c k = none) (hc : c k = false) : fstN c (k + 1) = none := by
  show (match fstN c k with | some j => some j | none => if c k = true then some k else none) = none
  rw [h]; exact if_neg (by rw [hc]; decide)
theorem fstN_t {c : Nat → Bool} {k : Nat} (h : fstN c k = none) (hc : c k = true) {n : Nat} (hk : k < n) : fstN c n = some k := by
  induction n with
  | zero => omega
  | succ n ih =>
    show (match fstN c n with | some j => some j | none => if c n = true then some n else none) = some k
    by_cases e : k = n
    · subst e; rw [h]; exact if_pos hc
    · rw [ih (by omega)]
theorem one97 {f : Nat → Int32} {n p : Nat} (h1 : 96 ≤ ckN f n p) (h2 : ckN f n p < 113) (h : ¬ hereI f n p - 97 = -1) : 97 ≤ ckN f n p := by
  refine Nat.lt_of_le_of_ne h1 (fun z => h ?_)
  rw [hereI_ck (by omega), ← z]; rfl
theorem one96 {f : Nat → Int32} {n p : Nat} (h1 : 96 ≤ ckN f n p) (h2 : ckN f n p < 113) (h : hereI f n p - 97 = -1) : ckN f n p = 96 := by
  refine Nat.le_antisymm (Nat.not_lt.mp fun z => ?_) h1
  rw [hereI_ck (by omega)] at h
  have h3 : nI (ckN f n p) - 97 = nI (ckN f n p - 97) := pk_sub (b := 97) z
  rw [h3] at h
  exact nI_neg (by omega) (by decide) h
theorem cons_of {sg : List Rnd} (h : 0 < sg.length) : ∃ a b, sg = a :: b := by
  cases sg with
  | nil => exact absurd h (by decide)
  | cons a b => exact ⟨a, b, rfl⟩
theorem one_f1 {c : Nat} (h1 : ¬ c = 45) (h2 : ¬ (96 ≤ c ∧ c < 113)) : isOneC c = false := by
  unfold isOneC
  rw [decide_eq_false h1, Bool.false_or]
  by_cases q : 97 ≤ c
  · rw [decide_eq_false (p := c < 113) (by omega), Bool.and_false]
  · rw [decide_eq_false q, Bool.false_and]
theorem one_f2 {c : Nat} (h : c = 96) : isOneC c = false := by subst h; rfl
theorem one_t {c : Nat} (h1 : 97 ≤ c) (h2 : c < 113) : isOneC c = true := by
  unfold isOneC
  rw [decide_eq_true h1, decide_eq_true h2]; simp
def tdPost (hs : Int32) (row : Nat → Int32) (pls : Nat → Nat) (m : Nat) (ok : Bool) (fa : Int32) : Prop := match fstN (toldC hs row) m with
  | some j => ok = false ∧ fa = wrI 7 (pls j)
  | none => ok = true
theorem tdP_f {hs : Int32} {row : Nat → Int32} {pls : Nat → Nat} {m : Nat} {ok : Bool} {fa : Int32} (h : tdPost hs row pls m ok fa) (hk : ok = false) : ∃ j, fstN (toldC hs row) m = some j ∧ fa = wrI 7 (pls j) := by
  unfold tdPost at h
  split at h
  · rename_i j e; exact ⟨j, e, h.2⟩
  · rw [h] at hk; exact Bool.noConfusion hk
theorem tdP_t {hs : Int32} {row : Nat → Int32} {pls : Nat → Nat} {m : Nat} {ok : Bool} {fa : Int32} (h : tdPost hs row pls m ok fa) (hk : ok = true) : fstN (toldC hs row) m = none := by
  unfold tdPost at h
  split at h
  · rw [h.1] at hk; exact Bool.noConfusion hk
  · rename_i e; exact e
theorem roW_f {f : Nat → Int32} {n : Nat} {hs : Int32} {e : Nat × Nat} (h : clkW f n = .inl e) : roW f n hs = .inl e := by unfold roW; rw [h]
theorem roW_7 {f : Nat → Int32} {n : Nat} {hs : Int32} {m j : Nat} {row : Nat → Int32} {pls : Nat → Nat} (h : clkW f n = .inr (m, row, pls)) (hj : fstN (toldC hs row) m = some j) : roW f n hs = .inl (7, pls j) := by
  unfold roW; rw [h]; show (match fstN (toldC hs row) m with | some j => _ | none => _) = _; rw [hj]
theorem roW_t {f : Nat → Int32} {n : Nat} {hs : Int32} {m : Nat} {row : Nat → Int32} {pls : Nat → Nat} (h : clkW f n = .inr (m, row, pls)) (hj : fstN (toldC hs row) m = none) : roW f n hs = .inr (m, row, pls) := by
  unfold roW; rw [h]; show (match fstN (toldC hs row) m with | some j => _ | none => _) = _; rw [hj]
def roC (row : Nat → Int32) (m k : Nat) (ro : Nat → Int32) : Prop := ∀ t, t < k → ro t = if t < m then row t else -1
theorem roC_s {row : Nat → Int32} {m k : Nat} {ro : Nat → Int32} {v : Int32} (h : roC row m k ro) (hv : v = if k < m then row k else -1) : roC row m (k + 1) (upd ro k v) := fun t ht => by
  by_cases e : t = k
  · subst e; rw [upd_s]; exact hv
  · rw [upd_n _ e]; exact h t (by omega)
