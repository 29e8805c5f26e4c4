set_option maxRecDepth 100000
/-! the component: versions, changes, policies, tariffs -/
/-- what a version holds: values, and whether it is covered -/
abbrev VW : Type := (Nat → Int32) × Int32
def VP (Γ : GP) (G : GH) (v : Nat) (w : VW) : Prop := ∃ (ar : Nat) (f : Nat → Int32), G v = some ((27, 0), .inr (5, [.ref ar, .int w.2])) ∧ G ar = some ((28, 0), .inl (Γ.2 1, 3, .inl f)) ∧ (∀ j, j < 3 → f j = w.1 j) ∧ (w.2 = 0 ∨ w.2 = 1)
theorem VP.keep {Γ : GP} {G G1 : GH} {v : Nat} {w : VW} {T : Nat × Nat → Prop} (h : VP Γ G v w) (hk : gK T G G1) (h1 : ¬ T (27, 0)) (h2 : ¬ T (28, 0)) : VP Γ G1 v w := by
  obtain ⟨ar, f, a1, a2, a3, a4⟩ := h
  exact ⟨ar, f, hk _ _ a1 h1, hk _ _ a2 h2, a3, a4⟩
def bnd (x : Int32) : Int32 := if x < 0 then 0 else if 20 < x then 20 else x
theorem bnd_eq (y : Int32) : (if 0 < (if y < 20 then y else 20) then (if y < 20 then y else 20) else 0) = bnd y := by
  unfold bnd
  have e0 : (0 : Int32).toInt = 0 := rfl
  have e20 : (20 : Int32).toInt = 20 := rfl
  by_cases h1 : y < 20
  · rw [if_pos h1]
    have h1' := Int32.lt_iff_toInt_lt.mp h1
    have h3 : ¬ (20 < y) := fun h => by have := Int32.lt_iff_toInt_lt.mp h; omega
    by_cases h2 : y < 0
    · have h4 : ¬ (0 < y) := fun h => by have := Int32.lt_iff_toInt_lt.mp h; have := Int32.lt_iff_toInt_lt.mp h2; omega
      rw [if_pos h2, if_neg h4]
    · rw [if_neg h2, if_neg h3]
      by_cases h4 : 0 < y
      · rw [if_pos h4]
      · rw [if_neg h4]
        apply Int32.toInt_inj.mp
        have a1 : ¬ y.toInt < (0 : Int32).toInt := fun h => h2 (Int32.lt_iff_toInt_lt.mpr h)
        have a2 : ¬ (0 : Int32).toInt < y.toInt := fun h => h4 (Int32.lt_iff_toInt_lt.mpr h)
        omega
  · rw [if_neg h1]
    have h1' : ¬ y.toInt < (20 : Int32).toInt := fun h => h1 (Int32.lt_iff_toInt_lt.mpr h)
    have h2 : ¬ y < 0 := fun h => by have := Int32.lt_iff_toInt_lt.mp h; omega
    rw [if_neg h2, if_pos (by decide)]
    by_cases h3 : 20 < y
    · rw [if_pos h3]
    · rw [if_neg h3]
      apply Int32.toInt_inj.mp
      have a2 : ¬ (20 : Int32).toInt < y.toInt := fun h => h3 (Int32.lt_iff_toInt_lt.mpr h)
      omega
/-- what a change does -/
def apk (kind which number : Int32) (w : VW) : VW := if kind = 0 then (va_up w.1 which.toNatClampNeg number, w.2) else if kind = 1 then (va_up w.1 which.toNatClampNeg (bnd (w.1 which.toNatClampNeg + number)), w.2) else if kind = 2 then (w.1, 0) else (w.1, 1)
theorem upd_up {f g : Nat → Int32} {i : Nat} {x : Int32} (h : ∀ j, j < 3 → f j = g j) : ∀ j, j < 3 → upd f i x j = va_up g i x j := by
  intro j hj
  unfold upd va_up
  split
  · rfl
  · exact h j hj

set_option maxHeartbeats 4000000 in
theorem c_X6i (l : Launch) (Γ : GP) (G : GH) {v : Nat} (hv : G v = some ((27, 0), .inr (5, [.null, .int 0]))) : MetG l yX6_init (ws_ yX6_init cX6_init 1 none) (RM 2 1 3) Γ G [.ref v] (fun u G1 => u = none ∧ VP Γ G1 v (fun _ => 0, 1) ∧ gK (fun t => t = (27, 0) ∨ t = (28, 0)) G G1) 1 3 := by
  refine gMet (own := RX6) (by decide) rfl (Nat.le_of_ble_eq_true rfl) ?_
  intro pp ee ss mm below meth cc0 ls X hr hlk hin hnm hR hS hl
  have hl : lv_has ls 1 [(0, .ref v)] := hl
  refine lv_aload_n X.hx X.hb dX6_init_0 rfl (lv_at hl 0 rfl) ?_
  refine W.objInit X.hx X.hb X.hown (X.hts _ q745) (X.hts _ q87) (X.hts _ q88) rfl (by rw [X.hml]; exact hl.1) rfl dX6_init_1 (Nat.le_of_ble_eq_true rfl) (Nat.le_of_ble_eq_true rfl) ?_
  refine W.eq (g2 := F0 mm 4 ls []) rfl ?_
  refine lv_aload_n X.hx X.hb dX6_init_4 rfl (lv_at hl 0 rfl) ?_
  refine lv_iconst (v := 3) X.hx X.hb dX6_init_5 (by decide) ?_
  refine g_newa (atype := .int) (ty := .int) (N := 3) (a0 := (3, .inl (fun _ => 0))) X hR hS (28, 0) 0 q134 rfl rfl (fun _ h => h) (fun _ => rfl) (by decide) (by decide) (by decide) (by (try dsimp only [RM]); omega) (by (try dsimp only [RM]); omega) dX6_init_6 (fun q197 H hq199 hR198 hS200 => ?_)
  obtain ⟨G201, hG201⟩ : ∃ z : GH, z = gu G q197 ((28, 0), .inl (Γ.2 1, 3, .inl (fun _ => 0))) := ⟨_, rfl⟩
  have hR198 : Rep Γ G201 H := by rw [hG201]; exact hR198
  have f202 : G201 v = some ((27, 0), .inr (5, [.null, .int 0])) := by rw [hG201]; exact gu_f hv hq199
  have f203 : G201 q197 = some ((28, 0), .inl (Γ.2 1, 3, .inl (fun _ => 0))) := by rw [hG201]; exact gu_s _ _ _
  refine g_putF X hR198 hS200 f202 (Nat.le_of_ble_eq_true rfl) rfl in_X6 tyX6 tyX6_ok nmX6 0 (by decide) q746 (fun _ h => h) rfl hin rfl rfl rfl (Nat.le_of_ble_eq_true rfl) dX6_init_8 (fun H locs hR204 hS205 => ?_)
  obtain ⟨G206, hG206⟩ : ∃ z : GH, z = gu G201 v ((27, 0), .inr (5, [.ref q197, .int 0])) := ⟨_, rfl⟩
  have hR204 : Rep Γ G206 H := by rw [hG206]; exact hR204
  have f207 : G206 q197 = some ((28, 0), .inl (Γ.2 1, 3, .inl (fun _ => 0))) := by rw [hG206]; exact (gu_n (Ne.symm (fne hv hq199))).trans f203
  have f208 : G206 v = some ((27, 0), .inr (5, [.ref q197, .int 0])) := by rw [hG206]; exact gu_s _ _ _
  refine lv_aload_n X.hx X.hb dX6_init_11 rfl (lv_at hl 0 rfl) ?_
  refine lv_iconst (v := 1) X.hx X.hb dX6_init_12 (by decide) ?_
  refine g_put X hR204 hS205 f208 (Nat.le_of_ble_eq_true rfl) rfl in_X6 tyX6 tyX6_ok nmX6 1 (by decide) q748 (fun _ h => h) rfl rfl rfl (Nat.le_of_ble_eq_true rfl) dX6_init_13 (fun H locs hR209 hS210 => ?_)
  obtain ⟨G211, hG211⟩ : ∃ z : GH, z = gu G206 v ((27, 0), .inr (5, [.ref q197, .int 1])) := ⟨_, rfl⟩
  have hR209 : Rep Γ G211 H := by rw [hG211]; exact hR209
  have f212 : G211 q197 = some ((28, 0), .inl (Γ.2 1, 3, .inl (fun _ => 0))) := by rw [hG211]; exact (gu_n (Ne.symm (fne hv hq199))).trans f207
  have f213 : G211 v = some ((27, 0), .inr (5, [.ref q197, .int 1])) := by rw [hG211]; exact gu_s _ _ _
  exact g_vret X hr hlk hR209 hS210 (⟨rfl, ⟨q197, _, f213, f212, fun _ _ => rfl, Or.inr rfl⟩, (gK.tr (gK.tr (gK.nw hG201 hq199) (gK.pt hG206 f202 (Or.inl rfl))) (gK.pt hG211 f208 (Or.inl rfl)))⟩) (by (try dsimp only [RM]); omega) (by (try dsimp only [RM]); omega) dX6_init_16

set_option maxHeartbeats 4000000 in
theorem c_lchange (l : Launch) (Γ : GP) (G : GH) {v : Nat} {w : VW} {x y : Int32} (hVP : VP Γ G v w) (hin3 : vp_in x 3) : MetG l yX1_lambda_change_0 (ws_ yX1_lambda_change_0 cX1_lambda_change_0 3 none) (RM 1 0 0) Γ G [.int x, .int y, .ref v] (fun u G1 => u = none ∧ VP Γ G1 v (apk 0 x y w) ∧ gK (fun t => t = (27, 0) ∨ t = (28, 0)) G G1) 0 0 := by
  refine gMet (own := RX1) (by decide) rfl (Nat.le_of_ble_eq_true rfl) ?_
  intro pp ee ss mm below meth cc0 ls X hr hlk hin hnm hR hS hl
  have hl : lv_has ls 3 [(0, .int x), (1, .int y), (2, .ref v)] := hl
  obtain ⟨ar, f, hv, har, hf, hon⟩ := hVP
  refine lv_aload_n X.hx X.hb dX1_lambda_change_0_0 rfl (lv_at hl 2 rfl) ?_
  refine g_getN X hR hv rfl in_X6 0 (by decide) kq747 (fun _ h => h) rfl dX1_lambda_change_0_1 ?_
  refine lv_iload_n X.hx X.hb dX1_lambda_change_0_4 rfl (lv_at hl 0 rfl) ?_
  refine lv_iload_n X.hx X.hb dX1_lambda_change_0_5 rfl (lv_at hl 1 rfl) ?_
  refine g_iast X hR hS har (Nat.le_of_ble_eq_true rfl) hin3 dX1_lambda_change_0_6 (fun H locs hR214 hS215 => ?_)
  obtain ⟨G216, hG216⟩ : ∃ z : GH, z = gu G ar ((28, 0), .inl (Γ.2 1, 3, .inl (upd f x.toNatClampNeg y))) := ⟨_, rfl⟩
  have hR214 : Rep Γ G216 H := by rw [hG216]; exact hR214
  have f217 : G216 v = some ((27, 0), .inr (5, [.ref ar, .int w.2])) := by rw [hG216]; exact gu_t hv har (tne rfl)
  have f218 : G216 ar = some ((28, 0), .inl (Γ.2 1, 3, .inl (upd f x.toNatClampNeg y))) := by rw [hG216]; exact gu_s _ _ _
  exact g_vret X hr hlk hR214 hS215 (⟨rfl, ⟨ar, _, f217, f218, upd_up hf, hon⟩, (gK.pt hG216 har (Or.inr rfl))⟩) (by (try dsimp only [RM]); omega) (by (try dsimp only [RM]); omega) dX1_lambda_change_0_7

set_option maxHeartbeats 4000000 in
theorem c_ladd (l : Launch) (Γ : GP) (G : GH) {v : Nat} {w : VW} {x y : Int32} (hVP : VP Γ G v w) (hin3 : vp_in x 3) : MetG l yX1_lambda_add_1 (ws_ yX1_lambda_add_1 cX1_lambda_add_1 3 none) (RM 2 0 0) Γ G [.int x, .int y, .ref v] (fun u G1 => u = none ∧ VP Γ G1 v (apk 1 x y w) ∧ gK (fun t => t = (27, 0) ∨ t = (28, 0)) G G1) 0 0 := by
  refine gMet (own := RX1) (by decide) rfl (Nat.le_of_ble_eq_true rfl) ?_
  intro pp ee ss mm below meth cc0 ls X hr hlk hin hnm hR hS hl
  have hl : lv_has ls 3 [(0, .int x), (1, .int y), (2, .ref v)] := hl
  obtain ⟨ar, f, hv, har, hf, hon⟩ := hVP
  have hx3 : x.toNatClampNeg < 3 := Nat.not_le.mp fun q => hin3 (Or.inr q)
  refine lv_aload_n X.hx X.hb dX1_lambda_add_1_0 rfl (lv_at hl 2 rfl) ?_
  refine g_getN X hR hv rfl in_X6 0 (by decide) kq747 (fun _ h => h) rfl dX1_lambda_add_1_1 ?_
  refine lv_iload_n X.hx X.hb dX1_lambda_add_1_4 rfl (lv_at hl 0 rfl) ?_
  refine lv_iconst (v := 0) X.hx X.hb dX1_lambda_add_1_5 (by decide) ?_
  refine lv_bipush (v := 20) X.hx X.hb dX1_lambda_add_1_6 (by decide) ?_
  refine lv_aload_n X.hx X.hb dX1_lambda_add_1_8 rfl (lv_at hl 2 rfl) ?_
  refine g_getN X hR hv rfl in_X6 0 (by decide) kq747 (fun _ h => h) rfl dX1_lambda_add_1_9 ?_
  refine lv_iload_n X.hx X.hb dX1_lambda_add_1_12 rfl (lv_at hl 0 rfl) ?_
  refine g_iald (v := f x.toNatClampNeg) X hR har hin3 rfl dX1_lambda_add_1_13 ?_
  refine lv_iload_n X.hx X.hb dX1_lambda_add_1_14 rfl (lv_at hl 1 rfl) ?_
  refine lv_iadd X.hx X.hb dX1_lambda_add_1_15 ?_
  refine va_mmin X.hx X.hb (by rw [X.hml]; exact hl.1.symm) X.hown (X.hts _ q682) (X.hts _ q373) (X.hts _ q50) (X.hts _ q374) (Nat.le_of_ble_eq_true rfl) (Nat.le_of_ble_eq_true rfl) (by (try dsimp only [RM]); omega) (by (try dsimp only [RM]); omega) dX1_lambda_add_1_16 ?_
  refine va_mmax X.hx X.hb (by rw [X.hml]; exact hl.1.symm) X.hown (X.hts _ q683) (X.hts _ q329) (X.hts _ q50) (X.hts _ q330) (Nat.le_of_ble_eq_true rfl) (Nat.le_of_ble_eq_true rfl) (by (try dsimp only [RM]); omega) (by (try dsimp only [RM]); omega) dX1_lambda_add_1_19 ?_
  refine lv_topi (fun x219 hx219 => ?_)
  obtain rfl : x219 = bnd (f x.toNatClampNeg + y) := hx219.trans (bnd_eq _)
  refine g_iast X hR hS har (Nat.le_of_ble_eq_true rfl) hin3 dX1_lambda_add_1_22 (fun H locs hR220 hS221 => ?_)
  obtain ⟨G222, hG222⟩ : ∃ z : GH, z = gu G ar ((28, 0), .inl (Γ.2 1, 3, .inl (upd f x.toNatClampNeg (bnd (f x.toNatClampNeg + y))))) := ⟨_, rfl⟩
  have hR220 : Rep Γ G222 H := by rw [hG222]; exact hR220
  have f223 : G222 v = some ((27, 0), .inr (5, [.ref ar, .int w.2])) := by rw [hG222]; exact gu_t hv har (tne rfl)
  have f224 : G222 ar = some ((28, 0), .inl (Γ.2 1, 3, .inl (upd f x.toNatClampNeg (bnd (f x.toNatClampNeg + y))))) := by rw [hG222]; exact gu_s _ _ _
  exact g_vret X hr hlk hR220 hS221 (⟨rfl, ⟨ar, _, f223, f224, by rw [hf _ hx3]; exact upd_up hf, hon⟩, (gK.pt hG222 har (Or.inr rfl))⟩) (by (try dsimp only [RM]); omega) (by (try dsimp only [RM]); omega) dX1_lambda_add_1_23

set_option maxHeartbeats 4000000 in
theorem c_lcancel (l : Launch) (Γ : GP) (G : GH) {v : Nat} {w : VW} {x y : Int32} (hVP : VP Γ G v w) : MetG l yX1_lambda_cancel_2 (ws_ yX1_lambda_cancel_2 cX1_lambda_cancel_2 1 none) (RM 1 0 0) Γ G [.ref v] (fun u G1 => u = none ∧ VP Γ G1 v (apk 2 x y w) ∧ gK (fun t => t = (27, 0) ∨ t = (28, 0)) G G1) 0 0 := by
  refine gMet (own := RX1) (by decide) rfl (Nat.le_of_ble_eq_true rfl) ?_
  intro pp ee ss mm below meth cc0 ls X hr hlk hin hnm hR hS hl
  have hl : lv_has ls 1 [(0, .ref v)] := hl
  obtain ⟨ar, f, hv, har, hf, hon⟩ := hVP
  refine lv_aload_n X.hx X.hb dX1_lambda_cancel_2_0 rfl (lv_at hl 0 rfl) ?_
  refine lv_iconst (v := 0) X.hx X.hb dX1_lambda_cancel_2_1 (by decide) ?_
  refine g_putN X hR hS hv (Nat.le_of_ble_eq_true rfl) rfl in_X6 tyX6 tyX6_ok nmX6 1 (by decide) kq749 (fun _ h => h) rfl rfl rfl (Nat.le_of_ble_eq_true rfl) dX1_lambda_cancel_2_2 (fun H locs hR225 hS226 => ?_)
  obtain ⟨G227, hG227⟩ : ∃ z : GH, z = gu G v ((27, 0), .inr (5, [.ref ar, .int 0])) := ⟨_, rfl⟩
  have hR225 : Rep Γ G227 H := by rw [hG227]; exact hR225
  have f228 : G227 ar = some ((28, 0), .inl (Γ.2 1, 3, .inl f)) := by rw [hG227]; exact gu_t har hv (tne rfl)
  have f229 : G227 v = some ((27, 0), .inr (5, [.ref ar, .int 0])) := by rw [hG227]; exact gu_s _ _ _
  exact g_vret X hr hlk hR225 hS226 (⟨rfl, ⟨ar, _, f229, f228, hf, Or.inl rfl⟩, (gK.pt hG227 hv (Or.inl rfl))⟩) (by (try dsimp only [RM]); omega) (by (try dsimp only [RM]); omega) dX1_lambda_cancel_2_5

set_option maxHeartbeats 4000000 in
theorem c_lreinstate (l : Launch) (Γ : GP) (G : GH) {v : Nat} {w : VW} {x y : Int32} (hVP : VP Γ G v w) : MetG l yX1_lambda_reinstate_3 (ws_ yX1_lambda_reinstate_3 cX1_lambda_reinstate_3 1 none) (RM 1 0 0) Γ G [.ref v] (fun u G1 => u = none ∧ VP Γ G1 v (apk 3 x y w) ∧ gK (fun t => t = (27, 0) ∨ t = (28, 0)) G G1) 0 0 := by
  refine gMet (own := RX1) (by decide) rfl (Nat.le_of_ble_eq_true rfl) ?_
  intro pp ee ss mm below meth cc0 ls X hr hlk hin hnm hR hS hl
  have hl : lv_has ls 1 [(0, .ref v)] := hl
  obtain ⟨ar, f, hv, har, hf, hon⟩ := hVP
  refine lv_aload_n X.hx X.hb dX1_lambda_reinstate_3_0 rfl (lv_at hl 0 rfl) ?_
  refine lv_iconst (v := 1) X.hx X.hb dX1_lambda_reinstate_3_1 (by decide) ?_
  refine g_putN X hR hS hv (Nat.le_of_ble_eq_true rfl) rfl in_X6 tyX6 tyX6_ok nmX6 1 (by decide) kq749 (fun _ h => h) rfl rfl rfl (Nat.le_of_ble_eq_true rfl) dX1_lambda_reinstate_3_2 (fun H locs hR230 hS231 => ?_)
  obtain ⟨G232, hG232⟩ : ∃ z : GH, z = gu G v ((27, 0), .inr (5, [.ref ar, .int 1])) := ⟨_, rfl⟩
  have hR230 : Rep Γ G232 H := by rw [hG232]; exact hR230
  have f233 : G232 ar = some ((28, 0), .inl (Γ.2 1, 3, .inl f)) := by rw [hG232]; exact gu_t har hv (tne rfl)
  have f234 : G232 v = some ((27, 0), .inr (5, [.ref ar, .int 1])) := by rw [hG232]; exact gu_s _ _ _
  exact g_vret X hr hlk hR230 hS231 (⟨rfl, ⟨ar, _, f234, f233, hf, Or.inr rfl⟩, (gK.pt hG232 hv (Or.inl rfl))⟩) (by (try dsimp only [RM]); omega) (by (try dsimp only [RM]); omega) dX1_lambda_reinstate_3_5

set_option maxHeartbeats 4000000 in
theorem c_X5i (l : Launch) (Γ : GP) (G : GH) {b k pa ef : Nat} {nu fr to : Int32} (hb : G b = some ((10, k), .inr (4, [.int 0, .null, .int 0, .int 0, .null, .int 0]))) : MetG l yX5_init (ws_ yX5_init cX5_init 6 none) (RM 2 0 0) Γ G [.ref b, .int nu, .ref pa, .int fr, .int to, .ref ef] (fun u G1 => u = none ∧ G1 = gu G b ((10, k), .inr (4, [.int nu, .ref pa, .int fr, .int to, .ref ef, .int 2147483647]))) 0 0 := by
  refine gMet (own := RX5) (by decide) rfl (Nat.le_of_ble_eq_true rfl) ?_
  intro pp ee ss mm below meth cc0 ls X hr hlk hin hnm hR hS hl
  have hl : lv_has ls 6 [(0, .ref b), (1, .int nu), (2, .ref pa), (3, .int fr), (4, .int to), (5, .ref ef)] := hl
  refine lv_aload_n X.hx X.hb dX5_init_0 rfl (lv_at hl 0 rfl) ?_
  refine W.objInit X.hx X.hb X.hown (X.hts _ q505) (X.hts _ q87) (X.hts _ q88) rfl (by rw [X.hml]; exact hl.1) rfl dX5_init_1 (Nat.le_of_ble_eq_true rfl) (Nat.le_of_ble_eq_true rfl) ?_
  refine W.eq (g2 := F0 mm 4 ls []) rfl ?_
  refine lv_aload_n X.hx X.hb dX5_init_4 rfl (lv_at hl 0 rfl) ?_
  refine lv_ldc X.hx X.hb X.hown (X.hts _ q506) dX5_init_5 ?_
  refine g_put X hR hS hb (Nat.le_of_ble_eq_true rfl) rfl in_X5 tyX5 tyX5_ok nmX5 5 (by decide) q517 (fun _ h => h) rfl rfl rfl (Nat.le_of_ble_eq_true rfl) dX5_init_7 (fun H locs hR235 hS236 => ?_)
  obtain ⟨G237, hG237⟩ : ∃ z : GH, z = gu G b ((10, k), .inr (4, [.int 0, .null, .int 0, .int 0, .null, .int 2147483647])) := ⟨_, rfl⟩
  have hR235 : Rep Γ G237 H := by rw [hG237]; exact hR235
  have f238 : G237 b = some ((10, k), .inr (4, [.int 0, .null, .int 0, .int 0, .null, .int 2147483647])) := by rw [hG237]; exact gu_s _ _ _
  refine lv_aload_n X.hx X.hb dX5_init_10 rfl (lv_at hl 0 rfl) ?_
  refine lv_iload_n X.hx X.hb dX5_init_11 rfl (lv_at hl 1 rfl) ?_
  refine g_putF X hR235 hS236 f238 (Nat.le_of_ble_eq_true rfl) rfl in_X5 tyX5 tyX5_ok nmX5 0 (by decide) q507 (fun _ h => h) rfl hin rfl rfl rfl (Nat.le_of_ble_eq_true rfl) dX5_init_12 (fun H locs hR239 hS240 => ?_)
  obtain ⟨G241, hG241⟩ : ∃ z : GH, z = gu G237 b ((10, k), .inr (4, [.int nu, .null, .int 0, .int 0, .null, .int 2147483647])) := ⟨_, rfl⟩
  have hR239 : Rep Γ G241 H := by rw [hG241]; exact hR239
  have f242 : G241 b = some ((10, k), .inr (4, [.int nu, .null, .int 0, .int 0, .null, .int 2147483647])) := by rw [hG241]; exact gu_s _ _ _
  refine lv_aload_n X.hx X.hb dX5_init_15 rfl (lv_at hl 0 rfl) ?_
  refine lv_aload_n X.hx X.hb dX5_init_16 rfl (lv_at hl 2 rfl) ?_
  refine g_putF X hR239 hS240 f242 (Nat.le_of_ble_eq_true rfl) rfl in_X5 tyX5 tyX5_ok nmX5 1 (by decide) q509 (fun _ h => h) rfl hin rfl rfl rfl (Nat.le_of_ble_eq_true rfl) dX5_init_17 (fun H locs hR243 hS244 => ?_)
  obtain ⟨G245, hG245⟩ : ∃ z : GH, z = gu G241 b ((10, k), .inr (4, [.int nu, .ref pa, .int 0, .int 0, .null, .int 2147483647])) := ⟨_, rfl⟩
  have hR243 : Rep Γ G245 H := by rw [hG245]; exact hR243
  have f246 : G245 b = some ((10, k), .inr (4, [.int nu, .ref pa, .int 0, .int 0, .null, .int 2147483647])) := by rw [hG245]; exact gu_s _ _ _
  refine lv_aload_n X.hx X.hb dX5_init_20 rfl (lv_at hl 0 rfl) ?_
  refine lv_iload_n X.hx X.hb dX5_init_21 rfl (lv_at hl 3 rfl) ?_
  refine g_putF X hR243 hS244 f246 (Nat.le_of_ble_eq_true rfl) rfl in_X5 tyX5 tyX5_ok nmX5 2 (by decide) q511 (fun _ h => h) rfl hin rfl rfl rfl (Nat.le_of_ble_eq_true rfl) dX5_init_22 (fun H locs hR247 hS248 => ?_)
  obtain ⟨G249, hG249⟩ : ∃ z : GH, z = gu G245 b ((10, k), .inr (4, [.int nu, .ref pa, .int fr, .int 0, .null, .int 2147483647])) := ⟨_, rfl⟩
  have hR247 : Rep Γ G249 H := by rw [hG249]; exact hR247
  have f250 : G249 b = some ((10, k), .inr (4, [.int nu, .ref pa, .int fr, .int 0, .null, .int 2147483647])) := by rw [hG249]; exact gu_s _ _ _
  refine lv_aload_n X.hx X.hb dX5_init_25 rfl (lv_at hl 0 rfl) ?_
  refine lv_iload X.hx X.hb dX5_init_26 (lv_at hl 4 rfl) ?_
  refine g_putF X hR247 hS248 f250 (Nat.le_of_ble_eq_true rfl) rfl in_X5 tyX5 tyX5_ok nmX5 3 (by decide) q513 (fun _ h => h) rfl hin rfl rfl rfl (Nat.le_of_ble_eq_true rfl) dX5_init_28 (fun H locs hR251 hS252 => ?_)
  obtain ⟨G253, hG253⟩ : ∃ z : GH, z = gu G249 b ((10, k), .inr (4, [.int nu, .ref pa, .int fr, .int to, .null, .int 2147483647])) := ⟨_, rfl⟩
  have hR251 : Rep Γ G253 H := by rw [hG253]; exact hR251
  have f254 : G253 b = some ((10, k), .inr (4, [.int nu, .ref pa, .int fr, .int to, .null, .int 2147483647])) := by rw [hG253]; exact gu_s _ _ _
  refine lv_aload_n X.hx X.hb dX5_init_31 rfl (lv_at hl 0 rfl) ?_
  refine lv_aload X.hx X.hb dX5_init_32 (lv_at hl 5 rfl) ?_
  refine g_putF X hR251 hS252 f254 (Nat.le_of_ble_eq_true rfl) rfl in_X5 tyX5 tyX5_ok nmX5 4 (by decide) q515 (fun _ h => h) rfl hin rfl rfl rfl (Nat.le_of_ble_eq_true rfl) dX5_init_34 (fun H locs hR255 hS256 => ?_)
  obtain ⟨G257, hG257⟩ : ∃ z : GH, z = gu G253 b ((10, k), .inr (4, [.int nu, .ref pa, .int fr, .int to, .ref ef, .int 2147483647])) := ⟨_, rfl⟩
  have hR255 : Rep Γ G257 H := by rw [hG257]; exact hR255
  have f258 : G257 b = some ((10, k), .inr (4, [.int nu, .ref pa, .int fr, .int to, .ref ef, .int 2147483647])) := by rw [hG257]; exact gu_s _ _ _
  exact g_vret X hr hlk hR255 hS256 (⟨rfl, by rw [hG257, hG253, hG249, hG245, hG241, hG237, gu_gu, gu_gu, gu_gu, gu_gu, gu_gu]⟩) (by (try dsimp only [RM]); omega) (by (try dsimp only [RM]); omega) dX5_init_37

set_option maxHeartbeats 4000000 in
theorem c_X5k (l : Launch) (Γ : GP) (G : GH) {c k pa ef : Nat} {nu fr to tb : Int32} (hc : G c = some ((10, k), .inr (4, [.int nu, .ref pa, .int fr, .int to, .ref ef, .int tb]))) {d : Int32} : MetG l yX5_isKnown (ws_ yX5_isKnown cX5_isKnown 2 (some .boolean)) (RM 1 0 0) Γ G [.ref c, .int d] (fun u G1 => u = some (.int (if to ≤ d ∧ d < tb then 1 else 0)) ∧ G = G1) 0 0 := by
  refine gMet (own := RX5) (by decide) rfl (Nat.le_of_ble_eq_true rfl) ?_
  intro pp ee ss mm below meth cc0 ls X hr hlk hin hnm hR hS hl
  have hl : lv_has ls 2 [(0, .ref c), (1, .int d)] := hl
  refine lv_aload_n X.hx X.hb dX5_isKnown_0 rfl (lv_at hl 0 rfl) ?_
  refine g_get X hR hc rfl in_X5 3 (by decide) q513 (fun _ h => h) rfl dX5_isKnown_1 ?_
  refine lv_iload_n X.hx X.hb dX5_isKnown_4 rfl (lv_at hl 1 rfl) ?_
  refine lv_icmp_gt (tgt := 20) X.hx X.hb dX5_isKnown_5 (by decide) (fun c5 => ?_) (fun c5 => ?_)
  · refine lv_iconst (v := 0) X.hx X.hb dX5_isKnown_20 (by decide) ?_
    exact g_zret X hr hlk hR hS rfl (⟨by rw [if_neg (fun h9 => absurd h9.1 (Int32.not_le.mpr c5))], rfl⟩) (by (try dsimp only [RM]); omega) (by (try dsimp only [RM]); omega) dX5_isKnown_21
  · refine lv_iload_n X.hx X.hb dX5_isKnown_8 rfl (lv_at hl 1 rfl) ?_
    refine lv_aload_n X.hx X.hb dX5_isKnown_9 rfl (lv_at hl 0 rfl) ?_
    refine g_get X hR hc rfl in_X5 5 (by decide) q517 (fun _ h => h) rfl dX5_isKnown_10 ?_
    refine lv_icmp_ge (tgt := 20) X.hx X.hb dX5_isKnown_13 (by decide) (fun c13 => ?_) (fun c13 => ?_)
    · refine lv_iconst (v := 0) X.hx X.hb dX5_isKnown_20 (by decide) ?_
      exact g_zret X hr hlk hR hS rfl (⟨by rw [if_neg (fun h9 => absurd h9.2 (Int32.not_lt.mpr c13))], rfl⟩) (by (try dsimp only [RM]); omega) (by (try dsimp only [RM]); omega) dX5_isKnown_21
    · refine lv_iconst (v := 1) X.hx X.hb dX5_isKnown_16 (by decide) ?_
      refine lv_goto (tgt := 21) X.hx X.hb dX5_isKnown_17 (by decide) ?_
      exact g_zret X hr hlk hR hS rfl (⟨by rw [if_pos ⟨Int32.not_lt.mp c5, Int32.not_le.mp c13⟩], rfl⟩) (by (try dsimp only [RM]); omega) (by (try dsimp only [RM]); omega) dX5_isKnown_21

set_option maxHeartbeats 4000000 in
theorem c_J16i (l : Launch) (Γ : GP) (G : GH) {a : Nat} : MetG l yJ16_init (ws_ yJ16_init cJ16_init 1 none) (RM 2 0 0) Γ G [.ref a] (fun v G1 => v = none ∧ G = G1) 0 0 := by
  refine gMet (own := RJ16) (by decide) rfl (Nat.le_of_ble_eq_true rfl) ?_
  intro pp ee ss mm below meth cc0 ls X hr hlk hin hnm hR hS hl
  have hl : lv_has ls 1 [(0, .ref a)] := hl
  refine lv_aload_n X.hx X.hb dJ16_init_0 rfl (lv_at hl 0 rfl) ?_
  refine W.objInit X.hx X.hb X.hown (X.hts _ q446) (X.hts _ q87) (X.hts _ q88) rfl (by rw [X.hml]; exact hl.1) rfl dJ16_init_1 (Nat.le_of_ble_eq_true rfl) (Nat.le_of_ble_eq_true rfl) ?_
  refine W.eq (g2 := F0 mm 4 ls []) rfl ?_
  exact g_vret X hr hlk hR hS (⟨rfl, rfl⟩) (by (try dsimp only [RM]); omega) (by (try dsimp only [RM]); omega) dJ16_init_4

set_option maxHeartbeats 4000000 in
theorem c_X4i (l : Launch) (Γ : GP) (G : GH) {b j : Nat} {x y y3 : Int32} (hb : G b = some ((14, j), .inr (3, [.int 0, .int 0, .int 0]))) : MetG l yX4_init (ws_ yX4_init cX4_init 4 none) (RM 3 0 0) Γ G [.ref b, .int x, .int y, .int y3] (fun u G1 => u = none ∧ G1 = gu G b ((14, j), .inr (3, [.int x, .int y, .int y3]))) 0 0 := by
  refine gMet (own := RX4) (by decide) rfl (Nat.le_of_ble_eq_true rfl) ?_
  intro pp ee ss mm below meth cc0 ls X hr hlk hin hnm hR hS hl
  have hl : lv_has ls 4 [(0, .ref b), (1, .int x), (2, .int y), (3, .int y3)] := hl
  refine lv_aload_n X.hx X.hb dX4_init_0 rfl (lv_at hl 0 rfl) ?_
  refine gcI X hl.1 hR hS 0 [] [] (c_J16i l Γ G) q443 q444 q56 q445 rfl rfl rfl ⟨by decide +kernel, by decide +kernel, by decide +kernel⟩ ⟨by (try dsimp only [RM]); omega, by (try dsimp only [RM]); omega⟩ rfl rfl (Nat.le_of_ble_eq_true rfl) dX4_init_1 ⟨by (try dsimp only [RM]); omega, by (try dsimp only [RM]); omega⟩ (fun v262 G263 H locs hq259 hR260 hS261 => ?_)
  obtain ⟨rfl, rfl⟩ := hq259
  refine lv_aload_n X.hx X.hb dX4_init_4 rfl (lv_at hl 0 rfl) ?_
  refine lv_iload_n X.hx X.hb dX4_init_5 rfl (lv_at hl 1 rfl) ?_
  refine g_putF X hR260 hS261 hb (Nat.le_of_ble_eq_true rfl) rfl in_X4 tyX4 tyX4_ok nmX4 0 (by decide) q447 (fun _ h => h) rfl hin rfl rfl rfl (Nat.le_of_ble_eq_true rfl) dX4_init_6 (fun H locs hR264 hS265 => ?_)
  obtain ⟨G266, hG266⟩ : ∃ z : GH, z = gu G b ((14, j), .inr (3, [.int x, .int 0, .int 0])) := ⟨_, rfl⟩
  have hR264 : Rep Γ G266 H := by rw [hG266]; exact hR264
  have f267 : G266 b = some ((14, j), .inr (3, [.int x, .int 0, .int 0])) := by rw [hG266]; exact gu_s _ _ _
  refine lv_aload_n X.hx X.hb dX4_init_9 rfl (lv_at hl 0 rfl) ?_
  refine lv_iload_n X.hx X.hb dX4_init_10 rfl (lv_at hl 2 rfl) ?_
  refine g_putF X hR264 hS265 f267 (Nat.le_of_ble_eq_true rfl) rfl in_X4 tyX4 tyX4_ok nmX4 1 (by decide) q448 (fun _ h => h) rfl hin rfl rfl rfl (Nat.le_of_ble_eq_true rfl) dX4_init_11 (fun H locs hR268 hS269 => ?_)
  obtain ⟨G270, hG270⟩ : ∃ z : GH, z = gu G266 b ((14, j), .inr (3, [.int x, .int y, .int 0])) := ⟨_, rfl⟩
  have hR268 : Rep Γ G270 H := by rw [hG270]; exact hR268
  have f271 : G270 b = some ((14, j), .inr (3, [.int x, .int y, .int 0])) := by rw [hG270]; exact gu_s _ _ _
  refine lv_aload_n X.hx X.hb dX4_init_14 rfl (lv_at hl 0 rfl) ?_
  refine lv_iload_n X.hx X.hb dX4_init_15 rfl (lv_at hl 3 rfl) ?_
  refine g_putF X hR268 hS269 f271 (Nat.le_of_ble_eq_true rfl) rfl in_X4 tyX4 tyX4_ok nmX4 2 (by decide) q449 (fun _ h => h) rfl hin rfl rfl rfl (Nat.le_of_ble_eq_true rfl) dX4_init_16 (fun H locs hR272 hS273 => ?_)
  obtain ⟨G274, hG274⟩ : ∃ z : GH, z = gu G270 b ((14, j), .inr (3, [.int x, .int y, .int y3])) := ⟨_, rfl⟩
  have hR272 : Rep Γ G274 H := by rw [hG274]; exact hR272
  have f275 : G274 b = some ((14, j), .inr (3, [.int x, .int y, .int y3])) := by rw [hG274]; exact gu_s _ _ _
  exact g_vret X hr hlk hR272 hS273 (⟨rfl, by rw [hG274, hG270, hG266, gu_gu, gu_gu]⟩) (by (try dsimp only [RM]); omega) (by (try dsimp only [RM]); omega) dX4_init_19

set_option maxHeartbeats 4000000 in
theorem c_X4f (l : Launch) (Γ : GP) (G : GH) {b j : Nat} {x y y3 : Int32} (hb : G b = some ((14, j), .inr (3, [.int x, .int y, .int y3]))) : MetG l yX4_field (ws_ yX4_field cX4_field 1 (some .int)) (RM 1 0 0) Γ G [.ref b] (fun u G1 => u = some (.int x) ∧ G = G1) 0 0 := by
  refine gMet (own := RX4) (by decide) rfl (Nat.le_of_ble_eq_true rfl) ?_
  intro pp ee ss mm below meth cc0 ls X hr hlk hin hnm hR hS hl
  have hl : lv_has ls 1 [(0, .ref b)] := hl
  refine lv_aload_n X.hx X.hb dX4_field_0 rfl (lv_at hl 0 rfl) ?_
  refine g_get X hR hb rfl in_X4 0 (by decide) q447 (fun _ h => h) rfl dX4_field_1 ?_
  exact g_iret X hr hlk hR hS (⟨rfl, rfl⟩) (by (try dsimp only [RM]); omega) (by (try dsimp only [RM]); omega) dX4_field_4

set_option maxHeartbeats 4000000 in
theorem c_X4w (l : Launch) (Γ : GP) (G : GH) {b j : Nat} {x y y3 : Int32} (hb : G b = some ((14, j), .inr (3, [.int x, .int y, .int y3]))) : MetG l yX4_weight (ws_ yX4_weight cX4_weight 1 (some .int)) (RM 1 0 0) Γ G [.ref b] (fun u G1 => u = some (.int y) ∧ G = G1) 0 0 := by
  refine gMet (own := RX4) (by decide) rfl (Nat.le_of_ble_eq_true rfl) ?_
  intro pp ee ss mm below meth cc0 ls X hr hlk hin hnm hR hS hl
  have hl : lv_has ls 1 [(0, .ref b)] := hl
  refine lv_aload_n X.hx X.hb dX4_weight_0 rfl (lv_at hl 0 rfl) ?_
  refine g_get X hR hb rfl in_X4 1 (by decide) q448 (fun _ h => h) rfl dX4_weight_1 ?_
  exact g_iret X hr hlk hR hS (⟨rfl, rfl⟩) (by (try dsimp only [RM]); omega) (by (try dsimp only [RM]); omega) dX4_weight_4

set_option maxHeartbeats 4000000 in
theorem c_X4s (l : Launch) (Γ : GP) (G : GH) {b j : Nat} {x y y3 : Int32} (hb : G b = some ((14, j), .inr (3, [.int x, .int y, .int y3]))) : MetG l yX4_from (ws_ yX4_from cX4_from 1 (some .int)) (RM 1 0 0) Γ G [.ref b] (fun u G1 => u = some (.int y3) ∧ G = G1) 0 0 := by
  refine gMet (own := RX4) (by decide) rfl (Nat.le_of_ble_eq_true rfl) ?_
  intro pp ee ss mm below meth cc0 ls X hr hlk hin hnm hR hS hl
  have hl : lv_has ls 1 [(0, .ref b)] := hl
  refine lv_aload_n X.hx X.hb dX4_from_0 rfl (lv_at hl 0 rfl) ?_
  refine g_get X hR hb rfl in_X4 2 (by decide) q449 (fun _ h => h) rfl dX4_from_1 ?_
  exact g_iret X hr hlk hR hS (⟨rfl, rfl⟩) (by (try dsimp only [RM]); omega) (by (try dsimp only [RM]); omega) dX4_from_4

set_option maxHeartbeats 4000000 in
theorem c_X3i (l : Launch) (Γ : GP) (G : GH) {b i : Nat} {x : Int32} (hb : G b = some ((3, i), .inr (2, [.int 0, .int 0, .null]))) : MetG l yX3_init (ws_ yX3_init cX3_init 2 none) (RM 4 1 9) Γ G [.ref b, .int x] (fun u G1 => u = none ∧ ∃ q, G q = none ∧ G1 q = some (TMc i none none 0 0) ∧ G1 b = some ((3, i), .inr (2, [.int x, .int 0, .ref q])) ∧ gK (fun t => t = (3, i) ∨ t = (4, i)) G G1) 1 9 := by
  refine gMet (own := RX3) (by decide) rfl (Nat.le_of_ble_eq_true rfl) ?_
  intro pp ee ss mm below meth cc0 ls X hr hlk hin hnm hR hS hl
  have hl : lv_has ls 2 [(0, .ref b), (1, .int x)] := hl
  refine lv_aload_n X.hx X.hb dX3_init_0 rfl (lv_at hl 0 rfl) ?_
  refine W.objInit X.hx X.hb X.hown (X.hts _ q253) (X.hts _ q87) (X.hts _ q88) rfl (by rw [X.hml]; exact hl.1) rfl dX3_init_1 (Nat.le_of_ble_eq_true rfl) (Nat.le_of_ble_eq_true rfl) ?_
  refine W.eq (g2 := F0 mm 4 ls []) rfl ?_
  refine lv_aload_n X.hx X.hb dX3_init_4 rfl (lv_at hl 0 rfl) ?_
  refine g_new (ci := 7) X hR hS (4, i) (C := RJ9) (T := TJ9) (N := 9) rfl in_J9 tyJ9 tyJ9_ok q254 q255 q48 (fs := [.null, .null, .null, .null, .int 0, .int 0, .null, .null, .null]) (fun j hj => by rcases (show j = 0 ∨ j = 1 ∨ j = 2 ∨ j = 3 ∨ j = 4 ∨ j = 5 ∨ j = 6 ∨ j = 7 ∨ j = 8 by omega) with rfl | rfl | rfl | rfl | rfl | rfl | rfl | rfl | rfl <;> rfl) (by (try dsimp only [RM]); omega) (by (try dsimp only [RM]); omega) dX3_init_5 (fun q276 H hq278 hR277 hS279 => ?_)
  obtain ⟨G280, hG280⟩ : ∃ z : GH, z = gu G q276 ((4, i), .inr (7, [.null, .null, .null, .null, .int 0, .int 0, .null, .null, .null])) := ⟨_, rfl⟩
  have hR277 : Rep Γ G280 H := by rw [hG280]; exact hR277
  have f281 : G280 b = some ((3, i), .inr (2, [.int 0, .int 0, .null])) := by rw [hG280]; exact gu_f hb hq278
  have f282 : G280 q276 = some ((4, i), .inr (7, [.null, .null, .null, .null, .int 0, .int 0, .null, .null, .null])) := by rw [hG280]; exact gu_s _ _ _
  refine lv_dup X.hx X.hb dX3_init_8 rfl ?_
  refine gcI X hl.1 hR277 hS279 0 [] [.ref q276, .ref b] (c_J9i l Γ G280 f282) q256 q257 q48 q258 rfl rfl rfl ⟨by decide +kernel, by decide +kernel, by decide +kernel⟩ ⟨by (try dsimp only [RM]); omega, by (try dsimp only [RM]); omega⟩ rfl rfl (Nat.le_of_ble_eq_true rfl) dX3_init_9 ⟨by (try dsimp only [RM]); omega, by (try dsimp only [RM]); omega⟩ (fun v286 G287 H locs hq283 hR284 hS285 => ?_)
  obtain ⟨rfl, hG⟩ := hq283
  have f288 : G287 b = some ((3, i), .inr (2, [.int 0, .int 0, .null])) := by rw [hG]; exact (gu_n (fne hb hq278)).trans f281
  have f289 : G287 q276 = some ((4, i), .inr (7, [.null, .null, .null, .null, .int 0, .int 0, .null, .null, .null])) := by rw [hG]; exact gu_s _ _ _
  refine g_putF X hR284 hS285 f288 (Nat.le_of_ble_eq_true rfl) rfl in_X3 tyX3 tyX3_ok nmX3 2 (by decide) q295 (fun _ h => h) rfl hin rfl rfl rfl (Nat.le_of_ble_eq_true rfl) dX3_init_12 (fun H locs hR290 hS291 => ?_)
  obtain ⟨G292, hG292⟩ : ∃ z : GH, z = gu G287 b ((3, i), .inr (2, [.int 0, .int 0, .ref q276])) := ⟨_, rfl⟩
  have hR290 : Rep Γ G292 H := by rw [hG292]; exact hR290
  have f293 : G292 q276 = some ((4, i), .inr (7, [.null, .null, .null, .null, .int 0, .int 0, .null, .null, .null])) := by rw [hG292]; exact (gu_n (Ne.symm (fne hb hq278))).trans f289
  have f294 : G292 b = some ((3, i), .inr (2, [.int 0, .int 0, .ref q276])) := by rw [hG292]; exact gu_s _ _ _
  refine lv_aload_n X.hx X.hb dX3_init_15 rfl (lv_at hl 0 rfl) ?_
  refine lv_iload_n X.hx X.hb dX3_init_16 rfl (lv_at hl 1 rfl) ?_
  refine g_putF X hR290 hS291 f294 (Nat.le_of_ble_eq_true rfl) rfl in_X3 tyX3 tyX3_ok nmX3 0 (by decide) q292 (fun _ h => h) rfl hin rfl rfl rfl (Nat.le_of_ble_eq_true rfl) dX3_init_17 (fun H locs hR295 hS296 => ?_)
  obtain ⟨G297, hG297⟩ : ∃ z : GH, z = gu G292 b ((3, i), .inr (2, [.int x, .int 0, .ref q276])) := ⟨_, rfl⟩
  have hR295 : Rep Γ G297 H := by rw [hG297]; exact hR295
  have f298 : G297 q276 = some ((4, i), .inr (7, [.null, .null, .null, .null, .int 0, .int 0, .null, .null, .null])) := by rw [hG297]; exact (gu_n (Ne.symm (fne hb hq278))).trans f293
  have f299 : G297 b = some ((3, i), .inr (2, [.int x, .int 0, .ref q276])) := by rw [hG297]; exact gu_s _ _ _
  exact g_vret X hr hlk hR295 hS296 (⟨rfl, q276, hq278, f298, f299, (gK.tr (gK.tr (gK.tr (gK.nw hG280 hq278) (gK.pt hG f282 (Or.inr rfl))) (gK.pt hG292 f288 (Or.inl rfl))) (gK.pt hG297 f294 (Or.inl rfl)))⟩) (by (try dsimp only [RM]); omega) (by (try dsimp only [RM]); omega) dX3_init_20

