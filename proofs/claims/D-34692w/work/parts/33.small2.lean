set_option maxRecDepth 100000
/-! the component: what is asked ahead; its small operations -/
abbrev EIO : String := "java/lang/IndexOutOfBoundsException"
abbrev EIA : String := "java/lang/IllegalArgumentException"
abbrev EIS : String := "java/lang/IllegalStateException"
abbrev bad (lo hi x : Int32) : Prop := x < lo ∨ ¬ x ≤ hi
abbrev bdP (n x : Int32) : Prop := x < 0 ∨ ¬ x < n
theorem nbad {lo hi x : Int32} (h1 : ¬ x < lo) (h2 : x ≤ hi) : ¬ bad lo hi x := fun h => h.elim h1 (fun h => h h2)
theorem nbdP {n x : Int32} (h1 : ¬ x < 0) (h2 : x < n) : ¬ bdP n x := fun h => h.elim h1 (fun h => h h2)
theorem or_no {a b : Prop} (h1 : ¬ a) (h2 : ¬ b) : ¬ (a ∨ b) := fun h => h.elim h1 h2
theorem plc {x : Int32} {n : Nat} (hn : n < 2 ^ 31) (h1 : ¬ x < 0) (h2 : x < nI n) : ∃ j, j < n ∧ x = nI j := by
  obtain ⟨j, h3, rfl⟩ := nI_of h1
  exact ⟨j, (nI_ltI h3 hn).mp h2, rfl⟩
/-- answers by numbers: how a call ends -/
def k0 (σ : MS) (b : Int32) : Int32 := if bad 1 1000 b then 1 else if ¬ nI (σ.1 0) < 4 then 2 else 0
def k1 (σ : MS) (f w fr : Int32) : Int32 := if bdP 3 f then 1 else if bad 0 100 w ∨ bad 0 364 fr then 2 else if ¬ nI (σ.1 1) < 20 then 3 else 0
def k2 (d : Int32) : Int32 := if bad 1 100 d then 1 else 0
def kT (σ : MS) (p f fr lo hi v : Int32) : Int32 := if bdP (nI (σ.1 0)) p ∨ bdP 3 f then 1 else if bad lo hi v ∨ bad 0 364 fr then 2 else if ¬ nI (σ.1 2) < 60 then 3 else 0
def k8 (σ : MS) (c : Int32) : Int32 := if bdP (nI (σ.1 2)) c then 1 else if ¬ σ.2 11 c.toNatClampNeg < 0 then 2 else 0
def kC (σ : MS) (c : Int32) : Int32 := if bdP (nI (σ.1 2)) c then 1 else 0
def kV (σ : MS) (p f d kn : Int32) : Int32 := if bdP (nI (σ.1 0)) p ∨ bdP 3 f then 1 else if bad 0 364 d ∨ bad 0 (σ.2 12 0) kn then 2 else 0
def kP (σ : MS) (p : Int32) : Int32 := if bdP (nI (σ.1 0)) p then 1 else 0
/-- the count of segments of a policy as known on a day -/
def nS (σ : MS) (p kn : Int32) : Nat := sn (rtA σ p.toNatClampNeg kn) 365
def kS (σ : MS) (p sg kn : Int32) : Int32 := if bad 0 (σ.2 12 0) kn then 1 else if bdP (nI (σ.1 0)) p ∨ bdP (nI (nS σ p kn)) sg then 2 else 0
theorem c03 : ¬ bdP 3 0 := by decide
theorem c0d : ¬ bad 0 364 0 := by decide
theorem c00 : ¬ bad 0 0 0 := by decide

set_option maxHeartbeats 4000000 in
theorem c_policyAt (l : Launch) (Γ : GP) (G : GH) (hst : l.stackTraces = false) {x : Nat} {σ : MS} {A : Nat → Nat → Nat} (hW : WF σ) (hX : XP Γ G x σ A) {p : Int32} : MetX l yX1_policyAt (ws_ yX1_policyAt cX1_policyAt 2 (some (.object "Backdater$Policy"))) (RM 7 1 6) Γ G [.ref x, .int p] (fun v G1 => ∃ i, i < σ.1 0 ∧ p = nI i ∧ v = some (.ref (A 2 i)) ∧ G = G1) (fun E G1 => E = EIO ∧ bdP (nI (σ.1 0)) p ∧ G = G1) 1 6 := by
  refine gMetX (own := RX1) (by decide) rfl (Nat.le_of_ble_eq_true rfl) ?_
  intro pp ee ss mm below meth cc0 ls X hr hlk hin hnm hxt hR hS hl
  have hl : lv_has ls 2 [(0, .ref x), (1, .int p)] := hl
  have hX9 := hX
  have hcnt : σ.1 0 < 2 ^ 31 := Nat.lt_of_le_of_lt hW.1 (by decide)
  obtain ⟨⟨rf, hx, hrf⟩, ⟨c0, c1, c2, hcap, hA0, hA1, hA2⟩, hXp, hXc, hXt⟩ := hX
  obtain ⟨mo0, ea0, g0, hal0, -⟩ := id hA0
  refine lv_iload_n X.hx X.hb dX1_policyAt_0 rfl (lv_at hl 1 rfl) ?_
  refine lv_aload_n X.hx X.hb dX1_policyAt_1 rfl (lv_at hl 0 rfl) ?_
  refine g_get X hR hx rfl in_X1 0 (by decide) q118 (fun _ h => h) rfl dX1_policyAt_2 ?_
  refine gcF X hl.1 hR hS 0 [] [.int p] (c_sizeA l Γ G hA0) hal0 rfl kf1 q144 q148 q150 q39 q152 rfl rfl ⟨by decide +kernel, by decide +kernel, by decide +kernel⟩ ⟨by (try dsimp only [RM]); omega, by (try dsimp only [RM]); omega⟩ rfl rfl (Nat.le_of_ble_eq_true rfl) dX1_policyAt_5 ⟨by (try dsimp only [RM]); omega, by (try dsimp only [RM]); omega⟩ (fun v307 G308 H locs hq304 hR305 hS306 => ?_)
  obtain ⟨rfl, rfl⟩ := hq304
  refine gxS X hl.1 hR305 hS306 2 [.int p, .int (nI (σ.1 0))] [] (c_needPlace l Γ G hst) q420 q421 q36 q422 rfl rfl ⟨by decide +kernel, by decide +kernel, by decide +kernel⟩ ⟨by (try dsimp only [RM]); omega, by (try dsimp only [RM]); omega⟩ rfl rfl (Nat.le_of_ble_eq_true rfl) dX1_policyAt_10 ⟨by (try dsimp only [RM]); omega, by (try dsimp only [RM]); omega⟩ (fun E314 ce q9 G9 H locs hq9 hR9 hS9 hce hcv hcl => ?_) (fun v312 G313 H locs hq309 hR310 hS311 => ?_)
  · obtain ⟨rfl, hbd, rfl⟩ := hq9
    exact g_out X hlk hxt hR9 hS9 hce hcv hcl (⟨rfl, hbd, rfl⟩) (by (try dsimp only [RM]); omega) (by (try dsimp only [RM]); omega)
  · obtain ⟨rfl, hp0, hp1, rfl⟩ := hq309
    obtain ⟨i, hi, rfl⟩ := plc hcnt hp0 hp1
    have hit := (hX9.2.2.1 i hi).1
    refine lv_aload_n X.hx X.hb dX1_policyAt_13 rfl (lv_at hl 0 rfl) ?_
    refine g_get X hR310 hx rfl in_X1 0 (by decide) q118 (fun _ h => h) rfl dX1_policyAt_14 ?_
    refine lv_iload_n X.hx X.hb dX1_policyAt_17 rfl (lv_at hl 1 rfl) ?_
    refine gcF X hl.1 hR310 hS311 1 [.int (nI i)] [] (c_getA l Γ G hA0 hi (by omega)) hal0 rfl kf3 q476 q479 q481 q39 q483 rfl rfl ⟨by decide +kernel, by decide +kernel, by decide +kernel⟩ ⟨by (try dsimp only [RM]); omega, by (try dsimp only [RM]); omega⟩ rfl rfl (Nat.le_of_ble_eq_true rfl) dX1_policyAt_18 ⟨by (try dsimp only [RM]); omega, by (try dsimp only [RM]); omega⟩ (fun v318 G319 H locs hq315 hR316 hS317 => ?_)
    obtain ⟨rfl, rfl⟩ := hq315
    refine g_castS X hR316 hit rfl q248 dX1_policyAt_23 ?_
    refine vx_ret ?_
    exact g_aretS X hr (Or.inl ⟨_, rfl⟩) hlk hR316 hS317 (⟨i, hi, rfl, rfl, rfl⟩) (by (try dsimp only [RM]); omega) (by (try dsimp only [RM]); omega) dX1_policyAt_26

set_option maxHeartbeats 4000000 in
theorem c_changeAt (l : Launch) (Γ : GP) (G : GH) (hst : l.stackTraces = false) {x : Nat} {σ : MS} {A : Nat → Nat → Nat} (hW : WF σ) (hX : XP Γ G x σ A) {p : Int32} : MetX l yX1_changeAt (ws_ yX1_changeAt cX1_changeAt 2 (some (.object "Backdater$Change"))) (RM 7 1 6) Γ G [.ref x, .int p] (fun v G1 => ∃ i, i < σ.1 2 ∧ p = nI i ∧ v = some (.ref (A 4 i)) ∧ G = G1) (fun E G1 => E = EIO ∧ bdP (nI (σ.1 2)) p ∧ G = G1) 1 6 := by
  refine gMetX (own := RX1) (by decide) rfl (Nat.le_of_ble_eq_true rfl) ?_
  intro pp ee ss mm below meth cc0 ls X hr hlk hin hnm hxt hR hS hl
  have hl : lv_has ls 2 [(0, .ref x), (1, .int p)] := hl
  have hX9 := hX
  have hcnt : σ.1 2 < 2 ^ 31 := Nat.lt_of_le_of_lt hW.2.2.1 (by decide)
  obtain ⟨⟨rf, hx, hrf⟩, ⟨c0, c1, c2, hcap, hA0, hA1, hA2⟩, hXp, hXc, hXt⟩ := hX
  obtain ⟨mo1, ea1, g1, hal1, -⟩ := id hA1
  refine lv_iload_n X.hx X.hb dX1_changeAt_0 rfl (lv_at hl 1 rfl) ?_
  refine lv_aload_n X.hx X.hb dX1_changeAt_1 rfl (lv_at hl 0 rfl) ?_
  refine g_get X hR hx rfl in_X1 1 (by decide) q119 (fun _ h => h) rfl dX1_changeAt_2 ?_
  refine gcF X hl.1 hR hS 0 [] [.int p] (c_sizeA l Γ G hA1) hal1 rfl kf1 q144 q148 q150 q39 q152 rfl rfl ⟨by decide +kernel, by decide +kernel, by decide +kernel⟩ ⟨by (try dsimp only [RM]); omega, by (try dsimp only [RM]); omega⟩ rfl rfl (Nat.le_of_ble_eq_true rfl) dX1_changeAt_5 ⟨by (try dsimp only [RM]); omega, by (try dsimp only [RM]); omega⟩ (fun v323 G324 H locs hq320 hR321 hS322 => ?_)
  obtain ⟨rfl, rfl⟩ := hq320
  refine gxS X hl.1 hR321 hS322 2 [.int p, .int (nI (σ.1 2))] [] (c_needPlace l Γ G hst) q420 q421 q36 q422 rfl rfl ⟨by decide +kernel, by decide +kernel, by decide +kernel⟩ ⟨by (try dsimp only [RM]); omega, by (try dsimp only [RM]); omega⟩ rfl rfl (Nat.le_of_ble_eq_true rfl) dX1_changeAt_10 ⟨by (try dsimp only [RM]); omega, by (try dsimp only [RM]); omega⟩ (fun E330 ce q9 G9 H locs hq9 hR9 hS9 hce hcv hcl => ?_) (fun v328 G329 H locs hq325 hR326 hS327 => ?_)
  · obtain ⟨rfl, hbd, rfl⟩ := hq9
    exact g_out X hlk hxt hR9 hS9 hce hcv hcl (⟨rfl, hbd, rfl⟩) (by (try dsimp only [RM]); omega) (by (try dsimp only [RM]); omega)
  · obtain ⟨rfl, hp0, hp1, rfl⟩ := hq325
    obtain ⟨i, hi, rfl⟩ := plc hcnt hp0 hp1
    have hit := (hX9.2.2.2.1 i hi).1
    refine lv_aload_n X.hx X.hb dX1_changeAt_13 rfl (lv_at hl 0 rfl) ?_
    refine g_get X hR326 hx rfl in_X1 1 (by decide) q119 (fun _ h => h) rfl dX1_changeAt_14 ?_
    refine lv_iload_n X.hx X.hb dX1_changeAt_17 rfl (lv_at hl 1 rfl) ?_
    refine gcF X hl.1 hR326 hS327 1 [.int (nI i)] [] (c_getA l Γ G hA1 hi (by omega)) hal1 rfl kf3 q476 q479 q481 q39 q483 rfl rfl ⟨by decide +kernel, by decide +kernel, by decide +kernel⟩ ⟨by (try dsimp only [RM]); omega, by (try dsimp only [RM]); omega⟩ rfl rfl (Nat.le_of_ble_eq_true rfl) dX1_changeAt_18 ⟨by (try dsimp only [RM]); omega, by (try dsimp only [RM]); omega⟩ (fun v334 G335 H locs hq331 hR332 hS333 => ?_)
    obtain ⟨rfl, rfl⟩ := hq331
    refine g_castS X hR332 hit rfl q500 dX1_changeAt_23 ?_
    refine vx_ret ?_
    exact g_aretS X hr (Or.inl ⟨_, rfl⟩) hlk hR332 hS333 (⟨i, hi, rfl, rfl, rfl⟩) (by (try dsimp only [RM]); omega) (by (try dsimp only [RM]); omega) dX1_changeAt_26

set_option maxHeartbeats 4000000 in
theorem c_needDays (l : Launch) (Γ : GP) (G : GH) (hst : l.stackTraces = false) {x : Nat} {σ : MS} {A : Nat → Nat → Nat} (hW : WF σ) (hX : XP Γ G x σ A) {d kn : Int32} : MetX l yX1_needDays (ws_ yX1_needDays cX1_needDays 3 none) (RM 7 2 12) Γ G [.ref x, .int d, .int kn] (fun v G1 => v = none ∧ ¬ bad 0 364 d ∧ ¬ bad 0 (σ.2 12 0) kn ∧ G = G1) (fun E G1 => E = EIA ∧ (bad 0 364 d ∨ bad 0 (σ.2 12 0) kn) ∧ G = G1) 2 12 := by
  refine gMetX (own := RX1) (by decide) rfl (Nat.le_of_ble_eq_true rfl) ?_
  intro pp ee ss mm below meth cc0 ls X hr hlk hin hnm hxt hR hS hl
  have hl : lv_has ls 3 [(0, .ref x), (1, .int d), (2, .int kn)] := hl
  obtain ⟨⟨rf, hx, hrf⟩, ⟨c0, c1, c2, hcap, hA0, hA1, hA2⟩, hXp, hXc, hXt⟩ := hX
  refine lv_iload_n X.hx X.hb dX1_needDays_0 rfl (lv_at hl 1 rfl) ?_
  refine lv_iconst (v := 0) X.hx X.hb dX1_needDays_1 (by decide) ?_
  refine lv_sipush (v := 364) X.hx X.hb dX1_needDays_2 (by decide) ?_
  refine gxS X hl.1 hR hS 3 [.int d, .int 0, .int 364] [] (c_needNumber l Γ G hst) q162 q163 q36 q164 rfl rfl ⟨by decide +kernel, by decide +kernel, by decide +kernel⟩ ⟨by (try dsimp only [RM]); omega, by (try dsimp only [RM]); omega⟩ rfl rfl (Nat.le_of_ble_eq_true rfl) dX1_needDays_5 ⟨by (try dsimp only [RM]); omega, by (try dsimp only [RM]); omega⟩ (fun E341 ce q9 G9 H locs hq9 hR9 hS9 hce hcv hcl => ?_) (fun v339 G340 H locs hq336 hR337 hS338 => ?_)
  · obtain ⟨rfl, hbd, rfl⟩ := hq9
    exact g_out X hlk hxt hR9 hS9 hce hcv hcl (⟨rfl, Or.inl hbd, rfl⟩) (by (try dsimp only [RM]); omega) (by (try dsimp only [RM]); omega)
  · obtain ⟨rfl, hd0, hd1, rfl⟩ := hq336
    refine lv_iload_n X.hx X.hb dX1_needDays_8 rfl (lv_at hl 2 rfl) ?_
    refine lv_iconst (v := 0) X.hx X.hb dX1_needDays_9 (by decide) ?_
    refine lv_aload_n X.hx X.hb dX1_needDays_10 rfl (lv_at hl 0 rfl) ?_
    refine g_get X hR337 hx rfl in_X1 3 (by decide) q121 (fun _ h => h) rfl dX1_needDays_11 ?_
    refine gxS X hl.1 hR337 hS338 3 [.int kn, .int 0, .int (σ.2 12 0)] [] (c_needNumber l Γ G hst) q162 q163 q36 q164 rfl rfl ⟨by decide +kernel, by decide +kernel, by decide +kernel⟩ ⟨by (try dsimp only [RM]); omega, by (try dsimp only [RM]); omega⟩ rfl rfl (Nat.le_of_ble_eq_true rfl) dX1_needDays_14 ⟨by (try dsimp only [RM]); omega, by (try dsimp only [RM]); omega⟩ (fun E347 ce q9 G9 H locs hq9 hR9 hS9 hce hcv hcl => ?_) (fun v345 G346 H locs hq342 hR343 hS344 => ?_)
    · obtain ⟨rfl, hbd, rfl⟩ := hq9
      exact g_out X hlk hxt hR9 hS9 hce hcv hcl (⟨rfl, Or.inr hbd, rfl⟩) (by (try dsimp only [RM]); omega) (by (try dsimp only [RM]); omega)
    · obtain ⟨rfl, hk0, hk1, rfl⟩ := hq342
      refine vx_ret ?_
      exact g_vret X hr hlk hR343 hS344 (⟨rfl, nbad hd0 hd1, nbad hk0 hk1, rfl⟩) (by (try dsimp only [RM]); omega) (by (try dsimp only [RM]); omega) dX1_needDays_17

set_option maxHeartbeats 4000000 in
theorem c_today (l : Launch) (Γ : GP) (G : GH) {x : Nat} {σ : MS} {A : Nat → Nat → Nat} (hW : WF σ) (hX : XP Γ G x σ A) : MetG l yX1_today (ws_ yX1_today cX1_today 1 (some .int)) (RM 12 4000 12000) Γ G [.ref x] (fun v G1 => v = some (.int (σ.2 12 0)) ∧ G = G1) 4000 12000 := by
  refine gMet (own := RX1) (by decide) rfl (Nat.le_of_ble_eq_true rfl) ?_
  intro pp ee ss mm below meth cc0 ls X hr hlk hin hnm hR hS hl
  have hl : lv_has ls 1 [(0, .ref x)] := hl
  have hX9 := hX
  obtain ⟨⟨rf, hx, hrf⟩, ⟨c0, c1, c2, hcap, hA0, hA1, hA2⟩, hXp, hXc, hXt⟩ := hX9
  refine lv_aload_n X.hx X.hb dX1_today_0 rfl (lv_at hl 0 rfl) ?_
  refine g_get X hR hx rfl in_X1 3 (by decide) q121 (fun _ h => h) rfl dX1_today_1 ?_
  exact g_iret X hr hlk hR hS (⟨rfl, rfl⟩) (by (try dsimp only [RM]); omega) (by (try dsimp only [RM]); omega) dX1_today_4

set_option maxHeartbeats 4000000 in
theorem c_changes (l : Launch) (Γ : GP) (G : GH) {x : Nat} {σ : MS} {A : Nat → Nat → Nat} (hW : WF σ) (hX : XP Γ G x σ A) : MetG l yX1_changes (ws_ yX1_changes cX1_changes 1 (some .int)) (RM 12 4000 12000) Γ G [.ref x] (fun v G1 => v = some (.int (nI (σ.1 2))) ∧ G = G1) 4000 12000 := by
  refine gMet (own := RX1) (by decide) rfl (Nat.le_of_ble_eq_true rfl) ?_
  intro pp ee ss mm below meth cc0 ls X hr hlk hin hnm hR hS hl
  have hl : lv_has ls 1 [(0, .ref x)] := hl
  have hX9 := hX
  obtain ⟨⟨rf, hx, hrf⟩, ⟨c0, c1, c2, hcap, hA0, hA1, hA2⟩, hXp, hXc, hXt⟩ := hX9
  obtain ⟨mo1, ea1, g1, hal1, -⟩ := id hA1
  refine lv_aload_n X.hx X.hb dX1_changes_0 rfl (lv_at hl 0 rfl) ?_
  refine g_get X hR hx rfl in_X1 1 (by decide) q119 (fun _ h => h) rfl dX1_changes_1 ?_
  refine gcF X hl.1 hR hS 0 [] [] (c_sizeA l Γ G hA1) hal1 rfl kf1 q144 q148 q150 q39 q152 rfl rfl ⟨by decide +kernel, by decide +kernel, by decide +kernel⟩ ⟨by (try dsimp only [RM]); omega, by (try dsimp only [RM]); omega⟩ rfl rfl (Nat.le_of_ble_eq_true rfl) dX1_changes_4 ⟨by (try dsimp only [RM]); omega, by (try dsimp only [RM]); omega⟩ (fun v351 G352 H locs hq348 hR349 hS350 => ?_)
  obtain ⟨rfl, rfl⟩ := hq348
  exact g_iret X hr hlk hR349 hS350 (⟨rfl, rfl⟩) (by (try dsimp only [RM]); omega) (by (try dsimp only [RM]); omega) dX1_changes_9

set_option maxHeartbeats 4000000 in
theorem c_billed (l : Launch) (Γ : GP) (G : GH) (hst : l.stackTraces = false) {x : Nat} {σ : MS} {A : Nat → Nat → Nat} (hW : WF σ) (hX : XP Γ G x σ A) {p : Int32} : MetX l yX1_billed (ws_ yX1_billed cX1_billed 2 (some .int)) (RM 12 4000 12000) Γ G [.ref x, .int p] (fun v G1 => kP σ p = 0 ∧ v = some (.int (σ.2 1 p.toNatClampNeg)) ∧ XP Γ G1 x σ A ∧ gK TX G G1) (fun E G1 => ((E = EIO ∧ kP σ p = 1)) ∧ XP Γ G1 x σ A ∧ gK TX G G1) 4000 12000 := by
  refine gMetX (own := RX1) (by decide) rfl (Nat.le_of_ble_eq_true rfl) ?_
  intro pp ee ss mm below meth cc0 ls X hr hlk hin hnm hxt hR hS hl
  have hl : lv_has ls 2 [(0, .ref x), (1, .int p)] := hl
  have hX9 := hX
  obtain ⟨⟨rf, hx, hrf⟩, ⟨c0, c1, c2, hcap, hA0, hA1, hA2⟩, hXp, hXc, hXt⟩ := hX9
  refine lv_aload_n X.hx X.hb dX1_billed_0 rfl (lv_at hl 0 rfl) ?_
  refine lv_iload_n X.hx X.hb dX1_billed_1 rfl (lv_at hl 1 rfl) ?_
  refine gxV X hl.1 hR hS 1 [.int p] [] (c_policyAt l Γ G hst hW hX) hx rfl q471 q473 qs4 q36 q474 rfl rfl ⟨rfl, by decide +kernel, by decide +kernel, by decide +kernel⟩ ⟨by (try dsimp only [RM]); omega, by (try dsimp only [RM]); omega⟩ rfl rfl (Nat.le_of_ble_eq_true rfl) dX1_billed_2 ⟨by (try dsimp only [RM]); omega, by (try dsimp only [RM]); omega⟩ (fun E358 ce q9 G9 H locs hq9 hR9 hS9 hce hcv hcl => ?_) (fun v356 G357 H locs hq353 hR354 hS355 => ?_)
  · obtain ⟨rfl, hbd, rfl⟩ := hq9
    exact g_out X hlk hxt hR9 hS9 hce hcv hcl (⟨⟨rfl, by rw [kP, if_pos hbd]⟩, hX, gK.rf⟩) (by (try dsimp only [RM]); omega) (by (try dsimp only [RM]); omega)
  · obtain ⟨i, hi, rfl, rfl, rfl⟩ := hq353
    have hi31 : i < 2 ^ 31 := Nat.lt_of_lt_of_le hi (Nat.le_trans hW.1 (by decide))
    have hnp : ¬ bdP (nI (σ.1 0)) (nI i) := nbdP (nI_pos hi31) (nI_lt hi (Nat.lt_of_le_of_lt hW.1 (by decide)))
    have hic := nI_clamp hi31
    have hpol := (hX.2.2.1 i hi).1
    refine g_getN X hR354 hpol rfl in_X3 1 (by decide) kq294 (fun _ h => h) rfl dX1_billed_5 ?_
    refine vx_ret ?_
    exact g_iret X hr hlk hR354 hS355 (⟨by rw [kP, if_neg hnp], by rw [hic], hX, gK.rf⟩) (by (try dsimp only [RM]); omega) (by (try dsimp only [RM]); omega) dX1_billed_8

