set_option maxRecDepth 100000
/-! the component: what is asked -/
theorem nb_rg {lo hi x : Int32} (h : ¬ bad lo hi x) : rg x lo.toInt hi.toInt := by
  have h1 : ¬ x < lo := fun h9 => h (Or.inl h9)
  have h2 : x ≤ hi := Classical.not_not.mp (fun h9 => h (Or.inr h9))
  have h3 := Int32.le_iff_toInt_le.mp h2
  have h4 := Int32.le_iff_toInt_le.mp (Int32.not_lt.mp h1)
  exact ⟨h4, h3⟩
theorem pl_rg {n x : Int32} (h : ¬ bdP n x) : 0 ≤ x.toInt ∧ x.toInt < n.toInt := by
  have h1 : ¬ x < 0 := fun h9 => h (Or.inl h9)
  have h2 : x < n := Classical.not_not.mp (fun h9 => h (Or.inr h9))
  have h3 := Int32.lt_iff_toInt_lt.mp h2
  have h4 := Int32.le_iff_toInt_le.mp (Int32.not_lt.mp h1)
  exact ⟨h4, h3⟩
theorem f3_rg {x : Int32} (h : ¬ bdP 3 x) : rg x 0 2 := by
  obtain ⟨h1, h2⟩ := pl_rg h
  have e3 : (3 : Int32).toInt = 3 := rfl
  exact ⟨h1, by omega⟩
theorem cl_lt3 {x : Int32} (h : rg x 0 2) : x.toNatClampNeg < 3 := by
  have : x.toNatClampNeg = x.toInt.toNat := rfl
  obtain ⟨h1, h2⟩ := h
  omega
theorem mul_rg {a b : Int32} (ha : rg a 0 20) (hb : rg b 0 100) : rg (a * b) 0 2000 := by
  obtain ⟨a1, a2⟩ := ha
  obtain ⟨b1, b2⟩ := hb
  have h1 : 0 ≤ a.toInt * b.toInt := Int.mul_nonneg a1 b1
  have h2 : a.toInt * b.toInt ≤ 20 * 100 := Int.mul_le_mul a2 b2 b1 (by decide)
  unfold rg
  rw [Int32.toInt_mul, Int.bmod_eq_of_le (by omega) (by omega)]
  omega
theorem add_rg {a b : Int32} {m n : Int} (ha : rg a 0 m) (hb : rg b 0 n) (h : m + n < 1000000) : rg (a + b) 0 (m + n) := by
  obtain ⟨a1, a2⟩ := ha
  obtain ⟨b1, b2⟩ := hb
  unfold rg
  rw [Int32.toInt_add, Int.bmod_eq_of_le (by omega) (by omega)]
  omega
theorem bnd_rg (x : Int32) : rg (bnd x) 0 20 := by
  have e0 : (0 : Int32).toInt = 0 := rfl
  have e20 : (20 : Int32).toInt = 20 := rfl
  unfold bnd rg
  by_cases h1 : x < 0
  · rw [if_pos h1]; omega
  · rw [if_neg h1]
    have h3 := Int32.le_iff_toInt_le.mp (Int32.not_lt.mp h1)
    by_cases h2 : 20 < x
    · rw [if_pos h2]; omega
    · rw [if_neg h2]
      have h4 := Int32.le_iff_toInt_le.mp (Int32.not_lt.mp h2)
      omega
theorem Bst_lt {σ : MS} {f d : Int32} {b : Nat} : ∀ n, Bst σ f d n = some b → b < n := by
  intro n
  induction n with
  | zero => intro h; cases h
  | succ n ih =>
    intro h
    by_cases hc : σ.2 2 n = f ∧ σ.2 4 n ≤ d ∧ Bf σ f d n ≤ σ.2 4 n
    · rw [Bst_y hc.1 hc.2.1 hc.2.2] at h; cases h; exact Nat.lt_succ_self _
    · rw [Bst_n hc] at h; have := ih h; omega
theorem wt_rg {σ : MS} (hW : WF σ) {f d : Int32} : rg (wt σ f d) 0 100 := by
  show rg (Bw σ f d (σ.1 1)) 0 100
  unfold Bw
  cases h : Bst σ f d (σ.1 1) with
  | none => exact (show rg (1 : Int32) 0 100 from ⟨by decide, by decide⟩)
  | some b => exact (hW.2.2.2.2.2.1 b (Bst_lt _ h)).2.1
theorem Fk_rg {σ : MS} (hW : WF σ) {p : Nat} {d : Int32} : ∀ (κ j : Nat), j < 3 → rg ((Fk σ p d κ).1 j) 0 20 := by
  intro κ
  induction κ with
  | zero => intro j _; exact (show rg (0 : Int32) 0 20 from ⟨by decide, by decide⟩)
  | succ κ ih =>
    intro j hj
    rw [Fk_succ]
    by_cases hc : Sp σ p (κ % 100) ∧ (σ.2 8 (κ % 100)).toInt = (κ / 100 : Nat) ∧ knw σ (κ % 100) d
    · rw [if_pos hc]
      obtain ⟨-, -, -, -, -, h0, -⟩ := hW.2.2.2.2.2.2 _ hc.1.1
      unfold apk
      by_cases e0 : σ.2 6 (κ % 100) = 0
      · rw [if_pos e0]
        show rg (va_up _ _ _ j) 0 20
        unfold va_up
        split
        · exact h0 e0
        · exact ih j hj
      · rw [if_neg e0]
        by_cases e1 : σ.2 6 (κ % 100) = 1
        · rw [if_pos e1]
          show rg (va_up _ _ _ j) 0 20
          unfold va_up
          split
          · exact bnd_rg _
          · exact ih j hj
        · rw [if_neg e1]
          by_cases e2 : σ.2 6 (κ % 100) = 2
          · rw [if_pos e2]; exact ih j hj
          · rw [if_neg e2]; exact ih j hj
    · rw [if_neg hc]; exact ih j hj
theorem rtA_nn {σ : MS} (hW : WF σ) {i : Nat} (hi : i < σ.1 0) {kn : Int32} : NN (rtA σ i kn) := by
  intro d _
  have h1 := fun j hj => Fk_rg hW (p := i) (d := kn) (100 * (d + 1)) j hj
  have hb := hW.2.2.2.2.1 i hi
  unfold rtA rtw
  by_cases h : (Fk σ i kn (100 * (d + 1))).2 = 0
  · rw [if_pos h]; exact Int32.le_refl _
  · rw [if_neg h]
    have m0 := mul_rg (h1 0 (by decide)) (wt_rg hW (f := 0) (d := nI d))
    have m1 := mul_rg (h1 1 (by decide)) (wt_rg hW (f := 1) (d := nI d))
    have m2 := mul_rg (h1 2 (by decide)) (wt_rg hW (f := 2) (d := nI d))
    have hb2 : rg (σ.2 0 i) 0 1000 := ⟨by have := hb.1; omega, hb.2⟩
    have s := add_rg (add_rg (add_rg hb2 m0 (by decide)) m1 (by decide)) m2 (by decide)
    apply Int32.le_iff_toInt_le.mpr
    have e0 : (0 : Int32).toInt = 0 := rfl
    have := s.1
    omega
theorem kn_ok {σ : MS} (hW : WF σ) {kn : Int32} (h : ¬ bad 0 (σ.2 12 0) kn) : kn.toInt < 2147483647 := by
  have h1 := (nb_rg h).2
  have h2 := hW.2.2.2.1.2
  omega
/-- the day on which segment j begins -/
def sdy (r : Nat → Int32) (j : Nat) : Nat → Nat
  | 0 => 0
  | n + 1 => if bgn r n ∧ sn r n = j then n else sdy r j n
theorem sdy_eq {r : Nat → Int32} {d : Nat} (hb : bgn r d) : ∀ n, d < n → sdy r (sn r d) n = d := by
  intro n
  induction n with
  | zero => intro h; exact absurd h (Nat.not_lt_zero _)
  | succ n ih =>
    intro h
    rw [sdy]
    by_cases hc : bgn r n ∧ sn r n = sn r d
    · rw [if_pos hc]; exact sn_inj hc.1 hb hc.2
    · rw [if_neg hc]
      exact ih (by
        rcases Nat.lt_or_ge d n with h1 | h1
        · exact h1
        · exact absurd ⟨by rw [show n = d by omega]; exact hb, by rw [show n = d by omega]⟩ hc)

set_option maxHeartbeats 4000000 in
theorem c_value (l : Launch) (Γ : GP) (G : GH) (hst : l.stackTraces = false) {x : Nat} {σ : MS} {A : Nat → Nat → Nat} (hW : WF σ) (hX : XP Γ G x σ A) {p f d kn : Int32} (hC : CN Γ G) : MetX l yX1_value (ws_ yX1_value cX1_value 6 (some .int)) (RM 12 4000 12000) Γ G [.ref x, .int p, .int f, .int d, .int kn] (fun v G1 => kV σ p f d kn = 0 ∧ v = some (.int ((Fk σ p.toNatClampNeg kn (100 * (d.toInt.toNat + 1))).1 f.toNatClampNeg)) ∧ XP Γ G1 x σ A ∧ gK TX G G1) (fun E G1 => ((E = EIO ∧ kV σ p f d kn = 1) ∨ (E = EIA ∧ kV σ p f d kn = 2)) ∧ XP Γ G1 x σ A ∧ gK TX G G1) 4000 12000 := by
  refine gMetX (own := RX1) (by decide) rfl (Nat.le_of_ble_eq_true rfl) ?_
  intro pp ee ss mm below meth cc0 ls X hr hlk hin hnm hxt hR hS hl
  have hl : lv_has ls 6 [(0, .ref x), (1, .int p), (2, .int f), (3, .int d), (4, .int kn)] := hl
  have hX9 := hX
  obtain ⟨⟨rf, hx, hrf⟩, ⟨c0, c1, c2, hcap, hA0, hA1, hA2⟩, hXp, hXc, hXt⟩ := hX9
  refine lv_aload_n X.hx X.hb dX1_value_0 rfl (lv_at hl 0 rfl) ?_
  refine lv_iload_n X.hx X.hb dX1_value_1 rfl (lv_at hl 1 rfl) ?_
  refine gxV X hl.1 hR hS 1 [.int p] [] (c_policyAt l Γ G hst hW hX) hx rfl q471 q473 qs4 q36 q474 rfl rfl ⟨rfl, by decide +kernel, by decide +kernel, by decide +kernel⟩ ⟨by (try dsimp only [RM]); omega, by (try dsimp only [RM]); omega⟩ rfl rfl (Nat.le_of_ble_eq_true rfl) dX1_value_2 ⟨by (try dsimp only [RM]); omega, by (try dsimp only [RM]); omega⟩ (fun E364 ce q9 G9 H locs hq9 hR9 hS9 hce hcv hcl => ?_) (fun v362 G363 H locs hq359 hR360 hS361 => ?_)
  · obtain ⟨rfl, hbd, rfl⟩ := hq9
    exact g_out X hlk hxt hR9 hS9 hce hcv hcl (⟨Or.inl ⟨rfl, by rw [kV, if_pos (Or.inl hbd)]⟩, hX, gK.rf⟩) (by (try dsimp only [RM]); omega) (by (try dsimp only [RM]); omega)
  · obtain ⟨i, hi, rfl, rfl, rfl⟩ := hq359
    have hi31 : i < 2 ^ 31 := Nat.lt_of_lt_of_le hi (Nat.le_trans hW.1 (by decide))
    have hnp : ¬ bdP (nI (σ.1 0)) (nI i) := nbdP (nI_pos hi31) (nI_lt hi (Nat.lt_of_le_of_lt hW.1 (by decide)))
    have hic := nI_clamp hi31
    have hpol := (hX.2.2.1 i hi).1
    refine lv_astore (lv' := [(5, .ref (A 2 i)), (0, .ref x), (1, .int (nI i)), (2, .int f), (3, .int d), (4, .int kn)]) X.hx X.hb dX1_value_5 hl (by decide) rfl (fun ls hl => ?_)
    refine lv_iload_n X.hx X.hb dX1_value_7 rfl (lv_at hl 3 rfl) ?_
    refine lv_iconst (v := 3) X.hx X.hb dX1_value_8 (by decide) ?_
    refine gxS X hl.1 hR360 hS361 2 [.int f, .int 3] [] (c_needPlace l Γ G hst) q420 q421 q36 q422 rfl rfl ⟨by decide +kernel, by decide +kernel, by decide +kernel⟩ ⟨by (try dsimp only [RM]); omega, by (try dsimp only [RM]); omega⟩ rfl rfl (Nat.le_of_ble_eq_true rfl) dX1_value_9 ⟨by (try dsimp only [RM]); omega, by (try dsimp only [RM]); omega⟩ (fun E370 ce q9 G9 H locs hq9 hR9 hS9 hce hcv hcl => ?_) (fun v368 G369 H locs hq365 hR366 hS367 => ?_)
    · obtain ⟨rfl, hbd, rfl⟩ := hq9
      exact g_out X hlk hxt hR9 hS9 hce hcv hcl (⟨Or.inl ⟨rfl, by rw [kV, if_pos (Or.inr hbd)]⟩, hX, gK.rf⟩) (by (try dsimp only [RM]); omega) (by (try dsimp only [RM]); omega)
    · obtain ⟨rfl, hf0, hf1, rfl⟩ := hq365
      refine lv_aload_n X.hx X.hb dX1_value_12 rfl (lv_at hl 1 rfl) ?_
      refine lv_iload_n X.hx X.hb dX1_value_13 rfl (lv_at hl 4 rfl) ?_
      refine lv_iload X.hx X.hb dX1_value_14 (lv_at hl 5 rfl) ?_
      refine gxV X hl.1 hR366 hS367 2 [.int d, .int kn] [] (c_needDays l Γ G hst hW hX) hx rfl q732 q734 qs13 q36 q735 rfl rfl ⟨rfl, by decide +kernel, by decide +kernel, by decide +kernel⟩ ⟨by (try dsimp only [RM]); omega, by (try dsimp only [RM]); omega⟩ rfl rfl (Nat.le_of_ble_eq_true rfl) dX1_value_16 ⟨by (try dsimp only [RM]); omega, by (try dsimp only [RM]); omega⟩ (fun E376 ce q9 G9 H locs hq9 hR9 hS9 hce hcv hcl => ?_) (fun v374 G375 H locs hq371 hR372 hS373 => ?_)
      · obtain ⟨rfl, hbd, rfl⟩ := hq9
        exact g_out X hlk hxt hR9 hS9 hce hcv hcl (⟨Or.inr ⟨rfl, by rw [kV, if_neg (or_no hnp (nbdP hf0 hf1)), if_pos hbd]⟩, hX, gK.rf⟩) (by (try dsimp only [RM]); omega) (by (try dsimp only [RM]); omega)
      · obtain ⟨rfl, hnd, hnk, rfl⟩ := hq371
        refine lv_aload_n X.hx X.hb dX1_value_19 rfl (lv_at hl 1 rfl) ?_
        refine lv_aload X.hx X.hb dX1_value_20 (lv_at hl 0 rfl) ?_
        refine lv_iload_n X.hx X.hb dX1_value_22 rfl (lv_at hl 4 rfl) ?_
        refine lv_iload X.hx X.hb dX1_value_23 (lv_at hl 5 rfl) ?_
        have hd4 : rg d 0 364 := nb_rg hnd
        refine gcV X hl.1 hR372 hS373 3 [.ref (A 2 i), .int d, .int kn] [] (c_version l Γ G hC hW hX hi hd4 (kn_ok hW hnk)) hx rfl q736 q738 qs14 q36 q739 rfl rfl ⟨rfl, by decide +kernel, by decide +kernel, by decide +kernel⟩ ⟨by (try dsimp only [RM]); omega, by (try dsimp only [RM]); omega⟩ rfl rfl (Nat.le_of_ble_eq_true rfl) dX1_value_25 ⟨by (try dsimp only [RM]); omega, by (try dsimp only [RM]); omega⟩ (fun v380 G381 H locs hq377 hR378 hS379 => ?_)
        obtain ⟨qv, rfl, hVP, hgv⟩ := hq377
        have hXv := hX.keep hgv
        obtain ⟨ar, fv, hqv, har, hfv, hon⟩ := id hVP
        obtain ⟨⟨rfv, hx, hrf⟩, -⟩ := id hXv
        refine g_getN X hR378 hqv rfl in_X6 0 (by decide) kq747 (fun _ h => h) rfl dX1_value_28 ?_
        refine lv_iload_n X.hx X.hb dX1_value_31 rfl (lv_at hl 3 rfl) ?_
        have hf3 := f3_rg (nbdP hf0 hf1)
        refine g_iald (v := fv f.toNatClampNeg) X hR378 har (in3 hf3) rfl dX1_value_32 ?_
        refine lv_topi (fun x382 hx382 => ?_)
        obtain rfl : x382 = (Fk σ i kn (100 * (d.toInt.toNat + 1))).1 f.toNatClampNeg := hx382.trans (hfv _ (cl_lt3 hf3))
        refine vx_ret ?_
        exact g_iret X hr hlk hR378 hS379 (⟨by rw [kV, if_neg (or_no hnp (nbdP hf0 hf1)), if_neg (or_no hnd hnk)], by rw [hic], hXv, TX_TR hgv⟩) (by (try dsimp only [RM]); omega) (by (try dsimp only [RM]); omega) dX1_value_33

set_option maxHeartbeats 4000000 in
theorem c_isCovered (l : Launch) (Γ : GP) (G : GH) (hst : l.stackTraces = false) {x : Nat} {σ : MS} {A : Nat → Nat → Nat} (hW : WF σ) (hX : XP Γ G x σ A) {p d kn : Int32} (hC : CN Γ G) : MetX l yX1_isCovered (ws_ yX1_isCovered cX1_isCovered 5 (some .boolean)) (RM 12 4000 12000) Γ G [.ref x, .int p, .int d, .int kn] (fun v G1 => kV σ p 0 d kn = 0 ∧ v = some (.int ((Fk σ p.toNatClampNeg kn (100 * (d.toInt.toNat + 1))).2)) ∧ XP Γ G1 x σ A ∧ gK TX G G1) (fun E G1 => ((E = EIO ∧ kV σ p 0 d kn = 1) ∨ (E = EIA ∧ kV σ p 0 d kn = 2)) ∧ XP Γ G1 x σ A ∧ gK TX G G1) 4000 12000 := by
  refine gMetX (own := RX1) (by decide) rfl (Nat.le_of_ble_eq_true rfl) ?_
  intro pp ee ss mm below meth cc0 ls X hr hlk hin hnm hxt hR hS hl
  have hl : lv_has ls 5 [(0, .ref x), (1, .int p), (2, .int d), (3, .int kn)] := hl
  have hX9 := hX
  obtain ⟨⟨rf, hx, hrf⟩, ⟨c0, c1, c2, hcap, hA0, hA1, hA2⟩, hXp, hXc, hXt⟩ := hX9
  refine lv_aload_n X.hx X.hb dX1_isCovered_0 rfl (lv_at hl 0 rfl) ?_
  refine lv_iload_n X.hx X.hb dX1_isCovered_1 rfl (lv_at hl 1 rfl) ?_
  refine gxV X hl.1 hR hS 1 [.int p] [] (c_policyAt l Γ G hst hW hX) hx rfl q471 q473 qs4 q36 q474 rfl rfl ⟨rfl, by decide +kernel, by decide +kernel, by decide +kernel⟩ ⟨by (try dsimp only [RM]); omega, by (try dsimp only [RM]); omega⟩ rfl rfl (Nat.le_of_ble_eq_true rfl) dX1_isCovered_2 ⟨by (try dsimp only [RM]); omega, by (try dsimp only [RM]); omega⟩ (fun E388 ce q9 G9 H locs hq9 hR9 hS9 hce hcv hcl => ?_) (fun v386 G387 H locs hq383 hR384 hS385 => ?_)
  · obtain ⟨rfl, hbd, rfl⟩ := hq9
    exact g_out X hlk hxt hR9 hS9 hce hcv hcl (⟨Or.inl ⟨rfl, by rw [kV, if_pos (Or.inl hbd)]⟩, hX, gK.rf⟩) (by (try dsimp only [RM]); omega) (by (try dsimp only [RM]); omega)
  · obtain ⟨i, hi, rfl, rfl, rfl⟩ := hq383
    have hi31 : i < 2 ^ 31 := Nat.lt_of_lt_of_le hi (Nat.le_trans hW.1 (by decide))
    have hnp : ¬ bdP (nI (σ.1 0)) (nI i) := nbdP (nI_pos hi31) (nI_lt hi (Nat.lt_of_le_of_lt hW.1 (by decide)))
    have hic := nI_clamp hi31
    have hpol := (hX.2.2.1 i hi).1
    refine lv_astore (lv' := [(4, .ref (A 2 i)), (0, .ref x), (1, .int (nI i)), (2, .int d), (3, .int kn)]) X.hx X.hb dX1_isCovered_5 hl (by decide) rfl (fun ls hl => ?_)
    refine lv_aload_n X.hx X.hb dX1_isCovered_7 rfl (lv_at hl 1 rfl) ?_
    refine lv_iload_n X.hx X.hb dX1_isCovered_8 rfl (lv_at hl 3 rfl) ?_
    refine lv_iload_n X.hx X.hb dX1_isCovered_9 rfl (lv_at hl 4 rfl) ?_
    refine gxV X hl.1 hR384 hS385 2 [.int d, .int kn] [] (c_needDays l Γ G hst hW hX) hx rfl q732 q734 qs13 q36 q735 rfl rfl ⟨rfl, by decide +kernel, by decide +kernel, by decide +kernel⟩ ⟨by (try dsimp only [RM]); omega, by (try dsimp only [RM]); omega⟩ rfl rfl (Nat.le_of_ble_eq_true rfl) dX1_isCovered_10 ⟨by (try dsimp only [RM]); omega, by (try dsimp only [RM]); omega⟩ (fun E394 ce q9 G9 H locs hq9 hR9 hS9 hce hcv hcl => ?_) (fun v392 G393 H locs hq389 hR390 hS391 => ?_)
    · obtain ⟨rfl, hbd, rfl⟩ := hq9
      exact g_out X hlk hxt hR9 hS9 hce hcv hcl (⟨Or.inr ⟨rfl, by rw [kV, if_neg (or_no hnp c03), if_pos hbd]⟩, hX, gK.rf⟩) (by (try dsimp only [RM]); omega) (by (try dsimp only [RM]); omega)
    · obtain ⟨rfl, hnd, hnk, rfl⟩ := hq389
      refine lv_aload_n X.hx X.hb dX1_isCovered_13 rfl (lv_at hl 1 rfl) ?_
      refine lv_aload X.hx X.hb dX1_isCovered_14 (lv_at hl 0 rfl) ?_
      refine lv_iload_n X.hx X.hb dX1_isCovered_16 rfl (lv_at hl 3 rfl) ?_
      refine lv_iload_n X.hx X.hb dX1_isCovered_17 rfl (lv_at hl 4 rfl) ?_
      have hd4 : rg d 0 364 := nb_rg hnd
      refine gcV X hl.1 hR390 hS391 3 [.ref (A 2 i), .int d, .int kn] [] (c_version l Γ G hC hW hX hi hd4 (kn_ok hW hnk)) hx rfl q736 q738 qs14 q36 q739 rfl rfl ⟨rfl, by decide +kernel, by decide +kernel, by decide +kernel⟩ ⟨by (try dsimp only [RM]); omega, by (try dsimp only [RM]); omega⟩ rfl rfl (Nat.le_of_ble_eq_true rfl) dX1_isCovered_18 ⟨by (try dsimp only [RM]); omega, by (try dsimp only [RM]); omega⟩ (fun v398 G399 H locs hq395 hR396 hS397 => ?_)
      obtain ⟨qv, rfl, hVP, hgv⟩ := hq395
      have hXv := hX.keep hgv
      obtain ⟨ar, fv, hqv, har, hfv, hon⟩ := id hVP
      obtain ⟨⟨rfv, hx, hrf⟩, -⟩ := id hXv
      refine g_getN X hR396 hqv rfl in_X6 1 (by decide) kq749 (fun _ h => h) rfl dX1_isCovered_21 ?_
      refine vx_ret ?_
      exact g_zret X hr hlk hR396 hS397 (nar_bool hon) (⟨by rw [kV, if_neg (or_no hnp c03), if_neg (or_no hnd hnk)], by rw [hic], hXv, TX_TR hgv⟩) (by (try dsimp only [RM]); omega) (by (try dsimp only [RM]); omega) dX1_isCovered_24

set_option maxHeartbeats 4000000 in
theorem c_rate (l : Launch) (Γ : GP) (G : GH) (hst : l.stackTraces = false) {x : Nat} {σ : MS} {A : Nat → Nat → Nat} (hW : WF σ) (hX : XP Γ G x σ A) {p d kn : Int32} (hC : CN Γ G) : MetX l yX1_rate (ws_ yX1_rate cX1_rate 5 (some .int)) (RM 12 4000 12000) Γ G [.ref x, .int p, .int d, .int kn] (fun v G1 => kV σ p 0 d kn = 0 ∧ v = some (.int (rtw σ p.toNatClampNeg d (Fk σ p.toNatClampNeg kn (100 * (d.toInt.toNat + 1))))) ∧ XP Γ G1 x σ A ∧ gK TX G G1) (fun E G1 => ((E = EIO ∧ kV σ p 0 d kn = 1) ∨ (E = EIA ∧ kV σ p 0 d kn = 2)) ∧ XP Γ G1 x σ A ∧ gK TX G G1) 4000 12000 := by
  refine gMetX (own := RX1) (by decide) rfl (Nat.le_of_ble_eq_true rfl) ?_
  intro pp ee ss mm below meth cc0 ls X hr hlk hin hnm hxt hR hS hl
  have hl : lv_has ls 5 [(0, .ref x), (1, .int p), (2, .int d), (3, .int kn)] := hl
  have hX9 := hX
  obtain ⟨⟨rf, hx, hrf⟩, ⟨c0, c1, c2, hcap, hA0, hA1, hA2⟩, hXp, hXc, hXt⟩ := hX9
  refine lv_aload_n X.hx X.hb dX1_rate_0 rfl (lv_at hl 0 rfl) ?_
  refine lv_iload_n X.hx X.hb dX1_rate_1 rfl (lv_at hl 1 rfl) ?_
  refine gxV X hl.1 hR hS 1 [.int p] [] (c_policyAt l Γ G hst hW hX) hx rfl q471 q473 qs4 q36 q474 rfl rfl ⟨rfl, by decide +kernel, by decide +kernel, by decide +kernel⟩ ⟨by (try dsimp only [RM]); omega, by (try dsimp only [RM]); omega⟩ rfl rfl (Nat.le_of_ble_eq_true rfl) dX1_rate_2 ⟨by (try dsimp only [RM]); omega, by (try dsimp only [RM]); omega⟩ (fun E405 ce q9 G9 H locs hq9 hR9 hS9 hce hcv hcl => ?_) (fun v403 G404 H locs hq400 hR401 hS402 => ?_)
  · obtain ⟨rfl, hbd, rfl⟩ := hq9
    exact g_out X hlk hxt hR9 hS9 hce hcv hcl (⟨Or.inl ⟨rfl, by rw [kV, if_pos (Or.inl hbd)]⟩, hX, gK.rf⟩) (by (try dsimp only [RM]); omega) (by (try dsimp only [RM]); omega)
  · obtain ⟨i, hi, rfl, rfl, rfl⟩ := hq400
    have hi31 : i < 2 ^ 31 := Nat.lt_of_lt_of_le hi (Nat.le_trans hW.1 (by decide))
    have hnp : ¬ bdP (nI (σ.1 0)) (nI i) := nbdP (nI_pos hi31) (nI_lt hi (Nat.lt_of_le_of_lt hW.1 (by decide)))
    have hic := nI_clamp hi31
    have hpol := (hX.2.2.1 i hi).1
    refine lv_astore (lv' := [(4, .ref (A 2 i)), (0, .ref x), (1, .int (nI i)), (2, .int d), (3, .int kn)]) X.hx X.hb dX1_rate_5 hl (by decide) rfl (fun ls hl => ?_)
    refine lv_aload_n X.hx X.hb dX1_rate_7 rfl (lv_at hl 1 rfl) ?_
    refine lv_iload_n X.hx X.hb dX1_rate_8 rfl (lv_at hl 3 rfl) ?_
    refine lv_iload_n X.hx X.hb dX1_rate_9 rfl (lv_at hl 4 rfl) ?_
    refine gxV X hl.1 hR401 hS402 2 [.int d, .int kn] [] (c_needDays l Γ G hst hW hX) hx rfl q732 q734 qs13 q36 q735 rfl rfl ⟨rfl, by decide +kernel, by decide +kernel, by decide +kernel⟩ ⟨by (try dsimp only [RM]); omega, by (try dsimp only [RM]); omega⟩ rfl rfl (Nat.le_of_ble_eq_true rfl) dX1_rate_10 ⟨by (try dsimp only [RM]); omega, by (try dsimp only [RM]); omega⟩ (fun E411 ce q9 G9 H locs hq9 hR9 hS9 hce hcv hcl => ?_) (fun v409 G410 H locs hq406 hR407 hS408 => ?_)
    · obtain ⟨rfl, hbd, rfl⟩ := hq9
      exact g_out X hlk hxt hR9 hS9 hce hcv hcl (⟨Or.inr ⟨rfl, by rw [kV, if_neg (or_no hnp c03), if_pos hbd]⟩, hX, gK.rf⟩) (by (try dsimp only [RM]); omega) (by (try dsimp only [RM]); omega)
    · obtain ⟨rfl, hnd, hnk, rfl⟩ := hq406
      refine lv_aload_n X.hx X.hb dX1_rate_13 rfl (lv_at hl 1 rfl) ?_
      refine lv_aload X.hx X.hb dX1_rate_14 (lv_at hl 0 rfl) ?_
      refine lv_aload_n X.hx X.hb dX1_rate_16 rfl (lv_at hl 1 rfl) ?_
      refine lv_aload X.hx X.hb dX1_rate_17 (lv_at hl 0 rfl) ?_
      refine lv_iload_n X.hx X.hb dX1_rate_19 rfl (lv_at hl 3 rfl) ?_
      refine lv_iload_n X.hx X.hb dX1_rate_20 rfl (lv_at hl 4 rfl) ?_
      have hd4 : rg d 0 364 := nb_rg hnd
      refine gcV X hl.1 hR407 hS408 3 [.ref (A 2 i), .int d, .int kn] [.ref (A 2 i), .ref x] (c_version l Γ G hC hW hX hi hd4 (kn_ok hW hnk)) hx rfl q736 q738 qs14 q36 q739 rfl rfl ⟨rfl, by decide +kernel, by decide +kernel, by decide +kernel⟩ ⟨by (try dsimp only [RM]); omega, by (try dsimp only [RM]); omega⟩ rfl rfl (Nat.le_of_ble_eq_true rfl) dX1_rate_21 ⟨by (try dsimp only [RM]); omega, by (try dsimp only [RM]); omega⟩ (fun v415 G416 H locs hq412 hR413 hS414 => ?_)
      obtain ⟨qv, rfl, hVP, hgv⟩ := hq412
      have hXv := hX.keep hgv
      obtain ⟨ar, fv, hqv, har, hfv, hon⟩ := id hVP
      obtain ⟨⟨rfv, hx, hrf⟩, -⟩ := id hXv
      refine lv_iload_n X.hx X.hb dX1_rate_24 rfl (lv_at hl 3 rfl) ?_
      refine gcV X hl.1 hR413 hS414 3 [.ref (A 2 i), .ref qv, .int d] [] (c_rateOf l Γ G416 hW hXv hi hVP) hx rfl q1181 q1183 qs15 q36 q1184 rfl rfl ⟨rfl, by decide +kernel, by decide +kernel, by decide +kernel⟩ ⟨by (try dsimp only [RM]); omega, by (try dsimp only [RM]); omega⟩ rfl rfl (Nat.le_of_ble_eq_true rfl) dX1_rate_25 ⟨by (try dsimp only [RM]); omega, by (try dsimp only [RM]); omega⟩ (fun v420 G421 H locs hq417 hR418 hS419 => ?_)
      obtain ⟨rfl, rfl⟩ := hq417
      refine vx_ret ?_
      exact g_iret X hr hlk hR418 hS419 (⟨by rw [kV, if_neg (or_no hnp c03), if_neg (or_no hnd hnk)], by rw [hic], hXv, TX_TR hgv⟩) (by (try dsimp only [RM]); omega) (by (try dsimp only [RM]); omega) dX1_rate_28

set_option maxHeartbeats 4000000 in
theorem c_segments (l : Launch) (Γ : GP) (G : GH) (hst : l.stackTraces = false) {x : Nat} {σ : MS} {A : Nat → Nat → Nat} (hW : WF σ) (hX : XP Γ G x σ A) {p kn : Int32} (hC : CN Γ G) : MetX l yX1_segments (ws_ yX1_segments cX1_segments 4 (some .int)) (RM 12 4000 12000) Γ G [.ref x, .int p, .int kn] (fun v G1 => kV σ p 0 0 kn = 0 ∧ v = some (.int (nI (nS σ p kn))) ∧ XP Γ G1 x σ A ∧ gK TX G G1) (fun E G1 => ((E = EIO ∧ kV σ p 0 0 kn = 1) ∨ (E = EIA ∧ kV σ p 0 0 kn = 2)) ∧ XP Γ G1 x σ A ∧ gK TX G G1) 4000 12000 := by
  refine gMetX (own := RX1) (by decide) rfl (Nat.le_of_ble_eq_true rfl) ?_
  intro pp ee ss mm below meth cc0 ls X hr hlk hin hnm hxt hR hS hl
  have hl : lv_has ls 4 [(0, .ref x), (1, .int p), (2, .int kn)] := hl
  have hX9 := hX
  obtain ⟨⟨rf, hx, hrf⟩, ⟨c0, c1, c2, hcap, hA0, hA1, hA2⟩, hXp, hXc, hXt⟩ := hX9
  refine lv_aload_n X.hx X.hb dX1_segments_0 rfl (lv_at hl 0 rfl) ?_
  refine lv_iload_n X.hx X.hb dX1_segments_1 rfl (lv_at hl 1 rfl) ?_
  refine gxV X hl.1 hR hS 1 [.int p] [] (c_policyAt l Γ G hst hW hX) hx rfl q471 q473 qs4 q36 q474 rfl rfl ⟨rfl, by decide +kernel, by decide +kernel, by decide +kernel⟩ ⟨by (try dsimp only [RM]); omega, by (try dsimp only [RM]); omega⟩ rfl rfl (Nat.le_of_ble_eq_true rfl) dX1_segments_2 ⟨by (try dsimp only [RM]); omega, by (try dsimp only [RM]); omega⟩ (fun E427 ce q9 G9 H locs hq9 hR9 hS9 hce hcv hcl => ?_) (fun v425 G426 H locs hq422 hR423 hS424 => ?_)
  · obtain ⟨rfl, hbd, rfl⟩ := hq9
    exact g_out X hlk hxt hR9 hS9 hce hcv hcl (⟨Or.inl ⟨rfl, by rw [kV, if_pos (Or.inl hbd)]⟩, hX, gK.rf⟩) (by (try dsimp only [RM]); omega) (by (try dsimp only [RM]); omega)
  · obtain ⟨i, hi, rfl, rfl, rfl⟩ := hq422
    have hi31 : i < 2 ^ 31 := Nat.lt_of_lt_of_le hi (Nat.le_trans hW.1 (by decide))
    have hnp : ¬ bdP (nI (σ.1 0)) (nI i) := nbdP (nI_pos hi31) (nI_lt hi (Nat.lt_of_le_of_lt hW.1 (by decide)))
    have hic := nI_clamp hi31
    have hpol := (hX.2.2.1 i hi).1
    refine lv_astore_n (lv' := [(3, .ref (A 2 i)), (0, .ref x), (1, .int (nI i)), (2, .int kn)]) X.hx X.hb dX1_segments_5 rfl hl (by decide) rfl (fun ls hl => ?_)
    refine lv_iload_n X.hx X.hb dX1_segments_6 rfl (lv_at hl 3 rfl) ?_
    refine lv_iconst (v := 0) X.hx X.hb dX1_segments_7 (by decide) ?_
    refine lv_aload_n X.hx X.hb dX1_segments_8 rfl (lv_at hl 1 rfl) ?_
    refine g_get X hR423 hx rfl in_X1 3 (by decide) q121 (fun _ h => h) rfl dX1_segments_9 ?_
    refine gxS X hl.1 hR423 hS424 3 [.int kn, .int 0, .int (σ.2 12 0)] [] (c_needNumber l Γ G hst) q162 q163 q36 q164 rfl rfl ⟨by decide +kernel, by decide +kernel, by decide +kernel⟩ ⟨by (try dsimp only [RM]); omega, by (try dsimp only [RM]); omega⟩ rfl rfl (Nat.le_of_ble_eq_true rfl) dX1_segments_12 ⟨by (try dsimp only [RM]); omega, by (try dsimp only [RM]); omega⟩ (fun E433 ce q9 G9 H locs hq9 hR9 hS9 hce hcv hcl => ?_) (fun v431 G432 H locs hq428 hR429 hS430 => ?_)
    · obtain ⟨rfl, hbd, rfl⟩ := hq9
      exact g_out X hlk hxt hR9 hS9 hce hcv hcl (⟨Or.inr ⟨rfl, by rw [kV, if_neg (or_no hnp c03), if_pos (Or.inr hbd)]⟩, hX, gK.rf⟩) (by (try dsimp only [RM]); omega) (by (try dsimp only [RM]); omega)
    · obtain ⟨rfl, hk0, hk1, rfl⟩ := hq428
      refine lv_aload_n X.hx X.hb dX1_segments_15 rfl (lv_at hl 1 rfl) ?_
      refine lv_aload_n X.hx X.hb dX1_segments_16 rfl (lv_at hl 0 rfl) ?_
      refine lv_iload_n X.hx X.hb dX1_segments_17 rfl (lv_at hl 3 rfl) ?_
      refine gcV X hl.1 hR429 hS430 2 [.ref (A 2 i), .int kn] [] (c_starts l Γ G hW hX hC hi (kn_ok hW (nbad hk0 hk1))) hx rfl q1208 q1210 qs17 q36 q1211 rfl rfl ⟨rfl, by decide +kernel, by decide +kernel, by decide +kernel⟩ ⟨by (try dsimp only [RM]); omega, by (try dsimp only [RM]); omega⟩ rfl rfl (Nat.le_of_ble_eq_true rfl) dX1_segments_18 ⟨by (try dsimp only [RM]); omega, by (try dsimp only [RM]); omega⟩ (fun v437 G438 H locs hq434 hR435 hS436 => ?_)
      obtain ⟨al, cap, rfl, hcap, hSL, hX1, hgf, rf1, hrf1, hrd⟩ := hq434
      obtain ⟨ba, hAL, hba⟩ := id hSL
      obtain ⟨mo, ea, gg, hal, -⟩ := id hAL
      refine gcF X hl.1 hR435 hS436 0 [] [] (c_sizeA l Γ G438 hAL) hal rfl kf1 q144 q148 q150 q39 q152 rfl rfl ⟨by decide +kernel, by decide +kernel, by decide +kernel⟩ ⟨by (try dsimp only [RM]); omega, by (try dsimp only [RM]); omega⟩ rfl rfl (Nat.le_of_ble_eq_true rfl) dX1_segments_21 ⟨by (try dsimp only [RM]); omega, by (try dsimp only [RM]); omega⟩ (fun v442 G443 H locs hq439 hR440 hS441 => ?_)
      obtain ⟨rfl, rfl⟩ := hq439
      refine vx_ret ?_
      exact g_iret X hr hlk hR440 hS441 (⟨by rw [kV, if_neg (or_no hnp c03), if_neg (or_no c0d (nbad hk0 hk1))], by rw [nS, hic], hX1, hgf⟩) (by (try dsimp only [RM]); omega) (by (try dsimp only [RM]); omega) dX1_segments_26

set_option maxHeartbeats 4000000 in
theorem c_premium (l : Launch) (Γ : GP) (G : GH) (hst : l.stackTraces = false) {x : Nat} {σ : MS} {A : Nat → Nat → Nat} (hW : WF σ) (hX : XP Γ G x σ A) {p kn : Int32} (hC : CN Γ G) : MetX l yX1_premium (ws_ yX1_premium cX1_premium 4 (some .int)) (RM 12 4000 12000) Γ G [.ref x, .int p, .int kn] (fun v G1 => kV σ p 0 0 kn = 0 ∧ v = some (.int (SUM (rtA σ p.toNatClampNeg kn) 365 / 365)) ∧ XP Γ G1 x σ A ∧ gK TX G G1) (fun E G1 => ((E = EIO ∧ kV σ p 0 0 kn = 1) ∨ (E = EIA ∧ kV σ p 0 0 kn = 2)) ∧ XP Γ G1 x σ A ∧ gK TX G G1) 4000 12000 := by
  refine gMetX (own := RX1) (by decide) rfl (Nat.le_of_ble_eq_true rfl) ?_
  intro pp ee ss mm below meth cc0 ls X hr hlk hin hnm hxt hR hS hl
  have hl : lv_has ls 4 [(0, .ref x), (1, .int p), (2, .int kn)] := hl
  have hX9 := hX
  obtain ⟨⟨rf, hx, hrf⟩, ⟨c0, c1, c2, hcap, hA0, hA1, hA2⟩, hXp, hXc, hXt⟩ := hX9
  refine lv_aload_n X.hx X.hb dX1_premium_0 rfl (lv_at hl 0 rfl) ?_
  refine lv_iload_n X.hx X.hb dX1_premium_1 rfl (lv_at hl 1 rfl) ?_
  refine gxV X hl.1 hR hS 1 [.int p] [] (c_policyAt l Γ G hst hW hX) hx rfl q471 q473 qs4 q36 q474 rfl rfl ⟨rfl, by decide +kernel, by decide +kernel, by decide +kernel⟩ ⟨by (try dsimp only [RM]); omega, by (try dsimp only [RM]); omega⟩ rfl rfl (Nat.le_of_ble_eq_true rfl) dX1_premium_2 ⟨by (try dsimp only [RM]); omega, by (try dsimp only [RM]); omega⟩ (fun E449 ce q9 G9 H locs hq9 hR9 hS9 hce hcv hcl => ?_) (fun v447 G448 H locs hq444 hR445 hS446 => ?_)
  · obtain ⟨rfl, hbd, rfl⟩ := hq9
    exact g_out X hlk hxt hR9 hS9 hce hcv hcl (⟨Or.inl ⟨rfl, by rw [kV, if_pos (Or.inl hbd)]⟩, hX, gK.rf⟩) (by (try dsimp only [RM]); omega) (by (try dsimp only [RM]); omega)
  · obtain ⟨i, hi, rfl, rfl, rfl⟩ := hq444
    have hi31 : i < 2 ^ 31 := Nat.lt_of_lt_of_le hi (Nat.le_trans hW.1 (by decide))
    have hnp : ¬ bdP (nI (σ.1 0)) (nI i) := nbdP (nI_pos hi31) (nI_lt hi (Nat.lt_of_le_of_lt hW.1 (by decide)))
    have hic := nI_clamp hi31
    have hpol := (hX.2.2.1 i hi).1
    refine lv_astore_n (lv' := [(3, .ref (A 2 i)), (0, .ref x), (1, .int (nI i)), (2, .int kn)]) X.hx X.hb dX1_premium_5 rfl hl (by decide) rfl (fun ls hl => ?_)
    refine lv_iload_n X.hx X.hb dX1_premium_6 rfl (lv_at hl 3 rfl) ?_
    refine lv_iconst (v := 0) X.hx X.hb dX1_premium_7 (by decide) ?_
    refine lv_aload_n X.hx X.hb dX1_premium_8 rfl (lv_at hl 1 rfl) ?_
    refine g_get X hR445 hx rfl in_X1 3 (by decide) q121 (fun _ h => h) rfl dX1_premium_9 ?_
    refine gxS X hl.1 hR445 hS446 3 [.int kn, .int 0, .int (σ.2 12 0)] [] (c_needNumber l Γ G hst) q162 q163 q36 q164 rfl rfl ⟨by decide +kernel, by decide +kernel, by decide +kernel⟩ ⟨by (try dsimp only [RM]); omega, by (try dsimp only [RM]); omega⟩ rfl rfl (Nat.le_of_ble_eq_true rfl) dX1_premium_12 ⟨by (try dsimp only [RM]); omega, by (try dsimp only [RM]); omega⟩ (fun E455 ce q9 G9 H locs hq9 hR9 hS9 hce hcv hcl => ?_) (fun v453 G454 H locs hq450 hR451 hS452 => ?_)
    · obtain ⟨rfl, hbd, rfl⟩ := hq9
      exact g_out X hlk hxt hR9 hS9 hce hcv hcl (⟨Or.inr ⟨rfl, by rw [kV, if_neg (or_no hnp c03), if_pos (Or.inr hbd)]⟩, hX, gK.rf⟩) (by (try dsimp only [RM]); omega) (by (try dsimp only [RM]); omega)
    · obtain ⟨rfl, hk0, hk1, rfl⟩ := hq450
      refine lv_aload_n X.hx X.hb dX1_premium_15 rfl (lv_at hl 1 rfl) ?_
      refine lv_aload_n X.hx X.hb dX1_premium_16 rfl (lv_at hl 0 rfl) ?_
      refine lv_iload_n X.hx X.hb dX1_premium_17 rfl (lv_at hl 3 rfl) ?_
      refine gcV X hl.1 hR451 hS452 2 [.ref (A 2 i), .int kn] [] (c_pof l Γ G hW hX hC hi (kn_ok hW (nbad hk0 hk1)) (rtA_nn hW hi)) hx rfl q1259 q1261 qs23 q36 q1262 rfl rfl ⟨rfl, by decide +kernel, by decide +kernel, by decide +kernel⟩ ⟨by (try dsimp only [RM]); omega, by (try dsimp only [RM]); omega⟩ rfl rfl (Nat.le_of_ble_eq_true rfl) dX1_premium_18 ⟨by (try dsimp only [RM]); omega, by (try dsimp only [RM]); omega⟩ (fun v459 G460 H locs hq456 hR457 hS458 => ?_)
      obtain ⟨rfl, hX1, hgf⟩ := hq456
      refine vx_ret ?_
      exact g_iret X hr hlk hR457 hS458 (⟨by rw [kV, if_neg (or_no hnp c03), if_neg (or_no c0d (nbad hk0 hk1))], by rw [hic], hX1, hgf⟩) (by (try dsimp only [RM]); omega) (by (try dsimp only [RM]); omega) dX1_premium_21

set_option maxHeartbeats 4000000 in
theorem c_startOf (l : Launch) (Γ : GP) (G : GH) (hst : l.stackTraces = false) {x : Nat} {σ : MS} {A : Nat → Nat → Nat} (hW : WF σ) (hX : XP Γ G x σ A) {p sg kn : Int32} (hC : CN Γ G) : MetX l yX1_startOf (ws_ yX1_startOf cX1_startOf 5 (some .int)) (RM 11 3000 10000) Γ G [.ref x, .int p, .int sg, .int kn] (fun v G1 => kS σ p sg kn = 0 ∧ ∃ i d, i < σ.1 0 ∧ p = nI i ∧ d < 365 ∧ bgn (rtA σ i kn) d ∧ sg = nI (sn (rtA σ i kn) d) ∧ v = some (.int (nI d)) ∧ XP Γ G1 x σ A ∧ gK TX G G1 ∧ ∃ rf : Nat → Int32, G1 (A 1 0) = some ((15, 0), .inl (Γ.2 1, 365, .inl rf)) ∧ ∀ d, d < 365 → rf d = rtA σ i kn d) (fun E G1 => ((E = EIA ∧ kS σ p sg kn = 1) ∨ (E = EIO ∧ kS σ p sg kn = 2)) ∧ XP Γ G1 x σ A ∧ gK TX G G1) 3000 10000 := by
  refine gMetX (own := RX1) (by decide) rfl (Nat.le_of_ble_eq_true rfl) ?_
  intro pp ee ss mm below meth cc0 ls X hr hlk hin hnm hxt hR hS hl
  have hl : lv_has ls 5 [(0, .ref x), (1, .int p), (2, .int sg), (3, .int kn)] := hl
  have hX9 := hX
  obtain ⟨⟨rf, hx, hrf⟩, ⟨c0, c1, c2, hcap, hA0, hA1, hA2⟩, hXp, hXc, hXt⟩ := hX9
  refine lv_iload_n X.hx X.hb dX1_startOf_0 rfl (lv_at hl 3 rfl) ?_
  refine lv_iconst (v := 0) X.hx X.hb dX1_startOf_1 (by decide) ?_
  refine lv_aload_n X.hx X.hb dX1_startOf_2 rfl (lv_at hl 0 rfl) ?_
  refine g_get X hR hx rfl in_X1 3 (by decide) q121 (fun _ h => h) rfl dX1_startOf_3 ?_
  refine gxS X hl.1 hR hS 3 [.int kn, .int 0, .int (σ.2 12 0)] [] (c_needNumber l Γ G hst) q162 q163 q36 q164 rfl rfl ⟨by decide +kernel, by decide +kernel, by decide +kernel⟩ ⟨by (try dsimp only [RM]); omega, by (try dsimp only [RM]); omega⟩ rfl rfl (Nat.le_of_ble_eq_true rfl) dX1_startOf_6 ⟨by (try dsimp only [RM]); omega, by (try dsimp only [RM]); omega⟩ (fun E466 ce q9 G9 H locs hq9 hR9 hS9 hce hcv hcl => ?_) (fun v464 G465 H locs hq461 hR462 hS463 => ?_)
  · obtain ⟨rfl, hbd, rfl⟩ := hq9
    exact g_out X hlk hxt hR9 hS9 hce hcv hcl (⟨Or.inl ⟨rfl, by rw [kS, if_pos hbd]⟩, hX, gK.rf⟩) (by (try dsimp only [RM]); omega) (by (try dsimp only [RM]); omega)
  · obtain ⟨rfl, hk0, hk1, rfl⟩ := hq461
    refine lv_aload_n X.hx X.hb dX1_startOf_9 rfl (lv_at hl 0 rfl) ?_
    refine lv_aload_n X.hx X.hb dX1_startOf_10 rfl (lv_at hl 0 rfl) ?_
    refine lv_iload_n X.hx X.hb dX1_startOf_11 rfl (lv_at hl 1 rfl) ?_
    refine gxV X hl.1 hR462 hS463 1 [.int p] [.ref x] (c_policyAt l Γ G hst hW hX) hx rfl q471 q473 qs4 q36 q474 rfl rfl ⟨rfl, by decide +kernel, by decide +kernel, by decide +kernel⟩ ⟨by (try dsimp only [RM]); omega, by (try dsimp only [RM]); omega⟩ rfl rfl (Nat.le_of_ble_eq_true rfl) dX1_startOf_12 ⟨by (try dsimp only [RM]); omega, by (try dsimp only [RM]); omega⟩ (fun E472 ce q9 G9 H locs hq9 hR9 hS9 hce hcv hcl => ?_) (fun v470 G471 H locs hq467 hR468 hS469 => ?_)
    · obtain ⟨rfl, hbd, rfl⟩ := hq9
      exact g_out X hlk hxt hR9 hS9 hce hcv hcl (⟨Or.inr ⟨rfl, by rw [kS, if_neg (nbad hk0 hk1), if_pos (Or.inl hbd)]⟩, hX, gK.rf⟩) (by (try dsimp only [RM]); omega) (by (try dsimp only [RM]); omega)
    · obtain ⟨i, hi, rfl, rfl, rfl⟩ := hq467
      have hi31 : i < 2 ^ 31 := Nat.lt_of_lt_of_le hi (Nat.le_trans hW.1 (by decide))
      have hnp : ¬ bdP (nI (σ.1 0)) (nI i) := nbdP (nI_pos hi31) (nI_lt hi (Nat.lt_of_le_of_lt hW.1 (by decide)))
      have hic := nI_clamp hi31
      have hpol := (hX.2.2.1 i hi).1
      refine lv_iload_n X.hx X.hb dX1_startOf_15 rfl (lv_at hl 3 rfl) ?_
      refine gcV X hl.1 hR468 hS469 2 [.ref (A 2 i), .int kn] [] (c_starts l Γ G hW hX hC hi (kn_ok hW (nbad hk0 hk1))) hx rfl q1208 q1210 qs17 q36 q1211 rfl rfl ⟨rfl, by decide +kernel, by decide +kernel, by decide +kernel⟩ ⟨by (try dsimp only [RM]); omega, by (try dsimp only [RM]); omega⟩ rfl rfl (Nat.le_of_ble_eq_true rfl) dX1_startOf_16 ⟨by (try dsimp only [RM]); omega, by (try dsimp only [RM]); omega⟩ (fun v476 G477 H locs hq473 hR474 hS475 => ?_)
      obtain ⟨al, cap, rfl, hcap, hSL, hX1, hgf, rf1, hrf1, hrd⟩ := hq473
      obtain ⟨ba, hAL, hba⟩ := id hSL
      obtain ⟨mo, ea, gg, hal, -⟩ := id hAL
      refine lv_astore (lv' := [(4, .ref al), (0, .ref x), (1, .int (nI i)), (2, .int sg), (3, .int kn)]) X.hx X.hb dX1_startOf_19 hl (by decide) rfl (fun ls hl => ?_)
      refine lv_iload_n X.hx X.hb dX1_startOf_21 rfl (lv_at hl 3 rfl) ?_
      refine lv_aload X.hx X.hb dX1_startOf_22 (lv_at hl 0 rfl) ?_
      refine gcF X hl.1 hR474 hS475 0 [] [.int sg] (c_sizeA l Γ G477 hAL) hal rfl kf1 q144 q148 q150 q39 q152 rfl rfl ⟨by decide +kernel, by decide +kernel, by decide +kernel⟩ ⟨by (try dsimp only [RM]); omega, by (try dsimp only [RM]); omega⟩ rfl rfl (Nat.le_of_ble_eq_true rfl) dX1_startOf_24 ⟨by (try dsimp only [RM]); omega, by (try dsimp only [RM]); omega⟩ (fun v481 G482 H locs hq478 hR479 hS480 => ?_)
      obtain ⟨rfl, rfl⟩ := hq478
      refine gxS X hl.1 hR479 hS480 2 [.int sg, .int (nI (sn (rtA σ i kn) 365))] [] (c_needPlace l Γ G477 hst) q420 q421 q36 q422 rfl rfl ⟨by decide +kernel, by decide +kernel, by decide +kernel⟩ ⟨by (try dsimp only [RM]); omega, by (try dsimp only [RM]); omega⟩ rfl rfl (Nat.le_of_ble_eq_true rfl) dX1_startOf_29 ⟨by (try dsimp only [RM]); omega, by (try dsimp only [RM]); omega⟩ (fun E488 ce q9 G9 H locs hq9 hR9 hS9 hce hcv hcl => ?_) (fun v486 G487 H locs hq483 hR484 hS485 => ?_)
      · obtain ⟨rfl, hbd, rfl⟩ := hq9
        exact g_out X hlk hxt hR9 hS9 hce hcv hcl (⟨Or.inr ⟨rfl, by rw [kS, if_neg (nbad hk0 hk1), if_pos (Or.inr (by rw [nS, hic]; exact hbd))]⟩, hX1, hgf⟩) (by (try dsimp only [RM]); omega) (by (try dsimp only [RM]); omega)
      · obtain ⟨rfl, hs0, hs1, rfl⟩ := hq483
        have hsl := sn_le (r := rtA σ i kn) 365
        have hns : ¬ bdP (nI (nS σ (nI i) kn)) sg := by rw [nS, hic]; exact nbdP hs0 hs1
        obtain ⟨j, hj, rfl⟩ := plc (by omega) hs0 hs1
        obtain ⟨dd, hd5, hbg, rfl⟩ := sn_ex _ hj
        obtain ⟨tb, hbx, htb⟩ := hba dd hd5 hbg
        refine lv_aload X.hx X.hb dX1_startOf_32 (lv_at hl 0 rfl) ?_
        refine lv_iload_n X.hx X.hb dX1_startOf_34 rfl (lv_at hl 3 rfl) ?_
        refine gcF X hl.1 hR484 hS485 1 [.int (nI (sn (rtA σ i kn) dd))] [] (c_getA l Γ G477 hAL hj (by omega)) hal rfl kf3 q476 q479 q481 q39 q483 rfl rfl ⟨by decide +kernel, by decide +kernel, by decide +kernel⟩ ⟨by (try dsimp only [RM]); omega, by (try dsimp only [RM]); omega⟩ rfl rfl (Nat.le_of_ble_eq_true rfl) dX1_startOf_35 ⟨by (try dsimp only [RM]); omega, by (try dsimp only [RM]); omega⟩ (fun v492 G493 H locs hq489 hR490 hS491 => ?_)
        obtain ⟨rfl, rfl⟩ := hq489
        refine g_castS X hR490 hbx rfl q1232 dX1_startOf_40 ?_
        refine gcV X hl.1 hR490 hS491 0 [] [] (c_intValue l Γ G477 hbx) hbx rfl q1233 q1234 q1235 q62 q1236 rfl rfl ⟨rfl, by decide +kernel, by decide +kernel, by decide +kernel⟩ ⟨by (try dsimp only [RM]); omega, by (try dsimp only [RM]); omega⟩ rfl rfl (Nat.le_of_ble_eq_true rfl) dX1_startOf_43 ⟨by (try dsimp only [RM]); omega, by (try dsimp only [RM]); omega⟩ (fun v497 G498 H locs hq494 hR495 hS496 => ?_)
        obtain ⟨rfl, rfl⟩ := hq494
        refine vx_ret ?_
        exact g_iret X hr hlk hR495 hS496 (⟨by rw [kS, if_neg (nbad hk0 hk1), if_neg (or_no hnp hns)], i, dd, hi, rfl, hd5, hbg, rfl, rfl, hX1, hgf, rf1, hrf1, hrd⟩) (by (try dsimp only [RM]); omega) (by (try dsimp only [RM]); omega) dX1_startOf_46

set_option maxHeartbeats 4000000 in
theorem c_segStart (l : Launch) (Γ : GP) (G : GH) (hst : l.stackTraces = false) {x : Nat} {σ : MS} {A : Nat → Nat → Nat} (hW : WF σ) (hX : XP Γ G x σ A) {p sg kn : Int32} (hC : CN Γ G) : MetX l yX1_segmentStart (ws_ yX1_segmentStart cX1_segmentStart 4 (some .int)) (RM 12 4000 12000) Γ G [.ref x, .int p, .int sg, .int kn] (fun v G1 => kS σ p sg kn = 0 ∧ v = some (.int (nI (sdy (rtA σ p.toNatClampNeg kn) sg.toNatClampNeg 365))) ∧ XP Γ G1 x σ A ∧ gK TX G G1) (fun E G1 => ((E = EIA ∧ kS σ p sg kn = 1) ∨ (E = EIO ∧ kS σ p sg kn = 2)) ∧ XP Γ G1 x σ A ∧ gK TX G G1) 4000 12000 := by
  refine gMetX (own := RX1) (by decide) rfl (Nat.le_of_ble_eq_true rfl) ?_
  intro pp ee ss mm below meth cc0 ls X hr hlk hin hnm hxt hR hS hl
  have hl : lv_has ls 4 [(0, .ref x), (1, .int p), (2, .int sg), (3, .int kn)] := hl
  have hX9 := hX
  obtain ⟨⟨rf, hx, hrf⟩, ⟨c0, c1, c2, hcap, hA0, hA1, hA2⟩, hXp, hXc, hXt⟩ := hX9
  refine lv_aload_n X.hx X.hb dX1_segmentStart_0 rfl (lv_at hl 0 rfl) ?_
  refine lv_iload_n X.hx X.hb dX1_segmentStart_1 rfl (lv_at hl 1 rfl) ?_
  refine lv_iload_n X.hx X.hb dX1_segmentStart_2 rfl (lv_at hl 2 rfl) ?_
  refine lv_iload_n X.hx X.hb dX1_segmentStart_3 rfl (lv_at hl 3 rfl) ?_
  refine gxV X hl.1 hR hS 3 [.int p, .int sg, .int kn] [] (c_startOf l Γ G hst hW hX hC) hx rfl q1228 q1230 qs20 q36 q1231 rfl rfl ⟨rfl, by decide +kernel, by decide +kernel, by decide +kernel⟩ ⟨by (try dsimp only [RM]); omega, by (try dsimp only [RM]); omega⟩ rfl rfl (Nat.le_of_ble_eq_true rfl) dX1_segmentStart_4 ⟨by (try dsimp only [RM]); omega, by (try dsimp only [RM]); omega⟩ (fun E504 ce q9 G9 H locs hq9 hR9 hS9 hce hcv hcl => ?_) (fun v502 G503 H locs hq499 hR500 hS501 => ?_)
  · exact g_out X hlk hxt hR9 hS9 hce hcv hcl (hq9) (by (try dsimp only [RM]); omega) (by (try dsimp only [RM]); omega)
  · obtain ⟨hks, i, dd, hi, rfl, hd5, hbg, rfl, rfl, hX1, hgf, rf1, hrf1, hrd⟩ := hq499
    obtain ⟨⟨rfv, hx, -⟩, -⟩ := id hX1
    have hi31 : i < 2 ^ 31 := Nat.lt_of_lt_of_le hi (Nat.le_trans hW.1 (by decide))
    have hic := nI_clamp hi31
    have hsl := sn_le (r := rtA σ i kn) dd
    have hjc : (nI (sn (rtA σ i kn) dd)).toNatClampNeg = sn (rtA σ i kn) dd := nI_clamp (by omega)
    refine vx_ret ?_
    exact g_iret X hr hlk hR500 hS501 (⟨hks, by rw [hic, hjc, sdy_eq hbg _ hd5], hX1, hgf⟩) (by (try dsimp only [RM]); omega) (by (try dsimp only [RM]); omega) dX1_segmentStart_7

/-- the premium of a segment -/
def PSg (r : Nat → Int32) (d : Nat) (v : Int32) : Prop := ∃ e, SE r d e ∧ v = SUM r e / 365 - SUM r d / 365
theorem PSg.inj {r : Nat → Int32} {d : Nat} {v u : Int32} (h : PSg r d v) (g : PSg r d u) : v = u := by
  obtain ⟨e, h1, rfl⟩ := h
  obtain ⟨f, g1, rfl⟩ := g
  rw [SE_inj h1 g1]

set_option maxHeartbeats 4000000 in
theorem c_segPrem (l : Launch) (Γ : GP) (G : GH) (hst : l.stackTraces = false) {x : Nat} {σ : MS} {A : Nat → Nat → Nat} (hW : WF σ) (hX : XP Γ G x σ A) {p sg kn : Int32} (hC : CN Γ G) : MetX l yX1_segmentPremium (ws_ yX1_segmentPremium cX1_segmentPremium 4 (some .int)) (RM 12 4000 12000) Γ G [.ref x, .int p, .int sg, .int kn] (fun v G1 => kS σ p sg kn = 0 ∧ (∃ u, v = some (.int u) ∧ PSg (rtA σ p.toNatClampNeg kn) (sdy (rtA σ p.toNatClampNeg kn) sg.toNatClampNeg 365) u) ∧ XP Γ G1 x σ A ∧ gK TX G G1) (fun E G1 => ((E = EIA ∧ kS σ p sg kn = 1) ∨ (E = EIO ∧ kS σ p sg kn = 2)) ∧ XP Γ G1 x σ A ∧ gK TX G G1) 4000 12000 := by
  refine gMetX (own := RX1) (by decide) rfl (Nat.le_of_ble_eq_true rfl) ?_
  intro pp ee ss mm below meth cc0 ls X hr hlk hin hnm hxt hR hS hl
  have hl : lv_has ls 4 [(0, .ref x), (1, .int p), (2, .int sg), (3, .int kn)] := hl
  have hX9 := hX
  obtain ⟨⟨rf, hx, hrf⟩, ⟨c0, c1, c2, hcap, hA0, hA1, hA2⟩, hXp, hXc, hXt⟩ := hX9
  refine lv_aload_n X.hx X.hb dX1_segmentPremium_0 rfl (lv_at hl 0 rfl) ?_
  refine lv_aload_n X.hx X.hb dX1_segmentPremium_1 rfl (lv_at hl 0 rfl) ?_
  refine lv_iload_n X.hx X.hb dX1_segmentPremium_2 rfl (lv_at hl 1 rfl) ?_
  refine lv_iload_n X.hx X.hb dX1_segmentPremium_3 rfl (lv_at hl 2 rfl) ?_
  refine lv_iload_n X.hx X.hb dX1_segmentPremium_4 rfl (lv_at hl 3 rfl) ?_
  refine gxV X hl.1 hR hS 3 [.int p, .int sg, .int kn] [.ref x] (c_startOf l Γ G hst hW hX hC) hx rfl q1228 q1230 qs20 q36 q1231 rfl rfl ⟨rfl, by decide +kernel, by decide +kernel, by decide +kernel⟩ ⟨by (try dsimp only [RM]); omega, by (try dsimp only [RM]); omega⟩ rfl rfl (Nat.le_of_ble_eq_true rfl) dX1_segmentPremium_5 ⟨by (try dsimp only [RM]); omega, by (try dsimp only [RM]); omega⟩ (fun E510 ce q9 G9 H locs hq9 hR9 hS9 hce hcv hcl => ?_) (fun v508 G509 H locs hq505 hR506 hS507 => ?_)
  · exact g_out X hlk hxt hR9 hS9 hce hcv hcl (hq9) (by (try dsimp only [RM]); omega) (by (try dsimp only [RM]); omega)
  · obtain ⟨hks, i, dd, hi, rfl, hd5, hbg, rfl, rfl, hX1, hgf, rf1, hrf1, hrd⟩ := hq505
    obtain ⟨⟨rfv, hx, -⟩, -⟩ := id hX1
    have hi31 : i < 2 ^ 31 := Nat.lt_of_lt_of_le hi (Nat.le_trans hW.1 (by decide))
    have hic := nI_clamp hi31
    have hsl := sn_le (r := rtA σ i kn) dd
    have hjc : (nI (sn (rtA σ i kn) dd)).toNatClampNeg = sn (rtA σ i kn) dd := nI_clamp (by omega)
    refine gcV X hl.1 hR506 hS507 1 [.int (nI dd)] [] (c_pfrom l Γ G509 hx hrf1 hd5) hx rfl q1244 q1246 qs21 q36 q1247 rfl rfl ⟨rfl, by decide +kernel, by decide +kernel, by decide +kernel⟩ ⟨by (try dsimp only [RM]); omega, by (try dsimp only [RM]); omega⟩ rfl rfl (Nat.le_of_ble_eq_true rfl) dX1_segmentPremium_8 ⟨by (try dsimp only [RM]); omega, by (try dsimp only [RM]); omega⟩ (fun v514 G515 H locs hq511 hR512 hS513 => ?_)
    obtain ⟨e, hSE, rfl, rfl⟩ := hq511
    refine vx_ret ?_
    exact g_iret X hr hlk hR512 hS513 (⟨hks, ⟨_, rfl, by rw [hic, hjc, sdy_eq hbg _ hd5]; exact ⟨e, SE_cong hrd hSE, by rw [SUM_cong hrd e hSE.2.1, SUM_cong hrd dd (by omega)]⟩⟩, hX1, hgf⟩) (by (try dsimp only [RM]); omega) (by (try dsimp only [RM]); omega) dX1_segmentPremium_11

