set_option maxRecDepth 100000
/-! the component: days passed, bills, changes taken back -/
/-- a table with one row new -/
def setr {α : Type} (f : Nat → Nat → α) (r : Nat) (g : Nat → α) : Nat → Nat → α := fun r1 => if r1 = r then g else f r1
def tauP (σ : MS) (d : Int32) : MS := (σ.1, setr σ.2 12 (va_up (σ.2 12) 0 (σ.2 12 0 + d)))
def tauB (σ : MS) (i : Nat) (v : Int32) : MS := (σ.1, setr σ.2 1 (va_up (σ.2 1) i v))
def tauK (σ : MS) (c : Nat) : MS := (σ.1, setr σ.2 11 (va_up (σ.2 11) c (σ.2 12 0)))
theorem XP.mvx {Γ : GP} {G G1 : GH} {x : Nat} {σ : MS} {A : Nat → Nat → Nat} (h : XP Γ G x σ A) {t : Int32} (hx : G x = some ((0, 0), .inr (0, [.ref (A 0 0), .ref (A 0 1), .ref (A 0 2), .int (σ.2 12 0), .ref (A 1 0)]))) (e : G1 = gu G x ((0, 0), .inr (0, [.ref (A 0 0), .ref (A 0 1), .ref (A 0 2), .int t, .ref (A 1 0)]))) : XP Γ G1 x (σ.1, setr σ.2 12 (va_up (σ.2 12) 0 t)) A := by
  have hk : gK (fun t => t = (0, 0)) G G1 := gK.pt e hx rfl
  have n0 : ∀ i j : Nat, i ≠ 0 → ¬ ((i, j) : Nat × Nat) = (0, 0) := fun i j a h => a (congrArg Prod.fst h)
  obtain ⟨⟨rf, p1, p2⟩, ⟨c0, c1, c2, hc, a0, a1, a2⟩, h3, h4, h5⟩ := h
  refine ⟨⟨rf, by rw [e]; exact gu_s _ _ _, hk _ _ p2 (n0 _ _ (by decide))⟩, ⟨c0, c1, c2, hc, a0.keep hk (n0 _ _ (by decide)) (n0 _ _ (by decide)) (n0 _ _ (by decide)), a1.keep hk (n0 _ _ (by decide)) (n0 _ _ (by decide)) (n0 _ _ (by decide)), a2.keep hk (n0 _ _ (by decide)) (n0 _ _ (by decide)) (n0 _ _ (by decide))⟩, fun i hi => ?_, fun k hk9 => ?_, fun j hj => hk _ _ (h5 j hj) (n0 _ _ (by decide))⟩
  · obtain ⟨b1, vw, b2, b3⟩ := h3 i hi
    exact ⟨hk _ _ b1 (n0 _ _ (by decide)), vw, b2.keep hk (n0 _ _ (by decide)) (fun k _ => n0 _ _ (by decide)) (fun t ht => by subst ht; exact ⟨by decide, by decide⟩), fun v hv => hk _ _ (b3 v hv) (n0 _ _ (by decide))⟩
  · obtain ⟨b1, b2⟩ := h4 k hk9
    exact ⟨hk _ _ b1 (n0 _ _ (by decide)), b2.keep hk (n0 _ _ (by decide))⟩
theorem XP.mvb {Γ : GP} {G G1 : GH} {x i : Nat} {σ : MS} {A : Nat → Nat → Nat} (h : XP Γ G x σ A) {v : Int32} (hi : G (A 2 i) = some ((3, i), .inr (2, [.int (σ.2 0 i), .int (σ.2 1 i), .ref (A 3 i)]))) (e : G1 = gu G (A 2 i) ((3, i), .inr (2, [.int (σ.2 0 i), .int v, .ref (A 3 i)]))) : XP Γ G1 x (tauB σ i v) A := by
  have hk : gK (fun t => t = (3, i)) G G1 := gK.pt e hi rfl
  have n0 : ∀ a j : Nat, a ≠ 3 → ¬ ((a, j) : Nat × Nat) = (3, i) := fun a j b h => b (congrArg Prod.fst h)
  obtain ⟨⟨rf, p1, p2⟩, ⟨c0, c1, c2, hc, a0, a1, a2⟩, h3, h4, h5⟩ := h
  refine ⟨⟨rf, hk _ _ p1 (n0 _ _ (by decide)), hk _ _ p2 (n0 _ _ (by decide))⟩, ⟨c0, c1, c2, hc, a0.keep hk (n0 _ _ (by decide)) (n0 _ _ (by decide)) (n0 _ _ (by decide)), a1.keep hk (n0 _ _ (by decide)) (n0 _ _ (by decide)) (n0 _ _ (by decide)), a2.keep hk (n0 _ _ (by decide)) (n0 _ _ (by decide)) (n0 _ _ (by decide))⟩, fun j hj => ?_, fun k hk9 => ?_, fun j hj => hk _ _ (h5 j hj) (n0 _ _ (by decide))⟩
  · obtain ⟨b1, vw, b2, b3⟩ := h3 j hj
    refine ⟨?_, vw, b2.keep hk (n0 _ _ (by decide)) (fun k _ => n0 _ _ (by decide)) (fun t ht => by subst ht; exact ⟨by show 3 ≠ 13; decide, by show 3 ≠ 50; decide⟩), fun v hv => hk _ _ (b3 v hv) (n0 _ _ (by decide))⟩
    show G1 (A 2 j) = some ((3, j), .inr (2, [.int (σ.2 0 j), .int (va_up (σ.2 1) i v j), .ref (A 3 j)]))
    by_cases hji : j = i
    · subst hji; rw [e, va_up_self]; exact gu_s _ _ _
    · rw [va_up_ne _ _ hji]; exact hk _ _ b1 (fun h9 => hji (congrArg Prod.snd h9))
  · obtain ⟨b1, b2⟩ := h4 k hk9
    exact ⟨hk _ _ b1 (n0 _ _ (by decide)), b2.keep hk (n0 _ _ (by decide))⟩
theorem XP.mvk {Γ : GP} {G G1 : GH} {x i : Nat} {σ : MS} {A : Nat → Nat → Nat} (h : XP Γ G x σ A) (hd : ¬ σ.2 12 0 < 0) (hi : G (A 4 i) = some ((10, i), .inr (4, [.int (nI i), .ref (A 2 (σ.2 5 i).toNatClampNeg), .int (σ.2 8 i), .int (σ.2 10 i), .ref (A 7 i), .int (tbk σ i)]))) (e : G1 = gu G (A 4 i) ((10, i), .inr (4, [.int (nI i), .ref (A 2 (σ.2 5 i).toNatClampNeg), .int (σ.2 8 i), .int (σ.2 10 i), .ref (A 7 i), .int (σ.2 12 0)]))) : XP Γ G1 x (tauK σ i) A := by
  have hk : gK (fun t => t = (10, i)) G G1 := gK.pt e hi rfl
  have n0 : ∀ a j : Nat, a ≠ 10 → ¬ ((a, j) : Nat × Nat) = (10, i) := fun a j b h => b (congrArg Prod.fst h)
  obtain ⟨⟨rf, p1, p2⟩, ⟨c0, c1, c2, hc, a0, a1, a2⟩, h3, h4, h5⟩ := h
  refine ⟨⟨rf, hk _ _ p1 (n0 _ _ (by decide)), hk _ _ p2 (n0 _ _ (by decide))⟩, ⟨c0, c1, c2, hc, a0.keep hk (n0 _ _ (by decide)) (n0 _ _ (by decide)) (n0 _ _ (by decide)), a1.keep hk (n0 _ _ (by decide)) (n0 _ _ (by decide)) (n0 _ _ (by decide)), a2.keep hk (n0 _ _ (by decide)) (n0 _ _ (by decide)) (n0 _ _ (by decide))⟩, fun j hj => ?_, fun k hk9 => ?_, fun j hj => hk _ _ (h5 j hj) (n0 _ _ (by decide))⟩
  · obtain ⟨b1, vw, b2, b3⟩ := h3 j hj
    exact ⟨hk _ _ b1 (n0 _ _ (by decide)), vw, b2.keep hk (n0 _ _ (by decide)) (fun k _ => n0 _ _ (by decide)) (fun t ht => by subst ht; exact ⟨by show 10 ≠ 13; decide, by show 10 ≠ 50; decide⟩), fun v hv => hk _ _ (b3 v hv) (n0 _ _ (by decide))⟩
  · obtain ⟨b1, b2⟩ := h4 k hk9
    refine ⟨?_, b2.keep hk (n0 _ _ (by decide))⟩
    have ht : tbk (tauK σ i) k = if k = i then σ.2 12 0 else tbk σ k := by
      show (if va_up (σ.2 11) i (σ.2 12 0) k < 0 then (2147483647 : Int32) else va_up (σ.2 11) i (σ.2 12 0) k) = _
      by_cases hki : k = i
      · rw [if_pos hki, hki, va_up_self, if_neg hd]
      · rw [if_neg hki, va_up_ne _ _ hki]; rfl
    rw [ht]
    show G1 (A 4 k) = some ((10, k), .inr (4, [.int (nI k), .ref (A 2 (σ.2 5 k).toNatClampNeg), .int (σ.2 8 k), .int (σ.2 10 k), .ref (A 7 k), .int (if k = i then σ.2 12 0 else tbk σ k)]))
    by_cases hki : k = i
    · subst hki; rw [if_pos rfl, e]; exact gu_s _ _ _
    · rw [if_neg hki]; exact hk _ _ b1 (fun h9 => hki (congrArg Prod.snd h9))
theorem TX_pt {G G1 : GH} {a : Nat} {x z : gE} (e : G1 = gu G a x) (ha : G a = some z) (h : z.1.1 < 30) : gK TX G G1 := gK.pt e ha h
/-- changes of a policy laid anew by change c -/
def LN (σ : MS) (c : Nat) : Nat → Int32
  | 0 => 0
  | n + 1 => LN σ c n + if σ.2 5 n = σ.2 5 c ∧ σ.2 8 c < σ.2 8 n ∧ knw σ n (σ.2 12 0) then 1 else 0
theorem A2_inj {Γ : GP} {G : GH} {x : Nat} {σ : MS} {A : Nat → Nat → Nat} (h : XP Γ G x σ A) {i j : Nat} (hi : i < σ.1 0) (hj : j < σ.1 0) (e : A 2 i = A 2 j) : i = j := by
  have h1 := (h.2.2.1 i hi).1
  have h2 := (h.2.2.1 j hj).1
  rw [e, h2] at h1
  have := congrArg (fun z : Option gE => z.map (fun y => y.1.2)) h1
  exact (Option.some.inj this).symm

set_option maxHeartbeats 4000000 in
theorem c_pass (l : Launch) (Γ : GP) (G : GH) (hst : l.stackTraces = false) {x : Nat} {σ : MS} {A : Nat → Nat → Nat} (hW : WF σ) (hX : XP Γ G x σ A) {d : Int32} : MetX l yX1_pass (ws_ yX1_pass cX1_pass 2 (some .int)) (RM 12 4000 12000) Γ G [.ref x, .int d] (fun v G1 => k2 d = 0 ∧ v = some (.int (σ.2 12 0 + d)) ∧ XP Γ G1 x (tauP σ d) A ∧ gK TX G G1) (fun E G1 => ((E = EIA ∧ k2 d = 1)) ∧ XP Γ G1 x σ A ∧ gK TX G G1) 4000 12000 := by
  refine gMetX (own := RX1) (by decide) rfl (Nat.le_of_ble_eq_true rfl) ?_
  intro pp ee ss mm below meth cc0 ls X hr hlk hin hnm hxt hR hS hl
  have hl : lv_has ls 2 [(0, .ref x), (1, .int d)] := hl
  have hX9 := hX
  obtain ⟨⟨rf, hx, hrf⟩, ⟨c0, c1, c2, hcap, hA0, hA1, hA2⟩, hXp, hXc, hXt⟩ := hX9
  refine lv_iload_n X.hx X.hb dX1_pass_0 rfl (lv_at hl 1 rfl) ?_
  refine lv_iconst (v := 1) X.hx X.hb dX1_pass_1 (by decide) ?_
  refine lv_bipush (v := 100) X.hx X.hb dX1_pass_2 (by decide) ?_
  refine gxS X hl.1 hR hS 3 [.int d, .int 1, .int 100] [] (c_needNumber l Γ G hst) q162 q163 q36 q164 rfl rfl ⟨by decide +kernel, by decide +kernel, by decide +kernel⟩ ⟨by (try dsimp only [RM]); omega, by (try dsimp only [RM]); omega⟩ rfl rfl (Nat.le_of_ble_eq_true rfl) dX1_pass_4 ⟨by (try dsimp only [RM]); omega, by (try dsimp only [RM]); omega⟩ (fun E521 ce q9 G9 H locs hq9 hR9 hS9 hce hcv hcl => ?_) (fun v519 G520 H locs hq516 hR517 hS518 => ?_)
  · obtain ⟨rfl, hbd, rfl⟩ := hq9
    exact g_out X hlk hxt hR9 hS9 hce hcv hcl (⟨⟨rfl, by rw [k2, if_pos hbd]⟩, hX, gK.rf⟩) (by (try dsimp only [RM]); omega) (by (try dsimp only [RM]); omega)
  · obtain ⟨rfl, hd0, hd1, rfl⟩ := hq516
    refine lv_aload_n X.hx X.hb dX1_pass_7 rfl (lv_at hl 0 rfl) ?_
    refine lv_dup X.hx X.hb dX1_pass_8 rfl ?_
    refine g_get X hR517 hx rfl in_X1 3 (by decide) q121 (fun _ h => h) rfl dX1_pass_9 ?_
    refine lv_iload_n X.hx X.hb dX1_pass_12 rfl (lv_at hl 1 rfl) ?_
    refine lv_iadd X.hx X.hb dX1_pass_13 ?_
    refine g_put X hR517 hS518 hx (Nat.le_of_ble_eq_true rfl) rfl in_X1 tyX1 tyX1_ok nmX1 3 (by decide) q121 (fun _ h => h) rfl rfl rfl (Nat.le_of_ble_eq_true rfl) dX1_pass_14 (fun H locs hR522 hS523 => ?_)
    obtain ⟨G524, hG524⟩ : ∃ z : GH, z = gu G x ((0, 0), .inr (0, [.ref (A 0 0), .ref (A 0 1), .ref (A 0 2), .int ((σ.2 12 0) + d), .ref (A 1 0)])) := ⟨_, rfl⟩
    have hR522 : Rep Γ G524 H := by rw [hG524]; exact hR522
    have f525 : G524 x = some ((0, 0), .inr (0, [.ref (A 0 0), .ref (A 0 1), .ref (A 0 2), .int ((σ.2 12 0) + d), .ref (A 1 0)])) := by rw [hG524]; exact gu_s _ _ _
    refine lv_aload_n X.hx X.hb dX1_pass_17 rfl (lv_at hl 0 rfl) ?_
    refine g_get X hR522 f525 rfl in_X1 3 (by decide) q121 (fun _ h => h) rfl dX1_pass_18 ?_
    refine vx_ret ?_
    exact g_iret X hr hlk hR522 hS523 (⟨by rw [k2, if_neg (nbad hd0 hd1)], rfl, hX.mvx hx hG524, TX_pt hG524 hx (by show 0 < 30; decide)⟩) (by (try dsimp only [RM]); omega) (by (try dsimp only [RM]); omega) dX1_pass_21

set_option maxHeartbeats 4000000 in
theorem c_bill (l : Launch) (Γ : GP) (G : GH) (hst : l.stackTraces = false) {x : Nat} {σ : MS} {A : Nat → Nat → Nat} (hW : WF σ) (hX : XP Γ G x σ A) {p : Int32} (hC : CN Γ G) : MetX l yX1_bill (ws_ yX1_bill cX1_bill 4 (some .int)) (RM 12 4000 12000) Γ G [.ref x, .int p] (fun v G1 => kP σ p = 0 ∧ v = some (.int (SUM (rtA σ p.toNatClampNeg (σ.2 12 0)) 365 / 365 - σ.2 1 p.toNatClampNeg)) ∧ XP Γ G1 x (tauB σ p.toNatClampNeg (SUM (rtA σ p.toNatClampNeg (σ.2 12 0)) 365 / 365)) A ∧ gK TX G G1) (fun E G1 => ((E = EIO ∧ kP σ p = 1)) ∧ XP Γ G1 x σ A ∧ gK TX G G1) 4000 12000 := by
  refine gMetX (own := RX1) (by decide) rfl (Nat.le_of_ble_eq_true rfl) ?_
  intro pp ee ss mm below meth cc0 ls X hr hlk hin hnm hxt hR hS hl
  have hl : lv_has ls 4 [(0, .ref x), (1, .int p)] := hl
  have hX9 := hX
  obtain ⟨⟨rf, hx, hrf⟩, ⟨c0, c1, c2, hcap, hA0, hA1, hA2⟩, hXp, hXc, hXt⟩ := hX9
  refine lv_aload_n X.hx X.hb dX1_bill_0 rfl (lv_at hl 0 rfl) ?_
  refine lv_iload_n X.hx X.hb dX1_bill_1 rfl (lv_at hl 1 rfl) ?_
  refine gxV X hl.1 hR hS 1 [.int p] [] (c_policyAt l Γ G hst hW hX) hx rfl q471 q473 qs4 q36 q474 rfl rfl ⟨rfl, by decide +kernel, by decide +kernel, by decide +kernel⟩ ⟨by (try dsimp only [RM]); omega, by (try dsimp only [RM]); omega⟩ rfl rfl (Nat.le_of_ble_eq_true rfl) dX1_bill_2 ⟨by (try dsimp only [RM]); omega, by (try dsimp only [RM]); omega⟩ (fun E531 ce q9 G9 H locs hq9 hR9 hS9 hce hcv hcl => ?_) (fun v529 G530 H locs hq526 hR527 hS528 => ?_)
  · obtain ⟨rfl, hbd, rfl⟩ := hq9
    exact g_out X hlk hxt hR9 hS9 hce hcv hcl (⟨⟨rfl, by rw [kP, if_pos hbd]⟩, hX, gK.rf⟩) (by (try dsimp only [RM]); omega) (by (try dsimp only [RM]); omega)
  · obtain ⟨i, hi, rfl, rfl, rfl⟩ := hq526
    have hi31 : i < 2 ^ 31 := Nat.lt_of_lt_of_le hi (Nat.le_trans hW.1 (by decide))
    have hnp : ¬ bdP (nI (σ.1 0)) (nI i) := nbdP (nI_pos hi31) (nI_lt hi (Nat.lt_of_le_of_lt hW.1 (by decide)))
    have hic := nI_clamp hi31
    have hpol := (hX.2.2.1 i hi).1
    refine lv_astore_n (lv' := [(2, .ref (A 2 i)), (0, .ref x), (1, .int (nI i))]) X.hx X.hb dX1_bill_5 rfl hl (by decide) rfl (fun ls hl => ?_)
    refine lv_aload_n X.hx X.hb dX1_bill_6 rfl (lv_at hl 1 rfl) ?_
    refine lv_aload_n X.hx X.hb dX1_bill_7 rfl (lv_at hl 0 rfl) ?_
    refine lv_aload_n X.hx X.hb dX1_bill_8 rfl (lv_at hl 1 rfl) ?_
    refine g_get X hR527 hx rfl in_X1 3 (by decide) q121 (fun _ h => h) rfl dX1_bill_9 ?_
    have htd : ¬ bad 0 (σ.2 12 0) (σ.2 12 0) := nbad (Int32.not_lt.mpr (Int32.le_iff_toInt_le.mpr hW.2.2.2.1.1)) (Int32.le_refl _)
    refine gcV X hl.1 hR527 hS528 2 [.ref (A 2 i), .int (σ.2 12 0)] [] (c_pof l Γ G hW hX hC hi (kn_ok hW htd) (rtA_nn hW hi)) hx rfl q1259 q1261 qs23 q36 q1262 rfl rfl ⟨rfl, by decide +kernel, by decide +kernel, by decide +kernel⟩ ⟨by (try dsimp only [RM]); omega, by (try dsimp only [RM]); omega⟩ rfl rfl (Nat.le_of_ble_eq_true rfl) dX1_bill_12 ⟨by (try dsimp only [RM]); omega, by (try dsimp only [RM]); omega⟩ (fun v535 G536 H locs hq532 hR533 hS534 => ?_)
    obtain ⟨rfl, hX1, hgf⟩ := hq532
    have hpol := (hX1.2.2.1 i hi).1
    refine lv_aload_n X.hx X.hb dX1_bill_15 rfl (lv_at hl 0 rfl) ?_
    refine g_getN X hR533 hpol rfl in_X3 1 (by decide) kq294 (fun _ h => h) rfl dX1_bill_16 ?_
    refine lv_isub X.hx X.hb dX1_bill_19 ?_
    refine lv_istore_n (lv' := [(3, .int ((SUM (rtA σ i (σ.2 12 0)) 365 / 365) - (σ.2 1 i))), (2, .ref (A 2 i)), (0, .ref x), (1, .int (nI i))]) X.hx X.hb dX1_bill_20 rfl hl (by decide) rfl (fun ls hl => ?_)
    refine lv_aload_n X.hx X.hb dX1_bill_21 rfl (lv_at hl 1 rfl) ?_
    refine lv_dup X.hx X.hb dX1_bill_22 rfl ?_
    refine g_getN X hR533 hpol rfl in_X3 1 (by decide) kq294 (fun _ h => h) rfl dX1_bill_23 ?_
    refine lv_iload_n X.hx X.hb dX1_bill_26 rfl (lv_at hl 0 rfl) ?_
    refine lv_iadd X.hx X.hb dX1_bill_27 ?_
    refine lv_topi (fun x537 hx537 => ?_)
    obtain rfl : x537 = SUM (rtA σ i (σ.2 12 0)) 365 / 365 := hx537.trans (i32_tel _ _)
    refine g_putN X hR533 hS534 hpol (Nat.le_of_ble_eq_true rfl) rfl in_X3 tyX3 tyX3_ok nmX3 1 (by decide) kq294 (fun _ h => h) rfl rfl rfl (Nat.le_of_ble_eq_true rfl) dX1_bill_28 (fun H locs hR538 hS539 => ?_)
    obtain ⟨G540, hG540⟩ : ∃ z : GH, z = gu G536 (A 2 i) ((3, i), .inr (2, [.int (σ.2 0 i), .int (SUM (rtA σ i (σ.2 12 0)) 365 / 365), .ref (A 3 i)])) := ⟨_, rfl⟩
    have hR538 : Rep Γ G540 H := by rw [hG540]; exact hR538
    have f541 : G540 (A 2 i) = some ((3, i), .inr (2, [.int (σ.2 0 i), .int (SUM (rtA σ i (σ.2 12 0)) 365 / 365), .ref (A 3 i)])) := by rw [hG540]; exact gu_s _ _ _
    refine lv_iload_n X.hx X.hb dX1_bill_31 rfl (lv_at hl 0 rfl) ?_
    refine vx_ret ?_
    exact g_iret X hr hlk hR538 hS539 (⟨by rw [kP, if_neg hnp], by rw [hic], by rw [hic]; exact hX1.mvb hpol hG540, gK.tr hgf (TX_pt hG540 hpol (by show 3 < 30; decide))⟩) (by (try dsimp only [RM]); omega) (by (try dsimp only [RM]); omega) dX1_bill_32

theorem tbk_eq {σ : MS} (hW : WF σ) {i : Nat} (hi : i < σ.1 2) (h : tbk σ i = 2147483647) : σ.2 11 i < 0 := by
  unfold tbk at h
  by_cases h1 : σ.2 11 i < 0
  · exact h1
  · rw [if_neg h1] at h
    obtain ⟨-, -, -, -, -, -, -, h8⟩ := hW.2.2.2.2.2.2 i hi
    have e : (2147483647 : Int32).toInt = 2147483647 := rfl
    have := h8.2
    rw [h, e] at this
    omega

set_option maxHeartbeats 4000000 in
theorem c_takeBack (l : Launch) (Γ : GP) (G : GH) (hst : l.stackTraces = false) {x : Nat} {σ : MS} {A : Nat → Nat → Nat} (hW : WF σ) (hX : XP Γ G x σ A) {c : Int32} : MetX l yX1_takeBack (ws_ yX1_takeBack cX1_takeBack 3 (some .int)) (RM 12 4000 12000) Γ G [.ref x, .int c] (fun v G1 => k8 σ c = 0 ∧ v = some (.int (σ.2 10 c.toNatClampNeg)) ∧ XP Γ G1 x (tauK σ c.toNatClampNeg) A ∧ gK TX G G1) (fun E G1 => ((E = EIO ∧ k8 σ c = 1) ∨ (E = EIS ∧ k8 σ c = 2)) ∧ XP Γ G1 x σ A ∧ gK TX G G1) 4000 12000 := by
  refine gMetX (own := RX1) (by decide) rfl (Nat.le_of_ble_eq_true rfl) ?_
  intro pp ee ss mm below meth cc0 ls X hr hlk hin hnm hxt hR hS hl
  have hl : lv_has ls 3 [(0, .ref x), (1, .int c)] := hl
  have hX9 := hX
  obtain ⟨⟨rf, hx, hrf⟩, ⟨c0, c1, c2, hcap, hA0, hA1, hA2⟩, hXp, hXc, hXt⟩ := hX9
  refine lv_aload_n X.hx X.hb dX1_takeBack_0 rfl (lv_at hl 0 rfl) ?_
  refine lv_iload_n X.hx X.hb dX1_takeBack_1 rfl (lv_at hl 1 rfl) ?_
  refine gxV X hl.1 hR hS 1 [.int c] [] (c_changeAt l Γ G hst hW hX) hx rfl q709 q711 qs12 q36 q712 rfl rfl ⟨rfl, by decide +kernel, by decide +kernel, by decide +kernel⟩ ⟨by (try dsimp only [RM]); omega, by (try dsimp only [RM]); omega⟩ rfl rfl (Nat.le_of_ble_eq_true rfl) dX1_takeBack_2 ⟨by (try dsimp only [RM]); omega, by (try dsimp only [RM]); omega⟩ (fun E547 ce q9 G9 H locs hq9 hR9 hS9 hce hcv hcl => ?_) (fun v545 G546 H locs hq542 hR543 hS544 => ?_)
  · obtain ⟨rfl, hbd, rfl⟩ := hq9
    exact g_out X hlk hxt hR9 hS9 hce hcv hcl (⟨Or.inl ⟨rfl, by rw [k8, if_pos hbd]⟩, hX, gK.rf⟩) (by (try dsimp only [RM]); omega) (by (try dsimp only [RM]); omega)
  · obtain ⟨i, hi, rfl, rfl, rfl⟩ := hq542
    have hi31 : i < 2 ^ 31 := Nat.lt_of_lt_of_le hi (Nat.le_trans hW.2.2.1 (by decide))
    have hnp : ¬ bdP (nI (σ.1 2)) (nI i) := nbdP (nI_pos hi31) (nI_lt hi (Nat.lt_of_le_of_lt hW.2.2.1 (by decide)))
    have hic := nI_clamp hi31
    have hchg := (hX.2.2.2.1 i hi).1
    refine lv_astore_n (lv' := [(2, .ref (A 4 i)), (0, .ref x), (1, .int (nI i))]) X.hx X.hb dX1_takeBack_5 rfl hl (by decide) rfl (fun ls hl => ?_)
    refine lv_aload_n X.hx X.hb dX1_takeBack_6 rfl (lv_at hl 0 rfl) ?_
    refine g_getN X hR543 hchg rfl in_X5 5 (by decide) kq518 (fun _ h => h) rfl dX1_takeBack_7 ?_
    refine lv_ldc X.hx X.hb X.hown (X.hts _ q713) dX1_takeBack_10 ?_
    refine lv_icmp_ne (tgt := 19) X.hx X.hb dX1_takeBack_12 (by decide) (fun c12 => ?_) (fun c12 => ?_)
    · refine lv_iconst (v := 0) X.hx X.hb dX1_takeBack_19 (by decide) ?_
      have hbk : ¬ σ.2 11 i < 0 := fun h9 => c12 (if_pos h9)
      refine gxS X hl.1 hR543 hS544 1 [.int 0] [] (c_needState l Γ G hst) q230 q231 q36 q232 rfl rfl ⟨by decide +kernel, by decide +kernel, by decide +kernel⟩ ⟨by (try dsimp only [RM]); omega, by (try dsimp only [RM]); omega⟩ rfl rfl (Nat.le_of_ble_eq_true rfl) dX1_takeBack_20 ⟨by (try dsimp only [RM]); omega, by (try dsimp only [RM]); omega⟩ (fun E553 ce q9 G9 H locs hq9 hR9 hS9 hce hcv hcl => ?_) (fun v551 G552 H locs hq548 hR549 hS550 => ?_)
      · obtain ⟨rfl, hbd, rfl⟩ := hq9
        exact g_out X hlk hxt hR9 hS9 hce hcv hcl (⟨Or.inr ⟨rfl, by rw [k8, if_neg hnp, hic, if_pos hbk]⟩, hX, gK.rf⟩) (by (try dsimp only [RM]); omega) (by (try dsimp only [RM]); omega)
      · obtain ⟨rfl, hns, rfl⟩ := hq548
        exact absurd rfl hns
    · refine lv_iconst (v := 1) X.hx X.hb dX1_takeBack_15 (by decide) ?_
      refine lv_goto (tgt := 20) X.hx X.hb dX1_takeBack_16 (by decide) ?_
      have hbk : σ.2 11 i < 0 := tbk_eq hW hi c12
      refine gxS X hl.1 hR543 hS544 1 [.int 1] [] (c_needState l Γ G hst) q230 q231 q36 q232 rfl rfl ⟨by decide +kernel, by decide +kernel, by decide +kernel⟩ ⟨by (try dsimp only [RM]); omega, by (try dsimp only [RM]); omega⟩ rfl rfl (Nat.le_of_ble_eq_true rfl) dX1_takeBack_20 ⟨by (try dsimp only [RM]); omega, by (try dsimp only [RM]); omega⟩ (fun E559 ce q9 G9 H locs hq9 hR9 hS9 hce hcv hcl => ?_) (fun v557 G558 H locs hq554 hR555 hS556 => ?_)
      · obtain ⟨rfl, hbd, rfl⟩ := hq9
        exact g_out X hlk hxt hR9 hS9 hce hcv hcl (absurd hbd (by decide)) (by (try dsimp only [RM]); omega) (by (try dsimp only [RM]); omega)
      · obtain ⟨rfl, hns, rfl⟩ := hq554
        refine lv_aload_n X.hx X.hb dX1_takeBack_23 rfl (lv_at hl 0 rfl) ?_
        refine lv_aload_n X.hx X.hb dX1_takeBack_24 rfl (lv_at hl 1 rfl) ?_
        refine g_get X hR555 hx rfl in_X1 3 (by decide) q121 (fun _ h => h) rfl dX1_takeBack_25 ?_
        refine g_putN X hR555 hS556 hchg (Nat.le_of_ble_eq_true rfl) rfl in_X5 tyX5 tyX5_ok nmX5 5 (by decide) kq518 (fun _ h => h) rfl rfl rfl (Nat.le_of_ble_eq_true rfl) dX1_takeBack_28 (fun H locs hR560 hS561 => ?_)
        obtain ⟨G562, hG562⟩ : ∃ z : GH, z = gu G (A 4 i) ((10, i), .inr (4, [.int (nI i), .ref (A 2 (σ.2 5 i).toNatClampNeg), .int (σ.2 8 i), .int (σ.2 10 i), .ref (A 7 i), .int (σ.2 12 0)])) := ⟨_, rfl⟩
        have hR560 : Rep Γ G562 H := by rw [hG562]; exact hR560
        have f563 : G562 x = some ((0, 0), .inr (0, [.ref (A 0 0), .ref (A 0 1), .ref (A 0 2), .int (σ.2 12 0), .ref (A 1 0)])) := by rw [hG562]; exact gu_t hx hchg (tne rfl)
        have f564 : G562 (A 4 i) = some ((10, i), .inr (4, [.int (nI i), .ref (A 2 (σ.2 5 i).toNatClampNeg), .int (σ.2 8 i), .int (σ.2 10 i), .ref (A 7 i), .int (σ.2 12 0)])) := by rw [hG562]; exact gu_s _ _ _
        refine lv_aload_n X.hx X.hb dX1_takeBack_31 rfl (lv_at hl 0 rfl) ?_
        refine g_getN X hR560 f564 rfl in_X5 3 (by decide) kq514 (fun _ h => h) rfl dX1_takeBack_32 ?_
        refine vx_ret ?_
        exact g_iret X hr hlk hR560 hS561 (⟨by rw [k8, if_neg hnp, hic, if_neg (fun h9 => h9 hbk)], by rw [hic], by rw [hic]; exact hX.mvk (Int32.not_lt.mpr (Int32.le_iff_toInt_le.mpr hW.2.2.2.1.1)) hchg hG562, TX_pt hG562 hchg (by show 10 < 30; decide)⟩) (by (try dsimp only [RM]); omega) (by (try dsimp only [RM]); omega) dX1_takeBack_35

theorem same_pol {x y : Int32} {p q : Nat} (h1 : x = nI p) (h2 : y = nI q) (e : p = q) : x = y := by rw [h1, h2, e]

set_option maxHeartbeats 4000000 in
theorem c_laidAnew (l : Launch) (Γ : GP) (G : GH) (hst : l.stackTraces = false) {x : Nat} {σ : MS} {A : Nat → Nat → Nat} (hW : WF σ) (hX : XP Γ G x σ A) {c : Int32} : MetX l yX1_laidAnew (ws_ yX1_laidAnew cX1_laidAnew 6 (some .int)) (RM 12 4000 12000) Γ G [.ref x, .int c] (fun v G1 => kC σ c = 0 ∧ v = some (.int (LN σ c.toNatClampNeg c.toNatClampNeg)) ∧ XP Γ G1 x σ A ∧ gK TX G G1) (fun E G1 => ((E = EIO ∧ kC σ c = 1)) ∧ XP Γ G1 x σ A ∧ gK TX G G1) 4000 12000 := by
  refine gMetX (own := RX1) (by decide) rfl (Nat.le_of_ble_eq_true rfl) ?_
  intro pp ee ss mm below meth cc0 ls X hr hlk hin hnm hxt hR hS hl
  have hl : lv_has ls 6 [(0, .ref x), (1, .int c)] := hl
  have hX9 := hX
  obtain ⟨⟨rf, hx, hrf⟩, ⟨c0, c1, c2, hcap, hA0, hA1, hA2⟩, hXp, hXc, hXt⟩ := hX9
  obtain ⟨mo1, ea1, g1, hal1, -⟩ := id hA1
  refine lv_aload_n X.hx X.hb dX1_laidAnew_0 rfl (lv_at hl 0 rfl) ?_
  refine lv_iload_n X.hx X.hb dX1_laidAnew_1 rfl (lv_at hl 1 rfl) ?_
  refine gxV X hl.1 hR hS 1 [.int c] [] (c_changeAt l Γ G hst hW hX) hx rfl q709 q711 qs12 q36 q712 rfl rfl ⟨rfl, by decide +kernel, by decide +kernel, by decide +kernel⟩ ⟨by (try dsimp only [RM]); omega, by (try dsimp only [RM]); omega⟩ rfl rfl (Nat.le_of_ble_eq_true rfl) dX1_laidAnew_2 ⟨by (try dsimp only [RM]); omega, by (try dsimp only [RM]); omega⟩ (fun E570 ce q9 G9 H locs hq9 hR9 hS9 hce hcv hcl => ?_) (fun v568 G569 H locs hq565 hR566 hS567 => ?_)
  · obtain ⟨rfl, hbd, rfl⟩ := hq9
    exact g_out X hlk hxt hR9 hS9 hce hcv hcl (⟨⟨rfl, by rw [kC, if_pos hbd]⟩, hX, gK.rf⟩) (by (try dsimp only [RM]); omega) (by (try dsimp only [RM]); omega)
  · obtain ⟨i, hi, rfl, rfl, rfl⟩ := hq565
    have hi31 : i < 2 ^ 31 := Nat.lt_of_lt_of_le hi (Nat.le_trans hW.2.2.1 (by decide))
    have hnp : ¬ bdP (nI (σ.1 2)) (nI i) := nbdP (nI_pos hi31) (nI_lt hi (Nat.lt_of_le_of_lt hW.2.2.1 (by decide)))
    have hic := nI_clamp hi31
    have hchg := (hX.2.2.2.1 i hi).1
    refine lv_astore_n (lv' := [(2, .ref (A 4 i)), (0, .ref x), (1, .int (nI i))]) X.hx X.hb dX1_laidAnew_5 rfl hl (by decide) rfl (fun ls hl => ?_)
    refine lv_iconst (v := 0) X.hx X.hb dX1_laidAnew_6 (by decide) ?_
    refine lv_istore_n (lv' := [(3, .int 0), (2, .ref (A 4 i)), (0, .ref x), (1, .int (nI i))]) X.hx X.hb dX1_laidAnew_7 rfl hl (by decide) rfl (fun ls hl => ?_)
    refine lv_iconst (v := 0) X.hx X.hb dX1_laidAnew_8 (by decide) ?_
    refine lv_istore (lv' := [(4, .int 0), (3, .int 0), (2, .ref (A 4 i)), (0, .ref x), (1, .int (nI i))]) X.hx X.hb dX1_laidAnew_9 hl (by decide) rfl (fun ls hl => ?_)
    have hn60 := hW.2.2.1
    have loop : ∀ (n j : Nat) (H : Heap) (locs : List Loc) (ls : Array Slot), j ≤ i → i - j < n → Rep Γ G H → va_S (gA Γ) ss.heap H locs → lv_has ls 6 [(0, .ref x), (1, .int (nI i)), (2, .ref (A 4 i)), (3, .int (LN σ i j)), (4, .int (nI j))] → W pp l ee (RM 12 4000 12000) ss mm (List.toArray [.ref x, .int (nI i)]) below meth cc0 H locs (0 + 1) (0 + 6) (vx_MQ below (Qg Γ (fun v G1 => kC σ (nI i) = 0 ∧ v = some (.int (LN σ (nI i).toNatClampNeg (nI i).toNatClampNeg)) ∧ XP Γ G1 x σ A ∧ gK TX G G1)) (XCg Γ (fun E G1 => ((E = EIO ∧ kC σ (nI i) = 1)) ∧ XP Γ G1 x σ A ∧ gK TX G G1)) (List.toArray [.ref x, .int (nI i)]) ss 4000 12000 (gA Γ)) (F0 mm 11 ls []) := by
      intro n
      induction n with
      | zero => intro j H locs ls h1 h2; omega
      | succ n ih =>
        intro j H locs ls h1 h2 hR hS hl
        by_cases hj : j < i
        · obtain ⟨hcj, -⟩ := hXc j (by omega)
          obtain ⟨⟨p1, hp1, hp2⟩, -⟩ := hW.2.2.2.2.2.2 j (by omega)
          obtain ⟨⟨p3, hp3, hp4⟩, -⟩ := hW.2.2.2.2.2.2 i hi
          have hpc : ∀ q, q < σ.1 0 → (nI q).toNatClampNeg = q := fun q h => nI_clamp (by have := hW.1; omega)
          have hn4 := hW.1
          refine lv_iload X.hx X.hb dX1_laidAnew_11 (lv_at hl 4 rfl) ?_
          refine lv_iload_n X.hx X.hb dX1_laidAnew_13 rfl (lv_at hl 1 rfl) ?_
          refine lv_icmp_ge (tgt := 83) X.hx X.hb dX1_laidAnew_14 (by decide) (fun c14 => ?_) (fun c14 => ?_)
          · exact absurd c14 (Int32.not_le.mpr (nI_lt hj hi31))
          · refine lv_aload_n X.hx X.hb dX1_laidAnew_17 rfl (lv_at hl 0 rfl) ?_
            refine g_get X hR hx rfl in_X1 1 (by decide) q119 (fun _ h => h) rfl dX1_laidAnew_18 ?_
            refine lv_iload X.hx X.hb dX1_laidAnew_21 (lv_at hl 4 rfl) ?_
            refine gcF X hl.1 hR hS 1 [.int (nI j)] [] (c_getA l Γ G hA1 (k := j) (by omega) (by omega)) hal1 rfl kf3 q476 q479 q481 q39 q483 rfl rfl ⟨by decide +kernel, by decide +kernel, by decide +kernel⟩ ⟨by (try dsimp only [RM]); omega, by (try dsimp only [RM]); omega⟩ rfl rfl (Nat.le_of_ble_eq_true rfl) dX1_laidAnew_23 ⟨by (try dsimp only [RM]); omega, by (try dsimp only [RM]); omega⟩ (fun v574 G575 H locs hq571 hR572 hS573 => ?_)
            obtain ⟨rfl, rfl⟩ := hq571
            refine g_castS X hR572 hcj rfl q500 dX1_laidAnew_28 ?_
            refine lv_astore (lv' := [(5, .ref (A 4 j)), (0, .ref x), (1, .int (nI i)), (2, .ref (A 4 i)), (3, .int (LN σ i j)), (4, .int (nI j))]) X.hx X.hb dX1_laidAnew_31 hl (by decide) rfl (fun ls hl => ?_)
            refine lv_iload_n X.hx X.hb dX1_laidAnew_33 rfl (lv_at hl 4 rfl) ?_
            refine lv_aload X.hx X.hb dX1_laidAnew_34 (lv_at hl 0 rfl) ?_
            refine g_getN X hR572 hcj rfl in_X5 1 (by decide) kq510 (fun _ h => h) rfl dX1_laidAnew_36 ?_
            refine lv_aload_n X.hx X.hb dX1_laidAnew_39 rfl (lv_at hl 3 rfl) ?_
            refine g_getN X hR572 hchg rfl in_X5 1 (by decide) kq510 (fun _ h => h) rfl dX1_laidAnew_40 ?_
            refine lv_acmp_ne (rx := some (A 2 (σ.2 5 j).toNatClampNeg)) (ry := some (A 2 (σ.2 5 i).toNatClampNeg)) (tgt := 74) X.hx X.hb dX1_laidAnew_43 (by decide) (fun c43 => ?_) (fun c43 => ?_)
            · refine lv_iconst (v := 0) X.hx X.hb dX1_laidAnew_74 (by decide) ?_
              refine lv_iadd X.hx X.hb dX1_laidAnew_75 ?_
              refine lv_topi (fun x576 hx576 => ?_)
              obtain rfl : x576 = LN σ i (j + 1) := hx576.trans (by rw [LN, if_neg (fun h9 => c43 (by rw [h9.1]))])
              refine lv_istore_n (lv' := [(3, .int (LN σ i (j + 1))), (5, .ref (A 4 j)), (0, .ref x), (1, .int (nI i)), (2, .ref (A 4 i)), (4, .int (nI j))]) X.hx X.hb dX1_laidAnew_76 rfl hl (by decide) rfl (fun ls hl => ?_)
              obtain ⟨x577, hx577⟩ : ∃ y : Int32, y = nI j + 1 := ⟨_, rfl⟩
              refine lv_iinc (v := x577) (lv' := [(4, .int x577), (3, .int (LN σ i (j + 1))), (5, .ref (A 4 j)), (0, .ref x), (1, .int (nI i)), (2, .ref (A 4 i))]) X.hx X.hb dX1_laidAnew_77 hl (k := 5) rfl (by rw [hx577]; rfl) (by decide) rfl (fun ls hl => ?_)
              refine lv_goto (tgt := 11) X.hx X.hb dX1_laidAnew_80 (by decide) ?_
              rw [hx577, nI_1] at hl
              exact ih (j + 1) _ _ _ (by omega) (by omega) hR572 hS573 (lv_sub hl [3, 4, 5, 1, 0] rfl)
            · refine lv_aload X.hx X.hb dX1_laidAnew_46 (lv_at hl 0 rfl) ?_
              refine g_getN X hR572 hcj rfl in_X5 2 (by decide) kq512 (fun _ h => h) rfl dX1_laidAnew_48 ?_
              refine lv_aload_n X.hx X.hb dX1_laidAnew_51 rfl (lv_at hl 3 rfl) ?_
              refine g_getN X hR572 hchg rfl in_X5 2 (by decide) kq512 (fun _ h => h) rfl dX1_laidAnew_52 ?_
              refine lv_icmp_le (tgt := 74) X.hx X.hb dX1_laidAnew_55 (by decide) (fun c55 => ?_) (fun c55 => ?_)
              · refine lv_iconst (v := 0) X.hx X.hb dX1_laidAnew_74 (by decide) ?_
                refine lv_iadd X.hx X.hb dX1_laidAnew_75 ?_
                refine lv_topi (fun x578 hx578 => ?_)
                obtain rfl : x578 = LN σ i (j + 1) := hx578.trans (by rw [LN, if_neg (fun h9 => absurd h9.2.1 (Int32.not_lt.mpr c55))])
                refine lv_istore_n (lv' := [(3, .int (LN σ i (j + 1))), (5, .ref (A 4 j)), (0, .ref x), (1, .int (nI i)), (2, .ref (A 4 i)), (4, .int (nI j))]) X.hx X.hb dX1_laidAnew_76 rfl hl (by decide) rfl (fun ls hl => ?_)
                obtain ⟨x579, hx579⟩ : ∃ y : Int32, y = nI j + 1 := ⟨_, rfl⟩
                refine lv_iinc (v := x579) (lv' := [(4, .int x579), (3, .int (LN σ i (j + 1))), (5, .ref (A 4 j)), (0, .ref x), (1, .int (nI i)), (2, .ref (A 4 i))]) X.hx X.hb dX1_laidAnew_77 hl (k := 5) rfl (by rw [hx579]; rfl) (by decide) rfl (fun ls hl => ?_)
                refine lv_goto (tgt := 11) X.hx X.hb dX1_laidAnew_80 (by decide) ?_
                rw [hx579, nI_1] at hl
                exact ih (j + 1) _ _ _ (by omega) (by omega) hR572 hS573 (lv_sub hl [3, 4, 5, 1, 0] rfl)
              · refine lv_aload X.hx X.hb dX1_laidAnew_58 (lv_at hl 0 rfl) ?_
                refine lv_aload_n X.hx X.hb dX1_laidAnew_60 rfl (lv_at hl 1 rfl) ?_
                refine g_get X hR572 hx rfl in_X1 3 (by decide) q121 (fun _ h => h) rfl dX1_laidAnew_61 ?_
                refine gcV X hl.1 hR572 hS573 1 [.int (σ.2 12 0)] [.int (LN σ i j)] (c_X5k l Γ G hcj) hcj rfl q721 q722 q723 q60 q724 rfl rfl ⟨rfl, by decide +kernel, by decide +kernel, by decide +kernel⟩ ⟨by (try dsimp only [RM]); omega, by (try dsimp only [RM]); omega⟩ rfl rfl (Nat.le_of_ble_eq_true rfl) dX1_laidAnew_64 ⟨by (try dsimp only [RM]); omega, by (try dsimp only [RM]); omega⟩ (fun v583 G584 H locs hq580 hR581 hS582 => ?_)
                obtain ⟨rfl, rfl⟩ := hq580
                refine lv_if_eq (tgt := 74) X.hx X.hb dX1_laidAnew_67 (by decide) (fun c67 => ?_) (fun c67 => ?_)
                · refine lv_iconst (v := 0) X.hx X.hb dX1_laidAnew_74 (by decide) ?_
                  refine lv_iadd X.hx X.hb dX1_laidAnew_75 ?_
                  refine lv_topi (fun x585 hx585 => ?_)
                  obtain rfl : x585 = LN σ i (j + 1) := hx585.trans (by rw [LN, if_neg (fun h9 => absurd ((if_pos ((knw_tb (by have := hW.2.2.2.1.2; omega)).mp h9.2.2)).symm.trans c67) (by decide))])
                  refine lv_istore_n (lv' := [(3, .int (LN σ i (j + 1))), (5, .ref (A 4 j)), (0, .ref x), (1, .int (nI i)), (2, .ref (A 4 i)), (4, .int (nI j))]) X.hx X.hb dX1_laidAnew_76 rfl hl (by decide) rfl (fun ls hl => ?_)
                  obtain ⟨x586, hx586⟩ : ∃ y : Int32, y = nI j + 1 := ⟨_, rfl⟩
                  refine lv_iinc (v := x586) (lv' := [(4, .int x586), (3, .int (LN σ i (j + 1))), (5, .ref (A 4 j)), (0, .ref x), (1, .int (nI i)), (2, .ref (A 4 i))]) X.hx X.hb dX1_laidAnew_77 hl (k := 5) rfl (by rw [hx586]; rfl) (by decide) rfl (fun ls hl => ?_)
                  refine lv_goto (tgt := 11) X.hx X.hb dX1_laidAnew_80 (by decide) ?_
                  rw [hx586, nI_1] at hl
                  exact ih (j + 1) _ _ _ (by omega) (by omega) hR581 hS582 (lv_sub hl [3, 4, 5, 1, 0] rfl)
                · refine lv_iconst (v := 1) X.hx X.hb dX1_laidAnew_70 (by decide) ?_
                  refine lv_goto (tgt := 75) X.hx X.hb dX1_laidAnew_71 (by decide) ?_
                  refine lv_iadd X.hx X.hb dX1_laidAnew_75 ?_
                  have hkq := Classical.not_not.mp (fun h9 => c67 (if_neg h9))
                  refine lv_topi (fun x587 hx587 => ?_)
                  obtain rfl : x587 = LN σ i (j + 1) := hx587.trans (by rw [LN, if_pos ⟨same_pol hp2 hp4 (A2_inj hX hp1 hp3 (by have := c43; rw [hp2, hp4, hpc _ hp1, hpc _ hp3] at this; exact Option.some.inj this)), Int32.not_le.mp c55, (knw_tb (by have := hW.2.2.2.1.2; omega)).mpr hkq⟩])
                  refine lv_istore_n (lv' := [(3, .int (LN σ i (j + 1))), (5, .ref (A 4 j)), (0, .ref x), (1, .int (nI i)), (2, .ref (A 4 i)), (4, .int (nI j))]) X.hx X.hb dX1_laidAnew_76 rfl hl (by decide) rfl (fun ls hl => ?_)
                  obtain ⟨x588, hx588⟩ : ∃ y : Int32, y = nI j + 1 := ⟨_, rfl⟩
                  refine lv_iinc (v := x588) (lv' := [(4, .int x588), (3, .int (LN σ i (j + 1))), (5, .ref (A 4 j)), (0, .ref x), (1, .int (nI i)), (2, .ref (A 4 i))]) X.hx X.hb dX1_laidAnew_77 hl (k := 5) rfl (by rw [hx588]; rfl) (by decide) rfl (fun ls hl => ?_)
                  refine lv_goto (tgt := 11) X.hx X.hb dX1_laidAnew_80 (by decide) ?_
                  rw [hx588, nI_1] at hl
                  exact ih (j + 1) _ _ _ (by omega) (by omega) hR581 hS582 (lv_sub hl [3, 4, 5, 1, 0] rfl)
        · have hne : j = i := by omega
          rw [hne] at hl
          refine lv_iload X.hx X.hb dX1_laidAnew_11 (lv_at hl 4 rfl) ?_
          refine lv_iload_n X.hx X.hb dX1_laidAnew_13 rfl (lv_at hl 1 rfl) ?_
          refine lv_icmp_ge (tgt := 83) X.hx X.hb dX1_laidAnew_14 (by decide) (fun c14 => ?_) (fun c14 => ?_)
          · refine lv_iload_n X.hx X.hb dX1_laidAnew_83 rfl (lv_at hl 3 rfl) ?_
            refine vx_ret ?_
            exact g_iret X hr hlk hR hS (⟨by rw [kC, if_neg hnp], by rw [hic], hX, gK.rf⟩) (by (try dsimp only [RM]); omega) (by (try dsimp only [RM]); omega) dX1_laidAnew_84
          · exact absurd (Int32.le_refl _) c14
    exact loop (i + 1) 0 _ _ _ (by omega) (by omega) hR566 hS567 (lv_sub hl [3, 4, 2, 1, 0] rfl)

set_option maxHeartbeats 4000000 in
theorem c_premByDays (l : Launch) (Γ : GP) (G : GH) (hst : l.stackTraces = false) {x : Nat} {σ : MS} {A : Nat → Nat → Nat} (hW : WF σ) (hX : XP Γ G x σ A) {p kn : Int32} (hC : CN Γ G) : MetX l yX1_premiumByDays (ws_ yX1_premiumByDays cX1_premiumByDays 6 (some .int)) (RM 12 4000 12000) Γ G [.ref x, .int p, .int kn] (fun v G1 => kV σ p 0 0 kn = 0 ∧ v = some (.int (SUM (rtA σ p.toNatClampNeg kn) 365 / 365)) ∧ XP Γ G1 x σ A ∧ gK TX G G1) (fun E G1 => ((E = EIO ∧ kV σ p 0 0 kn = 1) ∨ (E = EIA ∧ kV σ p 0 0 kn = 2)) ∧ XP Γ G1 x σ A ∧ gK TX G G1) 4000 12000 := by
  refine gMetX (own := RX1) (by decide) rfl (Nat.le_of_ble_eq_true rfl) ?_
  intro pp ee ss mm below meth cc0 ls X hr hlk hin hnm hxt hR hS hl
  have hl : lv_has ls 6 [(0, .ref x), (1, .int p), (2, .int kn)] := hl
  have hX9 := hX
  obtain ⟨⟨rf, hx, hrf⟩, ⟨c0, c1, c2, hcap, hA0, hA1, hA2⟩, hXp, hXc, hXt⟩ := hX9
  refine lv_aload_n X.hx X.hb dX1_premiumByDays_0 rfl (lv_at hl 0 rfl) ?_
  refine lv_iload_n X.hx X.hb dX1_premiumByDays_1 rfl (lv_at hl 1 rfl) ?_
  refine gxV X hl.1 hR hS 1 [.int p] [] (c_policyAt l Γ G hst hW hX) hx rfl q471 q473 qs4 q36 q474 rfl rfl ⟨rfl, by decide +kernel, by decide +kernel, by decide +kernel⟩ ⟨by (try dsimp only [RM]); omega, by (try dsimp only [RM]); omega⟩ rfl rfl (Nat.le_of_ble_eq_true rfl) dX1_premiumByDays_2 ⟨by (try dsimp only [RM]); omega, by (try dsimp only [RM]); omega⟩ (fun E594 ce q9 G9 H locs hq9 hR9 hS9 hce hcv hcl => ?_) (fun v592 G593 H locs hq589 hR590 hS591 => ?_)
  · obtain ⟨rfl, hbd, rfl⟩ := hq9
    exact g_out X hlk hxt hR9 hS9 hce hcv hcl (⟨Or.inl ⟨rfl, by rw [kV, if_pos (Or.inl hbd)]⟩, hX, gK.rf⟩) (by (try dsimp only [RM]); omega) (by (try dsimp only [RM]); omega)
  · obtain ⟨i, hi, rfl, rfl, rfl⟩ := hq589
    have hi31 : i < 2 ^ 31 := Nat.lt_of_lt_of_le hi (Nat.le_trans hW.1 (by decide))
    have hnp : ¬ bdP (nI (σ.1 0)) (nI i) := nbdP (nI_pos hi31) (nI_lt hi (Nat.lt_of_le_of_lt hW.1 (by decide)))
    have hic := nI_clamp hi31
    have hpol := (hX.2.2.1 i hi).1
    refine lv_astore_n (lv' := [(3, .ref (A 2 i)), (0, .ref x), (1, .int (nI i)), (2, .int kn)]) X.hx X.hb dX1_premiumByDays_5 rfl hl (by decide) rfl (fun ls hl => ?_)
    refine lv_iload_n X.hx X.hb dX1_premiumByDays_6 rfl (lv_at hl 3 rfl) ?_
    refine lv_iconst (v := 0) X.hx X.hb dX1_premiumByDays_7 (by decide) ?_
    refine lv_aload_n X.hx X.hb dX1_premiumByDays_8 rfl (lv_at hl 1 rfl) ?_
    refine g_get X hR590 hx rfl in_X1 3 (by decide) q121 (fun _ h => h) rfl dX1_premiumByDays_9 ?_
    refine gxS X hl.1 hR590 hS591 3 [.int kn, .int 0, .int (σ.2 12 0)] [] (c_needNumber l Γ G hst) q162 q163 q36 q164 rfl rfl ⟨by decide +kernel, by decide +kernel, by decide +kernel⟩ ⟨by (try dsimp only [RM]); omega, by (try dsimp only [RM]); omega⟩ rfl rfl (Nat.le_of_ble_eq_true rfl) dX1_premiumByDays_12 ⟨by (try dsimp only [RM]); omega, by (try dsimp only [RM]); omega⟩ (fun E600 ce q9 G9 H locs hq9 hR9 hS9 hce hcv hcl => ?_) (fun v598 G599 H locs hq595 hR596 hS597 => ?_)
    · obtain ⟨rfl, hbd, rfl⟩ := hq9
      exact g_out X hlk hxt hR9 hS9 hce hcv hcl (⟨Or.inr ⟨rfl, by rw [kV, if_neg (or_no hnp c03), if_pos (Or.inr hbd)]⟩, hX, gK.rf⟩) (by (try dsimp only [RM]); omega) (by (try dsimp only [RM]); omega)
    · obtain ⟨rfl, hk0, hk1, rfl⟩ := hq595
      refine lv_iconst (v := 0) X.hx X.hb dX1_premiumByDays_15 (by decide) ?_
      refine lv_istore (lv' := [(4, .int 0), (3, .ref (A 2 i)), (0, .ref x), (1, .int (nI i)), (2, .int kn)]) X.hx X.hb dX1_premiumByDays_16 hl (by decide) rfl (fun ls hl => ?_)
      refine lv_iconst (v := 0) X.hx X.hb dX1_premiumByDays_18 (by decide) ?_
      refine lv_istore (lv' := [(5, .int 0), (4, .int 0), (3, .ref (A 2 i)), (0, .ref x), (1, .int (nI i)), (2, .int kn)]) X.hx X.hb dX1_premiumByDays_19 hl (by decide) rfl (fun ls hl => ?_)
      have loop : ∀ (n j cs sl : Nat) (G1 : GH) (H : Heap) (locs : List Loc) (ls : Array Slot), j ≤ 365 → 365 - j < n → cs ≤ 2 + 8 * j → sl ≤ 12 + 30 * j → XP Γ G1 x σ A → gK TX G G1 → Rep Γ G1 H → va_S (gA Γ) ss.heap H locs → lv_has ls 6 [(0, .ref x), (1, .int (nI i)), (2, .int kn), (3, .ref (A 2 i)), (4, .int (SUM (rtA σ i kn) j)), (5, .int (nI j))] → W pp l ee (RM 12 4000 12000) ss mm (List.toArray [.ref x, .int (nI i), .int kn]) below meth cc0 H locs cs sl (vx_MQ below (Qg Γ (fun v G1 => kV σ (nI i) 0 0 kn = 0 ∧ v = some (.int (SUM (rtA σ (nI i).toNatClampNeg kn) 365 / 365)) ∧ XP Γ G1 x σ A ∧ gK TX G G1)) (XCg Γ (fun E G1 => ((E = EIO ∧ kV σ (nI i) 0 0 kn = 1) ∨ (E = EIA ∧ kV σ (nI i) 0 0 kn = 2)) ∧ XP Γ G1 x σ A ∧ gK TX G G1)) (List.toArray [.ref x, .int (nI i), .int kn]) ss 4000 12000 (gA Γ)) (F0 mm 21 ls []) := by
        intro n
        induction n with
        | zero => intro j cs sl G1 H locs ls h1 h2; omega
        | succ n ih =>
          intro j cs sl G1 H locs ls h1 h2 hcs hsl hX1 hgk hR hS hl
          obtain ⟨⟨rf5, hx, -⟩, -⟩ := id hX1
          have hCc := hC.keep hgk (fun t ht => Nat.lt_of_lt_of_le ht (by decide))
          by_cases hj : j < 365
          · have hjt : (nI j).toInt = (j : Int) := nI_toInt (by omega)
            have hd4 : rg (nI j) 0 364 := ⟨by omega, by omega⟩
            refine lv_iload X.hx X.hb dX1_premiumByDays_21 (lv_at hl 5 rfl) ?_
            refine lv_sipush (v := 365) X.hx X.hb dX1_premiumByDays_23 (by decide) ?_
            refine lv_icmp_ge (tgt := 55) X.hx X.hb dX1_premiumByDays_26 (by decide) (fun c26 => ?_) (fun c26 => ?_)
            · exact absurd c26 (Int32.not_le.mpr (nI_lt hj (by decide)))
            · refine lv_iload X.hx X.hb dX1_premiumByDays_29 (lv_at hl 4 rfl) ?_
              refine lv_aload_n X.hx X.hb dX1_premiumByDays_31 rfl (lv_at hl 0 rfl) ?_
              refine lv_aload_n X.hx X.hb dX1_premiumByDays_32 rfl (lv_at hl 3 rfl) ?_
              refine lv_aload_n X.hx X.hb dX1_premiumByDays_33 rfl (lv_at hl 0 rfl) ?_
              refine lv_aload_n X.hx X.hb dX1_premiumByDays_34 rfl (lv_at hl 3 rfl) ?_
              refine lv_iload X.hx X.hb dX1_premiumByDays_35 (lv_at hl 5 rfl) ?_
              refine lv_iload_n X.hx X.hb dX1_premiumByDays_37 rfl (lv_at hl 2 rfl) ?_
              refine gcV X hl.1 hR hS 3 [.ref (A 2 i), .int (nI j), .int kn] [.ref (A 2 i), .ref x, .int (SUM (rtA σ i kn) j)] (c_version l Γ G1 hCc hW hX1 hi hd4 (kn_ok hW (nbad hk0 hk1))) hx rfl q736 q738 qs14 q36 q739 rfl rfl ⟨rfl, by decide +kernel, by decide +kernel, by decide +kernel⟩ ⟨by (try dsimp only [RM]); omega, by (try dsimp only [RM]); omega⟩ rfl rfl (Nat.le_of_ble_eq_true rfl) dX1_premiumByDays_38 ⟨by (try dsimp only [RM]); omega, by (try dsimp only [RM]); omega⟩ (fun v604 G605 H locs hq601 hR602 hS603 => ?_)
              obtain ⟨qv, rfl, hVP, hgv⟩ := hq601
              rw [hjt, Int.toNat_natCast] at hVP
              have hXv := hX1.keep hgv
              obtain ⟨⟨rfv, hx, hrf⟩, -⟩ := id hXv
              refine lv_iload X.hx X.hb dX1_premiumByDays_41 (lv_at hl 5 rfl) ?_
              refine gcV X hl.1 hR602 hS603 3 [.ref (A 2 i), .ref qv, .int (nI j)] [.int (SUM (rtA σ i kn) j)] (c_rateOf l Γ G605 hW hXv hi hVP) hx rfl q1181 q1183 qs15 q36 q1184 rfl rfl ⟨rfl, by decide +kernel, by decide +kernel, by decide +kernel⟩ ⟨by (try dsimp only [RM]); omega, by (try dsimp only [RM]); omega⟩ rfl rfl (Nat.le_of_ble_eq_true rfl) dX1_premiumByDays_43 ⟨by (try dsimp only [RM]); omega, by (try dsimp only [RM]); omega⟩ (fun v609 G610 H locs hq606 hR607 hS608 => ?_)
              obtain ⟨rfl, rfl⟩ := hq606
              refine lv_iadd X.hx X.hb dX1_premiumByDays_46 ?_
              refine lv_topi (fun x611 hx611 => ?_)
              obtain rfl : x611 = SUM (rtA σ i kn) (j + 1) := hx611.trans (rfl)
              refine lv_istore (lv' := [(4, .int (SUM (rtA σ i kn) (j + 1))), (0, .ref x), (1, .int (nI i)), (2, .int kn), (3, .ref (A 2 i)), (5, .int (nI j))]) X.hx X.hb dX1_premiumByDays_47 hl (by decide) rfl (fun ls hl => ?_)
              obtain ⟨x612, hx612⟩ : ∃ y : Int32, y = nI j + 1 := ⟨_, rfl⟩
              refine lv_iinc (v := x612) (lv' := [(5, .int x612), (4, .int (SUM (rtA σ i kn) (j + 1))), (0, .ref x), (1, .int (nI i)), (2, .int kn), (3, .ref (A 2 i))]) X.hx X.hb dX1_premiumByDays_49 hl (k := 5) rfl (by rw [hx612]; rfl) (by decide) rfl (fun ls hl => ?_)
              refine lv_goto (tgt := 21) X.hx X.hb dX1_premiumByDays_52 (by decide) ?_
              rw [hx612, nI_1] at hl
              exact ih (j + 1) _ _ _ _ _ _ (by omega) (by omega) (by omega) (by omega) hXv (gK.tr hgk (TX_TR hgv)) hR607 hS608 (lv_sub hl [2, 3, 4, 5, 1, 0] rfl)
          · have hne : j = 365 := by omega
            subst hne
            refine lv_iload X.hx X.hb dX1_premiumByDays_21 (lv_at hl 5 rfl) ?_
            refine lv_sipush (v := 365) X.hx X.hb dX1_premiumByDays_23 (by decide) ?_
            refine lv_icmp_ge (tgt := 55) X.hx X.hb dX1_premiumByDays_26 (by decide) (fun c26 => ?_) (fun c26 => ?_)
            · refine lv_iload X.hx X.hb dX1_premiumByDays_55 (lv_at hl 4 rfl) ?_
              refine lv_sipush (v := 365) X.hx X.hb dX1_premiumByDays_57 (by decide) ?_
              refine lv_idiv X.hx X.hb dX1_premiumByDays_60 (by decide) ?_
              refine vx_ret ?_
              exact g_iret X hr hlk hR hS (⟨by rw [kV, if_neg (or_no hnp c03), if_neg (or_no c0d (nbad hk0 hk1))], by rw [hic], hX1, hgk⟩) (by (try dsimp only [RM]); omega) (by (try dsimp only [RM]); omega) dX1_premiumByDays_61
            · exact absurd (Int32.le_refl _) c26
      exact loop 366 0 _ _ _ _ _ _ (by omega) (by omega) (by omega) (by omega) hX gK.rf hR596 hS597 (lv_sub hl [3, 4, 5, 2, 1, 0] rfl)

