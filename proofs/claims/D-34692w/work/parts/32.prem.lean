set_option maxRecDepth 100000
/-! the component: charges and premiums -/
/-- the sum of the rates ahead of day n -/
def SUM (r : Nat → Int32) : Nat → Int32
  | 0 => 0
  | n + 1 => SUM r n + r n
theorem SUM_cong {r s : Nat → Int32} {n : Nat} (h : ∀ d, d < n → r d = s d) : ∀ m, m ≤ n → SUM r m = SUM s m := by
  intro m
  induction m with
  | zero => intro _; rfl
  | succ m ih => intro hm; rw [SUM, SUM, ih (by omega), h m (by omega)]
/-- where the segment that begins on day s ends -/
def SE (r : Nat → Int32) (s e : Nat) : Prop := s < e ∧ e ≤ 365 ∧ (∀ k, s < k → k < e → r k = r s) ∧ (e = 365 ∨ r e ≠ r s)
theorem SE_inj {r : Nat → Int32} {s e f : Nat} (h : SE r s e) (g : SE r s f) : e = f := by
  obtain ⟨h1, h2, h3, h4⟩ := h
  obtain ⟨g1, g2, g3, g4⟩ := g
  rcases Nat.lt_trichotomy e f with q | q | q
  · exact absurd (g3 e h1 q) (h4.resolve_left (by omega))
  · exact q
  · exact absurd (h3 f g1 q) (g4.resolve_left (by omega))
theorem SE_cong {r q : Nat → Int32} (h : ∀ d, d < 365 → r d = q d) {s e : Nat} (hE : SE r s e) : SE q s e := by
  obtain ⟨h1, h2, h3, h4⟩ := hE
  refine ⟨h1, h2, fun k a b => ?_, ?_⟩
  · rw [← h k (by omega), ← h s (by omega)]; exact h3 k a b
  · rcases Nat.lt_or_ge e 365 with a | a
    · rw [← h e a, ← h s (by omega)]; exact h4
    · exact Or.inl (by omega)
/-- no rate is below 0 -/
def NN (r : Nat → Int32) : Prop := ∀ d, d < 365 → 0 ≤ r d
theorem i32_le_antisymm {x y : Int32} (h : x ≤ y) (g : y ≤ x) : x = y := by
  apply Int32.toInt_inj.mp
  have := Int32.le_iff_toInt_le.mp h
  have := Int32.le_iff_toInt_le.mp g
  omega
/-- from day d on: the next first day of a segment, or the end; ahead of it nothing is due -/
theorem SUM_next {r : Nat → Int32} (hN : NN r) : ∀ n d : Nat, d ≤ 365 → 365 - d ≤ n → (d = 0 ∨ r d ≠ r (d - 1) ∨ r (d - 1) = 0) → ∃ q, d ≤ q ∧ q ≤ 365 ∧ (q = 365 ∨ bgn r q) ∧ SUM r q = SUM r d ∧ sn r q = sn r d := by
  intro n
  induction n with
  | zero => intro d h1 h2 h3; exact ⟨d, Nat.le_refl _, h1, Or.inl (by omega), rfl, rfl⟩
  | succ n ih =>
    intro d h1 h2 h3
    by_cases hd : d = 365
    · exact ⟨d, Nat.le_refl _, h1, Or.inl hd, rfl, rfl⟩
    · by_cases hb : bgn r d
      · exact ⟨d, Nat.le_refl _, h1, Or.inr hb, rfl, rfl⟩
      · have h0 : r d = 0 := by
          by_cases hp : 0 < r d
          · refine absurd ⟨hp, ?_⟩ hb
            rcases h3 with h3 | h3 | h3
            · exact Or.inl h3
            · exact Or.inr h3
            · exact Or.inr (fun h9 => by rw [h9, h3] at hp; exact absurd hp (by decide))
          · exact i32_le_antisymm (Int32.not_lt.mp hp) (hN d (by omega))
        obtain ⟨q, a1, a2, a3, a4, a5⟩ := ih (d + 1) (by omega) (by omega) (Or.inr (Or.inr h0))
        refine ⟨q, by omega, a2, a3, ?_, ?_⟩
        · rw [a4, SUM, h0, Int32.add_zero]
        · rw [a5, sn_n hb]
theorem sn_seg {r : Nat → Int32} {s e : Nat} (hE : SE r s e) (hb : bgn r s) : ∀ k, s + 1 + k ≤ e → sn r (s + 1 + k) = sn r s + 1 := by
  obtain ⟨h1, h2, h3, h4⟩ := hE
  intro k
  induction k with
  | zero => intro _; exact sn_y hb
  | succ k ih =>
    intro hk
    rw [show s + 1 + (k + 1) = (s + 1 + k) + 1 from rfl, sn_n, ih (by omega)]
    rintro ⟨-, h9 | h9⟩
    · omega
    · refine h9 ?_
      rw [h3 (s + 1 + k) (by omega) (by omega)]
      by_cases h0 : k = 0
      · subst h0; rfl
      · rw [show s + 1 + k - 1 = s + k by omega, h3 (s + k) (by omega) (by omega)]
/-- one segment more -/
theorem SUM_step {r : Nat → Int32} (hN : NN r) {s e : Nat} (hb : bgn r s) (hE : SE r s e) : ∃ q, q ≤ 365 ∧ (q = 365 ∨ bgn r q) ∧ SUM r q = SUM r e ∧ sn r q = sn r s + 1 := by
  have h0 := sn_seg hE hb (e - (s + 1)) (by have := hE.1; omega)
  rw [show s + 1 + (e - (s + 1)) = e by have := hE.1; omega] at h0
  have hE9 := hE
  obtain ⟨h1, h2, h3, h4⟩ := hE9
  by_cases he : e = 365
  · exact ⟨e, by omega, Or.inl he, rfl, h0⟩
  · obtain ⟨q, a1, a2, a3, a4, a5⟩ := SUM_next hN 365 e h2 (by omega) (Or.inr (Or.inl (by
      by_cases hs : e = s + 1
      · subst hs; exact h4.resolve_left he
      · rw [h3 (e - 1) (by omega) (by omega)]; exact h4.resolve_left he)))
    exact ⟨q, a2, a3, a4, a5.trans h0⟩
theorem i32_tel (x y : Int32) : x + (y - x) = y := by
  rw [Int32.sub_eq_add_neg, Int32.add_comm y, ← Int32.add_assoc, Int32.add_right_neg, Int32.zero_add]

set_option maxHeartbeats 4000000 in
theorem c_charge (l : Launch) (Γ : GP) (G : GH) {x : Nat} {rf : Nat → Int32} {A : Nat → Nat → Nat} {x1 x2 x3 : Nat} {y : Int32} (hx : G x = some ((0, 0), .inr (0, [.ref x1, .ref x2, .ref x3, .int y, .ref (A 1 0)]))) (hrf : G (A 1 0) = some ((15, 0), .inl (Γ.2 1, 365, .inl rf))) {d : Nat} (hd : d ≤ 365) : MetG l yX1_charge (ws_ yX1_charge cX1_charge 4 (some .int)) (RM 1 0 0) Γ G [.ref x, .int (nI d)] (fun u G1 => u = some (.int (SUM rf d / 365)) ∧ G = G1) 0 0 := by
  refine gMet (own := RX1) (by decide) rfl (Nat.le_of_ble_eq_true rfl) ?_
  intro pp ee ss mm below meth cc0 ls X hr hlk hin hnm hR hS hl
  have hl : lv_has ls 4 [(0, .ref x), (1, .int (nI d))] := hl
  refine lv_iconst (v := 0) X.hx X.hb dX1_charge_0 (by decide) ?_
  refine lv_istore_n (lv' := [(2, .int 0), (0, .ref x), (1, .int (nI d))]) X.hx X.hb dX1_charge_1 rfl hl (by decide) rfl (fun ls hl => ?_)
  refine lv_iconst (v := 0) X.hx X.hb dX1_charge_2 (by decide) ?_
  refine lv_istore_n (lv' := [(3, .int 0), (2, .int 0), (0, .ref x), (1, .int (nI d))]) X.hx X.hb dX1_charge_3 rfl hl (by decide) rfl (fun ls hl => ?_)
  have loop : ∀ (n j : Nat) (H : Heap) (locs : List Loc) (ls : Array Slot), j ≤ d → d - j < n → Rep Γ G H → va_S (gA Γ) ss.heap H locs → lv_has ls 4 [(0, .ref x), (1, .int (nI d)), (2, .int (SUM rf j)), (3, .int (nI j))] → W pp l ee (RM 1 0 0) ss mm (List.toArray [.ref x, .int (nI d)]) below meth cc0 H locs 0 0 (MQ below (Qg Γ (fun u G1 => u = some (.int (SUM rf d / 365)) ∧ G = G1)) (List.toArray [.ref x, .int (nI d)]) ss 0 0 (gA Γ)) (F0 mm 4 ls []) := by
    intro n
    induction n with
    | zero => intro j H locs ls h1 h2; omega
    | succ n ih =>
      intro j H locs ls h1 h2 hR hS hl
      by_cases hj : j < d
      · refine lv_iload_n X.hx X.hb dX1_charge_4 rfl (lv_at hl 3 rfl) ?_
        refine lv_iload_n X.hx X.hb dX1_charge_5 rfl (lv_at hl 1 rfl) ?_
        refine lv_icmp_ge (tgt := 24) X.hx X.hb dX1_charge_6 (by decide) (fun c6 => ?_) (fun c6 => ?_)
        · exact absurd c6 (Int32.not_le.mpr (nI_lt hj (by omega)))
        · refine lv_iload_n X.hx X.hb dX1_charge_9 rfl (lv_at hl 2 rfl) ?_
          refine lv_aload_n X.hx X.hb dX1_charge_10 rfl (lv_at hl 0 rfl) ?_
          refine g_get X hR hx rfl in_X1 4 (by decide) q122 (fun _ h => h) rfl dX1_charge_11 ?_
          refine lv_iload_n X.hx X.hb dX1_charge_14 rfl (lv_at hl 3 rfl) ?_
          refine g_iald (v := rf j) X hR hrf (vp_in_nI (by omega) (by decide)) (by rw [nI_clamp (by omega)]) dX1_charge_15 ?_
          refine lv_iadd X.hx X.hb dX1_charge_16 ?_
          refine lv_istore_n (lv' := [(2, .int ((SUM rf j) + (rf j))), (0, .ref x), (1, .int (nI d)), (3, .int (nI j))]) X.hx X.hb dX1_charge_17 rfl hl (by decide) rfl (fun ls hl => ?_)
          obtain ⟨x304, hx304⟩ : ∃ y : Int32, y = nI j + 1 := ⟨_, rfl⟩
          refine lv_iinc (v := x304) (lv' := [(3, .int x304), (2, .int ((SUM rf j) + (rf j))), (0, .ref x), (1, .int (nI d))]) X.hx X.hb dX1_charge_18 hl (k := 3) rfl (by rw [hx304]; rfl) (by decide) rfl (fun ls hl => ?_)
          refine lv_goto (tgt := 4) X.hx X.hb dX1_charge_21 (by decide) ?_
          rw [hx304, nI_1] at hl
          exact ih (j + 1) _ _ _ (by omega) (by omega) hR hS (lv_sub hl [2, 3, 1, 0] rfl)
      · have hne : j = d := by omega
        rw [hne] at hl
        refine lv_iload_n X.hx X.hb dX1_charge_4 rfl (lv_at hl 3 rfl) ?_
        refine lv_iload_n X.hx X.hb dX1_charge_5 rfl (lv_at hl 1 rfl) ?_
        refine lv_icmp_ge (tgt := 24) X.hx X.hb dX1_charge_6 (by decide) (fun c6 => ?_) (fun c6 => ?_)
        · refine lv_iload_n X.hx X.hb dX1_charge_24 rfl (lv_at hl 2 rfl) ?_
          refine lv_sipush (v := 365) X.hx X.hb dX1_charge_25 (by decide) ?_
          refine lv_idiv X.hx X.hb dX1_charge_28 (by decide) ?_
          exact g_iret X hr hlk hR hS (⟨rfl, rfl⟩) (by (try dsimp only [RM]); omega) (by (try dsimp only [RM]); omega) dX1_charge_29
        · exact absurd (Int32.le_refl _) c6
  exact loop (d + 1) 0 _ _ _ (by omega) (by omega) hR hS (lv_sub hl [2, 3, 1, 0] rfl)

set_option maxHeartbeats 4000000 in
theorem c_pfrom (l : Launch) (Γ : GP) (G : GH) {x : Nat} {rf : Nat → Int32} {A : Nat → Nat → Nat} {x1 x2 x3 : Nat} {y : Int32} (hx : G x = some ((0, 0), .inr (0, [.ref x1, .ref x2, .ref x3, .int y, .ref (A 1 0)]))) (hrf : G (A 1 0) = some ((15, 0), .inl (Γ.2 1, 365, .inl rf))) {d : Nat} (hd : d < 365) : MetG l yX1_premiumFrom (ws_ yX1_premiumFrom cX1_premiumFrom 3 (some .int)) (RM 2 0 0) Γ G [.ref x, .int (nI d)] (fun u G1 => ∃ e, SE rf d e ∧ u = some (.int (SUM rf e / 365 - SUM rf d / 365)) ∧ G = G1) 0 0 := by
  refine gMet (own := RX1) (by decide) rfl (Nat.le_of_ble_eq_true rfl) ?_
  intro pp ee ss mm below meth cc0 ls X hr hlk hin hnm hR hS hl
  have hl : lv_has ls 3 [(0, .ref x), (1, .int (nI d))] := hl
  refine lv_iload_n X.hx X.hb dX1_premiumFrom_0 rfl (lv_at hl 1 rfl) ?_
  refine lv_iconst (v := 1) X.hx X.hb dX1_premiumFrom_1 (by decide) ?_
  refine lv_iadd X.hx X.hb dX1_premiumFrom_2 ?_
  refine lv_topi (fun x305 hx305 => ?_)
  obtain rfl : x305 = nI (d + 1) := hx305.trans (nI_1 d)
  refine lv_istore_n (lv' := [(2, .int (nI (d + 1))), (0, .ref x), (1, .int (nI d))]) X.hx X.hb dX1_premiumFrom_3 rfl hl (by decide) rfl (fun ls hl => ?_)
  have loop : ∀ (n j : Nat) (H : Heap) (locs : List Loc) (ls : Array Slot), d < j → j ≤ 365 → 365 - j < n → (∀ k, d < k → k < j → rf k = rf d) → Rep Γ G H → va_S (gA Γ) ss.heap H locs → lv_has ls 3 [(0, .ref x), (1, .int (nI d)), (2, .int (nI j))] → W pp l ee (RM 2 0 0) ss mm (List.toArray [.ref x, .int (nI d)]) below meth cc0 H locs 0 0 (MQ below (Qg Γ (fun u G1 => ∃ e, SE rf d e ∧ u = some (.int (SUM rf e / 365 - SUM rf d / 365)) ∧ G = G1)) (List.toArray [.ref x, .int (nI d)]) ss 0 0 (gA Γ)) (F0 mm 4 ls []) := by
    intro n
    induction n with
    | zero => intro j H locs ls h1 h2 h3; omega
    | succ n ih =>
      intro j H locs ls h1 h2 h3 hall hR hS hl
      by_cases hj : j < 365
      · refine lv_iload_n X.hx X.hb dX1_premiumFrom_4 rfl (lv_at hl 2 rfl) ?_
        refine lv_sipush (v := 365) X.hx X.hb dX1_premiumFrom_5 (by decide) ?_
        refine lv_icmp_ge (tgt := 32) X.hx X.hb dX1_premiumFrom_8 (by decide) (fun c8 => ?_) (fun c8 => ?_)
        · exact absurd c8 (Int32.not_le.mpr (nI_lt hj (by decide)))
        · refine lv_aload_n X.hx X.hb dX1_premiumFrom_11 rfl (lv_at hl 0 rfl) ?_
          refine g_get X hR hx rfl in_X1 4 (by decide) q122 (fun _ h => h) rfl dX1_premiumFrom_12 ?_
          refine lv_iload_n X.hx X.hb dX1_premiumFrom_15 rfl (lv_at hl 2 rfl) ?_
          refine g_iald (v := rf j) X hR hrf (vp_in_nI hj (by decide)) (by rw [nI_clamp (by omega)]) dX1_premiumFrom_16 ?_
          refine lv_aload_n X.hx X.hb dX1_premiumFrom_17 rfl (lv_at hl 0 rfl) ?_
          refine g_get X hR hx rfl in_X1 4 (by decide) q122 (fun _ h => h) rfl dX1_premiumFrom_18 ?_
          refine lv_iload_n X.hx X.hb dX1_premiumFrom_21 rfl (lv_at hl 1 rfl) ?_
          refine g_iald (v := rf d) X hR hrf (vp_in_nI hd (by decide)) (by rw [nI_clamp (by omega)]) dX1_premiumFrom_22 ?_
          refine lv_icmp_ne (tgt := 32) X.hx X.hb dX1_premiumFrom_23 (by decide) (fun c23 => ?_) (fun c23 => ?_)
          · have hSE : SE rf d j := ⟨h1, h2, hall, Or.inr c23⟩
            refine lv_aload_n X.hx X.hb dX1_premiumFrom_32 rfl (lv_at hl 0 rfl) ?_
            refine lv_iload_n X.hx X.hb dX1_premiumFrom_33 rfl (lv_at hl 2 rfl) ?_
            refine gcV X hl.1 hR hS 1 [.int (nI j)] [] (c_charge l Γ G hx hrf (d := j) (by omega)) hx rfl q1248 q1250 qs22 q36 q1251 rfl rfl ⟨rfl, by decide +kernel, by decide +kernel, by decide +kernel⟩ ⟨by (try dsimp only [RM]); omega, by (try dsimp only [RM]); omega⟩ rfl rfl (Nat.le_of_ble_eq_true rfl) dX1_premiumFrom_34 ⟨by (try dsimp only [RM]); omega, by (try dsimp only [RM]); omega⟩ (fun v309 G310 H locs hq306 hR307 hS308 => ?_)
            obtain ⟨rfl, rfl⟩ := hq306
            refine lv_aload_n X.hx X.hb dX1_premiumFrom_37 rfl (lv_at hl 0 rfl) ?_
            refine lv_iload_n X.hx X.hb dX1_premiumFrom_38 rfl (lv_at hl 1 rfl) ?_
            refine gcV X hl.1 hR307 hS308 1 [.int (nI d)] [.int (SUM rf j / 365)] (c_charge l Γ G hx hrf (d := d) (by omega)) hx rfl q1248 q1250 qs22 q36 q1251 rfl rfl ⟨rfl, by decide +kernel, by decide +kernel, by decide +kernel⟩ ⟨by (try dsimp only [RM]); omega, by (try dsimp only [RM]); omega⟩ rfl rfl (Nat.le_of_ble_eq_true rfl) dX1_premiumFrom_39 ⟨by (try dsimp only [RM]); omega, by (try dsimp only [RM]); omega⟩ (fun v314 G315 H locs hq311 hR312 hS313 => ?_)
            obtain ⟨rfl, rfl⟩ := hq311
            refine lv_isub X.hx X.hb dX1_premiumFrom_42 ?_
            exact g_iret X hr hlk hR312 hS313 (⟨_, hSE, rfl, rfl⟩) (by (try dsimp only [RM]); omega) (by (try dsimp only [RM]); omega) dX1_premiumFrom_43
          · obtain ⟨x316, hx316⟩ : ∃ y : Int32, y = nI j + 1 := ⟨_, rfl⟩
            refine lv_iinc (v := x316) (lv' := [(2, .int x316), (0, .ref x), (1, .int (nI d))]) X.hx X.hb dX1_premiumFrom_26 hl (k := 2) rfl (by rw [hx316]; rfl) (by decide) rfl (fun ls hl => ?_)
            refine lv_goto (tgt := 4) X.hx X.hb dX1_premiumFrom_29 (by decide) ?_
            rw [hx316, nI_1] at hl
            exact ih (j + 1) _ _ _ (by omega) (by omega) (by omega) (fun k a b => by rcases Nat.lt_or_ge k j with h | h; exact hall k a h; rw [show k = j by omega]; exact c23) hR hS (lv_sub hl [1, 2, 0] rfl)
      · have hne : j = 365 := by omega
        subst hne
        have hSE : SE rf d 365 := ⟨h1, h2, hall, Or.inl rfl⟩
        refine lv_iload_n X.hx X.hb dX1_premiumFrom_4 rfl (lv_at hl 2 rfl) ?_
        refine lv_sipush (v := 365) X.hx X.hb dX1_premiumFrom_5 (by decide) ?_
        refine lv_icmp_ge (tgt := 32) X.hx X.hb dX1_premiumFrom_8 (by decide) (fun c8 => ?_) (fun c8 => ?_)
        · refine lv_aload_n X.hx X.hb dX1_premiumFrom_32 rfl (lv_at hl 0 rfl) ?_
          refine lv_iload_n X.hx X.hb dX1_premiumFrom_33 rfl (lv_at hl 2 rfl) ?_
          refine gcV X hl.1 hR hS 1 [.int (nI 365)] [] (c_charge l Γ G hx hrf (d := 365) (by omega)) hx rfl q1248 q1250 qs22 q36 q1251 rfl rfl ⟨rfl, by decide +kernel, by decide +kernel, by decide +kernel⟩ ⟨by (try dsimp only [RM]); omega, by (try dsimp only [RM]); omega⟩ rfl rfl (Nat.le_of_ble_eq_true rfl) dX1_premiumFrom_34 ⟨by (try dsimp only [RM]); omega, by (try dsimp only [RM]); omega⟩ (fun v320 G321 H locs hq317 hR318 hS319 => ?_)
          obtain ⟨rfl, rfl⟩ := hq317
          refine lv_aload_n X.hx X.hb dX1_premiumFrom_37 rfl (lv_at hl 0 rfl) ?_
          refine lv_iload_n X.hx X.hb dX1_premiumFrom_38 rfl (lv_at hl 1 rfl) ?_
          refine gcV X hl.1 hR318 hS319 1 [.int (nI d)] [.int (SUM rf 365 / 365)] (c_charge l Γ G hx hrf (d := d) (by omega)) hx rfl q1248 q1250 qs22 q36 q1251 rfl rfl ⟨rfl, by decide +kernel, by decide +kernel, by decide +kernel⟩ ⟨by (try dsimp only [RM]); omega, by (try dsimp only [RM]); omega⟩ rfl rfl (Nat.le_of_ble_eq_true rfl) dX1_premiumFrom_39 ⟨by (try dsimp only [RM]); omega, by (try dsimp only [RM]); omega⟩ (fun v325 G326 H locs hq322 hR323 hS324 => ?_)
          obtain ⟨rfl, rfl⟩ := hq322
          refine lv_isub X.hx X.hb dX1_premiumFrom_42 ?_
          exact g_iret X hr hlk hR323 hS324 (⟨_, hSE, rfl, rfl⟩) (by (try dsimp only [RM]); omega) (by (try dsimp only [RM]); omega) dX1_premiumFrom_43
        · exact absurd (Int32.le_refl _) c8
  exact loop 366 (d + 1) _ _ _ (by omega) (by omega) (by omega) (fun k a b => by omega) hR hS (lv_sub hl [1, 2, 0] rfl)

set_option maxHeartbeats 4000000 in
theorem c_pof (l : Launch) (Γ : GP) (G : GH) {x : Nat} {σ : MS} {A : Nat → Nat → Nat} (hW : WF σ) (hX : XP Γ G x σ A) (hC : CN Γ G) {i : Nat} (hi : i < σ.1 0) {kn : Int32} (hkn : kn.toInt < 2147483647) (hN : NN (rtA σ i kn)) : MetG l yX1_premiumOf (ws_ yX1_premiumOf cX1_premiumOf 6 (some .int)) (RM 9 801 3604) Γ G [.ref x, .ref (A 2 i), .int kn] (fun u G1 => u = some (.int (SUM (rtA σ i kn) 365 / 365)) ∧ XP Γ G1 x σ A ∧ gK TX G G1) 801 3604 := by
  refine gMet (own := RX1) (by decide) rfl (Nat.le_of_ble_eq_true rfl) ?_
  intro pp ee ss mm below meth cc0 ls X hr hlk hin hnm hR hS hl
  have hl : lv_has ls 6 [(0, .ref x), (1, .ref (A 2 i)), (2, .int kn)] := hl
  have hX9 := hX
  obtain ⟨⟨rf0, hx, hrf0⟩, -⟩ := hX9
  refine lv_iconst (v := 0) X.hx X.hb dX1_premiumOf_0 (by decide) ?_
  refine lv_istore_n (lv' := [(3, .int 0), (0, .ref x), (1, .ref (A 2 i)), (2, .int kn)]) X.hx X.hb dX1_premiumOf_1 rfl hl (by decide) rfl (fun ls hl => ?_)
  refine lv_aload_n X.hx X.hb dX1_premiumOf_2 rfl (lv_at hl 1 rfl) ?_
  refine lv_aload_n X.hx X.hb dX1_premiumOf_3 rfl (lv_at hl 2 rfl) ?_
  refine lv_iload_n X.hx X.hb dX1_premiumOf_4 rfl (lv_at hl 3 rfl) ?_
  refine gcV X hl.1 hR hS 2 [.ref (A 2 i), .int kn] [] (c_starts l Γ G hW hX hC hi hkn) hx rfl q1208 q1210 qs17 q36 q1211 rfl rfl ⟨rfl, by decide +kernel, by decide +kernel, by decide +kernel⟩ ⟨by (try dsimp only [RM]); omega, by (try dsimp only [RM]); omega⟩ rfl rfl (Nat.le_of_ble_eq_true rfl) dX1_premiumOf_5 ⟨by (try dsimp only [RM]); omega, by (try dsimp only [RM]); omega⟩ (fun v330 G331 H locs hq327 hR328 hS329 => ?_)
  obtain ⟨al, cap, rfl, hcap, hSL, hX1, hgf, rf, hrf, hrd⟩ := hq327
  obtain ⟨ba, hAL, hba⟩ := id hSL
  obtain ⟨mo, ea, gg, hal, -⟩ := id hAL
  have hn5 := sn_le (r := rtA σ i kn) 365
  refine gcF X hl.1 hR328 hS329 0 [] [] (c_iter (j := 3) l Γ G331 hal) hal rfl kf5 q1264 q1267 q1013 q39 q1015 rfl rfl ⟨by decide +kernel, by decide +kernel, by decide +kernel⟩ ⟨by (try dsimp only [RM]); omega, by (try dsimp only [RM]); omega⟩ rfl rfl (Nat.le_of_ble_eq_true rfl) dX1_premiumOf_8 ⟨by (try dsimp only [RM]); omega, by (try dsimp only [RM]); omega⟩ (fun v335 G336 H locs hq332 hR333 hS334 => ?_)
  obtain ⟨it, rfl, hqi, hGi⟩ := hq332
  have hgi : gK TR _ G336 := gK.mono (gK.nw (S := fun _ => False) hGi hqi) (fun _ h => h.elim)
  have hX2 := hX1.keep hgi
  have hSL2 := hSL.keep (gK.nw (S := fun _ => False) hGi hqi) id id id (fun _ h => h.elim)
  have hit : G336 it = some (cIT 3 0 (-1) mo al) := by rw [hGi]; exact gu_s _ _ _
  have hal2 := gu_f9 hGi hqi hal
  have hrf2 := gu_f9 hGi hqi hrf
  have hg2 := gK.tr hgf (TX_TR hgi)
  obtain ⟨q0, hq0, hq1, hq2, hq3, hq4⟩ := SUM_next hN 365 0 (by decide) (by decide) (Or.inl rfl)
  refine lv_astore (lv' := [(4, .ref it), (3, .int 0), (0, .ref x), (1, .ref (A 2 i)), (2, .int kn)]) X.hx X.hb dX1_premiumOf_13 hl (by decide) rfl (fun ls hl => ?_)
  have loop : ∀ (n q : Nat) (lr : Int32) (G1 : GH) (H : Heap) (locs : List Loc) (ls : Array Slot), q ≤ 365 → (q = 365 ∨ bgn (rtA σ i kn) q) → sn (rtA σ i kn) 365 - sn (rtA σ i kn) q < n → SL Γ G1 al cap (rtA σ i kn) 365 → G1 al = some (cAL 3 mo ea (nI (sn (rtA σ i kn) 365))) → G1 it = some (cIT 3 (nI (sn (rtA σ i kn) q)) lr mo al) → XP Γ G1 x σ A → G1 (A 1 0) = some ((15, 0), .inl (Γ.2 1, 365, .inl rf)) → gK TX G G1 → Rep Γ G1 H → va_S (gA Γ) ss.heap H locs → lv_has ls 6 [(0, .ref x), (1, .ref (A 2 i)), (2, .int kn), (3, .int (SUM (rtA σ i kn) q / 365)), (4, .ref it)] → W pp l ee (RM 9 801 3604) ss mm (List.toArray [.ref x, .ref (A 2 i), .int kn]) below meth cc0 H locs (0 + 800 + 1) (0 + 3600 + 4) (MQ below (Qg Γ (fun u G1 => u = some (.int (SUM (rtA σ i kn) 365 / 365)) ∧ XP Γ G1 x σ A ∧ gK TX G G1)) (List.toArray [.ref x, .ref (A 2 i), .int kn]) ss 801 3604 (gA Γ)) (F0 mm 15 ls []) := by
    intro n
    induction n with
    | zero => intro q lr G1 H locs ls h1 h2 h3; omega
    | succ n ih =>
      intro q lr G1 H locs ls hq5 hqb hn hSL hal hit hXc hrf hgk hR hS hl
      obtain ⟨⟨_, hx, -⟩, -⟩ := id hXc
      have hsq := sn_le (r := rtA σ i kn) q
      by_cases hq : q = 365
      · subst hq
        refine lv_aload X.hx X.hb dX1_premiumOf_15 (lv_at hl 4 rfl) ?_
        refine gcF X hl.1 hR hS 0 [] [] (c_IThas l Γ G1 hal hit) hit rfl kf21 q1058 q1070 q1072 q79 q1074 rfl rfl ⟨by decide +kernel, by decide +kernel, by decide +kernel⟩ ⟨by (try dsimp only [RM]); omega, by (try dsimp only [RM]); omega⟩ rfl rfl (Nat.le_of_ble_eq_true rfl) dX1_premiumOf_17 ⟨by (try dsimp only [RM]); omega, by (try dsimp only [RM]); omega⟩ (fun v340 G341 H locs hq337 hR338 hS339 => ?_)
        obtain ⟨rfl, rfl⟩ := hq337
        refine lv_if_eq (tgt := 52) X.hx X.hb dX1_premiumOf_22 (by decide) (fun c22 => ?_) (fun c22 => ?_)
        · refine lv_iload_n X.hx X.hb dX1_premiumOf_52 rfl (lv_at hl 3 rfl) ?_
          exact g_iret X hr hlk hR338 hS339 (⟨rfl, hXc, hgk⟩) (by (try dsimp only [RM]); omega) (by (try dsimp only [RM]); omega) dX1_premiumOf_53
        · exact absurd (if_pos rfl) c22
      · have hbg := hqb.resolve_left hq
        have hlt := sn_lt hbg (show q < 365 by omega)
        have hne : ¬ nI (sn (rtA σ i kn) q) = nI (sn (rtA σ i kn) 365) := fun h9 => by have := (nI_eq (by omega) (by omega)).mp h9; omega
        refine lv_aload X.hx X.hb dX1_premiumOf_15 (lv_at hl 4 rfl) ?_
        refine gcF X hl.1 hR hS 0 [] [] (c_IThas l Γ G1 hal hit) hit rfl kf21 q1058 q1070 q1072 q79 q1074 rfl rfl ⟨by decide +kernel, by decide +kernel, by decide +kernel⟩ ⟨by (try dsimp only [RM]); omega, by (try dsimp only [RM]); omega⟩ rfl rfl (Nat.le_of_ble_eq_true rfl) dX1_premiumOf_17 ⟨by (try dsimp only [RM]); omega, by (try dsimp only [RM]); omega⟩ (fun v345 G346 H locs hq342 hR343 hS344 => ?_)
        obtain ⟨rfl, rfl⟩ := hq342
        refine lv_if_eq (tgt := 52) X.hx X.hb dX1_premiumOf_22 (by decide) (fun c22 => ?_) (fun c22 => ?_)
        · exact absurd c22 (by rw [if_neg hne]; decide)
        · refine lv_aload X.hx X.hb dX1_premiumOf_25 (lv_at hl 4 rfl) ?_
          obtain ⟨ba9, hAL9, hba9⟩ := id hSL
          obtain ⟨mo9, ea9, gg9, hal9, hnc9, hgf9, hc9⟩ := hAL9
          rw [hal] at hal9
          obtain ⟨rfl, rfl⟩ : mo = mo9 ∧ ea = ea9 := by cases hal9; exact ⟨rfl, rfl⟩
          obtain ⟨tb, hbx, htb⟩ := hba9 q (by omega) hbg
          obtain ⟨hc2, hcne, hea⟩ := hc9.resolve_left (fun h9 => by omega)
          have hnx := c_ITnext l Γ G1 hal hit hea hlt hnc9 (by omega)
          rw [hgf9 _ hlt] at hnx
          refine gcF X hl.1 hR343 hS344 0 [] [] (hnx) hit rfl kf22 q1091 q1101 q1103 q79 q1105 rfl rfl ⟨by decide +kernel, by decide +kernel, by decide +kernel⟩ ⟨by (try dsimp only [RM]); omega, by (try dsimp only [RM]); omega⟩ rfl rfl (Nat.le_of_ble_eq_true rfl) dX1_premiumOf_27 ⟨by (try dsimp only [RM]); omega, by (try dsimp only [RM]); omega⟩ (fun v350 G351 H locs hq347 hR348 hS349 => ?_)
          obtain ⟨rfl, hGn⟩ := hq347
          have hgt : gK TR G1 G351 := gK.pt hGn hit ⟨by show 20 ≤ 20; decide, by show 20 < 30; decide⟩
          have hgt3 : gK (fun t => t = (20, 3)) G1 G351 := gK.pt hGn hit rfl
          have hXc := hXc.keep hgt
          obtain ⟨⟨_, hx, -⟩, -⟩ := id hXc
          have hrf := hgt _ _ hrf (fun h9 => absurd h9.1 (by show ¬ 20 ≤ 15; decide))
          have hSL := hSL.keep hgt3 (fun h9 => by cases h9) (fun h9 => by cases h9) (fun h9 => by cases h9) (fun t h9 => by subst h9; exact ⟨by decide, by decide⟩)
          have hbx := hgt3 _ _ hbx (fun h9 => by have e : tb.1 = 20 := congrArg Prod.fst h9; omega)
          have hal := hgt3 _ _ hal (fun h9 => by cases h9)
          have hit : G351 it = some (cIT 3 (nI (sn (rtA σ i kn) q + 1)) (nI (sn (rtA σ i kn) q)) mo al) := by rw [hGn]; exact gu_s _ _ _
          have hgk := gK.tr hgk (TX_TR hgt)
          refine g_castS X hR348 hbx rfl q1232 dX1_premiumOf_32 ?_
          refine gcV X hl.1 hR348 hS349 0 [] [] (c_intValue l Γ G351 hbx) hbx rfl q1233 q1234 q1235 q62 q1236 rfl rfl ⟨rfl, by decide +kernel, by decide +kernel, by decide +kernel⟩ ⟨by (try dsimp only [RM]); omega, by (try dsimp only [RM]); omega⟩ rfl rfl (Nat.le_of_ble_eq_true rfl) dX1_premiumOf_35 ⟨by (try dsimp only [RM]); omega, by (try dsimp only [RM]); omega⟩ (fun v355 G356 H locs hq352 hR353 hS354 => ?_)
          obtain ⟨rfl, rfl⟩ := hq352
          refine lv_istore (lv' := [(5, .int (nI q)), (0, .ref x), (1, .ref (A 2 i)), (2, .int kn), (3, .int (SUM (rtA σ i kn) q / 365)), (4, .ref it)]) X.hx X.hb dX1_premiumOf_38 hl (by decide) rfl (fun ls hl => ?_)
          refine lv_iload_n X.hx X.hb dX1_premiumOf_40 rfl (lv_at hl 4 rfl) ?_
          refine lv_aload_n X.hx X.hb dX1_premiumOf_41 rfl (lv_at hl 1 rfl) ?_
          refine lv_iload X.hx X.hb dX1_premiumOf_42 (lv_at hl 0 rfl) ?_
          refine gcV X hl.1 hR353 hS354 1 [.int (nI q)] [.int (SUM (rtA σ i kn) q / 365)] (c_pfrom l Γ G351 hx hrf (d := q) (by omega)) hx rfl q1244 q1246 qs21 q36 q1247 rfl rfl ⟨rfl, by decide +kernel, by decide +kernel, by decide +kernel⟩ ⟨by (try dsimp only [RM]); omega, by (try dsimp only [RM]); omega⟩ rfl rfl (Nat.le_of_ble_eq_true rfl) dX1_premiumOf_44 ⟨by (try dsimp only [RM]); omega, by (try dsimp only [RM]); omega⟩ (fun v360 G361 H locs hq357 hR358 hS359 => ?_)
          obtain ⟨e, hSE, rfl, rfl⟩ := hq357
          have hSEr := SE_cong hrd hSE
          obtain ⟨q2, hqa, hqb2, hqc, hqd⟩ := SUM_step hN hbg hSEr
          have hval : SUM (rtA σ i kn) q / 365 + (SUM rf e / 365 - SUM rf q / 365) = SUM (rtA σ i kn) q2 / 365 := by
            rw [SUM_cong hrd e hSE.2.1, SUM_cong hrd q (by omega), hqc]; exact i32_tel _ _
          refine lv_iadd X.hx X.hb dX1_premiumOf_47 ?_
          refine lv_topi (fun x362 hx362 => ?_)
          obtain rfl : x362 = SUM (rtA σ i kn) q2 / 365 := hx362.trans (hval)
          refine lv_istore_n (lv' := [(3, .int (SUM (rtA σ i kn) q2 / 365)), (5, .int (nI q)), (0, .ref x), (1, .ref (A 2 i)), (2, .int kn), (4, .ref it)]) X.hx X.hb dX1_premiumOf_48 rfl hl (by decide) rfl (fun ls hl => ?_)
          refine lv_goto (tgt := 15) X.hx X.hb dX1_premiumOf_49 (by decide) ?_
          rw [← hqd] at hit
          exact ih q2 _ _ _ _ _ hqa hqb2 (by omega) hSL hal hit hXc hrf hgk hR358 hS359 (lv_sub hl [2, 3, 4, 0, 5] rfl)
  have hl2 := hl
  have hq00 : (0 : Int32) = SUM (rtA σ i kn) q0 / 365 := by rw [hq3]; show (0 : Int32) = 0 / 365; decide
  have hit0 : G336 it = some (cIT 3 (nI (sn (rtA σ i kn) q0)) (-1) mo al) := by rw [hq4]; exact hit
  exact loop 366 q0 _ _ _ _ _ hq1 hq2 (by omega) hSL2 hal2 hit0 hX2 hrf2 hg2 hR333 hS334 (by rw [← hq00]; exact lv_sub hl [2, 3, 4, 1, 0] rfl)

