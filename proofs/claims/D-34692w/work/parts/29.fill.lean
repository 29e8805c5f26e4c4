set_option maxRecDepth 100000
/-! the component: the rates of all days -/
theorem XP.rate {Γ : GP} {G G1 : GH} {x : Nat} {σ : MS} {A : Nat → Nat → Nat} {rf : Nat → Int32} (h : XP Γ G x σ A) (hk : gK (fun t => t = (15, 0)) G G1) (hr : G1 (A 1 0) = some ((15, 0), .inl (Γ.2 1, 365, .inl rf))) : XP Γ G1 x σ A := by
  obtain ⟨⟨rf0, h1, h2⟩, ⟨c0, c1, c2, hc, a0, a1, a2⟩, h3, h4, h5⟩ := h
  refine ⟨⟨rf, hk _ _ h1 (fun h9 => by cases h9), hr⟩, ⟨c0, c1, c2, hc, a0.keep hk (fun h9 => by cases h9) (fun h9 => by cases h9) (fun h9 => by cases h9), a1.keep hk (fun h9 => by cases h9) (fun h9 => by cases h9) (fun h9 => by cases h9), a2.keep hk (fun h9 => by cases h9) (fun h9 => by cases h9) (fun h9 => by cases h9)⟩, fun i hi => ?_, fun k hk9 => ?_, fun j hj => hk _ _ (h5 j hj) (fun h9 => by cases h9)⟩
  · obtain ⟨b1, vw, b2, b3⟩ := h3 i hi
    exact ⟨hk _ _ b1 (fun h9 => by cases h9), vw, b2.keep hk (fun h9 => by cases h9) (fun k _ h9 => by cases h9) (fun t ht => by subst ht; exact ⟨by decide, by decide⟩), fun v hv => hk _ _ (b3 v hv) (fun h9 => by cases h9)⟩
  · obtain ⟨b1, b2⟩ := h4 k hk9
    exact ⟨hk _ _ b1 (fun h9 => by cases h9), b2.keep hk (fun h9 => by cases h9)⟩

set_option maxHeartbeats 4000000 in
theorem c_fill (l : Launch) (Γ : GP) (G : GH) {x : Nat} {σ : MS} {A : Nat → Nat → Nat} (hW : WF σ) (hX : XP Γ G x σ A) {i v a b : Nat} (hi : i < σ.1 0) {w : VW} (hVP : VP Γ G v w) (ha : a ≤ 365) (hb : b ≤ 365) {rf0 : Nat → Int32} (hrf0 : G (A 1 0) = some ((15, 0), .inl (Γ.2 1, 365, .inl rf0))) : MetG l yX1_fill (ws_ yX1_fill cX1_fill 6 none) (RM 6 0 0) Γ G [.ref x, .ref (A 2 i), .ref v, .int (nI a), .int (nI b)] (fun u G1 => u = none ∧ ∃ rf1 : Nat → Int32, G1 (A 1 0) = some ((15, 0), .inl (Γ.2 1, 365, .inl rf1)) ∧ (∀ k, rf1 k = if a ≤ k ∧ k < b then rtw σ i (nI k) w else rf0 k) ∧ gK (fun t => t = (15, 0)) G G1) 0 0 := by
  refine gMet (own := RX1) (by decide) rfl (Nat.le_of_ble_eq_true rfl) ?_
  intro pp ee ss mm below meth cc0 ls X hr hlk hin hnm hR hS hl
  have hl : lv_has ls 6 [(0, .ref x), (1, .ref (A 2 i)), (2, .ref v), (3, .int (nI a)), (4, .int (nI b))] := hl
  refine lv_iload_n X.hx X.hb dX1_fill_0 rfl (lv_at hl 3 rfl) ?_
  refine lv_istore (lv' := [(5, .int (nI a)), (0, .ref x), (1, .ref (A 2 i)), (2, .ref v), (3, .int (nI a)), (4, .int (nI b))]) X.hx X.hb dX1_fill_1 hl (by decide) rfl (fun ls hl => ?_)
  have loop : ∀ (r j : Nat) (rf : Nat → Int32) (G1 : GH) (H : Heap) (locs : List Loc) (ls : Array Slot), a ≤ j → j ≤ 365 → 365 - j < r → (b ≤ j → j = a ∨ j = b) → XP Γ G1 x σ A → VP Γ G1 v w → G1 (A 1 0) = some ((15, 0), .inl (Γ.2 1, 365, .inl rf)) → (∀ k, rf k = if a ≤ k ∧ k < j then rtw σ i (nI k) w else rf0 k) → gK (fun t => t = (15, 0)) G G1 → Rep Γ G1 H → va_S (gA Γ) ss.heap H locs → lv_has ls 6 [(0, .ref x), (1, .ref (A 2 i)), (2, .ref v), (4, .int (nI b)), (5, .int (nI j))] → W pp l ee (RM 6 0 0) ss mm (List.toArray [.ref x, .ref (A 2 i), .ref v, .int (nI a), .int (nI b)]) below meth cc0 H locs 0 0 (MQ below (Qg Γ (fun u G1 => u = none ∧ ∃ rf1 : Nat → Int32, G1 (A 1 0) = some ((15, 0), .inl (Γ.2 1, 365, .inl rf1)) ∧ (∀ k, rf1 k = if a ≤ k ∧ k < b then rtw σ i (nI k) w else rf0 k) ∧ gK (fun t => t = (15, 0)) G G1)) (List.toArray [.ref x, .ref (A 2 i), .ref v, .int (nI a), .int (nI b)]) ss 0 0 (gA Γ)) (F0 mm 3 ls []) := by
    intro r
    induction r with
    | zero => intro j rf G1 H locs ls h1 h2 h3; omega
    | succ r ih =>
      intro j rf G1 H locs ls h1 h2 h3 hjb hX1 hVP1 hrf hall hgk hR hS hl
      have hX9 := hX1
      obtain ⟨⟨rf9, hx, -⟩, -⟩ := hX9
      by_cases hn : j < b
      · refine lv_iload X.hx X.hb dX1_fill_3 (lv_at hl 4 rfl) ?_
        refine lv_iload X.hx X.hb dX1_fill_5 (lv_at hl 3 rfl) ?_
        refine lv_icmp_ge (tgt := 31) X.hx X.hb dX1_fill_7 (by decide) (fun c7 => ?_) (fun c7 => ?_)
        · exact absurd c7 (Int32.not_le.mpr (nI_lt hn (by omega)))
        · refine lv_aload_n X.hx X.hb dX1_fill_10 rfl (lv_at hl 0 rfl) ?_
          refine g_get X hR hx rfl in_X1 4 (by decide) q122 (fun _ h => h) rfl dX1_fill_11 ?_
          refine lv_iload X.hx X.hb dX1_fill_14 (lv_at hl 4 rfl) ?_
          refine lv_aload_n X.hx X.hb dX1_fill_16 rfl (lv_at hl 0 rfl) ?_
          refine lv_aload_n X.hx X.hb dX1_fill_17 rfl (lv_at hl 1 rfl) ?_
          refine lv_aload_n X.hx X.hb dX1_fill_18 rfl (lv_at hl 2 rfl) ?_
          refine lv_iload X.hx X.hb dX1_fill_19 (lv_at hl 4 rfl) ?_
          refine gcV X hl.1 hR hS 3 [.ref (A 2 i), .ref v, .int (nI j)] [.int (nI j), .ref (A 1 0)] (c_rateOf l Γ G1 hW hX1 hi hVP1) hx rfl q1181 q1183 qs15 q36 q1184 rfl rfl ⟨rfl, by decide +kernel, by decide +kernel, by decide +kernel⟩ ⟨by (try dsimp only [RM]); omega, by (try dsimp only [RM]); omega⟩ rfl rfl (Nat.le_of_ble_eq_true rfl) dX1_fill_21 ⟨by (try dsimp only [RM]); omega, by (try dsimp only [RM]); omega⟩ (fun v265 G266 H locs hq262 hR263 hS264 => ?_)
          obtain ⟨rfl, rfl⟩ := hq262
          refine g_iast X hR263 hS264 hrf (Nat.le_of_ble_eq_true rfl) (vp_in_nI (Nat.lt_of_lt_of_le hn hb) (by decide)) dX1_fill_24 (fun H locs hR267 hS268 => ?_)
          obtain ⟨G269, hG269⟩ : ∃ z : GH, z = gu G1 (A 1 0) ((15, 0), .inl (Γ.2 1, 365, .inl (upd rf ((nI j).toNatClampNeg) (rtw σ i (nI j) w)))) := ⟨_, rfl⟩
          have hR267 : Rep Γ G269 H := by rw [hG269]; exact hR267
          have f270 : G269 x = some ((0, 0), .inr (0, [.ref (A 0 0), .ref (A 0 1), .ref (A 0 2), .int (σ.2 12 0), .ref (A 1 0)])) := by rw [hG269]; exact gu_t hx hrf (tne rfl)
          have f271 : G269 (A 1 0) = some ((15, 0), .inl (Γ.2 1, 365, .inl (upd rf ((nI j).toNatClampNeg) (rtw σ i (nI j) w)))) := by rw [hG269]; exact gu_s _ _ _
          obtain ⟨x272, hx272⟩ : ∃ y : Int32, y = nI j + 1 := ⟨_, rfl⟩
          refine lv_iinc (v := x272) (lv' := [(5, .int x272), (0, .ref x), (1, .ref (A 2 i)), (2, .ref v), (4, .int (nI b))]) X.hx X.hb dX1_fill_25 hl (k := 4) rfl (by rw [hx272]; rfl) (by decide) rfl (fun ls hl => ?_)
          refine lv_goto (tgt := 3) X.hx X.hb dX1_fill_28 (by decide) ?_
          rw [hx272, nI_1] at hl
          have hg2 : gK (fun t => t = (15, 0)) G1 G269 := gK.pt hG269 hrf rfl
          refine ih (j + 1) _ _ _ _ _ (by omega) (by omega) (by omega) (fun h9 => by omega) (hX1.rate hg2 f271) (hVP1.keep hg2 (fun h9 => by cases h9) (fun h9 => by cases h9)) f271 (fun k => ?_) (gK.tr hgk hg2) hR267 hS268 (lv_sub hl [1, 2, 3, 4, 0] rfl)
          rw [nI_clamp (by omega)]
          unfold upd
          by_cases hkj : k = j
          · rw [if_pos hkj, if_pos ⟨by omega, by omega⟩, hkj]
          · rw [if_neg hkj, hall k]
            by_cases hk2 : a ≤ k ∧ k < j
            · rw [if_pos hk2, if_pos ⟨hk2.1, by omega⟩]
            · rw [if_neg hk2, if_neg (fun h9 => hk2 ⟨h9.1, by omega⟩)]
      · have hall2 : ∀ k, rf k = if a ≤ k ∧ k < b then rtw σ i (nI k) w else rf0 k := by
          intro k
          rw [hall k]
          rcases hjb (by omega) with e | e
          · rw [if_neg (by omega), if_neg (by omega)]
          · rw [e]
        refine lv_iload X.hx X.hb dX1_fill_3 (lv_at hl 4 rfl) ?_
        refine lv_iload X.hx X.hb dX1_fill_5 (lv_at hl 3 rfl) ?_
        refine lv_icmp_ge (tgt := 31) X.hx X.hb dX1_fill_7 (by decide) (fun c7 => ?_) (fun c7 => ?_)
        · exact g_vret X hr hlk hR hS (⟨rfl, rf, hrf, hall2, hgk⟩) (by (try dsimp only [RM]); omega) (by (try dsimp only [RM]); omega) dX1_fill_31
        · exact absurd (nI_le (by omega) (by omega)) c7
  exact loop 366 a rf0 _ _ _ _ (by omega) ha (by omega) (fun _ => Or.inl rfl) hX hVP hrf0 (fun k => by rw [if_neg (by omega)]) gK.rf hR hS (lv_sub hl [1, 2, 3, 5, 0] rfl)

