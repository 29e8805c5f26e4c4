set_option maxRecDepth 100000
/-! the component: the rates of all days, change by change -/
/-- the component's tags -/
def TX (t : Nat × Nat) : Prop := t.1 < 30
theorem TX_TR {G G1 : GH} (h : gK TR G G1) : gK TX G G1 := h.mono (fun t h => h.2)
theorem nI_of8 {x : Int32} {b : Int} (h : rg x 0 b) : nI x.toInt.toNat = x := by
  obtain ⟨h1, h2⟩ := h
  have h3 := x.toInt_lt
  apply Int32.toInt_inj.mp
  rw [nI_toInt (by omega)]
  omega
/-- the rate of policy i on day d as known on a day -/
def rtA (σ : MS) (i : Nat) (kn : Int32) (d : Nat) : Int32 := rtw σ i (nI d) (Fk σ i kn (100 * (d + 1)))
theorem XP.vals {Γ : GP} {G G1 : GH} {x i b : Nat} {σ : MS} {A : Nat → Nat → Nat} (h : XP Γ G x σ A) (hi : i < σ.1 0) (hk : gK (fun t => t = (4, i) ∨ t = (5, i)) G G1) (h1 : TM G1 (A 3 i) i (some b) (Sp σ i) (A 5) (A 6) (A 4) (kvk σ)) (h2 : G1 b = some ((5, i), .inr (11, [.ref (A 3 i)]))) : XP Γ G1 x σ A := by
  obtain ⟨⟨rf, p1, p2⟩, ⟨c0, c1, c2, hc, a0, a1, a2⟩, h3, h4, h5⟩ := h
  have n1 : ∀ (a c : Nat), a ≠ 4 → a ≠ 5 → ¬ (((a, c) : Nat × Nat) = (4, i) ∨ ((a, c) : Nat × Nat) = (5, i)) := fun a c h1 h2 h => h.elim (fun e => h1 (congrArg Prod.fst e)) (fun e => h2 (congrArg Prod.fst e))
  refine ⟨⟨rf, hk _ _ p1 (n1 _ _ (by decide) (by decide)), hk _ _ p2 (n1 _ _ (by decide) (by decide))⟩, ⟨c0, c1, c2, hc, a0.keep hk (n1 _ _ (by decide) (by decide)) (n1 _ _ (by decide) (by decide)) (n1 _ _ (by decide) (by decide)), a1.keep hk (n1 _ _ (by decide) (by decide)) (n1 _ _ (by decide) (by decide)) (n1 _ _ (by decide) (by decide)), a2.keep hk (n1 _ _ (by decide) (by decide)) (n1 _ _ (by decide) (by decide)) (n1 _ _ (by decide) (by decide))⟩, fun j hj => ?_, fun k hk9 => ?_, fun j hj => hk _ _ (h5 j hj) (n1 _ _ (by decide) (by decide))⟩
  · obtain ⟨b1, vw, b2, b3⟩ := h3 j hj
    refine ⟨hk _ _ b1 (n1 _ _ (by decide) (by decide)), ?_⟩
    by_cases hji : j = i
    · subst hji
      exact ⟨some b, h1, fun v hv => by cases hv; exact h2⟩
    · refine ⟨vw, b2.keep hk (fun h9 => ?_) (fun k _ => n1 _ _ (by decide) (by decide)) (fun t ht => ?_), fun v hv => hk _ _ (b3 v hv) (fun h9 => ?_)⟩
      · rcases h9 with h9 | h9
        · exact hji (congrArg Prod.snd h9)
        · cases h9
      · rcases ht with h9 | h9 <;> subst h9 <;> exact ⟨by show _ ≠ _; simp, by show _ ≠ _; simp⟩
      · rcases h9 with h9 | h9
        · cases h9
        · exact hji (congrArg Prod.snd h9)
  · obtain ⟨b1, b2⟩ := h4 k hk9
    exact ⟨hk _ _ b1 (n1 _ _ (by decide) (by decide)), b2.keep hk (n1 _ _ (by decide) (by decide))⟩

set_option maxHeartbeats 4000000 in
theorem c_vals (l : Launch) (Γ : GP) (G : GH) {a p : Nat} {vw rt : Option Nat} {sz mo : Int32} (hM : G a = some (TMc p vw rt sz mo)) (hvw : ∀ b, vw = some b → G b = some ((5, p), .inr (11, [.ref a]))) : MetG l yJ9_values (ws_ yJ9_values cJ9_values 2 (some (.object "java/util/Collection"))) (RM 4 1 1) Γ G [.ref a] (fun v G1 => ∃ b, v = some (.ref b) ∧ G1 b = some ((5, p), .inr (11, [.ref a])) ∧ G1 a = some (TMc p (some b) rt sz mo) ∧ gK (fun t => t = (4, p) ∨ t = (5, p)) G G1) 1 1 := by
  refine gMet (own := RJ9) (by decide) rfl (Nat.le_of_ble_eq_true rfl) ?_
  intro pp ee ss mm below meth cc0 ls X hr hlk hin hnm hR hS hl
  have hl : lv_has ls 2 [(0, .ref a)] := hl
  rcases vw with _ | b
  · refine lv_aload_n X.hx X.hb dJ9_values_0 rfl (lv_at hl 0 rfl) ?_
    refine g_get X hR hM rfl in_J9 1 (by decide) q271 (fun x h => u_same (X.hts _ q272) x h) rfl dJ9_values_1 ?_
    refine lv_astore_nN (lv' := [(1, .null), (0, .ref a)]) X.hx X.hb dJ9_values_4 rfl hl (by decide) rfl (fun ls hl => ?_)
    refine lv_aload_nN X.hx X.hb dJ9_values_5 rfl (lv_at hl 0 rfl) ?_
    refine lv_ifnonnullN X.hx X.hb dJ9_values_6 ?_
    refine g_new (ci := 11) X hR hS (5, p) (C := RJ24) (T := TJ24) (N := 1) rfl in_J24 tyJ24 tyJ24_ok q822 q823 q68 (fs := [.null]) (fun j hj => by rcases (show j = 0 by omega) with rfl <;> rfl) (by (try dsimp only [RM]); omega) (by (try dsimp only [RM]); omega) dJ9_values_9 (fun q2235 H hq2237 hR2236 hS2238 => ?_)
    obtain ⟨G2239, hG2239⟩ : ∃ z : GH, z = gu G q2235 ((5, p), .inr (11, [.null])) := ⟨_, rfl⟩
    have hR2236 : Rep Γ G2239 H := by rw [hG2239]; exact hR2236
    have f2240 : G2239 a = some ((4, p), .inr (7, [.null, .null, .null, va_rf rt, .int sz, .int mo, .null, .null, .null])) := by rw [hG2239]; exact gu_f hM hq2237
    have f2241 : G2239 q2235 = some ((5, p), .inr (11, [.null])) := by rw [hG2239]; exact gu_s _ _ _
    refine lv_dup X.hx X.hb dJ9_values_12 rfl ?_
    refine lv_aload_n X.hx X.hb dJ9_values_13 rfl (lv_at hl 1 rfl) ?_
    refine gcI X hl.1 hR2236 hS2238 1 [.ref a] [.ref q2235] (c_J24i l Γ G2239 f2241) q824 q825 q68 q826 rfl rfl rfl ⟨by decide +kernel, by decide +kernel, by decide +kernel⟩ ⟨by (try dsimp only [RM]); omega, by (try dsimp only [RM]); omega⟩ rfl rfl (Nat.le_of_ble_eq_true rfl) dJ9_values_14 ⟨by (try dsimp only [RM]); omega, by (try dsimp only [RM]); omega⟩ (fun v2246 G2247 H locs hq2243 hR2244 hS2245 => ?_)
    obtain ⟨rfl, hG2242⟩ := hq2243
    have f2248 : G2247 a = some ((4, p), .inr (7, [.null, .null, .null, va_rf rt, .int sz, .int mo, .null, .null, .null])) := by rw [hG2242]; exact (gu_n (fne hM hq2237)).trans f2240
    have f2249 : G2247 q2235 = some ((5, p), .inr (11, [.ref a])) := by rw [hG2242]; exact gu_s _ _ _
    refine lv_astore_n (lv' := [(1, .ref q2235), (0, .ref a)]) X.hx X.hb dJ9_values_17 rfl hl (by decide) rfl (fun ls hl => ?_)
    refine lv_aload_n X.hx X.hb dJ9_values_18 rfl (lv_at hl 1 rfl) ?_
    refine lv_aload_n X.hx X.hb dJ9_values_19 rfl (lv_at hl 0 rfl) ?_
    refine g_put X hR2244 hS2245 f2248 (Nat.le_of_ble_eq_true rfl) rfl in_J9 tyJ9 tyJ9_ok nmJ9 1 (by decide) q271 (fun x h => u_same (X.hts _ q272) x h) rfl rfl rfl (Nat.le_of_ble_eq_true rfl) dJ9_values_20 (fun H locs hR2250 hS2251 => ?_)
    obtain ⟨G2252, hG2252⟩ : ∃ z : GH, z = gu G2247 a ((4, p), .inr (7, [.null, .ref q2235, .null, va_rf rt, .int sz, .int mo, .null, .null, .null])) := ⟨_, rfl⟩
    have hR2250 : Rep Γ G2252 H := by rw [hG2252]; exact hR2250
    have f2253 : G2252 q2235 = some ((5, p), .inr (11, [.ref a])) := by rw [hG2252]; exact (gu_n (Ne.symm (fne hM hq2237))).trans f2249
    have f2254 : G2252 a = some ((4, p), .inr (7, [.null, .ref q2235, .null, va_rf rt, .int sz, .int mo, .null, .null, .null])) := by rw [hG2252]; exact gu_s _ _ _
    refine lv_aload_n X.hx X.hb dJ9_values_23 rfl (lv_at hl 0 rfl) ?_
    exact g_aretS X hr (Or.inl ⟨_, rfl⟩) hlk hR2250 hS2251 (⟨_, rfl, f2253, f2254, (gK.tr (gK.tr (gK.nw hG2239 hq2237) (gK.pt hG2242 f2241 (Or.inr rfl))) (gK.pt hG2252 f2248 (Or.inl rfl)))⟩) (by (try dsimp only [RM]); omega) (by (try dsimp only [RM]); omega) dJ9_values_24
  · refine lv_aload_n X.hx X.hb dJ9_values_0 rfl (lv_at hl 0 rfl) ?_
    refine g_get X hR hM rfl in_J9 1 (by decide) q271 (fun x h => u_same (X.hts _ q272) x h) rfl dJ9_values_1 ?_
    refine lv_astore_n (lv' := [(1, .ref b), (0, .ref a)]) X.hx X.hb dJ9_values_4 rfl hl (by decide) rfl (fun ls hl => ?_)
    refine lv_aload_n X.hx X.hb dJ9_values_5 rfl (lv_at hl 0 rfl) ?_
    refine lv_ifnonnull (tgt := 23) X.hx X.hb dJ9_values_6 (by decide) ?_
    refine lv_aload_n X.hx X.hb dJ9_values_23 rfl (lv_at hl 0 rfl) ?_
    exact g_aretS X hr (Or.inl ⟨_, rfl⟩) hlk hR hS (⟨b, rfl, hvw b rfl, hM, gK.rf⟩) (by (try dsimp only [RM]); omega) (by (try dsimp only [RM]); omega) dJ9_values_24

set_option maxHeartbeats 4000000 in
theorem c_find (l : Launch) (Γ : GP) (G : GH) {x : Nat} {σ : MS} {A : Nat → Nat → Nat} (hW : WF σ) (hX : XP Γ G x σ A) (hC : CN Γ G) {i : Nat} (hi : i < σ.1 0) {kn : Int32} (hkn : kn.toInt < 2147483647) : MetG l yX1_findRates (ws_ yX1_findRates cX1_findRates 7 none) (RM 7 4 10) Γ G [.ref x, .ref (A 2 i), .int kn] (fun u G1 => u = none ∧ XP Γ G1 x σ A ∧ gK TX G G1 ∧ ∃ rf : Nat → Int32, G1 (A 1 0) = some ((15, 0), .inl (Γ.2 1, 365, .inl rf)) ∧ ∀ d, d < 365 → rf d = rtA σ i kn d) 4 10 := by
  refine gMet (own := RX1) (by decide) rfl (Nat.le_of_ble_eq_true rfl) ?_
  intro pp ee ss mm below meth cc0 ls X hr hlk hin hnm hR hS hl
  have hl : lv_has ls 7 [(0, .ref x), (1, .ref (A 2 i)), (2, .int kn)] := hl
  have hpol := (hX.2.2.1 i hi).1
  refine g_new (ci := 5) X hR hS (27, 0) (C := RX6) (T := TX6) (N := 2) rfl in_X6 tyX6 tyX6_ok q740 q741 q65 (fs := [.null, .int 0]) (fun j hj => by rcases (show j = 0 ∨ j = 1 by omega) with rfl | rfl <;> rfl) (by (try dsimp only [RM]); omega) (by (try dsimp only [RM]); omega) dX1_findRates_0 (fun q2255 H hq2257 hR2256 hS2258 => ?_)
  obtain ⟨G2259, hG2259⟩ : ∃ z : GH, z = gu G q2255 ((27, 0), .inr (5, [.null, .int 0])) := ⟨_, rfl⟩
  have hR2256 : Rep Γ G2259 H := by rw [hG2259]; exact hR2256
  have f2260 : G2259 (A 2 i) = some ((3, i), .inr (2, [.int (σ.2 0 i), .int (σ.2 1 i), .ref (A 3 i)])) := by rw [hG2259]; exact gu_f hpol hq2257
  have f2261 : G2259 q2255 = some ((27, 0), .inr (5, [.null, .int 0])) := by rw [hG2259]; exact gu_s _ _ _
  refine lv_dup X.hx X.hb dX1_findRates_3 rfl ?_
  refine gcIN X hl.1 hR2256 hS2258 0 [] [.ref q2255] (c_X6i l Γ G2259 f2261) kq742 q743 q65 q744 rfl rfl rfl ⟨by decide +kernel, by decide +kernel, by decide +kernel⟩ ⟨by (try dsimp only [RM]); omega, by (try dsimp only [RM]); omega⟩ rfl rfl (Nat.le_of_ble_eq_true rfl) dX1_findRates_4 ⟨by (try dsimp only [RM]); omega, by (try dsimp only [RM]); omega⟩ (fun v2265 G2266 H locs hq2262 hR2263 hS2264 => ?_)
  obtain ⟨rfl, hVP0, hgv⟩ := hq2262
  have f2267 : G2266 (A 2 i) = some ((3, i), .inr (2, [.int (σ.2 0 i), .int (σ.2 1 i), .ref (A 3 i)])) := hgv _ _ f2260 (fun h9 => by rcases h9 with h9 | h9 <;> cases h9)
  have hg1 : gK TR G G2266 := (gK.tr (gK.nw hG2259 hq2257) (hgv.mono (fun t h => by rcases h with h | h <;> exact TR_of ⟨by decide, by decide⟩ h)))
  have hX1 := hX.keep hg1
  refine lv_astore_n (lv' := [(3, .ref q2255), (0, .ref x), (1, .ref (A 2 i)), (2, .int kn)]) X.hx X.hb dX1_findRates_7 rfl hl (by decide) rfl (fun ls hl => ?_)
  refine lv_iconst (v := 0) X.hx X.hb dX1_findRates_8 (by decide) ?_
  refine lv_istore (lv' := [(4, .int 0), (3, .ref q2255), (0, .ref x), (1, .ref (A 2 i)), (2, .int kn)]) X.hx X.hb dX1_findRates_9 hl (by decide) rfl (fun ls hl => ?_)
  refine lv_aload_n X.hx X.hb dX1_findRates_11 rfl (lv_at hl 3 rfl) ?_
  refine g_getN X hR2263 f2267 rfl in_X3 2 (by decide) kq296 (fun _ h => h) rfl dX1_findRates_12 ?_
  obtain ⟨vw1, hTM1, hvw1⟩ := (hX1.2.2.1 i hi).2
  have hTM9 := hTM1
  obtain ⟨L9, R9, P9, C9, lo9, hi9, root9, sz9, mo9, hT9, hI9, hM9, hB9, hK9⟩ := hTM9
  refine gcV X hl.1 hR2263 hS2264 0 [] [] (c_vals l Γ G2266 hM9 hvw1) hM9 rfl q1216 q819 q1506 q48 q821 rfl rfl ⟨rfl, by decide +kernel, by decide +kernel, by decide +kernel⟩ ⟨by (try dsimp only [RM]); omega, by (try dsimp only [RM]); omega⟩ rfl rfl (Nat.le_of_ble_eq_true rfl) dX1_findRates_15 ⟨by (try dsimp only [RM]); omega, by (try dsimp only [RM]); omega⟩ (fun v2271 G2272 H locs hq2268 hR2269 hS2270 => ?_)
  obtain ⟨b, rfl, hb9, hMb, hgs⟩ := hq2268
  have hTMb : TM G2272 (A 3 i) i (some b) (Sp σ i) (A 5) (A 6) (A 4) (kvk σ) := ⟨L9, R9, P9, C9, lo9, hi9, root9, sz9, mo9, hT9.keep hgs (fun k _ h9 => by rcases h9 with h9 | h9 <;> cases h9), hI9, hMb, hB9, fun k hS => (hK9 k hS).kp hgs (fun t h9 => by rcases h9 with h9 | h9 <;> subst h9 <;> exact ⟨by show _ ≠ _; simp, by show _ ≠ _; simp⟩)⟩
  have hX2 := hX1.vals hi hgs hTMb hb9
  have hVP2 := hVP0.keep hgs (fun h9 => by rcases h9 with h9 | h9 <;> cases h9) (fun h9 => by rcases h9 with h9 | h9 <;> cases h9)
  have hg2 : gK TX G G2272 := gK.tr (TX_TR hg1) (hgs.mono (fun t h => by rcases h with h | h <;> (subst h; show _ < 30; omega)))
  refine gcF X hl.1 hR2269 hS2270 0 [] [] (c_viter l Γ G2272 hTMb hb9) hb9 rfl kf9 q850 q1040 q1042 q68 q1044 rfl rfl ⟨by decide +kernel, by decide +kernel, by decide +kernel⟩ ⟨by (try dsimp only [RM]); omega, by (try dsimp only [RM]); omega⟩ rfl rfl (Nat.le_of_ble_eq_true rfl) dX1_findRates_18 ⟨by (try dsimp only [RM]); omega, by (try dsimp only [RM]); omega⟩ (fun v2276 G2277 H locs hq2273 hR2274 hS2275 => ?_)
  obtain ⟨it, o, rfl, hce, hVI, hgi⟩ := hq2273
  have hgi2 : gK TR _ G2277 := (hgi.mono (fun t h => by exact TR_of ⟨by decide, by decide⟩ h))
  have hX3 := hX2.keep hgi2
  have hVP3 := hVP2.keep hgi (fun h9 => by cases h9) (fun h9 => by cases h9)
  have hg3 : gK TX G G2277 := gK.tr hg2 (TX_TR hgi2)
  refine lv_astore (lv' := [(5, .ref it), (4, .int 0), (3, .ref q2255), (0, .ref x), (1, .ref (A 2 i)), (2, .int kn)]) X.hx X.hb dX1_findRates_23 hl (by decide) rfl (fun ls hl => ?_)
  have loop : ∀ (n κ f : Nat) (o : Option Nat) (rf : Nat → Int32) (G1 : GH) (H : Heap) (locs : List Loc) (ls : Array Slot), CE (Sp σ i) (kvk σ) κ o → κ ≤ 36500 → 36500 - κ < n → f ≤ 365 → 100 * f ≤ κ → (∀ d, f ≤ d → 100 * (d + 1) ≤ κ → Fk σ i kn (100 * (d + 1)) = Fk σ i kn κ) → (∀ d, d < f → rf d = rtA σ i kn d) → XP Γ G1 x σ A → VI G1 it (A 3 i) i (A 5) o → VP Γ G1 q2255 (Fk σ i kn κ) → G1 (A 1 0) = some ((15, 0), .inl (Γ.2 1, 365, .inl rf)) → gK TX G G1 → Rep Γ G1 H → va_S (gA Γ) ss.heap H locs → lv_has ls 7 [(0, .ref x), (1, .ref (A 2 i)), (2, .int kn), (3, .ref q2255), (4, .int (nI f)), (5, .ref it)] → W pp l ee (RM 7 4 10) ss mm (List.toArray [.ref x, .ref (A 2 i), .int kn]) below meth cc0 H locs (0 + 1 + 1 + 1 + 1) (0 + 2 + 3 + 1 + 4) (MQ below (Qg Γ (fun u G1 => u = none ∧ XP Γ G1 x σ A ∧ gK TX G G1 ∧ ∃ rf : Nat → Int32, G1 (A 1 0) = some ((15, 0), .inl (Γ.2 1, 365, .inl rf)) ∧ ∀ d, d < 365 → rf d = rtA σ i kn d)) (List.toArray [.ref x, .ref (A 2 i), .int kn]) ss 4 10 (gA Γ)) (F0 mm 25 ls []) := by
    intro n
    induction n with
    | zero => intro κ f o rf G1 H locs ls hce hκ hn; omega
    | succ n ih =>
      intro κ f o rf G1 H locs ls hce hκ hn hf hfκ hseg hrfs hXc hVI hVP hrf hgk hR hS hl
      obtain ⟨vw, hTM, -⟩ := (hXc.2.2.1 i hi).2
      have hVI0 := hVI
      obtain ⟨vw3, rt3, lr3, sz3, mo3, hMv, hit⟩ := hVI0
      have hXc9 := hXc
      obtain ⟨⟨rfx, hx, -⟩, -⟩ := hXc9
      rcases o with _ | m
      · refine lv_aload X.hx X.hb dX1_findRates_25 (lv_at hl 5 rfl) ?_
        refine gcF X hl.1 hR hS 0 [] [] (c_vhasN l Γ G1 hVI) hit rfl kf23 q1058 q1088 q1078 q77 q1080 rfl rfl ⟨by decide +kernel, by decide +kernel, by decide +kernel⟩ ⟨by (try dsimp only [RM]); omega, by (try dsimp only [RM]); omega⟩ rfl rfl (Nat.le_of_ble_eq_true rfl) dX1_findRates_27 ⟨by (try dsimp only [RM]); omega, by (try dsimp only [RM]); omega⟩ (fun v2281 G2282 H locs hq2278 hR2279 hS2280 => ?_)
        obtain ⟨rfl, rfl⟩ := hq2278
        refine lv_if_eq (tgt := 90) X.hx X.hb dX1_findRates_32 (by decide) (fun c32 => ?_) (fun c32 => ?_)
        · refine lv_aload_n X.hx X.hb dX1_findRates_90 rfl (lv_at hl 0 rfl) ?_
          refine lv_aload_n X.hx X.hb dX1_findRates_91 rfl (lv_at hl 1 rfl) ?_
          refine lv_aload_n X.hx X.hb dX1_findRates_92 rfl (lv_at hl 3 rfl) ?_
          refine lv_iload X.hx X.hb dX1_findRates_93 (lv_at hl 4 rfl) ?_
          refine lv_sipush (v := 365) X.hx X.hb dX1_findRates_95 (by decide) ?_
          have hfill := c_fill l Γ G1 hW hXc hi (a := f) (b := 365) hVP hf (by decide) hrf
          refine gcV X hl.1 hR2279 hS2280 4 [.ref (A 2 i), .ref q2255, .int (nI f), .int 365] [] (hfill) hx rfl q1217 q1219 qs19 q36 q1220 rfl rfl ⟨rfl, by decide +kernel, by decide +kernel, by decide +kernel⟩ ⟨by (try dsimp only [RM]); omega, by (try dsimp only [RM]); omega⟩ rfl rfl (Nat.le_of_ble_eq_true rfl) dX1_findRates_98 ⟨by (try dsimp only [RM]); omega, by (try dsimp only [RM]); omega⟩ (fun v2286 G2287 H locs hq2283 hR2284 hS2285 => ?_)
          obtain ⟨rfl, rf1, hrf1, hall, hgf⟩ := hq2283
          have hX9 := hXc.rate hgf hrf1
          have hfin : ∀ d, d < 365 → rf1 d = rtA σ i kn d := by
            intro d hd
            rw [hall d]
            by_cases hdf : f ≤ d
            · rw [if_pos ⟨hdf, hd⟩, rtA]
              congr 1
              by_cases hdk : 100 * (d + 1) ≤ κ
              · exact (hseg d hdf hdk).symm
              · have := Fk_gap hW (p := i) (d := kn) (κ := κ) (100 * (d + 1) - κ) (fun k hk h1 h2 => by have := hce.2 rfl k hk; omega)
                rw [show κ + (100 * (d + 1) - κ) = 100 * (d + 1) by omega] at this
                exact this.symm
            · rw [if_neg (fun h9 => hdf h9.1)]
              exact hrfs d (by omega)
          exact g_vret X hr hlk hR2284 hS2285 (⟨rfl, hX9, (gK.tr hgk (hgf.mono (fun t h => by subst h; show _ < 30; omega))), rf1, hrf1, hfin⟩) (by (try dsimp only [RM]); omega) (by (try dsimp only [RM]); omega) dX1_findRates_101
        · exact absurd rfl c32
      · obtain ⟨hm, hκm, hmin⟩ := hce.1 m rfl
        obtain ⟨hc, hef⟩ := hXc.2.2.2.1 m hm.1
        obtain ⟨-, hkd, hwh, hfr, -⟩ := hW.2.2.2.2.2.2 m hm.1
        have hkm := kv_int hW hm.1
        have hm60 := hm.1
        have hW3 := hW.2.2.1
        have hfr1 := hfr.1
        have hfr2 := hfr.2
        have hF : Fk σ i kn (kvk σ m).toInt.toNat = Fk σ i kn κ := by
          have := Fk_gap hW (p := i) (d := kn) (κ := κ) ((kvk σ m).toInt.toNat - κ) (fun k hk h1 h2 => by have := hmin k hk h1; omega)
          rwa [show κ + ((kvk σ m).toInt.toNat - κ) = (kvk σ m).toInt.toNat by omega] at this
        have hstep := Fk_step hW (d := kn) hm
        rw [hF] at hstep
        have hgap : ∀ d, f ≤ d → 100 * (d + 1) ≤ (kvk σ m).toInt.toNat → Fk σ i kn (100 * (d + 1)) = Fk σ i kn κ := by
          intro d hd1 hd2
          by_cases hdk : 100 * (d + 1) ≤ κ
          · exact hseg d hd1 hdk
          · have := Fk_gap hW (p := i) (d := kn) (κ := κ) (100 * (d + 1) - κ) (fun k hk h1 h2 => by have := hmin k hk h1; omega)
            rwa [show κ + (100 * (d + 1) - κ) = 100 * (d + 1) by omega] at this
        refine lv_aload X.hx X.hb dX1_findRates_25 (lv_at hl 5 rfl) ?_
        refine gcF X hl.1 hR hS 0 [] [] (c_vhasS l Γ G1 hVI) hit rfl kf23 q1058 q1088 q1078 q77 q1080 rfl rfl ⟨by decide +kernel, by decide +kernel, by decide +kernel⟩ ⟨by (try dsimp only [RM]); omega, by (try dsimp only [RM]); omega⟩ rfl rfl (Nat.le_of_ble_eq_true rfl) dX1_findRates_27 ⟨by (try dsimp only [RM]); omega, by (try dsimp only [RM]); omega⟩ (fun v2291 G2292 H locs hq2288 hR2289 hS2290 => ?_)
        obtain ⟨rfl, rfl⟩ := hq2288
        refine lv_if_eq (tgt := 90) X.hx X.hb dX1_findRates_32 (by decide) (fun c32 => ?_) (fun c32 => ?_)
        · exact absurd c32 (by decide)
        · refine lv_aload X.hx X.hb dX1_findRates_35 (lv_at hl 5 rfl) ?_
          refine gcF X hl.1 hR2289 hS2290 0 [] [] (c_vnext l Γ G1 hTM hm hVI) hit rfl kf24 q1091 q1144 q1146 q80 q1148 rfl rfl ⟨by decide +kernel, by decide +kernel, by decide +kernel⟩ ⟨by (try dsimp only [RM]); omega, by (try dsimp only [RM]); omega⟩ rfl rfl (Nat.le_of_ble_eq_true rfl) dX1_findRates_37 ⟨by (try dsimp only [RM]); omega, by (try dsimp only [RM]); omega⟩ (fun v2296 G2297 H locs hq2293 hR2294 hS2295 => ?_)
          obtain ⟨rfl, o, hceN, hVI1, hgn⟩ := hq2293
          have hgt : gK TR G1 G2297 := (hgn.mono (fun t h => by exact TR_of ⟨by decide, by decide⟩ h))
          have hXc := hXc.keep hgt
          have hVP := hVP.keep hgn (fun h9 => by cases h9) (fun h9 => by cases h9)
          have hc := hgt _ _ hc (fun h9 => absurd h9.1 (by show ¬ 20 ≤ 10; decide))
          have hrf := hgt _ _ hrf (fun h9 => absurd h9.1 (by show ¬ 20 ≤ 15; decide))
          have hx := hgt _ _ hx (fun h9 => absurd h9.1 (by show ¬ 20 ≤ 0; decide))
          have hef := hef.keep hgt (fun h9 => absurd h9.1 (by show ¬ 20 ≤ 12; decide))
          have hgk := gK.tr hgk (TX_TR hgt)
          have hce1 : CE (Sp σ i) (kvk σ) (((kvk σ m).toInt.toNat + 1 : Nat) : Int) o := by rw [show (((kvk σ m).toInt.toNat + 1 : Nat) : Int) = (kvk σ m).toInt + 1 by omega]; exact hceN
          refine g_castS X hR2294 hc rfl q500 dX1_findRates_42 ?_
          refine lv_astore (lv' := [(6, .ref (A 4 m)), (0, .ref x), (1, .ref (A 2 i)), (2, .int kn), (3, .ref q2255), (4, .int (nI f)), (5, .ref it)]) X.hx X.hb dX1_findRates_45 hl (by decide) rfl (fun ls hl => ?_)
          refine lv_aload X.hx X.hb dX1_findRates_47 (lv_at hl 0 rfl) ?_
          refine lv_iload_n X.hx X.hb dX1_findRates_49 rfl (lv_at hl 3 rfl) ?_
          refine gcV X hl.1 hR2294 hS2295 1 [.int kn] [] (c_X5k l Γ G2297 hc) hc rfl q721 q722 q723 q60 q724 rfl rfl ⟨rfl, by decide +kernel, by decide +kernel, by decide +kernel⟩ ⟨by (try dsimp only [RM]); omega, by (try dsimp only [RM]); omega⟩ rfl rfl (Nat.le_of_ble_eq_true rfl) dX1_findRates_50 ⟨by (try dsimp only [RM]); omega, by (try dsimp only [RM]); omega⟩ (fun v2301 G2302 H locs hq2298 hR2299 hS2300 => ?_)
          obtain ⟨rfl, rfl⟩ := hq2298
          by_cases hkq : σ.2 10 m ≤ kn ∧ kn < tbk σ m
          · rw [if_pos hkq]
            refine lv_if_eq (tgt := 87) X.hx X.hb dX1_findRates_53 (by decide) (fun c53 => ?_) (fun c53 => ?_)
            · exact absurd c53 (by decide)
            · refine lv_aload_n X.hx X.hb dX1_findRates_56 rfl (lv_at hl 1 rfl) ?_
              refine lv_aload_n X.hx X.hb dX1_findRates_57 rfl (lv_at hl 2 rfl) ?_
              refine lv_aload_n X.hx X.hb dX1_findRates_58 rfl (lv_at hl 4 rfl) ?_
              refine lv_iload X.hx X.hb dX1_findRates_59 (lv_at hl 5 rfl) ?_
              refine lv_aload X.hx X.hb dX1_findRates_61 (lv_at hl 0 rfl) ?_
              refine g_getN X hR2299 hc rfl in_X5 2 (by decide) kq512 (fun _ h => h) rfl dX1_findRates_63 ?_
              have hfr8 := nI_of8 hfr
              have hfill := c_fill l Γ G2297 hW hXc hi (a := f) (b := (σ.2 8 m).toInt.toNat) hVP hf (by omega) hrf
              rw [hfr8] at hfill
              refine gcV X hl.1 hR2299 hS2300 4 [.ref (A 2 i), .ref q2255, .int (nI f), .int (σ.2 8 m)] [] (hfill) hx rfl q1217 q1219 qs19 q36 q1220 rfl rfl ⟨rfl, by decide +kernel, by decide +kernel, by decide +kernel⟩ ⟨by (try dsimp only [RM]); omega, by (try dsimp only [RM]); omega⟩ rfl rfl (Nat.le_of_ble_eq_true rfl) dX1_findRates_66 ⟨by (try dsimp only [RM]); omega, by (try dsimp only [RM]); omega⟩ (fun v2306 G2307 H locs hq2303 hR2304 hS2305 => ?_)
              obtain ⟨rfl, rf1, hrf1, hall, hgf⟩ := hq2303
              have hXd := hXc.rate hgf hrf1
              have hVPd := hVP.keep hgf (fun h9 => by cases h9) (fun h9 => by cases h9)
              have hefd := hef.keep hgf (fun h9 => by cases h9)
              have hVId := hVI1.keep hgf (fun h9 => by cases h9) (fun h9 => by cases h9)
              have hgkd := gK.tr hgk (hgf.mono (fun t h => by subst h; show _ < 30; omega))
              have hCd : CN Γ G2307 := hC.keep hgkd (fun t ht => Nat.lt_of_lt_of_le ht (by decide))
              have f2308 : G2307 (A 4 m) = some ((10, m), .inr (4, [.int (nI m), .ref (A 2 (σ.2 5 m).toNatClampNeg), .int (σ.2 8 m), .int (σ.2 10 m), .ref (A 7 m), .int (tbk σ m)])) := hgf _ _ hc (fun h9 => by cases h9)
              refine lv_aload X.hx X.hb dX1_findRates_69 (lv_at hl 0 rfl) ?_
              refine g_getN X hR2304 f2308 rfl in_X5 2 (by decide) kq512 (fun _ h => h) rfl dX1_findRates_71 ?_
              refine lv_istore (lv' := [(4, .int (σ.2 8 m)), (6, .ref (A 4 m)), (0, .ref x), (1, .ref (A 2 i)), (2, .int kn), (3, .ref q2255), (5, .ref it)]) X.hx X.hb dX1_findRates_74 hl (by decide) rfl (fun ls hl => ?_)
              refine lv_aload X.hx X.hb dX1_findRates_76 (lv_at hl 1 rfl) ?_
              refine g_getN X hR2304 f2308 rfl in_X5 4 (by decide) kq516 (fun _ h => h) rfl dX1_findRates_78 ?_
              refine lv_aload_n X.hx X.hb dX1_findRates_81 rfl (lv_at hl 5 rfl) ?_
              refine g_lay X hl.1 hR2304 hS2305 hCd hefd hwh hVPd q1164 ⟨by show 4 ≤ 7; decide, by show 4300 ≤ 4000 + 64 * 7; decide⟩ (Nat.le_of_ble_eq_true rfl) dX1_findRates_82 ⟨by (try dsimp only [RM]); omega, by (try dsimp only [RM]); omega⟩ (fun G2309 H locs hVPn hgl hR2310 hS2311 => ?_)
              have hgl2 : gK TR _ G2309 := (hgl.mono (fun t h => by rcases h with h | h <;> exact TR_of ⟨by decide, by decide⟩ h))
              refine lv_goto (tgt := 25) X.hx X.hb dX1_findRates_87 (by decide) ?_
              rw [if_pos ((knw_tb hkn).mpr hkq)] at hstep
              rw [← hstep] at hVPn
              rw [← hfr8] at hl
              have hrfsn : ∀ d, d < (σ.2 8 m).toInt.toNat → rf1 d = rtA σ i kn d := by
                intro d hd
                rw [hall d]
                by_cases hdf : f ≤ d
                · rw [if_pos ⟨hdf, hd⟩, rtA, hgap d hdf (by omega)]
                · rw [if_neg (fun h9 => hdf h9.1)]
                  exact hrfs d (by omega)
              exact ih _ _ o rf1 _ _ _ _ hce1 (by omega) (by omega) (by omega) (by omega) (fun d h1 h2 => by omega) hrfsn (hXd.keep hgl2) (hVId.keep hgl (fun h9 => by rcases h9 with h9 | h9 <;> cases h9) (fun h9 => by rcases h9 with h9 | h9 <;> cases h9)) hVPn (hgl _ _ hrf1 (fun h9 => by rcases h9 with h9 | h9 <;> cases h9)) (gK.tr hgkd (TX_TR hgl2)) hR2310 hS2311 (lv_sub hl [2, 3, 4, 5, 0, 6] rfl)
          · rw [if_neg hkq]
            refine lv_if_eq (tgt := 87) X.hx X.hb dX1_findRates_53 (by decide) (fun c53 => ?_) (fun c53 => ?_)
            · refine lv_goto (tgt := 25) X.hx X.hb dX1_findRates_87 (by decide) ?_
              rw [if_neg (fun h9 => hkq ((knw_tb hkn).mp h9))] at hstep
              rw [← hstep] at hVP
              have hsegn : ∀ d, f ≤ d → 100 * (d + 1) ≤ (kvk σ m).toInt.toNat + 1 → Fk σ i kn (100 * (d + 1)) = Fk σ i kn ((kvk σ m).toInt.toNat + 1) := by
                intro d hd1 hd2
                by_cases hdk : 100 * (d + 1) ≤ (kvk σ m).toInt.toNat
                · rw [hgap d hd1 hdk, hstep]
                · rw [show 100 * (d + 1) = (kvk σ m).toInt.toNat + 1 by omega]
              exact ih _ f o rf _ _ _ _ hce1 (by omega) (by omega) hf (by omega) hsegn hrfs hXc hVI1 hVP hrf hgk hR2299 hS2300 (lv_sub hl [1, 2, 3, 4, 5, 6] rfl)
            · exact absurd rfl c53
  obtain ⟨⟨rf0, hx0, hrf0⟩, -⟩ := id hX3
  exact loop 36501 0 0 o rf0 _ _ _ _ (CE_zero hce (fun k hk => kv_nn hW hk.1)) (by omega) (by omega) (by omega) (by omega) (fun d h1 h2 => by omega) (fun d hd => absurd hd (Nat.not_lt_zero d)) hX3 hVI hVP3 hrf0 hg3 hR2274 hS2275 (lv_sub hl [3, 4, 5, 2, 1, 0] rfl)

