set_option maxRecDepth 100000
/-! java.util.TreeMap: walking a head map -/
def fkk (Γ : GP) (K : Nat → Nat) : Option Nat → Nat
  | none => Γ.2 7
  | some x => K x
/-- an iterator over a head map, at o -/
def SI (Γ : GP) (G : GH) (it a p : Nat) (S : Nat → Prop) (N K : Nat → Nat) (kv : Nat → Int32) (h : Int) (o : Option Nat) : Prop := ∃ (si sm m2 ka : Nat) (lr vw rt es vs f : Option Nat) (sz mo : Int32), G it = some ((23, 0), .inr (13, [.ref si, .ref m2])) ∧ G si = some ((25, 0), .inr (15, [va_rf lr, va_rf (o.map N), .ref (fkk Γ K f), .int mo, .ref sm])) ∧ G sm = some (SMc a ka es vs) ∧ G a = some (TMc p vw rt sz mo) ∧ CE S kv h f
theorem SI.keep {Γ : GP} {G G1 : GH} {it a p : Nat} {S : Nat → Prop} {N K : Nat → Nat} {kv : Nat → Int32} {h : Int} {o : Option Nat} {T : Nat × Nat → Prop} (z : SI Γ G it a p S N K kv h o) (hk : gK T G G1) (h4 : ¬ T (4, p)) (h21 : ¬ T (21, 0)) (h23 : ¬ T (23, 0)) (h25 : ¬ T (25, 0)) : SI Γ G1 it a p S N K kv h o := by
  obtain ⟨si, sm, m2, ka, lr, vw, rt, es, vs, f, sz, mo, h1, h2, h3, h5, h6⟩ := z
  exact ⟨si, sm, m2, ka, lr, vw, rt, es, vs, f, sz, mo, hk _ _ h1 h23, hk _ _ h2 h25, hk _ _ h3 h21, hk _ _ h5 h4, h6⟩

set_option maxHeartbeats 4000000 in
theorem c_esiter (l : Launch) (Γ : GP) (G : GH) {sm a p ka : Nat} {es vs vw : Option Nat} {S : Nat → Prop} {N K V : Nat → Nat} {kv : Nat → Int32} {x : Int32} (hsm : G sm = some (SMc a ka es vs)) (hTM : TM G a p vw S N K V kv) (hka0 : IBk G ka x) (h0 : 0 ≤ x.toInt) {b : Nat} (hb : G b = some (ESc sm)) : MetG l yJ30_iterator (ws_ yJ30_iterator cJ30_iterator 1 (some (.object "java/util/Iterator"))) (RM 7 1 5) Γ G [.ref b] (fun v G1 => ∃ q o f, v = some (.ref q) ∧ CE (Sh S kv x.toInt) kv (-1) o ∧ CE S kv x.toInt f ∧ gK (fun t => t = (25, 0)) G G1 ∧ ∃ vw rt sz mo, G a = some (TMc p vw rt sz mo) ∧ G1 q = some ((25, 0), .inr (15, [.null, va_rf (o.map N), .ref (fkk Γ K f), .int mo, .ref sm]))) 1 5 := by
  refine gMet (own := RJ30) (by decide) rfl (Nat.le_of_ble_eq_true rfl) ?_
  intro pp ee ss mm below meth cc0 ls X hr hlk hin hnm hR hS hl
  have hl : lv_has ls 1 [(0, .ref b)] := hl
  have hTM0 := hTM
  obtain ⟨L, R, P, C, lo, hi, root, sz, mo, hT, hI, hM, hB, hK⟩ := hTM0
  obtain ⟨tk, hka, hk4, hk11, hk13⟩ := hka0
  refine g_new (ci := 15) X hR hS (25, 0) (C := RJ32) (T := TJ32) (N := 5) rfl in_J32 tyJ32 tyJ32_ok q918 q919 q76 (fs := [.null, .null, .null, .int 0, .null]) (fun j hj => by rcases (show j = 0 ∨ j = 1 ∨ j = 2 ∨ j = 3 ∨ j = 4 by omega) with rfl | rfl | rfl | rfl | rfl <;> rfl) (by (try dsimp only [RM]); omega) (by (try dsimp only [RM]); omega) dJ30_iterator_0 (fun q2374 H hq2376 hR2375 hS2377 => ?_)
  obtain ⟨G2378, hG2378⟩ : ∃ z : GH, z = gu G q2374 ((25, 0), .inr (15, [.null, .null, .null, .int 0, .null])) := ⟨_, rfl⟩
  have hR2375 : Rep Γ G2378 H := by rw [hG2378]; exact hR2375
  have f2379 : G2378 b = some ((24, 0), .inr (14, [.int (-1), .int 0, .ref sm, .ref sm])) := by rw [hG2378]; exact gu_f hb hq2376
  have f2380 : G2378 sm = some ((21, 0), .inr (10, [.ref a, .null, .ref ka, .int 1, .int 0, .int 1, .int 0, .null, va_rf es, .null, .null, va_rf vs])) := by rw [hG2378]; exact gu_f hsm hq2376
  have f2381 : G2378 a = some ((4, p), .inr (7, [.null, va_rf vw, .null, va_rf (root.map N), .int sz, .int mo, .null, .null, .null])) := by rw [hG2378]; exact gu_f hM hq2376
  have f2382 : G2378 ka = some ((tk.1, tk.2), .inr (9, [.int x])) := by rw [hG2378]; exact gu_f hka hq2376
  have f2383 : G2378 q2374 = some ((25, 0), .inr (15, [.null, .null, .null, .int 0, .null])) := by rw [hG2378]; exact gu_s _ _ _
  have hT2384 := TH.new hT hG2378 hq2376
  refine lv_dup X.hx X.hb dJ30_iterator_3 rfl ?_
  refine lv_aload_n X.hx X.hb dJ30_iterator_4 rfl (lv_at hl 0 rfl) ?_
  refine g_get X hR2375 f2379 rfl in_J30 3 (by decide) q896 (fun _ h => h) rfl dJ30_iterator_5 ?_
  refine lv_aload_n X.hx X.hb dJ30_iterator_8 rfl (lv_at hl 0 rfl) ?_
  refine g_get X hR2375 f2379 rfl in_J30 3 (by decide) q896 (fun _ h => h) rfl dJ30_iterator_9 ?_
  have hTM1 : TM G2378 a p vw S N K V kv := hTM.keep (gK.nw (S := fun _ => False) hG2378 hq2376) id (fun _ _ => id) (fun _ h => h.elim)
  have hka1 : IBk G2378 ka x := ⟨tk, f2382, hk4, hk11, hk13⟩
  refine gcU X hl.1 hR2375 hS2377 0 [] [.ref sm, .ref q2374, .ref q2374] (c_low l Γ G2378 f2380 hTM1 hka1) f2380 rfl q920 q921 q923 q924 q66 q925 (va_Decl.of (X.hts _ q924) (X.hts _ q925)) rfl rfl ⟨by decide +kernel, by decide +kernel, by decide +kernel⟩ ⟨by (try dsimp only [RM]); omega, by (try dsimp only [RM]); omega⟩ rfl rfl (Nat.le_of_ble_eq_true rfl) dJ30_iterator_12 ⟨by (try dsimp only [RM]); omega, by (try dsimp only [RM]); omega⟩ (fun v2388 G2389 H locs hq2385 hR2386 hS2387 => ?_)
  obtain ⟨o, rfl, hco, rfl⟩ := hq2385
  refine lv_aload_n X.hx X.hb dJ30_iterator_15 rfl (lv_at hl 0 rfl) ?_
  refine g_get X hR2386 f2379 rfl in_J30 3 (by decide) q896 (fun _ h => h) rfl dJ30_iterator_16 ?_
  refine gcU X hl.1 hR2386 hS2387 0 [] [va_rf (o.map N), .ref sm, .ref q2374, .ref q2374] (c_fence l Γ G2378 f2380 hTM1 hka1 h0) f2380 rfl q943 q944 q946 q947 q66 q948 (va_Decl.of (X.hts _ q947) (X.hts _ q948)) rfl rfl ⟨by decide +kernel, by decide +kernel, by decide +kernel⟩ ⟨by (try dsimp only [RM]); omega, by (try dsimp only [RM]); omega⟩ rfl rfl (by simp only [List.map, cat_rf]; exact Nat.le_of_ble_eq_true rfl) dJ30_iterator_19 ⟨by (try dsimp only [RM]); omega, by (try dsimp only [RM]); omega⟩ (fun v2393 G2394 H locs hq2390 hR2391 hS2392 => ?_)
  obtain ⟨f, rfl, hcf, rfl⟩ := hq2390
  rcases o with _ | o <;> rcases f with _ | f
  · refine gcI X hl.1 hR2391 hS2392 3 [.ref sm, .null, .null] [.ref q2374] (c_J32iNN l Γ G2378 f2383 f2380 f2381) q949 q950 q76 q951 rfl rfl rfl ⟨by decide +kernel, by decide +kernel, by decide +kernel⟩ ⟨by (try dsimp only [RM]); omega, by (try dsimp only [RM]); omega⟩ rfl rfl (Nat.le_of_ble_eq_true rfl) dJ30_iterator_22 ⟨by (try dsimp only [RM]); omega, by (try dsimp only [RM]); omega⟩ (fun v2398 G2399 H locs hq2395 hR2396 hS2397 => ?_)
    obtain ⟨rfl, hG⟩ := hq2395
    have f2400 : G2399 b = some ((24, 0), .inr (14, [.int (-1), .int 0, .ref sm, .ref sm])) := by rw [hG]; exact (gu_n (fne hb hq2376)).trans f2379
    have f2401 : G2399 sm = some ((21, 0), .inr (10, [.ref a, .null, .ref ka, .int 1, .int 0, .int 1, .int 0, .null, va_rf es, .null, .null, va_rf vs])) := by rw [hG]; exact (gu_n (fne hsm hq2376)).trans f2380
    have f2402 : G2399 a = some ((4, p), .inr (7, [.null, va_rf vw, .null, va_rf (root.map N), .int sz, .int mo, .null, .null, .null])) := by rw [hG]; exact (gu_n (fne hM hq2376)).trans f2381
    have f2403 : G2399 ka = some ((tk.1, tk.2), .inr (9, [.int x])) := by rw [hG]; exact (gu_n (fne hka hq2376)).trans f2382
    have f2404 : G2399 q2374 = some ((25, 0), .inr (15, [.null, .null, .ref (fkk Γ K none), .int mo, .ref sm])) := by rw [hG]; exact gu_s _ _ _
    exact g_aretS X hr (Or.inl ⟨_, rfl⟩) hlk hR2396 hS2397 (⟨_, none, none, rfl, hco, hcf, (gK.tr (gK.nw hG2378 hq2376) (gK.pt hG f2383 rfl)), _, _, _, _, hM, f2404⟩) (by (try dsimp only [RM]); omega) (by (try dsimp only [RM]); omega) dJ30_iterator_25
  · obtain ⟨L1, R1, P1, C1, lo1, hi1, root1, sz1, mo1, hT1, -⟩ := hTM1
    have hNf := hT1.1 f (hcf.1 f rfl).1
    refine gcI X hl.1 hR2391 hS2392 3 [.ref sm, .null, .ref (N f)] [.ref q2374] (c_J32iNS l Γ G2378 f2383 f2380 f2381 hNf) q949 q950 q76 q951 rfl rfl rfl ⟨by decide +kernel, by decide +kernel, by decide +kernel⟩ ⟨by (try dsimp only [RM]); omega, by (try dsimp only [RM]); omega⟩ rfl rfl (Nat.le_of_ble_eq_true rfl) dJ30_iterator_22 ⟨by (try dsimp only [RM]); omega, by (try dsimp only [RM]); omega⟩ (fun v2408 G2409 H locs hq2405 hR2406 hS2407 => ?_)
    obtain ⟨rfl, hG⟩ := hq2405
    have f2410 : G2409 b = some ((24, 0), .inr (14, [.int (-1), .int 0, .ref sm, .ref sm])) := by rw [hG]; exact (gu_n (fne hb hq2376)).trans f2379
    have f2411 : G2409 sm = some ((21, 0), .inr (10, [.ref a, .null, .ref ka, .int 1, .int 0, .int 1, .int 0, .null, va_rf es, .null, .null, va_rf vs])) := by rw [hG]; exact (gu_n (fne hsm hq2376)).trans f2380
    have f2412 : G2409 a = some ((4, p), .inr (7, [.null, va_rf vw, .null, va_rf (root.map N), .int sz, .int mo, .null, .null, .null])) := by rw [hG]; exact (gu_n (fne hM hq2376)).trans f2381
    have f2413 : G2409 ka = some ((tk.1, tk.2), .inr (9, [.int x])) := by rw [hG]; exact (gu_n (fne hka hq2376)).trans f2382
    have f2414 : G2409 q2374 = some ((25, 0), .inr (15, [.null, .null, .ref (fkk Γ K (some f)), .int mo, .ref sm])) := by rw [hG]; exact gu_s _ _ _
    exact g_aretS X hr (Or.inl ⟨_, rfl⟩) hlk hR2406 hS2407 (⟨_, none, some f, rfl, hco, hcf, (gK.tr (gK.nw hG2378 hq2376) (gK.pt hG f2383 rfl)), _, _, _, _, hM, f2414⟩) (by (try dsimp only [RM]); omega) (by (try dsimp only [RM]); omega) dJ30_iterator_25
  · refine gcI X hl.1 hR2391 hS2392 3 [.ref sm, .ref (N o), .null] [.ref q2374] (c_J32iSN l Γ G2378 f2383 f2380 f2381) q949 q950 q76 q951 rfl rfl rfl ⟨by decide +kernel, by decide +kernel, by decide +kernel⟩ ⟨by (try dsimp only [RM]); omega, by (try dsimp only [RM]); omega⟩ rfl rfl (Nat.le_of_ble_eq_true rfl) dJ30_iterator_22 ⟨by (try dsimp only [RM]); omega, by (try dsimp only [RM]); omega⟩ (fun v2418 G2419 H locs hq2415 hR2416 hS2417 => ?_)
    obtain ⟨rfl, hG⟩ := hq2415
    have f2420 : G2419 b = some ((24, 0), .inr (14, [.int (-1), .int 0, .ref sm, .ref sm])) := by rw [hG]; exact (gu_n (fne hb hq2376)).trans f2379
    have f2421 : G2419 sm = some ((21, 0), .inr (10, [.ref a, .null, .ref ka, .int 1, .int 0, .int 1, .int 0, .null, va_rf es, .null, .null, va_rf vs])) := by rw [hG]; exact (gu_n (fne hsm hq2376)).trans f2380
    have f2422 : G2419 a = some ((4, p), .inr (7, [.null, va_rf vw, .null, va_rf (root.map N), .int sz, .int mo, .null, .null, .null])) := by rw [hG]; exact (gu_n (fne hM hq2376)).trans f2381
    have f2423 : G2419 ka = some ((tk.1, tk.2), .inr (9, [.int x])) := by rw [hG]; exact (gu_n (fne hka hq2376)).trans f2382
    have f2424 : G2419 q2374 = some ((25, 0), .inr (15, [.null, .ref (N o), .ref (fkk Γ K none), .int mo, .ref sm])) := by rw [hG]; exact gu_s _ _ _
    exact g_aretS X hr (Or.inl ⟨_, rfl⟩) hlk hR2416 hS2417 (⟨_, some o, none, rfl, hco, hcf, (gK.tr (gK.nw hG2378 hq2376) (gK.pt hG f2383 rfl)), _, _, _, _, hM, f2424⟩) (by (try dsimp only [RM]); omega) (by (try dsimp only [RM]); omega) dJ30_iterator_25
  · obtain ⟨L1, R1, P1, C1, lo1, hi1, root1, sz1, mo1, hT1, -⟩ := hTM1
    have hNf := hT1.1 f (hcf.1 f rfl).1
    refine gcI X hl.1 hR2391 hS2392 3 [.ref sm, .ref (N o), .ref (N f)] [.ref q2374] (c_J32iSS l Γ G2378 f2383 f2380 f2381 hNf) q949 q950 q76 q951 rfl rfl rfl ⟨by decide +kernel, by decide +kernel, by decide +kernel⟩ ⟨by (try dsimp only [RM]); omega, by (try dsimp only [RM]); omega⟩ rfl rfl (Nat.le_of_ble_eq_true rfl) dJ30_iterator_22 ⟨by (try dsimp only [RM]); omega, by (try dsimp only [RM]); omega⟩ (fun v2428 G2429 H locs hq2425 hR2426 hS2427 => ?_)
    obtain ⟨rfl, hG⟩ := hq2425
    have f2430 : G2429 b = some ((24, 0), .inr (14, [.int (-1), .int 0, .ref sm, .ref sm])) := by rw [hG]; exact (gu_n (fne hb hq2376)).trans f2379
    have f2431 : G2429 sm = some ((21, 0), .inr (10, [.ref a, .null, .ref ka, .int 1, .int 0, .int 1, .int 0, .null, va_rf es, .null, .null, va_rf vs])) := by rw [hG]; exact (gu_n (fne hsm hq2376)).trans f2380
    have f2432 : G2429 a = some ((4, p), .inr (7, [.null, va_rf vw, .null, va_rf (root.map N), .int sz, .int mo, .null, .null, .null])) := by rw [hG]; exact (gu_n (fne hM hq2376)).trans f2381
    have f2433 : G2429 ka = some ((tk.1, tk.2), .inr (9, [.int x])) := by rw [hG]; exact (gu_n (fne hka hq2376)).trans f2382
    have f2434 : G2429 q2374 = some ((25, 0), .inr (15, [.null, .ref (N o), .ref (fkk Γ K (some f)), .int mo, .ref sm])) := by rw [hG]; exact gu_s _ _ _
    exact g_aretS X hr (Or.inl ⟨_, rfl⟩) hlk hR2426 hS2427 (⟨_, some o, some f, rfl, hco, hcf, (gK.tr (gK.nw hG2378 hq2376) (gK.pt hG f2383 rfl)), _, _, _, _, hM, f2434⟩) (by (try dsimp only [RM]); omega) (by (try dsimp only [RM]); omega) dJ30_iterator_25

set_option maxHeartbeats 4000000 in
theorem c_J26i (l : Launch) (Γ : GP) (G : GH) {sm a p ka : Nat} {vs vw : Option Nat} {S : Nat → Prop} {N K V : Nat → Nat} {kv : Nat → Int32} {x : Int32} (hsm : G sm = some (SMc a ka none vs)) (hTM : TM G a p vw S N K V kv) (hka0 : IBk G ka x) (h0 : 0 ≤ x.toInt) {m2 it : Nat} (hm2 : G m2 = some ((22, 0), .inr (12, [.ref sm]))) (hit : G it = some ((23, 0), .inr (13, [.null, .null]))) : MetG l yJ26_init (ws_ yJ26_init cJ26_init 2 none) (RM 8 2 9) Γ G [.ref it, .ref m2] (fun v G1 => v = none ∧ gK (fun t => t = (21, 0) ∨ t = (23, 0) ∨ t = (24, 0) ∨ t = (25, 0)) G G1 ∧ ∃ o, CE (Sh S kv x.toInt) kv (-1) o ∧ SI Γ G1 it a p S N K kv x.toInt o) 2 9 := by
  refine gMet (own := RJ26) (by decide) rfl (Nat.le_of_ble_eq_true rfl) ?_
  intro pp ee ss mm below meth cc0 ls X hr hlk hin hnm hR hS hl
  have hl : lv_has ls 2 [(0, .ref it), (1, .ref m2)] := hl
  have hTM0 := hTM
  obtain ⟨L, R, P, C, lo, hi, root, sz, mo, hT, hI, hM, hB, hK⟩ := hTM0
  obtain ⟨tk, hka, hk4, hk11, hk13⟩ := hka0
  have hk23 : tk.1 ≠ 23 := by omega
  refine lv_aload_n X.hx X.hb dJ26_init_0 rfl (lv_at hl 0 rfl) ?_
  refine lv_aload_n X.hx X.hb dJ26_init_1 rfl (lv_at hl 1 rfl) ?_
  refine g_putF X hR hS hit (Nat.le_of_ble_eq_true rfl) rfl in_J26 tyJ26 tyJ26_ok nmJ26 1 (by decide) q1004 (fun _ h => h) rfl hin rfl rfl rfl (Nat.le_of_ble_eq_true rfl) dJ26_init_2 (fun H locs hR2435 hS2436 => ?_)
  obtain ⟨G2437, hG2437⟩ : ∃ z : GH, z = gu G it ((23, 0), .inr (13, [.null, .ref m2])) := ⟨_, rfl⟩
  have hR2435 : Rep Γ G2437 H := by rw [hG2437]; exact hR2435
  have f2438 : G2437 sm = some ((21, 0), .inr (10, [.ref a, .null, .ref ka, .int 1, .int 0, .int 1, .int 0, .null, .null, .null, .null, va_rf vs])) := by rw [hG2437]; exact gu_t hsm hit (tne rfl)
  have f2439 : G2437 a = some ((4, p), .inr (7, [.null, va_rf vw, .null, va_rf (root.map N), .int sz, .int mo, .null, .null, .null])) := by rw [hG2437]; exact gu_t hM hit (tne rfl)
  have f2440 : G2437 ka = some ((tk.1, tk.2), .inr (9, [.int x])) := by rw [hG2437]; exact gu_t hka hit (tneq hk23)
  have f2441 : G2437 m2 = some ((22, 0), .inr (12, [.ref sm])) := by rw [hG2437]; exact gu_t hm2 hit (tne rfl)
  have f2442 : G2437 it = some ((23, 0), .inr (13, [.null, .ref m2])) := by rw [hG2437]; exact gu_s _ _ _
  refine lv_aload_n X.hx X.hb dJ26_init_5 rfl (lv_at hl 0 rfl) ?_
  refine W.objInit X.hx X.hb X.hown (X.hts _ q864) (X.hts _ q87) (X.hts _ q88) rfl (by rw [X.hml]; exact hl.1) rfl dJ26_init_6 (Nat.le_of_ble_eq_true rfl) (Nat.le_of_ble_eq_true rfl) ?_
  refine W.eq (g2 := F0 mm 9 ls []) rfl ?_
  refine lv_aload_n X.hx X.hb dJ26_init_9 rfl (lv_at hl 0 rfl) ?_
  refine lv_aload_n X.hx X.hb dJ26_init_10 rfl (lv_at hl 0 rfl) ?_
  refine g_get X hR2435 f2442 rfl in_J26 1 (by decide) q1004 (fun _ h => h) rfl dJ26_init_11 ?_
  refine g_get X hR2435 f2441 rfl in_J25 0 (by decide) q845 (fun _ h => h) rfl dJ26_init_14 ?_
  refine gcU X hl.1 hR2435 hS2436 0 [] [.ref it] (c_es l Γ G2437 f2438) f2438 rfl q865 q867 q884 q885 q67 q886 (va_Decl.abs (X.nw kq866)) rfl rfl ⟨by decide +kernel, by decide +kernel, by decide +kernel⟩ ⟨by (try dsimp only [RM]); omega, by (try dsimp only [RM]); omega⟩ rfl rfl (Nat.le_of_ble_eq_true rfl) dJ26_init_17 ⟨by (try dsimp only [RM]); omega, by (try dsimp only [RM]); omega⟩ (fun v2446 G2447 H locs hq2443 hR2444 hS2445 => ?_)
  obtain ⟨b, rfl, hb1, hsm1, hgk1⟩ := hq2443
  have f2448 : G2447 it = some ((23, 0), .inr (13, [.null, .ref m2])) := hgk1 _ _ f2442 (fun h9 => by rcases h9 with h9 | h9 <;> cases h9)
  have f2449 : G2447 a = some ((4, p), .inr (7, [.null, va_rf vw, .null, va_rf (root.map N), .int sz, .int mo, .null, .null, .null])) := hgk1 _ _ f2439 (fun h9 => by rcases h9 with h9 | h9 <;> cases h9)
  have f2450 : G2447 m2 = some ((22, 0), .inr (12, [.ref sm])) := hgk1 _ _ f2441 (fun h9 => by rcases h9 with h9 | h9 <;> cases h9)
  have f2451 := hgk1 _ _ f2440 (fun h9 => by rcases h9 with h9 | h9 <;> (rw [show tk = _ from h9] at hk13; exact absurd hk13 (by decide)))
  have hgkA : gK (fun t => t = (21, 0) ∨ t = (23, 0) ∨ t = (24, 0) ∨ t = (25, 0)) G G2447 := (gK.tr (gK.pt hG2437 hit (Or.inr (Or.inl rfl))) (hgk1.mono (S1 := fun t => t = (21, 0) ∨ t = (23, 0) ∨ t = (24, 0) ∨ t = (25, 0)) (fun t h => by rcases h with h | h <;> subst h <;> simp)))
  have hTM1 : TM G2447 a p vw S N K V kv := hTM.keep hgkA (fun h9 => by rcases h9 with h9 | h9 | h9 | h9 <;> cases h9) (fun k _ h9 => by rcases h9 with h9 | h9 | h9 | h9 <;> cases h9) (fun t h9 => by rcases h9 with h9 | h9 | h9 | h9 <;> subst h9 <;> decide)
  have hka1 : IBk G2447 ka x := ⟨tk, f2451, hk4, hk11, hk13⟩
  refine gcF X hl.1 hR2444 hS2445 0 [] [.ref it] (c_esiter l Γ G2447 hsm1 hTM1 hka1 h0 hb1) hb1 rfl kf15 q909 q913 q915 q74 q917 rfl rfl ⟨by decide +kernel, by decide +kernel, by decide +kernel⟩ ⟨by (try dsimp only [RM]); omega, by (try dsimp only [RM]); omega⟩ rfl rfl (Nat.le_of_ble_eq_true rfl) dJ26_init_20 ⟨by (try dsimp only [RM]); omega, by (try dsimp only [RM]); omega⟩ (fun v2455 G2456 H locs hq2452 hR2453 hS2454 => ?_)
  obtain ⟨q, o, f, rfl, hco, hcf, hgk2, hrest⟩ := hq2452
  obtain ⟨vw1, rt1, sz1, mo1, hM1, hq1⟩ := hrest
  have f2457 : G2456 it = some ((23, 0), .inr (13, [.null, .ref m2])) := hgk2 _ _ f2448 (fun h9 => by cases h9)
  have f2458 : G2456 a = some ((4, p), .inr (7, [.null, va_rf vw1, .null, va_rf rt1, .int sz1, .int mo1, .null, .null, .null])) := hgk2 _ _ hM1 (fun h9 => by cases h9)
  have f2459 : G2456 m2 = some ((22, 0), .inr (12, [.ref sm])) := hgk2 _ _ f2450 (fun h9 => by cases h9)
  have f2460 : G2456 sm = some ((21, 0), .inr (10, [.ref a, .null, .ref ka, .int 1, .int 0, .int 1, .int 0, .null, .ref b, .null, .null, va_rf vs])) := hgk2 _ _ hsm1 (fun h9 => by cases h9)
  refine g_put X hR2453 hS2454 f2457 (Nat.le_of_ble_eq_true rfl) rfl in_J26 tyJ26 tyJ26_ok nmJ26 0 (by decide) q1003 (fun _ h => h) rfl rfl rfl (Nat.le_of_ble_eq_true rfl) dJ26_init_25 (fun H locs hR2461 hS2462 => ?_)
  obtain ⟨G2463, hG2463⟩ : ∃ z : GH, z = gu G2456 it ((23, 0), .inr (13, [.ref q, .ref m2])) := ⟨_, rfl⟩
  have hR2461 : Rep Γ G2463 H := by rw [hG2463]; exact hR2461
  have f2464 : G2463 a = some ((4, p), .inr (7, [.null, va_rf vw1, .null, va_rf rt1, .int sz1, .int mo1, .null, .null, .null])) := by rw [hG2463]; exact gu_t f2458 f2457 (tne rfl)
  have f2465 : G2463 m2 = some ((22, 0), .inr (12, [.ref sm])) := by rw [hG2463]; exact gu_t f2459 f2457 (tne rfl)
  have f2466 : G2463 sm = some ((21, 0), .inr (10, [.ref a, .null, .ref ka, .int 1, .int 0, .int 1, .int 0, .null, .ref b, .null, .null, va_rf vs])) := by rw [hG2463]; exact gu_t f2460 f2457 (tne rfl)
  have f2467 : G2463 q = some ((25, 0), .inr (15, [.null, va_rf (o.map N), .ref (fkk Γ K f), .int mo1, .ref sm])) := by rw [hG2463]; exact gu_t hq1 f2457 (tne rfl)
  have f2468 : G2463 it = some ((23, 0), .inr (13, [.ref q, .ref m2])) := by rw [hG2463]; exact gu_s _ _ _
  exact g_vret X hr hlk hR2461 hS2462 (⟨rfl, (gK.tr (gK.tr hgkA (hgk2.mono (S1 := fun t => t = (21, 0) ∨ t = (23, 0) ∨ t = (24, 0) ∨ t = (25, 0)) (fun t h => Or.inr (Or.inr (Or.inr h))))) (gK.pt hG2463 f2457 (Or.inr (Or.inl rfl)))), o, hco, _, _, _, _, none, _, _, some b, _, f, _, _, f2468, f2467, f2466, f2464, hcf⟩) (by (try dsimp only [RM]); omega) (by (try dsimp only [RM]); omega) dJ26_init_28

set_option maxHeartbeats 4000000 in
theorem c_siter (l : Launch) (Γ : GP) (G : GH) {m2 sm a p ka : Nat} {vw : Option Nat} {S : Nat → Prop} {N K V : Nat → Nat} {kv : Nat → Int32} {x : Int32} (hsm : G sm = some (SMc a ka none (some m2))) (hTM : TM G a p vw S N K V kv) (hka0 : IBk G ka x) (h0 : 0 ≤ x.toInt) (hm2 : G m2 = some ((22, 0), .inr (12, [.ref sm]))) : MetG l yJ25_iterator (ws_ yJ25_iterator cJ25_iterator 1 (some (.object "java/util/Iterator"))) (RM 9 3 11) Γ G [.ref m2] (fun v G1 => ∃ it, v = some (.ref it) ∧ gK (fun t => t = (21, 0) ∨ t = (23, 0) ∨ t = (24, 0) ∨ t = (25, 0)) G G1 ∧ ∃ o, CE (Sh S kv x.toInt) kv (-1) o ∧ SI Γ G1 it a p S N K kv x.toInt o) 3 11 := by
  refine gMet (own := RJ25) (by decide) rfl (Nat.le_of_ble_eq_true rfl) ?_
  intro pp ee ss mm below meth cc0 ls X hr hlk hin hnm hR hS hl
  have hl : lv_has ls 1 [(0, .ref m2)] := hl
  have hTM9 := hTM
  have hTM0 := hTM
  obtain ⟨L, R, P, C, lo, hi, root, sz, mo, hT, hI, hM, hB, hK⟩ := hTM0
  obtain ⟨tk, hka, hk4, hk11, hk13⟩ := hka0
  have hk23 : tk.1 ≠ 23 := by omega
  refine g_new (ci := 13) X hR hS (23, 0) (C := RJ26) (T := TJ26) (N := 2) rfl in_J26 tyJ26 tyJ26_ok q859 q860 q70 (fs := [.null, .null]) (fun j hj => by rcases (show j = 0 ∨ j = 1 by omega) with rfl | rfl <;> rfl) (by (try dsimp only [RM]); omega) (by (try dsimp only [RM]); omega) dJ25_iterator_0 (fun q2469 H hq2471 hR2470 hS2472 => ?_)
  obtain ⟨G2473, hG2473⟩ : ∃ z : GH, z = gu G q2469 ((23, 0), .inr (13, [.null, .null])) := ⟨_, rfl⟩
  have hR2470 : Rep Γ G2473 H := by rw [hG2473]; exact hR2470
  have f2474 : G2473 sm = some ((21, 0), .inr (10, [.ref a, .null, .ref ka, .int 1, .int 0, .int 1, .int 0, .null, .null, .null, .null, .ref m2])) := by rw [hG2473]; exact gu_f hsm hq2471
  have f2475 : G2473 a = some ((4, p), .inr (7, [.null, va_rf vw, .null, va_rf (root.map N), .int sz, .int mo, .null, .null, .null])) := by rw [hG2473]; exact gu_f hM hq2471
  have f2476 : G2473 ka = some ((tk.1, tk.2), .inr (9, [.int x])) := by rw [hG2473]; exact gu_f hka hq2471
  have f2477 : G2473 m2 = some ((22, 0), .inr (12, [.ref sm])) := by rw [hG2473]; exact gu_f hm2 hq2471
  have f2478 : G2473 q2469 = some ((23, 0), .inr (13, [.null, .null])) := by rw [hG2473]; exact gu_s _ _ _
  refine lv_dup X.hx X.hb dJ25_iterator_3 rfl ?_
  refine lv_aload_n X.hx X.hb dJ25_iterator_4 rfl (lv_at hl 0 rfl) ?_
  have hTM1 : TM G2473 a p vw S N K V kv := hTM9.keep (gK.nw (S := fun _ => False) hG2473 hq2471) id (fun _ _ => id) (fun _ h => h.elim)
  have hka1 : IBk G2473 ka x := ⟨tk, f2476, hk4, hk11, hk13⟩
  refine gcI X hl.1 hR2470 hS2472 1 [.ref m2] [.ref q2469] (c_J26i (vs := some m2) l Γ G2473 f2474 hTM1 hka1 h0 f2477 f2478) q861 q862 q70 q863 rfl rfl rfl ⟨by decide +kernel, by decide +kernel, by decide +kernel⟩ ⟨by (try dsimp only [RM]); omega, by (try dsimp only [RM]); omega⟩ rfl rfl (Nat.le_of_ble_eq_true rfl) dJ25_iterator_5 ⟨by (try dsimp only [RM]); omega, by (try dsimp only [RM]); omega⟩ (fun v2482 G2483 H locs hq2479 hR2480 hS2481 => ?_)
  obtain ⟨rfl, hgk, o, hco, hSI⟩ := hq2479
  exact g_aretS X hr (Or.inl ⟨_, rfl⟩) hlk hR2480 hS2481 (⟨_, rfl, (gK.tr (gK.nw hG2473 hq2471) hgk), o, hco, hSI⟩) (by (try dsimp only [RM]); omega) (by (try dsimp only [RM]); omega) dJ25_iterator_8

theorem fkk_ne {Γ : GP} {G : GH} {S : Nat → Prop} {K : Nat → Nat} {kv : Nat → Int32} {h : Int} {f : Option Nat} {x : Nat} (hcf : CE S kv h f) (hK : ∀ k, S k → IBk G (K k) (kv k)) (hx : S x) (hlt : (kv x).toInt < h) (hu : ∀ k, S k → K k ≠ Γ.2 7) : K x ≠ fkk Γ K f := by
  cases f with
  | none => exact hu x hx
  | some m =>
    obtain ⟨c1, c2, -⟩ := hcf.1 m rfl
    intro e
    obtain ⟨t1, a1, -⟩ := hK x hx
    obtain ⟨t2, a2, -⟩ := hK m c1
    rw [show K x = K m from e] at a1
    have e9 : kv m = kv x := IB.inj (Γ := Γ) ⟨_, a2⟩ ⟨_, a1⟩
    rw [e9] at c2
    omega
theorem CE_fence {S : Nat → Prop} {kv : Nat → Int32} {h : Int} {f : Option Nat} {x : Nat} (hcf : CE S kv h f) (hx : S x) (hle : h ≤ (kv x).toInt) (hy : ∀ k, S k → h ≤ (kv k).toInt → (kv x).toInt ≤ (kv k).toInt) (hu : ∀ k, S k → kv k = kv x → k = x) : f = some x := by
  cases f with
  | none => have := hcf.2 rfl x hx; omega
  | some m =>
    obtain ⟨c1, c2, c3⟩ := hcf.1 m rfl
    have a1 := c3 x hx hle
    have a2 := hy m c1 c2
    rw [hu m c1 (Int32.toInt_inj.mp (by omega))]
theorem TM.inj {G : GH} {a p : Nat} {vw : Option Nat} {S : Nat → Prop} {N K V : Nat → Nat} {kv : Nat → Int32} (h : TM G a p vw S N K V kv) {j k : Nat} (hj : S j) (hk : S k) (e : kv j = kv k) : j = k := by
  obtain ⟨L, R, P, C, lo, hi, root, sz, mo, hT, hI, hM, hB, hK⟩ := h
  by_cases e9 : j = k
  · exact e9
  · have h1 := hI.1 j hj
    have h2 := hI.1 k hk
    have h3 := hI.2.1 j k hj hk e9
    unfold lam at h3
    dsimp only at h1 h2 h3
    rw [e] at h1 h3
    omega

set_option maxHeartbeats 4000000 in
theorem c_J31has_none (l : Launch) (Γ : GP) (G : GH) {a p : Nat} {vw : Option Nat} {S : Nat → Prop} {N K V : Nat → Nat} {kv : Nat → Int32} {h : Int} (hTM : TM G a p vw S N K V kv) {si sm : Nat} {lr f : Option Nat} {mo0 : Int32} (hsi : G si = some ((25, 0), .inr (15, [va_rf lr, .null, .ref (fkk Γ K f), .int mo0, .ref sm]))) (hcf : CE S kv h f) : MetG l yJ31_hasNext (ws_ yJ31_hasNext cJ31_hasNext 1 (some .boolean)) (RM 1 0 0) Γ G [.ref si] (fun v G1 => v = some (.int 0) ∧ G = G1) 0 0 := by
  refine gMet (own := RJ31) (by decide) rfl (Nat.le_of_ble_eq_true rfl) ?_
  intro pp ee ss mm below meth cc0 ls X hr hlk hin hnm hR hS hl
  have hl : lv_has ls 1 [(0, .ref si)] := hl
  have hTM0 := hTM
  obtain ⟨L, R, P, C, lo, hi, root, sz, mo, hT, hI, hM, hB, hK⟩ := hTM0
  refine lv_aload_n X.hx X.hb dJ31_hasNext_0 rfl (lv_at hl 0 rfl) ?_
  refine g_get X hR hsi rfl in_J32 1 (by decide) q959 (fun _ h => h) rfl dJ31_hasNext_1 ?_
  refine lv_ifnullN (tgt := 25) X.hx X.hb dJ31_hasNext_4 (by decide) ?_
  refine lv_iconst (v := 0) X.hx X.hb dJ31_hasNext_25 (by decide) ?_
  exact g_zret X hr hlk hR hS rfl (⟨rfl, rfl⟩) (by (try dsimp only [RM]); omega) (by (try dsimp only [RM]); omega) dJ31_hasNext_26
set_option maxHeartbeats 4000000 in
theorem c_shas_none (l : Launch) (Γ : GP) (G : GH) {it a p : Nat} {vw : Option Nat} {S : Nat → Prop} {N K V : Nat → Nat} {kv : Nat → Int32} {h : Int} (hTM : TM G a p vw S N K V kv) (hSI : SI Γ G it a p S N K kv h none) : MetG l yJ26_hasNext (ws_ yJ26_hasNext cJ26_hasNext 1 (some .boolean)) (RM 2 0 0) Γ G [.ref it] (fun v G1 => v = some (.int 0) ∧ G = G1) 0 0 := by
  refine gMet (own := RJ26) (by decide) rfl (Nat.le_of_ble_eq_true rfl) ?_
  intro pp ee ss mm below meth cc0 ls X hr hlk hin hnm hR hS hl
  have hl : lv_has ls 1 [(0, .ref it)] := hl
  have hSI0 := hSI
  obtain ⟨si, sm, m2, ka, lr, vw0, rt, es, vs, f, sz0, mo0, hit, hsi, hsm, hM0, hcf⟩ := hSI0
  refine lv_aload_n X.hx X.hb dJ26_hasNext_0 rfl (lv_at hl 0 rfl) ?_
  refine g_get X hR hit rfl in_J26 0 (by decide) q1003 (fun _ h => h) rfl dJ26_hasNext_1 ?_
  refine gcF X hl.1 hR hS 0 [] [] (c_J31has_none l Γ G hTM hsi hcf) hsi rfl kf17 q1068 q1082 q1084 q75 q1086 rfl rfl ⟨by decide +kernel, by decide +kernel, by decide +kernel⟩ ⟨by (try dsimp only [RM]); omega, by (try dsimp only [RM]); omega⟩ rfl rfl (Nat.le_of_ble_eq_true rfl) dJ26_hasNext_4 ⟨by (try dsimp only [RM]); omega, by (try dsimp only [RM]); omega⟩ (fun v2487 G2488 H locs hq2484 hR2485 hS2486 => ?_)
  obtain ⟨rfl, rfl⟩ := hq2484
  exact g_zret X hr hlk hR2485 hS2486 rfl (⟨rfl, rfl⟩) (by (try dsimp only [RM]); omega) (by (try dsimp only [RM]); omega) dJ26_hasNext_9

set_option maxHeartbeats 4000000 in
theorem c_J31has_lo (l : Launch) (Γ : GP) (G : GH) {a p : Nat} {vw : Option Nat} {S : Nat → Prop} {N K V : Nat → Nat} {kv : Nat → Int32} {h : Int} (hTM : TM G a p vw S N K V kv) {x : Nat} (hx : S x) (hlt : (kv x).toInt < h) {si sm : Nat} {lr f : Option Nat} {mo0 : Int32} (hsi : G si = some ((25, 0), .inr (15, [va_rf lr, .ref (N x), .ref (fkk Γ K f), .int mo0, .ref sm]))) (hcf : CE S kv h f) : MetG l yJ31_hasNext (ws_ yJ31_hasNext cJ31_hasNext 1 (some .boolean)) (RM 1 0 0) Γ G [.ref si] (fun v G1 => v = some (.int 1) ∧ G = G1) 0 0 := by
  refine gMet (own := RJ31) (by decide) rfl (Nat.le_of_ble_eq_true rfl) ?_
  intro pp ee ss mm below meth cc0 ls X hr hlk hin hnm hR hS hl
  have hl : lv_has ls 1 [(0, .ref si)] := hl
  have hTM0 := hTM
  obtain ⟨L, R, P, C, lo, hi, root, sz, mo, hT, hI, hM, hB, hK⟩ := hTM0
  have hne := fkk_ne (Γ := Γ) hcf hK hx hlt (fun k hk => by obtain ⟨t1, a1, -⟩ := hK k hk; exact g_unb X hR hS a1)
  refine lv_aload_n X.hx X.hb dJ31_hasNext_0 rfl (lv_at hl 0 rfl) ?_
  refine g_get X hR hsi rfl in_J32 1 (by decide) q959 (fun _ h => h) rfl dJ31_hasNext_1 ?_
  refine lv_ifnull X.hx X.hb dJ31_hasNext_4 ?_
  refine lv_aload_n X.hx X.hb dJ31_hasNext_7 rfl (lv_at hl 0 rfl) ?_
  refine g_get X hR hsi rfl in_J32 1 (by decide) q959 (fun _ h => h) rfl dJ31_hasNext_8 ?_
  refine g_get (v := .ref (K x)) X hR (hT.1 x hx) rfl in_J21 0 (by decide) q614 (fun _ h => h) rfl dJ31_hasNext_11 ?_
  refine lv_aload_n X.hx X.hb dJ31_hasNext_14 rfl (lv_at hl 0 rfl) ?_
  refine g_get X hR hsi rfl in_J32 2 (by decide) q960 (fun _ h => h) rfl dJ31_hasNext_15 ?_
  refine lv_acmp_eq (rx := some (K x)) (ry := some (fkk Γ K f)) (tgt := 25) X.hx X.hb dJ31_hasNext_18 (by decide) (fun c18 => ?_) (fun c18 => ?_)
  · exact absurd (Option.some.inj c18) hne
  · refine lv_iconst (v := 1) X.hx X.hb dJ31_hasNext_21 (by decide) ?_
    refine lv_goto (tgt := 26) X.hx X.hb dJ31_hasNext_22 (by decide) ?_
    exact g_zret X hr hlk hR hS rfl (⟨rfl, rfl⟩) (by (try dsimp only [RM]); omega) (by (try dsimp only [RM]); omega) dJ31_hasNext_26
set_option maxHeartbeats 4000000 in
theorem c_shas_lo (l : Launch) (Γ : GP) (G : GH) {it a p : Nat} {vw : Option Nat} {S : Nat → Prop} {N K V : Nat → Nat} {kv : Nat → Int32} {h : Int} (hTM : TM G a p vw S N K V kv) {x : Nat} (hx : S x) (hlt : (kv x).toInt < h) (hSI : SI Γ G it a p S N K kv h (some x)) : MetG l yJ26_hasNext (ws_ yJ26_hasNext cJ26_hasNext 1 (some .boolean)) (RM 2 0 0) Γ G [.ref it] (fun v G1 => v = some (.int 1) ∧ G = G1) 0 0 := by
  refine gMet (own := RJ26) (by decide) rfl (Nat.le_of_ble_eq_true rfl) ?_
  intro pp ee ss mm below meth cc0 ls X hr hlk hin hnm hR hS hl
  have hl : lv_has ls 1 [(0, .ref it)] := hl
  have hSI0 := hSI
  obtain ⟨si, sm, m2, ka, lr, vw0, rt, es, vs, f, sz0, mo0, hit, hsi, hsm, hM0, hcf⟩ := hSI0
  refine lv_aload_n X.hx X.hb dJ26_hasNext_0 rfl (lv_at hl 0 rfl) ?_
  refine g_get X hR hit rfl in_J26 0 (by decide) q1003 (fun _ h => h) rfl dJ26_hasNext_1 ?_
  refine gcF X hl.1 hR hS 0 [] [] (c_J31has_lo l Γ G hTM hx hlt hsi hcf) hsi rfl kf17 q1068 q1082 q1084 q75 q1086 rfl rfl ⟨by decide +kernel, by decide +kernel, by decide +kernel⟩ ⟨by (try dsimp only [RM]); omega, by (try dsimp only [RM]); omega⟩ rfl rfl (Nat.le_of_ble_eq_true rfl) dJ26_hasNext_4 ⟨by (try dsimp only [RM]); omega, by (try dsimp only [RM]); omega⟩ (fun v2492 G2493 H locs hq2489 hR2490 hS2491 => ?_)
  obtain ⟨rfl, rfl⟩ := hq2489
  exact g_zret X hr hlk hR2490 hS2491 rfl (⟨rfl, rfl⟩) (by (try dsimp only [RM]); omega) (by (try dsimp only [RM]); omega) dJ26_hasNext_9

set_option maxHeartbeats 4000000 in
theorem c_J31has_hi (l : Launch) (Γ : GP) (G : GH) {a p : Nat} {vw : Option Nat} {S : Nat → Prop} {N K V : Nat → Nat} {kv : Nat → Int32} {h : Int} (hTM : TM G a p vw S N K V kv) {x : Nat} (hx : S x) (hlt : h ≤ (kv x).toInt) (hmin : ∀ k, S k → h ≤ (kv k).toInt → (kv x).toInt ≤ (kv k).toInt) {si sm : Nat} {lr f : Option Nat} {mo0 : Int32} (hsi : G si = some ((25, 0), .inr (15, [va_rf lr, .ref (N x), .ref (fkk Γ K f), .int mo0, .ref sm]))) (hcf : CE S kv h f) : MetG l yJ31_hasNext (ws_ yJ31_hasNext cJ31_hasNext 1 (some .boolean)) (RM 1 0 0) Γ G [.ref si] (fun v G1 => v = some (.int 0) ∧ G = G1) 0 0 := by
  refine gMet (own := RJ31) (by decide) rfl (Nat.le_of_ble_eq_true rfl) ?_
  intro pp ee ss mm below meth cc0 ls X hr hlk hin hnm hR hS hl
  have hl : lv_has ls 1 [(0, .ref si)] := hl
  have hTM0 := hTM
  obtain ⟨L, R, P, C, lo, hi, root, sz, mo, hT, hI, hM, hB, hK⟩ := hTM0
  have hfx := CE_fence hcf hx hlt hmin (fun k hk e => hTM.inj hk hx e)
  refine lv_aload_n X.hx X.hb dJ31_hasNext_0 rfl (lv_at hl 0 rfl) ?_
  refine g_get X hR hsi rfl in_J32 1 (by decide) q959 (fun _ h => h) rfl dJ31_hasNext_1 ?_
  refine lv_ifnull X.hx X.hb dJ31_hasNext_4 ?_
  refine lv_aload_n X.hx X.hb dJ31_hasNext_7 rfl (lv_at hl 0 rfl) ?_
  refine g_get X hR hsi rfl in_J32 1 (by decide) q959 (fun _ h => h) rfl dJ31_hasNext_8 ?_
  refine g_get (v := .ref (K x)) X hR (hT.1 x hx) rfl in_J21 0 (by decide) q614 (fun _ h => h) rfl dJ31_hasNext_11 ?_
  refine lv_aload_n X.hx X.hb dJ31_hasNext_14 rfl (lv_at hl 0 rfl) ?_
  refine g_get X hR hsi rfl in_J32 2 (by decide) q960 (fun _ h => h) rfl dJ31_hasNext_15 ?_
  refine lv_acmp_eq (rx := some (K x)) (ry := some (fkk Γ K f)) (tgt := 25) X.hx X.hb dJ31_hasNext_18 (by decide) (fun c18 => ?_) (fun c18 => ?_)
  · refine lv_iconst (v := 0) X.hx X.hb dJ31_hasNext_25 (by decide) ?_
    exact g_zret X hr hlk hR hS rfl (⟨rfl, rfl⟩) (by (try dsimp only [RM]); omega) (by (try dsimp only [RM]); omega) dJ31_hasNext_26
  · exact absurd (by rw [hfx]; rfl) c18
set_option maxHeartbeats 4000000 in
theorem c_shas_hi (l : Launch) (Γ : GP) (G : GH) {it a p : Nat} {vw : Option Nat} {S : Nat → Prop} {N K V : Nat → Nat} {kv : Nat → Int32} {h : Int} (hTM : TM G a p vw S N K V kv) {x : Nat} (hx : S x) (hlt : h ≤ (kv x).toInt) (hmin : ∀ k, S k → h ≤ (kv k).toInt → (kv x).toInt ≤ (kv k).toInt) (hSI : SI Γ G it a p S N K kv h (some x)) : MetG l yJ26_hasNext (ws_ yJ26_hasNext cJ26_hasNext 1 (some .boolean)) (RM 2 0 0) Γ G [.ref it] (fun v G1 => v = some (.int 0) ∧ G = G1) 0 0 := by
  refine gMet (own := RJ26) (by decide) rfl (Nat.le_of_ble_eq_true rfl) ?_
  intro pp ee ss mm below meth cc0 ls X hr hlk hin hnm hR hS hl
  have hl : lv_has ls 1 [(0, .ref it)] := hl
  have hSI0 := hSI
  obtain ⟨si, sm, m2, ka, lr, vw0, rt, es, vs, f, sz0, mo0, hit, hsi, hsm, hM0, hcf⟩ := hSI0
  refine lv_aload_n X.hx X.hb dJ26_hasNext_0 rfl (lv_at hl 0 rfl) ?_
  refine g_get X hR hit rfl in_J26 0 (by decide) q1003 (fun _ h => h) rfl dJ26_hasNext_1 ?_
  refine gcF X hl.1 hR hS 0 [] [] (c_J31has_hi l Γ G hTM hx hlt hmin hsi hcf) hsi rfl kf17 q1068 q1082 q1084 q75 q1086 rfl rfl ⟨by decide +kernel, by decide +kernel, by decide +kernel⟩ ⟨by (try dsimp only [RM]); omega, by (try dsimp only [RM]); omega⟩ rfl rfl (Nat.le_of_ble_eq_true rfl) dJ26_hasNext_4 ⟨by (try dsimp only [RM]); omega, by (try dsimp only [RM]); omega⟩ (fun v2497 G2498 H locs hq2494 hR2495 hS2496 => ?_)
  obtain ⟨rfl, rfl⟩ := hq2494
  exact g_zret X hr hlk hR2495 hS2496 rfl (⟨rfl, rfl⟩) (by (try dsimp only [RM]); omega) (by (try dsimp only [RM]); omega) dJ26_hasNext_9

set_option maxHeartbeats 4000000 in
theorem c_J31next (l : Launch) (Γ : GP) (G : GH) {a p : Nat} {vw : Option Nat} {S : Nat → Prop} {N K V : Nat → Nat} {kv : Nat → Int32} {h : Int} (hTM : TM G a p vw S N K V kv) {x : Nat} (hx : S x) (hlt : (kv x).toInt < h) {si sm ka : Nat} {lr vw0 rt es vs f : Option Nat} {sz0 mo0 : Int32} (hsi : G si = some ((25, 0), .inr (15, [va_rf lr, .ref (N x), .ref (fkk Γ K f), .int mo0, .ref sm]))) (hsm : G sm = some (SMc a ka es vs)) (hM0 : G a = some (TMc p vw0 rt sz0 mo0)) (hcf : CE S kv h f) : MetG l yJ31_nextEntry (ws_ yJ31_nextEntry cJ31_nextEntry 2 (some (.object "java/util/TreeMap$Entry"))) (RM 2 0 0) Γ G [.ref si] (fun v G1 => v = some (.ref (N x)) ∧ ∃ o, CE S kv ((kv x).toInt + 1) o ∧ G1 = gu G si ((25, 0), .inr (15, [.ref (N x), va_rf (o.map N), .ref (fkk Γ K f), .int mo0, .ref sm]))) 0 0 := by
  refine gMet (own := RJ31) (by decide) rfl (Nat.le_of_ble_eq_true rfl) ?_
  intro pp ee ss mm below meth cc0 ls X hr hlk hin hnm hR hS hl
  have hl : lv_has ls 2 [(0, .ref si)] := hl
  have hTM0 := hTM
  obtain ⟨L, R, P, C, lo, hi, root, sz, mo, hT, hI, hM, hB, hK⟩ := hTM0
  have hne := fkk_ne (Γ := Γ) hcf hK hx hlt (fun k hk => by obtain ⟨t1, a1, -⟩ := hK k hk; exact g_unb X hR hS a1)
  refine lv_aload_n X.hx X.hb dJ31_nextEntry_0 rfl (lv_at hl 0 rfl) ?_
  refine g_get X hR hsi rfl in_J32 1 (by decide) q959 (fun _ h => h) rfl dJ31_nextEntry_1 ?_
  refine lv_astore_n (lv' := [(1, .ref (N x)), (0, .ref si)]) X.hx X.hb dJ31_nextEntry_4 rfl hl (by decide) rfl (fun ls hl => ?_)
  refine lv_aload_n X.hx X.hb dJ31_nextEntry_5 rfl (lv_at hl 0 rfl) ?_
  refine lv_ifnull X.hx X.hb dJ31_nextEntry_6 ?_
  refine lv_aload_n X.hx X.hb dJ31_nextEntry_9 rfl (lv_at hl 0 rfl) ?_
  refine g_get (v := .ref (K x)) X hR (hT.1 x hx) rfl in_J21 0 (by decide) q614 (fun _ h => h) rfl dJ31_nextEntry_10 ?_
  refine lv_aload_n X.hx X.hb dJ31_nextEntry_13 rfl (lv_at hl 1 rfl) ?_
  refine g_get X hR hsi rfl in_J32 2 (by decide) q960 (fun _ h => h) rfl dJ31_nextEntry_14 ?_
  refine lv_acmp_ne (rx := some (K x)) (ry := some (fkk Γ K f)) (tgt := 28) X.hx X.hb dJ31_nextEntry_17 (by decide) (fun c17 => ?_) (fun c17 => ?_)
  · refine lv_aload_n X.hx X.hb dJ31_nextEntry_28 rfl (lv_at hl 1 rfl) ?_
    refine g_get X hR hsi rfl in_J32 4 (by decide) q962 (fun _ h => h) rfl dJ31_nextEntry_29 ?_
    refine g_get X hR hsm rfl in_J23 0 (by decide) q779 (fun _ h => h) rfl dJ31_nextEntry_32 ?_
    refine g_getN X hR hM0 rfl in_J9 5 (by decide) kq268 (fun _ h => h) rfl dJ31_nextEntry_35 ?_
    refine lv_aload_n X.hx X.hb dJ31_nextEntry_38 rfl (lv_at hl 1 rfl) ?_
    refine g_get X hR hsi rfl in_J32 3 (by decide) q961 (fun _ h => h) rfl dJ31_nextEntry_39 ?_
    refine lv_icmp_eq (tgt := 53) X.hx X.hb dJ31_nextEntry_42 (by decide) (fun c42 => ?_) (fun c42 => ?_)
    · refine lv_aload_n X.hx X.hb dJ31_nextEntry_53 rfl (lv_at hl 1 rfl) ?_
      refine lv_aload_n X.hx X.hb dJ31_nextEntry_54 rfl (lv_at hl 0 rfl) ?_
      refine gcS X hl.1 hR hS 1 [.ref (N x)] [.ref si] (c_succ l Γ G hTM hx) q1143 q1126 q48 q1127 rfl rfl ⟨by decide +kernel, by decide +kernel, by decide +kernel⟩ ⟨by (try dsimp only [RM]); omega, by (try dsimp only [RM]); omega⟩ rfl rfl (Nat.le_of_ble_eq_true rfl) dJ31_nextEntry_55 ⟨by (try dsimp only [RM]); omega, by (try dsimp only [RM]); omega⟩ (fun v2502 G2503 H locs hq2499 hR2500 hS2501 => ?_)
      obtain ⟨o, rfl, hce, rfl⟩ := hq2499
      refine g_put X hR2500 hS2501 hsi (Nat.le_of_ble_eq_true rfl) rfl in_J32 tyJ32 tyJ32_ok nmJ32 1 (by decide) q959 (fun _ h => h) rfl (nar_rf _ _) (fit_rf _ _) (Nat.le_of_ble_eq_true rfl) dJ31_nextEntry_58 (fun H locs hR2504 hS2505 => ?_)
      obtain ⟨G2506, hG2506⟩ : ∃ z : GH, z = gu G si ((25, 0), .inr (15, [va_rf lr, va_rf (o.map N), .ref (fkk Γ K f), .int mo0, .ref sm])) := ⟨_, rfl⟩
      have hR2504 : Rep Γ G2506 H := by rw [hG2506]; exact hR2504
      have f2507 : G2506 sm = some ((21, 0), .inr (10, [.ref a, .null, .ref ka, .int 1, .int 0, .int 1, .int 0, .null, va_rf es, .null, .null, va_rf vs])) := by rw [hG2506]; exact gu_t hsm hsi (tne rfl)
      have f2508 : G2506 a = some ((4, p), .inr (7, [.null, va_rf vw0, .null, va_rf rt, .int sz0, .int mo0, .null, .null, .null])) := by rw [hG2506]; exact gu_t hM0 hsi (tne rfl)
      have f2509 : G2506 si = some ((25, 0), .inr (15, [va_rf lr, va_rf (o.map N), .ref (fkk Γ K f), .int mo0, .ref sm])) := by rw [hG2506]; exact gu_s _ _ _
      have hT2510 := TH.off hT hG2506 hsi (by show 25 ≠ 11; decide)
      refine lv_aload_n X.hx X.hb dJ31_nextEntry_61 rfl (lv_at hl 1 rfl) ?_
      refine lv_aload_n X.hx X.hb dJ31_nextEntry_62 rfl (lv_at hl 0 rfl) ?_
      refine g_put X hR2504 hS2505 f2509 (Nat.le_of_ble_eq_true rfl) rfl in_J32 tyJ32 tyJ32_ok nmJ32 0 (by decide) q958 (fun _ h => h) rfl rfl rfl (Nat.le_of_ble_eq_true rfl) dJ31_nextEntry_63 (fun H locs hR2511 hS2512 => ?_)
      obtain ⟨G2513, hG2513⟩ : ∃ z : GH, z = gu G2506 si ((25, 0), .inr (15, [.ref (N x), va_rf (o.map N), .ref (fkk Γ K f), .int mo0, .ref sm])) := ⟨_, rfl⟩
      have hR2511 : Rep Γ G2513 H := by rw [hG2513]; exact hR2511
      have f2514 : G2513 sm = some ((21, 0), .inr (10, [.ref a, .null, .ref ka, .int 1, .int 0, .int 1, .int 0, .null, va_rf es, .null, .null, va_rf vs])) := by rw [hG2513]; exact gu_t f2507 f2509 (tne rfl)
      have f2515 : G2513 a = some ((4, p), .inr (7, [.null, va_rf vw0, .null, va_rf rt, .int sz0, .int mo0, .null, .null, .null])) := by rw [hG2513]; exact gu_t f2508 f2509 (tne rfl)
      have f2516 : G2513 si = some ((25, 0), .inr (15, [.ref (N x), va_rf (o.map N), .ref (fkk Γ K f), .int mo0, .ref sm])) := by rw [hG2513]; exact gu_s _ _ _
      have hT2517 := TH.off hT2510 hG2513 f2509 (by show 25 ≠ 11; decide)
      refine lv_aload_n X.hx X.hb dJ31_nextEntry_66 rfl (lv_at hl 0 rfl) ?_
      exact g_aretS X hr (Or.inl ⟨_, rfl⟩) hlk hR2511 hS2512 (⟨rfl, o, hce, by rw [hG2513, hG2506, gu_gu]⟩) (by (try dsimp only [RM]); omega) (by (try dsimp only [RM]); omega) dJ31_nextEntry_67
    · exact absurd rfl c42
  · exact absurd (Option.some.inj c17) hne
set_option maxHeartbeats 4000000 in
theorem c_J32next2 (l : Launch) (Γ : GP) (G : GH) {a p : Nat} {vw : Option Nat} {S : Nat → Prop} {N K V : Nat → Nat} {kv : Nat → Int32} {h : Int} (hTM : TM G a p vw S N K V kv) {x : Nat} (hx : S x) (hlt : (kv x).toInt < h) {si sm ka : Nat} {lr vw0 rt es vs f : Option Nat} {sz0 mo0 : Int32} (hsi : G si = some ((25, 0), .inr (15, [va_rf lr, .ref (N x), .ref (fkk Γ K f), .int mo0, .ref sm]))) (hsm : G sm = some (SMc a ka es vs)) (hM0 : G a = some (TMc p vw0 rt sz0 mo0)) (hcf : CE S kv h f) : MetG l yJ32_next_2 (ws_ yJ32_next_2 cJ32_next_2 1 (some (.object "java/util/Map$Entry"))) (RM 3 0 0) Γ G [.ref si] (fun v G1 => v = some (.ref (N x)) ∧ ∃ o, CE S kv ((kv x).toInt + 1) o ∧ G1 = gu G si ((25, 0), .inr (15, [.ref (N x), va_rf (o.map N), .ref (fkk Γ K f), .int mo0, .ref sm]))) 0 0 := by
  refine gMet (own := RJ32) (by decide) rfl (Nat.le_of_ble_eq_true rfl) ?_
  intro pp ee ss mm below meth cc0 ls X hr hlk hin hnm hR hS hl
  have hl : lv_has ls 1 [(0, .ref si)] := hl
  refine lv_aload_n X.hx X.hb dJ32_next_2_0 rfl (lv_at hl 0 rfl) ?_
  refine gcU X hl.1 hR hS 0 [] [] (c_J31next l Γ G hTM hx hlt hsi hsm hM0 hcf) hsi rfl q1137 q1138 q1140 q1141 q75 q1142 (va_Decl.of (X.hts _ q1141) (X.hts _ q1142)) rfl rfl ⟨by decide +kernel, by decide +kernel, by decide +kernel⟩ ⟨by (try dsimp only [RM]); omega, by (try dsimp only [RM]); omega⟩ rfl rfl (Nat.le_of_ble_eq_true rfl) dJ32_next_2_1 ⟨by (try dsimp only [RM]); omega, by (try dsimp only [RM]); omega⟩ (fun v2521 G2522 H locs hq2518 hR2519 hS2520 => ?_)
  obtain ⟨rfl, o, hce, hG⟩ := hq2518
  exact g_aretS X hr (Or.inl ⟨_, rfl⟩) hlk hR2519 hS2520 (⟨rfl, o, hce, hG⟩) (by (try dsimp only [RM]); omega) (by (try dsimp only [RM]); omega) dJ32_next_2_4
set_option maxHeartbeats 4000000 in
theorem c_J32next (l : Launch) (Γ : GP) (G : GH) {a p : Nat} {vw : Option Nat} {S : Nat → Prop} {N K V : Nat → Nat} {kv : Nat → Int32} {h : Int} (hTM : TM G a p vw S N K V kv) {x : Nat} (hx : S x) (hlt : (kv x).toInt < h) {si sm ka : Nat} {lr vw0 rt es vs f : Option Nat} {sz0 mo0 : Int32} (hsi : G si = some ((25, 0), .inr (15, [va_rf lr, .ref (N x), .ref (fkk Γ K f), .int mo0, .ref sm]))) (hsm : G sm = some (SMc a ka es vs)) (hM0 : G a = some (TMc p vw0 rt sz0 mo0)) (hcf : CE S kv h f) : MetG l yJ32_next (ws_ yJ32_next cJ32_next 1 (some (.object "java/lang/Object"))) (RM 4 0 0) Γ G [.ref si] (fun v G1 => v = some (.ref (N x)) ∧ ∃ o, CE S kv ((kv x).toInt + 1) o ∧ G1 = gu G si ((25, 0), .inr (15, [.ref (N x), va_rf (o.map N), .ref (fkk Γ K f), .int mo0, .ref sm]))) 0 0 := by
  refine gMet (own := RJ32) (by decide) rfl (Nat.le_of_ble_eq_true rfl) ?_
  intro pp ee ss mm below meth cc0 ls X hr hlk hin hnm hR hS hl
  have hl : lv_has ls 1 [(0, .ref si)] := hl
  refine lv_aload_n X.hx X.hb dJ32_next_0 rfl (lv_at hl 0 rfl) ?_
  refine gcV X hl.1 hR hS 0 [] [] (c_J32next2 l Γ G hTM hx hlt hsi hsm hM0 hcf) hsi rfl q1133 q1134 q1135 q76 q1136 rfl rfl ⟨rfl, by decide +kernel, by decide +kernel, by decide +kernel⟩ ⟨by (try dsimp only [RM]); omega, by (try dsimp only [RM]); omega⟩ rfl rfl (Nat.le_of_ble_eq_true rfl) dJ32_next_1 ⟨by (try dsimp only [RM]); omega, by (try dsimp only [RM]); omega⟩ (fun v2526 G2527 H locs hq2523 hR2524 hS2525 => ?_)
  obtain ⟨rfl, o, hce, hG⟩ := hq2523
  exact g_aretS X hr (Or.inl ⟨_, rfl⟩) hlk hR2524 hS2525 (⟨rfl, o, hce, hG⟩) (by (try dsimp only [RM]); omega) (by (try dsimp only [RM]); omega) dJ32_next_4
set_option maxHeartbeats 4000000 in
theorem c_getValue (l : Launch) (Γ : GP) (G : GH) {n k : Nat} {w0 w2 w3 w4 w5 : Value} {va : Nat} (hn : G n = some ((11, k), .inr (8, [w0, .ref va, w2, w3, w4, w5]))) : MetG l yJ21_getValue (ws_ yJ21_getValue cJ21_getValue 1 (some (.object "java/lang/Object"))) (RM 1 0 0) Γ G [.ref n] (fun v G1 => v = some (.ref va) ∧ G = G1) 0 0 := by
  refine gMet (own := RJ21) (by decide) rfl (Nat.le_of_ble_eq_true rfl) ?_
  intro pp ee ss mm below meth cc0 ls X hr hlk hin hnm hR hS hl
  have hl : lv_has ls 1 [(0, .ref n)] := hl
  refine lv_aload_n X.hx X.hb dJ21_getValue_0 rfl (lv_at hl 0 rfl) ?_
  refine g_get X hR hn rfl in_J21 1 (by decide) q617 (fun _ h => h) rfl dJ21_getValue_1 ?_
  exact g_aretS X hr (Or.inl ⟨_, rfl⟩) hlk hR hS (⟨rfl, rfl⟩) (by (try dsimp only [RM]); omega) (by (try dsimp only [RM]); omega) dJ21_getValue_4
set_option maxHeartbeats 4000000 in
theorem c_snext (l : Launch) (Γ : GP) (G : GH) {it a p : Nat} {vw : Option Nat} {S : Nat → Prop} {N K V : Nat → Nat} {kv : Nat → Int32} {h : Int} (hTM : TM G a p vw S N K V kv) {x : Nat} (hx : S x) (hlt : (kv x).toInt < h) (hSI : SI Γ G it a p S N K kv h (some x)) : MetG l yJ26_next (ws_ yJ26_next cJ26_next 1 (some (.object "java/lang/Object"))) (RM 5 0 0) Γ G [.ref it] (fun v G1 => v = some (.ref (V x)) ∧ ∃ o, CE S kv ((kv x).toInt + 1) o ∧ SI Γ G1 it a p S N K kv h o ∧ gK (fun t => t = (25, 0)) G G1) 0 0 := by
  refine gMet (own := RJ26) (by decide) rfl (Nat.le_of_ble_eq_true rfl) ?_
  intro pp ee ss mm below meth cc0 ls X hr hlk hin hnm hR hS hl
  have hl : lv_has ls 1 [(0, .ref it)] := hl
  have hSI0 := hSI
  obtain ⟨si, sm, m2, ka, lr, vw0, rt, es, vs, f, sz0, mo0, hit, hsi, hsm, hM0, hcf⟩ := hSI0
  refine lv_aload_n X.hx X.hb dJ26_next_0 rfl (lv_at hl 0 rfl) ?_
  refine g_get X hR hit rfl in_J26 0 (by decide) q1003 (fun _ h => h) rfl dJ26_next_1 ?_
  refine gcF X hl.1 hR hS 0 [] [] (c_J32next l Γ G hTM hx hlt hsi hsm hM0 hcf) hsi rfl kf18 q1100 q1128 q1130 q76 q1132 rfl rfl ⟨by decide +kernel, by decide +kernel, by decide +kernel⟩ ⟨by (try dsimp only [RM]); omega, by (try dsimp only [RM]); omega⟩ rfl rfl (Nat.le_of_ble_eq_true rfl) dJ26_next_4 ⟨by (try dsimp only [RM]); omega, by (try dsimp only [RM]); omega⟩ (fun v2531 G2532 H locs hq2528 hR2529 hS2530 => ?_)
  obtain ⟨rfl, o, hce, hG⟩ := hq2528
  have hgk : gK (fun t => t = (25, 0)) G G2532 := gK.pt hG hsi rfl
  obtain ⟨L, R, P, C, lo, hi, root, sz, mo, hT, hI, hM, hB, hK⟩ := hTM
  have hNx := hgk _ _ (hT.1 x hx) (fun h9 => by cases h9)
  refine g_castY X hR2529 hNx rfl q1152 kq1157 dJ26_next_9 ?_
  refine gcF X hl.1 hR2529 hS2530 0 [] [] (c_getValue l Γ G2532 hNx) hNx rfl kf7 q1154 q1158 q1160 q64 q1162 rfl rfl ⟨by decide +kernel, by decide +kernel, by decide +kernel⟩ ⟨by (try dsimp only [RM]); omega, by (try dsimp only [RM]); omega⟩ rfl rfl (Nat.le_of_ble_eq_true rfl) dJ26_next_12 ⟨by (try dsimp only [RM]); omega, by (try dsimp only [RM]); omega⟩ (fun v2536 G2537 H locs hq2533 hR2534 hS2535 => ?_)
  obtain ⟨rfl, rfl⟩ := hq2533
  exact g_aretS X hr (Or.inl ⟨_, rfl⟩) hlk hR2534 hS2535 (⟨rfl, o, hce, ⟨si, sm, m2, ka, some (N x), vw0, rt, es, vs, f, sz0, mo0, hgk _ _ hit (fun h9 => by cases h9), by rw [hG]; exact gu_s _ _ _, hgk _ _ hsm (fun h9 => by cases h9), hgk _ _ hM0 (fun h9 => by cases h9), hcf⟩, hgk⟩) (by (try dsimp only [RM]); omega) (by (try dsimp only [RM]); omega) dJ26_next_17
