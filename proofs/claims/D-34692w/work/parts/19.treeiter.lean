set_option maxRecDepth 100000
/-! java.util.TreeMap: values, the head map, and their iterators -/
section GA
variable {p : Program} {l : Launch} {e : Env} {R : Room} {s : State} {m : MethodId} {args : Array Value} {below : List Frame} {meth : Method} {c : Code} {H : Heap} {locs : List Loc} {cells slots : Nat} {Q : State → Prop}
variable {cc : ByteArray} {pc nL : Nat} {ls : Array Slot} {rest st0 : List Value} {Γ : GP} {G : GH} {own : String} {a : Nat} {t : Nat × Nat} {post : GPost} {px : String → GH → Prop} {mc ms : Nat}
theorem g_apartT (X : Cx p s m args c Γ cc nL own) {ci : Nat} {C : String} {T : u_T} {N : Nat} (hin : ∀ w ∈ u_ws C T N, w ∈ lw_all) (ty0 : Nat → FieldType) (hty : ∀ k, k < N → parseFieldDescriptor (T k).2.2.1 = some (ty0 k)) (hnm : ∀ a, a < N → ∀ b, b < N → a ≠ b → ((T a).2.1 ≠ (T b).2.1 ∨ ty0 a ≠ ty0 b)) (hc : CL[ci]? = some (C, T, N)) : ∀ x y, x < N → y < N → x ≠ y → (Γ.1.2 ci) x ≠ (Γ.1.2 ci) y := by
  intro x y hx hy hne
  obtain ⟨hS, -⟩ := X.hK.1 ci _ hc
  obtain ⟨_, _, _, fa, hia, ea⟩ := hS x hx
  obtain ⟨_, _, _, fb, hib, eb⟩ := hS y hy
  rw [← ea, ← eb]
  rcases hnm x hx y hy hne with h9 | h9
  · refine u_apart (u_lays X.hts hin hx) (u_lays X.hts hin hy) hia hib ?_
    rw [(State.fieldFound?_type hia (hty x hx)).1, (State.fieldFound?_type hib (hty y hy)).1]
    exact h9
  · intro e
    apply h9
    have key : ∀ {g nm e9 : String} {c1 k1 i1 x1}, ((Cond.lays C g nm e9).before args s = true ∨ (Cond.laysFinal C g nm e9).before args s = true) → s.fieldFound? g nm e9 = some (c1, k1, i1, x1) →
        ∃ cC dd, s.vm.findClass C = some cC ∧ Jmm.declares? s.vm x1.slot (cC + 1) cC = some dd ∧ dd.2.type = x1.type := by
      intro g nm e9 c1 k1 i1 x1 hl hx
      rcases hl with hl | hl
      · obtain ⟨c, k, c', k', i, f, r1, -, r3, -, -, -, -, dd, q1, -, -, q4⟩ := Cond.lays_spec hl
        cases hx.symm.trans r3
        exact ⟨c, dd, r1, q1, q4⟩
      · obtain ⟨c, k, c', k', i, f, r1, -, r3, -, -, -, -, -, dd, q1, -, -, q4⟩ := Cond.laysFinal_spec hl
        cases hx.symm.trans r3
        exact ⟨c, dd, r1, q1, q4⟩
    obtain ⟨c1, d1, a1, a2, a3⟩ := key (u_lays X.hts hin hx) hia
    obtain ⟨c2, d2, b1, b2, b3⟩ := key (u_lays X.hts hin hy) hib
    cases a1.symm.trans b1
    rw [e] at a2
    cases a2.symm.trans b2
    rw [← (State.fieldFound?_type hia (hty x hx)).2, ← (State.fieldFound?_type hib (hty y hy)).2, ← a3, ← b3]
theorem g_putA (X : Cx p s m args c Γ cc nL own) (hR : Rep Γ G H) (hS : va_S (gA Γ) s.heap H locs) {ci index : Nat} {fs : List Value} {C ref : String} {T : u_T} {N : Nat} (ha : G a = some (t, .inr (ci, fs))) (ht : t.1 < 50) (hc : CL[ci]? = some (C, T, N)) (hin : ∀ w ∈ u_ws C T N, w ∈ lw_all)
    (ty0 : Nat → FieldType) (hty : ∀ k, k < N → parseFieldDescriptor (T k).2.2.1 = some (ty0 k)) (hnm : ∀ a, a < N → ∀ b, b < N → a ≠ b → ((T a).2.1 ≠ (T b).2.1 ∨ ty0 a ≠ ty0 b)) (k : Nat) (hk : k < N)
    (hlink : Cond.fieldLink own index ref (T k).2.1 (T k).2.2.1 ∈ lw_all) (hsame : ∀ x, s.fieldFound? (T k).1 (T k).2.1 (T k).2.2.1 = some x → s.fieldFound? ref (T k).2.1 (T k).2.2.1 = some x) (hfin : (T k).2.2.2 = false) {v : Value} (hn : narrow (ty0 k) v = v) (hfit : fits (ty0 k) v = true) (hl : k < fs.length)
    (hdg : decode cc pc = .ok (.putfield index, 3)) (kk : ∀ (H1 : Heap) (locs1 : List Loc), Rep Γ (gu G a (t, .inr (ci, fs.set k v))) H1 → va_S (gA Γ) s.heap H1 locs1 → W p l e R s m args below meth c H1 locs1 cells slots Q (F0 m (pc + 3) ls rest)) : W p l e R s m args below meth c H locs cells slots Q (F0 m pc ls (v :: .ref a :: rest)) := by
  have hap := g_apartT X hin ty0 hty hnm hc
  obtain ⟨r, h1, cell, q1, q2, q3, q4⟩ := (hR a _ ha).1
  have hr : r = (C, T, N) := Option.some.inj (h1.symm.trans hc)
  subst hr
  obtain ⟨hSl, hfc, kC, hkC, hkind⟩ := X.hK.1 ci _ hc
  obtain ⟨cf, kf, fi, f, hi, hsl⟩ := hSl k hk
  have hlay := X.hts _ (hin _ (u_in_lay hk))
  unfold u_lay at hlay
  rw [if_neg (by rw [hfin]; decide)] at hlay
  have hst := (u_facts hfc hkC (u_lays X.hts hin hk) hi).1
  have h6 := u_store hfc hkC hkind hlay hi (hty k hk) hn hfit
  refine W.putK X.hx X.hb (f := f) ⟨X.hown, X.hts _ hlink, ⟨_, _, _, hsame _ hi⟩, hst⟩ (by rw [q2]; exact h6) q1 q3 (by rw [hsl]; exact k2_hasslot (q4 k hk)) rfl rfl hdg fun H' e1 e2 e3 => ?_
  rw [hsl] at e1 ⊢
  exact kk H' _ (hR.put ha ⟨_, hc, t_OB.to (V := updV (vp_V fs) k v) ⟨_, e1, q2, q3, t_set q4 hap hk v⟩ (fun j _ => vp_updV_set hl v j)⟩ e3) (hS.put e2 e3 ((hR a _ ha).2 ht))
theorem g_putFA (X : Cx p s m args c Γ cc nL own) (hR : Rep Γ G H) (hS : va_S (gA Γ) s.heap H locs) {ci index : Nat} {fs : List Value} {C ref : String} {T : u_T} {N : Nat} (ha : G a = some (t, .inr (ci, fs))) (ht : t.1 < 50) (hc : CL[ci]? = some (C, T, N)) (hin : ∀ w ∈ u_ws C T N, w ∈ lw_all)
    (ty0 : Nat → FieldType) (hty : ∀ k, k < N → parseFieldDescriptor (T k).2.2.1 = some (ty0 k)) (hnm : ∀ a, a < N → ∀ b, b < N → a ≠ b → ((T a).2.1 ≠ (T b).2.1 ∨ ty0 a ≠ ty0 b)) (k : Nat) (hk : k < N)
    (hlink : Cond.fieldLink own index ref (T k).2.1 (T k).2.2.1 ∈ lw_all) (hsame : ∀ x, s.fieldFound? (T k).1 (T k).2.1 (T k).2.2.1 = some x → s.fieldFound? ref (T k).2.1 (T k).2.2.1 = some x) (hfin : (T k).2.2.2 = true) (hin2 : meth.name = "<init>") (hdecl : (T k).1 = own) {v : Value} (hn : narrow (ty0 k) v = v) (hfit : fits (ty0 k) v = true) (hl : k < fs.length)
    (hdg : decode cc pc = .ok (.putfield index, 3)) (kk : ∀ (H1 : Heap) (locs1 : List Loc), Rep Γ (gu G a (t, .inr (ci, fs.set k v))) H1 → va_S (gA Γ) s.heap H1 locs1 → W p l e R s m args below meth c H1 locs1 cells slots Q (F0 m (pc + 3) ls rest)) : W p l e R s m args below meth c H locs cells slots Q (F0 m pc ls (v :: .ref a :: rest)) := by
  have hap := g_apartT X hin ty0 hty hnm hc
  obtain ⟨r, h1, cell, q1, q2, q3, q4⟩ := (hR a _ ha).1
  have hr : r = (C, T, N) := Option.some.inj (h1.symm.trans hc)
  subst hr
  obtain ⟨hSl, hfc, kC, hkC, hkind⟩ := X.hK.1 ci _ hc
  obtain ⟨cf, kf, fi, f, hi, hsl⟩ := hSl k hk
  have hlay := X.hts _ (hin _ (u_in_lay hk))
  unfold u_lay at hlay
  rw [if_pos hfin] at hlay
  have hst := (u_facts hfc hkC (u_lays X.hts hin hk) hi).1
  have hcf : m.cls = cf := by
    obtain ⟨_, _, c', _, _, _, -, -, hf', -, -, -, hown2, -⟩ := Cond.laysFinal_spec hlay
    have e1 : c' = cf := by have := hi.symm.trans hf'; simp at this; exact this.1.symm
    rw [hdecl] at hown2
    rw [← e1]; exact Option.some.inj (X.hown.symm.trans hown2)
  have h6 := u_fits hfc hkC hkind (Or.inr hlay) hi (hty k hk) hn hfit
  refine W.putFinK X.hx X.hb X.hown (X.hts _ hlink) (hsame _ hi) hst hcf hin2 (by rw [q2]; exact h6) q1 q3 (by rw [hsl]; exact k2_hasslot (q4 k hk)) rfl rfl hdg fun H' e1 e2 e3 => ?_
  rw [hsl] at e1 ⊢
  exact kk H' _ (hR.put ha ⟨_, hc, t_OB.to (V := updV (vp_V fs) k v) ⟨_, e1, q2, q3, t_set q4 hap hk v⟩ (fun j _ => vp_updV_set hl v j)⟩ e3) (hS.put e2 e3 ((hR a _ ha).2 ht))
/-- the mark UNBOUNDED is no box -/
theorem g_unb (X : Cx p s m args c Γ cc nL own) (hR : Rep Γ G H) (hS : va_S (gA Γ) s.heap H locs) {ka : Nat} {t : Nat × Nat} {v : Int32} (h : G ka = some (t, .inr (9, [.int v]))) : ka ≠ Γ.2 7 := by
  intro e
  subst e
  obtain ⟨cell, e1, e2, e3⟩ := g_recv X hR h (q := (RJ20, TJ20, 1)) rfl
  obtain ⟨cell0, f1, f2, f3, f4⟩ := X.hZ.2.2.2.2.2.1
  have hlt := (Array.getElem?_eq_some_iff.mp f1).1
  rw [hS.2.1 _ hlt f4, f1] at e1
  cases e1
  obtain ⟨k1, hk1, hn1⟩ := Vm.findClass_spec e3
  obtain ⟨k2, hk2, hn2⟩ := Vm.findClass_spec f3
  cases hk1.symm.trans hk2
  exact absurd (hn1.symm.trans hn2) (by decide)
end GA
theorem nm2J30 : ∀ a, a < 4 → ∀ b, b < 4 → a ≠ b → ((TJ30 a).2.1 ≠ (TJ30 b).2.1 ∨ tyJ30 a ≠ tyJ30 b) := by decide +kernel

set_option maxHeartbeats 4000000 in
theorem c_J8i (l : Launch) (Γ : GP) (G : GH) {a : Nat} : MetG l yJ8_init (ws_ yJ8_init cJ8_init 1 none) (RM 2 0 0) Γ G [.ref a] (fun v G1 => v = none ∧ G = G1) 0 0 := by
  refine gMet (own := RJ8) (by decide) rfl (Nat.le_of_ble_eq_true rfl) ?_
  intro pp ee ss mm below meth cc0 ls X hr hlk hin hnm hR hS hl
  have hl : lv_has ls 1 [(0, .ref a)] := hl
  refine lv_aload_n X.hx X.hb dJ8_init_0 rfl (lv_at hl 0 rfl) ?_
  refine W.objInit X.hx X.hb X.hown (X.hts _ q262) (X.hts _ q87) (X.hts _ q88) rfl (by rw [X.hml]; exact hl.1) rfl dJ8_init_1 (Nat.le_of_ble_eq_true rfl) (Nat.le_of_ble_eq_true rfl) ?_
  refine W.eq (g2 := F0 mm 4 ls []) rfl ?_
  exact g_vret X hr hlk hR hS (⟨rfl, rfl⟩) (by (try dsimp only [RM]); omega) (by (try dsimp only [RM]); omega) dJ8_init_4

set_option maxHeartbeats 4000000 in
theorem c_J9i (l : Launch) (Γ : GP) (G : GH) {a p : Nat} (hM : G a = some ((4, p), .inr (7, [.null, .null, .null, .null, .int 0, .int 0, .null, .null, .null]))) : MetG l yJ9_init (ws_ yJ9_init cJ9_init 1 none) (RM 3 0 0) Γ G [.ref a] (fun v G1 => v = none ∧ G1 = gu G a ((4, p), .inr (7, [.null, .null, .null, .null, .int 0, .int 0, .null, .null, .null]))) 0 0 := by
  refine gMet (own := RJ9) (by decide) rfl (Nat.le_of_ble_eq_true rfl) ?_
  intro pp ee ss mm below meth cc0 ls X hr hlk hin hnm hR hS hl
  have hl : lv_has ls 1 [(0, .ref a)] := hl
  refine lv_aload_n X.hx X.hb dJ9_init_0 rfl (lv_at hl 0 rfl) ?_
  refine gcI X hl.1 hR hS 0 [] [] (c_J8i l Γ G) q259 q260 q47 q261 rfl rfl rfl ⟨by decide +kernel, by decide +kernel, by decide +kernel⟩ ⟨by (try dsimp only [RM]); omega, by (try dsimp only [RM]); omega⟩ rfl rfl (Nat.le_of_ble_eq_true rfl) dJ9_init_1 ⟨by (try dsimp only [RM]); omega, by (try dsimp only [RM]); omega⟩ (fun v2020 G2021 H locs hq2017 hR2018 hS2019 => ?_)
  obtain ⟨rfl, rfl⟩ := hq2017
  refine lv_aload_n X.hx X.hb dJ9_init_4 rfl (lv_at hl 0 rfl) ?_
  refine lv_iconst (v := 0) X.hx X.hb dJ9_init_5 (by decide) ?_
  refine g_put X hR2018 hS2019 hM (Nat.le_of_ble_eq_true rfl) rfl in_J9 tyJ9 tyJ9_ok nmJ9 4 (by decide) q265 (fun _ h => h) rfl rfl rfl (Nat.le_of_ble_eq_true rfl) dJ9_init_6 (fun H locs hR2022 hS2023 => ?_)
  obtain ⟨G2024, hG2024⟩ : ∃ z : GH, z = gu G a ((4, p), .inr (7, [.null, .null, .null, .null, .int 0, .int 0, .null, .null, .null])) := ⟨_, rfl⟩
  have hR2022 : Rep Γ G2024 H := by rw [hG2024]; exact hR2022
  have f2025 : G2024 a = some ((4, p), .inr (7, [.null, .null, .null, .null, .int 0, .int 0, .null, .null, .null])) := by rw [hG2024]; exact gu_s _ _ _
  refine lv_aload_n X.hx X.hb dJ9_init_9 rfl (lv_at hl 0 rfl) ?_
  refine lv_iconst (v := 0) X.hx X.hb dJ9_init_10 (by decide) ?_
  refine g_put X hR2022 hS2023 f2025 (Nat.le_of_ble_eq_true rfl) rfl in_J9 tyJ9 tyJ9_ok nmJ9 5 (by decide) q266 (fun _ h => h) rfl rfl rfl (Nat.le_of_ble_eq_true rfl) dJ9_init_11 (fun H locs hR2026 hS2027 => ?_)
  obtain ⟨G2028, hG2028⟩ : ∃ z : GH, z = gu G2024 a ((4, p), .inr (7, [.null, .null, .null, .null, .int 0, .int 0, .null, .null, .null])) := ⟨_, rfl⟩
  have hR2026 : Rep Γ G2028 H := by rw [hG2028]; exact hR2026
  have f2029 : G2028 a = some ((4, p), .inr (7, [.null, .null, .null, .null, .int 0, .int 0, .null, .null, .null])) := by rw [hG2028]; exact gu_s _ _ _
  refine lv_aload_n X.hx X.hb dJ9_init_14 rfl (lv_at hl 0 rfl) ?_
  refine lv_null X.hx X.hb dJ9_init_15 ?_
  refine g_putF X hR2026 hS2027 f2029 (Nat.le_of_ble_eq_true rfl) rfl in_J9 tyJ9 tyJ9_ok nmJ9 2 (by decide) q263 (fun _ h => h) rfl hin rfl rfl rfl (Nat.le_of_ble_eq_true rfl) dJ9_init_16 (fun H locs hR2030 hS2031 => ?_)
  obtain ⟨G2032, hG2032⟩ : ∃ z : GH, z = gu G2028 a ((4, p), .inr (7, [.null, .null, .null, .null, .int 0, .int 0, .null, .null, .null])) := ⟨_, rfl⟩
  have hR2030 : Rep Γ G2032 H := by rw [hG2032]; exact hR2030
  have f2033 : G2032 a = some ((4, p), .inr (7, [.null, .null, .null, .null, .int 0, .int 0, .null, .null, .null])) := by rw [hG2032]; exact gu_s _ _ _
  exact g_vret X hr hlk hR2030 hS2031 (⟨rfl, by rw [hG2032, hG2028, hG2024, gu_gu, gu_gu]⟩) (by (try dsimp only [RM]); omega) (by (try dsimp only [RM]); omega) dJ9_init_19

set_option maxHeartbeats 4000000 in
theorem c_J24i (l : Launch) (Γ : GP) (G : GH) {b a p : Nat} (hb : G b = some ((5, p), .inr (11, [.null]))) : MetG l yJ24_init (ws_ yJ24_init cJ24_init 2 none) (RM 3 0 0) Γ G [.ref b, .ref a] (fun v G1 => v = none ∧ G1 = gu G b ((5, p), .inr (11, [.ref a]))) 0 0 := by
  refine gMet (own := RJ24) (by decide) rfl (Nat.le_of_ble_eq_true rfl) ?_
  intro pp ee ss mm below meth cc0 ls X hr hlk hin hnm hR hS hl
  have hl : lv_has ls 2 [(0, .ref b), (1, .ref a)] := hl
  refine lv_aload_n X.hx X.hb dJ24_init_0 rfl (lv_at hl 0 rfl) ?_
  refine lv_aload_n X.hx X.hb dJ24_init_1 rfl (lv_at hl 1 rfl) ?_
  refine g_putF X hR hS hb (Nat.le_of_ble_eq_true rfl) rfl in_J24 tyJ24 tyJ24_ok nmJ24 0 (by decide) q828 (fun _ h => h) rfl hin rfl rfl rfl (Nat.le_of_ble_eq_true rfl) dJ24_init_2 (fun H locs hR2034 hS2035 => ?_)
  obtain ⟨G2036, hG2036⟩ : ∃ z : GH, z = gu G b ((5, p), .inr (11, [.ref a])) := ⟨_, rfl⟩
  have hR2034 : Rep Γ G2036 H := by rw [hG2036]; exact hR2034
  have f2037 : G2036 b = some ((5, p), .inr (11, [.ref a])) := by rw [hG2036]; exact gu_s _ _ _
  refine lv_aload_n X.hx X.hb dJ24_init_5 rfl (lv_at hl 0 rfl) ?_
  refine gcI X hl.1 hR2034 hS2035 0 [] [] (c_J0i l Γ G2036) q827 q98 q37 q99 rfl rfl rfl ⟨by decide +kernel, by decide +kernel, by decide +kernel⟩ ⟨by (try dsimp only [RM]); omega, by (try dsimp only [RM]); omega⟩ rfl rfl (Nat.le_of_ble_eq_true rfl) dJ24_init_6 ⟨by (try dsimp only [RM]); omega, by (try dsimp only [RM]); omega⟩ (fun v2041 G2042 H locs hq2038 hR2039 hS2040 => ?_)
  obtain ⟨rfl, rfl⟩ := hq2038
  exact g_vret X hr hlk hR2039 hS2040 (⟨rfl, by rw [hG2036]⟩) (by (try dsimp only [RM]); omega) (by (try dsimp only [RM]); omega) dJ24_init_9

set_option maxHeartbeats 4000000 in
theorem c_valN (l : Launch) (Γ : GP) (G : GH) {a p : Nat} {rt : Option Nat} {sz mo : Int32} (hM : G a = some (TMc p none rt sz mo)) : MetG l yJ9_values (ws_ yJ9_values cJ9_values 2 (some (.object "java/util/Collection"))) (RM 4 1 1) Γ G [.ref a] (fun v G1 => ∃ b, v = some (.ref b) ∧ G1 b = some ((5, p), .inr (11, [.ref a])) ∧ G1 a = some (TMc p (some b) rt sz mo) ∧ gK (fun t => t = (4, p) ∨ t = (5, p)) G G1) 1 1 := by
  refine gMet (own := RJ9) (by decide) rfl (Nat.le_of_ble_eq_true rfl) ?_
  intro pp ee ss mm below meth cc0 ls X hr hlk hin hnm hR hS hl
  have hl : lv_has ls 2 [(0, .ref a)] := hl
  refine lv_aload_n X.hx X.hb dJ9_values_0 rfl (lv_at hl 0 rfl) ?_
  refine g_get X hR hM rfl in_J9 1 (by decide) q271 (fun x h => u_same (X.hts _ q272) x h) rfl dJ9_values_1 ?_
  refine lv_astore_nN (lv' := [(1, .null), (0, .ref a)]) X.hx X.hb dJ9_values_4 rfl hl (by decide) rfl (fun ls hl => ?_)
  refine lv_aload_nN X.hx X.hb dJ9_values_5 rfl (lv_at hl 0 rfl) ?_
  refine lv_ifnonnullN X.hx X.hb dJ9_values_6 ?_
  refine g_new (ci := 11) X hR hS (5, p) (C := RJ24) (T := TJ24) (N := 1) rfl in_J24 tyJ24 tyJ24_ok q822 q823 q68 (fs := [.null]) (fun j hj => by rcases (show j = 0 by omega) with rfl <;> rfl) (by (try dsimp only [RM]); omega) (by (try dsimp only [RM]); omega) dJ9_values_9 (fun q2043 H hq2045 hR2044 hS2046 => ?_)
  obtain ⟨G2047, hG2047⟩ : ∃ z : GH, z = gu G q2043 ((5, p), .inr (11, [.null])) := ⟨_, rfl⟩
  have hR2044 : Rep Γ G2047 H := by rw [hG2047]; exact hR2044
  have f2048 : G2047 a = some ((4, p), .inr (7, [.null, .null, .null, va_rf rt, .int sz, .int mo, .null, .null, .null])) := by rw [hG2047]; exact gu_f hM hq2045
  have f2049 : G2047 q2043 = some ((5, p), .inr (11, [.null])) := by rw [hG2047]; exact gu_s _ _ _
  refine lv_dup X.hx X.hb dJ9_values_12 rfl ?_
  refine lv_aload_n X.hx X.hb dJ9_values_13 rfl (lv_at hl 1 rfl) ?_
  refine gcI X hl.1 hR2044 hS2046 1 [.ref a] [.ref q2043] (c_J24i l Γ G2047 f2049) q824 q825 q68 q826 rfl rfl rfl ⟨by decide +kernel, by decide +kernel, by decide +kernel⟩ ⟨by (try dsimp only [RM]); omega, by (try dsimp only [RM]); omega⟩ rfl rfl (Nat.le_of_ble_eq_true rfl) dJ9_values_14 ⟨by (try dsimp only [RM]); omega, by (try dsimp only [RM]); omega⟩ (fun v2054 G2055 H locs hq2051 hR2052 hS2053 => ?_)
  obtain ⟨rfl, hG2050⟩ := hq2051
  have f2056 : G2055 a = some ((4, p), .inr (7, [.null, .null, .null, va_rf rt, .int sz, .int mo, .null, .null, .null])) := by rw [hG2050]; exact (gu_n (fne hM hq2045)).trans f2048
  have f2057 : G2055 q2043 = some ((5, p), .inr (11, [.ref a])) := by rw [hG2050]; exact gu_s _ _ _
  refine lv_astore_n (lv' := [(1, .ref q2043), (0, .ref a)]) X.hx X.hb dJ9_values_17 rfl hl (by decide) rfl (fun ls hl => ?_)
  refine lv_aload_n X.hx X.hb dJ9_values_18 rfl (lv_at hl 1 rfl) ?_
  refine lv_aload_n X.hx X.hb dJ9_values_19 rfl (lv_at hl 0 rfl) ?_
  refine g_put X hR2052 hS2053 f2056 (Nat.le_of_ble_eq_true rfl) rfl in_J9 tyJ9 tyJ9_ok nmJ9 1 (by decide) q271 (fun x h => u_same (X.hts _ q272) x h) rfl rfl rfl (Nat.le_of_ble_eq_true rfl) dJ9_values_20 (fun H locs hR2058 hS2059 => ?_)
  obtain ⟨G2060, hG2060⟩ : ∃ z : GH, z = gu G2055 a ((4, p), .inr (7, [.null, .ref q2043, .null, va_rf rt, .int sz, .int mo, .null, .null, .null])) := ⟨_, rfl⟩
  have hR2058 : Rep Γ G2060 H := by rw [hG2060]; exact hR2058
  have f2061 : G2060 q2043 = some ((5, p), .inr (11, [.ref a])) := by rw [hG2060]; exact (gu_n (Ne.symm (fne hM hq2045))).trans f2057
  have f2062 : G2060 a = some ((4, p), .inr (7, [.null, .ref q2043, .null, va_rf rt, .int sz, .int mo, .null, .null, .null])) := by rw [hG2060]; exact gu_s _ _ _
  refine lv_aload_n X.hx X.hb dJ9_values_23 rfl (lv_at hl 0 rfl) ?_
  exact g_aretS X hr (Or.inl ⟨_, rfl⟩) hlk hR2058 hS2059 (⟨_, rfl, f2061, f2062, (gK.tr (gK.tr (gK.nw hG2047 hq2045) (gK.pt hG2050 f2049 (Or.inr rfl))) (gK.pt hG2060 f2056 (Or.inl rfl)))⟩) (by (try dsimp only [RM]); omega) (by (try dsimp only [RM]); omega) dJ9_values_24

set_option maxHeartbeats 4000000 in
theorem c_valS (l : Launch) (Γ : GP) (G : GH) {a p b : Nat} {rt : Option Nat} {sz mo : Int32} (hM : G a = some (TMc p (some b) rt sz mo)) : MetG l yJ9_values (ws_ yJ9_values cJ9_values 2 (some (.object "java/util/Collection"))) (RM 4 0 0) Γ G [.ref a] (fun v G1 => v = some (.ref b) ∧ G = G1) 0 0 := by
  refine gMet (own := RJ9) (by decide) rfl (Nat.le_of_ble_eq_true rfl) ?_
  intro pp ee ss mm below meth cc0 ls X hr hlk hin hnm hR hS hl
  have hl : lv_has ls 2 [(0, .ref a)] := hl
  refine lv_aload_n X.hx X.hb dJ9_values_0 rfl (lv_at hl 0 rfl) ?_
  refine g_get X hR hM rfl in_J9 1 (by decide) q271 (fun x h => u_same (X.hts _ q272) x h) rfl dJ9_values_1 ?_
  refine lv_astore_n (lv' := [(1, .ref b), (0, .ref a)]) X.hx X.hb dJ9_values_4 rfl hl (by decide) rfl (fun ls hl => ?_)
  refine lv_aload_n X.hx X.hb dJ9_values_5 rfl (lv_at hl 0 rfl) ?_
  refine lv_ifnonnull (tgt := 23) X.hx X.hb dJ9_values_6 (by decide) ?_
  refine lv_aload_n X.hx X.hb dJ9_values_23 rfl (lv_at hl 0 rfl) ?_
  exact g_aretS X hr (Or.inl ⟨_, rfl⟩) hlk hR hS (⟨rfl, rfl⟩) (by (try dsimp only [RM]); omega) (by (try dsimp only [RM]); omega) dJ9_values_24

set_option maxHeartbeats 4000000 in
theorem c_J33iS (l : Launch) (Γ : GP) (G : GH) {a p : Nat} {vw rt : Option Nat} {sz mo : Int32} (hM : G a = some (TMc p vw rt sz mo)) {it : Nat} (hit : G it = some ((26, 0), .inr (16, [.null, .null, .int 0, .null]))) {e0 : Nat} : MetG l yJ33_init (ws_ yJ33_init cJ33_init 3 none) (RM 2 0 0) Γ G [.ref it, .ref a, .ref e0] (fun v G1 => v = none ∧ G1 = gu G it ((26, 0), .inr (16, [.ref e0, .null, .int mo, .ref a]))) 0 0 := by
  refine gMet (own := RJ33) (by decide) rfl (Nat.le_of_ble_eq_true rfl) ?_
  intro pp ee ss mm below meth cc0 ls X hr hlk hin hnm hR hS hl
  have hl : lv_has ls 3 [(0, .ref it), (1, .ref a), (2, .ref e0)] := hl
  refine lv_aload_n X.hx X.hb dJ33_init_0 rfl (lv_at hl 0 rfl) ?_
  refine lv_aload_n X.hx X.hb dJ33_init_1 rfl (lv_at hl 1 rfl) ?_
  refine g_putF X hR hS hit (Nat.le_of_ble_eq_true rfl) rfl in_J36 tyJ36 tyJ36_ok nmJ36 3 (by decide) q993 (fun _ h => h) rfl hin rfl rfl rfl (Nat.le_of_ble_eq_true rfl) dJ33_init_2 (fun H locs hR2063 hS2064 => ?_)
  obtain ⟨G2065, hG2065⟩ : ∃ z : GH, z = gu G it ((26, 0), .inr (16, [.null, .null, .int 0, .ref a])) := ⟨_, rfl⟩
  have hR2063 : Rep Γ G2065 H := by rw [hG2065]; exact hR2063
  have f2066 : G2065 a = some ((4, p), .inr (7, [.null, va_rf vw, .null, va_rf rt, .int sz, .int mo, .null, .null, .null])) := by rw [hG2065]; exact gu_t hM hit (tne rfl)
  have f2067 : G2065 it = some ((26, 0), .inr (16, [.null, .null, .int 0, .ref a])) := by rw [hG2065]; exact gu_s _ _ _
  refine lv_aload_n X.hx X.hb dJ33_init_5 rfl (lv_at hl 0 rfl) ?_
  refine W.objInit X.hx X.hb X.hown (X.hts _ q989) (X.hts _ q87) (X.hts _ q88) rfl (by rw [X.hml]; exact hl.1) rfl dJ33_init_6 (Nat.le_of_ble_eq_true rfl) (Nat.le_of_ble_eq_true rfl) ?_
  refine W.eq (g2 := F0 mm 9 ls []) rfl ?_
  refine lv_aload_n X.hx X.hb dJ33_init_9 rfl (lv_at hl 0 rfl) ?_
  refine lv_aload_n X.hx X.hb dJ33_init_10 rfl (lv_at hl 1 rfl) ?_
  refine g_getN X hR2063 f2066 rfl in_J9 5 (by decide) kq267 (fun _ h => h) rfl dJ33_init_11 ?_
  refine g_put X hR2063 hS2064 f2067 (Nat.le_of_ble_eq_true rfl) rfl in_J36 tyJ36 tyJ36_ok nmJ36 2 (by decide) q992 (fun _ h => h) rfl rfl rfl (Nat.le_of_ble_eq_true rfl) dJ33_init_14 (fun H locs hR2068 hS2069 => ?_)
  obtain ⟨G2070, hG2070⟩ : ∃ z : GH, z = gu G2065 it ((26, 0), .inr (16, [.null, .null, .int mo, .ref a])) := ⟨_, rfl⟩
  have hR2068 : Rep Γ G2070 H := by rw [hG2070]; exact hR2068
  have f2071 : G2070 a = some ((4, p), .inr (7, [.null, va_rf vw, .null, va_rf rt, .int sz, .int mo, .null, .null, .null])) := by rw [hG2070]; exact gu_t f2066 f2067 (tne rfl)
  have f2072 : G2070 it = some ((26, 0), .inr (16, [.null, .null, .int mo, .ref a])) := by rw [hG2070]; exact gu_s _ _ _
  refine lv_aload_n X.hx X.hb dJ33_init_17 rfl (lv_at hl 0 rfl) ?_
  refine lv_null X.hx X.hb dJ33_init_18 ?_
  refine g_put X hR2068 hS2069 f2072 (Nat.le_of_ble_eq_true rfl) rfl in_J36 tyJ36 tyJ36_ok nmJ36 1 (by decide) q991 (fun _ h => h) rfl rfl rfl (Nat.le_of_ble_eq_true rfl) dJ33_init_19 (fun H locs hR2073 hS2074 => ?_)
  obtain ⟨G2075, hG2075⟩ : ∃ z : GH, z = gu G2070 it ((26, 0), .inr (16, [.null, .null, .int mo, .ref a])) := ⟨_, rfl⟩
  have hR2073 : Rep Γ G2075 H := by rw [hG2075]; exact hR2073
  have f2076 : G2075 a = some ((4, p), .inr (7, [.null, va_rf vw, .null, va_rf rt, .int sz, .int mo, .null, .null, .null])) := by rw [hG2075]; exact gu_t f2071 f2072 (tne rfl)
  have f2077 : G2075 it = some ((26, 0), .inr (16, [.null, .null, .int mo, .ref a])) := by rw [hG2075]; exact gu_s _ _ _
  refine lv_aload_n X.hx X.hb dJ33_init_22 rfl (lv_at hl 0 rfl) ?_
  refine lv_aload_n X.hx X.hb dJ33_init_23 rfl (lv_at hl 2 rfl) ?_
  refine g_put X hR2073 hS2074 f2077 (Nat.le_of_ble_eq_true rfl) rfl in_J36 tyJ36 tyJ36_ok nmJ36 0 (by decide) q990 (fun _ h => h) rfl rfl rfl (Nat.le_of_ble_eq_true rfl) dJ33_init_24 (fun H locs hR2078 hS2079 => ?_)
  obtain ⟨G2080, hG2080⟩ : ∃ z : GH, z = gu G2075 it ((26, 0), .inr (16, [.ref e0, .null, .int mo, .ref a])) := ⟨_, rfl⟩
  have hR2078 : Rep Γ G2080 H := by rw [hG2080]; exact hR2078
  have f2081 : G2080 a = some ((4, p), .inr (7, [.null, va_rf vw, .null, va_rf rt, .int sz, .int mo, .null, .null, .null])) := by rw [hG2080]; exact gu_t f2076 f2077 (tne rfl)
  have f2082 : G2080 it = some ((26, 0), .inr (16, [.ref e0, .null, .int mo, .ref a])) := by rw [hG2080]; exact gu_s _ _ _
  exact g_vret X hr hlk hR2078 hS2079 (⟨rfl, by rw [hG2080, hG2075, hG2070, hG2065, gu_gu, gu_gu, gu_gu]⟩) (by (try dsimp only [RM]); omega) (by (try dsimp only [RM]); omega) dJ33_init_27

set_option maxHeartbeats 4000000 in
theorem c_J36iS (l : Launch) (Γ : GP) (G : GH) {a p : Nat} {vw rt : Option Nat} {sz mo : Int32} (hM : G a = some (TMc p vw rt sz mo)) {it : Nat} (hit : G it = some ((26, 0), .inr (16, [.null, .null, .int 0, .null]))) {e0 : Nat} : MetG l yJ36_init (ws_ yJ36_init cJ36_init 3 none) (RM 3 0 0) Γ G [.ref it, .ref a, .ref e0] (fun v G1 => v = none ∧ G1 = gu G it ((26, 0), .inr (16, [.ref e0, .null, .int mo, .ref a]))) 0 0 := by
  refine gMet (own := RJ36) (by decide) rfl (Nat.le_of_ble_eq_true rfl) ?_
  intro pp ee ss mm below meth cc0 ls X hr hlk hin hnm hR hS hl
  have hl : lv_has ls 3 [(0, .ref it), (1, .ref a), (2, .ref e0)] := hl
  refine lv_aload_n X.hx X.hb dJ36_init_0 rfl (lv_at hl 0 rfl) ?_
  refine lv_aload_n X.hx X.hb dJ36_init_1 rfl (lv_at hl 1 rfl) ?_
  refine lv_aload_n X.hx X.hb dJ36_init_2 rfl (lv_at hl 2 rfl) ?_
  refine gcI X hl.1 hR hS 2 [.ref a, .ref e0] [] (c_J33iS l Γ G hM hit) q1051 q987 q77 q988 rfl rfl rfl ⟨by decide +kernel, by decide +kernel, by decide +kernel⟩ ⟨by (try dsimp only [RM]); omega, by (try dsimp only [RM]); omega⟩ rfl rfl (Nat.le_of_ble_eq_true rfl) dJ36_init_3 ⟨by (try dsimp only [RM]); omega, by (try dsimp only [RM]); omega⟩ (fun v2087 G2088 H locs hq2084 hR2085 hS2086 => ?_)
  obtain ⟨rfl, hG2083⟩ := hq2084
  have f2089 : G2088 a = some ((4, p), .inr (7, [.null, va_rf vw, .null, va_rf rt, .int sz, .int mo, .null, .null, .null])) := by rw [hG2083]; exact gu_t hM hit (tne rfl)
  have f2090 : G2088 it = some ((26, 0), .inr (16, [.ref e0, .null, .int mo, .ref a])) := by rw [hG2083]; exact gu_s _ _ _
  exact g_vret X hr hlk hR2085 hS2086 (⟨rfl, by rw [hG2083]⟩) (by (try dsimp only [RM]); omega) (by (try dsimp only [RM]); omega) dJ36_init_6

set_option maxHeartbeats 4000000 in
theorem c_J33iN (l : Launch) (Γ : GP) (G : GH) {a p : Nat} {vw rt : Option Nat} {sz mo : Int32} (hM : G a = some (TMc p vw rt sz mo)) {it : Nat} (hit : G it = some ((26, 0), .inr (16, [.null, .null, .int 0, .null]))) : MetG l yJ33_init (ws_ yJ33_init cJ33_init 3 none) (RM 2 0 0) Γ G [.ref it, .ref a, .null] (fun v G1 => v = none ∧ G1 = gu G it ((26, 0), .inr (16, [.null, .null, .int mo, .ref a]))) 0 0 := by
  refine gMet (own := RJ33) (by decide) rfl (Nat.le_of_ble_eq_true rfl) ?_
  intro pp ee ss mm below meth cc0 ls X hr hlk hin hnm hR hS hl
  have hl : lv_has ls 3 [(0, .ref it), (1, .ref a), (2, .null)] := hl
  refine lv_aload_n X.hx X.hb dJ33_init_0 rfl (lv_at hl 0 rfl) ?_
  refine lv_aload_n X.hx X.hb dJ33_init_1 rfl (lv_at hl 1 rfl) ?_
  refine g_putF X hR hS hit (Nat.le_of_ble_eq_true rfl) rfl in_J36 tyJ36 tyJ36_ok nmJ36 3 (by decide) q993 (fun _ h => h) rfl hin rfl rfl rfl (Nat.le_of_ble_eq_true rfl) dJ33_init_2 (fun H locs hR2091 hS2092 => ?_)
  obtain ⟨G2093, hG2093⟩ : ∃ z : GH, z = gu G it ((26, 0), .inr (16, [.null, .null, .int 0, .ref a])) := ⟨_, rfl⟩
  have hR2091 : Rep Γ G2093 H := by rw [hG2093]; exact hR2091
  have f2094 : G2093 a = some ((4, p), .inr (7, [.null, va_rf vw, .null, va_rf rt, .int sz, .int mo, .null, .null, .null])) := by rw [hG2093]; exact gu_t hM hit (tne rfl)
  have f2095 : G2093 it = some ((26, 0), .inr (16, [.null, .null, .int 0, .ref a])) := by rw [hG2093]; exact gu_s _ _ _
  refine lv_aload_n X.hx X.hb dJ33_init_5 rfl (lv_at hl 0 rfl) ?_
  refine W.objInit X.hx X.hb X.hown (X.hts _ q989) (X.hts _ q87) (X.hts _ q88) rfl (by rw [X.hml]; exact hl.1) rfl dJ33_init_6 (Nat.le_of_ble_eq_true rfl) (Nat.le_of_ble_eq_true rfl) ?_
  refine W.eq (g2 := F0 mm 9 ls []) rfl ?_
  refine lv_aload_n X.hx X.hb dJ33_init_9 rfl (lv_at hl 0 rfl) ?_
  refine lv_aload_n X.hx X.hb dJ33_init_10 rfl (lv_at hl 1 rfl) ?_
  refine g_getN X hR2091 f2094 rfl in_J9 5 (by decide) kq267 (fun _ h => h) rfl dJ33_init_11 ?_
  refine g_put X hR2091 hS2092 f2095 (Nat.le_of_ble_eq_true rfl) rfl in_J36 tyJ36 tyJ36_ok nmJ36 2 (by decide) q992 (fun _ h => h) rfl rfl rfl (Nat.le_of_ble_eq_true rfl) dJ33_init_14 (fun H locs hR2096 hS2097 => ?_)
  obtain ⟨G2098, hG2098⟩ : ∃ z : GH, z = gu G2093 it ((26, 0), .inr (16, [.null, .null, .int mo, .ref a])) := ⟨_, rfl⟩
  have hR2096 : Rep Γ G2098 H := by rw [hG2098]; exact hR2096
  have f2099 : G2098 a = some ((4, p), .inr (7, [.null, va_rf vw, .null, va_rf rt, .int sz, .int mo, .null, .null, .null])) := by rw [hG2098]; exact gu_t f2094 f2095 (tne rfl)
  have f2100 : G2098 it = some ((26, 0), .inr (16, [.null, .null, .int mo, .ref a])) := by rw [hG2098]; exact gu_s _ _ _
  refine lv_aload_n X.hx X.hb dJ33_init_17 rfl (lv_at hl 0 rfl) ?_
  refine lv_null X.hx X.hb dJ33_init_18 ?_
  refine g_put X hR2096 hS2097 f2100 (Nat.le_of_ble_eq_true rfl) rfl in_J36 tyJ36 tyJ36_ok nmJ36 1 (by decide) q991 (fun _ h => h) rfl rfl rfl (Nat.le_of_ble_eq_true rfl) dJ33_init_19 (fun H locs hR2101 hS2102 => ?_)
  obtain ⟨G2103, hG2103⟩ : ∃ z : GH, z = gu G2098 it ((26, 0), .inr (16, [.null, .null, .int mo, .ref a])) := ⟨_, rfl⟩
  have hR2101 : Rep Γ G2103 H := by rw [hG2103]; exact hR2101
  have f2104 : G2103 a = some ((4, p), .inr (7, [.null, va_rf vw, .null, va_rf rt, .int sz, .int mo, .null, .null, .null])) := by rw [hG2103]; exact gu_t f2099 f2100 (tne rfl)
  have f2105 : G2103 it = some ((26, 0), .inr (16, [.null, .null, .int mo, .ref a])) := by rw [hG2103]; exact gu_s _ _ _
  refine lv_aload_n X.hx X.hb dJ33_init_22 rfl (lv_at hl 0 rfl) ?_
  refine lv_aload_nN X.hx X.hb dJ33_init_23 rfl (lv_at hl 2 rfl) ?_
  refine g_put X hR2101 hS2102 f2105 (Nat.le_of_ble_eq_true rfl) rfl in_J36 tyJ36 tyJ36_ok nmJ36 0 (by decide) q990 (fun _ h => h) rfl rfl rfl (Nat.le_of_ble_eq_true rfl) dJ33_init_24 (fun H locs hR2106 hS2107 => ?_)
  obtain ⟨G2108, hG2108⟩ : ∃ z : GH, z = gu G2103 it ((26, 0), .inr (16, [.null, .null, .int mo, .ref a])) := ⟨_, rfl⟩
  have hR2106 : Rep Γ G2108 H := by rw [hG2108]; exact hR2106
  have f2109 : G2108 a = some ((4, p), .inr (7, [.null, va_rf vw, .null, va_rf rt, .int sz, .int mo, .null, .null, .null])) := by rw [hG2108]; exact gu_t f2104 f2105 (tne rfl)
  have f2110 : G2108 it = some ((26, 0), .inr (16, [.null, .null, .int mo, .ref a])) := by rw [hG2108]; exact gu_s _ _ _
  exact g_vret X hr hlk hR2106 hS2107 (⟨rfl, by rw [hG2108, hG2103, hG2098, hG2093, gu_gu, gu_gu, gu_gu]⟩) (by (try dsimp only [RM]); omega) (by (try dsimp only [RM]); omega) dJ33_init_27

set_option maxHeartbeats 4000000 in
theorem c_J36iN (l : Launch) (Γ : GP) (G : GH) {a p : Nat} {vw rt : Option Nat} {sz mo : Int32} (hM : G a = some (TMc p vw rt sz mo)) {it : Nat} (hit : G it = some ((26, 0), .inr (16, [.null, .null, .int 0, .null]))) : MetG l yJ36_init (ws_ yJ36_init cJ36_init 3 none) (RM 3 0 0) Γ G [.ref it, .ref a, .null] (fun v G1 => v = none ∧ G1 = gu G it ((26, 0), .inr (16, [.null, .null, .int mo, .ref a]))) 0 0 := by
  refine gMet (own := RJ36) (by decide) rfl (Nat.le_of_ble_eq_true rfl) ?_
  intro pp ee ss mm below meth cc0 ls X hr hlk hin hnm hR hS hl
  have hl : lv_has ls 3 [(0, .ref it), (1, .ref a), (2, .null)] := hl
  refine lv_aload_n X.hx X.hb dJ36_init_0 rfl (lv_at hl 0 rfl) ?_
  refine lv_aload_n X.hx X.hb dJ36_init_1 rfl (lv_at hl 1 rfl) ?_
  refine lv_aload_nN X.hx X.hb dJ36_init_2 rfl (lv_at hl 2 rfl) ?_
  refine gcI X hl.1 hR hS 2 [.ref a, .null] [] (c_J33iN l Γ G hM hit) q1051 q987 q77 q988 rfl rfl rfl ⟨by decide +kernel, by decide +kernel, by decide +kernel⟩ ⟨by (try dsimp only [RM]); omega, by (try dsimp only [RM]); omega⟩ rfl rfl (Nat.le_of_ble_eq_true rfl) dJ36_init_3 ⟨by (try dsimp only [RM]); omega, by (try dsimp only [RM]); omega⟩ (fun v2115 G2116 H locs hq2112 hR2113 hS2114 => ?_)
  obtain ⟨rfl, hG2111⟩ := hq2112
  have f2117 : G2116 a = some ((4, p), .inr (7, [.null, va_rf vw, .null, va_rf rt, .int sz, .int mo, .null, .null, .null])) := by rw [hG2111]; exact gu_t hM hit (tne rfl)
  have f2118 : G2116 it = some ((26, 0), .inr (16, [.null, .null, .int mo, .ref a])) := by rw [hG2111]; exact gu_s _ _ _
  exact g_vret X hr hlk hR2113 hS2114 (⟨rfl, by rw [hG2111]⟩) (by (try dsimp only [RM]); omega) (by (try dsimp only [RM]); omega) dJ36_init_6

/-- an iterator over the values, at o -/
def VI (G : GH) (it a p : Nat) (N : Nat → Nat) (o : Option Nat) : Prop := ∃ (vw rt lr : Option Nat) (sz mo : Int32), G a = some (TMc p vw rt sz mo) ∧ G it = some ((26, 0), .inr (16, [va_rf (o.map N), va_rf lr, .int mo, .ref a]))
theorem VI.keep {G G1 : GH} {it a p : Nat} {N : Nat → Nat} {o : Option Nat} {T : Nat × Nat → Prop} (h : VI G it a p N o) (hk : gK T G G1) (h4 : ¬ T (4, p)) (h26 : ¬ T (26, 0)) : VI G1 it a p N o := by
  obtain ⟨vw, rt, lr, sz, mo, h1, h2⟩ := h
  exact ⟨vw, rt, lr, sz, mo, hk _ _ h1 h4, hk _ _ h2 h26⟩

set_option maxHeartbeats 4000000 in
theorem c_viter (l : Launch) (Γ : GP) (G : GH) {a p b : Nat} {vw : Option Nat} {S : Nat → Prop} {N K V : Nat → Nat} {kv : Nat → Int32} (hTM : TM G a p vw S N K V kv) (hb : G b = some ((5, p), .inr (11, [.ref a]))) : MetG l yJ24_iterator (ws_ yJ24_iterator cJ24_iterator 1 (some (.object "java/util/Iterator"))) (RM 4 1 4) Γ G [.ref b] (fun v G1 => ∃ it o, v = some (.ref it) ∧ CE S kv (-1) o ∧ VI G1 it a p N o ∧ gK (fun t => t = (26, 0)) G G1) 1 4 := by
  refine gMet (own := RJ24) (by decide) rfl (Nat.le_of_ble_eq_true rfl) ?_
  intro pp ee ss mm below meth cc0 ls X hr hlk hin hnm hR hS hl
  have hl : lv_has ls 1 [(0, .ref b)] := hl
  have hTM0 := hTM
  obtain ⟨_, _, _, _, _, _, root, sz, mo, -, -, hM, -, -⟩ := hTM0
  refine g_new (ci := 16) X hR hS (26, 0) (C := RJ36) (T := TJ36) (N := 4) rfl in_J36 tyJ36 tyJ36_ok q1045 q1046 q80 (fs := [.null, .null, .int 0, .null]) (fun j hj => by rcases (show j = 0 ∨ j = 1 ∨ j = 2 ∨ j = 3 by omega) with rfl | rfl | rfl | rfl <;> rfl) (by (try dsimp only [RM]); omega) (by (try dsimp only [RM]); omega) dJ24_iterator_0 (fun q2119 H hq2121 hR2120 hS2122 => ?_)
  obtain ⟨G2123, hG2123⟩ : ∃ z : GH, z = gu G q2119 ((26, 0), .inr (16, [.null, .null, .int 0, .null])) := ⟨_, rfl⟩
  have hR2120 : Rep Γ G2123 H := by rw [hG2123]; exact hR2120
  have f2124 : G2123 b = some ((5, p), .inr (11, [.ref a])) := by rw [hG2123]; exact gu_f hb hq2121
  have f2125 : G2123 a = some ((4, p), .inr (7, [.null, va_rf vw, .null, va_rf (root.map N), .int sz, .int mo, .null, .null, .null])) := by rw [hG2123]; exact gu_f hM hq2121
  have f2126 : G2123 q2119 = some ((26, 0), .inr (16, [.null, .null, .int 0, .null])) := by rw [hG2123]; exact gu_s _ _ _
  refine lv_dup X.hx X.hb dJ24_iterator_3 rfl ?_
  refine lv_aload_n X.hx X.hb dJ24_iterator_4 rfl (lv_at hl 0 rfl) ?_
  refine g_get X hR2120 f2124 rfl in_J24 0 (by decide) q828 (fun _ h => h) rfl dJ24_iterator_5 ?_
  refine lv_aload_n X.hx X.hb dJ24_iterator_8 rfl (lv_at hl 0 rfl) ?_
  refine g_get X hR2120 f2124 rfl in_J24 0 (by decide) q828 (fun _ h => h) rfl dJ24_iterator_9 ?_
  have hTM1 : TM G2123 a p vw S N K V kv := hTM.keep (gK.nw (S := fun _ => False) hG2123 hq2121) id (fun _ _ => id) (fun _ h => h.elim)
  refine gcV X hl.1 hR2120 hS2122 0 [] [.ref a, .ref q2119, .ref q2119] (c_first l Γ G2123 hTM1) f2125 rfl q1047 q927 q928 q48 q929 rfl rfl ⟨rfl, by decide +kernel, by decide +kernel, by decide +kernel⟩ ⟨by (try dsimp only [RM]); omega, by (try dsimp only [RM]); omega⟩ rfl rfl (Nat.le_of_ble_eq_true rfl) dJ24_iterator_12 ⟨by (try dsimp only [RM]); omega, by (try dsimp only [RM]); omega⟩ (fun v2130 G2131 H locs hq2127 hR2128 hS2129 => ?_)
  obtain ⟨o, rfl, hce, rfl⟩ := hq2127
  rcases o with _ | o
  · refine gcI X hl.1 hR2128 hS2129 2 [.ref a, .null] [.ref q2119] (c_J36iN l Γ G2123 f2125 f2126) q1048 q1049 q80 q1050 rfl rfl rfl ⟨by decide +kernel, by decide +kernel, by decide +kernel⟩ ⟨by (try dsimp only [RM]); omega, by (try dsimp only [RM]); omega⟩ rfl rfl (Nat.le_of_ble_eq_true rfl) dJ24_iterator_15 ⟨by (try dsimp only [RM]); omega, by (try dsimp only [RM]); omega⟩ (fun v2136 G2137 H locs hq2133 hR2134 hS2135 => ?_)
    obtain ⟨rfl, hG2132⟩ := hq2133
    have f2138 : G2137 b = some ((5, p), .inr (11, [.ref a])) := by rw [hG2132]; exact (gu_n (fne hb hq2121)).trans f2124
    have f2139 : G2137 a = some ((4, p), .inr (7, [.null, va_rf vw, .null, va_rf (root.map N), .int sz, .int mo, .null, .null, .null])) := by rw [hG2132]; exact (gu_n (fne hM hq2121)).trans f2125
    have f2140 : G2137 q2119 = some ((26, 0), .inr (16, [.null, .null, .int mo, .ref a])) := by rw [hG2132]; exact gu_s _ _ _
    exact g_aretS X hr (Or.inl ⟨_, rfl⟩) hlk hR2134 hS2135 (⟨_, none, rfl, hce, ⟨_, _, none, _, _, f2139, f2140⟩, (gK.tr (gK.nw hG2123 hq2121) (gK.pt hG2132 f2126 rfl))⟩) (by (try dsimp only [RM]); omega) (by (try dsimp only [RM]); omega) dJ24_iterator_18
  · refine gcI X hl.1 hR2128 hS2129 2 [.ref a, .ref (N o)] [.ref q2119] (c_J36iS l Γ G2123 f2125 f2126) q1048 q1049 q80 q1050 rfl rfl rfl ⟨by decide +kernel, by decide +kernel, by decide +kernel⟩ ⟨by (try dsimp only [RM]); omega, by (try dsimp only [RM]); omega⟩ rfl rfl (Nat.le_of_ble_eq_true rfl) dJ24_iterator_15 ⟨by (try dsimp only [RM]); omega, by (try dsimp only [RM]); omega⟩ (fun v2145 G2146 H locs hq2142 hR2143 hS2144 => ?_)
    obtain ⟨rfl, hG2141⟩ := hq2142
    have f2147 : G2146 b = some ((5, p), .inr (11, [.ref a])) := by rw [hG2141]; exact (gu_n (fne hb hq2121)).trans f2124
    have f2148 : G2146 a = some ((4, p), .inr (7, [.null, va_rf vw, .null, va_rf (root.map N), .int sz, .int mo, .null, .null, .null])) := by rw [hG2141]; exact (gu_n (fne hM hq2121)).trans f2125
    have f2149 : G2146 q2119 = some ((26, 0), .inr (16, [.ref (N o), .null, .int mo, .ref a])) := by rw [hG2141]; exact gu_s _ _ _
    exact g_aretS X hr (Or.inl ⟨_, rfl⟩) hlk hR2143 hS2144 (⟨_, some o, rfl, hce, ⟨_, _, none, _, _, f2148, f2149⟩, (gK.tr (gK.nw hG2123 hq2121) (gK.pt hG2141 f2126 rfl))⟩) (by (try dsimp only [RM]); omega) (by (try dsimp only [RM]); omega) dJ24_iterator_18

set_option maxHeartbeats 4000000 in
theorem c_vhasN (l : Launch) (Γ : GP) (G : GH) {it a p : Nat} {N : Nat → Nat} (hVI : VI G it a p N none) : MetG l yJ33_hasNext (ws_ yJ33_hasNext cJ33_hasNext 1 (some .boolean)) (RM 1 0 0) Γ G [.ref it] (fun v G1 => v = some (.int 0) ∧ G = G1) 0 0 := by
  refine gMet (own := RJ33) (by decide) rfl (Nat.le_of_ble_eq_true rfl) ?_
  intro pp ee ss mm below meth cc0 ls X hr hlk hin hnm hR hS hl
  have hl : lv_has ls 1 [(0, .ref it)] := hl
  obtain ⟨vw, rt, lr, sz, mo, hM, hit⟩ := hVI
  refine lv_aload_n X.hx X.hb dJ33_hasNext_0 rfl (lv_at hl 0 rfl) ?_
  refine g_get X hR hit rfl in_J36 0 (by decide) q990 (fun _ h => h) rfl dJ33_hasNext_1 ?_
  refine lv_ifnullN (tgt := 11) X.hx X.hb dJ33_hasNext_4 (by decide) ?_
  refine lv_iconst (v := 0) X.hx X.hb dJ33_hasNext_11 (by decide) ?_
  exact g_zret X hr hlk hR hS rfl (⟨rfl, rfl⟩) (by (try dsimp only [RM]); omega) (by (try dsimp only [RM]); omega) dJ33_hasNext_12

set_option maxHeartbeats 4000000 in
theorem c_vhasS (l : Launch) (Γ : GP) (G : GH) {it a p x : Nat} {N : Nat → Nat} (hVI : VI G it a p N (some x)) : MetG l yJ33_hasNext (ws_ yJ33_hasNext cJ33_hasNext 1 (some .boolean)) (RM 1 0 0) Γ G [.ref it] (fun v G1 => v = some (.int 1) ∧ G = G1) 0 0 := by
  refine gMet (own := RJ33) (by decide) rfl (Nat.le_of_ble_eq_true rfl) ?_
  intro pp ee ss mm below meth cc0 ls X hr hlk hin hnm hR hS hl
  have hl : lv_has ls 1 [(0, .ref it)] := hl
  obtain ⟨vw, rt, lr, sz, mo, hM, hit⟩ := hVI
  refine lv_aload_n X.hx X.hb dJ33_hasNext_0 rfl (lv_at hl 0 rfl) ?_
  refine g_get X hR hit rfl in_J36 0 (by decide) q990 (fun _ h => h) rfl dJ33_hasNext_1 ?_
  refine lv_ifnull X.hx X.hb dJ33_hasNext_4 ?_
  refine lv_iconst (v := 1) X.hx X.hb dJ33_hasNext_7 (by decide) ?_
  refine lv_goto (tgt := 12) X.hx X.hb dJ33_hasNext_8 (by decide) ?_
  exact g_zret X hr hlk hR hS rfl (⟨rfl, rfl⟩) (by (try dsimp only [RM]); omega) (by (try dsimp only [RM]); omega) dJ33_hasNext_12

set_option maxHeartbeats 4000000 in
theorem c_vnE (l : Launch) (Γ : GP) (G : GH) {it a p x : Nat} {vw0 : Option Nat} {S : Nat → Prop} {N K V : Nat → Nat} {kv : Nat → Int32} (hTM : TM G a p vw0 S N K V kv) (hx : S x) (hVI : VI G it a p N (some x)) : MetG l yJ33_nextEntry (ws_ yJ33_nextEntry cJ33_nextEntry 2 (some (.object "java/util/TreeMap$Entry"))) (RM 2 0 0) Γ G [.ref it] (fun v G1 => v = some (.ref (N x)) ∧ ∃ o, CE S kv ((kv x).toInt + 1) o ∧ VI G1 it a p N o ∧ gK (fun t => t = (26, 0)) G G1) 0 0 := by
  refine gMet (own := RJ33) (by decide) rfl (Nat.le_of_ble_eq_true rfl) ?_
  intro pp ee ss mm below meth cc0 ls X hr hlk hin hnm hR hS hl
  have hl : lv_has ls 2 [(0, .ref it)] := hl
  obtain ⟨vw, rt, lr, sz, mo, hM, hit⟩ := hVI
  refine lv_aload_n X.hx X.hb dJ33_nextEntry_0 rfl (lv_at hl 0 rfl) ?_
  refine g_get X hR hit rfl in_J36 0 (by decide) q990 (fun _ h => h) rfl dJ33_nextEntry_1 ?_
  refine lv_astore_n (lv' := [(1, .ref (N x)), (0, .ref it)]) X.hx X.hb dJ33_nextEntry_4 rfl hl (by decide) rfl (fun ls hl => ?_)
  refine lv_aload_n X.hx X.hb dJ33_nextEntry_5 rfl (lv_at hl 0 rfl) ?_
  refine lv_ifnonnull (tgt := 17) X.hx X.hb dJ33_nextEntry_6 (by decide) ?_
  refine lv_aload_n X.hx X.hb dJ33_nextEntry_17 rfl (lv_at hl 1 rfl) ?_
  refine g_get X hR hit rfl in_J36 3 (by decide) q993 (fun _ h => h) rfl dJ33_nextEntry_18 ?_
  refine g_getN X hR hM rfl in_J9 5 (by decide) kq267 (fun _ h => h) rfl dJ33_nextEntry_21 ?_
  refine lv_aload_n X.hx X.hb dJ33_nextEntry_24 rfl (lv_at hl 1 rfl) ?_
  refine g_get X hR hit rfl in_J36 2 (by decide) q992 (fun _ h => h) rfl dJ33_nextEntry_25 ?_
  refine lv_icmp_eq (tgt := 39) X.hx X.hb dJ33_nextEntry_28 (by decide) (fun c28 => ?_) (fun c28 => ?_)
  · refine lv_aload_n X.hx X.hb dJ33_nextEntry_39 rfl (lv_at hl 1 rfl) ?_
    refine lv_aload_n X.hx X.hb dJ33_nextEntry_40 rfl (lv_at hl 0 rfl) ?_
    refine gcS X hl.1 hR hS 1 [.ref (N x)] [.ref it] (c_succ l Γ G hTM hx) q1125 q1126 q48 q1127 rfl rfl ⟨by decide +kernel, by decide +kernel, by decide +kernel⟩ ⟨by (try dsimp only [RM]); omega, by (try dsimp only [RM]); omega⟩ rfl rfl (Nat.le_of_ble_eq_true rfl) dJ33_nextEntry_41 ⟨by (try dsimp only [RM]); omega, by (try dsimp only [RM]); omega⟩ (fun v2153 G2154 H locs hq2150 hR2151 hS2152 => ?_)
    obtain ⟨o, rfl, hce, rfl⟩ := hq2150
    refine g_put X hR2151 hS2152 hit (Nat.le_of_ble_eq_true rfl) rfl in_J36 tyJ36 tyJ36_ok nmJ36 0 (by decide) q990 (fun _ h => h) rfl (nar_rf _ _) (fit_rf _ _) (Nat.le_of_ble_eq_true rfl) dJ33_nextEntry_44 (fun H locs hR2155 hS2156 => ?_)
    obtain ⟨G2157, hG2157⟩ : ∃ z : GH, z = gu G it ((26, 0), .inr (16, [va_rf (o.map N), va_rf lr, .int mo, .ref a])) := ⟨_, rfl⟩
    have hR2155 : Rep Γ G2157 H := by rw [hG2157]; exact hR2155
    have f2158 : G2157 a = some ((4, p), .inr (7, [.null, va_rf vw, .null, va_rf rt, .int sz, .int mo, .null, .null, .null])) := by rw [hG2157]; exact gu_t hM hit (tne rfl)
    have f2159 : G2157 it = some ((26, 0), .inr (16, [va_rf (o.map N), va_rf lr, .int mo, .ref a])) := by rw [hG2157]; exact gu_s _ _ _
    refine lv_aload_n X.hx X.hb dJ33_nextEntry_47 rfl (lv_at hl 1 rfl) ?_
    refine lv_aload_n X.hx X.hb dJ33_nextEntry_48 rfl (lv_at hl 0 rfl) ?_
    refine g_put X hR2155 hS2156 f2159 (Nat.le_of_ble_eq_true rfl) rfl in_J36 tyJ36 tyJ36_ok nmJ36 1 (by decide) q991 (fun _ h => h) rfl rfl rfl (Nat.le_of_ble_eq_true rfl) dJ33_nextEntry_49 (fun H locs hR2160 hS2161 => ?_)
    obtain ⟨G2162, hG2162⟩ : ∃ z : GH, z = gu G2157 it ((26, 0), .inr (16, [va_rf (o.map N), .ref (N x), .int mo, .ref a])) := ⟨_, rfl⟩
    have hR2160 : Rep Γ G2162 H := by rw [hG2162]; exact hR2160
    have f2163 : G2162 a = some ((4, p), .inr (7, [.null, va_rf vw, .null, va_rf rt, .int sz, .int mo, .null, .null, .null])) := by rw [hG2162]; exact gu_t f2158 f2159 (tne rfl)
    have f2164 : G2162 it = some ((26, 0), .inr (16, [va_rf (o.map N), .ref (N x), .int mo, .ref a])) := by rw [hG2162]; exact gu_s _ _ _
    refine lv_aload_n X.hx X.hb dJ33_nextEntry_52 rfl (lv_at hl 0 rfl) ?_
    exact g_aretS X hr (Or.inl ⟨_, rfl⟩) hlk hR2160 hS2161 (⟨rfl, o, hce, ⟨vw, rt, some (N x), sz, mo, f2163, f2164⟩, (gK.tr (gK.pt hG2157 hit rfl) (gK.pt hG2162 f2159 rfl))⟩) (by (try dsimp only [RM]); omega) (by (try dsimp only [RM]); omega) dJ33_nextEntry_53
  · exact absurd rfl c28
set_option maxHeartbeats 4000000 in
theorem c_vnext (l : Launch) (Γ : GP) (G : GH) {it a p x : Nat} {vw0 : Option Nat} {S : Nat → Prop} {N K V : Nat → Nat} {kv : Nat → Int32} (hTM : TM G a p vw0 S N K V kv) (hx : S x) (hVI : VI G it a p N (some x)) : MetG l yJ36_next (ws_ yJ36_next cJ36_next 1 (some (.object "java/lang/Object"))) (RM 3 0 0) Γ G [.ref it] (fun v G1 => v = some (.ref (V x)) ∧ ∃ o, CE S kv ((kv x).toInt + 1) o ∧ VI G1 it a p N o ∧ gK (fun t => t = (26, 0)) G G1) 0 0 := by
  refine gMet (own := RJ36) (by decide) rfl (Nat.le_of_ble_eq_true rfl) ?_
  intro pp ee ss mm below meth cc0 ls X hr hlk hin hnm hR hS hl
  have hl : lv_has ls 1 [(0, .ref it)] := hl
  have hVI0 := hVI
  obtain ⟨vw, rt, lr, sz, mo, hM, hit⟩ := hVI0
  refine lv_aload_n X.hx X.hb dJ36_next_0 rfl (lv_at hl 0 rfl) ?_
  refine gcU X hl.1 hR hS 0 [] [] (c_vnE l Γ G hTM hx hVI) hit rfl q1149 q1150 q1151 q1123 q77 q1124 (va_Decl.of (X.hts _ q1123) (X.hts _ q1124)) rfl rfl ⟨by decide +kernel, by decide +kernel, by decide +kernel⟩ ⟨by (try dsimp only [RM]); omega, by (try dsimp only [RM]); omega⟩ rfl rfl (Nat.le_of_ble_eq_true rfl) dJ36_next_1 ⟨by (try dsimp only [RM]); omega, by (try dsimp only [RM]); omega⟩ (fun v2168 G2169 H locs hq2165 hR2166 hS2167 => ?_)
  obtain ⟨rfl, o, hce, hVI1, hgk⟩ := hq2165
  obtain ⟨L, R, P, C, lo, hi, root, sz1, mo1, hT, hI, hM1, hB, hK⟩ := hTM
  have hNx := hgk _ _ (hT.1 x hx) (by show ¬ ((11, x) = (26, 0)); exact tne rfl)
  refine g_get X hR2166 hNx rfl in_J21 1 (by decide) q618 (fun _ h => h) rfl dJ36_next_4 ?_
  exact g_aretS X hr (Or.inl ⟨_, rfl⟩) hlk hR2166 hS2167 (⟨rfl, o, hce, hVI1, hgk⟩) (by (try dsimp only [RM]); omega) (by (try dsimp only [RM]); omega) dJ36_next_7
