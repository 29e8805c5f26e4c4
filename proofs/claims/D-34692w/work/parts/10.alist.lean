set_option maxRecDepth 100000
/-! java.util.ArrayList -/
set_option maxHeartbeats 4000000 in
/-- size() -/
theorem c_size (l : Launch) (Γ : GP) (G : GH) {al ea n : Nat} {mo : Int32} {r1 i1 : Nat} (hal : G al = some ((r1, i1), .inr (6, [.int mo, .ref ea, .int (nI n)]))) : MetG l yJ2_size (ws_ yJ2_size cJ2_size 1 (some .int)) (RM 1 0 0) Γ G [.ref al] (fun v G1 => v = some (.int (nI n)) ∧ G = G1) 0 0 := by
  refine gMet (own := RJ2) (by decide) rfl (Nat.le_of_ble_eq_true rfl) ?_
  intro pp ee ss mm below meth cc0 ls X hr hlk hin hnm hR hS hl
  have hl : lv_has ls 1 [(0, .ref al)] := hl
  refine lv_aload_n X.hx X.hb dJ2_size_0 rfl (lv_at hl 0 rfl) ?_
  refine g_get X hR hal rfl in_J2 2 (by decide) q106 (fun _ h => h) rfl dJ2_size_1 ?_
  exact g_iret X hr hlk hR hS (⟨rfl, rfl⟩) (by (try dsimp only [RM]); omega) (by (try dsimp only [RM]); omega) dJ2_size_4

set_option maxHeartbeats 4000000 in
theorem c_pci (l : Launch) (Γ : GP) (G : GH) {k n : Nat} (hk : k < n) (hn : n < 2 ^ 31) : MetG l yJ18_checkIndex (ws_ yJ18_checkIndex cJ18_checkIndex 3 (some .int)) (RM 1 0 0) Γ G [.int (nI k), .int (nI n), .null] (fun v G1 => v = some (.int (nI k)) ∧ G = G1) 0 0 := by
  refine gMet (own := RJ18) (by decide) rfl (Nat.le_of_ble_eq_true rfl) ?_
  intro pp ee ss mm below meth cc0 ls X hr hlk hin hnm hR hS hl
  have hl : lv_has ls 3 [(0, .int (nI k)), (1, .int (nI n)), (2, .null)] := hl
  refine lv_iload_n X.hx X.hb dJ18_checkIndex_0 rfl (lv_at hl 0 rfl) ?_
  refine lv_if_lt (tgt := 9) X.hx X.hb dJ18_checkIndex_1 (by decide) (fun c1 => ?_) (fun c1 => ?_)
  · exact absurd c1 (nI_pos (by omega))
  · refine lv_iload_n X.hx X.hb dJ18_checkIndex_4 rfl (lv_at hl 0 rfl) ?_
    refine lv_iload_n X.hx X.hb dJ18_checkIndex_5 rfl (lv_at hl 1 rfl) ?_
    refine lv_icmp_lt (tgt := 16) X.hx X.hb dJ18_checkIndex_6 (by decide) (fun c6 => ?_) (fun c6 => ?_)
    · refine lv_iload_n X.hx X.hb dJ18_checkIndex_16 rfl (lv_at hl 0 rfl) ?_
      exact g_iret X hr hlk hR hS (⟨rfl, rfl⟩) (by (try dsimp only [RM]); omega) (by (try dsimp only [RM]); omega) dJ18_checkIndex_17
    · exact absurd (nI_lt hk hn) c6

set_option maxHeartbeats 4000000 in
theorem c_oci (l : Launch) (Γ : GP) (G : GH) {k n : Nat} (hk : k < n) (hn : n < 2 ^ 31) : MetG l yJ17_checkIndex (ws_ yJ17_checkIndex cJ17_checkIndex 2 (some .int)) (RM 2 0 0) Γ G [.int (nI k), .int (nI n)] (fun v G1 => v = some (.int (nI k)) ∧ G = G1) 0 0 := by
  refine gMet (own := RJ17) (by decide) rfl (Nat.le_of_ble_eq_true rfl) ?_
  intro pp ee ss mm below meth cc0 ls X hr hlk hin hnm hR hS hl
  have hl : lv_has ls 2 [(0, .int (nI k)), (1, .int (nI n))] := hl
  refine lv_iload_n X.hx X.hb dJ17_checkIndex_0 rfl (lv_at hl 0 rfl) ?_
  refine lv_iload_n X.hx X.hb dJ17_checkIndex_1 rfl (lv_at hl 1 rfl) ?_
  refine lv_null X.hx X.hb dJ17_checkIndex_2 ?_
  refine gcS X hl.1 hR hS 3 [.int (nI k), .int (nI n), .null] [] (c_pci l Γ G hk hn) q487 q488 q59 q489 rfl rfl ⟨by decide +kernel, by decide +kernel, by decide +kernel⟩ ⟨by (try dsimp only [RM]); omega, by (try dsimp only [RM]); omega⟩ rfl rfl (Nat.le_of_ble_eq_true rfl) dJ17_checkIndex_3 ⟨by (try dsimp only [RM]); omega, by (try dsimp only [RM]); omega⟩ (fun v4 G5 H locs hq1 hR2 hS3 => ?_)
  obtain ⟨rfl, rfl⟩ := hq1
  exact g_iret X hr hlk hR2 hS3 (⟨rfl, rfl⟩) (by (try dsimp only [RM]); omega) (by (try dsimp only [RM]); omega) dJ17_checkIndex_6

set_option maxHeartbeats 4000000 in
theorem c_elem (l : Launch) (Γ : GP) (G : GH) {al ea n : Nat} {mo : Int32} {r1 i1 : Nat} (hal : G al = some ((r1, i1), .inr (6, [.int mo, .ref ea, .int (nI n)]))) {cap r2 i2 : Nat} {g : Nat → Option Nat} (hea : G ea = some ((r2, i2), .inl (Γ.2 4, cap, .inr (.inr (.inr (.inr g)))))) {k : Nat} (hk : k < n) (hc : n ≤ cap) (hn : cap < 2 ^ 31) : MetG l yJ2_elementData (ws_ yJ2_elementData cJ2_elementData 2 (some (.object "java/lang/Object"))) (RM 1 0 0) Γ G [.ref al, .int (nI k)] (fun v G1 => v = some (va_rf (g k)) ∧ G = G1) 0 0 := by
  refine gMet (own := RJ2) (by decide) rfl (Nat.le_of_ble_eq_true rfl) ?_
  intro pp ee ss mm below meth cc0 ls X hr hlk hin hnm hR hS hl
  have hl : lv_has ls 2 [(0, .ref al), (1, .int (nI k))] := hl
  refine lv_aload_n X.hx X.hb dJ2_elementData_0 rfl (lv_at hl 0 rfl) ?_
  refine g_get X hR hal rfl in_J2 1 (by decide) q103 (fun _ h => h) rfl dJ2_elementData_1 ?_
  refine lv_iload_n X.hx X.hb dJ2_elementData_4 rfl (lv_at hl 1 rfl) ?_
  refine g_aald (v := va_rf (g k)) X hR hea (vp_in_nI (Nat.lt_of_lt_of_le hk hc) (by omega)) (by rw [nI_clamp (by omega)]) dJ2_elementData_5 ?_
  exact g_aret X hr (Or.inl ⟨_, rfl⟩) hlk hR hS (⟨rfl, rfl⟩) (by (try dsimp only [RM]); omega) (by (try dsimp only [RM]); omega) dJ2_elementData_6

set_option maxHeartbeats 4000000 in
theorem c_get (l : Launch) (Γ : GP) (G : GH) {al ea n : Nat} {mo : Int32} {r1 i1 : Nat} (hal : G al = some ((r1, i1), .inr (6, [.int mo, .ref ea, .int (nI n)]))) {cap r2 i2 : Nat} {g : Nat → Option Nat} (hea : G ea = some ((r2, i2), .inl (Γ.2 4, cap, .inr (.inr (.inr (.inr g)))))) {k : Nat} (hk : k < n) (hc : n ≤ cap) (hn : cap < 2 ^ 31) : MetG l yJ2_get (ws_ yJ2_get cJ2_get 2 (some (.object "java/lang/Object"))) (RM 3 0 0) Γ G [.ref al, .int (nI k)] (fun v G1 => v = some (va_rf (g k)) ∧ G = G1) 0 0 := by
  refine gMet (own := RJ2) (by decide) rfl (Nat.le_of_ble_eq_true rfl) ?_
  intro pp ee ss mm below meth cc0 ls X hr hlk hin hnm hR hS hl
  have hl : lv_has ls 2 [(0, .ref al), (1, .int (nI k))] := hl
  refine lv_iload_n X.hx X.hb dJ2_get_0 rfl (lv_at hl 1 rfl) ?_
  refine lv_aload_n X.hx X.hb dJ2_get_1 rfl (lv_at hl 0 rfl) ?_
  refine g_get X hR hal rfl in_J2 2 (by decide) q106 (fun _ h => h) rfl dJ2_get_2 ?_
  refine gcS X hl.1 hR hS 2 [.int (nI k), .int (nI n)] [] (c_oci l Γ G hk (by omega)) q484 q485 q58 q486 rfl rfl ⟨by decide +kernel, by decide +kernel, by decide +kernel⟩ ⟨by (try dsimp only [RM]); omega, by (try dsimp only [RM]); omega⟩ rfl rfl (Nat.le_of_ble_eq_true rfl) dJ2_get_5 ⟨by (try dsimp only [RM]); omega, by (try dsimp only [RM]); omega⟩ (fun v9 G10 H locs hq6 hR7 hS8 => ?_)
  obtain ⟨rfl, rfl⟩ := hq6
  refine lv_pop X.hx X.hb dJ2_get_8 rfl ?_
  refine lv_aload_n X.hx X.hb dJ2_get_9 rfl (lv_at hl 0 rfl) ?_
  refine lv_iload_n X.hx X.hb dJ2_get_10 rfl (lv_at hl 1 rfl) ?_
  refine gcV X hl.1 hR7 hS8 1 [.int (nI k)] [] (c_elem l Γ G hal hea hk hc hn) hal rfl q490 q491 q492 q39 q493 rfl rfl ⟨rfl, by decide +kernel, by decide +kernel, by decide +kernel⟩ ⟨by (try dsimp only [RM]); omega, by (try dsimp only [RM]); omega⟩ rfl rfl (Nat.le_of_ble_eq_true rfl) dJ2_get_11 ⟨by (try dsimp only [RM]); omega, by (try dsimp only [RM]); omega⟩ (fun v14 G15 H locs hq11 hR12 hS13 => ?_)
  obtain ⟨rfl, rfl⟩ := hq11
  exact g_aret X hr (Or.inl ⟨_, rfl⟩) hlk hR12 hS13 (⟨rfl, rfl⟩) (by (try dsimp only [RM]); omega) (by (try dsimp only [RM]); omega) dJ2_get_14

theorem max1 {k : Nat} (h : 1 ≤ k) (hk : k < 2 ^ 31) : (if (1 : Int32) < nI k then nI k else 1) = nI k := by
  split
  · rfl
  · rename_i h1
    have : ¬ nI 1 < nI k := h1
    rw [nI_ltI (by decide) hk] at this
    have e : k = 1 := by omega
    subst e; rfl
theorem shr1 {n : Nat} (h : n < 2 ^ 31) : nI n >>> ((1 : Int32) &&& 31) = nI (n / 2) := pk_shrN h _ 1 (by decide)

set_option maxHeartbeats 4000000 in
theorem c_newLength (l : Launch) (Γ : GP) (G : GH) {o : Nat} (h2 : 2 ≤ o) (ho : o < 1000000) : MetG l yJ10_newLength (ws_ yJ10_newLength cJ10_newLength 4 (some .int)) (RM 2 0 0) Γ G [.int (nI o), .int 1, .int (nI (o / 2))] (fun v G1 => v = some (.int (nI (o + o / 2))) ∧ G = G1) 0 0 := by
  refine gMet (own := RJ10) (by decide) rfl (Nat.le_of_ble_eq_true rfl) ?_
  intro pp ee ss mm below meth cc0 ls X hr hlk hin hnm hR hS hl
  have hl : lv_has ls 4 [(0, .int (nI o)), (1, .int 1), (2, .int (nI (o / 2)))] := hl
  refine lv_iload_n X.hx X.hb dJ10_newLength_0 rfl (lv_at hl 0 rfl) ?_
  refine lv_iload_n X.hx X.hb dJ10_newLength_1 rfl (lv_at hl 1 rfl) ?_
  refine lv_iload_n X.hx X.hb dJ10_newLength_2 rfl (lv_at hl 2 rfl) ?_
  refine va_mmax X.hx X.hb (by rw [X.hml]; exact hl.1.symm) X.hown (X.hts _ q328) (X.hts _ q329) (X.hts _ q50) (X.hts _ q330) (Nat.le_of_ble_eq_true rfl) (Nat.le_of_ble_eq_true rfl) (by (try dsimp only [RM]); omega) (by (try dsimp only [RM]); omega) dJ10_newLength_3 ?_
  refine lv_topi (fun x16 hx16 => ?_)
  obtain rfl : x16 = nI (o / 2) := hx16.trans (max1 (by omega) (by omega))
  refine lv_iadd X.hx X.hb dJ10_newLength_6 ?_
  refine lv_topi (fun x17 hx17 => ?_)
  obtain rfl : x17 = nI (o + o / 2) := hx17.trans (nI_add _ _)
  refine lv_istore_n (lv' := [(3, .int (nI (o + o / 2))), (0, .int (nI o)), (1, .int 1), (2, .int (nI (o / 2)))]) X.hx X.hb dJ10_newLength_7 rfl hl (by decide) rfl (fun ls hl => ?_)
  refine lv_iconst (v := 0) X.hx X.hb dJ10_newLength_8 (by decide) ?_
  refine lv_iload_n X.hx X.hb dJ10_newLength_9 rfl (lv_at hl 0 rfl) ?_
  refine lv_icmp_ge (tgt := 21) X.hx X.hb dJ10_newLength_10 (by decide) (fun c10 => ?_) (fun c10 => ?_)
  · exact absurd c10 (nI_nle (by omega) (by omega))
  · refine lv_iload_n X.hx X.hb dJ10_newLength_13 rfl (lv_at hl 0 rfl) ?_
    refine lv_ldc X.hx X.hb X.hown (X.hts _ q331) dJ10_newLength_14 ?_
    refine lv_icmp_gt (tgt := 21) X.hx X.hb dJ10_newLength_16 (by decide) (fun c16 => ?_) (fun c16 => ?_)
    · exact absurd c16 (nI_nlt (a := 2147483639) (b := o + o / 2) (by omega) (by decide))
    · refine lv_iload_n X.hx X.hb dJ10_newLength_19 rfl (lv_at hl 0 rfl) ?_
      exact g_iret X hr hlk hR hS (⟨rfl, rfl⟩) (by (try dsimp only [RM]); omega) (by (try dsimp only [RM]); omega) dJ10_newLength_20

theorem gu_gu {G : GH} {a : Nat} {x y : gE} : gu (gu G a x) a y = gu G a y := by
  funext b
  by_cases h : b = a
  · subst h; rw [gu_s, gu_s]
  · rw [gu_n h, gu_n h, gu_n h]
theorem cpy00 {α : Type} {f g : Nat → α} {n j : Nat} (hn : n < 2 ^ 31) (h : j < n) : va_cpy f g (0 : Int32).toNatClampNeg (0 : Int32).toNatClampNeg (nI n).toNatClampNeg j = f j := by
  rw [sb_cl0, nI_clamp hn, pk_cpy_in (Nat.zero_le _) (by omega)]
  congr 1
  omega
theorem min1 {a b : Nat} (h : b ≤ a) (ha : a < 2 ^ 31) : (if nI a < nI b then nI a else nI b) = nI b := if_neg (nI_nlt h ha)

theorem gO_new {G G1 : GH} {q y : Nat} {x : gE} (hq : G q = none) (h : gO G y) (e : G1 = gu G q x) : gO G1 y := by
  obtain ⟨t, ci, vs, r, h1, h2, h3⟩ := h
  exact ⟨t, ci, vs, r, by rw [e]; exact gu_f h1 hq, h2, h3⟩

set_option maxHeartbeats 4000000 in
theorem c_copyOf2 (l : Launch) (Γ : GP) (G : GH) {ea cap i : Nat} {g : Nat → Option Nat} (hea : G ea = some ((2, i), .inl (Γ.2 4, cap, .inr (.inr (.inr (.inr g)))))) {N : Nat} (hcN : cap ≤ N) (hN : N < 1000000) (hel : ∀ j, j < cap → ∀ y, g j = some y → gO G y) : MetG l yJ12_copyOf_2 (ws_ yJ12_copyOf_2 cJ12_copyOf_2 4 (some (.array (.object "java/lang/Object")))) (RM 2 1 N) Γ G [.ref ea, .int (nI N), .ref (Γ.2 8)] (fun v G1 => ∃ (q : Nat) (g1 : Nat → Option Nat), v = some (.ref q) ∧ G q = none ∧ (∀ j, j < cap → g1 j = g j) ∧ G1 = gu G q ((2, i), .inl (Γ.2 4, N, .inr (.inr (.inr (.inr g1)))))) 1 N := by
  refine gMet (own := RJ12) (by decide) rfl (Nat.le_of_ble_eq_true rfl) ?_
  intro pp ee ss mm below meth cc0 ls X hr hlk hin hnm hR hS hl
  have hl : lv_has ls 4 [(0, .ref ea), (1, .int (nI N)), (2, .ref (Γ.2 8))] := hl
  refine lv_aload_n X.hx X.hb dJ12_copyOf_2_0 rfl (lv_at hl 2 rfl) ?_
  refine va_ldcM X.hx X.hb X.hown (X.hts _ q369) X.mi dJ12_copyOf_2_1 ?_
  refine lv_acmp_ne (rx := some (Γ.2 8)) (ry := some (Γ.2 8)) (tgt := 13) X.hx X.hb dJ12_copyOf_2_3 (by decide) (fun c3 => ?_) (fun c3 => ?_)
  · exact absurd rfl c3
  · refine lv_iload_n X.hx X.hb dJ12_copyOf_2_6 rfl (lv_at hl 1 rfl) ?_
    refine g_newq (N := N) X hR hS (2, i) q371 (nI_pos (by omega)) (nI_clamp (by omega)) (by omega) (by (try dsimp only [RM]); omega) (by (try dsimp only [RM]); omega) dJ12_copyOf_2_7 (fun q18 H hq20 hR19 hS21 => ?_)
    obtain ⟨G22, hG22⟩ : ∃ z : GH, z = gu G q18 ((2, i), .inl (Γ.2 4, N, .inr (.inr (.inr (.inr (fun _ => none)))))) := ⟨_, rfl⟩
    have hR19 : Rep Γ G22 H := by rw [hG22]; exact hR19
    have f23 : G22 ea = some ((2, i), .inl (Γ.2 4, cap, .inr (.inr (.inr (.inr g))))) := by rw [hG22]; exact gu_f hea hq20
    have f24 : G22 q18 = some ((2, i), .inl (Γ.2 4, N, .inr (.inr (.inr (.inr (fun _ => none)))))) := by rw [hG22]; exact gu_s _ _ _
    refine lv_goto (tgt := 24) X.hx X.hb dJ12_copyOf_2_10 (by decide) ?_
    refine lv_astore_n (lv' := [(3, .ref q18), (0, .ref ea), (1, .int (nI N)), (2, .ref (Γ.2 8))]) X.hx X.hb dJ12_copyOf_2_24 rfl hl (by decide) rfl (fun ls hl => ?_)
    refine lv_aload_n X.hx X.hb dJ12_copyOf_2_25 rfl (lv_at hl 1 rfl) ?_
    refine lv_iconst (v := 0) X.hx X.hb dJ12_copyOf_2_26 (by decide) ?_
    refine lv_aload_n X.hx X.hb dJ12_copyOf_2_27 rfl (lv_at hl 0 rfl) ?_
    refine lv_iconst (v := 0) X.hx X.hb dJ12_copyOf_2_28 (by decide) ?_
    refine lv_aload_n X.hx X.hb dJ12_copyOf_2_29 rfl (lv_at hl 1 rfl) ?_
    refine g_alen (v := Int32.ofNat cap) X hR19 3 f23 rfl rfl dJ12_copyOf_2_30 ?_
    refine lv_iload_n X.hx X.hb dJ12_copyOf_2_31 rfl (lv_at hl 2 rfl) ?_
    refine va_mmin X.hx X.hb (by rw [X.hml]; exact hl.1.symm) X.hown (X.hts _ q372) (X.hts _ q373) (X.hts _ q50) (X.hts _ q374) (Nat.le_of_ble_eq_true rfl) (Nat.le_of_ble_eq_true rfl) (by (try dsimp only [RM]); omega) (by (try dsimp only [RM]); omega) dJ12_copyOf_2_32 ?_
    refine lv_topi (fun x25 hx25 => ?_)
    obtain rfl : x25 = nI cap := hx25.trans (min1 hcN (by omega))
    refine g_copy X hl.1 hR19 hS21 f23 f24 (Nat.le_of_ble_eq_true rfl) q375 q377 q376 q52 (by decide) (by decide) (nI_pos (by omega)) (by rw [sb_cl0, nI_clamp (by omega)]; omega) (by rw [sb_cl0, nI_clamp (by omega)]; omega) (fun j hj y hy => by rw [sb_cl0, Nat.zero_add] at hy; rw [nI_clamp (by omega)] at hj; exact gO_new hq20 (hel j hj y hy) (by rw [hG22])) (Nat.le_of_ble_eq_true rfl) (Nat.le_of_ble_eq_true rfl) dJ12_copyOf_2_35 (fun H locs hR26 hS27 => ?_)
    obtain ⟨G28, hG28⟩ : ∃ z : GH, z = gu G22 q18 ((2, i), .inl (Γ.2 4, N, .inr (.inr (.inr (.inr (va_cpy g (fun _ => none) (0 : Int32).toNatClampNeg (0 : Int32).toNatClampNeg (nI cap).toNatClampNeg)))))) := ⟨_, rfl⟩
    have hR26 : Rep Γ G28 H := by rw [hG28]; exact hR26
    have f29 : G28 ea = some ((2, i), .inl (Γ.2 4, cap, .inr (.inr (.inr (.inr g))))) := by rw [hG28]; exact (gu_n (fne hea hq20)).trans f23
    have f30 : G28 q18 = some ((2, i), .inl (Γ.2 4, N, .inr (.inr (.inr (.inr (va_cpy g (fun _ => none) (0 : Int32).toNatClampNeg (0 : Int32).toNatClampNeg (nI cap).toNatClampNeg)))))) := by rw [hG28]; exact gu_s _ _ _
    refine lv_aload_n X.hx X.hb dJ12_copyOf_2_38 rfl (lv_at hl 0 rfl) ?_
    exact g_aretS X hr (Or.inr ⟨_, rfl⟩) hlk hR26 hS27 (⟨q18, _, rfl, hq20, fun j hj => cpy00 (by omega) hj, by rw [hG28, hG22, gu_gu]⟩) (by (try dsimp only [RM]); omega) (by (try dsimp only [RM]); omega) dJ12_copyOf_2_39

set_option maxHeartbeats 4000000 in
theorem c_copyOf (l : Launch) (Γ : GP) (G : GH) {ea cap i : Nat} {g : Nat → Option Nat} (hea : G ea = some ((2, i), .inl (Γ.2 4, cap, .inr (.inr (.inr (.inr g)))))) {N : Nat} (hcN : cap ≤ N) (hN : N < 1000000) (hel : ∀ j, j < cap → ∀ y, g j = some y → gO G y) : MetG l yJ12_copyOf (ws_ yJ12_copyOf cJ12_copyOf 2 (some (.array (.object "java/lang/Object")))) (RM 3 1 N) Γ G [.ref ea, .int (nI N)] (fun v G1 => ∃ (q : Nat) (g1 : Nat → Option Nat), v = some (.ref q) ∧ G q = none ∧ (∀ j, j < cap → g1 j = g j) ∧ G1 = gu G q ((2, i), .inl (Γ.2 4, N, .inr (.inr (.inr (.inr g1)))))) 1 N := by
  refine gMet (own := RJ12) (by decide) rfl (Nat.le_of_ble_eq_true rfl) ?_
  intro pp ee ss mm below meth cc0 ls X hr hlk hin hnm hR hS hl
  have hl : lv_has ls 2 [(0, .ref ea), (1, .int (nI N))] := hl
  refine lv_aload_n X.hx X.hb dJ12_copyOf_0 rfl (lv_at hl 0 rfl) ?_
  refine lv_iload_n X.hx X.hb dJ12_copyOf_1 rfl (lv_at hl 1 rfl) ?_
  refine lv_aload_n X.hx X.hb dJ12_copyOf_2 rfl (lv_at hl 0 rfl) ?_
  refine va_getC X.hx X.hb (by rw [X.hml]; exact hl.1.symm) X.hown (X.hts _ q338) (va_Nw.use rfl (X.nw kq1537)) (X.hts _ q1536) (X.hts _ q339) (X.hts _ q365) X.mi ⟨_, (hR _ _ hea).1, rfl, va_nmO (X.hK.2 3 _ rfl).2 (by decide +kernel)⟩ (Nat.le_of_ble_eq_true rfl) (Nat.le_of_ble_eq_true rfl) dJ12_copyOf_3 ?_
  refine gcS X hl.1 hR hS 3 [.ref ea, .int (nI N), .ref (Γ.2 8)] [] (c_copyOf2 l Γ G hea hcN hN hel) q366 q367 q51 q368 rfl rfl ⟨by decide +kernel, by decide +kernel, by decide +kernel⟩ ⟨by (try dsimp only [RM]); omega, by (try dsimp only [RM]); omega⟩ rfl rfl (Nat.le_of_ble_eq_true rfl) dJ12_copyOf_6 ⟨by (try dsimp only [RM]); omega, by (try dsimp only [RM]); omega⟩ (fun v34 G35 H locs hq31 hR32 hS33 => ?_)
  obtain ⟨q, g1, rfl, hq, hg, hG⟩ := hq31
  exact g_aretS X hr (Or.inr ⟨_, rfl⟩) hlk hR32 hS33 (⟨q, g1, rfl, hq, hg, hG⟩) (by (try dsimp only [RM]); omega) (by (try dsimp only [RM]); omega) dJ12_copyOf_9

def aC (n : Nat) : Nat := if n = 0 then 10 else n + n / 2
abbrev cAL (i : Nat) (mo : Int32) (ea : Nat) (sz : Int32) : gE := ((1, i), .inr (6, [.int mo, .ref ea, .int sz]))
abbrev cQ (Γ : GP) (t : Nat × Nat) (n : Nat) (g : Nat → Option Nat) : gE := (t, .inl (Γ.2 4, n, .inr (.inr (.inr (.inr g)))))

set_option maxHeartbeats 4000000 in
theorem c_growE (l : Launch) (Γ : GP) (G : GH) {al i : Nat} {mo sz : Int32} {g : Nat → Option Nat} (hal : G al = some (cAL i mo (Γ.2 5) sz)) (hea : G (Γ.2 5) = some (cQ Γ (51, 0) 0 g)) : MetG l yJ2_grow_2 (ws_ yJ2_grow_2 cJ2_grow_2 4 (some (.array (.object "java/lang/Object")))) (RM 4 1 (aC 0)) Γ G [.ref al, .int (nI 1)] (fun v G1 => ∃ (q : Nat) (g1 : Nat → Option Nat), v = some (.ref q) ∧ G q = none ∧ (∀ j, j < 0 → g1 j = g j) ∧ G1 = gu (gu G q (cQ Γ (2, i) (aC 0) g1)) al (cAL i mo q sz)) 1 (aC 0) := by
  refine gMet (own := RJ2) (by decide) rfl (Nat.le_of_ble_eq_true rfl) ?_
  intro pp ee ss mm below meth cc0 ls X hr hlk hin hnm hR hS hl
  have hl : lv_has ls 4 [(0, .ref al), (1, .int (nI 1))] := hl
  have hac : aC 0 = 10 := rfl
  refine lv_aload_n X.hx X.hb dJ2_grow_2_0 rfl (lv_at hl 0 rfl) ?_
  refine g_get X hR hal rfl in_J2 1 (by decide) q103 (fun _ h => h) rfl dJ2_grow_2_1 ?_
  refine g_alen (v := Int32.ofNat 0) X hR 3 hea rfl rfl dJ2_grow_2_4 ?_
  refine lv_istore_n (lv' := [(2, .int (nI 0)), (0, .ref al), (1, .int (nI 1))]) X.hx X.hb dJ2_grow_2_5 rfl hl (by decide) rfl (fun ls hl => ?_)
  refine lv_iload_n X.hx X.hb dJ2_grow_2_6 rfl (lv_at hl 0 rfl) ?_
  refine lv_if_gt (tgt := 20) X.hx X.hb dJ2_grow_2_7 (by decide) (fun c7 => ?_) (fun c7 => ?_)
  · exact absurd c7 (by decide : ¬ (0 : Int32) < nI 0)
  · refine lv_aload_n X.hx X.hb dJ2_grow_2_10 rfl (lv_at hl 1 rfl) ?_
    refine g_get X hR hal rfl in_J2 1 (by decide) q103 (fun _ h => h) rfl dJ2_grow_2_11 ?_
    refine va_gets X.hx X.hb X.hZ.1 hS X.hown (X.hts _ q101) (fun _ h => h) dJ2_grow_2_14 ?_
    refine lv_acmp_eq (rx := some (Γ.2 5)) (ry := some (Γ.2 5)) (tgt := 45) X.hx X.hb dJ2_grow_2_17 (by decide) (fun c17 => ?_) (fun c17 => ?_)
    · refine lv_aload_n X.hx X.hb dJ2_grow_2_45 rfl (lv_at hl 1 rfl) ?_
      refine lv_bipush (v := 10) X.hx X.hb dJ2_grow_2_46 (by decide) ?_
      refine lv_iload_n X.hx X.hb dJ2_grow_2_48 rfl (lv_at hl 2 rfl) ?_
      refine va_mmax X.hx X.hb (by rw [X.hml]; exact hl.1.symm) X.hown (X.hts _ q378) (X.hts _ q329) (X.hts _ q50) (X.hts _ q330) (Nat.le_of_ble_eq_true rfl) (Nat.le_of_ble_eq_true rfl) (by (try dsimp only [RM]); omega) (by (try dsimp only [RM]); omega) dJ2_grow_2_49 ?_
      refine lv_topi (fun x36 hx36 => ?_)
      obtain rfl : x36 = 10 := hx36.trans (by decide)
      refine g_newq (N := 10) X hR hS (2, i) q379 (by decide) (by decide) (by decide) (by (try dsimp only [RM]); omega) (by (try dsimp only [RM]); omega) dJ2_grow_2_52 (fun q37 H hq39 hR38 hS40 => ?_)
      obtain ⟨G41, hG41⟩ : ∃ z : GH, z = gu G q37 ((2, i), .inl (Γ.2 4, 10, .inr (.inr (.inr (.inr (fun _ => none)))))) := ⟨_, rfl⟩
      have hR38 : Rep Γ G41 H := by rw [hG41]; exact hR38
      have f42 : G41 al = some ((1, i), .inr (6, [.int mo, .ref (Γ.2 5), .int sz])) := by rw [hG41]; exact gu_f hal hq39
      have f43 : G41 (Γ.2 5) = some ((51, 0), .inl (Γ.2 4, 0, .inr (.inr (.inr (.inr g))))) := by rw [hG41]; exact gu_f hea hq39
      have f44 : G41 q37 = some ((2, i), .inl (Γ.2 4, 10, .inr (.inr (.inr (.inr (fun _ => none)))))) := by rw [hG41]; exact gu_s _ _ _
      refine lv_dup_x1 X.hx X.hb dJ2_grow_2_55 rfl rfl ?_
      refine g_put X hR38 hS40 f42 (Nat.le_of_ble_eq_true rfl) rfl in_J2 tyJ2 tyJ2_ok nmJ2 1 (by decide) q103 (fun _ h => h) rfl rfl rfl (Nat.le_of_ble_eq_true rfl) dJ2_grow_2_56 (fun H locs hR45 hS46 => ?_)
      obtain ⟨G47, hG47⟩ : ∃ z : GH, z = gu G41 al ((1, i), .inr (6, [.int mo, .ref q37, .int sz])) := ⟨_, rfl⟩
      have hR45 : Rep Γ G47 H := by rw [hG47]; exact hR45
      have f48 : G47 (Γ.2 5) = some ((51, 0), .inl (Γ.2 4, 0, .inr (.inr (.inr (.inr g))))) := by rw [hG47]; exact gu_t f43 f42 (tne rfl)
      have f49 : G47 q37 = some ((2, i), .inl (Γ.2 4, 10, .inr (.inr (.inr (.inr (fun _ => none)))))) := by rw [hG47]; exact (gu_n (Ne.symm (fne hal hq39))).trans f44
      have f50 : G47 al = some ((1, i), .inr (6, [.int mo, .ref q37, .int sz])) := by rw [hG47]; exact gu_s _ _ _
      exact g_aretS X hr (Or.inr ⟨_, rfl⟩) hlk hR45 hS46 (⟨q37, _, rfl, hq39, fun j hj => absurd hj (Nat.not_lt_zero j), by rw [hG47, hG41]; rfl⟩) (by (try dsimp only [RM]); omega) (by (try dsimp only [RM]); omega) dJ2_grow_2_59
    · exact absurd rfl c17

set_option maxHeartbeats 4000000 in
theorem c_growO (l : Launch) (Γ : GP) (G : GH) {al ea i n : Nat} {mo sz : Int32} {g : Nat → Option Nat} (hal : G al = some (cAL i mo ea sz)) (hea : G ea = some (cQ Γ (2, i) n g)) (h2 : 2 ≤ n) (hn : n < 500000) (hel : ∀ j, j < n → ∀ y, g j = some y → gO G y) (hne : ea ≠ Γ.2 5) : MetG l yJ2_grow_2 (ws_ yJ2_grow_2 cJ2_grow_2 4 (some (.array (.object "java/lang/Object")))) (RM 4 1 (aC n)) Γ G [.ref al, .int (nI (n + 1))] (fun v G1 => ∃ (q : Nat) (g1 : Nat → Option Nat), v = some (.ref q) ∧ G q = none ∧ (∀ j, j < n → g1 j = g j) ∧ G1 = gu (gu G q (cQ Γ (2, i) (aC n) g1)) al (cAL i mo q sz)) 1 (aC n) := by
  refine gMet (own := RJ2) (by decide) rfl (Nat.le_of_ble_eq_true rfl) ?_
  intro pp ee ss mm below meth cc0 ls X hr hlk hin hnm hR hS hl
  have hl : lv_has ls 4 [(0, .ref al), (1, .int (nI (n + 1)))] := hl
  have hac : aC n = n + n / 2 := if_neg (by omega)
  refine lv_aload_n X.hx X.hb dJ2_grow_2_0 rfl (lv_at hl 0 rfl) ?_
  refine g_get X hR hal rfl in_J2 1 (by decide) q103 (fun _ h => h) rfl dJ2_grow_2_1 ?_
  refine g_alen (v := Int32.ofNat n) X hR 3 hea rfl rfl dJ2_grow_2_4 ?_
  refine lv_istore_n (lv' := [(2, .int (nI n)), (0, .ref al), (1, .int (nI (n + 1)))]) X.hx X.hb dJ2_grow_2_5 rfl hl (by decide) rfl (fun ls hl => ?_)
  refine lv_iload_n X.hx X.hb dJ2_grow_2_6 rfl (lv_at hl 0 rfl) ?_
  refine lv_if_gt (tgt := 20) X.hx X.hb dJ2_grow_2_7 (by decide) (fun c7 => ?_) (fun c7 => ?_)
  · refine lv_iload_n X.hx X.hb dJ2_grow_2_20 rfl (lv_at hl 0 rfl) ?_
    refine lv_iload_n X.hx X.hb dJ2_grow_2_21 rfl (lv_at hl 2 rfl) ?_
    refine lv_iload_n X.hx X.hb dJ2_grow_2_22 rfl (lv_at hl 0 rfl) ?_
    refine lv_isub X.hx X.hb dJ2_grow_2_23 ?_
    refine lv_topi (fun x51 hx51 => ?_)
    obtain rfl : x51 = 1 := hx51.trans ((pk_sub (by omega)).trans (by rw [Nat.add_sub_cancel_left]; rfl))
    refine lv_iload_n X.hx X.hb dJ2_grow_2_24 rfl (lv_at hl 0 rfl) ?_
    refine lv_iconst (v := 1) X.hx X.hb dJ2_grow_2_25 (by decide) ?_
    refine lv_ishr X.hx X.hb dJ2_grow_2_26 ?_
    refine lv_topi (fun x52 hx52 => ?_)
    obtain rfl : x52 = nI (n / 2) := hx52.trans (shr1 (by omega))
    refine gcS X hl.1 hR hS 3 [.int (nI n), .int 1, .int (nI (n / 2))] [] (c_newLength l Γ G h2 (by omega)) q325 q326 q49 q327 rfl rfl ⟨by decide +kernel, by decide +kernel, by decide +kernel⟩ ⟨by (try dsimp only [RM]); omega, by (try dsimp only [RM]); omega⟩ rfl rfl (Nat.le_of_ble_eq_true rfl) dJ2_grow_2_27 ⟨by (try dsimp only [RM]); omega, by (try dsimp only [RM]); omega⟩ (fun v56 G57 H locs hq53 hR54 hS55 => ?_)
    obtain ⟨rfl, rfl⟩ := hq53
    refine lv_istore_n (lv' := [(3, .int (nI (n + n / 2))), (2, .int (nI n)), (0, .ref al), (1, .int (nI (n + 1)))]) X.hx X.hb dJ2_grow_2_30 rfl hl (by decide) rfl (fun ls hl => ?_)
    refine lv_aload_n X.hx X.hb dJ2_grow_2_31 rfl (lv_at hl 2 rfl) ?_
    refine lv_aload_n X.hx X.hb dJ2_grow_2_32 rfl (lv_at hl 2 rfl) ?_
    refine g_get X hR54 hal rfl in_J2 1 (by decide) q103 (fun _ h => h) rfl dJ2_grow_2_33 ?_
    refine lv_iload_n X.hx X.hb dJ2_grow_2_36 rfl (lv_at hl 0 rfl) ?_
    refine gcS X hl.1 hR54 hS55 2 [.ref ea, .int (nI (n + n / 2))] [.ref al] (c_copyOf l Γ G hea (by omega) (by omega) hel) q335 q336 q51 q337 rfl rfl ⟨by decide +kernel, by decide +kernel, by decide +kernel⟩ ⟨by (try dsimp only [RM]); omega, by (try dsimp only [RM]); omega⟩ rfl rfl (Nat.le_of_ble_eq_true rfl) dJ2_grow_2_37 ⟨by (try dsimp only [RM]); omega, by (try dsimp only [RM]); omega⟩ (fun v61 G62 H locs hq58 hR59 hS60 => ?_)
    obtain ⟨q, g1, rfl, hq, hg, hG⟩ := hq58
    have f63 : G62 al = some ((1, i), .inr (6, [.int mo, .ref ea, .int sz])) := by rw [hG]; exact gu_f hal hq
    have f64 : G62 ea = some ((2, i), .inl (Γ.2 4, n, .inr (.inr (.inr (.inr g))))) := by rw [hG]; exact gu_f hea hq
    have f65 : G62 q = some ((2, i), .inl (Γ.2 4, n + n / 2, .inr (.inr (.inr (.inr g1))))) := by rw [hG]; exact gu_s _ _ _
    refine lv_dup_x1 X.hx X.hb dJ2_grow_2_40 rfl rfl ?_
    refine g_put X hR59 hS60 f63 (Nat.le_of_ble_eq_true rfl) rfl in_J2 tyJ2 tyJ2_ok nmJ2 1 (by decide) q103 (fun _ h => h) rfl rfl rfl (Nat.le_of_ble_eq_true rfl) dJ2_grow_2_41 (fun H locs hR66 hS67 => ?_)
    obtain ⟨G68, hG68⟩ : ∃ z : GH, z = gu G62 al ((1, i), .inr (6, [.int mo, .ref q, .int sz])) := ⟨_, rfl⟩
    have hR66 : Rep Γ G68 H := by rw [hG68]; exact hR66
    have f69 : G68 ea = some ((2, i), .inl (Γ.2 4, n, .inr (.inr (.inr (.inr g))))) := by rw [hG68]; exact gu_t f64 f63 (tne rfl)
    have f70 : G68 q = some ((2, i), .inl (Γ.2 4, n + n / 2, .inr (.inr (.inr (.inr g1))))) := by rw [hG68]; exact (gu_n (Ne.symm (fne hal hq))).trans f65
    have f71 : G68 al = some ((1, i), .inr (6, [.int mo, .ref q, .int sz])) := by rw [hG68]; exact gu_s _ _ _
    exact g_aretS X hr (Or.inr ⟨_, rfl⟩) hlk hR66 hS67 (⟨q, g1, rfl, hq, hg, by rw [hG68, hG, hac]⟩) (by (try dsimp only [RM]); omega) (by (try dsimp only [RM]); omega) dJ2_grow_2_44
  · exact absurd (nI_lt (a := 0) (by omega) (by omega) : (0 : Int32) < nI n) c7

theorem c_grow2 (l : Launch) (Γ : GP) (G : GH) {sz : Int32} {al ea i n : Nat} {mo : Int32} {g : Nat → Option Nat} (hal : G al = some (cAL i mo ea sz)) (hc : (n = 0 ∧ ea = Γ.2 5 ∧ G ea = some (cQ Γ (51, 0) 0 g)) ∨ (2 ≤ n ∧ ea ≠ Γ.2 5 ∧ G ea = some (cQ Γ (2, i) n g))) (hn : n < 500000) (hel : ∀ j, j < n → ∀ y, g j = some y → gO G y) : MetG l yJ2_grow_2 (ws_ yJ2_grow_2 cJ2_grow_2 4 (some (.array (.object "java/lang/Object")))) (RM 4 1 (aC n)) Γ G [.ref al, .int (nI (n + 1))] (fun v G1 => ∃ (q : Nat) (g1 : Nat → Option Nat), v = some (.ref q) ∧ G q = none ∧ (∀ j, j < n → g1 j = g j) ∧ G1 = gu (gu G q (cQ Γ (2, i) (aC n) g1)) al (cAL i mo q sz)) 1 (aC n) := by
  rcases hc with ⟨rfl, rfl, he⟩ | ⟨h2, hne, he⟩
  · exact c_growE l Γ G hal he
  · exact c_growO l Γ G hal he h2 hn hel hne

set_option maxHeartbeats 4000000 in
theorem c_grow1 (l : Launch) (Γ : GP) (G : GH) {al ea i n : Nat} {mo : Int32} {g : Nat → Option Nat} (hal : G al = some (cAL i mo ea (nI n))) (hc : (n = 0 ∧ ea = Γ.2 5 ∧ G ea = some (cQ Γ (51, 0) 0 g)) ∨ (2 ≤ n ∧ ea ≠ Γ.2 5 ∧ G ea = some (cQ Γ (2, i) n g))) (hn : n < 500000) (hel : ∀ j, j < n → ∀ y, g j = some y → gO G y) : MetG l yJ2_grow (ws_ yJ2_grow cJ2_grow 1 (some (.array (.object "java/lang/Object")))) (RM 5 1 (aC n)) Γ G [.ref al] (fun v G1 => ∃ (q : Nat) (g1 : Nat → Option Nat), v = some (.ref q) ∧ G q = none ∧ (∀ j, j < n → g1 j = g j) ∧ G1 = gu (gu G q (cQ Γ (2, i) (aC n) g1)) al (cAL i mo q (nI n))) 1 (aC n) := by
  refine gMet (own := RJ2) (by decide) rfl (Nat.le_of_ble_eq_true rfl) ?_
  intro pp ee ss mm below meth cc0 ls X hr hlk hin hnm hR hS hl
  have hl : lv_has ls 1 [(0, .ref al)] := hl
  refine lv_aload_n X.hx X.hb dJ2_grow_0 rfl (lv_at hl 0 rfl) ?_
  refine lv_aload_n X.hx X.hb dJ2_grow_1 rfl (lv_at hl 0 rfl) ?_
  refine g_get X hR hal rfl in_J2 2 (by decide) q106 (fun _ h => h) rfl dJ2_grow_2 ?_
  refine lv_iconst (v := 1) X.hx X.hb dJ2_grow_5 (by decide) ?_
  refine lv_iadd X.hx X.hb dJ2_grow_6 ?_
  refine lv_topi (fun x72 hx72 => ?_)
  obtain rfl : x72 = nI (n + 1) := hx72.trans (nI_1 n)
  refine gcV X hl.1 hR hS 1 [.int (nI (n + 1))] [] (c_grow2 l Γ G hal hc hn hel) hal rfl q321 q323 qs3 q39 q324 rfl rfl ⟨rfl, by decide +kernel, by decide +kernel, by decide +kernel⟩ ⟨by (try dsimp only [RM]); omega, by (try dsimp only [RM]); omega⟩ rfl rfl (Nat.le_of_ble_eq_true rfl) dJ2_grow_7 ⟨by (try dsimp only [RM]); omega, by (try dsimp only [RM]); omega⟩ (fun v76 G77 H locs hq73 hR74 hS75 => ?_)
  obtain ⟨q, g1, rfl, hq, hg, hG⟩ := hq73
  exact g_aretS X hr (Or.inr ⟨_, rfl⟩) hlk hR74 hS75 (⟨q, g1, rfl, hq, hg, hG⟩) (by (try dsimp only [RM]); omega) (by (try dsimp only [RM]); omega) dJ2_grow_10

/-- the list al, its tag (1, i), of n places out of cap, that hold f -/
def AL (Γ : GP) (G : GH) (al i n cap : Nat) (f : Nat → Option Nat) : Prop := ∃ (mo : Int32) (ea : Nat) (g : Nat → Option Nat), G al = some (cAL i mo ea (nI n)) ∧ n ≤ cap ∧ (∀ j, j < n → g j = f j) ∧ ((cap = 0 ∧ ea = Γ.2 5 ∧ G ea = some (cQ Γ (51, 0) 0 g)) ∨ (2 ≤ cap ∧ ea ≠ Γ.2 5 ∧ G ea = some (cQ Γ (2, i) cap g)))
/-- the room that one more place may take; the capacity behind it -/
def aM (n cap : Nat) : Nat := if n < cap then 0 else 1
def aS (n cap : Nat) : Nat := if n < cap then 0 else aC n
def aN (n cap : Nat) : Nat := if n < cap then cap else aC n

theorem up_ext {α : Type} {f g : Nat → α} {n : Nat} {x : α} (h : ∀ j, j < n → g j = f j) : ∀ j, j < n + 1 → va_up g n x j = va_up f n x j := by
  intro j hj
  by_cases e : j = n
  · subst e; simp [va_up]
  · simp only [va_up, if_neg e]; exact h j (by omega)
theorem up_ext2 {α : Type} {f g g1 : Nat → α} {n : Nat} {x : α} (h : ∀ j, j < n → g j = f j) (h1 : ∀ j, j < n → g1 j = g j) : ∀ j, j < n + 1 → va_up g1 n x j = va_up f n x j := up_ext (fun j hj => (h1 j hj).trans (h j hj))
/-- the tags of a list's cells -/
def tA (i : Nat) (t : Nat × Nat) : Prop := t = (1, i) ∨ t = (2, i)

set_option maxHeartbeats 4000000 in
theorem c_add2N (l : Launch) (Γ : GP) (G : GH) {al ea n cap i : Nat} {mo : Int32} {g : Nat → Option Nat} (hal : G al = some (cAL i mo ea (nI n))) (hlt : n < cap) (h2 : 2 ≤ cap) (hne : ea ≠ Γ.2 5) (hea : G ea = some (cQ Γ (2, i) cap g)) (hcap : cap < 500000) {f : Nat → Option Nat} (hf : ∀ j, j < n → g j = f j) {e ci : Nat} {te : Nat × Nat} {vs : List Value} {r : vw_C} (hv : G e = some (te, .inr (ci, vs))) (hci : CL[ci]? = some r) (hca : Cond.castable r.1 "java/lang/Object" ∈ NW) : MetG l yJ2_add_2 (ws_ yJ2_add_2 cJ2_add_2 4 none) (RM 6 0 0) Γ G [.ref al, .ref e, .ref ea, .int (nI n)] (fun v G1 => v = none ∧ gK (tA i) G G1 ∧ AL Γ G1 al i (n + 1) (aN n cap) (va_up f n (some e))) 0 0 := by
  refine gMet (own := RJ2) (by decide) rfl (Nat.le_of_ble_eq_true rfl) ?_
  intro pp ee ss mm below meth cc0 ls X hr hlk hin hnm hR hS hl
  have hl : lv_has ls 4 [(0, .ref al), (1, .ref e), (2, .ref ea), (3, .int (nI n))] := hl
  refine lv_iload_n X.hx X.hb dJ2_add_2_0 rfl (lv_at hl 3 rfl) ?_
  refine lv_aload_n X.hx X.hb dJ2_add_2_1 rfl (lv_at hl 2 rfl) ?_
  refine g_alen (v := Int32.ofNat cap) X hR 3 hea rfl rfl dJ2_add_2_2 ?_
  refine lv_icmp_ne (tgt := 11) X.hx X.hb dJ2_add_2_3 (by decide) (fun c3 => ?_) (fun c3 => ?_)
  · refine lv_aload_n X.hx X.hb dJ2_add_2_11 rfl (lv_at hl 2 rfl) ?_
    refine lv_iload_n X.hx X.hb dJ2_add_2_12 rfl (lv_at hl 3 rfl) ?_
    refine lv_aload_n X.hx X.hb dJ2_add_2_13 rfl (lv_at hl 1 rfl) ?_
    refine g_aast X hR hS hea (Nat.le_of_ble_eq_true rfl) hv hci hca (vp_in_nI hlt (by omega)) dJ2_add_2_14 (fun H locs hR78 hS79 => ?_)
    rw [nI_clamp (by omega)] at hR78
    obtain ⟨G80, hG80⟩ : ∃ z : GH, z = gu G ea ((2, i), .inl (Γ.2 4, cap, .inr (.inr (.inr (.inr (va_up g n (some e))))))) := ⟨_, rfl⟩
    have hR78 : Rep Γ G80 H := by rw [hG80]; exact hR78
    have f81 : G80 al = some ((1, i), .inr (6, [.int mo, .ref ea, .int (nI n)])) := by rw [hG80]; exact gu_t hal hea (tne rfl)
    have f82 : G80 ea = some ((2, i), .inl (Γ.2 4, cap, .inr (.inr (.inr (.inr (va_up g n (some e))))))) := by rw [hG80]; exact gu_s _ _ _
    refine lv_aload_n X.hx X.hb dJ2_add_2_15 rfl (lv_at hl 0 rfl) ?_
    refine lv_iload_n X.hx X.hb dJ2_add_2_16 rfl (lv_at hl 3 rfl) ?_
    refine lv_iconst (v := 1) X.hx X.hb dJ2_add_2_17 (by decide) ?_
    refine lv_iadd X.hx X.hb dJ2_add_2_18 ?_
    refine lv_topi (fun x83 hx83 => ?_)
    obtain rfl : x83 = nI (n + 1) := hx83.trans (nI_1 n)
    refine g_put X hR78 hS79 f81 (Nat.le_of_ble_eq_true rfl) rfl in_J2 tyJ2 tyJ2_ok nmJ2 2 (by decide) q106 (fun _ h => h) rfl rfl rfl (Nat.le_of_ble_eq_true rfl) dJ2_add_2_19 (fun H locs hR84 hS85 => ?_)
    obtain ⟨G86, hG86⟩ : ∃ z : GH, z = gu G80 al ((1, i), .inr (6, [.int mo, .ref ea, .int (nI (n + 1))])) := ⟨_, rfl⟩
    have hR84 : Rep Γ G86 H := by rw [hG86]; exact hR84
    have f87 : G86 ea = some ((2, i), .inl (Γ.2 4, cap, .inr (.inr (.inr (.inr (va_up g n (some e))))))) := by rw [hG86]; exact gu_t f82 f81 (tne rfl)
    have f88 : G86 al = some ((1, i), .inr (6, [.int mo, .ref ea, .int (nI (n + 1))])) := by rw [hG86]; exact gu_s _ _ _
    exact g_vret X hr hlk hR84 hS85 (⟨rfl, (gK.tr (gK.pt hG80 hea (Or.inr rfl)) (gK.pt hG86 f81 (Or.inl rfl))), mo, ea, _, f88, by rw [aN, if_pos hlt]; omega, up_ext hf, Or.inr (by rw [aN, if_pos hlt]; exact ⟨h2, hne, f87⟩)⟩) (by (try dsimp only [RM]); omega) (by (try dsimp only [RM]); omega) dJ2_add_2_22
  · exact absurd ((nI_eq (by omega) (by omega)).mp c3) (by omega)

set_option maxHeartbeats 4000000 in
theorem c_add2G (l : Launch) (Γ : GP) (G : GH) {al ea i n : Nat} {mo : Int32} {g : Nat → Option Nat} (hal : G al = some (cAL i mo ea (nI n))) (hc : (n = 0 ∧ ea = Γ.2 5 ∧ G ea = some (cQ Γ (51, 0) 0 g)) ∨ (2 ≤ n ∧ ea ≠ Γ.2 5 ∧ G ea = some (cQ Γ (2, i) n g))) (hn : n < 500000) (hel : ∀ j, j < n → ∀ y, g j = some y → gO G y) (hq5 : ∀ q, G q = none → q ≠ Γ.2 5) {f : Nat → Option Nat} (hf : ∀ j, j < n → g j = f j) {e ci : Nat} {te : Nat × Nat} {vs : List Value} {r : vw_C} (hv : G e = some (te, .inr (ci, vs))) (hci : CL[ci]? = some r) (hca : Cond.castable r.1 "java/lang/Object" ∈ NW) (hte : te ≠ (1, i)) : MetG l yJ2_add_2 (ws_ yJ2_add_2 cJ2_add_2 4 none) (RM 6 1 (aC n)) Γ G [.ref al, .ref e, .ref ea, .int (nI n)] (fun v G1 => v = none ∧ gK (tA i) G G1 ∧ AL Γ G1 al i (n + 1) (aN n n) (va_up f n (some e))) 1 (aC n) := by
  refine gMet (own := RJ2) (by decide) rfl (Nat.le_of_ble_eq_true rfl) ?_
  intro pp ee ss mm below meth cc0 ls X hr hlk hin hnm hR hS hl
  have hl : lv_has ls 4 [(0, .ref al), (1, .ref e), (2, .ref ea), (3, .int (nI n))] := hl
  have hac : n < aC n ∧ 2 ≤ aC n ∧ aC n ≤ n + n / 2 + 10 := by rcases hc with ⟨h, _⟩ | ⟨h, _⟩ <;> unfold aC <;> split <;> omega
  obtain ⟨tb, hea⟩ : ∃ tb : Nat × Nat, G ea = some (cQ Γ tb n g) := by rcases hc with ⟨rfl, rfl, h⟩ | ⟨_, _, h⟩ <;> exact ⟨_, h⟩
  refine lv_iload_n X.hx X.hb dJ2_add_2_0 rfl (lv_at hl 3 rfl) ?_
  refine lv_aload_n X.hx X.hb dJ2_add_2_1 rfl (lv_at hl 2 rfl) ?_
  refine g_alen (v := Int32.ofNat n) X hR 3 hea rfl rfl dJ2_add_2_2 ?_
  refine lv_icmp_ne (tgt := 11) X.hx X.hb dJ2_add_2_3 (by decide) (fun c3 => ?_) (fun c3 => ?_)
  · exact absurd rfl c3
  · refine lv_aload_n X.hx X.hb dJ2_add_2_6 rfl (lv_at hl 0 rfl) ?_
    refine gcV X hl.1 hR hS 0 [] [] (c_grow1 l Γ G hal hc hn hel) hal rfl q317 q319 qs2 q39 q320 rfl rfl ⟨rfl, by decide +kernel, by decide +kernel, by decide +kernel⟩ ⟨by (try dsimp only [RM]); omega, by (try dsimp only [RM]); omega⟩ rfl rfl (Nat.le_of_ble_eq_true rfl) dJ2_add_2_7 ⟨by (try dsimp only [RM]); omega, by (try dsimp only [RM]); omega⟩ (fun v92 G93 H locs hq89 hR90 hS91 => ?_)
    obtain ⟨q, g1, rfl, hq, hg, hG⟩ := hq89
    have hneq : q ≠ Γ.2 5 := hq5 q hq
    obtain ⟨G94, hG94⟩ : ∃ z : GH, z = gu G q ((2, i), .inl (Γ.2 4, aC n, .inr (.inr (.inr (.inr g1))))) := ⟨_, rfl⟩
    rw [← hG94] at hG
    have f95 : G94 al = some ((1, i), .inr (6, [.int mo, .ref ea, .int (nI n)])) := by rw [hG94]; exact gu_f hal hq
    have f96 : G94 q = some ((2, i), .inl (Γ.2 4, aC n, .inr (.inr (.inr (.inr g1))))) := by rw [hG94]; exact gu_s _ _ _
    have f97 : G93 q = some ((2, i), .inl (Γ.2 4, aC n, .inr (.inr (.inr (.inr g1))))) := by rw [hG]; exact (gu_n (Ne.symm (fne hal hq))).trans f96
    have f98 : G93 al = some ((1, i), .inr (6, [.int mo, .ref q, .int (nI n)])) := by rw [hG]; exact gu_s _ _ _
    have hv1 : G93 e = some (te, .inr (ci, vs)) := by rw [hG]; exact gu_t (by rw [hG94]; exact gu_f hv hq) f95 hte
    refine lv_astore_n (lv' := [(2, .ref q), (0, .ref al), (1, .ref e), (3, .int (nI n))]) X.hx X.hb dJ2_add_2_10 rfl hl (by decide) rfl (fun ls hl => ?_)
    refine lv_aload_n X.hx X.hb dJ2_add_2_11 rfl (lv_at hl 0 rfl) ?_
    refine lv_iload_n X.hx X.hb dJ2_add_2_12 rfl (lv_at hl 3 rfl) ?_
    refine lv_aload_n X.hx X.hb dJ2_add_2_13 rfl (lv_at hl 2 rfl) ?_
    refine g_aast X hR90 hS91 f97 (Nat.le_of_ble_eq_true rfl) hv1 hci hca (vp_in_nI (by omega) (by omega)) dJ2_add_2_14 (fun H locs hR99 hS100 => ?_)
    rw [nI_clamp (by omega)] at hR99
    obtain ⟨G101, hG101⟩ : ∃ z : GH, z = gu G93 q ((2, i), .inl (Γ.2 4, aC n, .inr (.inr (.inr (.inr (va_up g1 n (some e))))))) := ⟨_, rfl⟩
    have hR99 : Rep Γ G101 H := by rw [hG101]; exact hR99
    have f102 : G101 al = some ((1, i), .inr (6, [.int mo, .ref q, .int (nI n)])) := by rw [hG101]; exact (gu_n (fne hal hq)).trans f98
    have f103 : G101 q = some ((2, i), .inl (Γ.2 4, aC n, .inr (.inr (.inr (.inr (va_up g1 n (some e))))))) := by rw [hG101]; exact gu_s _ _ _
    refine lv_aload_n X.hx X.hb dJ2_add_2_15 rfl (lv_at hl 1 rfl) ?_
    refine lv_iload_n X.hx X.hb dJ2_add_2_16 rfl (lv_at hl 3 rfl) ?_
    refine lv_iconst (v := 1) X.hx X.hb dJ2_add_2_17 (by decide) ?_
    refine lv_iadd X.hx X.hb dJ2_add_2_18 ?_
    refine lv_topi (fun x104 hx104 => ?_)
    obtain rfl : x104 = nI (n + 1) := hx104.trans (nI_1 n)
    refine g_put X hR99 hS100 f102 (Nat.le_of_ble_eq_true rfl) rfl in_J2 tyJ2 tyJ2_ok nmJ2 2 (by decide) q106 (fun _ h => h) rfl rfl rfl (Nat.le_of_ble_eq_true rfl) dJ2_add_2_19 (fun H locs hR105 hS106 => ?_)
    obtain ⟨G107, hG107⟩ : ∃ z : GH, z = gu G101 al ((1, i), .inr (6, [.int mo, .ref q, .int (nI (n + 1))])) := ⟨_, rfl⟩
    have hR105 : Rep Γ G107 H := by rw [hG107]; exact hR105
    have f108 : G107 q = some ((2, i), .inl (Γ.2 4, aC n, .inr (.inr (.inr (.inr (va_up g1 n (some e))))))) := by rw [hG107]; exact (gu_n (Ne.symm (fne hal hq))).trans f103
    have f109 : G107 al = some ((1, i), .inr (6, [.int mo, .ref q, .int (nI (n + 1))])) := by rw [hG107]; exact gu_s _ _ _
    exact g_vret X hr hlk hR105 hS106 (⟨rfl, (gK.tr (gK.tr (gK.tr (gK.nw hG94 hq) (gK.pt hG f95 (Or.inl rfl))) (gK.pt hG101 f97 (Or.inr rfl))) (gK.pt hG107 f102 (Or.inl rfl))), mo, q, _, f109, by rw [aN, if_neg (by omega)]; omega, up_ext2 hf hg, Or.inr (by rw [aN, if_neg (by omega)]; exact ⟨by omega, hneq, f108⟩)⟩) (by (try dsimp only [RM]); omega) (by (try dsimp only [RM]); omega) dJ2_add_2_22

theorem AL.ns {n cap : Nat} : aM n cap ≤ 1 := by unfold aM; split <;> omega

set_option maxHeartbeats 4000000 in
theorem c_addN (l : Launch) (Γ : GP) (G : GH) {al ea n cap i : Nat} {mo : Int32} {g : Nat → Option Nat} (hal : G al = some (cAL i mo ea (nI n))) (hlt : n < cap) (h2 : 2 ≤ cap) (hne : ea ≠ Γ.2 5) (hea : G ea = some (cQ Γ (2, i) cap g)) (hcap : cap < 500000) {f : Nat → Option Nat} (hf : ∀ j, j < n → g j = f j) {e ci : Nat} {te : Nat × Nat} {vs : List Value} {r : vw_C} (hv : G e = some (te, .inr (ci, vs))) (hci : CL[ci]? = some r) (hca : Cond.castable r.1 "java/lang/Object" ∈ NW) (hte : te ≠ (1, i)) : MetG l yJ2_add (ws_ yJ2_add cJ2_add 2 (some .boolean)) (RM 7 0 0) Γ G [.ref al, .ref e] (fun v G1 => v = some (.int 1) ∧ gK (tA i) G G1 ∧ AL Γ G1 al i (n + 1) (aN n cap) (va_up f n (some e))) 0 0 := by
  refine gMet (own := RJ2) (by decide) rfl (Nat.le_of_ble_eq_true rfl) ?_
  intro pp ee ss mm below meth cc0 ls X hr hlk hin hnm hR hS hl
  have hl : lv_has ls 2 [(0, .ref al), (1, .ref e)] := hl
  refine lv_aload_n X.hx X.hb dJ2_add_0 rfl (lv_at hl 0 rfl) ?_
  refine lv_dup X.hx X.hb dJ2_add_1 rfl ?_
  refine g_get X hR hal rfl in_J2 0 (by decide) q110 (fun x h => u_same (X.hts _ q109) x h) rfl dJ2_add_2 ?_
  refine lv_iconst (v := 1) X.hx X.hb dJ2_add_5 (by decide) ?_
  refine lv_iadd X.hx X.hb dJ2_add_6 ?_
  refine lv_topi (fun mo110 hmo110 => ?_)
  refine g_put X hR hS hal (Nat.le_of_ble_eq_true rfl) rfl in_J2 tyJ2 tyJ2_ok nmJ2 0 (by decide) q110 (fun x h => u_same (X.hts _ q109) x h) rfl rfl rfl (Nat.le_of_ble_eq_true rfl) dJ2_add_7 (fun H locs hR111 hS112 => ?_)
  obtain ⟨G113, hG113⟩ : ∃ z : GH, z = gu G al ((1, i), .inr (6, [.int mo110, .ref ea, .int (nI n)])) := ⟨_, rfl⟩
  have hR111 : Rep Γ G113 H := by rw [hG113]; exact hR111
  have f114 : G113 ea = some ((2, i), .inl (Γ.2 4, cap, .inr (.inr (.inr (.inr g))))) := by rw [hG113]; exact gu_t hea hal (tne rfl)
  have f115 : G113 al = some ((1, i), .inr (6, [.int mo110, .ref ea, .int (nI n)])) := by rw [hG113]; exact gu_s _ _ _
  refine lv_aload_n X.hx X.hb dJ2_add_10 rfl (lv_at hl 0 rfl) ?_
  refine lv_aload_n X.hx X.hb dJ2_add_11 rfl (lv_at hl 1 rfl) ?_
  refine lv_aload_n X.hx X.hb dJ2_add_12 rfl (lv_at hl 0 rfl) ?_
  refine g_get X hR111 f115 rfl in_J2 1 (by decide) q103 (fun _ h => h) rfl dJ2_add_13 ?_
  refine lv_aload_n X.hx X.hb dJ2_add_16 rfl (lv_at hl 0 rfl) ?_
  refine g_get X hR111 f115 rfl in_J2 2 (by decide) q106 (fun _ h => h) rfl dJ2_add_17 ?_
  have hv1 : G113 e = some (te, .inr (ci, vs)) := by rw [hG113]; exact gu_t hv hal hte
  refine gcV X hl.1 hR111 hS112 3 [.ref e, .ref ea, .int (nI n)] [] (c_add2N l Γ G113 f115 hlt h2 hne f114 hcap hf hv1 hci hca) f115 rfl q313 q315 qs1 q39 q316 rfl rfl ⟨rfl, by decide +kernel, by decide +kernel, by decide +kernel⟩ ⟨by (try dsimp only [RM]); omega, by (try dsimp only [RM]); omega⟩ rfl rfl (Nat.le_of_ble_eq_true rfl) dJ2_add_20 ⟨by (try dsimp only [RM]); omega, by (try dsimp only [RM]); omega⟩ (fun v119 G120 H locs hq116 hR117 hS118 => ?_)
  obtain ⟨rfl, hk, hAL⟩ := hq116
  refine lv_iconst (v := 1) X.hx X.hb dJ2_add_23 (by decide) ?_
  exact g_zret X hr hlk hR117 hS118 rfl (⟨rfl, gK.tr (gK.pt hG113 hal (Or.inl rfl)) hk, hAL⟩) (by (try dsimp only [RM]); omega) (by (try dsimp only [RM]); omega) dJ2_add_24

theorem gO_put {G G1 : GH} {a y : Nat} {t : Nat × Nat} {ci : Nat} {fs fs1 : List Value} (e : G1 = gu G a (t, .inr (ci, fs1))) (ha : G a = some (t, .inr (ci, fs))) (h : gO G y) : gO G1 y := by
  obtain ⟨t1, c1, vs, r, h1, h2, h3⟩ := h
  by_cases hy : y = a
  · subst hy
    cases h1.symm.trans ha
    exact ⟨_, _, fs1, r, by rw [e]; exact gu_s _ _ _, h2, h3⟩
  · exact ⟨t1, c1, vs, r, by rw [e, gu_n hy]; exact h1, h2, h3⟩
theorem gu_none {G G1 : GH} {a q : Nat} {x : gE} (e : G1 = gu G a x) (h : G1 q = none) : G q = none := by
  rw [e] at h
  by_cases hq : q = a
  · subst hq; rw [gu_s] at h; cases h
  · rw [gu_n hq] at h; exact h


set_option maxHeartbeats 4000000 in
theorem c_addG (l : Launch) (Γ : GP) (G : GH) {al ea i n : Nat} {mo : Int32} {g : Nat → Option Nat} (hal : G al = some (cAL i mo ea (nI n))) (hc : (n = 0 ∧ ea = Γ.2 5 ∧ G ea = some (cQ Γ (51, 0) 0 g)) ∨ (2 ≤ n ∧ ea ≠ Γ.2 5 ∧ G ea = some (cQ Γ (2, i) n g))) (hn : n < 500000) (hel : ∀ j, j < n → ∀ y, g j = some y → gO G y) (hq5 : ∀ q, G q = none → q ≠ Γ.2 5) {f : Nat → Option Nat} (hf : ∀ j, j < n → g j = f j) {e ci : Nat} {te : Nat × Nat} {vs : List Value} {r : vw_C} (hv : G e = some (te, .inr (ci, vs))) (hci : CL[ci]? = some r) (hca : Cond.castable r.1 "java/lang/Object" ∈ NW) (hte : te ≠ (1, i)) : MetG l yJ2_add (ws_ yJ2_add cJ2_add 2 (some .boolean)) (RM 7 1 (aC n)) Γ G [.ref al, .ref e] (fun v G1 => v = some (.int 1) ∧ gK (tA i) G G1 ∧ AL Γ G1 al i (n + 1) (aN n n) (va_up f n (some e))) 1 (aC n) := by
  refine gMet (own := RJ2) (by decide) rfl (Nat.le_of_ble_eq_true rfl) ?_
  intro pp ee ss mm below meth cc0 ls X hr hlk hin hnm hR hS hl
  have hl : lv_has ls 2 [(0, .ref al), (1, .ref e)] := hl
  refine lv_aload_n X.hx X.hb dJ2_add_0 rfl (lv_at hl 0 rfl) ?_
  refine lv_dup X.hx X.hb dJ2_add_1 rfl ?_
  refine g_get X hR hal rfl in_J2 0 (by decide) q110 (fun x h => u_same (X.hts _ q109) x h) rfl dJ2_add_2 ?_
  refine lv_iconst (v := 1) X.hx X.hb dJ2_add_5 (by decide) ?_
  refine lv_iadd X.hx X.hb dJ2_add_6 ?_
  refine lv_topi (fun mo121 hmo121 => ?_)
  refine g_put X hR hS hal (Nat.le_of_ble_eq_true rfl) rfl in_J2 tyJ2 tyJ2_ok nmJ2 0 (by decide) q110 (fun x h => u_same (X.hts _ q109) x h) rfl rfl rfl (Nat.le_of_ble_eq_true rfl) dJ2_add_7 (fun H locs hR122 hS123 => ?_)
  obtain ⟨G124, hG124⟩ : ∃ z : GH, z = gu G al ((1, i), .inr (6, [.int mo121, .ref ea, .int (nI n)])) := ⟨_, rfl⟩
  have hR122 : Rep Γ G124 H := by rw [hG124]; exact hR122
  have f125 : G124 al = some ((1, i), .inr (6, [.int mo121, .ref ea, .int (nI n)])) := by rw [hG124]; exact gu_s _ _ _
  refine lv_aload_n X.hx X.hb dJ2_add_10 rfl (lv_at hl 0 rfl) ?_
  refine lv_aload_n X.hx X.hb dJ2_add_11 rfl (lv_at hl 1 rfl) ?_
  refine lv_aload_n X.hx X.hb dJ2_add_12 rfl (lv_at hl 0 rfl) ?_
  refine g_get X hR122 f125 rfl in_J2 1 (by decide) q103 (fun _ h => h) rfl dJ2_add_13 ?_
  refine lv_aload_n X.hx X.hb dJ2_add_16 rfl (lv_at hl 0 rfl) ?_
  refine g_get X hR122 f125 rfl in_J2 2 (by decide) q106 (fun _ h => h) rfl dJ2_add_17 ?_
  have hv1 : G124 e = some (te, .inr (ci, vs)) := by rw [hG124]; exact gu_t hv hal hte
  have hc1 : (n = 0 ∧ ea = Γ.2 5 ∧ G124 ea = some (cQ Γ (51, 0) 0 g)) ∨ (2 ≤ n ∧ ea ≠ Γ.2 5 ∧ G124 ea = some (cQ Γ (2, i) n g)) := by
    rcases hc with ⟨h1, h2, h3⟩ | ⟨h1, h2, h3⟩
    · exact Or.inl ⟨h1, h2, by rw [hG124]; exact gu_t h3 hal (tne rfl)⟩
    · exact Or.inr ⟨h1, h2, by rw [hG124]; exact gu_t h3 hal (tne rfl)⟩
  have hel1 : ∀ j, j < n → ∀ y, g j = some y → gO G124 y := fun j hj y hy => gO_put hG124 hal (hel j hj y hy)
  have hq51 : ∀ q, G124 q = none → q ≠ Γ.2 5 := fun q h => hq5 q (gu_none hG124 h)
  refine gcV X hl.1 hR122 hS123 3 [.ref e, .ref ea, .int (nI n)] [] (c_add2G l Γ G124 f125 hc1 hn hel1 hq51 hf hv1 hci hca hte) f125 rfl q313 q315 qs1 q39 q316 rfl rfl ⟨rfl, by decide +kernel, by decide +kernel, by decide +kernel⟩ ⟨by (try dsimp only [RM]); omega, by (try dsimp only [RM]); omega⟩ rfl rfl (Nat.le_of_ble_eq_true rfl) dJ2_add_20 ⟨by (try dsimp only [RM]); omega, by (try dsimp only [RM]); omega⟩ (fun v129 G130 H locs hq126 hR127 hS128 => ?_)
  obtain ⟨rfl, hk, hAL⟩ := hq126
  refine lv_iconst (v := 1) X.hx X.hb dJ2_add_23 (by decide) ?_
  exact g_zret X hr hlk hR127 hS128 rfl (⟨rfl, gK.tr (gK.pt hG124 hal (Or.inl rfl)) hk, hAL⟩) (by (try dsimp only [RM]); omega) (by (try dsimp only [RM]); omega) dJ2_add_24

/-- add(e), on a list -/
theorem c_add (l : Launch) (Γ : GP) (G : GH) {al i n cap : Nat} {f : Nat → Option Nat} (hAL : AL Γ G al i n cap f) (hcap : cap < 500000) (hel : ∀ j, j < n → ∀ y, f j = some y → gO G y) (hq5 : ∀ q, G q = none → q ≠ Γ.2 5) {e ci : Nat} {te : Nat × Nat} {vs : List Value} {r : vw_C} (hv : G e = some (te, .inr (ci, vs))) (hci : CL[ci]? = some r) (hca : Cond.castable r.1 "java/lang/Object" ∈ NW) (hte : te ≠ (1, i)) : MetG l yJ2_add (ws_ yJ2_add cJ2_add 2 (some .boolean)) (RM 7 (aM n cap) (aS n cap)) Γ G [.ref al, .ref e] (fun v G1 => v = some (.int 1) ∧ gK (tA i) G G1 ∧ AL Γ G1 al i (n + 1) (aN n cap) (va_up f n (some e))) (aM n cap) (aS n cap) := by
  obtain ⟨mo, ea, g, hal, hn, hf, hc⟩ := hAL
  by_cases hlt : n < cap
  · rw [aM, aS, if_pos hlt, if_pos hlt]
    rcases hc with ⟨h1, -⟩ | ⟨h2, hne, hea⟩
    · omega
    · exact c_addN l Γ G hal hlt h2 hne hea hcap hf hv hci hca hte
  · have e1 : cap = n := by omega
    subst e1
    rw [aM, aS, if_neg hlt, if_neg hlt]
    refine c_addG l Γ G hal ?_ hcap (fun j hj y hy => hel j hj y (by rw [← hf j hj]; exact hy)) hq5 hf hv hci hca hte
    rcases hc with ⟨h1, h2, h3⟩ | ⟨h1, h2, h3⟩
    · subst h1; exact Or.inl ⟨rfl, h2, h3⟩
    · exact Or.inr ⟨h1, h2, h3⟩

/-- the constants of the world -/
def CN (Γ : GP) (G : GH) : Prop := G (Γ.2 5) = some (cQ Γ (51, 0) 0 (fun _ => none)) ∧ (∀ k, k < 256 → G (Γ.2 (1000 + k)) = some ((50, k), .inr (9, [.int (vb_c k)]))) ∧ G (Γ.2 15) = some ((52, 0), .inl (Γ.2 13, 0, .inl (fun _ => 0))) ∧ G (Γ.2 16) = some ((52, 1), .inl (Γ.2 14, 0, .inl (fun _ => 0)))
theorem CN.keep {Γ : GP} {G G1 : GH} {S : Nat × Nat → Prop} (h : CN Γ G) (hk : gK S G G1) (hS : ∀ t, S t → t.1 < 50) : CN Γ G1 :=
  ⟨hk _ _ h.1 (fun z => absurd (hS _ z) (by show ¬ (51 < 50); decide)), fun k hk9 => hk _ _ (h.2.1 k hk9) (fun z => absurd (hS _ z) (by show ¬ (50 < 50); decide)), hk _ _ h.2.2.1 (fun z => absurd (hS _ z) (by show ¬ (52 < 50); decide)), hk _ _ h.2.2.2 (fun z => absurd (hS _ z) (by show ¬ (52 < 50); decide))⟩
theorem CN.q5 {Γ : GP} {G : GH} (h : CN Γ G) : ∀ q, G q = none → q ≠ Γ.2 5 := fun q hq e => by rw [e, h.1] at hq; cases hq
theorem tA_lt {i : Nat} : ∀ t, tA i t → t.1 < 50 := fun t h => by
  rcases h with h | h <;> subst h
  · show 1 < 50; decide
  · show 2 < 50; decide

set_option maxHeartbeats 4000000 in
theorem c_J0i (l : Launch) (Γ : GP) (G : GH) {a : Nat} : MetG l yJ0_init (ws_ yJ0_init cJ0_init 1 none) (RM 2 0 0) Γ G [.ref a] (fun v G1 => v = none ∧ G = G1) 0 0 := by
  refine gMet (own := RJ0) (by decide) rfl (Nat.le_of_ble_eq_true rfl) ?_
  intro pp ee ss mm below meth cc0 ls X hr hlk hin hnm hR hS hl
  have hl : lv_has ls 1 [(0, .ref a)] := hl
  refine lv_aload_n X.hx X.hb dJ0_init_0 rfl (lv_at hl 0 rfl) ?_
  refine W.objInit X.hx X.hb X.hown (X.hts _ q100) (X.hts _ q87) (X.hts _ q88) rfl (by rw [X.hml]; exact hl.1) rfl dJ0_init_1 (Nat.le_of_ble_eq_true rfl) (Nat.le_of_ble_eq_true rfl) ?_
  refine W.eq (g2 := F0 mm 4 ls []) rfl ?_
  exact g_vret X hr hlk hR hS (⟨rfl, rfl⟩) (by (try dsimp only [RM]); omega) (by (try dsimp only [RM]); omega) dJ0_init_4

set_option maxHeartbeats 4000000 in
theorem c_J1i (l : Launch) (Γ : GP) (G : GH) {al i : Nat} {e0 : Option Nat} {mo sz : Int32} (hal : G al = some ((1, i), .inr (6, [.int mo, va_rf e0, .int sz]))) : MetG l yJ1_init (ws_ yJ1_init cJ1_init 1 none) (RM 3 0 0) Γ G [.ref al] (fun v G1 => v = none ∧ G1 = gu G al ((1, i), .inr (6, [.int 0, va_rf e0, .int sz]))) 0 0 := by
  refine gMet (own := RJ1) (by decide) rfl (Nat.le_of_ble_eq_true rfl) ?_
  intro pp ee ss mm below meth cc0 ls X hr hlk hin hnm hR hS hl
  have hl : lv_has ls 1 [(0, .ref al)] := hl
  refine lv_aload_n X.hx X.hb dJ1_init_0 rfl (lv_at hl 0 rfl) ?_
  refine gcI X hl.1 hR hS 0 [] [] (c_J0i l Γ G) q97 q98 q37 q99 rfl rfl rfl ⟨by decide +kernel, by decide +kernel, by decide +kernel⟩ ⟨by (try dsimp only [RM]); omega, by (try dsimp only [RM]); omega⟩ rfl rfl (Nat.le_of_ble_eq_true rfl) dJ1_init_1 ⟨by (try dsimp only [RM]); omega, by (try dsimp only [RM]); omega⟩ (fun v134 G135 H locs hq131 hR132 hS133 => ?_)
  obtain ⟨rfl, rfl⟩ := hq131
  refine lv_aload_n X.hx X.hb dJ1_init_4 rfl (lv_at hl 0 rfl) ?_
  refine lv_iconst (v := 0) X.hx X.hb dJ1_init_5 (by decide) ?_
  refine g_put X hR132 hS133 hal (Nat.le_of_ble_eq_true rfl) rfl in_J2 tyJ2 tyJ2_ok nmJ2 0 (by decide) q107 (fun _ h => h) rfl rfl rfl (Nat.le_of_ble_eq_true rfl) dJ1_init_6 (fun H locs hR136 hS137 => ?_)
  obtain ⟨G138, hG138⟩ : ∃ z : GH, z = gu G al ((1, i), .inr (6, [.int 0, va_rf e0, .int sz])) := ⟨_, rfl⟩
  have hR136 : Rep Γ G138 H := by rw [hG138]; exact hR136
  have f139 : G138 al = some ((1, i), .inr (6, [.int 0, va_rf e0, .int sz])) := by rw [hG138]; exact gu_s _ _ _
  exact g_vret X hr hlk hR136 hS137 (⟨rfl, by rw [hG138]⟩) (by (try dsimp only [RM]); omega) (by (try dsimp only [RM]); omega) dJ1_init_9

set_option maxHeartbeats 4000000 in
theorem c_ALi (l : Launch) (Γ : GP) (G : GH) {al i : Nat} {e0 : Option Nat} {mo sz : Int32} (hal : G al = some ((1, i), .inr (6, [.int mo, va_rf e0, .int sz]))) : MetG l yJ2_init (ws_ yJ2_init cJ2_init 1 none) (RM 4 0 0) Γ G [.ref al] (fun v G1 => v = none ∧ G1 = gu G al (cAL i 0 (Γ.2 5) sz)) 0 0 := by
  refine gMet (own := RJ2) (by decide) rfl (Nat.le_of_ble_eq_true rfl) ?_
  intro pp ee ss mm below meth cc0 ls X hr hlk hin hnm hR hS hl
  have hl : lv_has ls 1 [(0, .ref al)] := hl
  refine lv_aload_n X.hx X.hb dJ2_init_0 rfl (lv_at hl 0 rfl) ?_
  refine gcI X hl.1 hR hS 0 [] [] (c_J1i l Γ G hal) q94 q95 q38 q96 rfl rfl rfl ⟨by decide +kernel, by decide +kernel, by decide +kernel⟩ ⟨by (try dsimp only [RM]); omega, by (try dsimp only [RM]); omega⟩ rfl rfl (Nat.le_of_ble_eq_true rfl) dJ2_init_1 ⟨by (try dsimp only [RM]); omega, by (try dsimp only [RM]); omega⟩ (fun v143 G144 H locs hq140 hR141 hS142 => ?_)
  obtain ⟨rfl, hG⟩ := hq140
  have f145 : G144 al = some ((1, i), .inr (6, [.int 0, va_rf e0, .int sz])) := by rw [hG]; exact gu_s _ _ _
  refine lv_aload_n X.hx X.hb dJ2_init_4 rfl (lv_at hl 0 rfl) ?_
  refine va_gets X.hx X.hb X.hZ.1 hS142 X.hown (X.hts _ q101) (fun _ h => h) dJ2_init_5 ?_
  refine g_put X hR141 hS142 f145 (Nat.le_of_ble_eq_true rfl) rfl in_J2 tyJ2 tyJ2_ok nmJ2 1 (by decide) q103 (fun _ h => h) rfl rfl rfl (Nat.le_of_ble_eq_true rfl) dJ2_init_8 (fun H locs hR146 hS147 => ?_)
  obtain ⟨G148, hG148⟩ : ∃ z : GH, z = gu G144 al ((1, i), .inr (6, [.int 0, .ref (Γ.2 5), .int sz])) := ⟨_, rfl⟩
  have hR146 : Rep Γ G148 H := by rw [hG148]; exact hR146
  have f149 : G148 al = some ((1, i), .inr (6, [.int 0, .ref (Γ.2 5), .int sz])) := by rw [hG148]; exact gu_s _ _ _
  exact g_vret X hr hlk hR146 hS147 (⟨rfl, by rw [hG148, hG, gu_gu]⟩) (by (try dsimp only [RM]); omega) (by (try dsimp only [RM]); omega) dJ2_init_11

theorem AL.mk0 {Γ : GP} {G : GH} {al i : Nat} {f : Nat → Option Nat} (hC : CN Γ G) (h : G al = some (cAL i 0 (Γ.2 5) 0)) : AL Γ G al i 0 0 f :=
  ⟨0, Γ.2 5, fun _ => none, h, Nat.le_refl 0, fun j hj => absurd hj (Nat.not_lt_zero j), Or.inl ⟨rfl, rfl, hC.1⟩⟩
theorem AL.keep {Γ : GP} {G G1 : GH} {al i n cap : Nat} {f : Nat → Option Nat} {S : Nat × Nat → Prop} (h : AL Γ G al i n cap f) (hk : gK S G G1) (h1 : ¬ S (1, i)) (h2 : ¬ S (2, i)) (h3 : ¬ S (51, 0)) : AL Γ G1 al i n cap f := by
  obtain ⟨mo, ea, g, a1, a2, a3, a4⟩ := h
  refine ⟨mo, ea, g, hk _ _ a1 h1, a2, a3, ?_⟩
  rcases a4 with ⟨b1, b2, b3⟩ | ⟨b1, b2, b3⟩
  · exact Or.inl ⟨b1, b2, hk _ _ b3 h3⟩
  · exact Or.inr ⟨b1, b2, hk _ _ b3 h2⟩
theorem AL.cong {Γ : GP} {G : GH} {al i n cap : Nat} {f g : Nat → Option Nat} (h : AL Γ G al i n cap f) (e : ∀ j, j < n → f j = g j) : AL Γ G al i n cap g := by
  obtain ⟨mo, ea, k, a1, a2, a3, a4⟩ := h
  exact ⟨mo, ea, k, a1, a2, fun j hj => (a3 j hj).trans (e j hj), a4⟩

theorem c_sizeA (l : Launch) (Γ : GP) (G : GH) {al i n cap : Nat} {f : Nat → Option Nat} (h : AL Γ G al i n cap f) : MetG l yJ2_size (ws_ yJ2_size cJ2_size 1 (some .int)) (RM 1 0 0) Γ G [.ref al] (fun v G1 => v = some (.int (nI n)) ∧ G = G1) 0 0 := by
  obtain ⟨mo, ea, g, hal, -⟩ := h
  exact c_size l Γ G hal
theorem c_getA (l : Launch) (Γ : GP) (G : GH) {al i n cap k : Nat} {f : Nat → Option Nat} (h : AL Γ G al i n cap f) (hk : k < n) (hcap : cap < 2 ^ 31) : MetG l yJ2_get (ws_ yJ2_get cJ2_get 2 (some (.object "java/lang/Object"))) (RM 3 0 0) Γ G [.ref al, .int (nI k)] (fun v G1 => v = some (va_rf (f k)) ∧ G = G1) 0 0 := by
  obtain ⟨mo, ea, g, hal, hn, hf, hc⟩ := h
  rw [← hf k hk]
  rcases hc with ⟨h1, -⟩ | ⟨h2, hne, hea⟩
  · omega
  · exact c_get l Γ G hal hea hk hn hcap

abbrev cIT (j : Nat) (cu lr mo : Int32) (al : Nat) : gE := ((20, j), .inr (17, [.int cu, .int lr, .int mo, .ref al]))

set_option maxHeartbeats 4000000 in
theorem c_ITi (l : Launch) (Γ : GP) (G : GH) {it al i j ea n : Nat} {mo : Int32} (hal : G al = some (cAL i mo ea (nI n))) {x0 x1 x2 : Int32} {x3 : Option Nat} (hit : G it = some ((20, j), .inr (17, [.int x0, .int x1, .int x2, va_rf x3]))) : MetG l yJ35_init (ws_ yJ35_init cJ35_init 2 none) (RM 2 0 0) Γ G [.ref it, .ref al] (fun v G1 => v = none ∧ G1 = gu G it (cIT j x0 (-1) mo al)) 0 0 := by
  refine gMet (own := RJ35) (by decide) rfl (Nat.le_of_ble_eq_true rfl) ?_
  intro pp ee ss mm below meth cc0 ls X hr hlk hin hnm hR hS hl
  have hl : lv_has ls 2 [(0, .ref it), (1, .ref al)] := hl
  refine lv_aload_n X.hx X.hb dJ35_init_0 rfl (lv_at hl 0 rfl) ?_
  refine lv_aload_n X.hx X.hb dJ35_init_1 rfl (lv_at hl 1 rfl) ?_
  refine g_putF X hR hS hit (Nat.le_of_ble_eq_true rfl) rfl in_J35 tyJ35 tyJ35_ok nmJ35 3 (by decide) q1025 (fun _ h => h) rfl hin rfl rfl rfl (Nat.le_of_ble_eq_true rfl) dJ35_init_2 (fun H locs hR150 hS151 => ?_)
  obtain ⟨G152, hG152⟩ : ∃ z : GH, z = gu G it ((20, j), .inr (17, [.int x0, .int x1, .int x2, .ref al])) := ⟨_, rfl⟩
  have hR150 : Rep Γ G152 H := by rw [hG152]; exact hR150
  have f153 : G152 al = some ((1, i), .inr (6, [.int mo, .ref ea, .int (nI n)])) := by rw [hG152]; exact gu_t hal hit (tne rfl)
  have f154 : G152 it = some ((20, j), .inr (17, [.int x0, .int x1, .int x2, .ref al])) := by rw [hG152]; exact gu_s _ _ _
  refine lv_aload_n X.hx X.hb dJ35_init_5 rfl (lv_at hl 0 rfl) ?_
  refine W.objInit X.hx X.hb X.hown (X.hts _ q1021) (X.hts _ q87) (X.hts _ q88) rfl (by rw [X.hml]; exact hl.1) rfl dJ35_init_6 (Nat.le_of_ble_eq_true rfl) (Nat.le_of_ble_eq_true rfl) ?_
  refine W.eq (g2 := F0 mm 9 ls []) rfl ?_
  refine lv_aload_n X.hx X.hb dJ35_init_9 rfl (lv_at hl 0 rfl) ?_
  refine lv_iconst (v := (-1)) X.hx X.hb dJ35_init_10 (by decide) ?_
  refine g_put X hR150 hS151 f154 (Nat.le_of_ble_eq_true rfl) rfl in_J35 tyJ35 tyJ35_ok nmJ35 1 (by decide) q1023 (fun _ h => h) rfl rfl rfl (Nat.le_of_ble_eq_true rfl) dJ35_init_11 (fun H locs hR155 hS156 => ?_)
  obtain ⟨G157, hG157⟩ : ∃ z : GH, z = gu G152 it ((20, j), .inr (17, [.int x0, .int (-1), .int x2, .ref al])) := ⟨_, rfl⟩
  have hR155 : Rep Γ G157 H := by rw [hG157]; exact hR155
  have f158 : G157 al = some ((1, i), .inr (6, [.int mo, .ref ea, .int (nI n)])) := by rw [hG157]; exact gu_t f153 f154 (tne rfl)
  have f159 : G157 it = some ((20, j), .inr (17, [.int x0, .int (-1), .int x2, .ref al])) := by rw [hG157]; exact gu_s _ _ _
  refine lv_aload_n X.hx X.hb dJ35_init_14 rfl (lv_at hl 0 rfl) ?_
  refine lv_aload_n X.hx X.hb dJ35_init_15 rfl (lv_at hl 0 rfl) ?_
  refine g_get X hR155 f159 rfl in_J35 3 (by decide) q1025 (fun _ h => h) rfl dJ35_init_16 ?_
  refine g_get X hR155 f158 rfl in_J2 0 (by decide) q108 (fun x h => u_same (X.hts _ q109) x h) rfl dJ35_init_19 ?_
  refine g_put X hR155 hS156 f159 (Nat.le_of_ble_eq_true rfl) rfl in_J35 tyJ35 tyJ35_ok nmJ35 2 (by decide) q1024 (fun _ h => h) rfl rfl rfl (Nat.le_of_ble_eq_true rfl) dJ35_init_22 (fun H locs hR160 hS161 => ?_)
  obtain ⟨G162, hG162⟩ : ∃ z : GH, z = gu G157 it ((20, j), .inr (17, [.int x0, .int (-1), .int mo, .ref al])) := ⟨_, rfl⟩
  have hR160 : Rep Γ G162 H := by rw [hG162]; exact hR160
  have f163 : G162 al = some ((1, i), .inr (6, [.int mo, .ref ea, .int (nI n)])) := by rw [hG162]; exact gu_t f158 f159 (tne rfl)
  have f164 : G162 it = some ((20, j), .inr (17, [.int x0, .int (-1), .int mo, .ref al])) := by rw [hG162]; exact gu_s _ _ _
  exact g_vret X hr hlk hR160 hS161 (⟨rfl, by rw [hG162, hG157, hG152, gu_gu, gu_gu]⟩) (by (try dsimp only [RM]); omega) (by (try dsimp only [RM]); omega) dJ35_init_25

set_option maxHeartbeats 4000000 in
theorem c_iter (l : Launch) (Γ : GP) (G : GH) {al i j ea n : Nat} {mo : Int32} (hal : G al = some (cAL i mo ea (nI n))) : MetG l yJ2_iterator (ws_ yJ2_iterator cJ2_iterator 1 (some (.object "java/util/Iterator"))) (RM 3 1 4) Γ G [.ref al] (fun v G1 => ∃ q, v = some (.ref q) ∧ G q = none ∧ G1 = gu G q (cIT j 0 (-1) mo al)) 1 4 := by
  refine gMet (own := RJ2) (by decide) rfl (Nat.le_of_ble_eq_true rfl) ?_
  intro pp ee ss mm below meth cc0 ls X hr hlk hin hnm hR hS hl
  have hl : lv_has ls 1 [(0, .ref al)] := hl
  refine g_new (ci := 17) X hR hS (20, j) (C := RJ35) (T := TJ35) (N := 4) rfl in_J35 tyJ35 tyJ35_ok q1016 q1017 q79 (fs := [.int 0, .int 0, .int 0, .null]) (fun j hj => by rcases (show j = 0 ∨ j = 1 ∨ j = 2 ∨ j = 3 by omega) with rfl | rfl | rfl | rfl <;> rfl) (by (try dsimp only [RM]); omega) (by (try dsimp only [RM]); omega) dJ2_iterator_0 (fun q165 H hq167 hR166 hS168 => ?_)
  obtain ⟨G169, hG169⟩ : ∃ z : GH, z = gu G q165 ((20, j), .inr (17, [.int 0, .int 0, .int 0, .null])) := ⟨_, rfl⟩
  have hR166 : Rep Γ G169 H := by rw [hG169]; exact hR166
  have f170 : G169 al = some ((1, i), .inr (6, [.int mo, .ref ea, .int (nI n)])) := by rw [hG169]; exact gu_f hal hq167
  have f171 : G169 q165 = some ((20, j), .inr (17, [.int 0, .int 0, .int 0, .null])) := by rw [hG169]; exact gu_s _ _ _
  refine lv_dup X.hx X.hb dJ2_iterator_3 rfl ?_
  refine lv_aload_n X.hx X.hb dJ2_iterator_4 rfl (lv_at hl 0 rfl) ?_
  refine gcI X hl.1 hR166 hS168 1 [.ref al] [.ref q165] (c_ITi l Γ G169 f170 (x3 := none) f171) q1018 q1019 q79 q1020 rfl rfl rfl ⟨by decide +kernel, by decide +kernel, by decide +kernel⟩ ⟨by (try dsimp only [RM]); omega, by (try dsimp only [RM]); omega⟩ rfl rfl (Nat.le_of_ble_eq_true rfl) dJ2_iterator_5 ⟨by (try dsimp only [RM]); omega, by (try dsimp only [RM]); omega⟩ (fun v175 G176 H locs hq172 hR173 hS174 => ?_)
  obtain ⟨rfl, hG⟩ := hq172
  have f177 : G176 al = some ((1, i), .inr (6, [.int mo, .ref ea, .int (nI n)])) := by rw [hG]; exact (gu_n (fne hal hq167)).trans f170
  have f178 : G176 q165 = some ((20, j), .inr (17, [.int 0, .int (-1), .int mo, .ref al])) := by rw [hG]; exact gu_s _ _ _
  exact g_aretS X hr (Or.inl ⟨_, rfl⟩) hlk hR173 hS174 (⟨q165, rfl, hq167, by rw [hG, hG169, gu_gu]⟩) (by (try dsimp only [RM]); omega) (by (try dsimp only [RM]); omega) dJ2_iterator_8

set_option maxHeartbeats 4000000 in
theorem c_IThas (l : Launch) (Γ : GP) (G : GH) {it al i j ea n : Nat} {mo cu lr : Int32} (hal : G al = some (cAL i mo ea (nI n))) (hit : G it = some (cIT j cu lr mo al)) : MetG l yJ35_hasNext (ws_ yJ35_hasNext cJ35_hasNext 1 (some .boolean)) (RM 1 0 0) Γ G [.ref it] (fun v G1 => v = some (.int (if cu = nI n then 0 else 1)) ∧ G = G1) 0 0 := by
  refine gMet (own := RJ35) (by decide) rfl (Nat.le_of_ble_eq_true rfl) ?_
  intro pp ee ss mm below meth cc0 ls X hr hlk hin hnm hR hS hl
  have hl : lv_has ls 1 [(0, .ref it)] := hl
  refine lv_aload_n X.hx X.hb dJ35_hasNext_0 rfl (lv_at hl 0 rfl) ?_
  refine g_get X hR hit rfl in_J35 0 (by decide) q1022 (fun _ h => h) rfl dJ35_hasNext_1 ?_
  refine lv_aload_n X.hx X.hb dJ35_hasNext_4 rfl (lv_at hl 0 rfl) ?_
  refine g_get X hR hit rfl in_J35 3 (by decide) q1025 (fun _ h => h) rfl dJ35_hasNext_5 ?_
  refine g_getN X hR hal rfl in_J2 2 (by decide) kq105 (fun _ h => h) rfl dJ35_hasNext_8 ?_
  refine lv_icmp_eq (tgt := 18) X.hx X.hb dJ35_hasNext_11 (by decide) (fun c11 => ?_) (fun c11 => ?_)
  · refine lv_iconst (v := 0) X.hx X.hb dJ35_hasNext_18 (by decide) ?_
    exact g_zret X hr hlk hR hS rfl (⟨by rw [if_pos c11], rfl⟩) (by (try dsimp only [RM]); omega) (by (try dsimp only [RM]); omega) dJ35_hasNext_19
  · refine lv_iconst (v := 1) X.hx X.hb dJ35_hasNext_14 (by decide) ?_
    refine lv_goto (tgt := 19) X.hx X.hb dJ35_hasNext_15 (by decide) ?_
    exact g_zret X hr hlk hR hS rfl (⟨by rw [if_neg c11], rfl⟩) (by (try dsimp only [RM]); omega) (by (try dsimp only [RM]); omega) dJ35_hasNext_19

set_option maxHeartbeats 4000000 in
theorem c_ITchk (l : Launch) (Γ : GP) (G : GH) {it al i j ea n : Nat} {mo cu lr : Int32} (hal : G al = some (cAL i mo ea (nI n))) (hit : G it = some (cIT j cu lr mo al)) : MetG l yJ35_checkForComodification (ws_ yJ35_checkForComodification cJ35_checkForComodification 1 none) (RM 1 0 0) Γ G [.ref it] (fun v G1 => v = none ∧ G = G1) 0 0 := by
  refine gMet (own := RJ35) (by decide) rfl (Nat.le_of_ble_eq_true rfl) ?_
  intro pp ee ss mm below meth cc0 ls X hr hlk hin hnm hR hS hl
  have hl : lv_has ls 1 [(0, .ref it)] := hl
  refine lv_aload_n X.hx X.hb dJ35_checkForComodification_0 rfl (lv_at hl 0 rfl) ?_
  refine g_get X hR hit rfl in_J35 3 (by decide) q1025 (fun _ h => h) rfl dJ35_checkForComodification_1 ?_
  refine g_get X hR hal rfl in_J2 0 (by decide) q108 (fun x h => u_same (X.hts _ q109) x h) rfl dJ35_checkForComodification_4 ?_
  refine lv_aload_n X.hx X.hb dJ35_checkForComodification_7 rfl (lv_at hl 0 rfl) ?_
  refine g_get X hR hit rfl in_J35 2 (by decide) q1024 (fun _ h => h) rfl dJ35_checkForComodification_8 ?_
  refine lv_icmp_eq (tgt := 22) X.hx X.hb dJ35_checkForComodification_11 (by decide) (fun c11 => ?_) (fun c11 => ?_)
  · exact g_vret X hr hlk hR hS (⟨rfl, rfl⟩) (by (try dsimp only [RM]); omega) (by (try dsimp only [RM]); omega) dJ35_checkForComodification_22
  · exact absurd rfl c11

set_option maxHeartbeats 4000000 in
theorem c_ITnext (l : Launch) (Γ : GP) (G : GH) {it al i j ea n cap k : Nat} {mo lr : Int32} {g : Nat → Option Nat} (hal : G al = some (cAL i mo ea (nI n))) (hit : G it = some (cIT j (nI k) lr mo al)) (hea : G ea = some (cQ Γ (2, i) cap g)) (hk : k < n) (hn : n ≤ cap) (hcap : cap < 2 ^ 30) : MetG l yJ35_next (ws_ yJ35_next cJ35_next 3 (some (.object "java/lang/Object"))) (RM 2 0 0) Γ G [.ref it] (fun v G1 => v = some (va_rf (g k)) ∧ G1 = gu G it (cIT j (nI (k + 1)) (nI k) mo al)) 0 0 := by
  refine gMet (own := RJ35) (by decide) rfl (Nat.le_of_ble_eq_true rfl) ?_
  intro pp ee ss mm below meth cc0 ls X hr hlk hin hnm hR hS hl
  have hl : lv_has ls 3 [(0, .ref it)] := hl
  refine lv_aload_n X.hx X.hb dJ35_next_0 rfl (lv_at hl 0 rfl) ?_
  refine gcV X hl.1 hR hS 0 [] [] (c_ITchk l Γ G hal hit) hit rfl q1106 q1107 q1108 q79 q1109 rfl rfl ⟨rfl, by decide +kernel, by decide +kernel, by decide +kernel⟩ ⟨by (try dsimp only [RM]); omega, by (try dsimp only [RM]); omega⟩ rfl rfl (Nat.le_of_ble_eq_true rfl) dJ35_next_1 ⟨by (try dsimp only [RM]); omega, by (try dsimp only [RM]); omega⟩ (fun v182 G183 H locs hq179 hR180 hS181 => ?_)
  obtain ⟨rfl, rfl⟩ := hq179
  refine lv_aload_n X.hx X.hb dJ35_next_4 rfl (lv_at hl 0 rfl) ?_
  refine g_get X hR180 hit rfl in_J35 0 (by decide) q1022 (fun _ h => h) rfl dJ35_next_5 ?_
  refine lv_istore_n (lv' := [(1, .int (nI k)), (0, .ref it)]) X.hx X.hb dJ35_next_8 rfl hl (by decide) rfl (fun ls hl => ?_)
  refine lv_iload_n X.hx X.hb dJ35_next_9 rfl (lv_at hl 0 rfl) ?_
  refine lv_aload_n X.hx X.hb dJ35_next_10 rfl (lv_at hl 1 rfl) ?_
  refine g_get X hR180 hit rfl in_J35 3 (by decide) q1025 (fun _ h => h) rfl dJ35_next_11 ?_
  refine g_getN X hR180 hal rfl in_J2 2 (by decide) kq105 (fun _ h => h) rfl dJ35_next_14 ?_
  refine lv_icmp_lt (tgt := 28) X.hx X.hb dJ35_next_17 (by decide) (fun c17 => ?_) (fun c17 => ?_)
  · refine lv_aload_n X.hx X.hb dJ35_next_28 rfl (lv_at hl 1 rfl) ?_
    refine g_get X hR180 hit rfl in_J35 3 (by decide) q1025 (fun _ h => h) rfl dJ35_next_29 ?_
    refine g_get X hR180 hal rfl in_J2 1 (by decide) q104 (fun _ h => h) rfl dJ35_next_32 ?_
    refine lv_astore_n (lv' := [(2, .ref ea), (1, .int (nI k)), (0, .ref it)]) X.hx X.hb dJ35_next_35 rfl hl (by decide) rfl (fun ls hl => ?_)
    refine lv_iload_n X.hx X.hb dJ35_next_36 rfl (lv_at hl 1 rfl) ?_
    refine lv_aload_n X.hx X.hb dJ35_next_37 rfl (lv_at hl 0 rfl) ?_
    refine g_alen (v := Int32.ofNat cap) X hR180 3 hea rfl rfl dJ35_next_38 ?_
    refine lv_icmp_lt (tgt := 50) X.hx X.hb dJ35_next_39 (by decide) (fun c39 => ?_) (fun c39 => ?_)
    · refine lv_aload_n X.hx X.hb dJ35_next_50 rfl (lv_at hl 2 rfl) ?_
      refine lv_iload_n X.hx X.hb dJ35_next_51 rfl (lv_at hl 1 rfl) ?_
      refine lv_iconst (v := 1) X.hx X.hb dJ35_next_52 (by decide) ?_
      refine lv_iadd X.hx X.hb dJ35_next_53 ?_
      refine lv_topi (fun x184 hx184 => ?_)
      obtain rfl : x184 = nI (k + 1) := hx184.trans (nI_1 k)
      refine g_put X hR180 hS181 hit (Nat.le_of_ble_eq_true rfl) rfl in_J35 tyJ35 tyJ35_ok nmJ35 0 (by decide) q1022 (fun _ h => h) rfl rfl rfl (Nat.le_of_ble_eq_true rfl) dJ35_next_54 (fun H locs hR185 hS186 => ?_)
      obtain ⟨G187, hG187⟩ : ∃ z : GH, z = gu G it ((20, j), .inr (17, [.int (nI (k + 1)), .int lr, .int mo, .ref al])) := ⟨_, rfl⟩
      have hR185 : Rep Γ G187 H := by rw [hG187]; exact hR185
      have f188 : G187 al = some ((1, i), .inr (6, [.int mo, .ref ea, .int (nI n)])) := by rw [hG187]; exact gu_t hal hit (tne rfl)
      have f189 : G187 ea = some ((2, i), .inl (Γ.2 4, cap, .inr (.inr (.inr (.inr g))))) := by rw [hG187]; exact gu_t hea hit (tne rfl)
      have f190 : G187 it = some ((20, j), .inr (17, [.int (nI (k + 1)), .int lr, .int mo, .ref al])) := by rw [hG187]; exact gu_s _ _ _
      refine lv_aload_n X.hx X.hb dJ35_next_57 rfl (lv_at hl 0 rfl) ?_
      refine lv_aload_n X.hx X.hb dJ35_next_58 rfl (lv_at hl 2 rfl) ?_
      refine lv_iload_n X.hx X.hb dJ35_next_59 rfl (lv_at hl 1 rfl) ?_
      refine lv_dup_x1 X.hx X.hb dJ35_next_60 rfl rfl ?_
      refine g_put X hR185 hS186 f190 (Nat.le_of_ble_eq_true rfl) rfl in_J35 tyJ35 tyJ35_ok nmJ35 1 (by decide) q1023 (fun _ h => h) rfl rfl rfl (Nat.le_of_ble_eq_true rfl) dJ35_next_61 (fun H locs hR191 hS192 => ?_)
      obtain ⟨G193, hG193⟩ : ∃ z : GH, z = gu G187 it ((20, j), .inr (17, [.int (nI (k + 1)), .int (nI k), .int mo, .ref al])) := ⟨_, rfl⟩
      have hR191 : Rep Γ G193 H := by rw [hG193]; exact hR191
      have f194 : G193 al = some ((1, i), .inr (6, [.int mo, .ref ea, .int (nI n)])) := by rw [hG193]; exact gu_t f188 f190 (tne rfl)
      have f195 : G193 ea = some ((2, i), .inl (Γ.2 4, cap, .inr (.inr (.inr (.inr g))))) := by rw [hG193]; exact gu_t f189 f190 (tne rfl)
      have f196 : G193 it = some ((20, j), .inr (17, [.int (nI (k + 1)), .int (nI k), .int mo, .ref al])) := by rw [hG193]; exact gu_s _ _ _
      refine g_aald (v := va_rf (g k)) X hR191 f195 (vp_in_nI (Nat.lt_of_lt_of_le hk hn) (by omega)) (by rw [nI_clamp (by omega)]) dJ35_next_64 ?_
      exact g_aret X hr (Or.inl ⟨_, rfl⟩) hlk hR191 hS192 (⟨rfl, by rw [hG193, hG187, gu_gu]⟩) (by (try dsimp only [RM]); omega) (by (try dsimp only [RM]); omega) dJ35_next_65
    · exact absurd (nI_lt (Nat.lt_of_lt_of_le hk hn) (by omega)) c39
  · exact absurd (nI_lt hk (by omega)) c17
