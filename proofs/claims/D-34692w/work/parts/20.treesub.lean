set_option maxRecDepth 100000
/-! java.util.TreeMap: the head map and its iterator -/
abbrev SMc (a ka : Nat) (es vs : Option Nat) : gE := ((21, 0), .inr (10, [.ref a, .null, .ref ka, .int 1, .int 0, .int 1, .int 0, .null, va_rf es, .null, .null, va_rf vs]))
abbrev SM0c : gE := ((21, 0), .inr (10, [.null, .null, .null, .int 0, .int 0, .int 0, .int 0, .null, .null, .null, .null, .null]))
abbrev ESc (sm : Nat) : gE := ((24, 0), .inr (14, [.int (-1), .int 0, .ref sm, .ref sm]))

set_option maxHeartbeats 4000000 in
theorem c_J22i (l : Launch) (Γ : GP) (G : GH) {a p : Nat} {vw rt : Option Nat} {sz mo : Int32} (hM : G a = some (TMc p vw rt sz mo)) {ka : Nat} {tk : Nat × Nat} {x : Int32} (hka : G ka = some (tk, .inr (9, [.int x]))) (hk21 : tk.1 ≠ 21) {b : Nat} (hb : G b = some SM0c) : MetG l yJ22_init (ws_ yJ22_init cJ22_init 8 none) (RM 5 0 0) Γ G [.ref b, .ref a, .int 1, .null, .int 1, .int 0, .ref ka, .int 0] (fun v G1 => v = none ∧ G1 = gu G b (SMc a ka none none)) 0 0 := by
  refine gMet (own := RJ22) (by decide) rfl (Nat.le_of_ble_eq_true rfl) ?_
  intro pp ee ss mm below meth cc0 ls X hr hlk hin hnm hR hS hl
  have hl : lv_has ls 8 [(0, .ref b), (1, .ref a), (2, .int 1), (3, .null), (4, .int 1), (5, .int 0), (6, .ref ka), (7, .int 0)] := hl
  refine lv_aload_n X.hx X.hb dJ22_init_0 rfl (lv_at hl 0 rfl) ?_
  refine gcI X hl.1 hR hS 0 [] [] (c_J8i l Γ G) q771 q260 q47 q261 rfl rfl rfl ⟨by decide +kernel, by decide +kernel, by decide +kernel⟩ ⟨by (try dsimp only [RM]); omega, by (try dsimp only [RM]); omega⟩ rfl rfl (Nat.le_of_ble_eq_true rfl) dJ22_init_1 ⟨by (try dsimp only [RM]); omega, by (try dsimp only [RM]); omega⟩ (fun v2020 G2021 H locs hq2017 hR2018 hS2019 => ?_)
  obtain ⟨rfl, rfl⟩ := hq2017
  refine lv_iload_n X.hx X.hb dJ22_init_4 rfl (lv_at hl 2 rfl) ?_
  refine lv_if_ne (tgt := 33) X.hx X.hb dJ22_init_5 (by decide) (fun c5 => ?_) (fun c5 => ?_)
  · refine lv_iload_n X.hx X.hb dJ22_init_33 rfl (lv_at hl 2 rfl) ?_
    refine lv_if_ne (tgt := 44) X.hx X.hb dJ22_init_34 (by decide) (fun c34 => ?_) (fun c34 => ?_)
    · refine lv_iload X.hx X.hb dJ22_init_44 (lv_at hl 5 rfl) ?_
      refine lv_if_ne (tgt := 58) X.hx X.hb dJ22_init_46 (by decide) (fun c46 => ?_) (fun c46 => ?_)
      · exact absurd rfl c46
      · refine lv_aload_n X.hx X.hb dJ22_init_49 rfl (lv_at hl 1 rfl) ?_
        refine lv_aload X.hx X.hb dJ22_init_50 (lv_at hl 6 rfl) ?_
        refine lv_aload X.hx X.hb dJ22_init_52 (lv_at hl 6 rfl) ?_
        refine gcV X hl.1 hR2018 hS2019 2 [.ref ka, .ref ka] [] (c_compare l Γ G hM hka hka) hM rfl q772 q565 q566 q48 q567 rfl rfl ⟨rfl, by decide +kernel, by decide +kernel, by decide +kernel⟩ ⟨by (try dsimp only [RM]); omega, by (try dsimp only [RM]); omega⟩ rfl rfl (Nat.le_of_ble_eq_true rfl) dJ22_init_54 ⟨by (try dsimp only [RM]); omega, by (try dsimp only [RM]); omega⟩ (fun v2025 G2026 H locs hq2022 hR2023 hS2024 => ?_)
        obtain ⟨rfl, rfl⟩ := hq2022
        refine lv_pop X.hx X.hb dJ22_init_57 rfl ?_
        refine lv_aload_n X.hx X.hb dJ22_init_58 rfl (lv_at hl 0 rfl) ?_
        refine lv_aload_n X.hx X.hb dJ22_init_59 rfl (lv_at hl 1 rfl) ?_
        refine g_putF X hR2023 hS2024 hb (Nat.le_of_ble_eq_true rfl) rfl in_J23 tyJ23 tyJ23_ok nmJ23 0 (by decide) q780 (fun _ h => h) rfl hin rfl rfl rfl (Nat.le_of_ble_eq_true rfl) dJ22_init_60 (fun H locs hR2027 hS2028 => ?_)
        obtain ⟨G2029, hG2029⟩ : ∃ z : GH, z = gu G b ((21, 0), .inr (10, [.ref a, .null, .null, .int 0, .int 0, .int 0, .int 0, .null, .null, .null, .null, .null])) := ⟨_, rfl⟩
        have hR2027 : Rep Γ G2029 H := by rw [hG2029]; exact hR2027
        have f2030 : G2029 a = some ((4, p), .inr (7, [.null, va_rf vw, .null, va_rf rt, .int sz, .int mo, .null, .null, .null])) := by rw [hG2029]; exact gu_t hM hb (tne rfl)
        have f2031 : G2029 ka = some ((tk.1, tk.2), .inr (9, [.int x])) := by rw [hG2029]; exact gu_t hka hb (tneq hk21)
        have f2032 : G2029 b = some ((21, 0), .inr (10, [.ref a, .null, .null, .int 0, .int 0, .int 0, .int 0, .null, .null, .null, .null, .null])) := by rw [hG2029]; exact gu_s _ _ _
        refine lv_aload_n X.hx X.hb dJ22_init_63 rfl (lv_at hl 0 rfl) ?_
        refine lv_iload_n X.hx X.hb dJ22_init_64 rfl (lv_at hl 2 rfl) ?_
        refine g_putF X hR2027 hS2028 f2032 (Nat.le_of_ble_eq_true rfl) rfl in_J23 tyJ23 tyJ23_ok nmJ23 3 (by decide) q783 (fun _ h => h) rfl hin rfl rfl rfl (Nat.le_of_ble_eq_true rfl) dJ22_init_65 (fun H locs hR2033 hS2034 => ?_)
        obtain ⟨G2035, hG2035⟩ : ∃ z : GH, z = gu G2029 b ((21, 0), .inr (10, [.ref a, .null, .null, .int 1, .int 0, .int 0, .int 0, .null, .null, .null, .null, .null])) := ⟨_, rfl⟩
        have hR2033 : Rep Γ G2035 H := by rw [hG2035]; exact hR2033
        have f2036 : G2035 a = some ((4, p), .inr (7, [.null, va_rf vw, .null, va_rf rt, .int sz, .int mo, .null, .null, .null])) := by rw [hG2035]; exact gu_t f2030 f2032 (tne rfl)
        have f2037 : G2035 ka = some ((tk.1, tk.2), .inr (9, [.int x])) := by rw [hG2035]; exact gu_t f2031 f2032 (tneq hk21)
        have f2038 : G2035 b = some ((21, 0), .inr (10, [.ref a, .null, .null, .int 1, .int 0, .int 0, .int 0, .null, .null, .null, .null, .null])) := by rw [hG2035]; exact gu_s _ _ _
        refine lv_aload_n X.hx X.hb dJ22_init_68 rfl (lv_at hl 0 rfl) ?_
        refine lv_aload_nN X.hx X.hb dJ22_init_69 rfl (lv_at hl 3 rfl) ?_
        refine g_putF X hR2033 hS2034 f2038 (Nat.le_of_ble_eq_true rfl) rfl in_J23 tyJ23 tyJ23_ok nmJ23 1 (by decide) q781 (fun _ h => h) rfl hin rfl rfl rfl (Nat.le_of_ble_eq_true rfl) dJ22_init_70 (fun H locs hR2039 hS2040 => ?_)
        obtain ⟨G2041, hG2041⟩ : ∃ z : GH, z = gu G2035 b ((21, 0), .inr (10, [.ref a, .null, .null, .int 1, .int 0, .int 0, .int 0, .null, .null, .null, .null, .null])) := ⟨_, rfl⟩
        have hR2039 : Rep Γ G2041 H := by rw [hG2041]; exact hR2039
        have f2042 : G2041 a = some ((4, p), .inr (7, [.null, va_rf vw, .null, va_rf rt, .int sz, .int mo, .null, .null, .null])) := by rw [hG2041]; exact gu_t f2036 f2038 (tne rfl)
        have f2043 : G2041 ka = some ((tk.1, tk.2), .inr (9, [.int x])) := by rw [hG2041]; exact gu_t f2037 f2038 (tneq hk21)
        have f2044 : G2041 b = some ((21, 0), .inr (10, [.ref a, .null, .null, .int 1, .int 0, .int 0, .int 0, .null, .null, .null, .null, .null])) := by rw [hG2041]; exact gu_s _ _ _
        refine lv_aload_n X.hx X.hb dJ22_init_73 rfl (lv_at hl 0 rfl) ?_
        refine lv_iload X.hx X.hb dJ22_init_74 (lv_at hl 4 rfl) ?_
        refine g_putF X hR2039 hS2040 f2044 (Nat.le_of_ble_eq_true rfl) rfl in_J23 tyJ23 tyJ23_ok nmJ23 5 (by decide) q785 (fun _ h => h) rfl hin rfl rfl rfl (Nat.le_of_ble_eq_true rfl) dJ22_init_76 (fun H locs hR2045 hS2046 => ?_)
        obtain ⟨G2047, hG2047⟩ : ∃ z : GH, z = gu G2041 b ((21, 0), .inr (10, [.ref a, .null, .null, .int 1, .int 0, .int 1, .int 0, .null, .null, .null, .null, .null])) := ⟨_, rfl⟩
        have hR2045 : Rep Γ G2047 H := by rw [hG2047]; exact hR2045
        have f2048 : G2047 a = some ((4, p), .inr (7, [.null, va_rf vw, .null, va_rf rt, .int sz, .int mo, .null, .null, .null])) := by rw [hG2047]; exact gu_t f2042 f2044 (tne rfl)
        have f2049 : G2047 ka = some ((tk.1, tk.2), .inr (9, [.int x])) := by rw [hG2047]; exact gu_t f2043 f2044 (tneq hk21)
        have f2050 : G2047 b = some ((21, 0), .inr (10, [.ref a, .null, .null, .int 1, .int 0, .int 1, .int 0, .null, .null, .null, .null, .null])) := by rw [hG2047]; exact gu_s _ _ _
        refine lv_aload_n X.hx X.hb dJ22_init_79 rfl (lv_at hl 0 rfl) ?_
        refine lv_iload X.hx X.hb dJ22_init_80 (lv_at hl 5 rfl) ?_
        refine g_putF X hR2045 hS2046 f2050 (Nat.le_of_ble_eq_true rfl) rfl in_J23 tyJ23 tyJ23_ok nmJ23 4 (by decide) q784 (fun _ h => h) rfl hin rfl rfl rfl (Nat.le_of_ble_eq_true rfl) dJ22_init_82 (fun H locs hR2051 hS2052 => ?_)
        obtain ⟨G2053, hG2053⟩ : ∃ z : GH, z = gu G2047 b ((21, 0), .inr (10, [.ref a, .null, .null, .int 1, .int 0, .int 1, .int 0, .null, .null, .null, .null, .null])) := ⟨_, rfl⟩
        have hR2051 : Rep Γ G2053 H := by rw [hG2053]; exact hR2051
        have f2054 : G2053 a = some ((4, p), .inr (7, [.null, va_rf vw, .null, va_rf rt, .int sz, .int mo, .null, .null, .null])) := by rw [hG2053]; exact gu_t f2048 f2050 (tne rfl)
        have f2055 : G2053 ka = some ((tk.1, tk.2), .inr (9, [.int x])) := by rw [hG2053]; exact gu_t f2049 f2050 (tneq hk21)
        have f2056 : G2053 b = some ((21, 0), .inr (10, [.ref a, .null, .null, .int 1, .int 0, .int 1, .int 0, .null, .null, .null, .null, .null])) := by rw [hG2053]; exact gu_s _ _ _
        refine lv_aload_n X.hx X.hb dJ22_init_85 rfl (lv_at hl 0 rfl) ?_
        refine lv_aload X.hx X.hb dJ22_init_86 (lv_at hl 6 rfl) ?_
        refine g_putF X hR2051 hS2052 f2056 (Nat.le_of_ble_eq_true rfl) rfl in_J23 tyJ23 tyJ23_ok nmJ23 2 (by decide) q782 (fun _ h => h) rfl hin rfl rfl rfl (Nat.le_of_ble_eq_true rfl) dJ22_init_88 (fun H locs hR2057 hS2058 => ?_)
        obtain ⟨G2059, hG2059⟩ : ∃ z : GH, z = gu G2053 b ((21, 0), .inr (10, [.ref a, .null, .ref ka, .int 1, .int 0, .int 1, .int 0, .null, .null, .null, .null, .null])) := ⟨_, rfl⟩
        have hR2057 : Rep Γ G2059 H := by rw [hG2059]; exact hR2057
        have f2060 : G2059 a = some ((4, p), .inr (7, [.null, va_rf vw, .null, va_rf rt, .int sz, .int mo, .null, .null, .null])) := by rw [hG2059]; exact gu_t f2054 f2056 (tne rfl)
        have f2061 : G2059 ka = some ((tk.1, tk.2), .inr (9, [.int x])) := by rw [hG2059]; exact gu_t f2055 f2056 (tneq hk21)
        have f2062 : G2059 b = some ((21, 0), .inr (10, [.ref a, .null, .ref ka, .int 1, .int 0, .int 1, .int 0, .null, .null, .null, .null, .null])) := by rw [hG2059]; exact gu_s _ _ _
        refine lv_aload_n X.hx X.hb dJ22_init_91 rfl (lv_at hl 0 rfl) ?_
        refine lv_iload X.hx X.hb dJ22_init_92 (lv_at hl 7 rfl) ?_
        refine g_putF X hR2057 hS2058 f2062 (Nat.le_of_ble_eq_true rfl) rfl in_J23 tyJ23 tyJ23_ok nmJ23 6 (by decide) q786 (fun _ h => h) rfl hin rfl rfl rfl (Nat.le_of_ble_eq_true rfl) dJ22_init_94 (fun H locs hR2063 hS2064 => ?_)
        obtain ⟨G2065, hG2065⟩ : ∃ z : GH, z = gu G2059 b ((21, 0), .inr (10, [.ref a, .null, .ref ka, .int 1, .int 0, .int 1, .int 0, .null, .null, .null, .null, .null])) := ⟨_, rfl⟩
        have hR2063 : Rep Γ G2065 H := by rw [hG2065]; exact hR2063
        have f2066 : G2065 a = some ((4, p), .inr (7, [.null, va_rf vw, .null, va_rf rt, .int sz, .int mo, .null, .null, .null])) := by rw [hG2065]; exact gu_t f2060 f2062 (tne rfl)
        have f2067 : G2065 ka = some ((tk.1, tk.2), .inr (9, [.int x])) := by rw [hG2065]; exact gu_t f2061 f2062 (tneq hk21)
        have f2068 : G2065 b = some ((21, 0), .inr (10, [.ref a, .null, .ref ka, .int 1, .int 0, .int 1, .int 0, .null, .null, .null, .null, .null])) := by rw [hG2065]; exact gu_s _ _ _
        exact g_vret X hr hlk hR2063 hS2064 (⟨rfl, by rw [hG2065, hG2059, hG2053, hG2047, hG2041, hG2035, hG2029, gu_gu, gu_gu, gu_gu, gu_gu, gu_gu, gu_gu]; rfl⟩) (by (try dsimp only [RM]); omega) (by (try dsimp only [RM]); omega) dJ22_init_97
    · exact absurd c34 (by decide)
  · exact absurd c5 (by decide)

set_option maxHeartbeats 4000000 in
theorem c_J23i (l : Launch) (Γ : GP) (G : GH) {a p : Nat} {vw rt : Option Nat} {sz mo : Int32} (hM : G a = some (TMc p vw rt sz mo)) {ka : Nat} {tk : Nat × Nat} {x : Int32} (hka : G ka = some (tk, .inr (9, [.int x]))) (hk21 : tk.1 ≠ 21) {b : Nat} (hb : G b = some SM0c) : MetG l yJ23_init (ws_ yJ23_init cJ23_init 8 none) (RM 6 0 0) Γ G [.ref b, .ref a, .int 1, .null, .int 1, .int 0, .ref ka, .int 0] (fun v G1 => v = none ∧ G1 = gu G b (SMc a ka none none)) 0 0 := by
  refine gMet (own := RJ23) (by decide) rfl (Nat.le_of_ble_eq_true rfl) ?_
  intro pp ee ss mm below meth cc0 ls X hr hlk hin hnm hR hS hl
  have hl : lv_has ls 8 [(0, .ref b), (1, .ref a), (2, .int 1), (3, .null), (4, .int 1), (5, .int 0), (6, .ref ka), (7, .int 0)] := hl
  refine lv_aload_n X.hx X.hb dJ23_init_0 rfl (lv_at hl 0 rfl) ?_
  refine lv_aload_n X.hx X.hb dJ23_init_1 rfl (lv_at hl 1 rfl) ?_
  refine lv_iload_n X.hx X.hb dJ23_init_2 rfl (lv_at hl 2 rfl) ?_
  refine lv_aload_nN X.hx X.hb dJ23_init_3 rfl (lv_at hl 3 rfl) ?_
  refine lv_iload X.hx X.hb dJ23_init_4 (lv_at hl 4 rfl) ?_
  refine lv_iload X.hx X.hb dJ23_init_6 (lv_at hl 5 rfl) ?_
  refine lv_aload X.hx X.hb dJ23_init_8 (lv_at hl 6 rfl) ?_
  refine lv_iload X.hx X.hb dJ23_init_10 (lv_at hl 7 rfl) ?_
  refine gcI X hl.1 hR hS 7 [.ref a, .int 1, .null, .int 1, .int 0, .ref ka, .int 0] [] (c_J22i l Γ G hM hka hk21 hb) q768 q769 q66 q770 rfl rfl rfl ⟨by decide +kernel, by decide +kernel, by decide +kernel⟩ ⟨by (try dsimp only [RM]); omega, by (try dsimp only [RM]); omega⟩ rfl rfl (Nat.le_of_ble_eq_true rfl) dJ23_init_12 ⟨by (try dsimp only [RM]); omega, by (try dsimp only [RM]); omega⟩ (fun v2072 G2073 H locs hq2069 hR2070 hS2071 => ?_)
  obtain ⟨rfl, hG⟩ := hq2069
  have f2074 : G2073 a = some ((4, p), .inr (7, [.null, va_rf vw, .null, va_rf rt, .int sz, .int mo, .null, .null, .null])) := by rw [hG]; exact gu_t hM hb (tne rfl)
  have f2075 : G2073 ka = some ((tk.1, tk.2), .inr (9, [.int x])) := by rw [hG]; exact gu_t hka hb (tneq hk21)
  have f2076 : G2073 b = some ((21, 0), .inr (10, [.ref a, .null, .ref ka, .int 1, .int 0, .int 1, .int 0, .null, .null, .null, .null, .null])) := by rw [hG]; exact gu_s _ _ _
  exact g_vret X hr hlk hR2070 hS2071 (⟨rfl, hG⟩) (by (try dsimp only [RM]); omega) (by (try dsimp only [RM]); omega) dJ23_init_15

set_option maxHeartbeats 4000000 in
theorem c_head2 (l : Launch) (Γ : GP) (G : GH) {a p : Nat} {vw rt : Option Nat} {sz mo : Int32} (hM : G a = some (TMc p vw rt sz mo)) {ka : Nat} {tk : Nat × Nat} {x : Int32} (hka : G ka = some (tk, .inr (9, [.int x]))) (hk21 : tk.1 ≠ 21) : MetG l yJ9_headMap_2 (ws_ yJ9_headMap_2 cJ9_headMap_2 3 (some (.object "java/util/NavigableMap"))) (RM 7 1 12) Γ G [.ref a, .ref ka, .int 0] (fun v G1 => ∃ b, v = some (.ref b) ∧ G b = none ∧ G1 = gu G b (SMc a ka none none)) 1 12 := by
  refine gMet (own := RJ9) (by decide) rfl (Nat.le_of_ble_eq_true rfl) ?_
  intro pp ee ss mm below meth cc0 ls X hr hlk hin hnm hR hS hl
  have hl : lv_has ls 3 [(0, .ref a), (1, .ref ka), (2, .int 0)] := hl
  refine g_new (ci := 10) X hR hS (21, 0) (C := RJ23) (T := TJ23) (N := 12) rfl in_J23 tyJ23 tyJ23_ok q763 q764 q67 (fs := [.null, .null, .null, .int 0, .int 0, .int 0, .int 0, .null, .null, .null, .null, .null]) (fun j hj => by rcases (show j = 0 ∨ j = 1 ∨ j = 2 ∨ j = 3 ∨ j = 4 ∨ j = 5 ∨ j = 6 ∨ j = 7 ∨ j = 8 ∨ j = 9 ∨ j = 10 ∨ j = 11 by omega) with rfl | rfl | rfl | rfl | rfl | rfl | rfl | rfl | rfl | rfl | rfl | rfl <;> rfl) (by (try dsimp only [RM]); omega) (by (try dsimp only [RM]); omega) dJ9_headMap_2_0 (fun q2077 H hq2079 hR2078 hS2080 => ?_)
  obtain ⟨G2081, hG2081⟩ : ∃ z : GH, z = gu G q2077 ((21, 0), .inr (10, [.null, .null, .null, .int 0, .int 0, .int 0, .int 0, .null, .null, .null, .null, .null])) := ⟨_, rfl⟩
  have hR2078 : Rep Γ G2081 H := by rw [hG2081]; exact hR2078
  have f2082 : G2081 a = some ((4, p), .inr (7, [.null, va_rf vw, .null, va_rf rt, .int sz, .int mo, .null, .null, .null])) := by rw [hG2081]; exact gu_f hM hq2079
  have f2083 : G2081 ka = some ((tk.1, tk.2), .inr (9, [.int x])) := by rw [hG2081]; exact gu_f hka hq2079
  have f2084 : G2081 q2077 = some ((21, 0), .inr (10, [.null, .null, .null, .int 0, .int 0, .int 0, .int 0, .null, .null, .null, .null, .null])) := by rw [hG2081]; exact gu_s _ _ _
  refine lv_dup X.hx X.hb dJ9_headMap_2_3 rfl ?_
  refine lv_aload_n X.hx X.hb dJ9_headMap_2_4 rfl (lv_at hl 0 rfl) ?_
  refine lv_iconst (v := 1) X.hx X.hb dJ9_headMap_2_5 (by decide) ?_
  refine lv_null X.hx X.hb dJ9_headMap_2_6 ?_
  refine lv_iconst (v := 1) X.hx X.hb dJ9_headMap_2_7 (by decide) ?_
  refine lv_iconst (v := 0) X.hx X.hb dJ9_headMap_2_8 (by decide) ?_
  refine lv_aload_n X.hx X.hb dJ9_headMap_2_9 rfl (lv_at hl 1 rfl) ?_
  refine lv_iload_n X.hx X.hb dJ9_headMap_2_10 rfl (lv_at hl 2 rfl) ?_
  refine gcI X hl.1 hR2078 hS2080 7 [.ref a, .int 1, .null, .int 1, .int 0, .ref ka, .int 0] [.ref q2077] (c_J23i l Γ G2081 f2082 f2083 hk21 f2084) q765 q766 q67 q767 rfl rfl rfl ⟨by decide +kernel, by decide +kernel, by decide +kernel⟩ ⟨by (try dsimp only [RM]); omega, by (try dsimp only [RM]); omega⟩ rfl rfl (Nat.le_of_ble_eq_true rfl) dJ9_headMap_2_11 ⟨by (try dsimp only [RM]); omega, by (try dsimp only [RM]); omega⟩ (fun v2088 G2089 H locs hq2085 hR2086 hS2087 => ?_)
  obtain ⟨rfl, hG⟩ := hq2085
  have f2090 : G2089 a = some ((4, p), .inr (7, [.null, va_rf vw, .null, va_rf rt, .int sz, .int mo, .null, .null, .null])) := by rw [hG]; exact (gu_n (fne hM hq2079)).trans f2082
  have f2091 : G2089 ka = some ((tk.1, tk.2), .inr (9, [.int x])) := by rw [hG]; exact (gu_n (fne hka hq2079)).trans f2083
  have f2092 : G2089 q2077 = some ((21, 0), .inr (10, [.ref a, .null, .ref ka, .int 1, .int 0, .int 1, .int 0, .null, .null, .null, .null, .null])) := by rw [hG]; exact gu_s _ _ _
  exact g_aretS X hr (Or.inl ⟨_, rfl⟩) hlk hR2086 hS2087 (⟨q2077, rfl, hq2079, by rw [hG, hG2081, gu_gu]⟩) (by (try dsimp only [RM]); omega) (by (try dsimp only [RM]); omega) dJ9_headMap_2_14

set_option maxHeartbeats 4000000 in
theorem c_head (l : Launch) (Γ : GP) (G : GH) {a p : Nat} {vw rt : Option Nat} {sz mo : Int32} (hM : G a = some (TMc p vw rt sz mo)) {ka : Nat} {tk : Nat × Nat} {x : Int32} (hka : G ka = some (tk, .inr (9, [.int x]))) (hk21 : tk.1 ≠ 21) : MetG l yJ9_headMap (ws_ yJ9_headMap cJ9_headMap 2 (some (.object "java/util/SortedMap"))) (RM 8 1 12) Γ G [.ref a, .ref ka] (fun v G1 => ∃ b, v = some (.ref b) ∧ G b = none ∧ G1 = gu G b (SMc a ka none none)) 1 12 := by
  refine gMet (own := RJ9) (by decide) rfl (Nat.le_of_ble_eq_true rfl) ?_
  intro pp ee ss mm below meth cc0 ls X hr hlk hin hnm hR hS hl
  have hl : lv_has ls 2 [(0, .ref a), (1, .ref ka)] := hl
  refine lv_aload_n X.hx X.hb dJ9_headMap_0 rfl (lv_at hl 0 rfl) ?_
  refine lv_aload_n X.hx X.hb dJ9_headMap_1 rfl (lv_at hl 1 rfl) ?_
  refine lv_iconst (v := 0) X.hx X.hb dJ9_headMap_2 (by decide) ?_
  refine gcV X hl.1 hR hS 2 [.ref ka, .int 0] [] (c_head2 l Γ G hM hka hk21) hM rfl q759 q760 q761 q48 q762 rfl rfl ⟨rfl, by decide +kernel, by decide +kernel, by decide +kernel⟩ ⟨by (try dsimp only [RM]); omega, by (try dsimp only [RM]); omega⟩ rfl rfl (Nat.le_of_ble_eq_true rfl) dJ9_headMap_3 ⟨by (try dsimp only [RM]); omega, by (try dsimp only [RM]); omega⟩ (fun v2096 G2097 H locs hq2093 hR2094 hS2095 => ?_)
  obtain ⟨b, rfl, hq, hG⟩ := hq2093
  exact g_aretS X hr (Or.inl ⟨_, rfl⟩) hlk hR2094 hS2095 (⟨b, rfl, hq, hG⟩) (by (try dsimp only [RM]); omega) (by (try dsimp only [RM]); omega) dJ9_headMap_6

set_option maxHeartbeats 4000000 in
theorem c_J25i (l : Launch) (Γ : GP) (G : GH) {b a : Nat} (hb : G b = some ((22, 0), .inr (12, [.null]))) : MetG l yJ25_init (ws_ yJ25_init cJ25_init 2 none) (RM 3 0 0) Γ G [.ref b, .ref a] (fun v G1 => v = none ∧ G1 = gu G b ((22, 0), .inr (12, [.ref a]))) 0 0 := by
  refine gMet (own := RJ25) (by decide) rfl (Nat.le_of_ble_eq_true rfl) ?_
  intro pp ee ss mm below meth cc0 ls X hr hlk hin hnm hR hS hl
  have hl : lv_has ls 2 [(0, .ref b), (1, .ref a)] := hl
  refine lv_aload_n X.hx X.hb dJ25_init_0 rfl (lv_at hl 0 rfl) ?_
  refine lv_aload_n X.hx X.hb dJ25_init_1 rfl (lv_at hl 1 rfl) ?_
  refine g_putF X hR hS hb (Nat.le_of_ble_eq_true rfl) rfl in_J25 tyJ25 tyJ25_ok nmJ25 0 (by decide) q844 (fun _ h => h) rfl hin rfl rfl rfl (Nat.le_of_ble_eq_true rfl) dJ25_init_2 (fun H locs hR2098 hS2099 => ?_)
  obtain ⟨G2100, hG2100⟩ : ∃ z : GH, z = gu G b ((22, 0), .inr (12, [.ref a])) := ⟨_, rfl⟩
  have hR2098 : Rep Γ G2100 H := by rw [hG2100]; exact hR2098
  have f2101 : G2100 b = some ((22, 0), .inr (12, [.ref a])) := by rw [hG2100]; exact gu_s _ _ _
  refine lv_aload_n X.hx X.hb dJ25_init_5 rfl (lv_at hl 0 rfl) ?_
  refine gcI X hl.1 hR2098 hS2099 0 [] [] (c_J0i l Γ G2100) q843 q98 q37 q99 rfl rfl rfl ⟨by decide +kernel, by decide +kernel, by decide +kernel⟩ ⟨by (try dsimp only [RM]); omega, by (try dsimp only [RM]); omega⟩ rfl rfl (Nat.le_of_ble_eq_true rfl) dJ25_init_6 ⟨by (try dsimp only [RM]); omega, by (try dsimp only [RM]); omega⟩ (fun v2105 G2106 H locs hq2102 hR2103 hS2104 => ?_)
  obtain ⟨rfl, rfl⟩ := hq2102
  exact g_vret X hr hlk hR2103 hS2104 (⟨rfl, by rw [hG2100]⟩) (by (try dsimp only [RM]); omega) (by (try dsimp only [RM]); omega) dJ25_init_9

set_option maxHeartbeats 4000000 in
theorem c_svals (l : Launch) (Γ : GP) (G : GH) {sm a ka : Nat} (hsm : G sm = some (SMc a ka none none)) : MetG l yJ8_values (ws_ yJ8_values cJ8_values 2 (some (.object "java/util/Collection"))) (RM 4 1 1) Γ G [.ref sm] (fun v G1 => ∃ b, v = some (.ref b) ∧ G1 b = some ((22, 0), .inr (12, [.ref sm])) ∧ G1 sm = some (SMc a ka none (some b)) ∧ gK (fun t => t = (21, 0) ∨ t = (22, 0)) G G1) 1 1 := by
  refine gMet (own := RJ8) (by decide) rfl (Nat.le_of_ble_eq_true rfl) ?_
  intro pp ee ss mm below meth cc0 ls X hr hlk hin hnm hR hS hl
  have hl : lv_has ls 2 [(0, .ref sm)] := hl
  refine lv_aload_n X.hx X.hb dJ8_values_0 rfl (lv_at hl 0 rfl) ?_
  refine g_get X hR hsm rfl in_J23 11 (by decide) q270 (fun _ h => h) rfl dJ8_values_1 ?_
  refine lv_astore_nN (lv' := [(1, .null), (0, .ref sm)]) X.hx X.hb dJ8_values_4 rfl hl (by decide) rfl (fun ls hl => ?_)
  refine lv_aload_nN X.hx X.hb dJ8_values_5 rfl (lv_at hl 0 rfl) ?_
  refine lv_ifnonnullN X.hx X.hb dJ8_values_6 ?_
  refine g_new (ci := 12) X hR hS (22, 0) (C := RJ25) (T := TJ25) (N := 1) rfl in_J25 tyJ25 tyJ25_ok q838 q839 q69 (fs := [.null]) (fun j hj => by rcases (show j = 0 by omega) with rfl <;> rfl) (by (try dsimp only [RM]); omega) (by (try dsimp only [RM]); omega) dJ8_values_9 (fun q2107 H hq2109 hR2108 hS2110 => ?_)
  obtain ⟨G2111, hG2111⟩ : ∃ z : GH, z = gu G q2107 ((22, 0), .inr (12, [.null])) := ⟨_, rfl⟩
  have hR2108 : Rep Γ G2111 H := by rw [hG2111]; exact hR2108
  have f2112 : G2111 sm = some ((21, 0), .inr (10, [.ref a, .null, .ref ka, .int 1, .int 0, .int 1, .int 0, .null, .null, .null, .null, .null])) := by rw [hG2111]; exact gu_f hsm hq2109
  have f2113 : G2111 q2107 = some ((22, 0), .inr (12, [.null])) := by rw [hG2111]; exact gu_s _ _ _
  refine lv_dup X.hx X.hb dJ8_values_12 rfl ?_
  refine lv_aload_n X.hx X.hb dJ8_values_13 rfl (lv_at hl 1 rfl) ?_
  refine gcI X hl.1 hR2108 hS2110 1 [.ref sm] [.ref q2107] (c_J25i l Γ G2111 f2113) q840 q841 q69 q842 rfl rfl rfl ⟨by decide +kernel, by decide +kernel, by decide +kernel⟩ ⟨by (try dsimp only [RM]); omega, by (try dsimp only [RM]); omega⟩ rfl rfl (Nat.le_of_ble_eq_true rfl) dJ8_values_14 ⟨by (try dsimp only [RM]); omega, by (try dsimp only [RM]); omega⟩ (fun v2118 G2119 H locs hq2115 hR2116 hS2117 => ?_)
  obtain ⟨rfl, hG2114⟩ := hq2115
  have f2120 : G2119 sm = some ((21, 0), .inr (10, [.ref a, .null, .ref ka, .int 1, .int 0, .int 1, .int 0, .null, .null, .null, .null, .null])) := by rw [hG2114]; exact (gu_n (fne hsm hq2109)).trans f2112
  have f2121 : G2119 q2107 = some ((22, 0), .inr (12, [.ref sm])) := by rw [hG2114]; exact gu_s _ _ _
  refine lv_astore_n (lv' := [(1, .ref q2107), (0, .ref sm)]) X.hx X.hb dJ8_values_17 rfl hl (by decide) rfl (fun ls hl => ?_)
  refine lv_aload_n X.hx X.hb dJ8_values_18 rfl (lv_at hl 1 rfl) ?_
  refine lv_aload_n X.hx X.hb dJ8_values_19 rfl (lv_at hl 0 rfl) ?_
  refine g_put X hR2116 hS2117 f2120 (Nat.le_of_ble_eq_true rfl) rfl in_J23 tyJ23 tyJ23_ok nmJ23 11 (by decide) q270 (fun _ h => h) rfl rfl rfl (Nat.le_of_ble_eq_true rfl) dJ8_values_20 (fun H locs hR2122 hS2123 => ?_)
  obtain ⟨G2124, hG2124⟩ : ∃ z : GH, z = gu G2119 sm ((21, 0), .inr (10, [.ref a, .null, .ref ka, .int 1, .int 0, .int 1, .int 0, .null, .null, .null, .null, .ref q2107])) := ⟨_, rfl⟩
  have hR2122 : Rep Γ G2124 H := by rw [hG2124]; exact hR2122
  have f2125 : G2124 q2107 = some ((22, 0), .inr (12, [.ref sm])) := by rw [hG2124]; exact (gu_n (Ne.symm (fne hsm hq2109))).trans f2121
  have f2126 : G2124 sm = some ((21, 0), .inr (10, [.ref a, .null, .ref ka, .int 1, .int 0, .int 1, .int 0, .null, .null, .null, .null, .ref q2107])) := by rw [hG2124]; exact gu_s _ _ _
  refine lv_aload_n X.hx X.hb dJ8_values_23 rfl (lv_at hl 0 rfl) ?_
  exact g_aretS X hr (Or.inl ⟨_, rfl⟩) hlk hR2122 hS2123 (⟨_, rfl, f2125, f2126, (gK.tr (gK.tr (gK.nw hG2111 hq2109) (gK.pt hG2114 f2113 (Or.inr rfl))) (gK.pt hG2124 f2120 (Or.inl rfl)))⟩) (by (try dsimp only [RM]); omega) (by (try dsimp only [RM]); omega) dJ8_values_24

set_option maxHeartbeats 4000000 in
theorem c_J27i (l : Launch) (Γ : GP) (G : GH) {a : Nat} : MetG l yJ27_init (ws_ yJ27_init cJ27_init 1 none) (RM 3 0 0) Γ G [.ref a] (fun v G1 => v = none ∧ G = G1) 0 0 := by
  refine gMet (own := RJ27) (by decide) rfl (Nat.le_of_ble_eq_true rfl) ?_
  intro pp ee ss mm below meth cc0 ls X hr hlk hin hnm hR hS hl
  have hl : lv_has ls 1 [(0, .ref a)] := hl
  refine lv_aload_n X.hx X.hb dJ27_init_0 rfl (lv_at hl 0 rfl) ?_
  refine gcI X hl.1 hR hS 0 [] [] (c_J0i l Γ G) q879 q98 q37 q99 rfl rfl rfl ⟨by decide +kernel, by decide +kernel, by decide +kernel⟩ ⟨by (try dsimp only [RM]); omega, by (try dsimp only [RM]); omega⟩ rfl rfl (Nat.le_of_ble_eq_true rfl) dJ27_init_1 ⟨by (try dsimp only [RM]); omega, by (try dsimp only [RM]); omega⟩ (fun v2130 G2131 H locs hq2127 hR2128 hS2129 => ?_)
  obtain ⟨rfl, rfl⟩ := hq2127
  exact g_vret X hr hlk hR2128 hS2129 (⟨rfl, rfl⟩) (by (try dsimp only [RM]); omega) (by (try dsimp only [RM]); omega) dJ27_init_4

set_option maxHeartbeats 4000000 in
theorem c_J29i (l : Launch) (Γ : GP) (G : GH) {b sm : Nat} (hb : G b = some ((24, 0), .inr (14, [.int 0, .int 0, .null, .ref sm]))) : MetG l yJ29_init (ws_ yJ29_init cJ29_init 2 none) (RM 4 0 0) Γ G [.ref b, .ref sm] (fun v G1 => v = none ∧ G1 = gu G b (ESc sm)) 0 0 := by
  refine gMet (own := RJ29) (by decide) rfl (Nat.le_of_ble_eq_true rfl) ?_
  intro pp ee ss mm below meth cc0 ls X hr hlk hin hnm hR hS hl
  have hl : lv_has ls 2 [(0, .ref b), (1, .ref sm)] := hl
  refine lv_aload_n X.hx X.hb dJ29_init_0 rfl (lv_at hl 0 rfl) ?_
  refine lv_aload_n X.hx X.hb dJ29_init_1 rfl (lv_at hl 1 rfl) ?_
  refine g_putFA X hR hS hb (Nat.le_of_ble_eq_true rfl) rfl in_J30 tyJ30 tyJ30_ok nm2J30 2 (by decide) q898 (fun _ h => h) rfl hin rfl rfl rfl (Nat.le_of_ble_eq_true rfl) dJ29_init_2 (fun H locs hR2132 hS2133 => ?_)
  obtain ⟨G2134, hG2134⟩ : ∃ z : GH, z = gu G b ((24, 0), .inr (14, [.int 0, .int 0, .ref sm, .ref sm])) := ⟨_, rfl⟩
  have hR2132 : Rep Γ G2134 H := by rw [hG2134]; exact hR2132
  have f2135 : G2134 b = some ((24, 0), .inr (14, [.int 0, .int 0, .ref sm, .ref sm])) := by rw [hG2134]; exact gu_s _ _ _
  refine lv_aload_n X.hx X.hb dJ29_init_5 rfl (lv_at hl 0 rfl) ?_
  refine gcI X hl.1 hR2132 hS2133 0 [] [] (c_J27i l Γ G2134) q895 q877 q71 q878 rfl rfl rfl ⟨by decide +kernel, by decide +kernel, by decide +kernel⟩ ⟨by (try dsimp only [RM]); omega, by (try dsimp only [RM]); omega⟩ rfl rfl (Nat.le_of_ble_eq_true rfl) dJ29_init_6 ⟨by (try dsimp only [RM]); omega, by (try dsimp only [RM]); omega⟩ (fun v2139 G2140 H locs hq2136 hR2137 hS2138 => ?_)
  obtain ⟨rfl, rfl⟩ := hq2136
  refine lv_aload_n X.hx X.hb dJ29_init_9 rfl (lv_at hl 0 rfl) ?_
  refine lv_iconst (v := (-1)) X.hx X.hb dJ29_init_10 (by decide) ?_
  refine g_putA X hR2137 hS2138 f2135 (Nat.le_of_ble_eq_true rfl) rfl in_J30 tyJ30 tyJ30_ok nm2J30 0 (by decide) q897 (fun _ h => h) rfl rfl rfl (Nat.le_of_ble_eq_true rfl) dJ29_init_11 (fun H locs hR2141 hS2142 => ?_)
  obtain ⟨G2143, hG2143⟩ : ∃ z : GH, z = gu G2134 b ((24, 0), .inr (14, [.int (-1), .int 0, .ref sm, .ref sm])) := ⟨_, rfl⟩
  have hR2141 : Rep Γ G2143 H := by rw [hG2143]; exact hR2141
  have f2144 : G2143 b = some ((24, 0), .inr (14, [.int (-1), .int 0, .ref sm, .ref sm])) := by rw [hG2143]; exact gu_s _ _ _
  exact g_vret X hr hlk hR2141 hS2142 (⟨rfl, by rw [hG2143, hG2134, gu_gu]⟩) (by (try dsimp only [RM]); omega) (by (try dsimp only [RM]); omega) dJ29_init_14

set_option maxHeartbeats 4000000 in
theorem c_J30i (l : Launch) (Γ : GP) (G : GH) {b sm : Nat} (hb : G b = some ((24, 0), .inr (14, [.int 0, .int 0, .null, .null]))) : MetG l yJ30_init (ws_ yJ30_init cJ30_init 2 none) (RM 5 0 0) Γ G [.ref b, .ref sm] (fun v G1 => v = none ∧ G1 = gu G b (ESc sm)) 0 0 := by
  refine gMet (own := RJ30) (by decide) rfl (Nat.le_of_ble_eq_true rfl) ?_
  intro pp ee ss mm below meth cc0 ls X hr hlk hin hnm hR hS hl
  have hl : lv_has ls 2 [(0, .ref b), (1, .ref sm)] := hl
  refine lv_aload_n X.hx X.hb dJ30_init_0 rfl (lv_at hl 0 rfl) ?_
  refine lv_aload_n X.hx X.hb dJ30_init_1 rfl (lv_at hl 1 rfl) ?_
  refine g_putFA X hR hS hb (Nat.le_of_ble_eq_true rfl) rfl in_J30 tyJ30 tyJ30_ok nm2J30 3 (by decide) q896 (fun _ h => h) rfl hin rfl rfl rfl (Nat.le_of_ble_eq_true rfl) dJ30_init_2 (fun H locs hR2145 hS2146 => ?_)
  obtain ⟨G2147, hG2147⟩ : ∃ z : GH, z = gu G b ((24, 0), .inr (14, [.int 0, .int 0, .null, .ref sm])) := ⟨_, rfl⟩
  have hR2145 : Rep Γ G2147 H := by rw [hG2147]; exact hR2145
  have f2148 : G2147 b = some ((24, 0), .inr (14, [.int 0, .int 0, .null, .ref sm])) := by rw [hG2147]; exact gu_s _ _ _
  refine lv_aload_n X.hx X.hb dJ30_init_5 rfl (lv_at hl 0 rfl) ?_
  refine lv_aload_n X.hx X.hb dJ30_init_6 rfl (lv_at hl 1 rfl) ?_
  refine gcI X hl.1 hR2145 hS2146 1 [.ref sm] [] (c_J29i l Γ G2147 f2148) q892 q893 q73 q894 rfl rfl rfl ⟨by decide +kernel, by decide +kernel, by decide +kernel⟩ ⟨by (try dsimp only [RM]); omega, by (try dsimp only [RM]); omega⟩ rfl rfl (Nat.le_of_ble_eq_true rfl) dJ30_init_7 ⟨by (try dsimp only [RM]); omega, by (try dsimp only [RM]); omega⟩ (fun v2153 G2154 H locs hq2150 hR2151 hS2152 => ?_)
  obtain ⟨rfl, hG2149⟩ := hq2150
  have f2155 : G2154 b = some ((24, 0), .inr (14, [.int (-1), .int 0, .ref sm, .ref sm])) := by rw [hG2149]; exact gu_s _ _ _
  exact g_vret X hr hlk hR2151 hS2152 (⟨rfl, by rw [hG2149, hG2147, gu_gu]⟩) (by (try dsimp only [RM]); omega) (by (try dsimp only [RM]); omega) dJ30_init_10

set_option maxHeartbeats 4000000 in
theorem c_es (l : Launch) (Γ : GP) (G : GH) {sm a ka : Nat} {vs : Option Nat} (hsm : G sm = some (SMc a ka none vs)) : MetG l yJ23_entrySet (ws_ yJ23_entrySet cJ23_entrySet 2 (some (.object "java/util/Set"))) (RM 6 1 4) Γ G [.ref sm] (fun v G1 => ∃ b, v = some (.ref b) ∧ G1 b = some (ESc sm) ∧ G1 sm = some (SMc a ka (some b) vs) ∧ gK (fun t => t = (21, 0) ∨ t = (24, 0)) G G1) 1 4 := by
  refine gMet (own := RJ23) (by decide) rfl (Nat.le_of_ble_eq_true rfl) ?_
  intro pp ee ss mm below meth cc0 ls X hr hlk hin hnm hR hS hl
  have hl : lv_has ls 2 [(0, .ref sm)] := hl
  refine lv_aload_n X.hx X.hb dJ23_entrySet_0 rfl (lv_at hl 0 rfl) ?_
  refine g_get X hR hsm rfl in_J23 8 (by decide) q787 (fun x h => u_same (X.hts _ q788) x h) rfl dJ23_entrySet_1 ?_
  refine lv_astore_nN (lv' := [(1, .null), (0, .ref sm)]) X.hx X.hb dJ23_entrySet_4 rfl hl (by decide) rfl (fun ls hl => ?_)
  refine lv_aload_nN X.hx X.hb dJ23_entrySet_5 rfl (lv_at hl 0 rfl) ?_
  refine lv_ifnullN (tgt := 13) X.hx X.hb dJ23_entrySet_6 (by decide) ?_
  refine lv_aload_n X.hx X.hb dJ23_entrySet_13 rfl (lv_at hl 1 rfl) ?_
  refine g_new (ci := 14) X hR hS (24, 0) (C := RJ30) (T := TJ30) (N := 4) rfl in_J30 tyJ30 tyJ30_ok q887 q888 q74 (fs := [.int 0, .int 0, .null, .null]) (fun j hj => by rcases (show j = 0 ∨ j = 1 ∨ j = 2 ∨ j = 3 by omega) with rfl | rfl | rfl | rfl <;> rfl) (by (try dsimp only [RM]); omega) (by (try dsimp only [RM]); omega) dJ23_entrySet_14 (fun q2156 H hq2158 hR2157 hS2159 => ?_)
  obtain ⟨G2160, hG2160⟩ : ∃ z : GH, z = gu G q2156 ((24, 0), .inr (14, [.int 0, .int 0, .null, .null])) := ⟨_, rfl⟩
  have hR2157 : Rep Γ G2160 H := by rw [hG2160]; exact hR2157
  have f2161 : G2160 sm = some ((21, 0), .inr (10, [.ref a, .null, .ref ka, .int 1, .int 0, .int 1, .int 0, .null, .null, .null, .null, va_rf vs])) := by rw [hG2160]; exact gu_f hsm hq2158
  have f2162 : G2160 q2156 = some ((24, 0), .inr (14, [.int 0, .int 0, .null, .null])) := by rw [hG2160]; exact gu_s _ _ _
  refine lv_dup X.hx X.hb dJ23_entrySet_17 rfl ?_
  refine lv_aload_n X.hx X.hb dJ23_entrySet_18 rfl (lv_at hl 1 rfl) ?_
  refine gcI X hl.1 hR2157 hS2159 1 [.ref sm] [.ref q2156, .ref sm] (c_J30i l Γ G2160 f2162) q889 q890 q74 q891 rfl rfl rfl ⟨by decide +kernel, by decide +kernel, by decide +kernel⟩ ⟨by (try dsimp only [RM]); omega, by (try dsimp only [RM]); omega⟩ rfl rfl (Nat.le_of_ble_eq_true rfl) dJ23_entrySet_19 ⟨by (try dsimp only [RM]); omega, by (try dsimp only [RM]); omega⟩ (fun v2167 G2168 H locs hq2164 hR2165 hS2166 => ?_)
  obtain ⟨rfl, hG2163⟩ := hq2164
  have f2169 : G2168 sm = some ((21, 0), .inr (10, [.ref a, .null, .ref ka, .int 1, .int 0, .int 1, .int 0, .null, .null, .null, .null, va_rf vs])) := by rw [hG2163]; exact (gu_n (fne hsm hq2158)).trans f2161
  have f2170 : G2168 q2156 = some ((24, 0), .inr (14, [.int (-1), .int 0, .ref sm, .ref sm])) := by rw [hG2163]; exact gu_s _ _ _
  refine lv_dup_x1 X.hx X.hb dJ23_entrySet_22 rfl rfl ?_
  refine g_put X hR2165 hS2166 f2169 (Nat.le_of_ble_eq_true rfl) rfl in_J23 tyJ23 tyJ23_ok nmJ23 8 (by decide) q787 (fun x h => u_same (X.hts _ q788) x h) rfl rfl rfl (Nat.le_of_ble_eq_true rfl) dJ23_entrySet_23 (fun H locs hR2171 hS2172 => ?_)
  obtain ⟨G2173, hG2173⟩ : ∃ z : GH, z = gu G2168 sm ((21, 0), .inr (10, [.ref a, .null, .ref ka, .int 1, .int 0, .int 1, .int 0, .null, .ref q2156, .null, .null, va_rf vs])) := ⟨_, rfl⟩
  have hR2171 : Rep Γ G2173 H := by rw [hG2173]; exact hR2171
  have f2174 : G2173 q2156 = some ((24, 0), .inr (14, [.int (-1), .int 0, .ref sm, .ref sm])) := by rw [hG2173]; exact (gu_n (Ne.symm (fne hsm hq2158))).trans f2170
  have f2175 : G2173 sm = some ((21, 0), .inr (10, [.ref a, .null, .ref ka, .int 1, .int 0, .int 1, .int 0, .null, .ref q2156, .null, .null, va_rf vs])) := by rw [hG2173]; exact gu_s _ _ _
  exact g_aretS X hr (Or.inl ⟨_, rfl⟩) hlk hR2171 hS2172 (⟨_, rfl, f2174, f2175, (gK.tr (gK.tr (gK.nw hG2160 hq2158) (gK.pt hG2163 f2162 (Or.inr rfl))) (gK.pt hG2173 f2169 (Or.inl rfl)))⟩) (by (try dsimp only [RM]); omega) (by (try dsimp only [RM]); omega) dJ23_entrySet_26

def Sh (S : Nat → Prop) (kv : Nat → Int32) (h : Int) (k : Nat) : Prop := S k ∧ (kv k).toInt < h
theorem CE_N {S : Nat → Prop} {kv : Nat → Int32} {κ h : Int} (c : CE S kv κ none) : CE (Sh S kv h) kv κ none := ⟨(fun m e => by cases e), fun _ k hk => c.2 rfl k hk.1⟩
theorem CE_hi {S : Nat → Prop} {kv : Nat → Int32} {κ h : Int} {m : Nat} (c : CE S kv κ (some m)) (hm : h ≤ (kv m).toInt) : CE (Sh S kv h) kv κ none := ⟨(fun m e => by cases e), fun _ k hk => by
  obtain ⟨c1, c2, c3⟩ := c.1 m rfl
  have hk2 := hk.2
  rcases Int.lt_or_le (kv k).toInt κ with h1 | h1
  · exact h1
  · have := c3 k hk.1 h1; omega⟩
theorem CE_lo {S : Nat → Prop} {kv : Nat → Int32} {κ h : Int} {m : Nat} (c : CE S kv κ (some m)) (hm : (kv m).toInt < h) : CE (Sh S kv h) kv κ (some m) := ⟨(fun m' e => by
  cases e
  obtain ⟨c1, c2, c3⟩ := c.1 m rfl
  exact ⟨⟨c1, hm⟩, c2, fun k hk h1 => c3 k hk.1 h1⟩), fun e => by cases e⟩

theorem i32_zero {v : Int32} (h1 : ¬ v < 0) (h2 : ¬ 0 < v) : v = 0 := by
  rcases Int32.lt_or_eq_of_le (Int32.not_lt.mp h1) with h | h
  · exact absurd h h2
  · exact h.symm

set_option maxHeartbeats 4000000 in
theorem c_toohiT (l : Launch) (Γ : GP) (G : GH) {sm a p ka : Nat} {es vs vw : Option Nat} {S : Nat → Prop} {N K V : Nat → Nat} {kv : Nat → Int32} {x : Int32} (hsm : G sm = some (SMc a ka es vs)) (hTM : TM G a p vw S N K V kv) (hka0 : IBk G ka x) {m : Nat} (hm : S m) (hlt : x.toInt ≤ (kv m).toInt) : MetG l yJ22_tooHigh (ws_ yJ22_tooHigh cJ22_tooHigh 3 (some .boolean)) (RM 5 0 0) Γ G [.ref sm, .ref (K m)] (fun v G1 => v = some (.int 1) ∧ G = G1) 0 0 := by
  refine gMet (own := RJ22) (by decide) rfl (Nat.le_of_ble_eq_true rfl) ?_
  intro pp ee ss mm below meth cc0 ls X hr hlk hin hnm hR hS hl
  have hl : lv_has ls 3 [(0, .ref sm), (1, .ref (K m))] := hl
  have hTM0 := hTM
  obtain ⟨L, R, P, C, lo, hi, root, sz, mo, hT, hI, hM, hB, hK⟩ := hTM0
  obtain ⟨tk, hka, hk4, hk11, hk13⟩ := hka0
  obtain ⟨tb, hkb, hb4, hb11⟩ := hK m hm
  have hlt9 : ¬ cmpI (kv m) x < 0 := by
    intro h9; have := Int32.lt_iff_toInt_lt.mp (cmpI_lt.mp h9); omega
  refine lv_aload_n X.hx X.hb dJ22_tooHigh_0 rfl (lv_at hl 0 rfl) ?_
  refine g_get X hR hsm rfl in_J23 4 (by decide) q784 (fun _ h => h) rfl dJ22_tooHigh_1 ?_
  refine lv_if_ne (tgt := 37) X.hx X.hb dJ22_tooHigh_4 (by decide) (fun c4 => ?_) (fun c4 => ?_)
  · exact absurd rfl c4
  · refine lv_aload_n X.hx X.hb dJ22_tooHigh_7 rfl (lv_at hl 0 rfl) ?_
    refine g_get X hR hsm rfl in_J23 0 (by decide) q780 (fun _ h => h) rfl dJ22_tooHigh_8 ?_
    refine lv_aload_n X.hx X.hb dJ22_tooHigh_11 rfl (lv_at hl 1 rfl) ?_
    refine lv_aload_n X.hx X.hb dJ22_tooHigh_12 rfl (lv_at hl 0 rfl) ?_
    refine g_get X hR hsm rfl in_J23 2 (by decide) q782 (fun _ h => h) rfl dJ22_tooHigh_13 ?_
    refine gcV X hl.1 hR hS 2 [.ref (K m), .ref ka] [] (c_compare l Γ G hM hkb hka) hM rfl q772 q565 q566 q48 q567 rfl rfl ⟨rfl, by decide +kernel, by decide +kernel, by decide +kernel⟩ ⟨by (try dsimp only [RM]); omega, by (try dsimp only [RM]); omega⟩ rfl rfl (Nat.le_of_ble_eq_true rfl) dJ22_tooHigh_16 ⟨by (try dsimp only [RM]); omega, by (try dsimp only [RM]); omega⟩ (fun v2179 G2180 H locs hq2176 hR2177 hS2178 => ?_)
    obtain ⟨rfl, rfl⟩ := hq2176
    refine lv_istore_n (lv' := [(2, .int (cmpI (kv m) x)), (0, .ref sm), (1, .ref (K m))]) X.hx X.hb dJ22_tooHigh_19 rfl hl (by decide) rfl (fun ls hl => ?_)
    refine lv_iload_n X.hx X.hb dJ22_tooHigh_20 rfl (lv_at hl 0 rfl) ?_
    refine lv_if_gt (tgt := 35) X.hx X.hb dJ22_tooHigh_21 (by decide) (fun c21 => ?_) (fun c21 => ?_)
    · refine lv_iconst (v := 1) X.hx X.hb dJ22_tooHigh_35 (by decide) ?_
      exact g_zret X hr hlk hR2177 hS2178 rfl (⟨rfl, rfl⟩) (by (try dsimp only [RM]); omega) (by (try dsimp only [RM]); omega) dJ22_tooHigh_36
    · refine lv_iload_n X.hx X.hb dJ22_tooHigh_24 rfl (lv_at hl 0 rfl) ?_
      refine lv_if_ne (tgt := 37) X.hx X.hb dJ22_tooHigh_25 (by decide) (fun c25 => ?_) (fun c25 => ?_)
      · exact absurd (i32_zero hlt9 c21) c25
      · refine lv_aload_n X.hx X.hb dJ22_tooHigh_28 rfl (lv_at hl 1 rfl) ?_
        refine g_get X hR2177 hsm rfl in_J23 6 (by decide) q786 (fun _ h => h) rfl dJ22_tooHigh_29 ?_
        refine lv_if_ne (tgt := 37) X.hx X.hb dJ22_tooHigh_32 (by decide) (fun c32 => ?_) (fun c32 => ?_)
        · exact absurd rfl c32
        · refine lv_iconst (v := 1) X.hx X.hb dJ22_tooHigh_35 (by decide) ?_
          exact g_zret X hr hlk hR2177 hS2178 rfl (⟨rfl, rfl⟩) (by (try dsimp only [RM]); omega) (by (try dsimp only [RM]); omega) dJ22_tooHigh_36

set_option maxHeartbeats 4000000 in
theorem c_toohiF (l : Launch) (Γ : GP) (G : GH) {sm a p ka : Nat} {es vs vw : Option Nat} {S : Nat → Prop} {N K V : Nat → Nat} {kv : Nat → Int32} {x : Int32} (hsm : G sm = some (SMc a ka es vs)) (hTM : TM G a p vw S N K V kv) (hka0 : IBk G ka x) {m : Nat} (hm : S m) (hlt : (kv m).toInt < x.toInt) : MetG l yJ22_tooHigh (ws_ yJ22_tooHigh cJ22_tooHigh 3 (some .boolean)) (RM 5 0 0) Γ G [.ref sm, .ref (K m)] (fun v G1 => v = some (.int 0) ∧ G = G1) 0 0 := by
  refine gMet (own := RJ22) (by decide) rfl (Nat.le_of_ble_eq_true rfl) ?_
  intro pp ee ss mm below meth cc0 ls X hr hlk hin hnm hR hS hl
  have hl : lv_has ls 3 [(0, .ref sm), (1, .ref (K m))] := hl
  have hTM0 := hTM
  obtain ⟨L, R, P, C, lo, hi, root, sz, mo, hT, hI, hM, hB, hK⟩ := hTM0
  obtain ⟨tk, hka, hk4, hk11, hk13⟩ := hka0
  obtain ⟨tb, hkb, hb4, hb11⟩ := hK m hm
  have hlt9 : cmpI (kv m) x < 0 := by
    exact cmpI_lt.mpr (Int32.lt_iff_toInt_lt.mpr hlt)
  refine lv_aload_n X.hx X.hb dJ22_tooHigh_0 rfl (lv_at hl 0 rfl) ?_
  refine g_get X hR hsm rfl in_J23 4 (by decide) q784 (fun _ h => h) rfl dJ22_tooHigh_1 ?_
  refine lv_if_ne (tgt := 37) X.hx X.hb dJ22_tooHigh_4 (by decide) (fun c4 => ?_) (fun c4 => ?_)
  · exact absurd rfl c4
  · refine lv_aload_n X.hx X.hb dJ22_tooHigh_7 rfl (lv_at hl 0 rfl) ?_
    refine g_get X hR hsm rfl in_J23 0 (by decide) q780 (fun _ h => h) rfl dJ22_tooHigh_8 ?_
    refine lv_aload_n X.hx X.hb dJ22_tooHigh_11 rfl (lv_at hl 1 rfl) ?_
    refine lv_aload_n X.hx X.hb dJ22_tooHigh_12 rfl (lv_at hl 0 rfl) ?_
    refine g_get X hR hsm rfl in_J23 2 (by decide) q782 (fun _ h => h) rfl dJ22_tooHigh_13 ?_
    refine gcV X hl.1 hR hS 2 [.ref (K m), .ref ka] [] (c_compare l Γ G hM hkb hka) hM rfl q772 q565 q566 q48 q567 rfl rfl ⟨rfl, by decide +kernel, by decide +kernel, by decide +kernel⟩ ⟨by (try dsimp only [RM]); omega, by (try dsimp only [RM]); omega⟩ rfl rfl (Nat.le_of_ble_eq_true rfl) dJ22_tooHigh_16 ⟨by (try dsimp only [RM]); omega, by (try dsimp only [RM]); omega⟩ (fun v2184 G2185 H locs hq2181 hR2182 hS2183 => ?_)
    obtain ⟨rfl, rfl⟩ := hq2181
    refine lv_istore_n (lv' := [(2, .int (cmpI (kv m) x)), (0, .ref sm), (1, .ref (K m))]) X.hx X.hb dJ22_tooHigh_19 rfl hl (by decide) rfl (fun ls hl => ?_)
    refine lv_iload_n X.hx X.hb dJ22_tooHigh_20 rfl (lv_at hl 0 rfl) ?_
    refine lv_if_gt (tgt := 35) X.hx X.hb dJ22_tooHigh_21 (by decide) (fun c21 => ?_) (fun c21 => ?_)
    · exact absurd (Int32.lt_trans hlt9 c21) Int32.lt_irrefl
    · refine lv_iload_n X.hx X.hb dJ22_tooHigh_24 rfl (lv_at hl 0 rfl) ?_
      refine lv_if_ne (tgt := 37) X.hx X.hb dJ22_tooHigh_25 (by decide) (fun c25 => ?_) (fun c25 => ?_)
      · refine lv_iconst (v := 0) X.hx X.hb dJ22_tooHigh_37 (by decide) ?_
        exact g_zret X hr hlk hR2182 hS2183 rfl (⟨rfl, rfl⟩) (by (try dsimp only [RM]); omega) (by (try dsimp only [RM]); omega) dJ22_tooHigh_38
      · exact absurd (by rw [c25] at hlt9; exact hlt9) (Int32.lt_irrefl (a := 0))

set_option maxHeartbeats 4000000 in
theorem c_low (l : Launch) (Γ : GP) (G : GH) {sm a p ka : Nat} {es vs vw : Option Nat} {S : Nat → Prop} {N K V : Nat → Nat} {kv : Nat → Int32} {x : Int32} (hsm : G sm = some (SMc a ka es vs)) (hTM : TM G a p vw S N K V kv) (hka0 : IBk G ka x) : MetG l yJ22_absLowest (ws_ yJ22_absLowest cJ22_absLowest 2 (some (.object "java/util/TreeMap$Entry"))) (RM 6 0 0) Γ G [.ref sm] (fun v G1 => ∃ o, v = some (va_rf (o.map N)) ∧ CE (Sh S kv x.toInt) kv (-1) o ∧ G = G1) 0 0 := by
  refine gMet (own := RJ22) (by decide) rfl (Nat.le_of_ble_eq_true rfl) ?_
  intro pp ee ss mm below meth cc0 ls X hr hlk hin hnm hR hS hl
  have hl : lv_has ls 2 [(0, .ref sm)] := hl
  have hka1 := hka0
  have hTM0 := hTM
  obtain ⟨L, R, P, C, lo, hi, root, sz, mo, hT, hI, hM, hB, hK⟩ := hTM0
  obtain ⟨tk, hka, hk4, hk11, hk13⟩ := hka0
  refine lv_aload_n X.hx X.hb dJ22_absLowest_0 rfl (lv_at hl 0 rfl) ?_
  refine g_get X hR hsm rfl in_J23 3 (by decide) q783 (fun _ h => h) rfl dJ22_absLowest_1 ?_
  refine lv_if_eq (tgt := 17) X.hx X.hb dJ22_absLowest_4 (by decide) (fun c4 => ?_) (fun c4 => ?_)
  · exact absurd c4 (by decide)
  · refine lv_aload_n X.hx X.hb dJ22_absLowest_7 rfl (lv_at hl 0 rfl) ?_
    refine g_get X hR hsm rfl in_J23 0 (by decide) q780 (fun _ h => h) rfl dJ22_absLowest_8 ?_
    refine gcV X hl.1 hR hS 0 [] [] (c_first l Γ G hTM) hM rfl q926 q927 q928 q48 q929 rfl rfl ⟨rfl, by decide +kernel, by decide +kernel, by decide +kernel⟩ ⟨by (try dsimp only [RM]); omega, by (try dsimp only [RM]); omega⟩ rfl rfl (Nat.le_of_ble_eq_true rfl) dJ22_absLowest_11 ⟨by (try dsimp only [RM]); omega, by (try dsimp only [RM]); omega⟩ (fun v2189 G2190 H locs hq2186 hR2187 hS2188 => ?_)
    obtain ⟨o, rfl, hce, rfl⟩ := hq2186
    refine lv_goto (tgt := 49) X.hx X.hb dJ22_absLowest_14 (by decide) ?_
    rcases o with _ | m
    · refine lv_astore_nN (lv' := [(1, .null), (0, .ref sm)]) X.hx X.hb dJ22_absLowest_49 rfl hl (by decide) rfl (fun ls hl => ?_)
      refine lv_aload_nN X.hx X.hb dJ22_absLowest_50 rfl (lv_at hl 0 rfl) ?_
      refine lv_ifnullN (tgt := 65) X.hx X.hb dJ22_absLowest_51 (by decide) ?_
      refine lv_null X.hx X.hb dJ22_absLowest_65 ?_
      refine lv_goto (tgt := 70) X.hx X.hb dJ22_absLowest_66 (by decide) ?_
      exact g_aret (r := none) X hr (Or.inl ⟨_, rfl⟩) hlk hR2187 hS2188 (⟨none, rfl, CE_N hce, rfl⟩) (by (try dsimp only [RM]); omega) (by (try dsimp only [RM]); omega) dJ22_absLowest_70
    · obtain ⟨hm, -, -⟩ := hce.1 m rfl
      by_cases hlt : (kv m).toInt < x.toInt
      · refine lv_astore_n (lv' := [(1, .ref (N m)), (0, .ref sm)]) X.hx X.hb dJ22_absLowest_49 rfl hl (by decide) rfl (fun ls hl => ?_)
        refine lv_aload_n X.hx X.hb dJ22_absLowest_50 rfl (lv_at hl 0 rfl) ?_
        refine lv_ifnull X.hx X.hb dJ22_absLowest_51 ?_
        refine lv_aload_n X.hx X.hb dJ22_absLowest_54 rfl (lv_at hl 1 rfl) ?_
        refine lv_aload_n X.hx X.hb dJ22_absLowest_55 rfl (lv_at hl 0 rfl) ?_
        refine g_get (v := .ref (K m)) X hR2187 (hT.1 m hm) rfl in_J21 0 (by decide) q615 (fun _ h => h) rfl dJ22_absLowest_56 ?_
        refine gcU X hl.1 hR2187 hS2188 1 [.ref (K m)] [] (c_toohiF l Γ G hsm hTM hka1 hm hlt) hsm rfl q938 q940 q941 q939 q66 q942 (va_Decl.of (X.hts _ q939) (X.hts _ q942)) rfl rfl ⟨by decide +kernel, by decide +kernel, by decide +kernel⟩ ⟨by (try dsimp only [RM]); omega, by (try dsimp only [RM]); omega⟩ rfl rfl (Nat.le_of_ble_eq_true rfl) dJ22_absLowest_59 ⟨by (try dsimp only [RM]); omega, by (try dsimp only [RM]); omega⟩ (fun v2194 G2195 H locs hq2191 hR2192 hS2193 => ?_)
        obtain ⟨rfl, rfl⟩ := hq2191
        refine lv_if_eq (tgt := 69) X.hx X.hb dJ22_absLowest_62 (by decide) (fun c62 => ?_) (fun c62 => ?_)
        · refine lv_aload_n X.hx X.hb dJ22_absLowest_69 rfl (lv_at hl 0 rfl) ?_
          exact g_aretS X hr (Or.inl ⟨_, rfl⟩) hlk hR2192 hS2193 (⟨some m, rfl, CE_lo hce hlt, rfl⟩) (by (try dsimp only [RM]); omega) (by (try dsimp only [RM]); omega) dJ22_absLowest_70
        · exact absurd rfl c62
      · refine lv_astore_n (lv' := [(1, .ref (N m)), (0, .ref sm)]) X.hx X.hb dJ22_absLowest_49 rfl hl (by decide) rfl (fun ls hl => ?_)
        refine lv_aload_n X.hx X.hb dJ22_absLowest_50 rfl (lv_at hl 0 rfl) ?_
        refine lv_ifnull X.hx X.hb dJ22_absLowest_51 ?_
        refine lv_aload_n X.hx X.hb dJ22_absLowest_54 rfl (lv_at hl 1 rfl) ?_
        refine lv_aload_n X.hx X.hb dJ22_absLowest_55 rfl (lv_at hl 0 rfl) ?_
        refine g_get (v := .ref (K m)) X hR2187 (hT.1 m hm) rfl in_J21 0 (by decide) q615 (fun _ h => h) rfl dJ22_absLowest_56 ?_
        refine gcU X hl.1 hR2187 hS2188 1 [.ref (K m)] [] (c_toohiT l Γ G hsm hTM hka1 hm (by omega)) hsm rfl q938 q940 q941 q939 q66 q942 (va_Decl.of (X.hts _ q939) (X.hts _ q942)) rfl rfl ⟨by decide +kernel, by decide +kernel, by decide +kernel⟩ ⟨by (try dsimp only [RM]); omega, by (try dsimp only [RM]); omega⟩ rfl rfl (Nat.le_of_ble_eq_true rfl) dJ22_absLowest_59 ⟨by (try dsimp only [RM]); omega, by (try dsimp only [RM]); omega⟩ (fun v2199 G2200 H locs hq2196 hR2197 hS2198 => ?_)
        obtain ⟨rfl, rfl⟩ := hq2196
        refine lv_if_eq (tgt := 69) X.hx X.hb dJ22_absLowest_62 (by decide) (fun c62 => ?_) (fun c62 => ?_)
        · exact absurd c62 (by decide)
        · refine lv_null X.hx X.hb dJ22_absLowest_65 ?_
          refine lv_goto (tgt := 70) X.hx X.hb dJ22_absLowest_66 (by decide) ?_
          exact g_aret (r := none) X hr (Or.inl ⟨_, rfl⟩) hlk hR2197 hS2198 (⟨none, rfl, CE_hi hce (by omega), rfl⟩) (by (try dsimp only [RM]); omega) (by (try dsimp only [RM]); omega) dJ22_absLowest_70

set_option maxHeartbeats 4000000 in
theorem c_fence (l : Launch) (Γ : GP) (G : GH) {sm a p ka : Nat} {es vs vw : Option Nat} {S : Nat → Prop} {N K V : Nat → Nat} {kv : Nat → Int32} {x : Int32} (hsm : G sm = some (SMc a ka es vs)) (hTM : TM G a p vw S N K V kv) (hka0 : IBk G ka x) (h0 : 0 ≤ x.toInt) : MetG l yJ22_absHighFence (ws_ yJ22_absHighFence cJ22_absHighFence 1 (some (.object "java/util/TreeMap$Entry"))) (RM 6 0 0) Γ G [.ref sm] (fun v G1 => ∃ o, v = some (va_rf (o.map N)) ∧ CE S kv x.toInt o ∧ G = G1) 0 0 := by
  refine gMet (own := RJ22) (by decide) rfl (Nat.le_of_ble_eq_true rfl) ?_
  intro pp ee ss mm below meth cc0 ls X hr hlk hin hnm hR hS hl
  have hl : lv_has ls 1 [(0, .ref sm)] := hl
  have hka1 := hka0
  have hTM0 := hTM
  obtain ⟨L, R, P, C, lo, hi, root, sz, mo, hT, hI, hM, hB, hK⟩ := hTM0
  obtain ⟨tk, hka, hk4, hk11, hk13⟩ := hka0
  refine lv_aload_n X.hx X.hb dJ22_absHighFence_0 rfl (lv_at hl 0 rfl) ?_
  refine g_get X hR hsm rfl in_J23 4 (by decide) q784 (fun _ h => h) rfl dJ22_absHighFence_1 ?_
  refine lv_if_eq (tgt := 11) X.hx X.hb dJ22_absHighFence_4 (by decide) (fun c4 => ?_) (fun c4 => ?_)
  · refine lv_aload_n X.hx X.hb dJ22_absHighFence_11 rfl (lv_at hl 0 rfl) ?_
    refine g_get X hR hsm rfl in_J23 6 (by decide) q786 (fun _ h => h) rfl dJ22_absHighFence_12 ?_
    refine lv_if_eq (tgt := 32) X.hx X.hb dJ22_absHighFence_15 (by decide) (fun c15 => ?_) (fun c15 => ?_)
    · refine lv_aload_n X.hx X.hb dJ22_absHighFence_32 rfl (lv_at hl 0 rfl) ?_
      refine g_get X hR hsm rfl in_J23 0 (by decide) q780 (fun _ h => h) rfl dJ22_absHighFence_33 ?_
      refine lv_aload_n X.hx X.hb dJ22_absHighFence_36 rfl (lv_at hl 0 rfl) ?_
      refine g_get X hR hsm rfl in_J23 2 (by decide) q782 (fun _ h => h) rfl dJ22_absHighFence_37 ?_
      refine gcV X hl.1 hR hS 1 [.ref ka] [] (c_ceil l Γ G hTM hka1 h0) hM rfl q930 q931 q932 q48 q933 rfl rfl ⟨rfl, by decide +kernel, by decide +kernel, by decide +kernel⟩ ⟨by (try dsimp only [RM]); omega, by (try dsimp only [RM]); omega⟩ rfl rfl (Nat.le_of_ble_eq_true rfl) dJ22_absHighFence_40 ⟨by (try dsimp only [RM]); omega, by (try dsimp only [RM]); omega⟩ (fun v2204 G2205 H locs hq2201 hR2202 hS2203 => ?_)
      obtain ⟨o, rfl, hce, rfl⟩ := hq2201
      exact g_aret X hr (Or.inl ⟨_, rfl⟩) hlk hR2202 hS2203 (⟨o, rfl, hce, rfl⟩) (by (try dsimp only [RM]); omega) (by (try dsimp only [RM]); omega) dJ22_absHighFence_43
    · exact absurd rfl c15
  · exact absurd rfl c4

set_option maxHeartbeats 4000000 in
theorem c_J31iSS (l : Launch) (Γ : GP) (G : GH) {it sm a p ka : Nat} {es vs vw rt : Option Nat} {sz mo : Int32} (hit : G it = some ((25, 0), .inr (15, [.null, .null, .null, .int 0, .null]))) (hsm : G sm = some (SMc a ka es vs)) (hM : G a = some (TMc p vw rt sz mo)) {e0 : Nat} {nf kf fk : Nat} {w1 w2 w3 w4 w5 : Value} (hnf : G nf = some ((11, kf), .inr (8, [.ref fk, w1, w2, w3, w4, w5]))) : MetG l yJ31_init (ws_ yJ31_init cJ31_init 4 none) (RM 2 0 0) Γ G [.ref it, .ref sm, .ref e0, .ref nf] (fun v G1 => v = none ∧ G1 = gu G it ((25, 0), .inr (15, [.null, .ref e0, .ref fk, .int mo, .ref sm]))) 0 0 := by
  refine gMet (own := RJ31) (by decide) rfl (Nat.le_of_ble_eq_true rfl) ?_
  intro pp ee ss mm below meth cc0 ls X hr hlk hin hnm hR hS hl
  have hl : lv_has ls 4 [(0, .ref it), (1, .ref sm), (2, .ref e0), (3, .ref nf)] := hl
  refine lv_aload_n X.hx X.hb dJ31_init_0 rfl (lv_at hl 0 rfl) ?_
  refine lv_aload_n X.hx X.hb dJ31_init_1 rfl (lv_at hl 1 rfl) ?_
  refine g_putF X hR hS hit (Nat.le_of_ble_eq_true rfl) rfl in_J32 tyJ32 tyJ32_ok nmJ32 4 (by decide) q962 (fun _ h => h) rfl hin rfl rfl rfl (Nat.le_of_ble_eq_true rfl) dJ31_init_2 (fun H locs hR2206 hS2207 => ?_)
  obtain ⟨G2208, hG2208⟩ : ∃ z : GH, z = gu G it ((25, 0), .inr (15, [.null, .null, .null, .int 0, .ref sm])) := ⟨_, rfl⟩
  have hR2206 : Rep Γ G2208 H := by rw [hG2208]; exact hR2206
  have f2209 : G2208 sm = some ((21, 0), .inr (10, [.ref a, .null, .ref ka, .int 1, .int 0, .int 1, .int 0, .null, va_rf es, .null, .null, va_rf vs])) := by rw [hG2208]; exact gu_t hsm hit (tne rfl)
  have f2210 : G2208 a = some ((4, p), .inr (7, [.null, va_rf vw, .null, va_rf rt, .int sz, .int mo, .null, .null, .null])) := by rw [hG2208]; exact gu_t hM hit (tne rfl)
  have f2211 : G2208 nf = some ((11, kf), .inr (8, [.ref fk, w1, w2, w3, w4, w5])) := by rw [hG2208]; exact gu_t hnf hit (tne rfl)
  have f2212 : G2208 it = some ((25, 0), .inr (15, [.null, .null, .null, .int 0, .ref sm])) := by rw [hG2208]; exact gu_s _ _ _
  refine lv_aload_n X.hx X.hb dJ31_init_5 rfl (lv_at hl 0 rfl) ?_
  refine W.objInit X.hx X.hb X.hown (X.hts _ q955) (X.hts _ q87) (X.hts _ q88) rfl (by rw [X.hml]; exact hl.1) rfl dJ31_init_6 (Nat.le_of_ble_eq_true rfl) (Nat.le_of_ble_eq_true rfl) ?_
  refine W.eq (g2 := F0 mm 9 ls []) rfl ?_
  refine lv_aload_n X.hx X.hb dJ31_init_9 rfl (lv_at hl 0 rfl) ?_
  refine lv_aload_n X.hx X.hb dJ31_init_10 rfl (lv_at hl 1 rfl) ?_
  refine g_get X hR2206 f2209 rfl in_J23 0 (by decide) q779 (fun _ h => h) rfl dJ31_init_11 ?_
  refine g_getN X hR2206 f2210 rfl in_J9 5 (by decide) kq268 (fun _ h => h) rfl dJ31_init_14 ?_
  refine g_put X hR2206 hS2207 f2212 (Nat.le_of_ble_eq_true rfl) rfl in_J32 tyJ32 tyJ32_ok nmJ32 3 (by decide) q961 (fun _ h => h) rfl rfl rfl (Nat.le_of_ble_eq_true rfl) dJ31_init_17 (fun H locs hR2213 hS2214 => ?_)
  obtain ⟨G2215, hG2215⟩ : ∃ z : GH, z = gu G2208 it ((25, 0), .inr (15, [.null, .null, .null, .int mo, .ref sm])) := ⟨_, rfl⟩
  have hR2213 : Rep Γ G2215 H := by rw [hG2215]; exact hR2213
  have f2216 : G2215 sm = some ((21, 0), .inr (10, [.ref a, .null, .ref ka, .int 1, .int 0, .int 1, .int 0, .null, va_rf es, .null, .null, va_rf vs])) := by rw [hG2215]; exact gu_t f2209 f2212 (tne rfl)
  have f2217 : G2215 a = some ((4, p), .inr (7, [.null, va_rf vw, .null, va_rf rt, .int sz, .int mo, .null, .null, .null])) := by rw [hG2215]; exact gu_t f2210 f2212 (tne rfl)
  have f2218 : G2215 nf = some ((11, kf), .inr (8, [.ref fk, w1, w2, w3, w4, w5])) := by rw [hG2215]; exact gu_t f2211 f2212 (tne rfl)
  have f2219 : G2215 it = some ((25, 0), .inr (15, [.null, .null, .null, .int mo, .ref sm])) := by rw [hG2215]; exact gu_s _ _ _
  refine lv_aload_n X.hx X.hb dJ31_init_20 rfl (lv_at hl 0 rfl) ?_
  refine lv_null X.hx X.hb dJ31_init_21 ?_
  refine g_put X hR2213 hS2214 f2219 (Nat.le_of_ble_eq_true rfl) rfl in_J32 tyJ32 tyJ32_ok nmJ32 0 (by decide) q958 (fun _ h => h) rfl rfl rfl (Nat.le_of_ble_eq_true rfl) dJ31_init_22 (fun H locs hR2220 hS2221 => ?_)
  obtain ⟨G2222, hG2222⟩ : ∃ z : GH, z = gu G2215 it ((25, 0), .inr (15, [.null, .null, .null, .int mo, .ref sm])) := ⟨_, rfl⟩
  have hR2220 : Rep Γ G2222 H := by rw [hG2222]; exact hR2220
  have f2223 : G2222 sm = some ((21, 0), .inr (10, [.ref a, .null, .ref ka, .int 1, .int 0, .int 1, .int 0, .null, va_rf es, .null, .null, va_rf vs])) := by rw [hG2222]; exact gu_t f2216 f2219 (tne rfl)
  have f2224 : G2222 a = some ((4, p), .inr (7, [.null, va_rf vw, .null, va_rf rt, .int sz, .int mo, .null, .null, .null])) := by rw [hG2222]; exact gu_t f2217 f2219 (tne rfl)
  have f2225 : G2222 nf = some ((11, kf), .inr (8, [.ref fk, w1, w2, w3, w4, w5])) := by rw [hG2222]; exact gu_t f2218 f2219 (tne rfl)
  have f2226 : G2222 it = some ((25, 0), .inr (15, [.null, .null, .null, .int mo, .ref sm])) := by rw [hG2222]; exact gu_s _ _ _
  refine lv_aload_n X.hx X.hb dJ31_init_25 rfl (lv_at hl 0 rfl) ?_
  refine lv_aload_n X.hx X.hb dJ31_init_26 rfl (lv_at hl 2 rfl) ?_
  refine g_put X hR2220 hS2221 f2226 (Nat.le_of_ble_eq_true rfl) rfl in_J32 tyJ32 tyJ32_ok nmJ32 1 (by decide) q959 (fun _ h => h) rfl rfl rfl (Nat.le_of_ble_eq_true rfl) dJ31_init_27 (fun H locs hR2227 hS2228 => ?_)
  obtain ⟨G2229, hG2229⟩ : ∃ z : GH, z = gu G2222 it ((25, 0), .inr (15, [.null, .ref e0, .null, .int mo, .ref sm])) := ⟨_, rfl⟩
  have hR2227 : Rep Γ G2229 H := by rw [hG2229]; exact hR2227
  have f2230 : G2229 sm = some ((21, 0), .inr (10, [.ref a, .null, .ref ka, .int 1, .int 0, .int 1, .int 0, .null, va_rf es, .null, .null, va_rf vs])) := by rw [hG2229]; exact gu_t f2223 f2226 (tne rfl)
  have f2231 : G2229 a = some ((4, p), .inr (7, [.null, va_rf vw, .null, va_rf rt, .int sz, .int mo, .null, .null, .null])) := by rw [hG2229]; exact gu_t f2224 f2226 (tne rfl)
  have f2232 : G2229 nf = some ((11, kf), .inr (8, [.ref fk, w1, w2, w3, w4, w5])) := by rw [hG2229]; exact gu_t f2225 f2226 (tne rfl)
  have f2233 : G2229 it = some ((25, 0), .inr (15, [.null, .ref e0, .null, .int mo, .ref sm])) := by rw [hG2229]; exact gu_s _ _ _
  refine lv_aload_n X.hx X.hb dJ31_init_30 rfl (lv_at hl 0 rfl) ?_
  refine lv_aload_n X.hx X.hb dJ31_init_31 rfl (lv_at hl 3 rfl) ?_
  refine lv_ifnonnull (tgt := 41) X.hx X.hb dJ31_init_32 (by decide) ?_
  refine lv_aload_n X.hx X.hb dJ31_init_41 rfl (lv_at hl 3 rfl) ?_
  refine g_get X hR2227 f2232 rfl in_J21 0 (by decide) q614 (fun _ h => h) rfl dJ31_init_42 ?_
  refine g_putF X hR2227 hS2228 f2233 (Nat.le_of_ble_eq_true rfl) rfl in_J32 tyJ32 tyJ32_ok nmJ32 2 (by decide) q960 (fun _ h => h) rfl hin rfl rfl rfl (Nat.le_of_ble_eq_true rfl) dJ31_init_45 (fun H locs hR2234 hS2235 => ?_)
  obtain ⟨G2236, hG2236⟩ : ∃ z : GH, z = gu G2229 it ((25, 0), .inr (15, [.null, .ref e0, .ref fk, .int mo, .ref sm])) := ⟨_, rfl⟩
  have hR2234 : Rep Γ G2236 H := by rw [hG2236]; exact hR2234
  have f2237 : G2236 sm = some ((21, 0), .inr (10, [.ref a, .null, .ref ka, .int 1, .int 0, .int 1, .int 0, .null, va_rf es, .null, .null, va_rf vs])) := by rw [hG2236]; exact gu_t f2230 f2233 (tne rfl)
  have f2238 : G2236 a = some ((4, p), .inr (7, [.null, va_rf vw, .null, va_rf rt, .int sz, .int mo, .null, .null, .null])) := by rw [hG2236]; exact gu_t f2231 f2233 (tne rfl)
  have f2239 : G2236 nf = some ((11, kf), .inr (8, [.ref fk, w1, w2, w3, w4, w5])) := by rw [hG2236]; exact gu_t f2232 f2233 (tne rfl)
  have f2240 : G2236 it = some ((25, 0), .inr (15, [.null, .ref e0, .ref fk, .int mo, .ref sm])) := by rw [hG2236]; exact gu_s _ _ _
  exact g_vret X hr hlk hR2234 hS2235 (⟨rfl, by rw [hG2236, hG2229, hG2222, hG2215, hG2208, gu_gu, gu_gu, gu_gu, gu_gu]⟩) (by (try dsimp only [RM]); omega) (by (try dsimp only [RM]); omega) dJ31_init_48

set_option maxHeartbeats 4000000 in
theorem c_J32iSS (l : Launch) (Γ : GP) (G : GH) {it sm a p ka : Nat} {es vs vw rt : Option Nat} {sz mo : Int32} (hit : G it = some ((25, 0), .inr (15, [.null, .null, .null, .int 0, .null]))) (hsm : G sm = some (SMc a ka es vs)) (hM : G a = some (TMc p vw rt sz mo)) {e0 : Nat} {nf kf fk : Nat} {w1 w2 w3 w4 w5 : Value} (hnf : G nf = some ((11, kf), .inr (8, [.ref fk, w1, w2, w3, w4, w5]))) : MetG l yJ32_init (ws_ yJ32_init cJ32_init 4 none) (RM 3 0 0) Γ G [.ref it, .ref sm, .ref e0, .ref nf] (fun v G1 => v = none ∧ G1 = gu G it ((25, 0), .inr (15, [.null, .ref e0, .ref fk, .int mo, .ref sm]))) 0 0 := by
  refine gMet (own := RJ32) (by decide) rfl (Nat.le_of_ble_eq_true rfl) ?_
  intro pp ee ss mm below meth cc0 ls X hr hlk hin hnm hR hS hl
  have hl : lv_has ls 4 [(0, .ref it), (1, .ref sm), (2, .ref e0), (3, .ref nf)] := hl
  refine lv_aload_n X.hx X.hb dJ32_init_0 rfl (lv_at hl 0 rfl) ?_
  refine lv_aload_n X.hx X.hb dJ32_init_1 rfl (lv_at hl 1 rfl) ?_
  refine lv_aload_n X.hx X.hb dJ32_init_2 rfl (lv_at hl 2 rfl) ?_
  refine lv_aload_n X.hx X.hb dJ32_init_3 rfl (lv_at hl 3 rfl) ?_
  refine gcI X hl.1 hR hS 3 [.ref sm, .ref e0, .ref nf] [] (c_J31iSS l Γ G hit hsm hM hnf) q952 q953 q75 q954 rfl rfl rfl ⟨by decide +kernel, by decide +kernel, by decide +kernel⟩ ⟨by (try dsimp only [RM]); omega, by (try dsimp only [RM]); omega⟩ rfl rfl (Nat.le_of_ble_eq_true rfl) dJ32_init_4 ⟨by (try dsimp only [RM]); omega, by (try dsimp only [RM]); omega⟩ (fun v2245 G2246 H locs hq2242 hR2243 hS2244 => ?_)
  obtain ⟨rfl, hG2241⟩ := hq2242
  have f2247 : G2246 sm = some ((21, 0), .inr (10, [.ref a, .null, .ref ka, .int 1, .int 0, .int 1, .int 0, .null, va_rf es, .null, .null, va_rf vs])) := by rw [hG2241]; exact gu_t hsm hit (tne rfl)
  have f2248 : G2246 a = some ((4, p), .inr (7, [.null, va_rf vw, .null, va_rf rt, .int sz, .int mo, .null, .null, .null])) := by rw [hG2241]; exact gu_t hM hit (tne rfl)
  have f2249 : G2246 nf = some ((11, kf), .inr (8, [.ref fk, w1, w2, w3, w4, w5])) := by rw [hG2241]; exact gu_t hnf hit (tne rfl)
  have f2250 : G2246 it = some ((25, 0), .inr (15, [.null, .ref e0, .ref fk, .int mo, .ref sm])) := by rw [hG2241]; exact gu_s _ _ _
  exact g_vret X hr hlk hR2243 hS2244 (⟨rfl, by rw [hG2241]⟩) (by (try dsimp only [RM]); omega) (by (try dsimp only [RM]); omega) dJ32_init_7

set_option maxHeartbeats 4000000 in
theorem c_J31iSN (l : Launch) (Γ : GP) (G : GH) {it sm a p ka : Nat} {es vs vw rt : Option Nat} {sz mo : Int32} (hit : G it = some ((25, 0), .inr (15, [.null, .null, .null, .int 0, .null]))) (hsm : G sm = some (SMc a ka es vs)) (hM : G a = some (TMc p vw rt sz mo)) {e0 : Nat} : MetG l yJ31_init (ws_ yJ31_init cJ31_init 4 none) (RM 2 0 0) Γ G [.ref it, .ref sm, .ref e0, .null] (fun v G1 => v = none ∧ G1 = gu G it ((25, 0), .inr (15, [.null, .ref e0, .ref (Γ.2 7), .int mo, .ref sm]))) 0 0 := by
  refine gMet (own := RJ31) (by decide) rfl (Nat.le_of_ble_eq_true rfl) ?_
  intro pp ee ss mm below meth cc0 ls X hr hlk hin hnm hR hS hl
  have hl : lv_has ls 4 [(0, .ref it), (1, .ref sm), (2, .ref e0), (3, .null)] := hl
  refine lv_aload_n X.hx X.hb dJ31_init_0 rfl (lv_at hl 0 rfl) ?_
  refine lv_aload_n X.hx X.hb dJ31_init_1 rfl (lv_at hl 1 rfl) ?_
  refine g_putF X hR hS hit (Nat.le_of_ble_eq_true rfl) rfl in_J32 tyJ32 tyJ32_ok nmJ32 4 (by decide) q962 (fun _ h => h) rfl hin rfl rfl rfl (Nat.le_of_ble_eq_true rfl) dJ31_init_2 (fun H locs hR2251 hS2252 => ?_)
  obtain ⟨G2253, hG2253⟩ : ∃ z : GH, z = gu G it ((25, 0), .inr (15, [.null, .null, .null, .int 0, .ref sm])) := ⟨_, rfl⟩
  have hR2251 : Rep Γ G2253 H := by rw [hG2253]; exact hR2251
  have f2254 : G2253 sm = some ((21, 0), .inr (10, [.ref a, .null, .ref ka, .int 1, .int 0, .int 1, .int 0, .null, va_rf es, .null, .null, va_rf vs])) := by rw [hG2253]; exact gu_t hsm hit (tne rfl)
  have f2255 : G2253 a = some ((4, p), .inr (7, [.null, va_rf vw, .null, va_rf rt, .int sz, .int mo, .null, .null, .null])) := by rw [hG2253]; exact gu_t hM hit (tne rfl)
  have f2256 : G2253 it = some ((25, 0), .inr (15, [.null, .null, .null, .int 0, .ref sm])) := by rw [hG2253]; exact gu_s _ _ _
  refine lv_aload_n X.hx X.hb dJ31_init_5 rfl (lv_at hl 0 rfl) ?_
  refine W.objInit X.hx X.hb X.hown (X.hts _ q955) (X.hts _ q87) (X.hts _ q88) rfl (by rw [X.hml]; exact hl.1) rfl dJ31_init_6 (Nat.le_of_ble_eq_true rfl) (Nat.le_of_ble_eq_true rfl) ?_
  refine W.eq (g2 := F0 mm 9 ls []) rfl ?_
  refine lv_aload_n X.hx X.hb dJ31_init_9 rfl (lv_at hl 0 rfl) ?_
  refine lv_aload_n X.hx X.hb dJ31_init_10 rfl (lv_at hl 1 rfl) ?_
  refine g_get X hR2251 f2254 rfl in_J23 0 (by decide) q779 (fun _ h => h) rfl dJ31_init_11 ?_
  refine g_getN X hR2251 f2255 rfl in_J9 5 (by decide) kq268 (fun _ h => h) rfl dJ31_init_14 ?_
  refine g_put X hR2251 hS2252 f2256 (Nat.le_of_ble_eq_true rfl) rfl in_J32 tyJ32 tyJ32_ok nmJ32 3 (by decide) q961 (fun _ h => h) rfl rfl rfl (Nat.le_of_ble_eq_true rfl) dJ31_init_17 (fun H locs hR2257 hS2258 => ?_)
  obtain ⟨G2259, hG2259⟩ : ∃ z : GH, z = gu G2253 it ((25, 0), .inr (15, [.null, .null, .null, .int mo, .ref sm])) := ⟨_, rfl⟩
  have hR2257 : Rep Γ G2259 H := by rw [hG2259]; exact hR2257
  have f2260 : G2259 sm = some ((21, 0), .inr (10, [.ref a, .null, .ref ka, .int 1, .int 0, .int 1, .int 0, .null, va_rf es, .null, .null, va_rf vs])) := by rw [hG2259]; exact gu_t f2254 f2256 (tne rfl)
  have f2261 : G2259 a = some ((4, p), .inr (7, [.null, va_rf vw, .null, va_rf rt, .int sz, .int mo, .null, .null, .null])) := by rw [hG2259]; exact gu_t f2255 f2256 (tne rfl)
  have f2262 : G2259 it = some ((25, 0), .inr (15, [.null, .null, .null, .int mo, .ref sm])) := by rw [hG2259]; exact gu_s _ _ _
  refine lv_aload_n X.hx X.hb dJ31_init_20 rfl (lv_at hl 0 rfl) ?_
  refine lv_null X.hx X.hb dJ31_init_21 ?_
  refine g_put X hR2257 hS2258 f2262 (Nat.le_of_ble_eq_true rfl) rfl in_J32 tyJ32 tyJ32_ok nmJ32 0 (by decide) q958 (fun _ h => h) rfl rfl rfl (Nat.le_of_ble_eq_true rfl) dJ31_init_22 (fun H locs hR2263 hS2264 => ?_)
  obtain ⟨G2265, hG2265⟩ : ∃ z : GH, z = gu G2259 it ((25, 0), .inr (15, [.null, .null, .null, .int mo, .ref sm])) := ⟨_, rfl⟩
  have hR2263 : Rep Γ G2265 H := by rw [hG2265]; exact hR2263
  have f2266 : G2265 sm = some ((21, 0), .inr (10, [.ref a, .null, .ref ka, .int 1, .int 0, .int 1, .int 0, .null, va_rf es, .null, .null, va_rf vs])) := by rw [hG2265]; exact gu_t f2260 f2262 (tne rfl)
  have f2267 : G2265 a = some ((4, p), .inr (7, [.null, va_rf vw, .null, va_rf rt, .int sz, .int mo, .null, .null, .null])) := by rw [hG2265]; exact gu_t f2261 f2262 (tne rfl)
  have f2268 : G2265 it = some ((25, 0), .inr (15, [.null, .null, .null, .int mo, .ref sm])) := by rw [hG2265]; exact gu_s _ _ _
  refine lv_aload_n X.hx X.hb dJ31_init_25 rfl (lv_at hl 0 rfl) ?_
  refine lv_aload_n X.hx X.hb dJ31_init_26 rfl (lv_at hl 2 rfl) ?_
  refine g_put X hR2263 hS2264 f2268 (Nat.le_of_ble_eq_true rfl) rfl in_J32 tyJ32 tyJ32_ok nmJ32 1 (by decide) q959 (fun _ h => h) rfl rfl rfl (Nat.le_of_ble_eq_true rfl) dJ31_init_27 (fun H locs hR2269 hS2270 => ?_)
  obtain ⟨G2271, hG2271⟩ : ∃ z : GH, z = gu G2265 it ((25, 0), .inr (15, [.null, .ref e0, .null, .int mo, .ref sm])) := ⟨_, rfl⟩
  have hR2269 : Rep Γ G2271 H := by rw [hG2271]; exact hR2269
  have f2272 : G2271 sm = some ((21, 0), .inr (10, [.ref a, .null, .ref ka, .int 1, .int 0, .int 1, .int 0, .null, va_rf es, .null, .null, va_rf vs])) := by rw [hG2271]; exact gu_t f2266 f2268 (tne rfl)
  have f2273 : G2271 a = some ((4, p), .inr (7, [.null, va_rf vw, .null, va_rf rt, .int sz, .int mo, .null, .null, .null])) := by rw [hG2271]; exact gu_t f2267 f2268 (tne rfl)
  have f2274 : G2271 it = some ((25, 0), .inr (15, [.null, .ref e0, .null, .int mo, .ref sm])) := by rw [hG2271]; exact gu_s _ _ _
  refine lv_aload_n X.hx X.hb dJ31_init_30 rfl (lv_at hl 0 rfl) ?_
  refine lv_aload_nN X.hx X.hb dJ31_init_31 rfl (lv_at hl 3 rfl) ?_
  refine lv_ifnonnullN X.hx X.hb dJ31_init_32 ?_
  refine va_getsN X.hx X.hb X.hZ.2.2.2.2.1 hS2270 X.hown (va_Nw.use rfl (X.nw kq956)) (fun _ h => h) dJ31_init_35 ?_
  refine lv_goto (tgt := 45) X.hx X.hb dJ31_init_38 (by decide) ?_
  refine g_putF X hR2269 hS2270 f2274 (Nat.le_of_ble_eq_true rfl) rfl in_J32 tyJ32 tyJ32_ok nmJ32 2 (by decide) q960 (fun _ h => h) rfl hin rfl rfl rfl (Nat.le_of_ble_eq_true rfl) dJ31_init_45 (fun H locs hR2275 hS2276 => ?_)
  obtain ⟨G2277, hG2277⟩ : ∃ z : GH, z = gu G2271 it ((25, 0), .inr (15, [.null, .ref e0, .ref (Γ.2 7), .int mo, .ref sm])) := ⟨_, rfl⟩
  have hR2275 : Rep Γ G2277 H := by rw [hG2277]; exact hR2275
  have f2278 : G2277 sm = some ((21, 0), .inr (10, [.ref a, .null, .ref ka, .int 1, .int 0, .int 1, .int 0, .null, va_rf es, .null, .null, va_rf vs])) := by rw [hG2277]; exact gu_t f2272 f2274 (tne rfl)
  have f2279 : G2277 a = some ((4, p), .inr (7, [.null, va_rf vw, .null, va_rf rt, .int sz, .int mo, .null, .null, .null])) := by rw [hG2277]; exact gu_t f2273 f2274 (tne rfl)
  have f2280 : G2277 it = some ((25, 0), .inr (15, [.null, .ref e0, .ref (Γ.2 7), .int mo, .ref sm])) := by rw [hG2277]; exact gu_s _ _ _
  exact g_vret X hr hlk hR2275 hS2276 (⟨rfl, by rw [hG2277, hG2271, hG2265, hG2259, hG2253, gu_gu, gu_gu, gu_gu, gu_gu]⟩) (by (try dsimp only [RM]); omega) (by (try dsimp only [RM]); omega) dJ31_init_48

set_option maxHeartbeats 4000000 in
theorem c_J32iSN (l : Launch) (Γ : GP) (G : GH) {it sm a p ka : Nat} {es vs vw rt : Option Nat} {sz mo : Int32} (hit : G it = some ((25, 0), .inr (15, [.null, .null, .null, .int 0, .null]))) (hsm : G sm = some (SMc a ka es vs)) (hM : G a = some (TMc p vw rt sz mo)) {e0 : Nat} : MetG l yJ32_init (ws_ yJ32_init cJ32_init 4 none) (RM 3 0 0) Γ G [.ref it, .ref sm, .ref e0, .null] (fun v G1 => v = none ∧ G1 = gu G it ((25, 0), .inr (15, [.null, .ref e0, .ref (Γ.2 7), .int mo, .ref sm]))) 0 0 := by
  refine gMet (own := RJ32) (by decide) rfl (Nat.le_of_ble_eq_true rfl) ?_
  intro pp ee ss mm below meth cc0 ls X hr hlk hin hnm hR hS hl
  have hl : lv_has ls 4 [(0, .ref it), (1, .ref sm), (2, .ref e0), (3, .null)] := hl
  refine lv_aload_n X.hx X.hb dJ32_init_0 rfl (lv_at hl 0 rfl) ?_
  refine lv_aload_n X.hx X.hb dJ32_init_1 rfl (lv_at hl 1 rfl) ?_
  refine lv_aload_n X.hx X.hb dJ32_init_2 rfl (lv_at hl 2 rfl) ?_
  refine lv_aload_nN X.hx X.hb dJ32_init_3 rfl (lv_at hl 3 rfl) ?_
  refine gcI X hl.1 hR hS 3 [.ref sm, .ref e0, .null] [] (c_J31iSN l Γ G hit hsm hM) q952 q953 q75 q954 rfl rfl rfl ⟨by decide +kernel, by decide +kernel, by decide +kernel⟩ ⟨by (try dsimp only [RM]); omega, by (try dsimp only [RM]); omega⟩ rfl rfl (Nat.le_of_ble_eq_true rfl) dJ32_init_4 ⟨by (try dsimp only [RM]); omega, by (try dsimp only [RM]); omega⟩ (fun v2285 G2286 H locs hq2282 hR2283 hS2284 => ?_)
  obtain ⟨rfl, hG2281⟩ := hq2282
  have f2287 : G2286 sm = some ((21, 0), .inr (10, [.ref a, .null, .ref ka, .int 1, .int 0, .int 1, .int 0, .null, va_rf es, .null, .null, va_rf vs])) := by rw [hG2281]; exact gu_t hsm hit (tne rfl)
  have f2288 : G2286 a = some ((4, p), .inr (7, [.null, va_rf vw, .null, va_rf rt, .int sz, .int mo, .null, .null, .null])) := by rw [hG2281]; exact gu_t hM hit (tne rfl)
  have f2289 : G2286 it = some ((25, 0), .inr (15, [.null, .ref e0, .ref (Γ.2 7), .int mo, .ref sm])) := by rw [hG2281]; exact gu_s _ _ _
  exact g_vret X hr hlk hR2283 hS2284 (⟨rfl, by rw [hG2281]⟩) (by (try dsimp only [RM]); omega) (by (try dsimp only [RM]); omega) dJ32_init_7

set_option maxHeartbeats 4000000 in
theorem c_J31iNS (l : Launch) (Γ : GP) (G : GH) {it sm a p ka : Nat} {es vs vw rt : Option Nat} {sz mo : Int32} (hit : G it = some ((25, 0), .inr (15, [.null, .null, .null, .int 0, .null]))) (hsm : G sm = some (SMc a ka es vs)) (hM : G a = some (TMc p vw rt sz mo)) {nf kf fk : Nat} {w1 w2 w3 w4 w5 : Value} (hnf : G nf = some ((11, kf), .inr (8, [.ref fk, w1, w2, w3, w4, w5]))) : MetG l yJ31_init (ws_ yJ31_init cJ31_init 4 none) (RM 2 0 0) Γ G [.ref it, .ref sm, .null, .ref nf] (fun v G1 => v = none ∧ G1 = gu G it ((25, 0), .inr (15, [.null, .null, .ref fk, .int mo, .ref sm]))) 0 0 := by
  refine gMet (own := RJ31) (by decide) rfl (Nat.le_of_ble_eq_true rfl) ?_
  intro pp ee ss mm below meth cc0 ls X hr hlk hin hnm hR hS hl
  have hl : lv_has ls 4 [(0, .ref it), (1, .ref sm), (2, .null), (3, .ref nf)] := hl
  refine lv_aload_n X.hx X.hb dJ31_init_0 rfl (lv_at hl 0 rfl) ?_
  refine lv_aload_n X.hx X.hb dJ31_init_1 rfl (lv_at hl 1 rfl) ?_
  refine g_putF X hR hS hit (Nat.le_of_ble_eq_true rfl) rfl in_J32 tyJ32 tyJ32_ok nmJ32 4 (by decide) q962 (fun _ h => h) rfl hin rfl rfl rfl (Nat.le_of_ble_eq_true rfl) dJ31_init_2 (fun H locs hR2290 hS2291 => ?_)
  obtain ⟨G2292, hG2292⟩ : ∃ z : GH, z = gu G it ((25, 0), .inr (15, [.null, .null, .null, .int 0, .ref sm])) := ⟨_, rfl⟩
  have hR2290 : Rep Γ G2292 H := by rw [hG2292]; exact hR2290
  have f2293 : G2292 sm = some ((21, 0), .inr (10, [.ref a, .null, .ref ka, .int 1, .int 0, .int 1, .int 0, .null, va_rf es, .null, .null, va_rf vs])) := by rw [hG2292]; exact gu_t hsm hit (tne rfl)
  have f2294 : G2292 a = some ((4, p), .inr (7, [.null, va_rf vw, .null, va_rf rt, .int sz, .int mo, .null, .null, .null])) := by rw [hG2292]; exact gu_t hM hit (tne rfl)
  have f2295 : G2292 nf = some ((11, kf), .inr (8, [.ref fk, w1, w2, w3, w4, w5])) := by rw [hG2292]; exact gu_t hnf hit (tne rfl)
  have f2296 : G2292 it = some ((25, 0), .inr (15, [.null, .null, .null, .int 0, .ref sm])) := by rw [hG2292]; exact gu_s _ _ _
  refine lv_aload_n X.hx X.hb dJ31_init_5 rfl (lv_at hl 0 rfl) ?_
  refine W.objInit X.hx X.hb X.hown (X.hts _ q955) (X.hts _ q87) (X.hts _ q88) rfl (by rw [X.hml]; exact hl.1) rfl dJ31_init_6 (Nat.le_of_ble_eq_true rfl) (Nat.le_of_ble_eq_true rfl) ?_
  refine W.eq (g2 := F0 mm 9 ls []) rfl ?_
  refine lv_aload_n X.hx X.hb dJ31_init_9 rfl (lv_at hl 0 rfl) ?_
  refine lv_aload_n X.hx X.hb dJ31_init_10 rfl (lv_at hl 1 rfl) ?_
  refine g_get X hR2290 f2293 rfl in_J23 0 (by decide) q779 (fun _ h => h) rfl dJ31_init_11 ?_
  refine g_getN X hR2290 f2294 rfl in_J9 5 (by decide) kq268 (fun _ h => h) rfl dJ31_init_14 ?_
  refine g_put X hR2290 hS2291 f2296 (Nat.le_of_ble_eq_true rfl) rfl in_J32 tyJ32 tyJ32_ok nmJ32 3 (by decide) q961 (fun _ h => h) rfl rfl rfl (Nat.le_of_ble_eq_true rfl) dJ31_init_17 (fun H locs hR2297 hS2298 => ?_)
  obtain ⟨G2299, hG2299⟩ : ∃ z : GH, z = gu G2292 it ((25, 0), .inr (15, [.null, .null, .null, .int mo, .ref sm])) := ⟨_, rfl⟩
  have hR2297 : Rep Γ G2299 H := by rw [hG2299]; exact hR2297
  have f2300 : G2299 sm = some ((21, 0), .inr (10, [.ref a, .null, .ref ka, .int 1, .int 0, .int 1, .int 0, .null, va_rf es, .null, .null, va_rf vs])) := by rw [hG2299]; exact gu_t f2293 f2296 (tne rfl)
  have f2301 : G2299 a = some ((4, p), .inr (7, [.null, va_rf vw, .null, va_rf rt, .int sz, .int mo, .null, .null, .null])) := by rw [hG2299]; exact gu_t f2294 f2296 (tne rfl)
  have f2302 : G2299 nf = some ((11, kf), .inr (8, [.ref fk, w1, w2, w3, w4, w5])) := by rw [hG2299]; exact gu_t f2295 f2296 (tne rfl)
  have f2303 : G2299 it = some ((25, 0), .inr (15, [.null, .null, .null, .int mo, .ref sm])) := by rw [hG2299]; exact gu_s _ _ _
  refine lv_aload_n X.hx X.hb dJ31_init_20 rfl (lv_at hl 0 rfl) ?_
  refine lv_null X.hx X.hb dJ31_init_21 ?_
  refine g_put X hR2297 hS2298 f2303 (Nat.le_of_ble_eq_true rfl) rfl in_J32 tyJ32 tyJ32_ok nmJ32 0 (by decide) q958 (fun _ h => h) rfl rfl rfl (Nat.le_of_ble_eq_true rfl) dJ31_init_22 (fun H locs hR2304 hS2305 => ?_)
  obtain ⟨G2306, hG2306⟩ : ∃ z : GH, z = gu G2299 it ((25, 0), .inr (15, [.null, .null, .null, .int mo, .ref sm])) := ⟨_, rfl⟩
  have hR2304 : Rep Γ G2306 H := by rw [hG2306]; exact hR2304
  have f2307 : G2306 sm = some ((21, 0), .inr (10, [.ref a, .null, .ref ka, .int 1, .int 0, .int 1, .int 0, .null, va_rf es, .null, .null, va_rf vs])) := by rw [hG2306]; exact gu_t f2300 f2303 (tne rfl)
  have f2308 : G2306 a = some ((4, p), .inr (7, [.null, va_rf vw, .null, va_rf rt, .int sz, .int mo, .null, .null, .null])) := by rw [hG2306]; exact gu_t f2301 f2303 (tne rfl)
  have f2309 : G2306 nf = some ((11, kf), .inr (8, [.ref fk, w1, w2, w3, w4, w5])) := by rw [hG2306]; exact gu_t f2302 f2303 (tne rfl)
  have f2310 : G2306 it = some ((25, 0), .inr (15, [.null, .null, .null, .int mo, .ref sm])) := by rw [hG2306]; exact gu_s _ _ _
  refine lv_aload_n X.hx X.hb dJ31_init_25 rfl (lv_at hl 0 rfl) ?_
  refine lv_aload_nN X.hx X.hb dJ31_init_26 rfl (lv_at hl 2 rfl) ?_
  refine g_put X hR2304 hS2305 f2310 (Nat.le_of_ble_eq_true rfl) rfl in_J32 tyJ32 tyJ32_ok nmJ32 1 (by decide) q959 (fun _ h => h) rfl rfl rfl (Nat.le_of_ble_eq_true rfl) dJ31_init_27 (fun H locs hR2311 hS2312 => ?_)
  obtain ⟨G2313, hG2313⟩ : ∃ z : GH, z = gu G2306 it ((25, 0), .inr (15, [.null, .null, .null, .int mo, .ref sm])) := ⟨_, rfl⟩
  have hR2311 : Rep Γ G2313 H := by rw [hG2313]; exact hR2311
  have f2314 : G2313 sm = some ((21, 0), .inr (10, [.ref a, .null, .ref ka, .int 1, .int 0, .int 1, .int 0, .null, va_rf es, .null, .null, va_rf vs])) := by rw [hG2313]; exact gu_t f2307 f2310 (tne rfl)
  have f2315 : G2313 a = some ((4, p), .inr (7, [.null, va_rf vw, .null, va_rf rt, .int sz, .int mo, .null, .null, .null])) := by rw [hG2313]; exact gu_t f2308 f2310 (tne rfl)
  have f2316 : G2313 nf = some ((11, kf), .inr (8, [.ref fk, w1, w2, w3, w4, w5])) := by rw [hG2313]; exact gu_t f2309 f2310 (tne rfl)
  have f2317 : G2313 it = some ((25, 0), .inr (15, [.null, .null, .null, .int mo, .ref sm])) := by rw [hG2313]; exact gu_s _ _ _
  refine lv_aload_n X.hx X.hb dJ31_init_30 rfl (lv_at hl 0 rfl) ?_
  refine lv_aload_n X.hx X.hb dJ31_init_31 rfl (lv_at hl 3 rfl) ?_
  refine lv_ifnonnull (tgt := 41) X.hx X.hb dJ31_init_32 (by decide) ?_
  refine lv_aload_n X.hx X.hb dJ31_init_41 rfl (lv_at hl 3 rfl) ?_
  refine g_get X hR2311 f2316 rfl in_J21 0 (by decide) q614 (fun _ h => h) rfl dJ31_init_42 ?_
  refine g_putF X hR2311 hS2312 f2317 (Nat.le_of_ble_eq_true rfl) rfl in_J32 tyJ32 tyJ32_ok nmJ32 2 (by decide) q960 (fun _ h => h) rfl hin rfl rfl rfl (Nat.le_of_ble_eq_true rfl) dJ31_init_45 (fun H locs hR2318 hS2319 => ?_)
  obtain ⟨G2320, hG2320⟩ : ∃ z : GH, z = gu G2313 it ((25, 0), .inr (15, [.null, .null, .ref fk, .int mo, .ref sm])) := ⟨_, rfl⟩
  have hR2318 : Rep Γ G2320 H := by rw [hG2320]; exact hR2318
  have f2321 : G2320 sm = some ((21, 0), .inr (10, [.ref a, .null, .ref ka, .int 1, .int 0, .int 1, .int 0, .null, va_rf es, .null, .null, va_rf vs])) := by rw [hG2320]; exact gu_t f2314 f2317 (tne rfl)
  have f2322 : G2320 a = some ((4, p), .inr (7, [.null, va_rf vw, .null, va_rf rt, .int sz, .int mo, .null, .null, .null])) := by rw [hG2320]; exact gu_t f2315 f2317 (tne rfl)
  have f2323 : G2320 nf = some ((11, kf), .inr (8, [.ref fk, w1, w2, w3, w4, w5])) := by rw [hG2320]; exact gu_t f2316 f2317 (tne rfl)
  have f2324 : G2320 it = some ((25, 0), .inr (15, [.null, .null, .ref fk, .int mo, .ref sm])) := by rw [hG2320]; exact gu_s _ _ _
  exact g_vret X hr hlk hR2318 hS2319 (⟨rfl, by rw [hG2320, hG2313, hG2306, hG2299, hG2292, gu_gu, gu_gu, gu_gu, gu_gu]⟩) (by (try dsimp only [RM]); omega) (by (try dsimp only [RM]); omega) dJ31_init_48

set_option maxHeartbeats 4000000 in
theorem c_J32iNS (l : Launch) (Γ : GP) (G : GH) {it sm a p ka : Nat} {es vs vw rt : Option Nat} {sz mo : Int32} (hit : G it = some ((25, 0), .inr (15, [.null, .null, .null, .int 0, .null]))) (hsm : G sm = some (SMc a ka es vs)) (hM : G a = some (TMc p vw rt sz mo)) {nf kf fk : Nat} {w1 w2 w3 w4 w5 : Value} (hnf : G nf = some ((11, kf), .inr (8, [.ref fk, w1, w2, w3, w4, w5]))) : MetG l yJ32_init (ws_ yJ32_init cJ32_init 4 none) (RM 3 0 0) Γ G [.ref it, .ref sm, .null, .ref nf] (fun v G1 => v = none ∧ G1 = gu G it ((25, 0), .inr (15, [.null, .null, .ref fk, .int mo, .ref sm]))) 0 0 := by
  refine gMet (own := RJ32) (by decide) rfl (Nat.le_of_ble_eq_true rfl) ?_
  intro pp ee ss mm below meth cc0 ls X hr hlk hin hnm hR hS hl
  have hl : lv_has ls 4 [(0, .ref it), (1, .ref sm), (2, .null), (3, .ref nf)] := hl
  refine lv_aload_n X.hx X.hb dJ32_init_0 rfl (lv_at hl 0 rfl) ?_
  refine lv_aload_n X.hx X.hb dJ32_init_1 rfl (lv_at hl 1 rfl) ?_
  refine lv_aload_nN X.hx X.hb dJ32_init_2 rfl (lv_at hl 2 rfl) ?_
  refine lv_aload_n X.hx X.hb dJ32_init_3 rfl (lv_at hl 3 rfl) ?_
  refine gcI X hl.1 hR hS 3 [.ref sm, .null, .ref nf] [] (c_J31iNS l Γ G hit hsm hM hnf) q952 q953 q75 q954 rfl rfl rfl ⟨by decide +kernel, by decide +kernel, by decide +kernel⟩ ⟨by (try dsimp only [RM]); omega, by (try dsimp only [RM]); omega⟩ rfl rfl (Nat.le_of_ble_eq_true rfl) dJ32_init_4 ⟨by (try dsimp only [RM]); omega, by (try dsimp only [RM]); omega⟩ (fun v2329 G2330 H locs hq2326 hR2327 hS2328 => ?_)
  obtain ⟨rfl, hG2325⟩ := hq2326
  have f2331 : G2330 sm = some ((21, 0), .inr (10, [.ref a, .null, .ref ka, .int 1, .int 0, .int 1, .int 0, .null, va_rf es, .null, .null, va_rf vs])) := by rw [hG2325]; exact gu_t hsm hit (tne rfl)
  have f2332 : G2330 a = some ((4, p), .inr (7, [.null, va_rf vw, .null, va_rf rt, .int sz, .int mo, .null, .null, .null])) := by rw [hG2325]; exact gu_t hM hit (tne rfl)
  have f2333 : G2330 nf = some ((11, kf), .inr (8, [.ref fk, w1, w2, w3, w4, w5])) := by rw [hG2325]; exact gu_t hnf hit (tne rfl)
  have f2334 : G2330 it = some ((25, 0), .inr (15, [.null, .null, .ref fk, .int mo, .ref sm])) := by rw [hG2325]; exact gu_s _ _ _
  exact g_vret X hr hlk hR2327 hS2328 (⟨rfl, by rw [hG2325]⟩) (by (try dsimp only [RM]); omega) (by (try dsimp only [RM]); omega) dJ32_init_7

set_option maxHeartbeats 4000000 in
theorem c_J31iNN (l : Launch) (Γ : GP) (G : GH) {it sm a p ka : Nat} {es vs vw rt : Option Nat} {sz mo : Int32} (hit : G it = some ((25, 0), .inr (15, [.null, .null, .null, .int 0, .null]))) (hsm : G sm = some (SMc a ka es vs)) (hM : G a = some (TMc p vw rt sz mo)) : MetG l yJ31_init (ws_ yJ31_init cJ31_init 4 none) (RM 2 0 0) Γ G [.ref it, .ref sm, .null, .null] (fun v G1 => v = none ∧ G1 = gu G it ((25, 0), .inr (15, [.null, .null, .ref (Γ.2 7), .int mo, .ref sm]))) 0 0 := by
  refine gMet (own := RJ31) (by decide) rfl (Nat.le_of_ble_eq_true rfl) ?_
  intro pp ee ss mm below meth cc0 ls X hr hlk hin hnm hR hS hl
  have hl : lv_has ls 4 [(0, .ref it), (1, .ref sm), (2, .null), (3, .null)] := hl
  refine lv_aload_n X.hx X.hb dJ31_init_0 rfl (lv_at hl 0 rfl) ?_
  refine lv_aload_n X.hx X.hb dJ31_init_1 rfl (lv_at hl 1 rfl) ?_
  refine g_putF X hR hS hit (Nat.le_of_ble_eq_true rfl) rfl in_J32 tyJ32 tyJ32_ok nmJ32 4 (by decide) q962 (fun _ h => h) rfl hin rfl rfl rfl (Nat.le_of_ble_eq_true rfl) dJ31_init_2 (fun H locs hR2335 hS2336 => ?_)
  obtain ⟨G2337, hG2337⟩ : ∃ z : GH, z = gu G it ((25, 0), .inr (15, [.null, .null, .null, .int 0, .ref sm])) := ⟨_, rfl⟩
  have hR2335 : Rep Γ G2337 H := by rw [hG2337]; exact hR2335
  have f2338 : G2337 sm = some ((21, 0), .inr (10, [.ref a, .null, .ref ka, .int 1, .int 0, .int 1, .int 0, .null, va_rf es, .null, .null, va_rf vs])) := by rw [hG2337]; exact gu_t hsm hit (tne rfl)
  have f2339 : G2337 a = some ((4, p), .inr (7, [.null, va_rf vw, .null, va_rf rt, .int sz, .int mo, .null, .null, .null])) := by rw [hG2337]; exact gu_t hM hit (tne rfl)
  have f2340 : G2337 it = some ((25, 0), .inr (15, [.null, .null, .null, .int 0, .ref sm])) := by rw [hG2337]; exact gu_s _ _ _
  refine lv_aload_n X.hx X.hb dJ31_init_5 rfl (lv_at hl 0 rfl) ?_
  refine W.objInit X.hx X.hb X.hown (X.hts _ q955) (X.hts _ q87) (X.hts _ q88) rfl (by rw [X.hml]; exact hl.1) rfl dJ31_init_6 (Nat.le_of_ble_eq_true rfl) (Nat.le_of_ble_eq_true rfl) ?_
  refine W.eq (g2 := F0 mm 9 ls []) rfl ?_
  refine lv_aload_n X.hx X.hb dJ31_init_9 rfl (lv_at hl 0 rfl) ?_
  refine lv_aload_n X.hx X.hb dJ31_init_10 rfl (lv_at hl 1 rfl) ?_
  refine g_get X hR2335 f2338 rfl in_J23 0 (by decide) q779 (fun _ h => h) rfl dJ31_init_11 ?_
  refine g_getN X hR2335 f2339 rfl in_J9 5 (by decide) kq268 (fun _ h => h) rfl dJ31_init_14 ?_
  refine g_put X hR2335 hS2336 f2340 (Nat.le_of_ble_eq_true rfl) rfl in_J32 tyJ32 tyJ32_ok nmJ32 3 (by decide) q961 (fun _ h => h) rfl rfl rfl (Nat.le_of_ble_eq_true rfl) dJ31_init_17 (fun H locs hR2341 hS2342 => ?_)
  obtain ⟨G2343, hG2343⟩ : ∃ z : GH, z = gu G2337 it ((25, 0), .inr (15, [.null, .null, .null, .int mo, .ref sm])) := ⟨_, rfl⟩
  have hR2341 : Rep Γ G2343 H := by rw [hG2343]; exact hR2341
  have f2344 : G2343 sm = some ((21, 0), .inr (10, [.ref a, .null, .ref ka, .int 1, .int 0, .int 1, .int 0, .null, va_rf es, .null, .null, va_rf vs])) := by rw [hG2343]; exact gu_t f2338 f2340 (tne rfl)
  have f2345 : G2343 a = some ((4, p), .inr (7, [.null, va_rf vw, .null, va_rf rt, .int sz, .int mo, .null, .null, .null])) := by rw [hG2343]; exact gu_t f2339 f2340 (tne rfl)
  have f2346 : G2343 it = some ((25, 0), .inr (15, [.null, .null, .null, .int mo, .ref sm])) := by rw [hG2343]; exact gu_s _ _ _
  refine lv_aload_n X.hx X.hb dJ31_init_20 rfl (lv_at hl 0 rfl) ?_
  refine lv_null X.hx X.hb dJ31_init_21 ?_
  refine g_put X hR2341 hS2342 f2346 (Nat.le_of_ble_eq_true rfl) rfl in_J32 tyJ32 tyJ32_ok nmJ32 0 (by decide) q958 (fun _ h => h) rfl rfl rfl (Nat.le_of_ble_eq_true rfl) dJ31_init_22 (fun H locs hR2347 hS2348 => ?_)
  obtain ⟨G2349, hG2349⟩ : ∃ z : GH, z = gu G2343 it ((25, 0), .inr (15, [.null, .null, .null, .int mo, .ref sm])) := ⟨_, rfl⟩
  have hR2347 : Rep Γ G2349 H := by rw [hG2349]; exact hR2347
  have f2350 : G2349 sm = some ((21, 0), .inr (10, [.ref a, .null, .ref ka, .int 1, .int 0, .int 1, .int 0, .null, va_rf es, .null, .null, va_rf vs])) := by rw [hG2349]; exact gu_t f2344 f2346 (tne rfl)
  have f2351 : G2349 a = some ((4, p), .inr (7, [.null, va_rf vw, .null, va_rf rt, .int sz, .int mo, .null, .null, .null])) := by rw [hG2349]; exact gu_t f2345 f2346 (tne rfl)
  have f2352 : G2349 it = some ((25, 0), .inr (15, [.null, .null, .null, .int mo, .ref sm])) := by rw [hG2349]; exact gu_s _ _ _
  refine lv_aload_n X.hx X.hb dJ31_init_25 rfl (lv_at hl 0 rfl) ?_
  refine lv_aload_nN X.hx X.hb dJ31_init_26 rfl (lv_at hl 2 rfl) ?_
  refine g_put X hR2347 hS2348 f2352 (Nat.le_of_ble_eq_true rfl) rfl in_J32 tyJ32 tyJ32_ok nmJ32 1 (by decide) q959 (fun _ h => h) rfl rfl rfl (Nat.le_of_ble_eq_true rfl) dJ31_init_27 (fun H locs hR2353 hS2354 => ?_)
  obtain ⟨G2355, hG2355⟩ : ∃ z : GH, z = gu G2349 it ((25, 0), .inr (15, [.null, .null, .null, .int mo, .ref sm])) := ⟨_, rfl⟩
  have hR2353 : Rep Γ G2355 H := by rw [hG2355]; exact hR2353
  have f2356 : G2355 sm = some ((21, 0), .inr (10, [.ref a, .null, .ref ka, .int 1, .int 0, .int 1, .int 0, .null, va_rf es, .null, .null, va_rf vs])) := by rw [hG2355]; exact gu_t f2350 f2352 (tne rfl)
  have f2357 : G2355 a = some ((4, p), .inr (7, [.null, va_rf vw, .null, va_rf rt, .int sz, .int mo, .null, .null, .null])) := by rw [hG2355]; exact gu_t f2351 f2352 (tne rfl)
  have f2358 : G2355 it = some ((25, 0), .inr (15, [.null, .null, .null, .int mo, .ref sm])) := by rw [hG2355]; exact gu_s _ _ _
  refine lv_aload_n X.hx X.hb dJ31_init_30 rfl (lv_at hl 0 rfl) ?_
  refine lv_aload_nN X.hx X.hb dJ31_init_31 rfl (lv_at hl 3 rfl) ?_
  refine lv_ifnonnullN X.hx X.hb dJ31_init_32 ?_
  refine va_getsN X.hx X.hb X.hZ.2.2.2.2.1 hS2354 X.hown (va_Nw.use rfl (X.nw kq956)) (fun _ h => h) dJ31_init_35 ?_
  refine lv_goto (tgt := 45) X.hx X.hb dJ31_init_38 (by decide) ?_
  refine g_putF X hR2353 hS2354 f2358 (Nat.le_of_ble_eq_true rfl) rfl in_J32 tyJ32 tyJ32_ok nmJ32 2 (by decide) q960 (fun _ h => h) rfl hin rfl rfl rfl (Nat.le_of_ble_eq_true rfl) dJ31_init_45 (fun H locs hR2359 hS2360 => ?_)
  obtain ⟨G2361, hG2361⟩ : ∃ z : GH, z = gu G2355 it ((25, 0), .inr (15, [.null, .null, .ref (Γ.2 7), .int mo, .ref sm])) := ⟨_, rfl⟩
  have hR2359 : Rep Γ G2361 H := by rw [hG2361]; exact hR2359
  have f2362 : G2361 sm = some ((21, 0), .inr (10, [.ref a, .null, .ref ka, .int 1, .int 0, .int 1, .int 0, .null, va_rf es, .null, .null, va_rf vs])) := by rw [hG2361]; exact gu_t f2356 f2358 (tne rfl)
  have f2363 : G2361 a = some ((4, p), .inr (7, [.null, va_rf vw, .null, va_rf rt, .int sz, .int mo, .null, .null, .null])) := by rw [hG2361]; exact gu_t f2357 f2358 (tne rfl)
  have f2364 : G2361 it = some ((25, 0), .inr (15, [.null, .null, .ref (Γ.2 7), .int mo, .ref sm])) := by rw [hG2361]; exact gu_s _ _ _
  exact g_vret X hr hlk hR2359 hS2360 (⟨rfl, by rw [hG2361, hG2355, hG2349, hG2343, hG2337, gu_gu, gu_gu, gu_gu, gu_gu]⟩) (by (try dsimp only [RM]); omega) (by (try dsimp only [RM]); omega) dJ31_init_48

set_option maxHeartbeats 4000000 in
theorem c_J32iNN (l : Launch) (Γ : GP) (G : GH) {it sm a p ka : Nat} {es vs vw rt : Option Nat} {sz mo : Int32} (hit : G it = some ((25, 0), .inr (15, [.null, .null, .null, .int 0, .null]))) (hsm : G sm = some (SMc a ka es vs)) (hM : G a = some (TMc p vw rt sz mo)) : MetG l yJ32_init (ws_ yJ32_init cJ32_init 4 none) (RM 3 0 0) Γ G [.ref it, .ref sm, .null, .null] (fun v G1 => v = none ∧ G1 = gu G it ((25, 0), .inr (15, [.null, .null, .ref (Γ.2 7), .int mo, .ref sm]))) 0 0 := by
  refine gMet (own := RJ32) (by decide) rfl (Nat.le_of_ble_eq_true rfl) ?_
  intro pp ee ss mm below meth cc0 ls X hr hlk hin hnm hR hS hl
  have hl : lv_has ls 4 [(0, .ref it), (1, .ref sm), (2, .null), (3, .null)] := hl
  refine lv_aload_n X.hx X.hb dJ32_init_0 rfl (lv_at hl 0 rfl) ?_
  refine lv_aload_n X.hx X.hb dJ32_init_1 rfl (lv_at hl 1 rfl) ?_
  refine lv_aload_nN X.hx X.hb dJ32_init_2 rfl (lv_at hl 2 rfl) ?_
  refine lv_aload_nN X.hx X.hb dJ32_init_3 rfl (lv_at hl 3 rfl) ?_
  refine gcI X hl.1 hR hS 3 [.ref sm, .null, .null] [] (c_J31iNN l Γ G hit hsm hM) q952 q953 q75 q954 rfl rfl rfl ⟨by decide +kernel, by decide +kernel, by decide +kernel⟩ ⟨by (try dsimp only [RM]); omega, by (try dsimp only [RM]); omega⟩ rfl rfl (Nat.le_of_ble_eq_true rfl) dJ32_init_4 ⟨by (try dsimp only [RM]); omega, by (try dsimp only [RM]); omega⟩ (fun v2369 G2370 H locs hq2366 hR2367 hS2368 => ?_)
  obtain ⟨rfl, hG2365⟩ := hq2366
  have f2371 : G2370 sm = some ((21, 0), .inr (10, [.ref a, .null, .ref ka, .int 1, .int 0, .int 1, .int 0, .null, va_rf es, .null, .null, va_rf vs])) := by rw [hG2365]; exact gu_t hsm hit (tne rfl)
  have f2372 : G2370 a = some ((4, p), .inr (7, [.null, va_rf vw, .null, va_rf rt, .int sz, .int mo, .null, .null, .null])) := by rw [hG2365]; exact gu_t hM hit (tne rfl)
  have f2373 : G2370 it = some ((25, 0), .inr (15, [.null, .null, .ref (Γ.2 7), .int mo, .ref sm])) := by rw [hG2365]; exact gu_s _ _ _
  exact g_vret X hr hlk hR2367 hS2368 (⟨rfl, by rw [hG2365]⟩) (by (try dsimp only [RM]); omega) (by (try dsimp only [RM]); omega) dJ32_init_7
