set_option maxRecDepth 100000
/-! java.util.TreeMap: put -/
theorem tneq {t : Nat × Nat} {a b : Nat} (h : t.1 ≠ a) : (t.1, t.2) ≠ (a, b) := fun e => h (congrArg Prod.fst e)
theorem TI_Sl {A B : Int} {S : Nat → Prop} {key lo hi : Nat → Int} {L R P : Nat → Option Nat} {root : Option Nat} (h : TI A B S key lo hi L R P root) {k b : Nat} (hk : S k) (e : L k = some b ∨ R k = some b ∨ P k = some b) : S b := by
  rcases e with e | e | e
  · exact (h.2.2.1 k b hk e).1
  · exact (h.2.2.2.1 k b hk e).1
  · exact (h.2.2.2.2.2.2.2.1 k b hk e).1
theorem map_up {S : Nat → Prop} {N : Nat → Nat} {n q : Nat} {o : Option Nat} (hn : ¬ S n) (h : ∀ b, o = some b → S b) : o.map (va_up N n q) = o.map N := by
  cases o with
  | none => rfl
  | some b => exact congrArg some (va_up_ne _ _ (fun e => hn (e ▸ h b rfl)))
/-- a new leaf in the heap -/
theorem TH.leaf {G G1 G2 : GH} {S : Nat → Prop} {N K V : Nat → Nat} {L R P L1 R1 P1 : Nat → Option Nat} {C : Nat → Int32} {A B : Int} {key lo hi : Nat → Int} {root : Option Nat} {n t q : Nat} (hT : TH G S N K V L R P C) (hI : TI A B S key lo hi L R P root) (ht : S t) (hn : ¬ S n) (hq : G q = none)
    (e1 : G1 = gu G q (nC n (K n) (V n) none none (some (N t)) 1)) (e2 : G2 = gu G1 (N t) (nC t (K t) (V t) ((L1 t).map (va_up N n q)) ((R1 t).map (va_up N n q)) ((P t).map N) (C t)))
    (hL : ∀ k, k ≠ t → k ≠ n → L1 k = L k) (hR : ∀ k, k ≠ t → k ≠ n → R1 k = R k) (hP : ∀ k, k ≠ n → P1 k = P k) (hLn : L1 n = none) (hRn : R1 n = none) (hPn : P1 n = some t) : TH G2 (fun k => S k ∨ k = n) (va_up N n q) K V L1 R1 P1 (va_up C n 1) := by
  have hqt : q ≠ N t := fun e => by rw [e, hT.1 t ht] at hq; cases hq
  have hnt : n ≠ t := fun e => hn (e ▸ ht)
  refine ⟨fun k hk => ?_, fun k hk => ?_⟩
  · by_cases hkn : k = n
    · subst hkn
      rw [va_up_self, e2, gu_n hqt, e1, gu_s]
      unfold nE
      rw [hLn, hRn, hPn, va_up_self]
      show _ = some (nC k (K k) (V k) none none (some (va_up N k q t)) 1)
      rw [va_up_ne _ _ (Ne.symm hnt)]
    · have hkS : S k := hk.resolve_right hkn
      have hqk : N k ≠ q := fun e => by rw [← e, hT.1 k hkS] at hq; cases hq
      by_cases hkt : k = t
      · subst hkt
        rw [va_up_ne _ _ hkn, e2, gu_s]
        unfold nE
        rw [hP k hkn, map_up hn (fun b e => TI_Sl hI hkS (Or.inr (Or.inr e))), va_up_ne _ _ hkn]
      · rw [va_up_ne _ _ hkn, e2, gu_n (hT.ne hkS ht hkt), e1, gu_n hqk, hT.1 k hkS]
        unfold nE
        rw [hL k hkt hkn, hR k hkt hkn, hP k hkn, map_up hn (fun b e => TI_Sl hI hkS (Or.inr (Or.inr e))), map_up hn (fun b e => TI_Sl hI hkS (Or.inl e)), map_up hn (fun b e => TI_Sl hI hkS (Or.inr (Or.inl e))), va_up_ne _ _ hkn]
  · by_cases hkn : k = n
    · rw [hkn, va_up_self]; exact Or.inr rfl
    · rw [va_up_ne _ _ hkn]; exact hT.2 k (hk.resolve_right hkn)

set_option maxHeartbeats 4000000 in
theorem c_J21iN (l : Launch) (Γ : GP) (G : GH) {e n ka va : Nat} (he : G e = some ((11, n), .inr (8, [.null, .null, .null, .null, .null, .int 0]))) : MetG l yJ21_init (ws_ yJ21_init cJ21_init 4 none) (RM 2 0 0) Γ G [.ref e, .ref ka, .ref va, .null] (fun v G1 => v = none ∧ G1 = gu G e ((11, n), .inr (8, [.ref ka, .ref va, .null, .null, .null, .int 1]))) 0 0 := by
  refine gMet (own := RJ21) (by decide) rfl (Nat.le_of_ble_eq_true rfl) ?_
  intro pp ee ss mm below meth cc0 ls X hr hlk hin hnm hR hS hl
  have hl : lv_has ls 4 [(0, .ref e), (1, .ref ka), (2, .ref va), (3, .null)] := hl
  refine lv_aload_n X.hx X.hb dJ21_init_0 rfl (lv_at hl 0 rfl) ?_
  refine W.objInit X.hx X.hb X.hown (X.hts _ q612) (X.hts _ q87) (X.hts _ q88) rfl (by rw [X.hml]; exact hl.1) rfl dJ21_init_1 (Nat.le_of_ble_eq_true rfl) (Nat.le_of_ble_eq_true rfl) ?_
  refine W.eq (g2 := F0 mm 4 ls []) rfl ?_
  refine lv_aload_n X.hx X.hb dJ21_init_4 rfl (lv_at hl 0 rfl) ?_
  refine lv_iconst (v := 1) X.hx X.hb dJ21_init_5 (by decide) ?_
  refine g_put X hR hS he (Nat.le_of_ble_eq_true rfl) rfl in_J21 tyJ21 tyJ21_ok nmJ21 5 (by decide) q624 (fun _ h => h) rfl rfl rfl (Nat.le_of_ble_eq_true rfl) dJ21_init_6 (fun H locs hR1820 hS1821 => ?_)
  obtain ⟨G1822, hG1822⟩ : ∃ z : GH, z = gu G e ((11, n), .inr (8, [.null, .null, .null, .null, .null, .int 1])) := ⟨_, rfl⟩
  have hR1820 : Rep Γ G1822 H := by rw [hG1822]; exact hR1820
  have f1823 : G1822 e = some ((11, n), .inr (8, [.null, .null, .null, .null, .null, .int 1])) := by rw [hG1822]; exact gu_s _ _ _
  refine lv_aload_n X.hx X.hb dJ21_init_9 rfl (lv_at hl 0 rfl) ?_
  refine lv_aload_n X.hx X.hb dJ21_init_10 rfl (lv_at hl 1 rfl) ?_
  refine g_put X hR1820 hS1821 f1823 (Nat.le_of_ble_eq_true rfl) rfl in_J21 tyJ21 tyJ21_ok nmJ21 0 (by decide) q613 (fun _ h => h) rfl rfl rfl (Nat.le_of_ble_eq_true rfl) dJ21_init_11 (fun H locs hR1824 hS1825 => ?_)
  obtain ⟨G1826, hG1826⟩ : ∃ z : GH, z = gu G1822 e ((11, n), .inr (8, [.ref ka, .null, .null, .null, .null, .int 1])) := ⟨_, rfl⟩
  have hR1824 : Rep Γ G1826 H := by rw [hG1826]; exact hR1824
  have f1827 : G1826 e = some ((11, n), .inr (8, [.ref ka, .null, .null, .null, .null, .int 1])) := by rw [hG1826]; exact gu_s _ _ _
  refine lv_aload_n X.hx X.hb dJ21_init_14 rfl (lv_at hl 0 rfl) ?_
  refine lv_aload_n X.hx X.hb dJ21_init_15 rfl (lv_at hl 2 rfl) ?_
  refine g_put X hR1824 hS1825 f1827 (Nat.le_of_ble_eq_true rfl) rfl in_J21 tyJ21 tyJ21_ok nmJ21 1 (by decide) q617 (fun _ h => h) rfl rfl rfl (Nat.le_of_ble_eq_true rfl) dJ21_init_16 (fun H locs hR1828 hS1829 => ?_)
  obtain ⟨G1830, hG1830⟩ : ∃ z : GH, z = gu G1826 e ((11, n), .inr (8, [.ref ka, .ref va, .null, .null, .null, .int 1])) := ⟨_, rfl⟩
  have hR1828 : Rep Γ G1830 H := by rw [hG1830]; exact hR1828
  have f1831 : G1830 e = some ((11, n), .inr (8, [.ref ka, .ref va, .null, .null, .null, .int 1])) := by rw [hG1830]; exact gu_s _ _ _
  refine lv_aload_n X.hx X.hb dJ21_init_19 rfl (lv_at hl 0 rfl) ?_
  refine lv_aload_nN X.hx X.hb dJ21_init_20 rfl (lv_at hl 3 rfl) ?_
  refine g_put X hR1828 hS1829 f1831 (Nat.le_of_ble_eq_true rfl) rfl in_J21 tyJ21 tyJ21_ok nmJ21 4 (by decide) q622 (fun _ h => h) rfl rfl rfl (Nat.le_of_ble_eq_true rfl) dJ21_init_21 (fun H locs hR1832 hS1833 => ?_)
  obtain ⟨G1834, hG1834⟩ : ∃ z : GH, z = gu G1830 e ((11, n), .inr (8, [.ref ka, .ref va, .null, .null, .null, .int 1])) := ⟨_, rfl⟩
  have hR1832 : Rep Γ G1834 H := by rw [hG1834]; exact hR1832
  have f1835 : G1834 e = some ((11, n), .inr (8, [.ref ka, .ref va, .null, .null, .null, .int 1])) := by rw [hG1834]; exact gu_s _ _ _
  exact g_vret X hr hlk hR1832 hS1833 (⟨rfl, by rw [hG1834, hG1830, hG1826, hG1822, gu_gu, gu_gu, gu_gu]⟩) (by (try dsimp only [RM]); omega) (by (try dsimp only [RM]); omega) dJ21_init_24

set_option maxHeartbeats 4000000 in
theorem c_J21iS (l : Launch) (Γ : GP) (G : GH) {e n ka va : Nat} {pt : Nat} (he : G e = some ((11, n), .inr (8, [.null, .null, .null, .null, .null, .int 0]))) : MetG l yJ21_init (ws_ yJ21_init cJ21_init 4 none) (RM 2 0 0) Γ G [.ref e, .ref ka, .ref va, .ref pt] (fun v G1 => v = none ∧ G1 = gu G e ((11, n), .inr (8, [.ref ka, .ref va, .null, .null, .ref pt, .int 1]))) 0 0 := by
  refine gMet (own := RJ21) (by decide) rfl (Nat.le_of_ble_eq_true rfl) ?_
  intro pp ee ss mm below meth cc0 ls X hr hlk hin hnm hR hS hl
  have hl : lv_has ls 4 [(0, .ref e), (1, .ref ka), (2, .ref va), (3, .ref pt)] := hl
  refine lv_aload_n X.hx X.hb dJ21_init_0 rfl (lv_at hl 0 rfl) ?_
  refine W.objInit X.hx X.hb X.hown (X.hts _ q612) (X.hts _ q87) (X.hts _ q88) rfl (by rw [X.hml]; exact hl.1) rfl dJ21_init_1 (Nat.le_of_ble_eq_true rfl) (Nat.le_of_ble_eq_true rfl) ?_
  refine W.eq (g2 := F0 mm 4 ls []) rfl ?_
  refine lv_aload_n X.hx X.hb dJ21_init_4 rfl (lv_at hl 0 rfl) ?_
  refine lv_iconst (v := 1) X.hx X.hb dJ21_init_5 (by decide) ?_
  refine g_put X hR hS he (Nat.le_of_ble_eq_true rfl) rfl in_J21 tyJ21 tyJ21_ok nmJ21 5 (by decide) q624 (fun _ h => h) rfl rfl rfl (Nat.le_of_ble_eq_true rfl) dJ21_init_6 (fun H locs hR1836 hS1837 => ?_)
  obtain ⟨G1838, hG1838⟩ : ∃ z : GH, z = gu G e ((11, n), .inr (8, [.null, .null, .null, .null, .null, .int 1])) := ⟨_, rfl⟩
  have hR1836 : Rep Γ G1838 H := by rw [hG1838]; exact hR1836
  have f1839 : G1838 e = some ((11, n), .inr (8, [.null, .null, .null, .null, .null, .int 1])) := by rw [hG1838]; exact gu_s _ _ _
  refine lv_aload_n X.hx X.hb dJ21_init_9 rfl (lv_at hl 0 rfl) ?_
  refine lv_aload_n X.hx X.hb dJ21_init_10 rfl (lv_at hl 1 rfl) ?_
  refine g_put X hR1836 hS1837 f1839 (Nat.le_of_ble_eq_true rfl) rfl in_J21 tyJ21 tyJ21_ok nmJ21 0 (by decide) q613 (fun _ h => h) rfl rfl rfl (Nat.le_of_ble_eq_true rfl) dJ21_init_11 (fun H locs hR1840 hS1841 => ?_)
  obtain ⟨G1842, hG1842⟩ : ∃ z : GH, z = gu G1838 e ((11, n), .inr (8, [.ref ka, .null, .null, .null, .null, .int 1])) := ⟨_, rfl⟩
  have hR1840 : Rep Γ G1842 H := by rw [hG1842]; exact hR1840
  have f1843 : G1842 e = some ((11, n), .inr (8, [.ref ka, .null, .null, .null, .null, .int 1])) := by rw [hG1842]; exact gu_s _ _ _
  refine lv_aload_n X.hx X.hb dJ21_init_14 rfl (lv_at hl 0 rfl) ?_
  refine lv_aload_n X.hx X.hb dJ21_init_15 rfl (lv_at hl 2 rfl) ?_
  refine g_put X hR1840 hS1841 f1843 (Nat.le_of_ble_eq_true rfl) rfl in_J21 tyJ21 tyJ21_ok nmJ21 1 (by decide) q617 (fun _ h => h) rfl rfl rfl (Nat.le_of_ble_eq_true rfl) dJ21_init_16 (fun H locs hR1844 hS1845 => ?_)
  obtain ⟨G1846, hG1846⟩ : ∃ z : GH, z = gu G1842 e ((11, n), .inr (8, [.ref ka, .ref va, .null, .null, .null, .int 1])) := ⟨_, rfl⟩
  have hR1844 : Rep Γ G1846 H := by rw [hG1846]; exact hR1844
  have f1847 : G1846 e = some ((11, n), .inr (8, [.ref ka, .ref va, .null, .null, .null, .int 1])) := by rw [hG1846]; exact gu_s _ _ _
  refine lv_aload_n X.hx X.hb dJ21_init_19 rfl (lv_at hl 0 rfl) ?_
  refine lv_aload_n X.hx X.hb dJ21_init_20 rfl (lv_at hl 3 rfl) ?_
  refine g_put X hR1844 hS1845 f1847 (Nat.le_of_ble_eq_true rfl) rfl in_J21 tyJ21 tyJ21_ok nmJ21 4 (by decide) q622 (fun _ h => h) rfl rfl rfl (Nat.le_of_ble_eq_true rfl) dJ21_init_21 (fun H locs hR1848 hS1849 => ?_)
  obtain ⟨G1850, hG1850⟩ : ∃ z : GH, z = gu G1846 e ((11, n), .inr (8, [.ref ka, .ref va, .null, .null, .ref pt, .int 1])) := ⟨_, rfl⟩
  have hR1848 : Rep Γ G1850 H := by rw [hG1850]; exact hR1848
  have f1851 : G1850 e = some ((11, n), .inr (8, [.ref ka, .ref va, .null, .null, .ref pt, .int 1])) := by rw [hG1850]; exact gu_s _ _ _
  exact g_vret X hr hlk hR1848 hS1849 (⟨rfl, by rw [hG1850, hG1846, hG1842, hG1838, gu_gu, gu_gu, gu_gu]⟩) (by (try dsimp only [RM]); omega) (by (try dsimp only [RM]); omega) dJ21_init_24

set_option maxHeartbeats 4000000 in
theorem c_J17r (l : Launch) (Γ : GP) (G : GH) {b : Nat} : MetG l yJ17_requireNonNull (ws_ yJ17_requireNonNull cJ17_requireNonNull 1 (some (.object "java/lang/Object"))) (RM 1 0 0) Γ G [.ref b] (fun v G1 => v = some (.ref b) ∧ G = G1) 0 0 := by
  refine gMet (own := RJ17) (by decide) rfl (Nat.le_of_ble_eq_true rfl) ?_
  intro pp ee ss mm below meth cc0 ls X hr hlk hin hnm hR hS hl
  have hl : lv_has ls 1 [(0, .ref b)] := hl
  refine lv_aload_n X.hx X.hb dJ17_requireNonNull_0 rfl (lv_at hl 0 rfl) ?_
  refine lv_ifnonnull (tgt := 12) X.hx X.hb dJ17_requireNonNull_1 (by decide) ?_
  refine lv_aload_n X.hx X.hb dJ17_requireNonNull_12 rfl (lv_at hl 0 rfl) ?_
  exact g_aretS X hr (Or.inl ⟨_, rfl⟩) hlk hR hS (⟨rfl, rfl⟩) (by (try dsimp only [RM]); omega) (by (try dsimp only [RM]); omega) dJ17_requireNonNull_13

set_option maxHeartbeats 4000000 in
theorem c_compare (l : Launch) (Γ : GP) (G : GH) {a p : Nat} {vw rt : Option Nat} {sz mo : Int32} (hM : G a = some (TMc p vw rt sz mo)) {ka : Nat} {tk : Nat × Nat} {x : Int32} (hka : G ka = some (tk, .inr (9, [.int x]))) {kb : Nat} {tb : Nat × Nat} {y : Int32} (hkb : G kb = some (tb, .inr (9, [.int y]))) : MetG l yJ9_compare (ws_ yJ9_compare cJ9_compare 3 (some .int)) (RM 4 0 0) Γ G [.ref a, .ref ka, .ref kb] (fun v G1 => v = some (.int (cmpI x y)) ∧ G = G1) 0 0 := by
  refine gMet (own := RJ9) (by decide) rfl (Nat.le_of_ble_eq_true rfl) ?_
  intro pp ee ss mm below meth cc0 ls X hr hlk hin hnm hR hS hl
  have hl : lv_has ls 3 [(0, .ref a), (1, .ref ka), (2, .ref kb)] := hl
  refine lv_aload_n X.hx X.hb dJ9_compare_0 rfl (lv_at hl 0 rfl) ?_
  refine g_get X hR hM rfl in_J9 2 (by decide) q263 (fun _ h => h) rfl dJ9_compare_1 ?_
  refine lv_ifnonnullN X.hx X.hb dJ9_compare_4 ?_
  refine lv_aload_n X.hx X.hb dJ9_compare_7 rfl (lv_at hl 1 rfl) ?_
  refine g_castY X hR hka rfl q568 kq573 dJ9_compare_8 ?_
  refine lv_aload_n X.hx X.hb dJ9_compare_11 rfl (lv_at hl 2 rfl) ?_
  refine gcF X hl.1 hR hS 1 [.ref kb] [] (c_cmpTo l Γ G hka hkb) hka rfl kf6 q570 q574 q576 q62 q578 rfl rfl ⟨by decide +kernel, by decide +kernel, by decide +kernel⟩ ⟨by (try dsimp only [RM]); omega, by (try dsimp only [RM]); omega⟩ rfl rfl (Nat.le_of_ble_eq_true rfl) dJ9_compare_12 ⟨by (try dsimp only [RM]); omega, by (try dsimp only [RM]); omega⟩ (fun v1855 G1856 H locs hq1852 hR1853 hS1854 => ?_)
  obtain ⟨rfl, rfl⟩ := hq1852
  refine lv_goto (tgt := 31) X.hx X.hb dJ9_compare_17 (by decide) ?_
  exact g_iret X hr hlk hR1853 hS1854 (⟨rfl, rfl⟩) (by (try dsimp only [RM]); omega) (by (try dsimp only [RM]); omega) dJ9_compare_31

set_option maxHeartbeats 4000000 in
theorem c_addEmpty (l : Launch) (Γ : GP) (G : GH) {a p : Nat} {vw : Option Nat} {sz mo : Int32} (hM : G a = some (TMc p vw none sz mo)) {ka : Nat} {tk : Nat × Nat} {x : Int32} (hka : G ka = some (tk, .inr (9, [.int x]))) (hk4 : tk.1 ≠ 4) (hk11 : tk.1 ≠ 11) {va n : Nat} : MetG l yJ9_addEntryToEmptyMap (ws_ yJ9_addEntryToEmptyMap cJ9_addEntryToEmptyMap 3 none) (RM 5 1 6) Γ G [.ref a, .ref ka, .ref va] (fun v G1 => v = none ∧ ∃ q, G q = none ∧ gK (fun t => t = (4, p) ∨ t = (11, n)) G G1 ∧ G1 q = some (nC n ka va none none none 1) ∧ G1 a = some (TMc p vw (some q) 1 (mo + 1))) 1 6 := by
  refine gMet (own := RJ9) (by decide) rfl (Nat.le_of_ble_eq_true rfl) ?_
  intro pp ee ss mm below meth cc0 ls X hr hlk hin hnm hR hS hl
  have hl : lv_has ls 3 [(0, .ref a), (1, .ref ka), (2, .ref va)] := hl
  refine lv_aload_n X.hx X.hb dJ9_addEntryToEmptyMap_0 rfl (lv_at hl 0 rfl) ?_
  refine lv_aload_n X.hx X.hb dJ9_addEntryToEmptyMap_1 rfl (lv_at hl 1 rfl) ?_
  refine lv_aload_n X.hx X.hb dJ9_addEntryToEmptyMap_2 rfl (lv_at hl 1 rfl) ?_
  refine gcV X hl.1 hR hS 2 [.ref ka, .ref ka] [] (c_compare (rt := none) l Γ G hM hka hka) hM rfl q564 q565 q566 q48 q567 rfl rfl ⟨rfl, by decide +kernel, by decide +kernel, by decide +kernel⟩ ⟨by (try dsimp only [RM]); omega, by (try dsimp only [RM]); omega⟩ rfl rfl (Nat.le_of_ble_eq_true rfl) dJ9_addEntryToEmptyMap_3 ⟨by (try dsimp only [RM]); omega, by (try dsimp only [RM]); omega⟩ (fun v1860 G1861 H locs hq1857 hR1858 hS1859 => ?_)
  obtain ⟨rfl, rfl⟩ := hq1857
  refine lv_pop X.hx X.hb dJ9_addEntryToEmptyMap_6 rfl ?_
  refine lv_aload_n X.hx X.hb dJ9_addEntryToEmptyMap_7 rfl (lv_at hl 0 rfl) ?_
  refine g_new (ci := 8) X hR1858 hS1859 (11, n) (C := RJ21) (T := TJ21) (N := 6) rfl in_J21 tyJ21 tyJ21_ok q607 q608 q64 (fs := [.null, .null, .null, .null, .null, .int 0]) (fun j hj => by rcases (show j = 0 ∨ j = 1 ∨ j = 2 ∨ j = 3 ∨ j = 4 ∨ j = 5 by omega) with rfl | rfl | rfl | rfl | rfl | rfl <;> rfl) (by (try dsimp only [RM]); omega) (by (try dsimp only [RM]); omega) dJ9_addEntryToEmptyMap_8 (fun q1862 H hq1864 hR1863 hS1865 => ?_)
  obtain ⟨G1866, hG1866⟩ : ∃ z : GH, z = gu G q1862 ((11, n), .inr (8, [.null, .null, .null, .null, .null, .int 0])) := ⟨_, rfl⟩
  have hR1863 : Rep Γ G1866 H := by rw [hG1866]; exact hR1863
  have f1867 : G1866 a = some ((4, p), .inr (7, [.null, va_rf vw, .null, .null, .int sz, .int mo, .null, .null, .null])) := by rw [hG1866]; exact gu_f hM hq1864
  have f1868 : G1866 ka = some ((tk.1, tk.2), .inr (9, [.int x])) := by rw [hG1866]; exact gu_f hka hq1864
  have f1869 : G1866 q1862 = some ((11, n), .inr (8, [.null, .null, .null, .null, .null, .int 0])) := by rw [hG1866]; exact gu_s _ _ _
  refine lv_dup X.hx X.hb dJ9_addEntryToEmptyMap_11 rfl ?_
  refine lv_aload_n X.hx X.hb dJ9_addEntryToEmptyMap_12 rfl (lv_at hl 1 rfl) ?_
  refine lv_aload_n X.hx X.hb dJ9_addEntryToEmptyMap_13 rfl (lv_at hl 2 rfl) ?_
  refine lv_null X.hx X.hb dJ9_addEntryToEmptyMap_14 ?_
  refine gcI X hl.1 hR1863 hS1865 3 [.ref ka, .ref va, .null] [.ref q1862, .ref a] (c_J21iN l Γ G1866 f1869) q609 q610 q64 q611 rfl rfl rfl ⟨by decide +kernel, by decide +kernel, by decide +kernel⟩ ⟨by (try dsimp only [RM]); omega, by (try dsimp only [RM]); omega⟩ rfl rfl (Nat.le_of_ble_eq_true rfl) dJ9_addEntryToEmptyMap_15 ⟨by (try dsimp only [RM]); omega, by (try dsimp only [RM]); omega⟩ (fun v1874 G1875 H locs hq1871 hR1872 hS1873 => ?_)
  obtain ⟨rfl, hG1870⟩ := hq1871
  have f1876 : G1875 a = some ((4, p), .inr (7, [.null, va_rf vw, .null, .null, .int sz, .int mo, .null, .null, .null])) := by rw [hG1870]; exact (gu_n (fne hM hq1864)).trans f1867
  have f1877 : G1875 ka = some ((tk.1, tk.2), .inr (9, [.int x])) := by rw [hG1870]; exact (gu_n (fne hka hq1864)).trans f1868
  have f1878 : G1875 q1862 = some ((11, n), .inr (8, [.ref ka, .ref va, .null, .null, .null, .int 1])) := by rw [hG1870]; exact gu_s _ _ _
  refine g_put X hR1872 hS1873 f1876 (Nat.le_of_ble_eq_true rfl) rfl in_J9 tyJ9 tyJ9_ok nmJ9 3 (by decide) q264 (fun _ h => h) rfl rfl rfl (Nat.le_of_ble_eq_true rfl) dJ9_addEntryToEmptyMap_18 (fun H locs hR1879 hS1880 => ?_)
  obtain ⟨G1881, hG1881⟩ : ∃ z : GH, z = gu G1875 a ((4, p), .inr (7, [.null, va_rf vw, .null, .ref q1862, .int sz, .int mo, .null, .null, .null])) := ⟨_, rfl⟩
  have hR1879 : Rep Γ G1881 H := by rw [hG1881]; exact hR1879
  have f1882 : G1881 ka = some ((tk.1, tk.2), .inr (9, [.int x])) := by rw [hG1881]; exact gu_t f1877 f1876 (tneq hk4)
  have f1883 : G1881 q1862 = some ((11, n), .inr (8, [.ref ka, .ref va, .null, .null, .null, .int 1])) := by rw [hG1881]; exact (gu_n (Ne.symm (fne hM hq1864))).trans f1878
  have f1884 : G1881 a = some ((4, p), .inr (7, [.null, va_rf vw, .null, .ref q1862, .int sz, .int mo, .null, .null, .null])) := by rw [hG1881]; exact gu_s _ _ _
  refine lv_aload_n X.hx X.hb dJ9_addEntryToEmptyMap_21 rfl (lv_at hl 0 rfl) ?_
  refine lv_iconst (v := 1) X.hx X.hb dJ9_addEntryToEmptyMap_22 (by decide) ?_
  refine g_put X hR1879 hS1880 f1884 (Nat.le_of_ble_eq_true rfl) rfl in_J9 tyJ9 tyJ9_ok nmJ9 4 (by decide) q265 (fun _ h => h) rfl rfl rfl (Nat.le_of_ble_eq_true rfl) dJ9_addEntryToEmptyMap_23 (fun H locs hR1885 hS1886 => ?_)
  obtain ⟨G1887, hG1887⟩ : ∃ z : GH, z = gu G1881 a ((4, p), .inr (7, [.null, va_rf vw, .null, .ref q1862, .int 1, .int mo, .null, .null, .null])) := ⟨_, rfl⟩
  have hR1885 : Rep Γ G1887 H := by rw [hG1887]; exact hR1885
  have f1888 : G1887 ka = some ((tk.1, tk.2), .inr (9, [.int x])) := by rw [hG1887]; exact gu_t f1882 f1884 (tneq hk4)
  have f1889 : G1887 q1862 = some ((11, n), .inr (8, [.ref ka, .ref va, .null, .null, .null, .int 1])) := by rw [hG1887]; exact (gu_n (Ne.symm (fne hM hq1864))).trans f1883
  have f1890 : G1887 a = some ((4, p), .inr (7, [.null, va_rf vw, .null, .ref q1862, .int 1, .int mo, .null, .null, .null])) := by rw [hG1887]; exact gu_s _ _ _
  refine lv_aload_n X.hx X.hb dJ9_addEntryToEmptyMap_26 rfl (lv_at hl 0 rfl) ?_
  refine lv_dup X.hx X.hb dJ9_addEntryToEmptyMap_27 rfl ?_
  refine g_get X hR1885 f1890 rfl in_J9 5 (by decide) q266 (fun _ h => h) rfl dJ9_addEntryToEmptyMap_28 ?_
  refine lv_iconst (v := 1) X.hx X.hb dJ9_addEntryToEmptyMap_31 (by decide) ?_
  refine lv_iadd X.hx X.hb dJ9_addEntryToEmptyMap_32 ?_
  refine g_put X hR1885 hS1886 f1890 (Nat.le_of_ble_eq_true rfl) rfl in_J9 tyJ9 tyJ9_ok nmJ9 5 (by decide) q266 (fun _ h => h) rfl rfl rfl (Nat.le_of_ble_eq_true rfl) dJ9_addEntryToEmptyMap_33 (fun H locs hR1891 hS1892 => ?_)
  obtain ⟨G1893, hG1893⟩ : ∃ z : GH, z = gu G1887 a ((4, p), .inr (7, [.null, va_rf vw, .null, .ref q1862, .int 1, .int (mo + 1), .null, .null, .null])) := ⟨_, rfl⟩
  have hR1891 : Rep Γ G1893 H := by rw [hG1893]; exact hR1891
  have f1894 : G1893 ka = some ((tk.1, tk.2), .inr (9, [.int x])) := by rw [hG1893]; exact gu_t f1888 f1890 (tneq hk4)
  have f1895 : G1893 q1862 = some ((11, n), .inr (8, [.ref ka, .ref va, .null, .null, .null, .int 1])) := by rw [hG1893]; exact (gu_n (Ne.symm (fne hM hq1864))).trans f1889
  have f1896 : G1893 a = some ((4, p), .inr (7, [.null, va_rf vw, .null, .ref q1862, .int 1, .int (mo + 1), .null, .null, .null])) := by rw [hG1893]; exact gu_s _ _ _
  exact g_vret X hr hlk hR1891 hS1892 (⟨rfl, q1862, hq1864, (gK.tr (gK.tr (gK.tr (gK.tr (gK.nw hG1866 hq1864) (gK.pt hG1870 f1869 (Or.inr rfl))) (gK.pt hG1881 f1876 (Or.inl rfl))) (gK.pt hG1887 f1884 (Or.inl rfl))) (gK.pt hG1893 f1890 (Or.inl rfl))), f1895, f1896⟩) (by (try dsimp only [RM]); omega) (by (try dsimp only [RM]); omega) dJ9_addEntryToEmptyMap_36

set_option maxHeartbeats 4000000 in
theorem c_addEntryL (l : Launch) (Γ : GP) (G : GH) {S : Nat → Prop} {N K V : Nat → Nat} {L R P : Nat → Option Nat} {C : Nat → Int32} (hT : TH G S N K V L R P C) {A B : Int} {key lo hi : Nat → Int} {root : Option Nat} (hI : TI A B S key lo hi L R P root) {a p : Nat} {vw : Option Nat} {sz mo : Int32} (hM : G a = some (TMc p vw (root.map N) sz mo)) (hB : ∀ r, root = some r → C r = 1) {n t : Nat} (ht : S t) (hn : ¬ S n) {ka : Nat} {tk : Nat × Nat} {x : Int32} (hka : G ka = some (tk, .inr (9, [.int x]))) (hk4 : tk.1 ≠ 4) (hk11 : tk.1 ≠ 11) {va : Nat} (hKn : K n = ka) (hVn : V n = va) (hL : L t = none) (hD : TD S key lo hi L R (key n) (lo t) (hi t)) (h1 : lo t < key n) (h2 : key n < key t) : MetG l yJ9_addEntry (ws_ yJ9_addEntry cJ9_addEntry 6 none) (RM 4 1 6) Γ G [.ref a, .ref ka, .ref va, .ref (N t), .int 1] (fun v G1 => v = none ∧ ∃ q L1 R1 P1 C1 lo1 hi1 root1, G q = none ∧ gK (tT p (fun k => S k ∨ k = n)) G G1 ∧ TH G1 (fun k => S k ∨ k = n) (va_up N n q) K V L1 R1 P1 C1 ∧ TI A B (fun k => S k ∨ k = n) key lo1 hi1 L1 R1 P1 root1 ∧ G1 a = some (TMc p vw (root1.map (va_up N n q)) (sz + 1) (mo + 1)) ∧ (∀ r, root1 = some r → C1 r = 1)) 1 6 := by
  refine gMet (own := RJ9) (by decide) rfl (Nat.le_of_ble_eq_true rfl) ?_
  intro pp ee ss mm below meth cc0 ls X hr hlk hin hnm hR hS hl
  have hl : lv_has ls 6 [(0, .ref a), (1, .ref ka), (2, .ref va), (3, .ref (N t)), (4, .int 1)] := hl
  have hnt : n ≠ t := fun e => hn (e ▸ ht)
  refine g_new (ci := 8) X hR hS (11, n) (C := RJ21) (T := TJ21) (N := 6) rfl in_J21 tyJ21 tyJ21_ok q607 q608 q64 (fs := [.null, .null, .null, .null, .null, .int 0]) (fun j hj => by rcases (show j = 0 ∨ j = 1 ∨ j = 2 ∨ j = 3 ∨ j = 4 ∨ j = 5 by omega) with rfl | rfl | rfl | rfl | rfl | rfl <;> rfl) (by (try dsimp only [RM]); omega) (by (try dsimp only [RM]); omega) dJ9_addEntry_0 (fun q1897 H hq1899 hR1898 hS1900 => ?_)
  obtain ⟨G1901, hG1901⟩ : ∃ z : GH, z = gu G q1897 ((11, n), .inr (8, [.null, .null, .null, .null, .null, .int 0])) := ⟨_, rfl⟩
  have hR1898 : Rep Γ G1901 H := by rw [hG1901]; exact hR1898
  have f1902 : G1901 a = some ((4, p), .inr (7, [.null, va_rf vw, .null, va_rf (root.map N), .int sz, .int mo, .null, .null, .null])) := by rw [hG1901]; exact gu_f hM hq1899
  have f1903 : G1901 ka = some ((tk.1, tk.2), .inr (9, [.int x])) := by rw [hG1901]; exact gu_f hka hq1899
  have f1904 : G1901 (N t) = some ((11, t), .inr (8, [.ref (K t), .ref (V t), va_rf ((L t).map N), va_rf ((R t).map N), va_rf ((P t).map N), .int (C t)])) := by rw [hG1901]; exact gu_f (hT.1 t ht) hq1899
  have f1905 : G1901 q1897 = some ((11, n), .inr (8, [.null, .null, .null, .null, .null, .int 0])) := by rw [hG1901]; exact gu_s _ _ _
  refine lv_dup X.hx X.hb dJ9_addEntry_3 rfl ?_
  refine lv_aload_n X.hx X.hb dJ9_addEntry_4 rfl (lv_at hl 1 rfl) ?_
  refine lv_aload_n X.hx X.hb dJ9_addEntry_5 rfl (lv_at hl 2 rfl) ?_
  refine lv_aload_n X.hx X.hb dJ9_addEntry_6 rfl (lv_at hl 3 rfl) ?_
  refine gcI X hl.1 hR1898 hS1900 3 [.ref ka, .ref va, .ref (N t)] [.ref q1897] (c_J21iS l Γ G1901 f1905) q609 q610 q64 q611 rfl rfl rfl ⟨by decide +kernel, by decide +kernel, by decide +kernel⟩ ⟨by (try dsimp only [RM]); omega, by (try dsimp only [RM]); omega⟩ rfl rfl (Nat.le_of_ble_eq_true rfl) dJ9_addEntry_7 ⟨by (try dsimp only [RM]); omega, by (try dsimp only [RM]); omega⟩ (fun v1910 G1911 H locs hq1907 hR1908 hS1909 => ?_)
  obtain ⟨rfl, hG1906⟩ := hq1907
  have f1912 : G1911 a = some ((4, p), .inr (7, [.null, va_rf vw, .null, va_rf (root.map N), .int sz, .int mo, .null, .null, .null])) := by rw [hG1906]; exact (gu_n (fne hM hq1899)).trans f1902
  have f1913 : G1911 ka = some ((tk.1, tk.2), .inr (9, [.int x])) := by rw [hG1906]; exact (gu_n (fne hka hq1899)).trans f1903
  have f1914 : G1911 (N t) = some ((11, t), .inr (8, [.ref (K t), .ref (V t), va_rf ((L t).map N), va_rf ((R t).map N), va_rf ((P t).map N), .int (C t)])) := by rw [hG1906]; exact (gu_n (fne (hT.1 t ht) hq1899)).trans f1904
  have f1915 : G1911 q1897 = some ((11, n), .inr (8, [.ref ka, .ref va, .null, .null, .ref (N t), .int 1])) := by rw [hG1906]; exact gu_s _ _ _
  refine lv_astore (lv' := [(5, .ref q1897), (0, .ref a), (1, .ref ka), (2, .ref va), (3, .ref (N t)), (4, .int 1)]) X.hx X.hb dJ9_addEntry_10 hl (by decide) rfl (fun ls hl => ?_)
  refine lv_iload X.hx X.hb dJ9_addEntry_12 (lv_at hl 5 rfl) ?_
  refine lv_if_eq (tgt := 26) X.hx X.hb dJ9_addEntry_14 (by decide) (fun c14 => ?_) (fun c14 => ?_)
  · exact absurd c14 (by decide)
  · refine lv_aload_n X.hx X.hb dJ9_addEntry_17 rfl (lv_at hl 4 rfl) ?_
    refine lv_aload X.hx X.hb dJ9_addEntry_18 (lv_at hl 0 rfl) ?_
    refine g_put X hR1908 hS1909 f1914 (Nat.le_of_ble_eq_true rfl) rfl in_J21 tyJ21 tyJ21_ok nmJ21 2 (by decide) q620 (fun _ h => h) rfl rfl rfl (Nat.le_of_ble_eq_true rfl) dJ9_addEntry_20 (fun H locs hR1916 hS1917 => ?_)
    obtain ⟨G1918, hG1918⟩ : ∃ z : GH, z = gu G1911 (N t) ((11, t), .inr (8, [.ref (K t), .ref (V t), .ref q1897, va_rf ((R t).map N), va_rf ((P t).map N), .int (C t)])) := ⟨_, rfl⟩
    have hR1916 : Rep Γ G1918 H := by rw [hG1918]; exact hR1916
    have f1919 : G1918 a = some ((4, p), .inr (7, [.null, va_rf vw, .null, va_rf (root.map N), .int sz, .int mo, .null, .null, .null])) := by rw [hG1918]; exact gu_t f1912 f1914 (tne rfl)
    have f1920 : G1918 ka = some ((tk.1, tk.2), .inr (9, [.int x])) := by rw [hG1918]; exact gu_t f1913 f1914 (tneq hk11)
    have f1921 : G1918 q1897 = some ((11, n), .inr (8, [.ref ka, .ref va, .null, .null, .ref (N t), .int 1])) := by rw [hG1918]; exact (gu_n (Ne.symm (fne (hT.1 t ht) hq1899))).trans f1915
    have f1922 : G1918 (N t) = some ((11, t), .inr (8, [.ref (K t), .ref (V t), .ref q1897, va_rf ((R t).map N), va_rf ((P t).map N), .int (C t)])) := by rw [hG1918]; exact gu_s _ _ _
    refine lv_goto (tgt := 32) X.hx X.hb dJ9_addEntry_23 (by decide) ?_
    refine lv_aload_n X.hx X.hb dJ9_addEntry_32 rfl (lv_at hl 1 rfl) ?_
    refine lv_aload X.hx X.hb dJ9_addEntry_33 (lv_at hl 0 rfl) ?_
    subst hKn
    subst hVn
    have nt : t ≠ n := Ne.symm hnt
    have hTn : TH G1918 (fun k => S k ∨ k = n) (va_up N n q1897) K V (va_up (va_up L n none) t (some n)) (va_up R n none) (va_up P n (some t)) (va_up C n 1) := by
      refine TH.leaf hT hI ht hn hq1899 (G1 := G1911) (by rw [hG1906, hG1901, gu_gu]; rfl) (hG1918.trans ?_) ?_ ?_ ?_ ?_ ?_ ?_
      · rw [va_up_self, va_up_ne _ _ nt, map_up hn (fun b e => TI_Sl hI ht (Or.inr (Or.inl e)))]; show _ = gu _ _ (nC t _ _ (some (va_up N n q1897 n)) _ _ _); rw [va_up_self]; rfl
      · intro k k1 k2; rw [va_up_ne _ _ k1, va_up_ne _ _ k2]
      · intro k k1 k2; rw [va_up_ne _ _ k2]
      · intro k k2; rw [va_up_ne _ _ k2]
      · rw [va_up_ne _ _ hnt, va_up_self]
      · rw [va_up_self]
      · rw [va_up_self]
    have hIn : TI A B (fun k => S k ∨ k = n) key (va_up lo n (lo t)) (va_up hi n (key t)) (va_up (va_up L n none) t (some n)) (va_up R n none) (va_up P n (some t)) root := by
      exact TI_insL hI ht hn hL hD h1 h2 (va_up_self _ _ _) (by rw [va_up_ne _ _ hnt, va_up_self]) (fun k k1 k2 => by rw [va_up_ne _ _ k1, va_up_ne _ _ k2]) (va_up_self _ _ _) (fun k k2 => va_up_ne _ _ k2) (va_up_self _ _ _) (fun k k2 => va_up_ne _ _ k2)
    have hSr : ∀ r, root = some r → S r := fun r hr9 => (hI.2.2.2.2.2.2.2.2.1 r hr9).1
    have hMn : G1918 a = some (TMc p vw (root.map (va_up N n q1897)) sz mo) := by rw [map_up hn hSr]; exact f1919
    have hBn : ∀ r, root = some r → r ≠ n → va_up C n 1 r = 1 := fun r hr9 hr8 => by rw [va_up_ne _ _ hr8]; exact hB r hr9
    have hfix := c_fix l Γ G1918 hTn hIn hMn (x0 := n) (Or.inr rfl) hBn
    rw [va_up_self N n q1897] at hfix
    refine gcV X hl.1 hR1916 hS1917 1 [.ref q1897] [] (hfix) f1919 rfl q646 q648 qs9 q48 q649 rfl rfl ⟨rfl, by decide +kernel, by decide +kernel, by decide +kernel⟩ ⟨by (try dsimp only [RM]); omega, by (try dsimp only [RM]); omega⟩ rfl rfl (Nat.le_of_ble_eq_true rfl) dJ9_addEntry_35 ⟨by (try dsimp only [RM]); omega, by (try dsimp only [RM]); omega⟩ (fun v1932 G1933 H locs hq1929 hR1930 hS1931 => ?_)
    obtain ⟨rfl, hkf, L1, R1, P1, C1, lo1, hi1, root1, hTf, hIf, hMf, hBf⟩ := hq1929
    have hgk0 := gK.tr (S := tT p (fun k => S k ∨ k = n)) (gK.tr (gK.tr (gK.nw hG1901 hq1899) (gK.pt hG1906 f1905 (Or.inr ⟨n, Or.inr rfl, rfl⟩))) (gK.pt hG1918 f1914 (Or.inr ⟨t, Or.inl ht, rfl⟩))) hkf
    refine lv_aload_n X.hx X.hb dJ9_addEntry_38 rfl (lv_at hl 1 rfl) ?_
    refine lv_dup X.hx X.hb dJ9_addEntry_39 rfl ?_
    refine g_get X hR1930 hMf rfl in_J9 4 (by decide) q265 (fun _ h => h) rfl dJ9_addEntry_40 ?_
    refine lv_iconst (v := 1) X.hx X.hb dJ9_addEntry_43 (by decide) ?_
    refine lv_iadd X.hx X.hb dJ9_addEntry_44 ?_
    refine g_put X hR1930 hS1931 hMf (Nat.le_of_ble_eq_true rfl) rfl in_J9 tyJ9 tyJ9_ok nmJ9 4 (by decide) q265 (fun _ h => h) rfl rfl rfl (Nat.le_of_ble_eq_true rfl) dJ9_addEntry_45 (fun H locs hR1934 hS1935 => ?_)
    obtain ⟨G1936, hG1936⟩ : ∃ z : GH, z = gu G1933 a ((4, p), .inr (7, [.null, va_rf vw, .null, va_rf (root1.map (va_up N n q1897)), .int (sz + 1), .int mo, .null, .null, .null])) := ⟨_, rfl⟩
    have hR1934 : Rep Γ G1936 H := by rw [hG1936]; exact hR1934
    have f1937 : G1936 a = some ((4, p), .inr (7, [.null, va_rf vw, .null, va_rf (root1.map (va_up N n q1897)), .int (sz + 1), .int mo, .null, .null, .null])) := by rw [hG1936]; exact gu_s _ _ _
    refine lv_aload_n X.hx X.hb dJ9_addEntry_48 rfl (lv_at hl 1 rfl) ?_
    refine lv_dup X.hx X.hb dJ9_addEntry_49 rfl ?_
    refine g_get X hR1934 f1937 rfl in_J9 5 (by decide) q266 (fun _ h => h) rfl dJ9_addEntry_50 ?_
    refine lv_iconst (v := 1) X.hx X.hb dJ9_addEntry_53 (by decide) ?_
    refine lv_iadd X.hx X.hb dJ9_addEntry_54 ?_
    refine g_put X hR1934 hS1935 f1937 (Nat.le_of_ble_eq_true rfl) rfl in_J9 tyJ9 tyJ9_ok nmJ9 5 (by decide) q266 (fun _ h => h) rfl rfl rfl (Nat.le_of_ble_eq_true rfl) dJ9_addEntry_55 (fun H locs hR1938 hS1939 => ?_)
    obtain ⟨G1940, hG1940⟩ : ∃ z : GH, z = gu G1936 a ((4, p), .inr (7, [.null, va_rf vw, .null, va_rf (root1.map (va_up N n q1897)), .int (sz + 1), .int (mo + 1), .null, .null, .null])) := ⟨_, rfl⟩
    have hR1938 : Rep Γ G1940 H := by rw [hG1940]; exact hR1938
    have f1941 : G1940 a = some ((4, p), .inr (7, [.null, va_rf vw, .null, va_rf (root1.map (va_up N n q1897)), .int (sz + 1), .int (mo + 1), .null, .null, .null])) := by rw [hG1940]; exact gu_s _ _ _
    exact g_vret X hr hlk hR1938 hS1939 (⟨rfl, q1897, L1, R1, P1, C1, lo1, hi1, root1, hq1899, (gK.tr (gK.tr hgk0 (gK.pt hG1936 hMf (Or.inl rfl))) (gK.pt hG1940 f1937 (Or.inl rfl))), (TH.off (TH.off hTf hG1936 hMf (by show 4 ≠ 11; decide)) hG1940 f1937 (by show 4 ≠ 11; decide)), hIf, f1941, hBf⟩) (by (try dsimp only [RM]); omega) (by (try dsimp only [RM]); omega) dJ9_addEntry_58

set_option maxHeartbeats 4000000 in
theorem c_addEntryR (l : Launch) (Γ : GP) (G : GH) {S : Nat → Prop} {N K V : Nat → Nat} {L R P : Nat → Option Nat} {C : Nat → Int32} (hT : TH G S N K V L R P C) {A B : Int} {key lo hi : Nat → Int} {root : Option Nat} (hI : TI A B S key lo hi L R P root) {a p : Nat} {vw : Option Nat} {sz mo : Int32} (hM : G a = some (TMc p vw (root.map N) sz mo)) (hB : ∀ r, root = some r → C r = 1) {n t : Nat} (ht : S t) (hn : ¬ S n) {ka : Nat} {tk : Nat × Nat} {x : Int32} (hka : G ka = some (tk, .inr (9, [.int x]))) (hk4 : tk.1 ≠ 4) (hk11 : tk.1 ≠ 11) {va : Nat} (hKn : K n = ka) (hVn : V n = va) (hRt : R t = none) (hD : TD S key lo hi L R (key n) (lo t) (hi t)) (h1 : key t < key n) (h2 : key n < hi t) : MetG l yJ9_addEntry (ws_ yJ9_addEntry cJ9_addEntry 6 none) (RM 4 1 6) Γ G [.ref a, .ref ka, .ref va, .ref (N t), .int 0] (fun v G1 => v = none ∧ ∃ q L1 R1 P1 C1 lo1 hi1 root1, G q = none ∧ gK (tT p (fun k => S k ∨ k = n)) G G1 ∧ TH G1 (fun k => S k ∨ k = n) (va_up N n q) K V L1 R1 P1 C1 ∧ TI A B (fun k => S k ∨ k = n) key lo1 hi1 L1 R1 P1 root1 ∧ G1 a = some (TMc p vw (root1.map (va_up N n q)) (sz + 1) (mo + 1)) ∧ (∀ r, root1 = some r → C1 r = 1)) 1 6 := by
  refine gMet (own := RJ9) (by decide) rfl (Nat.le_of_ble_eq_true rfl) ?_
  intro pp ee ss mm below meth cc0 ls X hr hlk hin hnm hR hS hl
  have hl : lv_has ls 6 [(0, .ref a), (1, .ref ka), (2, .ref va), (3, .ref (N t)), (4, .int 0)] := hl
  have hnt : n ≠ t := fun e => hn (e ▸ ht)
  refine g_new (ci := 8) X hR hS (11, n) (C := RJ21) (T := TJ21) (N := 6) rfl in_J21 tyJ21 tyJ21_ok q607 q608 q64 (fs := [.null, .null, .null, .null, .null, .int 0]) (fun j hj => by rcases (show j = 0 ∨ j = 1 ∨ j = 2 ∨ j = 3 ∨ j = 4 ∨ j = 5 by omega) with rfl | rfl | rfl | rfl | rfl | rfl <;> rfl) (by (try dsimp only [RM]); omega) (by (try dsimp only [RM]); omega) dJ9_addEntry_0 (fun q1942 H hq1944 hR1943 hS1945 => ?_)
  obtain ⟨G1946, hG1946⟩ : ∃ z : GH, z = gu G q1942 ((11, n), .inr (8, [.null, .null, .null, .null, .null, .int 0])) := ⟨_, rfl⟩
  have hR1943 : Rep Γ G1946 H := by rw [hG1946]; exact hR1943
  have f1947 : G1946 a = some ((4, p), .inr (7, [.null, va_rf vw, .null, va_rf (root.map N), .int sz, .int mo, .null, .null, .null])) := by rw [hG1946]; exact gu_f hM hq1944
  have f1948 : G1946 ka = some ((tk.1, tk.2), .inr (9, [.int x])) := by rw [hG1946]; exact gu_f hka hq1944
  have f1949 : G1946 (N t) = some ((11, t), .inr (8, [.ref (K t), .ref (V t), va_rf ((L t).map N), va_rf ((R t).map N), va_rf ((P t).map N), .int (C t)])) := by rw [hG1946]; exact gu_f (hT.1 t ht) hq1944
  have f1950 : G1946 q1942 = some ((11, n), .inr (8, [.null, .null, .null, .null, .null, .int 0])) := by rw [hG1946]; exact gu_s _ _ _
  refine lv_dup X.hx X.hb dJ9_addEntry_3 rfl ?_
  refine lv_aload_n X.hx X.hb dJ9_addEntry_4 rfl (lv_at hl 1 rfl) ?_
  refine lv_aload_n X.hx X.hb dJ9_addEntry_5 rfl (lv_at hl 2 rfl) ?_
  refine lv_aload_n X.hx X.hb dJ9_addEntry_6 rfl (lv_at hl 3 rfl) ?_
  refine gcI X hl.1 hR1943 hS1945 3 [.ref ka, .ref va, .ref (N t)] [.ref q1942] (c_J21iS l Γ G1946 f1950) q609 q610 q64 q611 rfl rfl rfl ⟨by decide +kernel, by decide +kernel, by decide +kernel⟩ ⟨by (try dsimp only [RM]); omega, by (try dsimp only [RM]); omega⟩ rfl rfl (Nat.le_of_ble_eq_true rfl) dJ9_addEntry_7 ⟨by (try dsimp only [RM]); omega, by (try dsimp only [RM]); omega⟩ (fun v1955 G1956 H locs hq1952 hR1953 hS1954 => ?_)
  obtain ⟨rfl, hG1951⟩ := hq1952
  have f1957 : G1956 a = some ((4, p), .inr (7, [.null, va_rf vw, .null, va_rf (root.map N), .int sz, .int mo, .null, .null, .null])) := by rw [hG1951]; exact (gu_n (fne hM hq1944)).trans f1947
  have f1958 : G1956 ka = some ((tk.1, tk.2), .inr (9, [.int x])) := by rw [hG1951]; exact (gu_n (fne hka hq1944)).trans f1948
  have f1959 : G1956 (N t) = some ((11, t), .inr (8, [.ref (K t), .ref (V t), va_rf ((L t).map N), va_rf ((R t).map N), va_rf ((P t).map N), .int (C t)])) := by rw [hG1951]; exact (gu_n (fne (hT.1 t ht) hq1944)).trans f1949
  have f1960 : G1956 q1942 = some ((11, n), .inr (8, [.ref ka, .ref va, .null, .null, .ref (N t), .int 1])) := by rw [hG1951]; exact gu_s _ _ _
  refine lv_astore (lv' := [(5, .ref q1942), (0, .ref a), (1, .ref ka), (2, .ref va), (3, .ref (N t)), (4, .int 0)]) X.hx X.hb dJ9_addEntry_10 hl (by decide) rfl (fun ls hl => ?_)
  refine lv_iload X.hx X.hb dJ9_addEntry_12 (lv_at hl 5 rfl) ?_
  refine lv_if_eq (tgt := 26) X.hx X.hb dJ9_addEntry_14 (by decide) (fun c14 => ?_) (fun c14 => ?_)
  · refine lv_aload_n X.hx X.hb dJ9_addEntry_26 rfl (lv_at hl 4 rfl) ?_
    refine lv_aload X.hx X.hb dJ9_addEntry_27 (lv_at hl 0 rfl) ?_
    refine g_put X hR1953 hS1954 f1959 (Nat.le_of_ble_eq_true rfl) rfl in_J21 tyJ21 tyJ21_ok nmJ21 3 (by decide) q621 (fun _ h => h) rfl rfl rfl (Nat.le_of_ble_eq_true rfl) dJ9_addEntry_29 (fun H locs hR1961 hS1962 => ?_)
    obtain ⟨G1963, hG1963⟩ : ∃ z : GH, z = gu G1956 (N t) ((11, t), .inr (8, [.ref (K t), .ref (V t), va_rf ((L t).map N), .ref q1942, va_rf ((P t).map N), .int (C t)])) := ⟨_, rfl⟩
    have hR1961 : Rep Γ G1963 H := by rw [hG1963]; exact hR1961
    have f1964 : G1963 a = some ((4, p), .inr (7, [.null, va_rf vw, .null, va_rf (root.map N), .int sz, .int mo, .null, .null, .null])) := by rw [hG1963]; exact gu_t f1957 f1959 (tne rfl)
    have f1965 : G1963 ka = some ((tk.1, tk.2), .inr (9, [.int x])) := by rw [hG1963]; exact gu_t f1958 f1959 (tneq hk11)
    have f1966 : G1963 q1942 = some ((11, n), .inr (8, [.ref ka, .ref va, .null, .null, .ref (N t), .int 1])) := by rw [hG1963]; exact (gu_n (Ne.symm (fne (hT.1 t ht) hq1944))).trans f1960
    have f1967 : G1963 (N t) = some ((11, t), .inr (8, [.ref (K t), .ref (V t), va_rf ((L t).map N), .ref q1942, va_rf ((P t).map N), .int (C t)])) := by rw [hG1963]; exact gu_s _ _ _
    refine lv_aload_n X.hx X.hb dJ9_addEntry_32 rfl (lv_at hl 1 rfl) ?_
    refine lv_aload X.hx X.hb dJ9_addEntry_33 (lv_at hl 0 rfl) ?_
    subst hKn
    subst hVn
    have nt : t ≠ n := Ne.symm hnt
    have hTn : TH G1963 (fun k => S k ∨ k = n) (va_up N n q1942) K V (va_up L n none) (va_up (va_up R n none) t (some n)) (va_up P n (some t)) (va_up C n 1) := by
      refine TH.leaf hT hI ht hn hq1944 (G1 := G1956) (by rw [hG1951, hG1946, gu_gu]; rfl) (hG1963.trans ?_) ?_ ?_ ?_ ?_ ?_ ?_
      · rw [va_up_self, va_up_ne _ _ nt, map_up hn (fun b e => TI_Sl hI ht (Or.inl e))]; show _ = gu _ _ (nC t _ _ _ (some (va_up N n q1942 n)) _ _); rw [va_up_self]; rfl
      · intro k k1 k2; rw [va_up_ne _ _ k2]
      · intro k k1 k2; rw [va_up_ne _ _ k1, va_up_ne _ _ k2]
      · intro k k2; rw [va_up_ne _ _ k2]
      · rw [va_up_self]
      · rw [va_up_ne _ _ hnt, va_up_self]
      · rw [va_up_self]
    have hIn : TI A B (fun k => S k ∨ k = n) key (va_up lo n (key t)) (va_up hi n (hi t)) (va_up L n none) (va_up (va_up R n none) t (some n)) (va_up P n (some t)) root := by
      exact TI_insR hI ht hn hRt hD h1 h2 (va_up_self _ _ _) (by rw [va_up_ne _ _ hnt, va_up_self]) (fun k k1 k2 => by rw [va_up_ne _ _ k1, va_up_ne _ _ k2]) (va_up_self _ _ _) (fun k k2 => va_up_ne _ _ k2) (va_up_self _ _ _) (fun k k2 => va_up_ne _ _ k2)
    have hSr : ∀ r, root = some r → S r := fun r hr9 => (hI.2.2.2.2.2.2.2.2.1 r hr9).1
    have hMn : G1963 a = some (TMc p vw (root.map (va_up N n q1942)) sz mo) := by rw [map_up hn hSr]; exact f1964
    have hBn : ∀ r, root = some r → r ≠ n → va_up C n 1 r = 1 := fun r hr9 hr8 => by rw [va_up_ne _ _ hr8]; exact hB r hr9
    have hfix := c_fix l Γ G1963 hTn hIn hMn (x0 := n) (Or.inr rfl) hBn
    rw [va_up_self N n q1942] at hfix
    refine gcV X hl.1 hR1961 hS1962 1 [.ref q1942] [] (hfix) f1964 rfl q646 q648 qs9 q48 q649 rfl rfl ⟨rfl, by decide +kernel, by decide +kernel, by decide +kernel⟩ ⟨by (try dsimp only [RM]); omega, by (try dsimp only [RM]); omega⟩ rfl rfl (Nat.le_of_ble_eq_true rfl) dJ9_addEntry_35 ⟨by (try dsimp only [RM]); omega, by (try dsimp only [RM]); omega⟩ (fun v1977 G1978 H locs hq1974 hR1975 hS1976 => ?_)
    obtain ⟨rfl, hkf, L1, R1, P1, C1, lo1, hi1, root1, hTf, hIf, hMf, hBf⟩ := hq1974
    have hgk0 := gK.tr (S := tT p (fun k => S k ∨ k = n)) (gK.tr (gK.tr (gK.nw hG1946 hq1944) (gK.pt hG1951 f1950 (Or.inr ⟨n, Or.inr rfl, rfl⟩))) (gK.pt hG1963 f1959 (Or.inr ⟨t, Or.inl ht, rfl⟩))) hkf
    refine lv_aload_n X.hx X.hb dJ9_addEntry_38 rfl (lv_at hl 1 rfl) ?_
    refine lv_dup X.hx X.hb dJ9_addEntry_39 rfl ?_
    refine g_get X hR1975 hMf rfl in_J9 4 (by decide) q265 (fun _ h => h) rfl dJ9_addEntry_40 ?_
    refine lv_iconst (v := 1) X.hx X.hb dJ9_addEntry_43 (by decide) ?_
    refine lv_iadd X.hx X.hb dJ9_addEntry_44 ?_
    refine g_put X hR1975 hS1976 hMf (Nat.le_of_ble_eq_true rfl) rfl in_J9 tyJ9 tyJ9_ok nmJ9 4 (by decide) q265 (fun _ h => h) rfl rfl rfl (Nat.le_of_ble_eq_true rfl) dJ9_addEntry_45 (fun H locs hR1979 hS1980 => ?_)
    obtain ⟨G1981, hG1981⟩ : ∃ z : GH, z = gu G1978 a ((4, p), .inr (7, [.null, va_rf vw, .null, va_rf (root1.map (va_up N n q1942)), .int (sz + 1), .int mo, .null, .null, .null])) := ⟨_, rfl⟩
    have hR1979 : Rep Γ G1981 H := by rw [hG1981]; exact hR1979
    have f1982 : G1981 a = some ((4, p), .inr (7, [.null, va_rf vw, .null, va_rf (root1.map (va_up N n q1942)), .int (sz + 1), .int mo, .null, .null, .null])) := by rw [hG1981]; exact gu_s _ _ _
    refine lv_aload_n X.hx X.hb dJ9_addEntry_48 rfl (lv_at hl 1 rfl) ?_
    refine lv_dup X.hx X.hb dJ9_addEntry_49 rfl ?_
    refine g_get X hR1979 f1982 rfl in_J9 5 (by decide) q266 (fun _ h => h) rfl dJ9_addEntry_50 ?_
    refine lv_iconst (v := 1) X.hx X.hb dJ9_addEntry_53 (by decide) ?_
    refine lv_iadd X.hx X.hb dJ9_addEntry_54 ?_
    refine g_put X hR1979 hS1980 f1982 (Nat.le_of_ble_eq_true rfl) rfl in_J9 tyJ9 tyJ9_ok nmJ9 5 (by decide) q266 (fun _ h => h) rfl rfl rfl (Nat.le_of_ble_eq_true rfl) dJ9_addEntry_55 (fun H locs hR1983 hS1984 => ?_)
    obtain ⟨G1985, hG1985⟩ : ∃ z : GH, z = gu G1981 a ((4, p), .inr (7, [.null, va_rf vw, .null, va_rf (root1.map (va_up N n q1942)), .int (sz + 1), .int (mo + 1), .null, .null, .null])) := ⟨_, rfl⟩
    have hR1983 : Rep Γ G1985 H := by rw [hG1985]; exact hR1983
    have f1986 : G1985 a = some ((4, p), .inr (7, [.null, va_rf vw, .null, va_rf (root1.map (va_up N n q1942)), .int (sz + 1), .int (mo + 1), .null, .null, .null])) := by rw [hG1985]; exact gu_s _ _ _
    exact g_vret X hr hlk hR1983 hS1984 (⟨rfl, q1942, L1, R1, P1, C1, lo1, hi1, root1, hq1944, (gK.tr (gK.tr hgk0 (gK.pt hG1981 hMf (Or.inl rfl))) (gK.pt hG1985 f1982 (Or.inl rfl))), (TH.off (TH.off hTf hG1981 hMf (by show 4 ≠ 11; decide)) hG1985 f1982 (by show 4 ≠ 11; decide)), hIf, f1986, hBf⟩) (by (try dsimp only [RM]); omega) (by (try dsimp only [RM]); omega) dJ9_addEntry_58
  · exact absurd rfl c14
