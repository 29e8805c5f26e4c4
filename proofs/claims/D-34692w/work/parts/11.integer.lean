set_option maxRecDepth 100000
/-! java.lang.Integer -/
/-- a box that holds v -/
def IB (Γ : GP) (G : GH) (a : Nat) (v : Int32) : Prop := ∃ t : Nat × Nat, G a = some (t, .inr (9, [.int v]))
theorem IB.keep {Γ : GP} {G G1 : GH} {a : Nat} {v : Int32} {S : Nat × Nat → Prop} (h : IB Γ G a v) (hk : gK S G G1) (hS : ∀ t x, G a = some (t, x) → ¬ S t) : IB Γ G1 a v := by
  obtain ⟨t, h⟩ := h
  exact ⟨t, hk _ _ h (hS t _ h)⟩
theorem IB.inj {Γ : GP} {G : GH} {a : Nat} {v w : Int32} (h : IB Γ G a v) (h1 : IB Γ G a w) : v = w := by
  obtain ⟨t, h⟩ := h
  obtain ⟨t1, h1⟩ := h1
  cases h.symm.trans h1
  rfl

set_option maxHeartbeats 4000000 in
theorem c_J19i (l : Launch) (Γ : GP) (G : GH) {a : Nat} : MetG l yJ19_init (ws_ yJ19_init cJ19_init 1 none) (RM 1 0 0) Γ G [.ref a] (fun v G1 => v = none ∧ G = G1) 0 0 := by
  refine gMet (own := RJ19) (by decide) rfl (Nat.le_of_ble_eq_true rfl) ?_
  intro pp ee ss mm below meth cc0 ls X hr hlk hin hnm hR hS hl
  have hl : lv_has ls 1 [(0, .ref a)] := hl
  refine lv_aload_n X.hx X.hb dJ19_init_0 rfl (lv_at hl 0 rfl) ?_
  refine W.objInit X.hx X.hb X.hown (X.hts _ q547) (X.hts _ q87) (X.hts _ q88) rfl (by rw [X.hml]; exact hl.1) rfl dJ19_init_1 (Nat.le_of_ble_eq_true rfl) (Nat.le_of_ble_eq_true rfl) ?_
  refine W.eq (g2 := F0 mm 4 ls []) rfl ?_
  exact g_vret X hr hlk hR hS (⟨rfl, rfl⟩) (by (try dsimp only [RM]); omega) (by (try dsimp only [RM]); omega) dJ19_init_4

set_option maxHeartbeats 4000000 in
theorem c_J20i (l : Launch) (Γ : GP) (G : GH) {b k : Nat} {w v : Int32} (hb : G b = some ((13, k), .inr (9, [.int w]))) : MetG l yJ20_init (ws_ yJ20_init cJ20_init 2 none) (RM 2 0 0) Γ G [.ref b, .int v] (fun u G1 => u = none ∧ G1 = gu G b ((13, k), .inr (9, [.int v]))) 0 0 := by
  refine gMet (own := RJ20) (by decide) rfl (Nat.le_of_ble_eq_true rfl) ?_
  intro pp ee ss mm below meth cc0 ls X hr hlk hin hnm hR hS hl
  have hl : lv_has ls 2 [(0, .ref b), (1, .int v)] := hl
  refine lv_aload_n X.hx X.hb dJ20_init_0 rfl (lv_at hl 0 rfl) ?_
  refine gcI X hl.1 hR hS 0 [] [] (c_J19i l Γ G) q544 q545 q61 q546 rfl rfl rfl ⟨by decide +kernel, by decide +kernel, by decide +kernel⟩ ⟨by (try dsimp only [RM]); omega, by (try dsimp only [RM]); omega⟩ rfl rfl (Nat.le_of_ble_eq_true rfl) dJ20_init_1 ⟨by (try dsimp only [RM]); omega, by (try dsimp only [RM]); omega⟩ (fun v200 G201 H locs hq197 hR198 hS199 => ?_)
  obtain ⟨rfl, rfl⟩ := hq197
  refine lv_aload_n X.hx X.hb dJ20_init_4 rfl (lv_at hl 0 rfl) ?_
  refine lv_iload_n X.hx X.hb dJ20_init_5 rfl (lv_at hl 1 rfl) ?_
  refine g_putF X hR198 hS199 hb (Nat.le_of_ble_eq_true rfl) rfl in_J20 tyJ20 tyJ20_ok nmJ20 0 (by decide) q548 (fun _ h => h) rfl hin rfl rfl rfl (Nat.le_of_ble_eq_true rfl) dJ20_init_6 (fun H locs hR202 hS203 => ?_)
  obtain ⟨G204, hG204⟩ : ∃ z : GH, z = gu G b ((13, k), .inr (9, [.int v])) := ⟨_, rfl⟩
  have hR202 : Rep Γ G204 H := by rw [hG204]; exact hR202
  have f205 : G204 b = some ((13, k), .inr (9, [.int v])) := by rw [hG204]; exact gu_s _ _ _
  exact g_vret X hr hlk hR202 hS203 (⟨rfl, by rw [hG204]⟩) (by (try dsimp only [RM]); omega) (by (try dsimp only [RM]); omega) dJ20_init_9

set_option maxHeartbeats 4000000 in
theorem c_intValue (l : Launch) (Γ : GP) (G : GH) {b : Nat} {t : Nat × Nat} {v : Int32} (hb : G b = some (t, .inr (9, [.int v]))) : MetG l yJ20_intValue (ws_ yJ20_intValue cJ20_intValue 1 (some .int)) (RM 1 0 0) Γ G [.ref b] (fun u G1 => u = some (.int v) ∧ G = G1) 0 0 := by
  refine gMet (own := RJ20) (by decide) rfl (Nat.le_of_ble_eq_true rfl) ?_
  intro pp ee ss mm below meth cc0 ls X hr hlk hin hnm hR hS hl
  have hl : lv_has ls 1 [(0, .ref b)] := hl
  refine lv_aload_n X.hx X.hb dJ20_intValue_0 rfl (lv_at hl 0 rfl) ?_
  refine g_get X hR hb rfl in_J20 0 (by decide) q548 (fun _ h => h) rfl dJ20_intValue_1 ?_
  exact g_iret X hr hlk hR hS (⟨rfl, rfl⟩) (by (try dsimp only [RM]); omega) (by (try dsimp only [RM]); omega) dJ20_intValue_4

/-- what valueOf leaves: a box of the cache, or a new one with the tag (13, k) -/
def VO (Γ : GP) (G : GH) (k : Nat) (v : Int32) (u : Option Value) (G1 : GH) : Prop := ∃ a : Nat, u = some (.ref a) ∧ IB Γ G1 a v ∧ ((G = G1 ∧ ∃ j, G a = some ((50, j), .inr (9, [.int v]))) ∨ (G a = none ∧ G1 = gu G a ((13, k), .inr (9, [.int v]))))
theorem VO.gk {Γ : GP} {G : GH} {k : Nat} {v : Int32} {u : Option Value} {G1 : GH} {S : Nat × Nat → Prop} (h : VO Γ G k v u G1) : gK S G G1 := by
  obtain ⟨a, -, -, ⟨rfl, -⟩ | ⟨h1, h2⟩⟩ := h
  · exact gK.rf
  · exact gK.nw h2 h1

set_option maxHeartbeats 4000000 in
theorem c_valueOf (l : Launch) (Γ : GP) (G : GH) {k : Nat} {v : Int32} (hC : CN Γ G) : MetG l yJ20_valueOf (ws_ yJ20_valueOf cJ20_valueOf 1 (some (.object "java/lang/Integer"))) (RM 3 1 1) Γ G [.int v] (VO Γ G k v) 1 1 := by
  refine gMet (own := RJ20) (by decide) rfl (Nat.le_of_ble_eq_true rfl) ?_
  intro pp ee ss mm below meth cc0 ls X hr hlk hin hnm hR hS hl
  have hl : lv_has ls 1 [(0, .int v)] := hl
  refine lv_iload_n X.hx X.hb dJ20_valueOf_0 rfl (lv_at hl 0 rfl) ?_
  refine lv_bipush (v := (-128)) X.hx X.hb dJ20_valueOf_1 (by decide) ?_
  refine lv_icmp_lt (tgt := 23) X.hx X.hb dJ20_valueOf_3 (by decide) (fun c3 => ?_) (fun c3 => ?_)
  · refine g_new (ci := 9) X hR hS (13, k) (C := RJ20) (T := TJ20) (N := 1) rfl in_J20 tyJ20 tyJ20_ok q539 q540 q62 (fs := [.int 0]) (fun j hj => by rcases (show j = 0 by omega) with rfl <;> rfl) (by (try dsimp only [RM]); omega) (by (try dsimp only [RM]); omega) dJ20_valueOf_23 (fun q206 H hq208 hR207 hS209 => ?_)
    obtain ⟨G210, hG210⟩ : ∃ z : GH, z = gu G q206 ((13, k), .inr (9, [.int 0])) := ⟨_, rfl⟩
    have hR207 : Rep Γ G210 H := by rw [hG210]; exact hR207
    have f211 : G210 q206 = some ((13, k), .inr (9, [.int 0])) := by rw [hG210]; exact gu_s _ _ _
    refine lv_dup X.hx X.hb dJ20_valueOf_26 rfl ?_
    refine lv_iload_n X.hx X.hb dJ20_valueOf_27 rfl (lv_at hl 0 rfl) ?_
    refine gcI X hl.1 hR207 hS209 1 [.int v] [.ref q206] (c_J20i l Γ G210 f211) q541 q542 q62 q543 rfl rfl rfl ⟨by decide +kernel, by decide +kernel, by decide +kernel⟩ ⟨by (try dsimp only [RM]); omega, by (try dsimp only [RM]); omega⟩ rfl rfl (Nat.le_of_ble_eq_true rfl) dJ20_valueOf_28 ⟨by (try dsimp only [RM]); omega, by (try dsimp only [RM]); omega⟩ (fun v215 G216 H locs hq212 hR213 hS214 => ?_)
    obtain ⟨rfl, hG⟩ := hq212
    have f217 : G216 q206 = some ((13, k), .inr (9, [.int v])) := by rw [hG]; exact gu_s _ _ _
    exact g_aretS X hr (Or.inl ⟨_, rfl⟩) hlk hR213 hS214 (⟨q206, rfl, ⟨_, f217⟩, Or.inr ⟨hq208, by rw [hG, hG210, gu_gu]⟩⟩) (by (try dsimp only [RM]); omega) (by (try dsimp only [RM]); omega) dJ20_valueOf_31
  · refine lv_iload_n X.hx X.hb dJ20_valueOf_6 rfl (lv_at hl 0 rfl) ?_
    refine va_gets X.hx X.hb X.hZ.2.1 hS X.hown (X.hts _ q535) (fun _ h => h) dJ20_valueOf_7 ?_
    refine lv_icmp_gt (tgt := 23) X.hx X.hb dJ20_valueOf_10 (by decide) (fun c10 => ?_) (fun c10 => ?_)
    · refine g_new (ci := 9) X hR hS (13, k) (C := RJ20) (T := TJ20) (N := 1) rfl in_J20 tyJ20 tyJ20_ok q539 q540 q62 (fs := [.int 0]) (fun j hj => by rcases (show j = 0 by omega) with rfl <;> rfl) (by (try dsimp only [RM]); omega) (by (try dsimp only [RM]); omega) dJ20_valueOf_23 (fun q218 H hq220 hR219 hS221 => ?_)
      obtain ⟨G222, hG222⟩ : ∃ z : GH, z = gu G q218 ((13, k), .inr (9, [.int 0])) := ⟨_, rfl⟩
      have hR219 : Rep Γ G222 H := by rw [hG222]; exact hR219
      have f223 : G222 q218 = some ((13, k), .inr (9, [.int 0])) := by rw [hG222]; exact gu_s _ _ _
      refine lv_dup X.hx X.hb dJ20_valueOf_26 rfl ?_
      refine lv_iload_n X.hx X.hb dJ20_valueOf_27 rfl (lv_at hl 0 rfl) ?_
      refine gcI X hl.1 hR219 hS221 1 [.int v] [.ref q218] (c_J20i l Γ G222 f223) q541 q542 q62 q543 rfl rfl rfl ⟨by decide +kernel, by decide +kernel, by decide +kernel⟩ ⟨by (try dsimp only [RM]); omega, by (try dsimp only [RM]); omega⟩ rfl rfl (Nat.le_of_ble_eq_true rfl) dJ20_valueOf_28 ⟨by (try dsimp only [RM]); omega, by (try dsimp only [RM]); omega⟩ (fun v227 G228 H locs hq224 hR225 hS226 => ?_)
      obtain ⟨rfl, hG⟩ := hq224
      have f229 : G228 q218 = some ((13, k), .inr (9, [.int v])) := by rw [hG]; exact gu_s _ _ _
      exact g_aretS X hr (Or.inl ⟨_, rfl⟩) hlk hR225 hS226 (⟨q218, rfl, ⟨_, f229⟩, Or.inr ⟨hq220, by rw [hG, hG222, gu_gu]⟩⟩) (by (try dsimp only [RM]); omega) (by (try dsimp only [RM]); omega) dJ20_valueOf_31
    · refine va_gets X.hx X.hb X.hZ.2.2.1 hS X.hown (X.hts _ q537) (fun _ h => h) dJ20_valueOf_13 ?_
      refine lv_iload_n X.hx X.hb dJ20_valueOf_16 rfl (lv_at hl 0 rfl) ?_
      refine lv_sipush (v := 128) X.hx X.hb dJ20_valueOf_17 (by decide) ?_
      refine lv_iadd X.hx X.hb dJ20_valueOf_20 ?_
      obtain ⟨j, hj, e1, e2⟩ := bx_small c3 c10
      refine vb_tq (N := 256) (f := fun k => .ref (Γ.2 (1000 + k))) (v := .ref (Γ.2 (1000 + j))) X.hx X.hb X.hZ.2.2.2.1 hS (by rw [e1]; exact vp_in_nI hj (by decide)) (by rw [e1, nI_clamp (by omega)]) dJ20_valueOf_21 ?_
      exact g_aretS X hr (Or.inl ⟨_, rfl⟩) hlk hR hS (⟨_, rfl, ⟨(50, j), by rw [hC.2.1 j hj, e2]⟩, Or.inl ⟨rfl, j, by rw [hC.2.1 j hj, e2]⟩⟩) (by (try dsimp only [RM]); omega) (by (try dsimp only [RM]); omega) dJ20_valueOf_22

def cmpI (x y : Int32) : Int32 := if x < y then (-1) else if x = y then 0 else 1
theorem cmpI_lt {x y : Int32} : cmpI x y < 0 ↔ x < y := by
  unfold cmpI; split
  · rename_i h; exact ⟨fun _ => h, fun _ => by decide⟩
  · rename_i h; split
    · exact ⟨fun h1 => absurd h1 (by decide), fun h1 => absurd h1 h⟩
    · exact ⟨fun h1 => absurd h1 (by decide), fun h1 => absurd h1 h⟩
theorem cmpI_gt {x y : Int32} : 0 < cmpI x y ↔ y < x := by
  unfold cmpI; split
  · rename_i h; exact ⟨fun h1 => absurd h1 (by decide), fun h1 => absurd (Int32.lt_trans h h1) (Int32.lt_irrefl)⟩
  · rename_i h; split
    · rename_i h2; subst h2; exact ⟨fun h1 => absurd h1 (by decide), fun h1 => absurd h1 Int32.lt_irrefl⟩
    · rename_i h2
      refine ⟨fun _ => ?_, fun _ => by decide⟩
      rcases Int32.lt_or_eq_of_le (Int32.not_lt.mp h) with h3 | h3
      · exact h3
      · exact absurd h3.symm h2

set_option maxHeartbeats 4000000 in
theorem c_cmp (l : Launch) (Γ : GP) (G : GH) {x y : Int32} : MetG l yJ20_compare (ws_ yJ20_compare cJ20_compare 2 (some .int)) (RM 1 0 0) Γ G [.int x, .int y] (fun v G1 => v = some (.int (cmpI x y)) ∧ G = G1) 0 0 := by
  refine gMet (own := RJ20) (by decide) rfl (Nat.le_of_ble_eq_true rfl) ?_
  intro pp ee ss mm below meth cc0 ls X hr hlk hin hnm hR hS hl
  have hl : lv_has ls 2 [(0, .int x), (1, .int y)] := hl
  refine lv_iload_n X.hx X.hb dJ20_compare_0 rfl (lv_at hl 0 rfl) ?_
  refine lv_iload_n X.hx X.hb dJ20_compare_1 rfl (lv_at hl 1 rfl) ?_
  refine lv_icmp_ge (tgt := 9) X.hx X.hb dJ20_compare_2 (by decide) (fun c2 => ?_) (fun c2 => ?_)
  · refine lv_iload_n X.hx X.hb dJ20_compare_9 rfl (lv_at hl 0 rfl) ?_
    refine lv_iload_n X.hx X.hb dJ20_compare_10 rfl (lv_at hl 1 rfl) ?_
    refine lv_icmp_ne (tgt := 18) X.hx X.hb dJ20_compare_11 (by decide) (fun c11 => ?_) (fun c11 => ?_)
    · refine lv_iconst (v := 1) X.hx X.hb dJ20_compare_18 (by decide) ?_
      exact g_iret X hr hlk hR hS (⟨by rw [cmpI, if_neg (Int32.not_lt.mpr c2), if_neg c11], rfl⟩) (by (try dsimp only [RM]); omega) (by (try dsimp only [RM]); omega) dJ20_compare_19
    · refine lv_iconst (v := 0) X.hx X.hb dJ20_compare_14 (by decide) ?_
      refine lv_goto (tgt := 19) X.hx X.hb dJ20_compare_15 (by decide) ?_
      exact g_iret X hr hlk hR hS (⟨by rw [cmpI, if_neg (Int32.not_lt.mpr c2), if_pos c11], rfl⟩) (by (try dsimp only [RM]); omega) (by (try dsimp only [RM]); omega) dJ20_compare_19
  · refine lv_iconst (v := (-1)) X.hx X.hb dJ20_compare_5 (by decide) ?_
    refine lv_goto (tgt := 19) X.hx X.hb dJ20_compare_6 (by decide) ?_
    exact g_iret X hr hlk hR hS (⟨by rw [cmpI, if_pos (Int32.not_le.mp c2)], rfl⟩) (by (try dsimp only [RM]); omega) (by (try dsimp only [RM]); omega) dJ20_compare_19

set_option maxHeartbeats 4000000 in
theorem c_cmpTo2 (l : Launch) (Γ : GP) (G : GH) {a b : Nat} {t1 t2 : Nat × Nat} {x y : Int32} (ha : G a = some (t1, .inr (9, [.int x]))) (hb : G b = some (t2, .inr (9, [.int y]))) : MetG l yJ20_compareTo_2 (ws_ yJ20_compareTo_2 cJ20_compareTo_2 2 (some .int)) (RM 2 0 0) Γ G [.ref a, .ref b] (fun v G1 => v = some (.int (cmpI x y)) ∧ G = G1) 0 0 := by
  refine gMet (own := RJ20) (by decide) rfl (Nat.le_of_ble_eq_true rfl) ?_
  intro pp ee ss mm below meth cc0 ls X hr hlk hin hnm hR hS hl
  have hl : lv_has ls 2 [(0, .ref a), (1, .ref b)] := hl
  refine lv_aload_n X.hx X.hb dJ20_compareTo_2_0 rfl (lv_at hl 0 rfl) ?_
  refine g_get X hR ha rfl in_J20 0 (by decide) q548 (fun _ h => h) rfl dJ20_compareTo_2_1 ?_
  refine lv_aload_n X.hx X.hb dJ20_compareTo_2_4 rfl (lv_at hl 1 rfl) ?_
  refine g_get X hR hb rfl in_J20 0 (by decide) q548 (fun _ h => h) rfl dJ20_compareTo_2_5 ?_
  refine gcS X hl.1 hR hS 2 [.int x, .int y] [] (c_cmp l Γ G) q583 q584 q62 q585 rfl rfl ⟨by decide +kernel, by decide +kernel, by decide +kernel⟩ ⟨by (try dsimp only [RM]); omega, by (try dsimp only [RM]); omega⟩ rfl rfl (Nat.le_of_ble_eq_true rfl) dJ20_compareTo_2_8 ⟨by (try dsimp only [RM]); omega, by (try dsimp only [RM]); omega⟩ (fun v233 G234 H locs hq230 hR231 hS232 => ?_)
  obtain ⟨rfl, rfl⟩ := hq230
  exact g_iret X hr hlk hR231 hS232 (⟨rfl, rfl⟩) (by (try dsimp only [RM]); omega) (by (try dsimp only [RM]); omega) dJ20_compareTo_2_11

set_option maxHeartbeats 4000000 in
theorem c_cmpTo (l : Launch) (Γ : GP) (G : GH) {a b : Nat} {t1 t2 : Nat × Nat} {x y : Int32} (ha : G a = some (t1, .inr (9, [.int x]))) (hb : G b = some (t2, .inr (9, [.int y]))) : MetG l yJ20_compareTo (ws_ yJ20_compareTo cJ20_compareTo 2 (some .int)) (RM 3 0 0) Γ G [.ref a, .ref b] (fun v G1 => v = some (.int (cmpI x y)) ∧ G = G1) 0 0 := by
  refine gMet (own := RJ20) (by decide) rfl (Nat.le_of_ble_eq_true rfl) ?_
  intro pp ee ss mm below meth cc0 ls X hr hlk hin hnm hR hS hl
  have hl : lv_has ls 2 [(0, .ref a), (1, .ref b)] := hl
  refine lv_aload_n X.hx X.hb dJ20_compareTo_0 rfl (lv_at hl 0 rfl) ?_
  refine lv_aload_n X.hx X.hb dJ20_compareTo_1 rfl (lv_at hl 1 rfl) ?_
  refine g_castS X hR hb rfl q539 dJ20_compareTo_2 ?_
  refine gcV X hl.1 hR hS 1 [.ref b] [] (c_cmpTo2 l Γ G ha hb) ha rfl q579 q580 q581 q62 q582 rfl rfl ⟨rfl, by decide +kernel, by decide +kernel, by decide +kernel⟩ ⟨by (try dsimp only [RM]); omega, by (try dsimp only [RM]); omega⟩ rfl rfl (Nat.le_of_ble_eq_true rfl) dJ20_compareTo_5 ⟨by (try dsimp only [RM]); omega, by (try dsimp only [RM]); omega⟩ (fun v238 G239 H locs hq235 hR236 hS237 => ?_)
  obtain ⟨rfl, rfl⟩ := hq235
  exact g_iret X hr hlk hR236 hS237 (⟨rfl, rfl⟩) (by (try dsimp only [RM]); omega) (by (try dsimp only [RM]); omega) dJ20_compareTo_8
