set_option maxRecDepth 100000
/-! the model: its operations that write -/
theorem nI_ltk {n k : Nat} (hn : n ≤ k) (hk : k < 2 ^ 31) (h : ¬ nI n = nI k) : nI n < nI k := by
  refine nI_lt ?_ hk
  rcases Nat.lt_or_ge n k with h1 | h1
  · exact h1
  · exact absurd (by rw [show n = k by omega]) h
theorem nI_lts {n k : Nat} (hn : n ≤ k) (hk : k < 2 ^ 31) (h : ¬ nI n = nI k) : n < k := by
  rcases Nat.lt_or_ge n k with h1 | h1
  · exact h1
  · exact absurd (by rw [show n = k by omega]) h

theorem va_up_0 {f : Nat → Int32} {n : Nat} (h : f n = 0) : f = va_up f n 0 := by
  funext j
  by_cases e : j = n
  · subst e; rw [va_up_self]; exact h
  · rw [va_up_ne _ _ e]

set_option maxHeartbeats 4000000 in
theorem m_open (l : Launch) (Γ : GP) (G : GH) {m : Nat} {σ : MS} {th : Int32} {B : Nat → Nat} (hW : WF σ) (hM : MP Γ G m σ th B) {b : Int32} (hz : σ.2 1 (σ.1 0) = 0) : MetG l yX2_open (ws_ yX2_open cX2_open 2 (some .int)) (RM 3 0 0) Γ G [.ref m, .int b] (fun v G1 => MR Γ G G1 m σ (tauO σ b) B (k0 σ b) (nI (σ.1 0)) v) 0 0 := by
  refine gMet (own := RX2) (by decide) rfl (Nat.le_of_ble_eq_true rfl) ?_
  intro pp ee ss mm below meth cc0 ls X hr hlk hin hnm hR hS hl
  have hl : lv_has ls 2 [(0, .ref m), (1, .int b)] := hl
  have hm : G m = some (MOc (nI (σ.1 0)) (σ.2 12 0) (nI (σ.1 1)) (nI (σ.1 2)) th B) := hM.1
  have hr0 : G (B 0) = some ((31, 0), .inl (Γ.2 1, 4, .inl (σ.2 0))) := hM.2.1 0 (by decide)
  refine lv_aload_n X.hx X.hb dX2_open_0 rfl (lv_at hl 0 rfl) ?_
  refine lv_iload_n X.hx X.hb dX2_open_1 rfl (lv_at hl 1 rfl) ?_
  refine lv_iconst (v := 1) X.hx X.hb dX2_open_2 (by decide) ?_
  refine lv_sipush (v := 1000) X.hx X.hb dX2_open_3 (by decide) ?_
  refine gcS X hl.1 hR hS 3 [.int b, .int 1, .int 1000] [.ref m] (m_isIn l Γ G) q1368 q1369 q40 q1370 rfl rfl ⟨by decide +kernel, by decide +kernel, by decide +kernel⟩ ⟨by (try dsimp only [RM]); omega, by (try dsimp only [RM]); omega⟩ rfl rfl (Nat.le_of_ble_eq_true rfl) dX2_open_6 ⟨by (try dsimp only [RM]); omega, by (try dsimp only [RM]); omega⟩ (fun v215 G216 H locs hq212 hR213 hS214 => ?_)
  obtain ⟨rfl, rfl⟩ := hq212
  by_cases hb : bad 1 1000 b
  · rw [if_pos hb]
    refine lv_if_ne (tgt := 16) X.hx X.hb dX2_open_9 (by decide) (fun c9 => ?_) (fun c9 => ?_)
    · exact absurd rfl c9
    · refine lv_iconst (v := 1) X.hx X.hb dX2_open_12 (by decide) ?_
      refine lv_goto (tgt := 29) X.hx X.hb dX2_open_13 (by decide) ?_
      refine g_put X hR213 hS214 hm (Nat.le_of_ble_eq_true rfl) rfl in_X2 tyX2 tyX2_ok nmX2 20 (by decide) q1315 (fun _ h => h) rfl rfl rfl (Nat.le_of_ble_eq_true rfl) dX2_open_29 (fun H locs hR217 hS218 => ?_)
      obtain ⟨G219, hG219⟩ : ∃ z : GH, z = gu G m ((30, 0), .inr (1, [.int (nI (σ.1 0)), .ref (B 0), .ref (B 1), .int (σ.2 12 0), .int (nI (σ.1 1)), .ref (B 2), .ref (B 3), .ref (B 4), .int (nI (σ.1 2)), .ref (B 5), .ref (B 6), .ref (B 7), .ref (B 8), .ref (B 9), .ref (B 10), .ref (B 11), .ref (B 12), .ref (B 13), .ref (B 14), .ref (B 15), .int 1])) := ⟨_, rfl⟩
      have hR217 : Rep Γ G219 H := by rw [hG219]; exact hR217
      have f220 : G219 (B 0) = some ((31, 0), .inl (Γ.2 1, 4, .inl (σ.2 0))) := by rw [hG219]; exact gu_t hr0 hm (tne rfl)
      have f221 : G219 m = some ((30, 0), .inr (1, [.int (nI (σ.1 0)), .ref (B 0), .ref (B 1), .int (σ.2 12 0), .int (nI (σ.1 1)), .ref (B 2), .ref (B 3), .ref (B 4), .int (nI (σ.1 2)), .ref (B 5), .ref (B 6), .ref (B 7), .ref (B 8), .ref (B 9), .ref (B 10), .ref (B 11), .ref (B 12), .ref (B 13), .ref (B 14), .ref (B 15), .int 1])) := by rw [hG219]; exact gu_s _ _ _
      have hM222 := hM.obj hG219
      refine lv_aload_n X.hx X.hb dX2_open_32 rfl (lv_at hl 0 rfl) ?_
      refine g_get X hR217 f221 rfl in_X2 20 (by decide) q1315 (fun _ h => h) rfl dX2_open_33 ?_
      refine lv_if_le (tgt := 41) X.hx X.hb dX2_open_36 (by decide) (fun c36 => ?_) (fun c36 => ?_)
      · exact absurd c36 (by decide)
      · refine lv_iconst (v := 0) X.hx X.hb dX2_open_39 (by decide) ?_
        have hkk : k0 σ b = 1 := by rw [k0, if_pos hb]
        exact g_iret X hr hlk hR217 hS218 (⟨Or.inr ⟨by rw [hkk]; decide, ⟨_, rfl⟩, by rw [hkk]; exact hM222⟩, (gK.pt hG219 hm (by show 30 ≤ 30 ∧ 30 < 40; decide))⟩) (by (try dsimp only [RM]); omega) (by (try dsimp only [RM]); omega) dX2_open_40
  · rw [if_neg hb]
    refine lv_if_ne (tgt := 16) X.hx X.hb dX2_open_9 (by decide) (fun c9 => ?_) (fun c9 => ?_)
    · refine lv_aload_n X.hx X.hb dX2_open_16 rfl (lv_at hl 0 rfl) ?_
      refine g_get X hR213 hm rfl in_X2 0 (by decide) q1295 (fun _ h => h) rfl dX2_open_17 ?_
      refine lv_iconst (v := 4) X.hx X.hb dX2_open_20 (by decide) ?_
      refine lv_icmp_ne (tgt := 28) X.hx X.hb dX2_open_21 (by decide) (fun c21 => ?_) (fun c21 => ?_)
      · refine lv_iconst (v := 0) X.hx X.hb dX2_open_28 (by decide) ?_
        refine g_put X hR213 hS214 hm (Nat.le_of_ble_eq_true rfl) rfl in_X2 tyX2 tyX2_ok nmX2 20 (by decide) q1315 (fun _ h => h) rfl rfl rfl (Nat.le_of_ble_eq_true rfl) dX2_open_29 (fun H locs hR223 hS224 => ?_)
        obtain ⟨G225, hG225⟩ : ∃ z : GH, z = gu G m ((30, 0), .inr (1, [.int (nI (σ.1 0)), .ref (B 0), .ref (B 1), .int (σ.2 12 0), .int (nI (σ.1 1)), .ref (B 2), .ref (B 3), .ref (B 4), .int (nI (σ.1 2)), .ref (B 5), .ref (B 6), .ref (B 7), .ref (B 8), .ref (B 9), .ref (B 10), .ref (B 11), .ref (B 12), .ref (B 13), .ref (B 14), .ref (B 15), .int 0])) := ⟨_, rfl⟩
        have hR223 : Rep Γ G225 H := by rw [hG225]; exact hR223
        have f226 : G225 (B 0) = some ((31, 0), .inl (Γ.2 1, 4, .inl (σ.2 0))) := by rw [hG225]; exact gu_t hr0 hm (tne rfl)
        have f227 : G225 m = some ((30, 0), .inr (1, [.int (nI (σ.1 0)), .ref (B 0), .ref (B 1), .int (σ.2 12 0), .int (nI (σ.1 1)), .ref (B 2), .ref (B 3), .ref (B 4), .int (nI (σ.1 2)), .ref (B 5), .ref (B 6), .ref (B 7), .ref (B 8), .ref (B 9), .ref (B 10), .ref (B 11), .ref (B 12), .ref (B 13), .ref (B 14), .ref (B 15), .int 0])) := by rw [hG225]; exact gu_s _ _ _
        have hM228 := hM.obj hG225
        refine lv_aload_n X.hx X.hb dX2_open_32 rfl (lv_at hl 0 rfl) ?_
        refine g_get X hR223 f227 rfl in_X2 20 (by decide) q1315 (fun _ h => h) rfl dX2_open_33 ?_
        refine lv_if_le (tgt := 41) X.hx X.hb dX2_open_36 (by decide) (fun c36 => ?_) (fun c36 => ?_)
        · refine lv_aload_n X.hx X.hb dX2_open_41 rfl (lv_at hl 0 rfl) ?_
          refine g_get X hR223 f227 rfl in_X2 1 (by decide) q1296 (fun _ h => h) rfl dX2_open_42 ?_
          refine lv_aload_n X.hx X.hb dX2_open_45 rfl (lv_at hl 0 rfl) ?_
          refine g_get X hR223 f227 rfl in_X2 0 (by decide) q1295 (fun _ h => h) rfl dX2_open_46 ?_
          refine lv_iload_n X.hx X.hb dX2_open_49 rfl (lv_at hl 1 rfl) ?_
          have hn4 := nI_lts (k := 4) hW.1 (by decide) c21
          refine g_iast X hR223 hS224 f226 (Nat.le_of_ble_eq_true rfl) (vp_in_nI hn4 (by decide)) dX2_open_50 (fun H locs hR229 hS230 => ?_)
          obtain ⟨G231, hG231⟩ : ∃ z : GH, z = gu G225 (B 0) ((31, 0), .inl (Γ.2 1, 4, .inl (upd (σ.2 0) ((nI (σ.1 0)).toNatClampNeg) b))) := ⟨_, rfl⟩
          have hR229 : Rep Γ G231 H := by rw [hG231]; exact hR229
          have f232 : G231 m = some ((30, 0), .inr (1, [.int (nI (σ.1 0)), .ref (B 0), .ref (B 1), .int (σ.2 12 0), .int (nI (σ.1 1)), .ref (B 2), .ref (B 3), .ref (B 4), .int (nI (σ.1 2)), .ref (B 5), .ref (B 6), .ref (B 7), .ref (B 8), .ref (B 9), .ref (B 10), .ref (B 11), .ref (B 12), .ref (B 13), .ref (B 14), .ref (B 15), .int 0])) := by rw [hG231]; exact gu_t f227 f226 (tne rfl)
          have f233 : G231 (B 0) = some ((31, 0), .inl (Γ.2 1, 4, .inl (upd (σ.2 0) ((nI (σ.1 0)).toNatClampNeg) b))) := by rw [hG231]; exact gu_s _ _ _
          have hM234 := hM228.row (G1 := G231) (r := 0) (g := va_up (σ.2 0) (σ.1 0) b) (by decide) (by rw [hG231, updn (show σ.1 0 < 2 ^ 31 by omega)]; rfl)
          refine lv_aload_n X.hx X.hb dX2_open_51 rfl (lv_at hl 0 rfl) ?_
          refine lv_dup X.hx X.hb dX2_open_52 rfl ?_
          refine g_get X hR229 f232 rfl in_X2 0 (by decide) q1295 (fun _ h => h) rfl dX2_open_53 ?_
          refine lv_iconst (v := 1) X.hx X.hb dX2_open_56 (by decide) ?_
          refine lv_iadd X.hx X.hb dX2_open_57 ?_
          refine lv_topi (fun x235 hx235 => ?_)
          obtain rfl : x235 = nI (σ.1 0 + 1) := hx235.trans (nI_1 _)
          refine g_put X hR229 hS230 f232 (Nat.le_of_ble_eq_true rfl) rfl in_X2 tyX2 tyX2_ok nmX2 0 (by decide) q1295 (fun _ h => h) rfl rfl rfl (Nat.le_of_ble_eq_true rfl) dX2_open_58 (fun H locs hR236 hS237 => ?_)
          obtain ⟨G238, hG238⟩ : ∃ z : GH, z = gu G231 m ((30, 0), .inr (1, [.int (nI (σ.1 0 + 1)), .ref (B 0), .ref (B 1), .int (σ.2 12 0), .int (nI (σ.1 1)), .ref (B 2), .ref (B 3), .ref (B 4), .int (nI (σ.1 2)), .ref (B 5), .ref (B 6), .ref (B 7), .ref (B 8), .ref (B 9), .ref (B 10), .ref (B 11), .ref (B 12), .ref (B 13), .ref (B 14), .ref (B 15), .int 0])) := ⟨_, rfl⟩
          have hR236 : Rep Γ G238 H := by rw [hG238]; exact hR236
          have f239 : G238 (B 0) = some ((31, 0), .inl (Γ.2 1, 4, .inl (upd (σ.2 0) ((nI (σ.1 0)).toNatClampNeg) b))) := by rw [hG238]; exact gu_t f233 f232 (tne rfl)
          have f240 : G238 m = some ((30, 0), .inr (1, [.int (nI (σ.1 0 + 1)), .ref (B 0), .ref (B 1), .int (σ.2 12 0), .int (nI (σ.1 1)), .ref (B 2), .ref (B 3), .ref (B 4), .int (nI (σ.1 2)), .ref (B 5), .ref (B 6), .ref (B 7), .ref (B 8), .ref (B 9), .ref (B 10), .ref (B 11), .ref (B 12), .ref (B 13), .ref (B 14), .ref (B 15), .int 0])) := by rw [hG238]; exact gu_s _ _ _
          have hM241 := hM234.obj hG238
          refine lv_aload_n X.hx X.hb dX2_open_61 rfl (lv_at hl 0 rfl) ?_
          refine g_get X hR236 f240 rfl in_X2 0 (by decide) q1295 (fun _ h => h) rfl dX2_open_62 ?_
          refine lv_iconst (v := 1) X.hx X.hb dX2_open_65 (by decide) ?_
          refine lv_isub X.hx X.hb dX2_open_66 ?_
          refine lv_topi (fun x242 hx242 => ?_)
          obtain rfl : x242 = nI (σ.1 0) := hx242.trans (nI_pred _)
          exact g_iret X hr hlk hR236 hS237 (⟨Or.inl ⟨by rw [k0, if_neg hb, if_neg (fun h9 => h9 (nI_ltk (k := 4) hW.1 (by decide) c21))], rfl, hM241.to (tauO σ b) rfl rfl rfl rfl (fun r hr => by rcases c12 hr with rfl | rfl | rfl | rfl | rfl | rfl | rfl | rfl | rfl | rfl | rfl | rfl <;> first | rfl | exact va_up_0 hz)⟩, (gK.tr (gK.tr (gK.pt hG225 hm (by show 30 ≤ 30 ∧ 30 < 40; decide)) (gK.pt hG231 f226 (by show 30 ≤ 31 ∧ 31 < 40; decide))) (gK.pt hG238 f232 (by show 30 ≤ 30 ∧ 30 < 40; decide)))⟩) (by (try dsimp only [RM]); omega) (by (try dsimp only [RM]); omega) dX2_open_67
        · exact absurd (by decide) c36
      · refine lv_iconst (v := 2) X.hx X.hb dX2_open_24 (by decide) ?_
        refine lv_goto (tgt := 29) X.hx X.hb dX2_open_25 (by decide) ?_
        refine g_put X hR213 hS214 hm (Nat.le_of_ble_eq_true rfl) rfl in_X2 tyX2 tyX2_ok nmX2 20 (by decide) q1315 (fun _ h => h) rfl rfl rfl (Nat.le_of_ble_eq_true rfl) dX2_open_29 (fun H locs hR243 hS244 => ?_)
        obtain ⟨G245, hG245⟩ : ∃ z : GH, z = gu G m ((30, 0), .inr (1, [.int (nI (σ.1 0)), .ref (B 0), .ref (B 1), .int (σ.2 12 0), .int (nI (σ.1 1)), .ref (B 2), .ref (B 3), .ref (B 4), .int (nI (σ.1 2)), .ref (B 5), .ref (B 6), .ref (B 7), .ref (B 8), .ref (B 9), .ref (B 10), .ref (B 11), .ref (B 12), .ref (B 13), .ref (B 14), .ref (B 15), .int 2])) := ⟨_, rfl⟩
        have hR243 : Rep Γ G245 H := by rw [hG245]; exact hR243
        have f246 : G245 (B 0) = some ((31, 0), .inl (Γ.2 1, 4, .inl (σ.2 0))) := by rw [hG245]; exact gu_t hr0 hm (tne rfl)
        have f247 : G245 m = some ((30, 0), .inr (1, [.int (nI (σ.1 0)), .ref (B 0), .ref (B 1), .int (σ.2 12 0), .int (nI (σ.1 1)), .ref (B 2), .ref (B 3), .ref (B 4), .int (nI (σ.1 2)), .ref (B 5), .ref (B 6), .ref (B 7), .ref (B 8), .ref (B 9), .ref (B 10), .ref (B 11), .ref (B 12), .ref (B 13), .ref (B 14), .ref (B 15), .int 2])) := by rw [hG245]; exact gu_s _ _ _
        have hM248 := hM.obj hG245
        refine lv_aload_n X.hx X.hb dX2_open_32 rfl (lv_at hl 0 rfl) ?_
        refine g_get X hR243 f247 rfl in_X2 20 (by decide) q1315 (fun _ h => h) rfl dX2_open_33 ?_
        refine lv_if_le (tgt := 41) X.hx X.hb dX2_open_36 (by decide) (fun c36 => ?_) (fun c36 => ?_)
        · exact absurd c36 (by decide)
        · refine lv_iconst (v := 0) X.hx X.hb dX2_open_39 (by decide) ?_
          have hkk : k0 σ b = 2 := by rw [k0, if_neg hb, if_pos (by rw [c21]; decide)]
          exact g_iret X hr hlk hR243 hS244 (⟨Or.inr ⟨by rw [hkk]; decide, ⟨_, rfl⟩, by rw [hkk]; exact hM248⟩, (gK.pt hG245 hm (by show 30 ≤ 30 ∧ 30 < 40; decide))⟩) (by (try dsimp only [RM]); omega) (by (try dsimp only [RM]); omega) dX2_open_40
    · exact absurd c9 (by decide)

set_option maxHeartbeats 4000000 in
theorem m_setWeight (l : Launch) (Γ : GP) (G : GH) {m : Nat} {σ : MS} {th : Int32} {B : Nat → Nat} (hW : WF σ) (hM : MP Γ G m σ th B) {f w fr : Int32} : MetG l yX2_setWeight (ws_ yX2_setWeight cX2_setWeight 4 (some .int)) (RM 3 0 0) Γ G [.ref m, .int f, .int w, .int fr] (fun v G1 => MR Γ G G1 m σ (tauW σ f w fr) B (k1 σ f w fr) (nI (σ.1 1 + 1)) v) 0 0 := by
  refine gMet (own := RX2) (by decide) rfl (Nat.le_of_ble_eq_true rfl) ?_
  intro pp ee ss mm below meth cc0 ls X hr hlk hin hnm hR hS hl
  have hl : lv_has ls 4 [(0, .ref m), (1, .int f), (2, .int w), (3, .int fr)] := hl
  have hm : G m = some (MOc (nI (σ.1 0)) (σ.2 12 0) (nI (σ.1 1)) (nI (σ.1 2)) th B) := hM.1
  have hr2 : G (B 2) = some ((31, 2), .inl (Γ.2 1, 20, .inl (σ.2 2))) := hM.2.1 2 (by decide)
  have hr3 : G (B 3) = some ((31, 3), .inl (Γ.2 1, 20, .inl (σ.2 3))) := hM.2.1 3 (by decide)
  have hr4 : G (B 4) = some ((31, 4), .inl (Γ.2 1, 20, .inl (σ.2 4))) := hM.2.1 4 (by decide)
  refine lv_aload_n X.hx X.hb dX2_setWeight_0 rfl (lv_at hl 0 rfl) ?_
  refine lv_iload_n X.hx X.hb dX2_setWeight_1 rfl (lv_at hl 1 rfl) ?_
  refine gcS X hl.1 hR hS 1 [.int f] [.ref m] (m_isField l Γ G) q1375 q1376 q40 q1377 rfl rfl ⟨by decide +kernel, by decide +kernel, by decide +kernel⟩ ⟨by (try dsimp only [RM]); omega, by (try dsimp only [RM]); omega⟩ rfl rfl (Nat.le_of_ble_eq_true rfl) dX2_setWeight_2 ⟨by (try dsimp only [RM]); omega, by (try dsimp only [RM]); omega⟩ (fun v252 G253 H locs hq249 hR250 hS251 => ?_)
  obtain ⟨rfl, rfl⟩ := hq249
  by_cases hF : bdP 3 f
  · rw [if_pos hF]
    refine lv_if_ne (tgt := 12) X.hx X.hb dX2_setWeight_5 (by decide) (fun c5 => ?_) (fun c5 => ?_)
    · exact absurd rfl c5
    · refine lv_iconst (v := 1) X.hx X.hb dX2_setWeight_8 (by decide) ?_
      refine lv_goto (tgt := 47) X.hx X.hb dX2_setWeight_9 (by decide) ?_
      refine g_put X hR250 hS251 hm (Nat.le_of_ble_eq_true rfl) rfl in_X2 tyX2 tyX2_ok nmX2 20 (by decide) q1315 (fun _ h => h) rfl rfl rfl (Nat.le_of_ble_eq_true rfl) dX2_setWeight_47 (fun H locs hR254 hS255 => ?_)
      obtain ⟨G256, hG256⟩ : ∃ z : GH, z = gu G m ((30, 0), .inr (1, [.int (nI (σ.1 0)), .ref (B 0), .ref (B 1), .int (σ.2 12 0), .int (nI (σ.1 1)), .ref (B 2), .ref (B 3), .ref (B 4), .int (nI (σ.1 2)), .ref (B 5), .ref (B 6), .ref (B 7), .ref (B 8), .ref (B 9), .ref (B 10), .ref (B 11), .ref (B 12), .ref (B 13), .ref (B 14), .ref (B 15), .int 1])) := ⟨_, rfl⟩
      have hR254 : Rep Γ G256 H := by rw [hG256]; exact hR254
      have f257 : G256 (B 2) = some ((31, 2), .inl (Γ.2 1, 20, .inl (σ.2 2))) := by rw [hG256]; exact gu_t hr2 hm (tne rfl)
      have f258 : G256 (B 3) = some ((31, 3), .inl (Γ.2 1, 20, .inl (σ.2 3))) := by rw [hG256]; exact gu_t hr3 hm (tne rfl)
      have f259 : G256 (B 4) = some ((31, 4), .inl (Γ.2 1, 20, .inl (σ.2 4))) := by rw [hG256]; exact gu_t hr4 hm (tne rfl)
      have f260 : G256 m = some ((30, 0), .inr (1, [.int (nI (σ.1 0)), .ref (B 0), .ref (B 1), .int (σ.2 12 0), .int (nI (σ.1 1)), .ref (B 2), .ref (B 3), .ref (B 4), .int (nI (σ.1 2)), .ref (B 5), .ref (B 6), .ref (B 7), .ref (B 8), .ref (B 9), .ref (B 10), .ref (B 11), .ref (B 12), .ref (B 13), .ref (B 14), .ref (B 15), .int 1])) := by rw [hG256]; exact gu_s _ _ _
      have hM261 := hM.obj hG256
      refine lv_aload_n X.hx X.hb dX2_setWeight_50 rfl (lv_at hl 0 rfl) ?_
      refine g_get X hR254 f260 rfl in_X2 20 (by decide) q1315 (fun _ h => h) rfl dX2_setWeight_51 ?_
      refine lv_if_le (tgt := 59) X.hx X.hb dX2_setWeight_54 (by decide) (fun c54 => ?_) (fun c54 => ?_)
      · exact absurd c54 (by decide)
      · refine lv_iconst (v := 0) X.hx X.hb dX2_setWeight_57 (by decide) ?_
        have hkk : k1 σ f w fr = 1 := by rw [k1, if_pos hF]
        exact g_iret X hr hlk hR254 hS255 (⟨Or.inr ⟨by rw [hkk]; decide, ⟨_, rfl⟩, by rw [hkk]; exact hM261⟩, (gK.pt hG256 hm (by show 30 ≤ 30 ∧ 30 < 40; decide))⟩) (by (try dsimp only [RM]); omega) (by (try dsimp only [RM]); omega) dX2_setWeight_58
  · rw [if_neg hF]
    refine lv_if_ne (tgt := 12) X.hx X.hb dX2_setWeight_5 (by decide) (fun c5 => ?_) (fun c5 => ?_)
    · refine lv_iload_n X.hx X.hb dX2_setWeight_12 rfl (lv_at hl 2 rfl) ?_
      refine lv_iconst (v := 0) X.hx X.hb dX2_setWeight_13 (by decide) ?_
      refine lv_bipush (v := 100) X.hx X.hb dX2_setWeight_14 (by decide) ?_
      refine gcS X hl.1 hR250 hS251 3 [.int w, .int 0, .int 100] [.ref m] (m_isIn l Γ G) q1368 q1369 q40 q1370 rfl rfl ⟨by decide +kernel, by decide +kernel, by decide +kernel⟩ ⟨by (try dsimp only [RM]); omega, by (try dsimp only [RM]); omega⟩ rfl rfl (Nat.le_of_ble_eq_true rfl) dX2_setWeight_16 ⟨by (try dsimp only [RM]); omega, by (try dsimp only [RM]); omega⟩ (fun v265 G266 H locs hq262 hR263 hS264 => ?_)
      obtain ⟨rfl, rfl⟩ := hq262
      by_cases hw : bad 0 100 w
      · rw [if_pos hw]
        refine lv_if_eq (tgt := 29) X.hx X.hb dX2_setWeight_19 (by decide) (fun c19 => ?_) (fun c19 => ?_)
        · refine lv_iconst (v := 2) X.hx X.hb dX2_setWeight_29 (by decide) ?_
          refine lv_goto (tgt := 47) X.hx X.hb dX2_setWeight_30 (by decide) ?_
          refine g_put X hR263 hS264 hm (Nat.le_of_ble_eq_true rfl) rfl in_X2 tyX2 tyX2_ok nmX2 20 (by decide) q1315 (fun _ h => h) rfl rfl rfl (Nat.le_of_ble_eq_true rfl) dX2_setWeight_47 (fun H locs hR267 hS268 => ?_)
          obtain ⟨G269, hG269⟩ : ∃ z : GH, z = gu G m ((30, 0), .inr (1, [.int (nI (σ.1 0)), .ref (B 0), .ref (B 1), .int (σ.2 12 0), .int (nI (σ.1 1)), .ref (B 2), .ref (B 3), .ref (B 4), .int (nI (σ.1 2)), .ref (B 5), .ref (B 6), .ref (B 7), .ref (B 8), .ref (B 9), .ref (B 10), .ref (B 11), .ref (B 12), .ref (B 13), .ref (B 14), .ref (B 15), .int 2])) := ⟨_, rfl⟩
          have hR267 : Rep Γ G269 H := by rw [hG269]; exact hR267
          have f270 : G269 (B 2) = some ((31, 2), .inl (Γ.2 1, 20, .inl (σ.2 2))) := by rw [hG269]; exact gu_t hr2 hm (tne rfl)
          have f271 : G269 (B 3) = some ((31, 3), .inl (Γ.2 1, 20, .inl (σ.2 3))) := by rw [hG269]; exact gu_t hr3 hm (tne rfl)
          have f272 : G269 (B 4) = some ((31, 4), .inl (Γ.2 1, 20, .inl (σ.2 4))) := by rw [hG269]; exact gu_t hr4 hm (tne rfl)
          have f273 : G269 m = some ((30, 0), .inr (1, [.int (nI (σ.1 0)), .ref (B 0), .ref (B 1), .int (σ.2 12 0), .int (nI (σ.1 1)), .ref (B 2), .ref (B 3), .ref (B 4), .int (nI (σ.1 2)), .ref (B 5), .ref (B 6), .ref (B 7), .ref (B 8), .ref (B 9), .ref (B 10), .ref (B 11), .ref (B 12), .ref (B 13), .ref (B 14), .ref (B 15), .int 2])) := by rw [hG269]; exact gu_s _ _ _
          have hM274 := hM.obj hG269
          refine lv_aload_n X.hx X.hb dX2_setWeight_50 rfl (lv_at hl 0 rfl) ?_
          refine g_get X hR267 f273 rfl in_X2 20 (by decide) q1315 (fun _ h => h) rfl dX2_setWeight_51 ?_
          refine lv_if_le (tgt := 59) X.hx X.hb dX2_setWeight_54 (by decide) (fun c54 => ?_) (fun c54 => ?_)
          · exact absurd c54 (by decide)
          · refine lv_iconst (v := 0) X.hx X.hb dX2_setWeight_57 (by decide) ?_
            have hkk : k1 σ f w fr = 2 := by rw [k1, if_neg hF, if_pos (Or.inl hw)]
            exact g_iret X hr hlk hR267 hS268 (⟨Or.inr ⟨by rw [hkk]; decide, ⟨_, rfl⟩, by rw [hkk]; exact hM274⟩, (gK.pt hG269 hm (by show 30 ≤ 30 ∧ 30 < 40; decide))⟩) (by (try dsimp only [RM]); omega) (by (try dsimp only [RM]); omega) dX2_setWeight_58
        · exact absurd (by decide) c19
      · rw [if_neg hw]
        refine lv_if_eq (tgt := 29) X.hx X.hb dX2_setWeight_19 (by decide) (fun c19 => ?_) (fun c19 => ?_)
        · exact absurd c19 (by decide)
        · refine lv_iload_n X.hx X.hb dX2_setWeight_22 rfl (lv_at hl 3 rfl) ?_
          refine gcS X hl.1 hR263 hS264 1 [.int fr] [.ref m] (m_isDay l Γ G) q1378 q1379 q40 q1380 rfl rfl ⟨by decide +kernel, by decide +kernel, by decide +kernel⟩ ⟨by (try dsimp only [RM]); omega, by (try dsimp only [RM]); omega⟩ rfl rfl (Nat.le_of_ble_eq_true rfl) dX2_setWeight_23 ⟨by (try dsimp only [RM]); omega, by (try dsimp only [RM]); omega⟩ (fun v278 G279 H locs hq275 hR276 hS277 => ?_)
          obtain ⟨rfl, rfl⟩ := hq275
          by_cases hr9 : bad 0 364 fr
          · rw [if_pos hr9]
            refine lv_if_ne (tgt := 33) X.hx X.hb dX2_setWeight_26 (by decide) (fun c26 => ?_) (fun c26 => ?_)
            · exact absurd rfl c26
            · refine lv_iconst (v := 2) X.hx X.hb dX2_setWeight_29 (by decide) ?_
              refine lv_goto (tgt := 47) X.hx X.hb dX2_setWeight_30 (by decide) ?_
              refine g_put X hR276 hS277 hm (Nat.le_of_ble_eq_true rfl) rfl in_X2 tyX2 tyX2_ok nmX2 20 (by decide) q1315 (fun _ h => h) rfl rfl rfl (Nat.le_of_ble_eq_true rfl) dX2_setWeight_47 (fun H locs hR280 hS281 => ?_)
              obtain ⟨G282, hG282⟩ : ∃ z : GH, z = gu G m ((30, 0), .inr (1, [.int (nI (σ.1 0)), .ref (B 0), .ref (B 1), .int (σ.2 12 0), .int (nI (σ.1 1)), .ref (B 2), .ref (B 3), .ref (B 4), .int (nI (σ.1 2)), .ref (B 5), .ref (B 6), .ref (B 7), .ref (B 8), .ref (B 9), .ref (B 10), .ref (B 11), .ref (B 12), .ref (B 13), .ref (B 14), .ref (B 15), .int 2])) := ⟨_, rfl⟩
              have hR280 : Rep Γ G282 H := by rw [hG282]; exact hR280
              have f283 : G282 (B 2) = some ((31, 2), .inl (Γ.2 1, 20, .inl (σ.2 2))) := by rw [hG282]; exact gu_t hr2 hm (tne rfl)
              have f284 : G282 (B 3) = some ((31, 3), .inl (Γ.2 1, 20, .inl (σ.2 3))) := by rw [hG282]; exact gu_t hr3 hm (tne rfl)
              have f285 : G282 (B 4) = some ((31, 4), .inl (Γ.2 1, 20, .inl (σ.2 4))) := by rw [hG282]; exact gu_t hr4 hm (tne rfl)
              have f286 : G282 m = some ((30, 0), .inr (1, [.int (nI (σ.1 0)), .ref (B 0), .ref (B 1), .int (σ.2 12 0), .int (nI (σ.1 1)), .ref (B 2), .ref (B 3), .ref (B 4), .int (nI (σ.1 2)), .ref (B 5), .ref (B 6), .ref (B 7), .ref (B 8), .ref (B 9), .ref (B 10), .ref (B 11), .ref (B 12), .ref (B 13), .ref (B 14), .ref (B 15), .int 2])) := by rw [hG282]; exact gu_s _ _ _
              have hM287 := hM.obj hG282
              refine lv_aload_n X.hx X.hb dX2_setWeight_50 rfl (lv_at hl 0 rfl) ?_
              refine g_get X hR280 f286 rfl in_X2 20 (by decide) q1315 (fun _ h => h) rfl dX2_setWeight_51 ?_
              refine lv_if_le (tgt := 59) X.hx X.hb dX2_setWeight_54 (by decide) (fun c54 => ?_) (fun c54 => ?_)
              · exact absurd c54 (by decide)
              · refine lv_iconst (v := 0) X.hx X.hb dX2_setWeight_57 (by decide) ?_
                have hkk : k1 σ f w fr = 2 := by rw [k1, if_neg hF, if_pos (Or.inr hr9)]
                exact g_iret X hr hlk hR280 hS281 (⟨Or.inr ⟨by rw [hkk]; decide, ⟨_, rfl⟩, by rw [hkk]; exact hM287⟩, (gK.pt hG282 hm (by show 30 ≤ 30 ∧ 30 < 40; decide))⟩) (by (try dsimp only [RM]); omega) (by (try dsimp only [RM]); omega) dX2_setWeight_58
          · rw [if_neg hr9]
            refine lv_if_ne (tgt := 33) X.hx X.hb dX2_setWeight_26 (by decide) (fun c26 => ?_) (fun c26 => ?_)
            · refine lv_aload_n X.hx X.hb dX2_setWeight_33 rfl (lv_at hl 0 rfl) ?_
              refine g_get X hR276 hm rfl in_X2 4 (by decide) q1299 (fun _ h => h) rfl dX2_setWeight_34 ?_
              refine lv_bipush (v := 20) X.hx X.hb dX2_setWeight_37 (by decide) ?_
              refine lv_icmp_ne (tgt := 46) X.hx X.hb dX2_setWeight_39 (by decide) (fun c39 => ?_) (fun c39 => ?_)
              · refine lv_iconst (v := 0) X.hx X.hb dX2_setWeight_46 (by decide) ?_
                refine g_put X hR276 hS277 hm (Nat.le_of_ble_eq_true rfl) rfl in_X2 tyX2 tyX2_ok nmX2 20 (by decide) q1315 (fun _ h => h) rfl rfl rfl (Nat.le_of_ble_eq_true rfl) dX2_setWeight_47 (fun H locs hR288 hS289 => ?_)
                obtain ⟨G290, hG290⟩ : ∃ z : GH, z = gu G m ((30, 0), .inr (1, [.int (nI (σ.1 0)), .ref (B 0), .ref (B 1), .int (σ.2 12 0), .int (nI (σ.1 1)), .ref (B 2), .ref (B 3), .ref (B 4), .int (nI (σ.1 2)), .ref (B 5), .ref (B 6), .ref (B 7), .ref (B 8), .ref (B 9), .ref (B 10), .ref (B 11), .ref (B 12), .ref (B 13), .ref (B 14), .ref (B 15), .int 0])) := ⟨_, rfl⟩
                have hR288 : Rep Γ G290 H := by rw [hG290]; exact hR288
                have f291 : G290 (B 2) = some ((31, 2), .inl (Γ.2 1, 20, .inl (σ.2 2))) := by rw [hG290]; exact gu_t hr2 hm (tne rfl)
                have f292 : G290 (B 3) = some ((31, 3), .inl (Γ.2 1, 20, .inl (σ.2 3))) := by rw [hG290]; exact gu_t hr3 hm (tne rfl)
                have f293 : G290 (B 4) = some ((31, 4), .inl (Γ.2 1, 20, .inl (σ.2 4))) := by rw [hG290]; exact gu_t hr4 hm (tne rfl)
                have f294 : G290 m = some ((30, 0), .inr (1, [.int (nI (σ.1 0)), .ref (B 0), .ref (B 1), .int (σ.2 12 0), .int (nI (σ.1 1)), .ref (B 2), .ref (B 3), .ref (B 4), .int (nI (σ.1 2)), .ref (B 5), .ref (B 6), .ref (B 7), .ref (B 8), .ref (B 9), .ref (B 10), .ref (B 11), .ref (B 12), .ref (B 13), .ref (B 14), .ref (B 15), .int 0])) := by rw [hG290]; exact gu_s _ _ _
                have hM295 := hM.obj hG290
                refine lv_aload_n X.hx X.hb dX2_setWeight_50 rfl (lv_at hl 0 rfl) ?_
                refine g_get X hR288 f294 rfl in_X2 20 (by decide) q1315 (fun _ h => h) rfl dX2_setWeight_51 ?_
                refine lv_if_le (tgt := 59) X.hx X.hb dX2_setWeight_54 (by decide) (fun c54 => ?_) (fun c54 => ?_)
                · refine lv_aload_n X.hx X.hb dX2_setWeight_59 rfl (lv_at hl 0 rfl) ?_
                  refine g_get X hR288 f294 rfl in_X2 5 (by decide) q1300 (fun _ h => h) rfl dX2_setWeight_60 ?_
                  refine lv_aload_n X.hx X.hb dX2_setWeight_63 rfl (lv_at hl 0 rfl) ?_
                  refine g_get X hR288 f294 rfl in_X2 4 (by decide) q1299 (fun _ h => h) rfl dX2_setWeight_64 ?_
                  refine lv_iload_n X.hx X.hb dX2_setWeight_67 rfl (lv_at hl 1 rfl) ?_
                  have hn20 := nI_lts (k := 20) hW.2.1 (by decide) c39
                  refine g_iast X hR288 hS289 f291 (Nat.le_of_ble_eq_true rfl) (vp_in_nI hn20 (by decide)) dX2_setWeight_68 (fun H locs hR296 hS297 => ?_)
                  obtain ⟨G298, hG298⟩ : ∃ z : GH, z = gu G290 (B 2) ((31, 2), .inl (Γ.2 1, 20, .inl (upd (σ.2 2) ((nI (σ.1 1)).toNatClampNeg) f))) := ⟨_, rfl⟩
                  have hR296 : Rep Γ G298 H := by rw [hG298]; exact hR296
                  have f299 : G298 (B 3) = some ((31, 3), .inl (Γ.2 1, 20, .inl (σ.2 3))) := by rw [hG298]; exact gu_t f292 f291 (tne2 (by decide))
                  have f300 : G298 (B 4) = some ((31, 4), .inl (Γ.2 1, 20, .inl (σ.2 4))) := by rw [hG298]; exact gu_t f293 f291 (tne2 (by decide))
                  have f301 : G298 m = some ((30, 0), .inr (1, [.int (nI (σ.1 0)), .ref (B 0), .ref (B 1), .int (σ.2 12 0), .int (nI (σ.1 1)), .ref (B 2), .ref (B 3), .ref (B 4), .int (nI (σ.1 2)), .ref (B 5), .ref (B 6), .ref (B 7), .ref (B 8), .ref (B 9), .ref (B 10), .ref (B 11), .ref (B 12), .ref (B 13), .ref (B 14), .ref (B 15), .int 0])) := by rw [hG298]; exact gu_t f294 f291 (tne rfl)
                  have f302 : G298 (B 2) = some ((31, 2), .inl (Γ.2 1, 20, .inl (upd (σ.2 2) ((nI (σ.1 1)).toNatClampNeg) f))) := by rw [hG298]; exact gu_s _ _ _
                  have hM303 := hM295.row (G1 := G298) (r := 2) (g := va_up (σ.2 2) (σ.1 1) f) (by decide) (by rw [hG298, updn (show σ.1 1 < 2 ^ 31 by omega)]; rfl)
                  refine lv_aload_n X.hx X.hb dX2_setWeight_69 rfl (lv_at hl 0 rfl) ?_
                  refine g_get X hR296 f301 rfl in_X2 6 (by decide) q1301 (fun _ h => h) rfl dX2_setWeight_70 ?_
                  refine lv_aload_n X.hx X.hb dX2_setWeight_73 rfl (lv_at hl 0 rfl) ?_
                  refine g_get X hR296 f301 rfl in_X2 4 (by decide) q1299 (fun _ h => h) rfl dX2_setWeight_74 ?_
                  refine lv_iload_n X.hx X.hb dX2_setWeight_77 rfl (lv_at hl 2 rfl) ?_
                  refine g_iast X hR296 hS297 f299 (Nat.le_of_ble_eq_true rfl) (vp_in_nI hn20 (by decide)) dX2_setWeight_78 (fun H locs hR304 hS305 => ?_)
                  obtain ⟨G306, hG306⟩ : ∃ z : GH, z = gu G298 (B 3) ((31, 3), .inl (Γ.2 1, 20, .inl (upd (σ.2 3) ((nI (σ.1 1)).toNatClampNeg) w))) := ⟨_, rfl⟩
                  have hR304 : Rep Γ G306 H := by rw [hG306]; exact hR304
                  have f307 : G306 (B 4) = some ((31, 4), .inl (Γ.2 1, 20, .inl (σ.2 4))) := by rw [hG306]; exact gu_t f300 f299 (tne2 (by decide))
                  have f308 : G306 m = some ((30, 0), .inr (1, [.int (nI (σ.1 0)), .ref (B 0), .ref (B 1), .int (σ.2 12 0), .int (nI (σ.1 1)), .ref (B 2), .ref (B 3), .ref (B 4), .int (nI (σ.1 2)), .ref (B 5), .ref (B 6), .ref (B 7), .ref (B 8), .ref (B 9), .ref (B 10), .ref (B 11), .ref (B 12), .ref (B 13), .ref (B 14), .ref (B 15), .int 0])) := by rw [hG306]; exact gu_t f301 f299 (tne rfl)
                  have f309 : G306 (B 2) = some ((31, 2), .inl (Γ.2 1, 20, .inl (upd (σ.2 2) ((nI (σ.1 1)).toNatClampNeg) f))) := by rw [hG306]; exact gu_t f302 f299 (tne2 (by decide))
                  have f310 : G306 (B 3) = some ((31, 3), .inl (Γ.2 1, 20, .inl (upd (σ.2 3) ((nI (σ.1 1)).toNatClampNeg) w))) := by rw [hG306]; exact gu_s _ _ _
                  have hM311 := hM303.row (G1 := G306) (r := 3) (g := va_up (σ.2 3) (σ.1 1) w) (by decide) (by rw [hG306, updn (show σ.1 1 < 2 ^ 31 by omega)]; rfl)
                  refine lv_aload_n X.hx X.hb dX2_setWeight_79 rfl (lv_at hl 0 rfl) ?_
                  refine g_get X hR304 f308 rfl in_X2 7 (by decide) q1302 (fun _ h => h) rfl dX2_setWeight_80 ?_
                  refine lv_aload_n X.hx X.hb dX2_setWeight_83 rfl (lv_at hl 0 rfl) ?_
                  refine g_get X hR304 f308 rfl in_X2 4 (by decide) q1299 (fun _ h => h) rfl dX2_setWeight_84 ?_
                  refine lv_iload_n X.hx X.hb dX2_setWeight_87 rfl (lv_at hl 3 rfl) ?_
                  refine g_iast X hR304 hS305 f307 (Nat.le_of_ble_eq_true rfl) (vp_in_nI hn20 (by decide)) dX2_setWeight_88 (fun H locs hR312 hS313 => ?_)
                  obtain ⟨G314, hG314⟩ : ∃ z : GH, z = gu G306 (B 4) ((31, 4), .inl (Γ.2 1, 20, .inl (upd (σ.2 4) ((nI (σ.1 1)).toNatClampNeg) fr))) := ⟨_, rfl⟩
                  have hR312 : Rep Γ G314 H := by rw [hG314]; exact hR312
                  have f315 : G314 m = some ((30, 0), .inr (1, [.int (nI (σ.1 0)), .ref (B 0), .ref (B 1), .int (σ.2 12 0), .int (nI (σ.1 1)), .ref (B 2), .ref (B 3), .ref (B 4), .int (nI (σ.1 2)), .ref (B 5), .ref (B 6), .ref (B 7), .ref (B 8), .ref (B 9), .ref (B 10), .ref (B 11), .ref (B 12), .ref (B 13), .ref (B 14), .ref (B 15), .int 0])) := by rw [hG314]; exact gu_t f308 f307 (tne rfl)
                  have f316 : G314 (B 2) = some ((31, 2), .inl (Γ.2 1, 20, .inl (upd (σ.2 2) ((nI (σ.1 1)).toNatClampNeg) f))) := by rw [hG314]; exact gu_t f309 f307 (tne2 (by decide))
                  have f317 : G314 (B 3) = some ((31, 3), .inl (Γ.2 1, 20, .inl (upd (σ.2 3) ((nI (σ.1 1)).toNatClampNeg) w))) := by rw [hG314]; exact gu_t f310 f307 (tne2 (by decide))
                  have f318 : G314 (B 4) = some ((31, 4), .inl (Γ.2 1, 20, .inl (upd (σ.2 4) ((nI (σ.1 1)).toNatClampNeg) fr))) := by rw [hG314]; exact gu_s _ _ _
                  have hM319 := hM311.row (G1 := G314) (r := 4) (g := va_up (σ.2 4) (σ.1 1) fr) (by decide) (by rw [hG314, updn (show σ.1 1 < 2 ^ 31 by omega)]; rfl)
                  refine lv_aload_n X.hx X.hb dX2_setWeight_89 rfl (lv_at hl 0 rfl) ?_
                  refine lv_dup X.hx X.hb dX2_setWeight_90 rfl ?_
                  refine g_get X hR312 f315 rfl in_X2 4 (by decide) q1299 (fun _ h => h) rfl dX2_setWeight_91 ?_
                  refine lv_iconst (v := 1) X.hx X.hb dX2_setWeight_94 (by decide) ?_
                  refine lv_iadd X.hx X.hb dX2_setWeight_95 ?_
                  refine lv_topi (fun x320 hx320 => ?_)
                  obtain rfl : x320 = nI (σ.1 1 + 1) := hx320.trans (nI_1 _)
                  refine g_put X hR312 hS313 f315 (Nat.le_of_ble_eq_true rfl) rfl in_X2 tyX2 tyX2_ok nmX2 4 (by decide) q1299 (fun _ h => h) rfl rfl rfl (Nat.le_of_ble_eq_true rfl) dX2_setWeight_96 (fun H locs hR321 hS322 => ?_)
                  obtain ⟨G323, hG323⟩ : ∃ z : GH, z = gu G314 m ((30, 0), .inr (1, [.int (nI (σ.1 0)), .ref (B 0), .ref (B 1), .int (σ.2 12 0), .int (nI (σ.1 1 + 1)), .ref (B 2), .ref (B 3), .ref (B 4), .int (nI (σ.1 2)), .ref (B 5), .ref (B 6), .ref (B 7), .ref (B 8), .ref (B 9), .ref (B 10), .ref (B 11), .ref (B 12), .ref (B 13), .ref (B 14), .ref (B 15), .int 0])) := ⟨_, rfl⟩
                  have hR321 : Rep Γ G323 H := by rw [hG323]; exact hR321
                  have f324 : G323 (B 2) = some ((31, 2), .inl (Γ.2 1, 20, .inl (upd (σ.2 2) ((nI (σ.1 1)).toNatClampNeg) f))) := by rw [hG323]; exact gu_t f316 f315 (tne rfl)
                  have f325 : G323 (B 3) = some ((31, 3), .inl (Γ.2 1, 20, .inl (upd (σ.2 3) ((nI (σ.1 1)).toNatClampNeg) w))) := by rw [hG323]; exact gu_t f317 f315 (tne rfl)
                  have f326 : G323 (B 4) = some ((31, 4), .inl (Γ.2 1, 20, .inl (upd (σ.2 4) ((nI (σ.1 1)).toNatClampNeg) fr))) := by rw [hG323]; exact gu_t f318 f315 (tne rfl)
                  have f327 : G323 m = some ((30, 0), .inr (1, [.int (nI (σ.1 0)), .ref (B 0), .ref (B 1), .int (σ.2 12 0), .int (nI (σ.1 1 + 1)), .ref (B 2), .ref (B 3), .ref (B 4), .int (nI (σ.1 2)), .ref (B 5), .ref (B 6), .ref (B 7), .ref (B 8), .ref (B 9), .ref (B 10), .ref (B 11), .ref (B 12), .ref (B 13), .ref (B 14), .ref (B 15), .int 0])) := by rw [hG323]; exact gu_s _ _ _
                  have hM328 := hM319.obj hG323
                  refine lv_aload_n X.hx X.hb dX2_setWeight_99 rfl (lv_at hl 0 rfl) ?_
                  refine g_get X hR321 f327 rfl in_X2 4 (by decide) q1299 (fun _ h => h) rfl dX2_setWeight_100 ?_
                  exact g_iret X hr hlk hR321 hS322 (⟨Or.inl ⟨by rw [k1, if_neg hF, if_neg (or_no hw hr9), if_neg (fun h9 => h9 (nI_ltk (k := 20) hW.2.1 (by decide) c39))], rfl, hM328.to (tauW σ f w fr) rfl rfl rfl rfl (fun r hr => by rcases c12 hr with rfl | rfl | rfl | rfl | rfl | rfl | rfl | rfl | rfl | rfl | rfl | rfl <;> rfl)⟩, (gK.tr (gK.tr (gK.tr (gK.tr (gK.pt hG290 hm (by show 30 ≤ 30 ∧ 30 < 40; decide)) (gK.pt hG298 f291 (by show 30 ≤ 31 ∧ 31 < 40; decide))) (gK.pt hG306 f299 (by show 30 ≤ 31 ∧ 31 < 40; decide))) (gK.pt hG314 f307 (by show 30 ≤ 31 ∧ 31 < 40; decide))) (gK.pt hG323 f315 (by show 30 ≤ 30 ∧ 30 < 40; decide)))⟩) (by (try dsimp only [RM]); omega) (by (try dsimp only [RM]); omega) dX2_setWeight_103
                · exact absurd (by decide) c54
              · refine lv_iconst (v := 3) X.hx X.hb dX2_setWeight_42 (by decide) ?_
                refine lv_goto (tgt := 47) X.hx X.hb dX2_setWeight_43 (by decide) ?_
                refine g_put X hR276 hS277 hm (Nat.le_of_ble_eq_true rfl) rfl in_X2 tyX2 tyX2_ok nmX2 20 (by decide) q1315 (fun _ h => h) rfl rfl rfl (Nat.le_of_ble_eq_true rfl) dX2_setWeight_47 (fun H locs hR329 hS330 => ?_)
                obtain ⟨G331, hG331⟩ : ∃ z : GH, z = gu G m ((30, 0), .inr (1, [.int (nI (σ.1 0)), .ref (B 0), .ref (B 1), .int (σ.2 12 0), .int (nI (σ.1 1)), .ref (B 2), .ref (B 3), .ref (B 4), .int (nI (σ.1 2)), .ref (B 5), .ref (B 6), .ref (B 7), .ref (B 8), .ref (B 9), .ref (B 10), .ref (B 11), .ref (B 12), .ref (B 13), .ref (B 14), .ref (B 15), .int 3])) := ⟨_, rfl⟩
                have hR329 : Rep Γ G331 H := by rw [hG331]; exact hR329
                have f332 : G331 (B 2) = some ((31, 2), .inl (Γ.2 1, 20, .inl (σ.2 2))) := by rw [hG331]; exact gu_t hr2 hm (tne rfl)
                have f333 : G331 (B 3) = some ((31, 3), .inl (Γ.2 1, 20, .inl (σ.2 3))) := by rw [hG331]; exact gu_t hr3 hm (tne rfl)
                have f334 : G331 (B 4) = some ((31, 4), .inl (Γ.2 1, 20, .inl (σ.2 4))) := by rw [hG331]; exact gu_t hr4 hm (tne rfl)
                have f335 : G331 m = some ((30, 0), .inr (1, [.int (nI (σ.1 0)), .ref (B 0), .ref (B 1), .int (σ.2 12 0), .int (nI (σ.1 1)), .ref (B 2), .ref (B 3), .ref (B 4), .int (nI (σ.1 2)), .ref (B 5), .ref (B 6), .ref (B 7), .ref (B 8), .ref (B 9), .ref (B 10), .ref (B 11), .ref (B 12), .ref (B 13), .ref (B 14), .ref (B 15), .int 3])) := by rw [hG331]; exact gu_s _ _ _
                have hM336 := hM.obj hG331
                refine lv_aload_n X.hx X.hb dX2_setWeight_50 rfl (lv_at hl 0 rfl) ?_
                refine g_get X hR329 f335 rfl in_X2 20 (by decide) q1315 (fun _ h => h) rfl dX2_setWeight_51 ?_
                refine lv_if_le (tgt := 59) X.hx X.hb dX2_setWeight_54 (by decide) (fun c54 => ?_) (fun c54 => ?_)
                · exact absurd c54 (by decide)
                · refine lv_iconst (v := 0) X.hx X.hb dX2_setWeight_57 (by decide) ?_
                  have hkk : k1 σ f w fr = 3 := by rw [k1, if_neg hF, if_neg (or_no hw hr9), if_pos (by rw [c39]; decide)]
                  exact g_iret X hr hlk hR329 hS330 (⟨Or.inr ⟨by rw [hkk]; decide, ⟨_, rfl⟩, by rw [hkk]; exact hM336⟩, (gK.pt hG331 hm (by show 30 ≤ 30 ∧ 30 < 40; decide))⟩) (by (try dsimp only [RM]); omega) (by (try dsimp only [RM]); omega) dX2_setWeight_58
            · exact absurd c26 (by decide)
    · exact absurd c5 (by decide)

set_option maxHeartbeats 4000000 in
theorem m_pass (l : Launch) (Γ : GP) (G : GH) {m : Nat} {σ : MS} {th : Int32} {B : Nat → Nat} (hW : WF σ) (hM : MP Γ G m σ th B) {d : Int32} : MetG l yX2_pass (ws_ yX2_pass cX2_pass 2 (some .int)) (RM 3 0 0) Γ G [.ref m, .int d] (fun v G1 => MR Γ G G1 m σ (tauP σ d) B (k2 d) (σ.2 12 0 + d) v) 0 0 := by
  refine gMet (own := RX2) (by decide) rfl (Nat.le_of_ble_eq_true rfl) ?_
  intro pp ee ss mm below meth cc0 ls X hr hlk hin hnm hR hS hl
  have hl : lv_has ls 2 [(0, .ref m), (1, .int d)] := hl
  have hm : G m = some (MOc (nI (σ.1 0)) (σ.2 12 0) (nI (σ.1 1)) (nI (σ.1 2)) th B) := hM.1
  refine lv_aload_n X.hx X.hb dX2_pass_0 rfl (lv_at hl 0 rfl) ?_
  refine lv_iload_n X.hx X.hb dX2_pass_1 rfl (lv_at hl 1 rfl) ?_
  refine lv_iconst (v := 1) X.hx X.hb dX2_pass_2 (by decide) ?_
  refine lv_bipush (v := 100) X.hx X.hb dX2_pass_3 (by decide) ?_
  refine gcS X hl.1 hR hS 3 [.int d, .int 1, .int 100] [.ref m] (m_isIn l Γ G) q1368 q1369 q40 q1370 rfl rfl ⟨by decide +kernel, by decide +kernel, by decide +kernel⟩ ⟨by (try dsimp only [RM]); omega, by (try dsimp only [RM]); omega⟩ rfl rfl (Nat.le_of_ble_eq_true rfl) dX2_pass_5 ⟨by (try dsimp only [RM]); omega, by (try dsimp only [RM]); omega⟩ (fun v340 G341 H locs hq337 hR338 hS339 => ?_)
  obtain ⟨rfl, rfl⟩ := hq337
  by_cases hb : bad 1 100 d
  · rw [if_pos hb]
    refine lv_if_eq (tgt := 15) X.hx X.hb dX2_pass_8 (by decide) (fun c8 => ?_) (fun c8 => ?_)
    · refine lv_iconst (v := 1) X.hx X.hb dX2_pass_15 (by decide) ?_
      refine g_put X hR338 hS339 hm (Nat.le_of_ble_eq_true rfl) rfl in_X2 tyX2 tyX2_ok nmX2 20 (by decide) q1315 (fun _ h => h) rfl rfl rfl (Nat.le_of_ble_eq_true rfl) dX2_pass_16 (fun H locs hR342 hS343 => ?_)
      obtain ⟨G344, hG344⟩ : ∃ z : GH, z = gu G m ((30, 0), .inr (1, [.int (nI (σ.1 0)), .ref (B 0), .ref (B 1), .int (σ.2 12 0), .int (nI (σ.1 1)), .ref (B 2), .ref (B 3), .ref (B 4), .int (nI (σ.1 2)), .ref (B 5), .ref (B 6), .ref (B 7), .ref (B 8), .ref (B 9), .ref (B 10), .ref (B 11), .ref (B 12), .ref (B 13), .ref (B 14), .ref (B 15), .int 1])) := ⟨_, rfl⟩
      have hR342 : Rep Γ G344 H := by rw [hG344]; exact hR342
      have f345 : G344 m = some ((30, 0), .inr (1, [.int (nI (σ.1 0)), .ref (B 0), .ref (B 1), .int (σ.2 12 0), .int (nI (σ.1 1)), .ref (B 2), .ref (B 3), .ref (B 4), .int (nI (σ.1 2)), .ref (B 5), .ref (B 6), .ref (B 7), .ref (B 8), .ref (B 9), .ref (B 10), .ref (B 11), .ref (B 12), .ref (B 13), .ref (B 14), .ref (B 15), .int 1])) := by rw [hG344]; exact gu_s _ _ _
      have hM346 := hM.obj hG344
      refine lv_aload_n X.hx X.hb dX2_pass_19 rfl (lv_at hl 0 rfl) ?_
      refine g_get X hR342 f345 rfl in_X2 20 (by decide) q1315 (fun _ h => h) rfl dX2_pass_20 ?_
      refine lv_if_le (tgt := 28) X.hx X.hb dX2_pass_23 (by decide) (fun c23 => ?_) (fun c23 => ?_)
      · exact absurd c23 (by decide)
      · refine lv_iconst (v := 0) X.hx X.hb dX2_pass_26 (by decide) ?_
        have hkk : k2 d = 1 := by rw [k2, if_pos hb]
        exact g_iret X hr hlk hR342 hS343 (⟨Or.inr ⟨by rw [hkk]; decide, ⟨_, rfl⟩, by rw [hkk]; exact hM346⟩, (gK.pt hG344 hm (by show 30 ≤ 30 ∧ 30 < 40; decide))⟩) (by (try dsimp only [RM]); omega) (by (try dsimp only [RM]); omega) dX2_pass_27
    · exact absurd (by decide) c8
  · rw [if_neg hb]
    refine lv_if_eq (tgt := 15) X.hx X.hb dX2_pass_8 (by decide) (fun c8 => ?_) (fun c8 => ?_)
    · exact absurd c8 (by decide)
    · refine lv_iconst (v := 0) X.hx X.hb dX2_pass_11 (by decide) ?_
      refine lv_goto (tgt := 16) X.hx X.hb dX2_pass_12 (by decide) ?_
      refine g_put X hR338 hS339 hm (Nat.le_of_ble_eq_true rfl) rfl in_X2 tyX2 tyX2_ok nmX2 20 (by decide) q1315 (fun _ h => h) rfl rfl rfl (Nat.le_of_ble_eq_true rfl) dX2_pass_16 (fun H locs hR347 hS348 => ?_)
      obtain ⟨G349, hG349⟩ : ∃ z : GH, z = gu G m ((30, 0), .inr (1, [.int (nI (σ.1 0)), .ref (B 0), .ref (B 1), .int (σ.2 12 0), .int (nI (σ.1 1)), .ref (B 2), .ref (B 3), .ref (B 4), .int (nI (σ.1 2)), .ref (B 5), .ref (B 6), .ref (B 7), .ref (B 8), .ref (B 9), .ref (B 10), .ref (B 11), .ref (B 12), .ref (B 13), .ref (B 14), .ref (B 15), .int 0])) := ⟨_, rfl⟩
      have hR347 : Rep Γ G349 H := by rw [hG349]; exact hR347
      have f350 : G349 m = some ((30, 0), .inr (1, [.int (nI (σ.1 0)), .ref (B 0), .ref (B 1), .int (σ.2 12 0), .int (nI (σ.1 1)), .ref (B 2), .ref (B 3), .ref (B 4), .int (nI (σ.1 2)), .ref (B 5), .ref (B 6), .ref (B 7), .ref (B 8), .ref (B 9), .ref (B 10), .ref (B 11), .ref (B 12), .ref (B 13), .ref (B 14), .ref (B 15), .int 0])) := by rw [hG349]; exact gu_s _ _ _
      have hM351 := hM.obj hG349
      refine lv_aload_n X.hx X.hb dX2_pass_19 rfl (lv_at hl 0 rfl) ?_
      refine g_get X hR347 f350 rfl in_X2 20 (by decide) q1315 (fun _ h => h) rfl dX2_pass_20 ?_
      refine lv_if_le (tgt := 28) X.hx X.hb dX2_pass_23 (by decide) (fun c23 => ?_) (fun c23 => ?_)
      · refine lv_aload_n X.hx X.hb dX2_pass_28 rfl (lv_at hl 0 rfl) ?_
        refine lv_dup X.hx X.hb dX2_pass_29 rfl ?_
        refine g_get X hR347 f350 rfl in_X2 3 (by decide) q1298 (fun _ h => h) rfl dX2_pass_30 ?_
        refine lv_iload_n X.hx X.hb dX2_pass_33 rfl (lv_at hl 1 rfl) ?_
        refine lv_iadd X.hx X.hb dX2_pass_34 ?_
        refine g_put X hR347 hS348 f350 (Nat.le_of_ble_eq_true rfl) rfl in_X2 tyX2 tyX2_ok nmX2 3 (by decide) q1298 (fun _ h => h) rfl rfl rfl (Nat.le_of_ble_eq_true rfl) dX2_pass_35 (fun H locs hR352 hS353 => ?_)
        obtain ⟨G354, hG354⟩ : ∃ z : GH, z = gu G349 m ((30, 0), .inr (1, [.int (nI (σ.1 0)), .ref (B 0), .ref (B 1), .int ((σ.2 12 0) + d), .int (nI (σ.1 1)), .ref (B 2), .ref (B 3), .ref (B 4), .int (nI (σ.1 2)), .ref (B 5), .ref (B 6), .ref (B 7), .ref (B 8), .ref (B 9), .ref (B 10), .ref (B 11), .ref (B 12), .ref (B 13), .ref (B 14), .ref (B 15), .int 0])) := ⟨_, rfl⟩
        have hR352 : Rep Γ G354 H := by rw [hG354]; exact hR352
        have f355 : G354 m = some ((30, 0), .inr (1, [.int (nI (σ.1 0)), .ref (B 0), .ref (B 1), .int ((σ.2 12 0) + d), .int (nI (σ.1 1)), .ref (B 2), .ref (B 3), .ref (B 4), .int (nI (σ.1 2)), .ref (B 5), .ref (B 6), .ref (B 7), .ref (B 8), .ref (B 9), .ref (B 10), .ref (B 11), .ref (B 12), .ref (B 13), .ref (B 14), .ref (B 15), .int 0])) := by rw [hG354]; exact gu_s _ _ _
        have hM356 := hM351.obj hG354
        refine lv_aload_n X.hx X.hb dX2_pass_38 rfl (lv_at hl 0 rfl) ?_
        refine g_get X hR352 f355 rfl in_X2 3 (by decide) q1298 (fun _ h => h) rfl dX2_pass_39 ?_
        exact g_iret X hr hlk hR352 hS353 (⟨Or.inl ⟨by rw [k2, if_neg hb], rfl, hM356.to (tauP σ d) rfl rfl rfl rfl (fun r hr => by rcases c12 hr with rfl | rfl | rfl | rfl | rfl | rfl | rfl | rfl | rfl | rfl | rfl | rfl <;> rfl)⟩, (gK.tr (gK.pt hG349 hm (by show 30 ≤ 30 ∧ 30 < 40; decide)) (gK.pt hG354 f350 (by show 30 ≤ 30 ∧ 30 < 40; decide)))⟩) (by (try dsimp only [RM]); omega) (by (try dsimp only [RM]); omega) dX2_pass_42
      · exact absurd (by decide) c23

set_option maxHeartbeats 4000000 in
theorem m_today (l : Launch) (Γ : GP) (G : GH) {m : Nat} {σ : MS} {th : Int32} {B : Nat → Nat} (hW : WF σ) (hM : MP Γ G m σ th B) : MetG l yX2_today (ws_ yX2_today cX2_today 1 (some .int)) (RM 1 0 0) Γ G [.ref m] (fun v G1 => v = some (.int (σ.2 12 0)) ∧ MP Γ G1 m σ 0 B ∧ gK TMm G G1) 0 0 := by
  refine gMet (own := RX2) (by decide) rfl (Nat.le_of_ble_eq_true rfl) ?_
  intro pp ee ss mm below meth cc0 ls X hr hlk hin hnm hR hS hl
  have hl : lv_has ls 1 [(0, .ref m)] := hl
  have hm : G m = some (MOc (nI (σ.1 0)) (σ.2 12 0) (nI (σ.1 1)) (nI (σ.1 2)) th B) := hM.1
  refine lv_aload_n X.hx X.hb dX2_today_0 rfl (lv_at hl 0 rfl) ?_
  refine lv_iconst (v := 0) X.hx X.hb dX2_today_1 (by decide) ?_
  refine g_put X hR hS hm (Nat.le_of_ble_eq_true rfl) rfl in_X2 tyX2 tyX2_ok nmX2 20 (by decide) q1315 (fun _ h => h) rfl rfl rfl (Nat.le_of_ble_eq_true rfl) dX2_today_2 (fun H locs hR357 hS358 => ?_)
  obtain ⟨G359, hG359⟩ : ∃ z : GH, z = gu G m ((30, 0), .inr (1, [.int (nI (σ.1 0)), .ref (B 0), .ref (B 1), .int (σ.2 12 0), .int (nI (σ.1 1)), .ref (B 2), .ref (B 3), .ref (B 4), .int (nI (σ.1 2)), .ref (B 5), .ref (B 6), .ref (B 7), .ref (B 8), .ref (B 9), .ref (B 10), .ref (B 11), .ref (B 12), .ref (B 13), .ref (B 14), .ref (B 15), .int 0])) := ⟨_, rfl⟩
  have hR357 : Rep Γ G359 H := by rw [hG359]; exact hR357
  have f360 : G359 m = some ((30, 0), .inr (1, [.int (nI (σ.1 0)), .ref (B 0), .ref (B 1), .int (σ.2 12 0), .int (nI (σ.1 1)), .ref (B 2), .ref (B 3), .ref (B 4), .int (nI (σ.1 2)), .ref (B 5), .ref (B 6), .ref (B 7), .ref (B 8), .ref (B 9), .ref (B 10), .ref (B 11), .ref (B 12), .ref (B 13), .ref (B 14), .ref (B 15), .int 0])) := by rw [hG359]; exact gu_s _ _ _
  have hM361 := hM.obj hG359
  refine lv_aload_n X.hx X.hb dX2_today_5 rfl (lv_at hl 0 rfl) ?_
  refine g_get X hR357 f360 rfl in_X2 3 (by decide) q1298 (fun _ h => h) rfl dX2_today_6 ?_
  exact g_iret X hr hlk hR357 hS358 (⟨rfl, hM361, (gK.pt hG359 hm (by show 30 ≤ 30 ∧ 30 < 40; decide))⟩) (by (try dsimp only [RM]); omega) (by (try dsimp only [RM]); omega) dX2_today_9

set_option maxHeartbeats 4000000 in
theorem m_changes (l : Launch) (Γ : GP) (G : GH) {m : Nat} {σ : MS} {th : Int32} {B : Nat → Nat} (hW : WF σ) (hM : MP Γ G m σ th B) : MetG l yX2_changes (ws_ yX2_changes cX2_changes 1 (some .int)) (RM 1 0 0) Γ G [.ref m] (fun v G1 => v = some (.int (nI (σ.1 2))) ∧ MP Γ G1 m σ 0 B ∧ gK TMm G G1) 0 0 := by
  refine gMet (own := RX2) (by decide) rfl (Nat.le_of_ble_eq_true rfl) ?_
  intro pp ee ss mm below meth cc0 ls X hr hlk hin hnm hR hS hl
  have hl : lv_has ls 1 [(0, .ref m)] := hl
  have hm : G m = some (MOc (nI (σ.1 0)) (σ.2 12 0) (nI (σ.1 1)) (nI (σ.1 2)) th B) := hM.1
  refine lv_aload_n X.hx X.hb dX2_changes_0 rfl (lv_at hl 0 rfl) ?_
  refine lv_iconst (v := 0) X.hx X.hb dX2_changes_1 (by decide) ?_
  refine g_put X hR hS hm (Nat.le_of_ble_eq_true rfl) rfl in_X2 tyX2 tyX2_ok nmX2 20 (by decide) q1315 (fun _ h => h) rfl rfl rfl (Nat.le_of_ble_eq_true rfl) dX2_changes_2 (fun H locs hR362 hS363 => ?_)
  obtain ⟨G364, hG364⟩ : ∃ z : GH, z = gu G m ((30, 0), .inr (1, [.int (nI (σ.1 0)), .ref (B 0), .ref (B 1), .int (σ.2 12 0), .int (nI (σ.1 1)), .ref (B 2), .ref (B 3), .ref (B 4), .int (nI (σ.1 2)), .ref (B 5), .ref (B 6), .ref (B 7), .ref (B 8), .ref (B 9), .ref (B 10), .ref (B 11), .ref (B 12), .ref (B 13), .ref (B 14), .ref (B 15), .int 0])) := ⟨_, rfl⟩
  have hR362 : Rep Γ G364 H := by rw [hG364]; exact hR362
  have f365 : G364 m = some ((30, 0), .inr (1, [.int (nI (σ.1 0)), .ref (B 0), .ref (B 1), .int (σ.2 12 0), .int (nI (σ.1 1)), .ref (B 2), .ref (B 3), .ref (B 4), .int (nI (σ.1 2)), .ref (B 5), .ref (B 6), .ref (B 7), .ref (B 8), .ref (B 9), .ref (B 10), .ref (B 11), .ref (B 12), .ref (B 13), .ref (B 14), .ref (B 15), .int 0])) := by rw [hG364]; exact gu_s _ _ _
  have hM366 := hM.obj hG364
  refine lv_aload_n X.hx X.hb dX2_changes_5 rfl (lv_at hl 0 rfl) ?_
  refine g_get X hR362 f365 rfl in_X2 8 (by decide) q1303 (fun _ h => h) rfl dX2_changes_6 ?_
  exact g_iret X hr hlk hR362 hS363 (⟨rfl, hM366, (gK.pt hG364 hm (by show 30 ≤ 30 ∧ 30 < 40; decide))⟩) (by (try dsimp only [RM]); omega) (by (try dsimp only [RM]); omega) dX2_changes_9

set_option maxHeartbeats 4000000 in
theorem m_tells (l : Launch) (Γ : GP) (G : GH) {m : Nat} {σ : MS} {th : Int32} {B : Nat → Nat} (hW : WF σ) (hM : MP Γ G m σ th B) {p kd f fr nu is lo hi v : Int32} (his : (is = 0 ∧ bad lo hi v) ∨ (is = 1 ∧ ¬ bad lo hi v)) : MetG l yX2_tells (ws_ yX2_tells cX2_tells 7 (some .int)) (RM 3 0 0) Γ G [.ref m, .int p, .int kd, .int f, .int fr, .int nu, .int is] (fun u G1 => MR Γ G G1 m σ (tauT σ p kd f fr nu) B (kT σ p f fr lo hi v) (nI (σ.1 2)) u) 0 0 := by
  refine gMet (own := RX2) (by decide) rfl (Nat.le_of_ble_eq_true rfl) ?_
  intro pp ee ss mm below meth cc0 ls X hr hlk hin hnm hR hS hl
  have hl : lv_has ls 7 [(0, .ref m), (1, .int p), (2, .int kd), (3, .int f), (4, .int fr), (5, .int nu), (6, .int is)] := hl
  rcases his with ⟨rfl, hbv⟩ | ⟨rfl, hbv⟩
  · have hm : G m = some (MOc (nI (σ.1 0)) (σ.2 12 0) (nI (σ.1 1)) (nI (σ.1 2)) th B) := hM.1
    have hr5 : G (B 5) = some ((31, 5), .inl (Γ.2 1, 60, .inl (σ.2 5))) := hM.2.1 5 (by decide)
    have hr6 : G (B 6) = some ((31, 6), .inl (Γ.2 1, 60, .inl (σ.2 6))) := hM.2.1 6 (by decide)
    have hr7 : G (B 7) = some ((31, 7), .inl (Γ.2 1, 60, .inl (σ.2 7))) := hM.2.1 7 (by decide)
    have hr8 : G (B 8) = some ((31, 8), .inl (Γ.2 1, 60, .inl (σ.2 8))) := hM.2.1 8 (by decide)
    have hr9 : G (B 9) = some ((31, 9), .inl (Γ.2 1, 60, .inl (σ.2 9))) := hM.2.1 9 (by decide)
    have hr10 : G (B 10) = some ((31, 10), .inl (Γ.2 1, 60, .inl (σ.2 10))) := hM.2.1 10 (by decide)
    have hr11 : G (B 11) = some ((31, 11), .inl (Γ.2 1, 60, .inl (σ.2 11))) := hM.2.1 11 (by decide)
    refine lv_aload_n X.hx X.hb dX2_tells_0 rfl (lv_at hl 0 rfl) ?_
    refine lv_aload_n X.hx X.hb dX2_tells_1 rfl (lv_at hl 0 rfl) ?_
    refine lv_iload_n X.hx X.hb dX2_tells_2 rfl (lv_at hl 1 rfl) ?_
    refine gcV X hl.1 hR hS 1 [.int p] [.ref m] (m_isPolicy l Γ G hW hM) hm rfl q1397 q1399 qs25 q40 q1400 rfl rfl ⟨rfl, by decide +kernel, by decide +kernel, by decide +kernel⟩ ⟨by (try dsimp only [RM]); omega, by (try dsimp only [RM]); omega⟩ rfl rfl (Nat.le_of_ble_eq_true rfl) dX2_tells_3 ⟨by (try dsimp only [RM]); omega, by (try dsimp only [RM]); omega⟩ (fun v370 G371 H locs hq367 hR368 hS369 => ?_)
    obtain ⟨rfl, rfl⟩ := hq367
    by_cases hP : bdP (nI (σ.1 0)) p
    · rw [if_pos hP]
      refine lv_if_eq (tgt := 16) X.hx X.hb dX2_tells_6 (by decide) (fun c6 => ?_) (fun c6 => ?_)
      · refine lv_iconst (v := 1) X.hx X.hb dX2_tells_16 (by decide) ?_
        refine lv_goto (tgt := 51) X.hx X.hb dX2_tells_17 (by decide) ?_
        refine g_put X hR368 hS369 hm (Nat.le_of_ble_eq_true rfl) rfl in_X2 tyX2 tyX2_ok nmX2 20 (by decide) q1315 (fun _ h => h) rfl rfl rfl (Nat.le_of_ble_eq_true rfl) dX2_tells_51 (fun H locs hR372 hS373 => ?_)
        obtain ⟨G374, hG374⟩ : ∃ z : GH, z = gu G m ((30, 0), .inr (1, [.int (nI (σ.1 0)), .ref (B 0), .ref (B 1), .int (σ.2 12 0), .int (nI (σ.1 1)), .ref (B 2), .ref (B 3), .ref (B 4), .int (nI (σ.1 2)), .ref (B 5), .ref (B 6), .ref (B 7), .ref (B 8), .ref (B 9), .ref (B 10), .ref (B 11), .ref (B 12), .ref (B 13), .ref (B 14), .ref (B 15), .int 1])) := ⟨_, rfl⟩
        have hR372 : Rep Γ G374 H := by rw [hG374]; exact hR372
        have f375 : G374 (B 5) = some ((31, 5), .inl (Γ.2 1, 60, .inl (σ.2 5))) := by rw [hG374]; exact gu_t hr5 hm (tne rfl)
        have f376 : G374 (B 6) = some ((31, 6), .inl (Γ.2 1, 60, .inl (σ.2 6))) := by rw [hG374]; exact gu_t hr6 hm (tne rfl)
        have f377 : G374 (B 7) = some ((31, 7), .inl (Γ.2 1, 60, .inl (σ.2 7))) := by rw [hG374]; exact gu_t hr7 hm (tne rfl)
        have f378 : G374 (B 8) = some ((31, 8), .inl (Γ.2 1, 60, .inl (σ.2 8))) := by rw [hG374]; exact gu_t hr8 hm (tne rfl)
        have f379 : G374 (B 9) = some ((31, 9), .inl (Γ.2 1, 60, .inl (σ.2 9))) := by rw [hG374]; exact gu_t hr9 hm (tne rfl)
        have f380 : G374 (B 10) = some ((31, 10), .inl (Γ.2 1, 60, .inl (σ.2 10))) := by rw [hG374]; exact gu_t hr10 hm (tne rfl)
        have f381 : G374 (B 11) = some ((31, 11), .inl (Γ.2 1, 60, .inl (σ.2 11))) := by rw [hG374]; exact gu_t hr11 hm (tne rfl)
        have f382 : G374 m = some ((30, 0), .inr (1, [.int (nI (σ.1 0)), .ref (B 0), .ref (B 1), .int (σ.2 12 0), .int (nI (σ.1 1)), .ref (B 2), .ref (B 3), .ref (B 4), .int (nI (σ.1 2)), .ref (B 5), .ref (B 6), .ref (B 7), .ref (B 8), .ref (B 9), .ref (B 10), .ref (B 11), .ref (B 12), .ref (B 13), .ref (B 14), .ref (B 15), .int 1])) := by rw [hG374]; exact gu_s _ _ _
        have hM383 := hM.obj hG374
        refine lv_aload_n X.hx X.hb dX2_tells_54 rfl (lv_at hl 0 rfl) ?_
        refine g_get X hR372 f382 rfl in_X2 20 (by decide) q1315 (fun _ h => h) rfl dX2_tells_55 ?_
        refine lv_if_le (tgt := 63) X.hx X.hb dX2_tells_58 (by decide) (fun c58 => ?_) (fun c58 => ?_)
        · exact absurd c58 (by decide)
        · refine lv_iconst (v := 0) X.hx X.hb dX2_tells_61 (by decide) ?_
          have hkk : kT σ p f fr lo hi v = 1 := by rw [kT, if_pos (Or.inl hP)]
          exact g_iret X hr hlk hR372 hS373 (⟨Or.inr ⟨by rw [hkk]; decide, ⟨_, rfl⟩, by rw [hkk]; exact hM383⟩, (gK.pt hG374 hm (by show 30 ≤ 30 ∧ 30 < 40; decide))⟩) (by (try dsimp only [RM]); omega) (by (try dsimp only [RM]); omega) dX2_tells_62
      · exact absurd (by decide) c6
    · rw [if_neg hP]
      refine lv_if_eq (tgt := 16) X.hx X.hb dX2_tells_6 (by decide) (fun c6 => ?_) (fun c6 => ?_)
      · exact absurd c6 (by decide)
      · refine lv_iload_n X.hx X.hb dX2_tells_9 rfl (lv_at hl 3 rfl) ?_
        refine gcS X hl.1 hR368 hS369 1 [.int f] [.ref m] (m_isField l Γ G) q1375 q1376 q40 q1377 rfl rfl ⟨by decide +kernel, by decide +kernel, by decide +kernel⟩ ⟨by (try dsimp only [RM]); omega, by (try dsimp only [RM]); omega⟩ rfl rfl (Nat.le_of_ble_eq_true rfl) dX2_tells_10 ⟨by (try dsimp only [RM]); omega, by (try dsimp only [RM]); omega⟩ (fun v387 G388 H locs hq384 hR385 hS386 => ?_)
        obtain ⟨rfl, rfl⟩ := hq384
        by_cases hF : bdP 3 f
        · rw [if_pos hF]
          refine lv_if_ne (tgt := 20) X.hx X.hb dX2_tells_13 (by decide) (fun c13 => ?_) (fun c13 => ?_)
          · exact absurd rfl c13
          · refine lv_iconst (v := 1) X.hx X.hb dX2_tells_16 (by decide) ?_
            refine lv_goto (tgt := 51) X.hx X.hb dX2_tells_17 (by decide) ?_
            refine g_put X hR385 hS386 hm (Nat.le_of_ble_eq_true rfl) rfl in_X2 tyX2 tyX2_ok nmX2 20 (by decide) q1315 (fun _ h => h) rfl rfl rfl (Nat.le_of_ble_eq_true rfl) dX2_tells_51 (fun H locs hR389 hS390 => ?_)
            obtain ⟨G391, hG391⟩ : ∃ z : GH, z = gu G m ((30, 0), .inr (1, [.int (nI (σ.1 0)), .ref (B 0), .ref (B 1), .int (σ.2 12 0), .int (nI (σ.1 1)), .ref (B 2), .ref (B 3), .ref (B 4), .int (nI (σ.1 2)), .ref (B 5), .ref (B 6), .ref (B 7), .ref (B 8), .ref (B 9), .ref (B 10), .ref (B 11), .ref (B 12), .ref (B 13), .ref (B 14), .ref (B 15), .int 1])) := ⟨_, rfl⟩
            have hR389 : Rep Γ G391 H := by rw [hG391]; exact hR389
            have f392 : G391 (B 5) = some ((31, 5), .inl (Γ.2 1, 60, .inl (σ.2 5))) := by rw [hG391]; exact gu_t hr5 hm (tne rfl)
            have f393 : G391 (B 6) = some ((31, 6), .inl (Γ.2 1, 60, .inl (σ.2 6))) := by rw [hG391]; exact gu_t hr6 hm (tne rfl)
            have f394 : G391 (B 7) = some ((31, 7), .inl (Γ.2 1, 60, .inl (σ.2 7))) := by rw [hG391]; exact gu_t hr7 hm (tne rfl)
            have f395 : G391 (B 8) = some ((31, 8), .inl (Γ.2 1, 60, .inl (σ.2 8))) := by rw [hG391]; exact gu_t hr8 hm (tne rfl)
            have f396 : G391 (B 9) = some ((31, 9), .inl (Γ.2 1, 60, .inl (σ.2 9))) := by rw [hG391]; exact gu_t hr9 hm (tne rfl)
            have f397 : G391 (B 10) = some ((31, 10), .inl (Γ.2 1, 60, .inl (σ.2 10))) := by rw [hG391]; exact gu_t hr10 hm (tne rfl)
            have f398 : G391 (B 11) = some ((31, 11), .inl (Γ.2 1, 60, .inl (σ.2 11))) := by rw [hG391]; exact gu_t hr11 hm (tne rfl)
            have f399 : G391 m = some ((30, 0), .inr (1, [.int (nI (σ.1 0)), .ref (B 0), .ref (B 1), .int (σ.2 12 0), .int (nI (σ.1 1)), .ref (B 2), .ref (B 3), .ref (B 4), .int (nI (σ.1 2)), .ref (B 5), .ref (B 6), .ref (B 7), .ref (B 8), .ref (B 9), .ref (B 10), .ref (B 11), .ref (B 12), .ref (B 13), .ref (B 14), .ref (B 15), .int 1])) := by rw [hG391]; exact gu_s _ _ _
            have hM400 := hM.obj hG391
            refine lv_aload_n X.hx X.hb dX2_tells_54 rfl (lv_at hl 0 rfl) ?_
            refine g_get X hR389 f399 rfl in_X2 20 (by decide) q1315 (fun _ h => h) rfl dX2_tells_55 ?_
            refine lv_if_le (tgt := 63) X.hx X.hb dX2_tells_58 (by decide) (fun c58 => ?_) (fun c58 => ?_)
            · exact absurd c58 (by decide)
            · refine lv_iconst (v := 0) X.hx X.hb dX2_tells_61 (by decide) ?_
              have hkk : kT σ p f fr lo hi v = 1 := by rw [kT, if_pos (Or.inr hF)]
              exact g_iret X hr hlk hR389 hS390 (⟨Or.inr ⟨by rw [hkk]; decide, ⟨_, rfl⟩, by rw [hkk]; exact hM400⟩, (gK.pt hG391 hm (by show 30 ≤ 30 ∧ 30 < 40; decide))⟩) (by (try dsimp only [RM]); omega) (by (try dsimp only [RM]); omega) dX2_tells_62
        · rw [if_neg hF]
          refine lv_if_ne (tgt := 20) X.hx X.hb dX2_tells_13 (by decide) (fun c13 => ?_) (fun c13 => ?_)
          · refine lv_iload X.hx X.hb dX2_tells_20 (lv_at hl 4 rfl) ?_
            refine gcS X hl.1 hR385 hS386 1 [.int fr] [.ref m] (m_isDay l Γ G) q1378 q1379 q40 q1380 rfl rfl ⟨by decide +kernel, by decide +kernel, by decide +kernel⟩ ⟨by (try dsimp only [RM]); omega, by (try dsimp only [RM]); omega⟩ rfl rfl (Nat.le_of_ble_eq_true rfl) dX2_tells_22 ⟨by (try dsimp only [RM]); omega, by (try dsimp only [RM]); omega⟩ (fun v404 G405 H locs hq401 hR402 hS403 => ?_)
            obtain ⟨rfl, rfl⟩ := hq401
            by_cases hD : bad 0 364 fr
            · rw [if_pos hD]
              refine lv_if_eq (tgt := 33) X.hx X.hb dX2_tells_25 (by decide) (fun c25 => ?_) (fun c25 => ?_)
              · refine lv_iconst (v := 2) X.hx X.hb dX2_tells_33 (by decide) ?_
                refine lv_goto (tgt := 51) X.hx X.hb dX2_tells_34 (by decide) ?_
                refine g_put X hR402 hS403 hm (Nat.le_of_ble_eq_true rfl) rfl in_X2 tyX2 tyX2_ok nmX2 20 (by decide) q1315 (fun _ h => h) rfl rfl rfl (Nat.le_of_ble_eq_true rfl) dX2_tells_51 (fun H locs hR406 hS407 => ?_)
                obtain ⟨G408, hG408⟩ : ∃ z : GH, z = gu G m ((30, 0), .inr (1, [.int (nI (σ.1 0)), .ref (B 0), .ref (B 1), .int (σ.2 12 0), .int (nI (σ.1 1)), .ref (B 2), .ref (B 3), .ref (B 4), .int (nI (σ.1 2)), .ref (B 5), .ref (B 6), .ref (B 7), .ref (B 8), .ref (B 9), .ref (B 10), .ref (B 11), .ref (B 12), .ref (B 13), .ref (B 14), .ref (B 15), .int 2])) := ⟨_, rfl⟩
                have hR406 : Rep Γ G408 H := by rw [hG408]; exact hR406
                have f409 : G408 (B 5) = some ((31, 5), .inl (Γ.2 1, 60, .inl (σ.2 5))) := by rw [hG408]; exact gu_t hr5 hm (tne rfl)
                have f410 : G408 (B 6) = some ((31, 6), .inl (Γ.2 1, 60, .inl (σ.2 6))) := by rw [hG408]; exact gu_t hr6 hm (tne rfl)
                have f411 : G408 (B 7) = some ((31, 7), .inl (Γ.2 1, 60, .inl (σ.2 7))) := by rw [hG408]; exact gu_t hr7 hm (tne rfl)
                have f412 : G408 (B 8) = some ((31, 8), .inl (Γ.2 1, 60, .inl (σ.2 8))) := by rw [hG408]; exact gu_t hr8 hm (tne rfl)
                have f413 : G408 (B 9) = some ((31, 9), .inl (Γ.2 1, 60, .inl (σ.2 9))) := by rw [hG408]; exact gu_t hr9 hm (tne rfl)
                have f414 : G408 (B 10) = some ((31, 10), .inl (Γ.2 1, 60, .inl (σ.2 10))) := by rw [hG408]; exact gu_t hr10 hm (tne rfl)
                have f415 : G408 (B 11) = some ((31, 11), .inl (Γ.2 1, 60, .inl (σ.2 11))) := by rw [hG408]; exact gu_t hr11 hm (tne rfl)
                have f416 : G408 m = some ((30, 0), .inr (1, [.int (nI (σ.1 0)), .ref (B 0), .ref (B 1), .int (σ.2 12 0), .int (nI (σ.1 1)), .ref (B 2), .ref (B 3), .ref (B 4), .int (nI (σ.1 2)), .ref (B 5), .ref (B 6), .ref (B 7), .ref (B 8), .ref (B 9), .ref (B 10), .ref (B 11), .ref (B 12), .ref (B 13), .ref (B 14), .ref (B 15), .int 2])) := by rw [hG408]; exact gu_s _ _ _
                have hM417 := hM.obj hG408
                refine lv_aload_n X.hx X.hb dX2_tells_54 rfl (lv_at hl 0 rfl) ?_
                refine g_get X hR406 f416 rfl in_X2 20 (by decide) q1315 (fun _ h => h) rfl dX2_tells_55 ?_
                refine lv_if_le (tgt := 63) X.hx X.hb dX2_tells_58 (by decide) (fun c58 => ?_) (fun c58 => ?_)
                · exact absurd c58 (by decide)
                · refine lv_iconst (v := 0) X.hx X.hb dX2_tells_61 (by decide) ?_
                  have hkk : kT σ p f fr lo hi v = 2 := by rw [kT, if_neg (or_no hP hF), if_pos (Or.inr hD)]
                  exact g_iret X hr hlk hR406 hS407 (⟨Or.inr ⟨by rw [hkk]; decide, ⟨_, rfl⟩, by rw [hkk]; exact hM417⟩, (gK.pt hG408 hm (by show 30 ≤ 30 ∧ 30 < 40; decide))⟩) (by (try dsimp only [RM]); omega) (by (try dsimp only [RM]); omega) dX2_tells_62
              · exact absurd (by decide) c25
            · rw [if_neg hD]
              refine lv_if_eq (tgt := 33) X.hx X.hb dX2_tells_25 (by decide) (fun c25 => ?_) (fun c25 => ?_)
              · exact absurd c25 (by decide)
              · refine lv_iload X.hx X.hb dX2_tells_28 (lv_at hl 6 rfl) ?_
                refine lv_if_ne (tgt := 37) X.hx X.hb dX2_tells_30 (by decide) (fun c30 => ?_) (fun c30 => ?_)
                · exact absurd rfl c30
                · refine lv_iconst (v := 2) X.hx X.hb dX2_tells_33 (by decide) ?_
                  refine lv_goto (tgt := 51) X.hx X.hb dX2_tells_34 (by decide) ?_
                  refine g_put X hR402 hS403 hm (Nat.le_of_ble_eq_true rfl) rfl in_X2 tyX2 tyX2_ok nmX2 20 (by decide) q1315 (fun _ h => h) rfl rfl rfl (Nat.le_of_ble_eq_true rfl) dX2_tells_51 (fun H locs hR418 hS419 => ?_)
                  obtain ⟨G420, hG420⟩ : ∃ z : GH, z = gu G m ((30, 0), .inr (1, [.int (nI (σ.1 0)), .ref (B 0), .ref (B 1), .int (σ.2 12 0), .int (nI (σ.1 1)), .ref (B 2), .ref (B 3), .ref (B 4), .int (nI (σ.1 2)), .ref (B 5), .ref (B 6), .ref (B 7), .ref (B 8), .ref (B 9), .ref (B 10), .ref (B 11), .ref (B 12), .ref (B 13), .ref (B 14), .ref (B 15), .int 2])) := ⟨_, rfl⟩
                  have hR418 : Rep Γ G420 H := by rw [hG420]; exact hR418
                  have f421 : G420 (B 5) = some ((31, 5), .inl (Γ.2 1, 60, .inl (σ.2 5))) := by rw [hG420]; exact gu_t hr5 hm (tne rfl)
                  have f422 : G420 (B 6) = some ((31, 6), .inl (Γ.2 1, 60, .inl (σ.2 6))) := by rw [hG420]; exact gu_t hr6 hm (tne rfl)
                  have f423 : G420 (B 7) = some ((31, 7), .inl (Γ.2 1, 60, .inl (σ.2 7))) := by rw [hG420]; exact gu_t hr7 hm (tne rfl)
                  have f424 : G420 (B 8) = some ((31, 8), .inl (Γ.2 1, 60, .inl (σ.2 8))) := by rw [hG420]; exact gu_t hr8 hm (tne rfl)
                  have f425 : G420 (B 9) = some ((31, 9), .inl (Γ.2 1, 60, .inl (σ.2 9))) := by rw [hG420]; exact gu_t hr9 hm (tne rfl)
                  have f426 : G420 (B 10) = some ((31, 10), .inl (Γ.2 1, 60, .inl (σ.2 10))) := by rw [hG420]; exact gu_t hr10 hm (tne rfl)
                  have f427 : G420 (B 11) = some ((31, 11), .inl (Γ.2 1, 60, .inl (σ.2 11))) := by rw [hG420]; exact gu_t hr11 hm (tne rfl)
                  have f428 : G420 m = some ((30, 0), .inr (1, [.int (nI (σ.1 0)), .ref (B 0), .ref (B 1), .int (σ.2 12 0), .int (nI (σ.1 1)), .ref (B 2), .ref (B 3), .ref (B 4), .int (nI (σ.1 2)), .ref (B 5), .ref (B 6), .ref (B 7), .ref (B 8), .ref (B 9), .ref (B 10), .ref (B 11), .ref (B 12), .ref (B 13), .ref (B 14), .ref (B 15), .int 2])) := by rw [hG420]; exact gu_s _ _ _
                  have hM429 := hM.obj hG420
                  refine lv_aload_n X.hx X.hb dX2_tells_54 rfl (lv_at hl 0 rfl) ?_
                  refine g_get X hR418 f428 rfl in_X2 20 (by decide) q1315 (fun _ h => h) rfl dX2_tells_55 ?_
                  refine lv_if_le (tgt := 63) X.hx X.hb dX2_tells_58 (by decide) (fun c58 => ?_) (fun c58 => ?_)
                  · exact absurd c58 (by decide)
                  · refine lv_iconst (v := 0) X.hx X.hb dX2_tells_61 (by decide) ?_
                    have hkk : kT σ p f fr lo hi v = 2 := by rw [kT, if_neg (or_no hP hF), if_pos (Or.inl hbv)]
                    exact g_iret X hr hlk hR418 hS419 (⟨Or.inr ⟨by rw [hkk]; decide, ⟨_, rfl⟩, by rw [hkk]; exact hM429⟩, (gK.pt hG420 hm (by show 30 ≤ 30 ∧ 30 < 40; decide))⟩) (by (try dsimp only [RM]); omega) (by (try dsimp only [RM]); omega) dX2_tells_62
          · exact absurd c13 (by decide)
  · have hm : G m = some (MOc (nI (σ.1 0)) (σ.2 12 0) (nI (σ.1 1)) (nI (σ.1 2)) th B) := hM.1
    have hr5 : G (B 5) = some ((31, 5), .inl (Γ.2 1, 60, .inl (σ.2 5))) := hM.2.1 5 (by decide)
    have hr6 : G (B 6) = some ((31, 6), .inl (Γ.2 1, 60, .inl (σ.2 6))) := hM.2.1 6 (by decide)
    have hr7 : G (B 7) = some ((31, 7), .inl (Γ.2 1, 60, .inl (σ.2 7))) := hM.2.1 7 (by decide)
    have hr8 : G (B 8) = some ((31, 8), .inl (Γ.2 1, 60, .inl (σ.2 8))) := hM.2.1 8 (by decide)
    have hr9 : G (B 9) = some ((31, 9), .inl (Γ.2 1, 60, .inl (σ.2 9))) := hM.2.1 9 (by decide)
    have hr10 : G (B 10) = some ((31, 10), .inl (Γ.2 1, 60, .inl (σ.2 10))) := hM.2.1 10 (by decide)
    have hr11 : G (B 11) = some ((31, 11), .inl (Γ.2 1, 60, .inl (σ.2 11))) := hM.2.1 11 (by decide)
    refine lv_aload_n X.hx X.hb dX2_tells_0 rfl (lv_at hl 0 rfl) ?_
    refine lv_aload_n X.hx X.hb dX2_tells_1 rfl (lv_at hl 0 rfl) ?_
    refine lv_iload_n X.hx X.hb dX2_tells_2 rfl (lv_at hl 1 rfl) ?_
    refine gcV X hl.1 hR hS 1 [.int p] [.ref m] (m_isPolicy l Γ G hW hM) hm rfl q1397 q1399 qs25 q40 q1400 rfl rfl ⟨rfl, by decide +kernel, by decide +kernel, by decide +kernel⟩ ⟨by (try dsimp only [RM]); omega, by (try dsimp only [RM]); omega⟩ rfl rfl (Nat.le_of_ble_eq_true rfl) dX2_tells_3 ⟨by (try dsimp only [RM]); omega, by (try dsimp only [RM]); omega⟩ (fun v433 G434 H locs hq430 hR431 hS432 => ?_)
    obtain ⟨rfl, rfl⟩ := hq430
    by_cases hP : bdP (nI (σ.1 0)) p
    · rw [if_pos hP]
      refine lv_if_eq (tgt := 16) X.hx X.hb dX2_tells_6 (by decide) (fun c6 => ?_) (fun c6 => ?_)
      · refine lv_iconst (v := 1) X.hx X.hb dX2_tells_16 (by decide) ?_
        refine lv_goto (tgt := 51) X.hx X.hb dX2_tells_17 (by decide) ?_
        refine g_put X hR431 hS432 hm (Nat.le_of_ble_eq_true rfl) rfl in_X2 tyX2 tyX2_ok nmX2 20 (by decide) q1315 (fun _ h => h) rfl rfl rfl (Nat.le_of_ble_eq_true rfl) dX2_tells_51 (fun H locs hR435 hS436 => ?_)
        obtain ⟨G437, hG437⟩ : ∃ z : GH, z = gu G m ((30, 0), .inr (1, [.int (nI (σ.1 0)), .ref (B 0), .ref (B 1), .int (σ.2 12 0), .int (nI (σ.1 1)), .ref (B 2), .ref (B 3), .ref (B 4), .int (nI (σ.1 2)), .ref (B 5), .ref (B 6), .ref (B 7), .ref (B 8), .ref (B 9), .ref (B 10), .ref (B 11), .ref (B 12), .ref (B 13), .ref (B 14), .ref (B 15), .int 1])) := ⟨_, rfl⟩
        have hR435 : Rep Γ G437 H := by rw [hG437]; exact hR435
        have f438 : G437 (B 5) = some ((31, 5), .inl (Γ.2 1, 60, .inl (σ.2 5))) := by rw [hG437]; exact gu_t hr5 hm (tne rfl)
        have f439 : G437 (B 6) = some ((31, 6), .inl (Γ.2 1, 60, .inl (σ.2 6))) := by rw [hG437]; exact gu_t hr6 hm (tne rfl)
        have f440 : G437 (B 7) = some ((31, 7), .inl (Γ.2 1, 60, .inl (σ.2 7))) := by rw [hG437]; exact gu_t hr7 hm (tne rfl)
        have f441 : G437 (B 8) = some ((31, 8), .inl (Γ.2 1, 60, .inl (σ.2 8))) := by rw [hG437]; exact gu_t hr8 hm (tne rfl)
        have f442 : G437 (B 9) = some ((31, 9), .inl (Γ.2 1, 60, .inl (σ.2 9))) := by rw [hG437]; exact gu_t hr9 hm (tne rfl)
        have f443 : G437 (B 10) = some ((31, 10), .inl (Γ.2 1, 60, .inl (σ.2 10))) := by rw [hG437]; exact gu_t hr10 hm (tne rfl)
        have f444 : G437 (B 11) = some ((31, 11), .inl (Γ.2 1, 60, .inl (σ.2 11))) := by rw [hG437]; exact gu_t hr11 hm (tne rfl)
        have f445 : G437 m = some ((30, 0), .inr (1, [.int (nI (σ.1 0)), .ref (B 0), .ref (B 1), .int (σ.2 12 0), .int (nI (σ.1 1)), .ref (B 2), .ref (B 3), .ref (B 4), .int (nI (σ.1 2)), .ref (B 5), .ref (B 6), .ref (B 7), .ref (B 8), .ref (B 9), .ref (B 10), .ref (B 11), .ref (B 12), .ref (B 13), .ref (B 14), .ref (B 15), .int 1])) := by rw [hG437]; exact gu_s _ _ _
        have hM446 := hM.obj hG437
        refine lv_aload_n X.hx X.hb dX2_tells_54 rfl (lv_at hl 0 rfl) ?_
        refine g_get X hR435 f445 rfl in_X2 20 (by decide) q1315 (fun _ h => h) rfl dX2_tells_55 ?_
        refine lv_if_le (tgt := 63) X.hx X.hb dX2_tells_58 (by decide) (fun c58 => ?_) (fun c58 => ?_)
        · exact absurd c58 (by decide)
        · refine lv_iconst (v := 0) X.hx X.hb dX2_tells_61 (by decide) ?_
          have hkk : kT σ p f fr lo hi v = 1 := by rw [kT, if_pos (Or.inl hP)]
          exact g_iret X hr hlk hR435 hS436 (⟨Or.inr ⟨by rw [hkk]; decide, ⟨_, rfl⟩, by rw [hkk]; exact hM446⟩, (gK.pt hG437 hm (by show 30 ≤ 30 ∧ 30 < 40; decide))⟩) (by (try dsimp only [RM]); omega) (by (try dsimp only [RM]); omega) dX2_tells_62
      · exact absurd (by decide) c6
    · rw [if_neg hP]
      refine lv_if_eq (tgt := 16) X.hx X.hb dX2_tells_6 (by decide) (fun c6 => ?_) (fun c6 => ?_)
      · exact absurd c6 (by decide)
      · refine lv_iload_n X.hx X.hb dX2_tells_9 rfl (lv_at hl 3 rfl) ?_
        refine gcS X hl.1 hR431 hS432 1 [.int f] [.ref m] (m_isField l Γ G) q1375 q1376 q40 q1377 rfl rfl ⟨by decide +kernel, by decide +kernel, by decide +kernel⟩ ⟨by (try dsimp only [RM]); omega, by (try dsimp only [RM]); omega⟩ rfl rfl (Nat.le_of_ble_eq_true rfl) dX2_tells_10 ⟨by (try dsimp only [RM]); omega, by (try dsimp only [RM]); omega⟩ (fun v450 G451 H locs hq447 hR448 hS449 => ?_)
        obtain ⟨rfl, rfl⟩ := hq447
        by_cases hF : bdP 3 f
        · rw [if_pos hF]
          refine lv_if_ne (tgt := 20) X.hx X.hb dX2_tells_13 (by decide) (fun c13 => ?_) (fun c13 => ?_)
          · exact absurd rfl c13
          · refine lv_iconst (v := 1) X.hx X.hb dX2_tells_16 (by decide) ?_
            refine lv_goto (tgt := 51) X.hx X.hb dX2_tells_17 (by decide) ?_
            refine g_put X hR448 hS449 hm (Nat.le_of_ble_eq_true rfl) rfl in_X2 tyX2 tyX2_ok nmX2 20 (by decide) q1315 (fun _ h => h) rfl rfl rfl (Nat.le_of_ble_eq_true rfl) dX2_tells_51 (fun H locs hR452 hS453 => ?_)
            obtain ⟨G454, hG454⟩ : ∃ z : GH, z = gu G m ((30, 0), .inr (1, [.int (nI (σ.1 0)), .ref (B 0), .ref (B 1), .int (σ.2 12 0), .int (nI (σ.1 1)), .ref (B 2), .ref (B 3), .ref (B 4), .int (nI (σ.1 2)), .ref (B 5), .ref (B 6), .ref (B 7), .ref (B 8), .ref (B 9), .ref (B 10), .ref (B 11), .ref (B 12), .ref (B 13), .ref (B 14), .ref (B 15), .int 1])) := ⟨_, rfl⟩
            have hR452 : Rep Γ G454 H := by rw [hG454]; exact hR452
            have f455 : G454 (B 5) = some ((31, 5), .inl (Γ.2 1, 60, .inl (σ.2 5))) := by rw [hG454]; exact gu_t hr5 hm (tne rfl)
            have f456 : G454 (B 6) = some ((31, 6), .inl (Γ.2 1, 60, .inl (σ.2 6))) := by rw [hG454]; exact gu_t hr6 hm (tne rfl)
            have f457 : G454 (B 7) = some ((31, 7), .inl (Γ.2 1, 60, .inl (σ.2 7))) := by rw [hG454]; exact gu_t hr7 hm (tne rfl)
            have f458 : G454 (B 8) = some ((31, 8), .inl (Γ.2 1, 60, .inl (σ.2 8))) := by rw [hG454]; exact gu_t hr8 hm (tne rfl)
            have f459 : G454 (B 9) = some ((31, 9), .inl (Γ.2 1, 60, .inl (σ.2 9))) := by rw [hG454]; exact gu_t hr9 hm (tne rfl)
            have f460 : G454 (B 10) = some ((31, 10), .inl (Γ.2 1, 60, .inl (σ.2 10))) := by rw [hG454]; exact gu_t hr10 hm (tne rfl)
            have f461 : G454 (B 11) = some ((31, 11), .inl (Γ.2 1, 60, .inl (σ.2 11))) := by rw [hG454]; exact gu_t hr11 hm (tne rfl)
            have f462 : G454 m = some ((30, 0), .inr (1, [.int (nI (σ.1 0)), .ref (B 0), .ref (B 1), .int (σ.2 12 0), .int (nI (σ.1 1)), .ref (B 2), .ref (B 3), .ref (B 4), .int (nI (σ.1 2)), .ref (B 5), .ref (B 6), .ref (B 7), .ref (B 8), .ref (B 9), .ref (B 10), .ref (B 11), .ref (B 12), .ref (B 13), .ref (B 14), .ref (B 15), .int 1])) := by rw [hG454]; exact gu_s _ _ _
            have hM463 := hM.obj hG454
            refine lv_aload_n X.hx X.hb dX2_tells_54 rfl (lv_at hl 0 rfl) ?_
            refine g_get X hR452 f462 rfl in_X2 20 (by decide) q1315 (fun _ h => h) rfl dX2_tells_55 ?_
            refine lv_if_le (tgt := 63) X.hx X.hb dX2_tells_58 (by decide) (fun c58 => ?_) (fun c58 => ?_)
            · exact absurd c58 (by decide)
            · refine lv_iconst (v := 0) X.hx X.hb dX2_tells_61 (by decide) ?_
              have hkk : kT σ p f fr lo hi v = 1 := by rw [kT, if_pos (Or.inr hF)]
              exact g_iret X hr hlk hR452 hS453 (⟨Or.inr ⟨by rw [hkk]; decide, ⟨_, rfl⟩, by rw [hkk]; exact hM463⟩, (gK.pt hG454 hm (by show 30 ≤ 30 ∧ 30 < 40; decide))⟩) (by (try dsimp only [RM]); omega) (by (try dsimp only [RM]); omega) dX2_tells_62
        · rw [if_neg hF]
          refine lv_if_ne (tgt := 20) X.hx X.hb dX2_tells_13 (by decide) (fun c13 => ?_) (fun c13 => ?_)
          · refine lv_iload X.hx X.hb dX2_tells_20 (lv_at hl 4 rfl) ?_
            refine gcS X hl.1 hR448 hS449 1 [.int fr] [.ref m] (m_isDay l Γ G) q1378 q1379 q40 q1380 rfl rfl ⟨by decide +kernel, by decide +kernel, by decide +kernel⟩ ⟨by (try dsimp only [RM]); omega, by (try dsimp only [RM]); omega⟩ rfl rfl (Nat.le_of_ble_eq_true rfl) dX2_tells_22 ⟨by (try dsimp only [RM]); omega, by (try dsimp only [RM]); omega⟩ (fun v467 G468 H locs hq464 hR465 hS466 => ?_)
            obtain ⟨rfl, rfl⟩ := hq464
            by_cases hD : bad 0 364 fr
            · rw [if_pos hD]
              refine lv_if_eq (tgt := 33) X.hx X.hb dX2_tells_25 (by decide) (fun c25 => ?_) (fun c25 => ?_)
              · refine lv_iconst (v := 2) X.hx X.hb dX2_tells_33 (by decide) ?_
                refine lv_goto (tgt := 51) X.hx X.hb dX2_tells_34 (by decide) ?_
                refine g_put X hR465 hS466 hm (Nat.le_of_ble_eq_true rfl) rfl in_X2 tyX2 tyX2_ok nmX2 20 (by decide) q1315 (fun _ h => h) rfl rfl rfl (Nat.le_of_ble_eq_true rfl) dX2_tells_51 (fun H locs hR469 hS470 => ?_)
                obtain ⟨G471, hG471⟩ : ∃ z : GH, z = gu G m ((30, 0), .inr (1, [.int (nI (σ.1 0)), .ref (B 0), .ref (B 1), .int (σ.2 12 0), .int (nI (σ.1 1)), .ref (B 2), .ref (B 3), .ref (B 4), .int (nI (σ.1 2)), .ref (B 5), .ref (B 6), .ref (B 7), .ref (B 8), .ref (B 9), .ref (B 10), .ref (B 11), .ref (B 12), .ref (B 13), .ref (B 14), .ref (B 15), .int 2])) := ⟨_, rfl⟩
                have hR469 : Rep Γ G471 H := by rw [hG471]; exact hR469
                have f472 : G471 (B 5) = some ((31, 5), .inl (Γ.2 1, 60, .inl (σ.2 5))) := by rw [hG471]; exact gu_t hr5 hm (tne rfl)
                have f473 : G471 (B 6) = some ((31, 6), .inl (Γ.2 1, 60, .inl (σ.2 6))) := by rw [hG471]; exact gu_t hr6 hm (tne rfl)
                have f474 : G471 (B 7) = some ((31, 7), .inl (Γ.2 1, 60, .inl (σ.2 7))) := by rw [hG471]; exact gu_t hr7 hm (tne rfl)
                have f475 : G471 (B 8) = some ((31, 8), .inl (Γ.2 1, 60, .inl (σ.2 8))) := by rw [hG471]; exact gu_t hr8 hm (tne rfl)
                have f476 : G471 (B 9) = some ((31, 9), .inl (Γ.2 1, 60, .inl (σ.2 9))) := by rw [hG471]; exact gu_t hr9 hm (tne rfl)
                have f477 : G471 (B 10) = some ((31, 10), .inl (Γ.2 1, 60, .inl (σ.2 10))) := by rw [hG471]; exact gu_t hr10 hm (tne rfl)
                have f478 : G471 (B 11) = some ((31, 11), .inl (Γ.2 1, 60, .inl (σ.2 11))) := by rw [hG471]; exact gu_t hr11 hm (tne rfl)
                have f479 : G471 m = some ((30, 0), .inr (1, [.int (nI (σ.1 0)), .ref (B 0), .ref (B 1), .int (σ.2 12 0), .int (nI (σ.1 1)), .ref (B 2), .ref (B 3), .ref (B 4), .int (nI (σ.1 2)), .ref (B 5), .ref (B 6), .ref (B 7), .ref (B 8), .ref (B 9), .ref (B 10), .ref (B 11), .ref (B 12), .ref (B 13), .ref (B 14), .ref (B 15), .int 2])) := by rw [hG471]; exact gu_s _ _ _
                have hM480 := hM.obj hG471
                refine lv_aload_n X.hx X.hb dX2_tells_54 rfl (lv_at hl 0 rfl) ?_
                refine g_get X hR469 f479 rfl in_X2 20 (by decide) q1315 (fun _ h => h) rfl dX2_tells_55 ?_
                refine lv_if_le (tgt := 63) X.hx X.hb dX2_tells_58 (by decide) (fun c58 => ?_) (fun c58 => ?_)
                · exact absurd c58 (by decide)
                · refine lv_iconst (v := 0) X.hx X.hb dX2_tells_61 (by decide) ?_
                  have hkk : kT σ p f fr lo hi v = 2 := by rw [kT, if_neg (or_no hP hF), if_pos (Or.inr hD)]
                  exact g_iret X hr hlk hR469 hS470 (⟨Or.inr ⟨by rw [hkk]; decide, ⟨_, rfl⟩, by rw [hkk]; exact hM480⟩, (gK.pt hG471 hm (by show 30 ≤ 30 ∧ 30 < 40; decide))⟩) (by (try dsimp only [RM]); omega) (by (try dsimp only [RM]); omega) dX2_tells_62
              · exact absurd (by decide) c25
            · rw [if_neg hD]
              refine lv_if_eq (tgt := 33) X.hx X.hb dX2_tells_25 (by decide) (fun c25 => ?_) (fun c25 => ?_)
              · exact absurd c25 (by decide)
              · refine lv_iload X.hx X.hb dX2_tells_28 (lv_at hl 6 rfl) ?_
                refine lv_if_ne (tgt := 37) X.hx X.hb dX2_tells_30 (by decide) (fun c30 => ?_) (fun c30 => ?_)
                · refine lv_aload_n X.hx X.hb dX2_tells_37 rfl (lv_at hl 0 rfl) ?_
                  refine g_get X hR465 hm rfl in_X2 8 (by decide) q1303 (fun _ h => h) rfl dX2_tells_38 ?_
                  refine lv_bipush (v := 60) X.hx X.hb dX2_tells_41 (by decide) ?_
                  refine lv_icmp_ne (tgt := 50) X.hx X.hb dX2_tells_43 (by decide) (fun c43 => ?_) (fun c43 => ?_)
                  · refine lv_iconst (v := 0) X.hx X.hb dX2_tells_50 (by decide) ?_
                    refine g_put X hR465 hS466 hm (Nat.le_of_ble_eq_true rfl) rfl in_X2 tyX2 tyX2_ok nmX2 20 (by decide) q1315 (fun _ h => h) rfl rfl rfl (Nat.le_of_ble_eq_true rfl) dX2_tells_51 (fun H locs hR481 hS482 => ?_)
                    obtain ⟨G483, hG483⟩ : ∃ z : GH, z = gu G m ((30, 0), .inr (1, [.int (nI (σ.1 0)), .ref (B 0), .ref (B 1), .int (σ.2 12 0), .int (nI (σ.1 1)), .ref (B 2), .ref (B 3), .ref (B 4), .int (nI (σ.1 2)), .ref (B 5), .ref (B 6), .ref (B 7), .ref (B 8), .ref (B 9), .ref (B 10), .ref (B 11), .ref (B 12), .ref (B 13), .ref (B 14), .ref (B 15), .int 0])) := ⟨_, rfl⟩
                    have hR481 : Rep Γ G483 H := by rw [hG483]; exact hR481
                    have f484 : G483 (B 5) = some ((31, 5), .inl (Γ.2 1, 60, .inl (σ.2 5))) := by rw [hG483]; exact gu_t hr5 hm (tne rfl)
                    have f485 : G483 (B 6) = some ((31, 6), .inl (Γ.2 1, 60, .inl (σ.2 6))) := by rw [hG483]; exact gu_t hr6 hm (tne rfl)
                    have f486 : G483 (B 7) = some ((31, 7), .inl (Γ.2 1, 60, .inl (σ.2 7))) := by rw [hG483]; exact gu_t hr7 hm (tne rfl)
                    have f487 : G483 (B 8) = some ((31, 8), .inl (Γ.2 1, 60, .inl (σ.2 8))) := by rw [hG483]; exact gu_t hr8 hm (tne rfl)
                    have f488 : G483 (B 9) = some ((31, 9), .inl (Γ.2 1, 60, .inl (σ.2 9))) := by rw [hG483]; exact gu_t hr9 hm (tne rfl)
                    have f489 : G483 (B 10) = some ((31, 10), .inl (Γ.2 1, 60, .inl (σ.2 10))) := by rw [hG483]; exact gu_t hr10 hm (tne rfl)
                    have f490 : G483 (B 11) = some ((31, 11), .inl (Γ.2 1, 60, .inl (σ.2 11))) := by rw [hG483]; exact gu_t hr11 hm (tne rfl)
                    have f491 : G483 m = some ((30, 0), .inr (1, [.int (nI (σ.1 0)), .ref (B 0), .ref (B 1), .int (σ.2 12 0), .int (nI (σ.1 1)), .ref (B 2), .ref (B 3), .ref (B 4), .int (nI (σ.1 2)), .ref (B 5), .ref (B 6), .ref (B 7), .ref (B 8), .ref (B 9), .ref (B 10), .ref (B 11), .ref (B 12), .ref (B 13), .ref (B 14), .ref (B 15), .int 0])) := by rw [hG483]; exact gu_s _ _ _
                    have hM492 := hM.obj hG483
                    refine lv_aload_n X.hx X.hb dX2_tells_54 rfl (lv_at hl 0 rfl) ?_
                    refine g_get X hR481 f491 rfl in_X2 20 (by decide) q1315 (fun _ h => h) rfl dX2_tells_55 ?_
                    refine lv_if_le (tgt := 63) X.hx X.hb dX2_tells_58 (by decide) (fun c58 => ?_) (fun c58 => ?_)
                    · refine lv_aload_n X.hx X.hb dX2_tells_63 rfl (lv_at hl 0 rfl) ?_
                      refine g_get X hR481 f491 rfl in_X2 9 (by decide) q1304 (fun _ h => h) rfl dX2_tells_64 ?_
                      refine lv_aload_n X.hx X.hb dX2_tells_67 rfl (lv_at hl 0 rfl) ?_
                      refine g_get X hR481 f491 rfl in_X2 8 (by decide) q1303 (fun _ h => h) rfl dX2_tells_68 ?_
                      refine lv_iload_n X.hx X.hb dX2_tells_71 rfl (lv_at hl 1 rfl) ?_
                      have hn60 := nI_lts (k := 60) hW.2.2.1 (by decide) c43
                      refine g_iast X hR481 hS482 f484 (Nat.le_of_ble_eq_true rfl) (vp_in_nI hn60 (by decide)) dX2_tells_72 (fun H locs hR493 hS494 => ?_)
                      obtain ⟨G495, hG495⟩ : ∃ z : GH, z = gu G483 (B 5) ((31, 5), .inl (Γ.2 1, 60, .inl (upd (σ.2 5) ((nI (σ.1 2)).toNatClampNeg) p))) := ⟨_, rfl⟩
                      have hR493 : Rep Γ G495 H := by rw [hG495]; exact hR493
                      have f496 : G495 (B 6) = some ((31, 6), .inl (Γ.2 1, 60, .inl (σ.2 6))) := by rw [hG495]; exact gu_t f485 f484 (tne2 (by decide))
                      have f497 : G495 (B 7) = some ((31, 7), .inl (Γ.2 1, 60, .inl (σ.2 7))) := by rw [hG495]; exact gu_t f486 f484 (tne2 (by decide))
                      have f498 : G495 (B 8) = some ((31, 8), .inl (Γ.2 1, 60, .inl (σ.2 8))) := by rw [hG495]; exact gu_t f487 f484 (tne2 (by decide))
                      have f499 : G495 (B 9) = some ((31, 9), .inl (Γ.2 1, 60, .inl (σ.2 9))) := by rw [hG495]; exact gu_t f488 f484 (tne2 (by decide))
                      have f500 : G495 (B 10) = some ((31, 10), .inl (Γ.2 1, 60, .inl (σ.2 10))) := by rw [hG495]; exact gu_t f489 f484 (tne2 (by decide))
                      have f501 : G495 (B 11) = some ((31, 11), .inl (Γ.2 1, 60, .inl (σ.2 11))) := by rw [hG495]; exact gu_t f490 f484 (tne2 (by decide))
                      have f502 : G495 m = some ((30, 0), .inr (1, [.int (nI (σ.1 0)), .ref (B 0), .ref (B 1), .int (σ.2 12 0), .int (nI (σ.1 1)), .ref (B 2), .ref (B 3), .ref (B 4), .int (nI (σ.1 2)), .ref (B 5), .ref (B 6), .ref (B 7), .ref (B 8), .ref (B 9), .ref (B 10), .ref (B 11), .ref (B 12), .ref (B 13), .ref (B 14), .ref (B 15), .int 0])) := by rw [hG495]; exact gu_t f491 f484 (tne rfl)
                      have f503 : G495 (B 5) = some ((31, 5), .inl (Γ.2 1, 60, .inl (upd (σ.2 5) ((nI (σ.1 2)).toNatClampNeg) p))) := by rw [hG495]; exact gu_s _ _ _
                      have hM504 := hM492.row (G1 := G495) (r := 5) (g := va_up (σ.2 5) (σ.1 2) p) (by decide) (by rw [hG495, updn (show σ.1 2 < 2 ^ 31 by omega)]; rfl)
                      refine lv_aload_n X.hx X.hb dX2_tells_73 rfl (lv_at hl 0 rfl) ?_
                      refine g_get X hR493 f502 rfl in_X2 10 (by decide) q1305 (fun _ h => h) rfl dX2_tells_74 ?_
                      refine lv_aload_n X.hx X.hb dX2_tells_77 rfl (lv_at hl 0 rfl) ?_
                      refine g_get X hR493 f502 rfl in_X2 8 (by decide) q1303 (fun _ h => h) rfl dX2_tells_78 ?_
                      refine lv_iload_n X.hx X.hb dX2_tells_81 rfl (lv_at hl 2 rfl) ?_
                      refine g_iast X hR493 hS494 f496 (Nat.le_of_ble_eq_true rfl) (vp_in_nI hn60 (by decide)) dX2_tells_82 (fun H locs hR505 hS506 => ?_)
                      obtain ⟨G507, hG507⟩ : ∃ z : GH, z = gu G495 (B 6) ((31, 6), .inl (Γ.2 1, 60, .inl (upd (σ.2 6) ((nI (σ.1 2)).toNatClampNeg) kd))) := ⟨_, rfl⟩
                      have hR505 : Rep Γ G507 H := by rw [hG507]; exact hR505
                      have f508 : G507 (B 7) = some ((31, 7), .inl (Γ.2 1, 60, .inl (σ.2 7))) := by rw [hG507]; exact gu_t f497 f496 (tne2 (by decide))
                      have f509 : G507 (B 8) = some ((31, 8), .inl (Γ.2 1, 60, .inl (σ.2 8))) := by rw [hG507]; exact gu_t f498 f496 (tne2 (by decide))
                      have f510 : G507 (B 9) = some ((31, 9), .inl (Γ.2 1, 60, .inl (σ.2 9))) := by rw [hG507]; exact gu_t f499 f496 (tne2 (by decide))
                      have f511 : G507 (B 10) = some ((31, 10), .inl (Γ.2 1, 60, .inl (σ.2 10))) := by rw [hG507]; exact gu_t f500 f496 (tne2 (by decide))
                      have f512 : G507 (B 11) = some ((31, 11), .inl (Γ.2 1, 60, .inl (σ.2 11))) := by rw [hG507]; exact gu_t f501 f496 (tne2 (by decide))
                      have f513 : G507 m = some ((30, 0), .inr (1, [.int (nI (σ.1 0)), .ref (B 0), .ref (B 1), .int (σ.2 12 0), .int (nI (σ.1 1)), .ref (B 2), .ref (B 3), .ref (B 4), .int (nI (σ.1 2)), .ref (B 5), .ref (B 6), .ref (B 7), .ref (B 8), .ref (B 9), .ref (B 10), .ref (B 11), .ref (B 12), .ref (B 13), .ref (B 14), .ref (B 15), .int 0])) := by rw [hG507]; exact gu_t f502 f496 (tne rfl)
                      have f514 : G507 (B 5) = some ((31, 5), .inl (Γ.2 1, 60, .inl (upd (σ.2 5) ((nI (σ.1 2)).toNatClampNeg) p))) := by rw [hG507]; exact gu_t f503 f496 (tne2 (by decide))
                      have f515 : G507 (B 6) = some ((31, 6), .inl (Γ.2 1, 60, .inl (upd (σ.2 6) ((nI (σ.1 2)).toNatClampNeg) kd))) := by rw [hG507]; exact gu_s _ _ _
                      have hM516 := hM504.row (G1 := G507) (r := 6) (g := va_up (σ.2 6) (σ.1 2) kd) (by decide) (by rw [hG507, updn (show σ.1 2 < 2 ^ 31 by omega)]; rfl)
                      refine lv_aload_n X.hx X.hb dX2_tells_83 rfl (lv_at hl 0 rfl) ?_
                      refine g_get X hR505 f513 rfl in_X2 11 (by decide) q1306 (fun _ h => h) rfl dX2_tells_84 ?_
                      refine lv_aload_n X.hx X.hb dX2_tells_87 rfl (lv_at hl 0 rfl) ?_
                      refine g_get X hR505 f513 rfl in_X2 8 (by decide) q1303 (fun _ h => h) rfl dX2_tells_88 ?_
                      refine lv_iload_n X.hx X.hb dX2_tells_91 rfl (lv_at hl 3 rfl) ?_
                      refine g_iast X hR505 hS506 f508 (Nat.le_of_ble_eq_true rfl) (vp_in_nI hn60 (by decide)) dX2_tells_92 (fun H locs hR517 hS518 => ?_)
                      obtain ⟨G519, hG519⟩ : ∃ z : GH, z = gu G507 (B 7) ((31, 7), .inl (Γ.2 1, 60, .inl (upd (σ.2 7) ((nI (σ.1 2)).toNatClampNeg) f))) := ⟨_, rfl⟩
                      have hR517 : Rep Γ G519 H := by rw [hG519]; exact hR517
                      have f520 : G519 (B 8) = some ((31, 8), .inl (Γ.2 1, 60, .inl (σ.2 8))) := by rw [hG519]; exact gu_t f509 f508 (tne2 (by decide))
                      have f521 : G519 (B 9) = some ((31, 9), .inl (Γ.2 1, 60, .inl (σ.2 9))) := by rw [hG519]; exact gu_t f510 f508 (tne2 (by decide))
                      have f522 : G519 (B 10) = some ((31, 10), .inl (Γ.2 1, 60, .inl (σ.2 10))) := by rw [hG519]; exact gu_t f511 f508 (tne2 (by decide))
                      have f523 : G519 (B 11) = some ((31, 11), .inl (Γ.2 1, 60, .inl (σ.2 11))) := by rw [hG519]; exact gu_t f512 f508 (tne2 (by decide))
                      have f524 : G519 m = some ((30, 0), .inr (1, [.int (nI (σ.1 0)), .ref (B 0), .ref (B 1), .int (σ.2 12 0), .int (nI (σ.1 1)), .ref (B 2), .ref (B 3), .ref (B 4), .int (nI (σ.1 2)), .ref (B 5), .ref (B 6), .ref (B 7), .ref (B 8), .ref (B 9), .ref (B 10), .ref (B 11), .ref (B 12), .ref (B 13), .ref (B 14), .ref (B 15), .int 0])) := by rw [hG519]; exact gu_t f513 f508 (tne rfl)
                      have f525 : G519 (B 5) = some ((31, 5), .inl (Γ.2 1, 60, .inl (upd (σ.2 5) ((nI (σ.1 2)).toNatClampNeg) p))) := by rw [hG519]; exact gu_t f514 f508 (tne2 (by decide))
                      have f526 : G519 (B 6) = some ((31, 6), .inl (Γ.2 1, 60, .inl (upd (σ.2 6) ((nI (σ.1 2)).toNatClampNeg) kd))) := by rw [hG519]; exact gu_t f515 f508 (tne2 (by decide))
                      have f527 : G519 (B 7) = some ((31, 7), .inl (Γ.2 1, 60, .inl (upd (σ.2 7) ((nI (σ.1 2)).toNatClampNeg) f))) := by rw [hG519]; exact gu_s _ _ _
                      have hM528 := hM516.row (G1 := G519) (r := 7) (g := va_up (σ.2 7) (σ.1 2) f) (by decide) (by rw [hG519, updn (show σ.1 2 < 2 ^ 31 by omega)]; rfl)
                      refine lv_aload_n X.hx X.hb dX2_tells_93 rfl (lv_at hl 0 rfl) ?_
                      refine g_get X hR517 f524 rfl in_X2 12 (by decide) q1307 (fun _ h => h) rfl dX2_tells_94 ?_
                      refine lv_aload_n X.hx X.hb dX2_tells_97 rfl (lv_at hl 0 rfl) ?_
                      refine g_get X hR517 f524 rfl in_X2 8 (by decide) q1303 (fun _ h => h) rfl dX2_tells_98 ?_
                      refine lv_iload X.hx X.hb dX2_tells_101 (lv_at hl 4 rfl) ?_
                      refine g_iast X hR517 hS518 f520 (Nat.le_of_ble_eq_true rfl) (vp_in_nI hn60 (by decide)) dX2_tells_103 (fun H locs hR529 hS530 => ?_)
                      obtain ⟨G531, hG531⟩ : ∃ z : GH, z = gu G519 (B 8) ((31, 8), .inl (Γ.2 1, 60, .inl (upd (σ.2 8) ((nI (σ.1 2)).toNatClampNeg) fr))) := ⟨_, rfl⟩
                      have hR529 : Rep Γ G531 H := by rw [hG531]; exact hR529
                      have f532 : G531 (B 9) = some ((31, 9), .inl (Γ.2 1, 60, .inl (σ.2 9))) := by rw [hG531]; exact gu_t f521 f520 (tne2 (by decide))
                      have f533 : G531 (B 10) = some ((31, 10), .inl (Γ.2 1, 60, .inl (σ.2 10))) := by rw [hG531]; exact gu_t f522 f520 (tne2 (by decide))
                      have f534 : G531 (B 11) = some ((31, 11), .inl (Γ.2 1, 60, .inl (σ.2 11))) := by rw [hG531]; exact gu_t f523 f520 (tne2 (by decide))
                      have f535 : G531 m = some ((30, 0), .inr (1, [.int (nI (σ.1 0)), .ref (B 0), .ref (B 1), .int (σ.2 12 0), .int (nI (σ.1 1)), .ref (B 2), .ref (B 3), .ref (B 4), .int (nI (σ.1 2)), .ref (B 5), .ref (B 6), .ref (B 7), .ref (B 8), .ref (B 9), .ref (B 10), .ref (B 11), .ref (B 12), .ref (B 13), .ref (B 14), .ref (B 15), .int 0])) := by rw [hG531]; exact gu_t f524 f520 (tne rfl)
                      have f536 : G531 (B 5) = some ((31, 5), .inl (Γ.2 1, 60, .inl (upd (σ.2 5) ((nI (σ.1 2)).toNatClampNeg) p))) := by rw [hG531]; exact gu_t f525 f520 (tne2 (by decide))
                      have f537 : G531 (B 6) = some ((31, 6), .inl (Γ.2 1, 60, .inl (upd (σ.2 6) ((nI (σ.1 2)).toNatClampNeg) kd))) := by rw [hG531]; exact gu_t f526 f520 (tne2 (by decide))
                      have f538 : G531 (B 7) = some ((31, 7), .inl (Γ.2 1, 60, .inl (upd (σ.2 7) ((nI (σ.1 2)).toNatClampNeg) f))) := by rw [hG531]; exact gu_t f527 f520 (tne2 (by decide))
                      have f539 : G531 (B 8) = some ((31, 8), .inl (Γ.2 1, 60, .inl (upd (σ.2 8) ((nI (σ.1 2)).toNatClampNeg) fr))) := by rw [hG531]; exact gu_s _ _ _
                      have hM540 := hM528.row (G1 := G531) (r := 8) (g := va_up (σ.2 8) (σ.1 2) fr) (by decide) (by rw [hG531, updn (show σ.1 2 < 2 ^ 31 by omega)]; rfl)
                      refine lv_aload_n X.hx X.hb dX2_tells_104 rfl (lv_at hl 0 rfl) ?_
                      refine g_get X hR529 f535 rfl in_X2 13 (by decide) q1308 (fun _ h => h) rfl dX2_tells_105 ?_
                      refine lv_aload_n X.hx X.hb dX2_tells_108 rfl (lv_at hl 0 rfl) ?_
                      refine g_get X hR529 f535 rfl in_X2 8 (by decide) q1303 (fun _ h => h) rfl dX2_tells_109 ?_
                      refine lv_iload X.hx X.hb dX2_tells_112 (lv_at hl 5 rfl) ?_
                      refine g_iast X hR529 hS530 f532 (Nat.le_of_ble_eq_true rfl) (vp_in_nI hn60 (by decide)) dX2_tells_114 (fun H locs hR541 hS542 => ?_)
                      obtain ⟨G543, hG543⟩ : ∃ z : GH, z = gu G531 (B 9) ((31, 9), .inl (Γ.2 1, 60, .inl (upd (σ.2 9) ((nI (σ.1 2)).toNatClampNeg) nu))) := ⟨_, rfl⟩
                      have hR541 : Rep Γ G543 H := by rw [hG543]; exact hR541
                      have f544 : G543 (B 10) = some ((31, 10), .inl (Γ.2 1, 60, .inl (σ.2 10))) := by rw [hG543]; exact gu_t f533 f532 (tne2 (by decide))
                      have f545 : G543 (B 11) = some ((31, 11), .inl (Γ.2 1, 60, .inl (σ.2 11))) := by rw [hG543]; exact gu_t f534 f532 (tne2 (by decide))
                      have f546 : G543 m = some ((30, 0), .inr (1, [.int (nI (σ.1 0)), .ref (B 0), .ref (B 1), .int (σ.2 12 0), .int (nI (σ.1 1)), .ref (B 2), .ref (B 3), .ref (B 4), .int (nI (σ.1 2)), .ref (B 5), .ref (B 6), .ref (B 7), .ref (B 8), .ref (B 9), .ref (B 10), .ref (B 11), .ref (B 12), .ref (B 13), .ref (B 14), .ref (B 15), .int 0])) := by rw [hG543]; exact gu_t f535 f532 (tne rfl)
                      have f547 : G543 (B 5) = some ((31, 5), .inl (Γ.2 1, 60, .inl (upd (σ.2 5) ((nI (σ.1 2)).toNatClampNeg) p))) := by rw [hG543]; exact gu_t f536 f532 (tne2 (by decide))
                      have f548 : G543 (B 6) = some ((31, 6), .inl (Γ.2 1, 60, .inl (upd (σ.2 6) ((nI (σ.1 2)).toNatClampNeg) kd))) := by rw [hG543]; exact gu_t f537 f532 (tne2 (by decide))
                      have f549 : G543 (B 7) = some ((31, 7), .inl (Γ.2 1, 60, .inl (upd (σ.2 7) ((nI (σ.1 2)).toNatClampNeg) f))) := by rw [hG543]; exact gu_t f538 f532 (tne2 (by decide))
                      have f550 : G543 (B 8) = some ((31, 8), .inl (Γ.2 1, 60, .inl (upd (σ.2 8) ((nI (σ.1 2)).toNatClampNeg) fr))) := by rw [hG543]; exact gu_t f539 f532 (tne2 (by decide))
                      have f551 : G543 (B 9) = some ((31, 9), .inl (Γ.2 1, 60, .inl (upd (σ.2 9) ((nI (σ.1 2)).toNatClampNeg) nu))) := by rw [hG543]; exact gu_s _ _ _
                      have hM552 := hM540.row (G1 := G543) (r := 9) (g := va_up (σ.2 9) (σ.1 2) nu) (by decide) (by rw [hG543, updn (show σ.1 2 < 2 ^ 31 by omega)]; rfl)
                      refine lv_aload_n X.hx X.hb dX2_tells_115 rfl (lv_at hl 0 rfl) ?_
                      refine g_get X hR541 f546 rfl in_X2 14 (by decide) q1309 (fun _ h => h) rfl dX2_tells_116 ?_
                      refine lv_aload_n X.hx X.hb dX2_tells_119 rfl (lv_at hl 0 rfl) ?_
                      refine g_get X hR541 f546 rfl in_X2 8 (by decide) q1303 (fun _ h => h) rfl dX2_tells_120 ?_
                      refine lv_aload_n X.hx X.hb dX2_tells_123 rfl (lv_at hl 0 rfl) ?_
                      refine g_get X hR541 f546 rfl in_X2 3 (by decide) q1298 (fun _ h => h) rfl dX2_tells_124 ?_
                      refine g_iast X hR541 hS542 f544 (Nat.le_of_ble_eq_true rfl) (vp_in_nI hn60 (by decide)) dX2_tells_127 (fun H locs hR553 hS554 => ?_)
                      obtain ⟨G555, hG555⟩ : ∃ z : GH, z = gu G543 (B 10) ((31, 10), .inl (Γ.2 1, 60, .inl (upd (σ.2 10) ((nI (σ.1 2)).toNatClampNeg) (σ.2 12 0)))) := ⟨_, rfl⟩
                      have hR553 : Rep Γ G555 H := by rw [hG555]; exact hR553
                      have f556 : G555 (B 11) = some ((31, 11), .inl (Γ.2 1, 60, .inl (σ.2 11))) := by rw [hG555]; exact gu_t f545 f544 (tne2 (by decide))
                      have f557 : G555 m = some ((30, 0), .inr (1, [.int (nI (σ.1 0)), .ref (B 0), .ref (B 1), .int (σ.2 12 0), .int (nI (σ.1 1)), .ref (B 2), .ref (B 3), .ref (B 4), .int (nI (σ.1 2)), .ref (B 5), .ref (B 6), .ref (B 7), .ref (B 8), .ref (B 9), .ref (B 10), .ref (B 11), .ref (B 12), .ref (B 13), .ref (B 14), .ref (B 15), .int 0])) := by rw [hG555]; exact gu_t f546 f544 (tne rfl)
                      have f558 : G555 (B 5) = some ((31, 5), .inl (Γ.2 1, 60, .inl (upd (σ.2 5) ((nI (σ.1 2)).toNatClampNeg) p))) := by rw [hG555]; exact gu_t f547 f544 (tne2 (by decide))
                      have f559 : G555 (B 6) = some ((31, 6), .inl (Γ.2 1, 60, .inl (upd (σ.2 6) ((nI (σ.1 2)).toNatClampNeg) kd))) := by rw [hG555]; exact gu_t f548 f544 (tne2 (by decide))
                      have f560 : G555 (B 7) = some ((31, 7), .inl (Γ.2 1, 60, .inl (upd (σ.2 7) ((nI (σ.1 2)).toNatClampNeg) f))) := by rw [hG555]; exact gu_t f549 f544 (tne2 (by decide))
                      have f561 : G555 (B 8) = some ((31, 8), .inl (Γ.2 1, 60, .inl (upd (σ.2 8) ((nI (σ.1 2)).toNatClampNeg) fr))) := by rw [hG555]; exact gu_t f550 f544 (tne2 (by decide))
                      have f562 : G555 (B 9) = some ((31, 9), .inl (Γ.2 1, 60, .inl (upd (σ.2 9) ((nI (σ.1 2)).toNatClampNeg) nu))) := by rw [hG555]; exact gu_t f551 f544 (tne2 (by decide))
                      have f563 : G555 (B 10) = some ((31, 10), .inl (Γ.2 1, 60, .inl (upd (σ.2 10) ((nI (σ.1 2)).toNatClampNeg) (σ.2 12 0)))) := by rw [hG555]; exact gu_s _ _ _
                      have hM564 := hM552.row (G1 := G555) (r := 10) (g := va_up (σ.2 10) (σ.1 2) (σ.2 12 0)) (by decide) (by rw [hG555, updn (show σ.1 2 < 2 ^ 31 by omega)]; rfl)
                      refine lv_aload_n X.hx X.hb dX2_tells_128 rfl (lv_at hl 0 rfl) ?_
                      refine g_get X hR553 f557 rfl in_X2 15 (by decide) q1310 (fun _ h => h) rfl dX2_tells_129 ?_
                      refine lv_aload_n X.hx X.hb dX2_tells_132 rfl (lv_at hl 0 rfl) ?_
                      refine g_get X hR553 f557 rfl in_X2 8 (by decide) q1303 (fun _ h => h) rfl dX2_tells_133 ?_
                      refine lv_iconst (v := (-1)) X.hx X.hb dX2_tells_136 (by decide) ?_
                      refine g_iast X hR553 hS554 f556 (Nat.le_of_ble_eq_true rfl) (vp_in_nI hn60 (by decide)) dX2_tells_137 (fun H locs hR565 hS566 => ?_)
                      obtain ⟨G567, hG567⟩ : ∃ z : GH, z = gu G555 (B 11) ((31, 11), .inl (Γ.2 1, 60, .inl (upd (σ.2 11) ((nI (σ.1 2)).toNatClampNeg) (-1)))) := ⟨_, rfl⟩
                      have hR565 : Rep Γ G567 H := by rw [hG567]; exact hR565
                      have f568 : G567 m = some ((30, 0), .inr (1, [.int (nI (σ.1 0)), .ref (B 0), .ref (B 1), .int (σ.2 12 0), .int (nI (σ.1 1)), .ref (B 2), .ref (B 3), .ref (B 4), .int (nI (σ.1 2)), .ref (B 5), .ref (B 6), .ref (B 7), .ref (B 8), .ref (B 9), .ref (B 10), .ref (B 11), .ref (B 12), .ref (B 13), .ref (B 14), .ref (B 15), .int 0])) := by rw [hG567]; exact gu_t f557 f556 (tne rfl)
                      have f569 : G567 (B 5) = some ((31, 5), .inl (Γ.2 1, 60, .inl (upd (σ.2 5) ((nI (σ.1 2)).toNatClampNeg) p))) := by rw [hG567]; exact gu_t f558 f556 (tne2 (by decide))
                      have f570 : G567 (B 6) = some ((31, 6), .inl (Γ.2 1, 60, .inl (upd (σ.2 6) ((nI (σ.1 2)).toNatClampNeg) kd))) := by rw [hG567]; exact gu_t f559 f556 (tne2 (by decide))
                      have f571 : G567 (B 7) = some ((31, 7), .inl (Γ.2 1, 60, .inl (upd (σ.2 7) ((nI (σ.1 2)).toNatClampNeg) f))) := by rw [hG567]; exact gu_t f560 f556 (tne2 (by decide))
                      have f572 : G567 (B 8) = some ((31, 8), .inl (Γ.2 1, 60, .inl (upd (σ.2 8) ((nI (σ.1 2)).toNatClampNeg) fr))) := by rw [hG567]; exact gu_t f561 f556 (tne2 (by decide))
                      have f573 : G567 (B 9) = some ((31, 9), .inl (Γ.2 1, 60, .inl (upd (σ.2 9) ((nI (σ.1 2)).toNatClampNeg) nu))) := by rw [hG567]; exact gu_t f562 f556 (tne2 (by decide))
                      have f574 : G567 (B 10) = some ((31, 10), .inl (Γ.2 1, 60, .inl (upd (σ.2 10) ((nI (σ.1 2)).toNatClampNeg) (σ.2 12 0)))) := by rw [hG567]; exact gu_t f563 f556 (tne2 (by decide))
                      have f575 : G567 (B 11) = some ((31, 11), .inl (Γ.2 1, 60, .inl (upd (σ.2 11) ((nI (σ.1 2)).toNatClampNeg) (-1)))) := by rw [hG567]; exact gu_s _ _ _
                      have hM576 := hM564.row (G1 := G567) (r := 11) (g := va_up (σ.2 11) (σ.1 2) (-1)) (by decide) (by rw [hG567, updn (show σ.1 2 < 2 ^ 31 by omega)]; rfl)
                      refine lv_aload_n X.hx X.hb dX2_tells_138 rfl (lv_at hl 0 rfl) ?_
                      refine lv_dup X.hx X.hb dX2_tells_139 rfl ?_
                      refine g_get X hR565 f568 rfl in_X2 8 (by decide) q1303 (fun _ h => h) rfl dX2_tells_140 ?_
                      refine lv_iconst (v := 1) X.hx X.hb dX2_tells_143 (by decide) ?_
                      refine lv_iadd X.hx X.hb dX2_tells_144 ?_
                      refine lv_topi (fun x577 hx577 => ?_)
                      obtain rfl : x577 = nI (σ.1 2 + 1) := hx577.trans (nI_1 _)
                      refine g_put X hR565 hS566 f568 (Nat.le_of_ble_eq_true rfl) rfl in_X2 tyX2 tyX2_ok nmX2 8 (by decide) q1303 (fun _ h => h) rfl rfl rfl (Nat.le_of_ble_eq_true rfl) dX2_tells_145 (fun H locs hR578 hS579 => ?_)
                      obtain ⟨G580, hG580⟩ : ∃ z : GH, z = gu G567 m ((30, 0), .inr (1, [.int (nI (σ.1 0)), .ref (B 0), .ref (B 1), .int (σ.2 12 0), .int (nI (σ.1 1)), .ref (B 2), .ref (B 3), .ref (B 4), .int (nI (σ.1 2 + 1)), .ref (B 5), .ref (B 6), .ref (B 7), .ref (B 8), .ref (B 9), .ref (B 10), .ref (B 11), .ref (B 12), .ref (B 13), .ref (B 14), .ref (B 15), .int 0])) := ⟨_, rfl⟩
                      have hR578 : Rep Γ G580 H := by rw [hG580]; exact hR578
                      have f581 : G580 (B 5) = some ((31, 5), .inl (Γ.2 1, 60, .inl (upd (σ.2 5) ((nI (σ.1 2)).toNatClampNeg) p))) := by rw [hG580]; exact gu_t f569 f568 (tne rfl)
                      have f582 : G580 (B 6) = some ((31, 6), .inl (Γ.2 1, 60, .inl (upd (σ.2 6) ((nI (σ.1 2)).toNatClampNeg) kd))) := by rw [hG580]; exact gu_t f570 f568 (tne rfl)
                      have f583 : G580 (B 7) = some ((31, 7), .inl (Γ.2 1, 60, .inl (upd (σ.2 7) ((nI (σ.1 2)).toNatClampNeg) f))) := by rw [hG580]; exact gu_t f571 f568 (tne rfl)
                      have f584 : G580 (B 8) = some ((31, 8), .inl (Γ.2 1, 60, .inl (upd (σ.2 8) ((nI (σ.1 2)).toNatClampNeg) fr))) := by rw [hG580]; exact gu_t f572 f568 (tne rfl)
                      have f585 : G580 (B 9) = some ((31, 9), .inl (Γ.2 1, 60, .inl (upd (σ.2 9) ((nI (σ.1 2)).toNatClampNeg) nu))) := by rw [hG580]; exact gu_t f573 f568 (tne rfl)
                      have f586 : G580 (B 10) = some ((31, 10), .inl (Γ.2 1, 60, .inl (upd (σ.2 10) ((nI (σ.1 2)).toNatClampNeg) (σ.2 12 0)))) := by rw [hG580]; exact gu_t f574 f568 (tne rfl)
                      have f587 : G580 (B 11) = some ((31, 11), .inl (Γ.2 1, 60, .inl (upd (σ.2 11) ((nI (σ.1 2)).toNatClampNeg) (-1)))) := by rw [hG580]; exact gu_t f575 f568 (tne rfl)
                      have f588 : G580 m = some ((30, 0), .inr (1, [.int (nI (σ.1 0)), .ref (B 0), .ref (B 1), .int (σ.2 12 0), .int (nI (σ.1 1)), .ref (B 2), .ref (B 3), .ref (B 4), .int (nI (σ.1 2 + 1)), .ref (B 5), .ref (B 6), .ref (B 7), .ref (B 8), .ref (B 9), .ref (B 10), .ref (B 11), .ref (B 12), .ref (B 13), .ref (B 14), .ref (B 15), .int 0])) := by rw [hG580]; exact gu_s _ _ _
                      have hM589 := hM576.obj hG580
                      refine lv_aload_n X.hx X.hb dX2_tells_148 rfl (lv_at hl 0 rfl) ?_
                      refine g_get X hR578 f588 rfl in_X2 8 (by decide) q1303 (fun _ h => h) rfl dX2_tells_149 ?_
                      refine lv_iconst (v := 1) X.hx X.hb dX2_tells_152 (by decide) ?_
                      refine lv_isub X.hx X.hb dX2_tells_153 ?_
                      refine lv_topi (fun x590 hx590 => ?_)
                      obtain rfl : x590 = nI (σ.1 2) := hx590.trans (nI_pred _)
                      exact g_iret X hr hlk hR578 hS579 (⟨Or.inl ⟨by rw [kT, if_neg (or_no hP hF), if_neg (or_no hbv hD), if_neg (fun h9 => h9 (nI_ltk (k := 60) hW.2.2.1 (by decide) c43))], rfl, hM589.to (tauT σ p kd f fr nu) rfl rfl rfl rfl (fun r hr => by rcases c12 hr with rfl | rfl | rfl | rfl | rfl | rfl | rfl | rfl | rfl | rfl | rfl | rfl <;> rfl)⟩, (gK.tr (gK.tr (gK.tr (gK.tr (gK.tr (gK.tr (gK.tr (gK.tr (gK.pt hG483 hm (by show 30 ≤ 30 ∧ 30 < 40; decide)) (gK.pt hG495 f484 (by show 30 ≤ 31 ∧ 31 < 40; decide))) (gK.pt hG507 f496 (by show 30 ≤ 31 ∧ 31 < 40; decide))) (gK.pt hG519 f508 (by show 30 ≤ 31 ∧ 31 < 40; decide))) (gK.pt hG531 f520 (by show 30 ≤ 31 ∧ 31 < 40; decide))) (gK.pt hG543 f532 (by show 30 ≤ 31 ∧ 31 < 40; decide))) (gK.pt hG555 f544 (by show 30 ≤ 31 ∧ 31 < 40; decide))) (gK.pt hG567 f556 (by show 30 ≤ 31 ∧ 31 < 40; decide))) (gK.pt hG580 f568 (by show 30 ≤ 30 ∧ 30 < 40; decide)))⟩) (by (try dsimp only [RM]); omega) (by (try dsimp only [RM]); omega) dX2_tells_154
                    · exact absurd (by decide) c58
                  · refine lv_iconst (v := 3) X.hx X.hb dX2_tells_46 (by decide) ?_
                    refine lv_goto (tgt := 51) X.hx X.hb dX2_tells_47 (by decide) ?_
                    refine g_put X hR465 hS466 hm (Nat.le_of_ble_eq_true rfl) rfl in_X2 tyX2 tyX2_ok nmX2 20 (by decide) q1315 (fun _ h => h) rfl rfl rfl (Nat.le_of_ble_eq_true rfl) dX2_tells_51 (fun H locs hR591 hS592 => ?_)
                    obtain ⟨G593, hG593⟩ : ∃ z : GH, z = gu G m ((30, 0), .inr (1, [.int (nI (σ.1 0)), .ref (B 0), .ref (B 1), .int (σ.2 12 0), .int (nI (σ.1 1)), .ref (B 2), .ref (B 3), .ref (B 4), .int (nI (σ.1 2)), .ref (B 5), .ref (B 6), .ref (B 7), .ref (B 8), .ref (B 9), .ref (B 10), .ref (B 11), .ref (B 12), .ref (B 13), .ref (B 14), .ref (B 15), .int 3])) := ⟨_, rfl⟩
                    have hR591 : Rep Γ G593 H := by rw [hG593]; exact hR591
                    have f594 : G593 (B 5) = some ((31, 5), .inl (Γ.2 1, 60, .inl (σ.2 5))) := by rw [hG593]; exact gu_t hr5 hm (tne rfl)
                    have f595 : G593 (B 6) = some ((31, 6), .inl (Γ.2 1, 60, .inl (σ.2 6))) := by rw [hG593]; exact gu_t hr6 hm (tne rfl)
                    have f596 : G593 (B 7) = some ((31, 7), .inl (Γ.2 1, 60, .inl (σ.2 7))) := by rw [hG593]; exact gu_t hr7 hm (tne rfl)
                    have f597 : G593 (B 8) = some ((31, 8), .inl (Γ.2 1, 60, .inl (σ.2 8))) := by rw [hG593]; exact gu_t hr8 hm (tne rfl)
                    have f598 : G593 (B 9) = some ((31, 9), .inl (Γ.2 1, 60, .inl (σ.2 9))) := by rw [hG593]; exact gu_t hr9 hm (tne rfl)
                    have f599 : G593 (B 10) = some ((31, 10), .inl (Γ.2 1, 60, .inl (σ.2 10))) := by rw [hG593]; exact gu_t hr10 hm (tne rfl)
                    have f600 : G593 (B 11) = some ((31, 11), .inl (Γ.2 1, 60, .inl (σ.2 11))) := by rw [hG593]; exact gu_t hr11 hm (tne rfl)
                    have f601 : G593 m = some ((30, 0), .inr (1, [.int (nI (σ.1 0)), .ref (B 0), .ref (B 1), .int (σ.2 12 0), .int (nI (σ.1 1)), .ref (B 2), .ref (B 3), .ref (B 4), .int (nI (σ.1 2)), .ref (B 5), .ref (B 6), .ref (B 7), .ref (B 8), .ref (B 9), .ref (B 10), .ref (B 11), .ref (B 12), .ref (B 13), .ref (B 14), .ref (B 15), .int 3])) := by rw [hG593]; exact gu_s _ _ _
                    have hM602 := hM.obj hG593
                    refine lv_aload_n X.hx X.hb dX2_tells_54 rfl (lv_at hl 0 rfl) ?_
                    refine g_get X hR591 f601 rfl in_X2 20 (by decide) q1315 (fun _ h => h) rfl dX2_tells_55 ?_
                    refine lv_if_le (tgt := 63) X.hx X.hb dX2_tells_58 (by decide) (fun c58 => ?_) (fun c58 => ?_)
                    · exact absurd c58 (by decide)
                    · refine lv_iconst (v := 0) X.hx X.hb dX2_tells_61 (by decide) ?_
                      have hkk : kT σ p f fr lo hi v = 3 := by rw [kT, if_neg (or_no hP hF), if_neg (or_no hbv hD), if_pos (by rw [c43]; decide)]
                      exact g_iret X hr hlk hR591 hS592 (⟨Or.inr ⟨by rw [hkk]; decide, ⟨_, rfl⟩, by rw [hkk]; exact hM602⟩, (gK.pt hG593 hm (by show 30 ≤ 30 ∧ 30 < 40; decide))⟩) (by (try dsimp only [RM]); omega) (by (try dsimp only [RM]); omega) dX2_tells_62
                · exact absurd c30 (by decide)
          · exact absurd c13 (by decide)

theorem is_or (lo hi v : Int32) : ((if bad lo hi v then (0 : Int32) else 1) = 0 ∧ bad lo hi v) ∨ ((if bad lo hi v then (0 : Int32) else 1) = 1 ∧ ¬ bad lo hi v) := by
  by_cases h : bad lo hi v
  · exact Or.inl ⟨if_pos h, h⟩
  · exact Or.inr ⟨if_neg h, h⟩
theorem mr_int {Γ : GP} {G G1 : GH} {m : Nat} {σ τ : MS} {B : Nat → Nat} {k val : Int32} {v : Option Value} (h : MR Γ G G1 m σ τ B k val v) : ∃ w, v = some (.int w) := by
  rcases h.1 with ⟨-, h, -⟩ | ⟨-, h, -⟩
  · exact ⟨_, h⟩
  · exact h

set_option maxHeartbeats 4000000 in
theorem m_change (l : Launch) (Γ : GP) (G : GH) {m : Nat} {σ : MS} {th : Int32} {B : Nat → Nat} (hW : WF σ) (hM : MP Γ G m σ th B) {p f fr v : Int32} : MetG l yX2_change (ws_ yX2_change cX2_change 5 (some .int)) (RM 4 0 0) Γ G [.ref m, .int p, .int f, .int fr, .int v] (fun u G1 => MR Γ G G1 m σ (tauT σ p 0 f fr v) B (kT σ p f fr 0 20 v) (nI (σ.1 2)) u) 0 0 := by
  refine gMet (own := RX2) (by decide) rfl (Nat.le_of_ble_eq_true rfl) ?_
  intro pp ee ss mm below meth cc0 ls X hr hlk hin hnm hR hS hl
  have hl : lv_has ls 5 [(0, .ref m), (1, .int p), (2, .int f), (3, .int fr), (4, .int v)] := hl
  have hm : G m = some (MOc (nI (σ.1 0)) (σ.2 12 0) (nI (σ.1 1)) (nI (σ.1 2)) th B) := hM.1
  refine lv_aload_n X.hx X.hb dX2_change_0 rfl (lv_at hl 0 rfl) ?_
  refine lv_iload_n X.hx X.hb dX2_change_1 rfl (lv_at hl 1 rfl) ?_
  refine lv_iconst (v := 0) X.hx X.hb dX2_change_2 (by decide) ?_
  refine lv_iload_n X.hx X.hb dX2_change_3 rfl (lv_at hl 2 rfl) ?_
  refine lv_iload_n X.hx X.hb dX2_change_4 rfl (lv_at hl 3 rfl) ?_
  refine lv_iload X.hx X.hb dX2_change_5 (lv_at hl 4 rfl) ?_
  refine lv_iload X.hx X.hb dX2_change_7 (lv_at hl 4 rfl) ?_
  refine lv_iconst (v := 0) X.hx X.hb dX2_change_9 (by decide) ?_
  refine lv_bipush (v := 20) X.hx X.hb dX2_change_10 (by decide) ?_
  refine gcS X hl.1 hR hS 3 [.int v, .int 0, .int 20] [.int v, .int fr, .int f, .int 0, .int p, .ref m] (m_isIn l Γ G) q1368 q1369 q40 q1370 rfl rfl ⟨by decide +kernel, by decide +kernel, by decide +kernel⟩ ⟨by (try dsimp only [RM]); omega, by (try dsimp only [RM]); omega⟩ rfl rfl (Nat.le_of_ble_eq_true rfl) dX2_change_12 ⟨by (try dsimp only [RM]); omega, by (try dsimp only [RM]); omega⟩ (fun v606 G607 H locs hq603 hR604 hS605 => ?_)
  obtain ⟨rfl, rfl⟩ := hq603
  refine gcV X hl.1 hR604 hS605 6 [.int p, .int 0, .int f, .int fr, .int v, .int (if bad 0 20 v then 0 else 1)] [] (m_tells (lo := 0) (hi := 20) (v := v) l Γ G hW hM (is_or 0 20 v)) hm rfl q1393 q1395 qs24 q40 q1396 rfl rfl ⟨rfl, by decide +kernel, by decide +kernel, by decide +kernel⟩ ⟨by (try dsimp only [RM]); omega, by (try dsimp only [RM]); omega⟩ rfl rfl (Nat.le_of_ble_eq_true rfl) dX2_change_15 ⟨by (try dsimp only [RM]); omega, by (try dsimp only [RM]); omega⟩ (fun v611 G612 H locs hq608 hR609 hS610 => ?_)
  have hv9 := mr_int hq608
  obtain ⟨u9, rfl⟩ := hv9
  exact g_iret X hr hlk hR609 hS610 hq608 (by (try dsimp only [RM]); omega) (by (try dsimp only [RM]); omega) dX2_change_18

set_option maxHeartbeats 4000000 in
theorem m_add (l : Launch) (Γ : GP) (G : GH) {m : Nat} {σ : MS} {th : Int32} {B : Nat → Nat} (hW : WF σ) (hM : MP Γ G m σ th B) {p f fr v : Int32} : MetG l yX2_add (ws_ yX2_add cX2_add 5 (some .int)) (RM 4 0 0) Γ G [.ref m, .int p, .int f, .int fr, .int v] (fun u G1 => MR Γ G G1 m σ (tauT σ p 1 f fr v) B (kT σ p f fr (-20) 20 v) (nI (σ.1 2)) u) 0 0 := by
  refine gMet (own := RX2) (by decide) rfl (Nat.le_of_ble_eq_true rfl) ?_
  intro pp ee ss mm below meth cc0 ls X hr hlk hin hnm hR hS hl
  have hl : lv_has ls 5 [(0, .ref m), (1, .int p), (2, .int f), (3, .int fr), (4, .int v)] := hl
  have hm : G m = some (MOc (nI (σ.1 0)) (σ.2 12 0) (nI (σ.1 1)) (nI (σ.1 2)) th B) := hM.1
  refine lv_aload_n X.hx X.hb dX2_add_0 rfl (lv_at hl 0 rfl) ?_
  refine lv_iload_n X.hx X.hb dX2_add_1 rfl (lv_at hl 1 rfl) ?_
  refine lv_iconst (v := 1) X.hx X.hb dX2_add_2 (by decide) ?_
  refine lv_iload_n X.hx X.hb dX2_add_3 rfl (lv_at hl 2 rfl) ?_
  refine lv_iload_n X.hx X.hb dX2_add_4 rfl (lv_at hl 3 rfl) ?_
  refine lv_iload X.hx X.hb dX2_add_5 (lv_at hl 4 rfl) ?_
  refine lv_iload X.hx X.hb dX2_add_7 (lv_at hl 4 rfl) ?_
  refine lv_bipush (v := (-20)) X.hx X.hb dX2_add_9 (by decide) ?_
  refine lv_bipush (v := 20) X.hx X.hb dX2_add_11 (by decide) ?_
  refine gcS X hl.1 hR hS 3 [.int v, .int (-20), .int 20] [.int v, .int fr, .int f, .int 1, .int p, .ref m] (m_isIn l Γ G) q1368 q1369 q40 q1370 rfl rfl ⟨by decide +kernel, by decide +kernel, by decide +kernel⟩ ⟨by (try dsimp only [RM]); omega, by (try dsimp only [RM]); omega⟩ rfl rfl (Nat.le_of_ble_eq_true rfl) dX2_add_13 ⟨by (try dsimp only [RM]); omega, by (try dsimp only [RM]); omega⟩ (fun v616 G617 H locs hq613 hR614 hS615 => ?_)
  obtain ⟨rfl, rfl⟩ := hq613
  refine gcV X hl.1 hR614 hS615 6 [.int p, .int 1, .int f, .int fr, .int v, .int (if bad (-20) 20 v then 0 else 1)] [] (m_tells (lo := (-20)) (hi := 20) (v := v) l Γ G hW hM (is_or (-20) 20 v)) hm rfl q1393 q1395 qs24 q40 q1396 rfl rfl ⟨rfl, by decide +kernel, by decide +kernel, by decide +kernel⟩ ⟨by (try dsimp only [RM]); omega, by (try dsimp only [RM]); omega⟩ rfl rfl (Nat.le_of_ble_eq_true rfl) dX2_add_16 ⟨by (try dsimp only [RM]); omega, by (try dsimp only [RM]); omega⟩ (fun v621 G622 H locs hq618 hR619 hS620 => ?_)
  have hv9 := mr_int hq618
  obtain ⟨u9, rfl⟩ := hv9
  exact g_iret X hr hlk hR619 hS620 hq618 (by (try dsimp only [RM]); omega) (by (try dsimp only [RM]); omega) dX2_add_19

set_option maxHeartbeats 4000000 in
theorem m_cancel (l : Launch) (Γ : GP) (G : GH) {m : Nat} {σ : MS} {th : Int32} {B : Nat → Nat} (hW : WF σ) (hM : MP Γ G m σ th B) {p fr : Int32} : MetG l yX2_cancel (ws_ yX2_cancel cX2_cancel 3 (some .int)) (RM 4 0 0) Γ G [.ref m, .int p, .int fr] (fun u G1 => MR Γ G G1 m σ (tauT σ p 2 0 fr 0) B (kT σ p 0 fr 0 0 0) (nI (σ.1 2)) u) 0 0 := by
  refine gMet (own := RX2) (by decide) rfl (Nat.le_of_ble_eq_true rfl) ?_
  intro pp ee ss mm below meth cc0 ls X hr hlk hin hnm hR hS hl
  have hl : lv_has ls 3 [(0, .ref m), (1, .int p), (2, .int fr)] := hl
  have hm : G m = some (MOc (nI (σ.1 0)) (σ.2 12 0) (nI (σ.1 1)) (nI (σ.1 2)) th B) := hM.1
  refine lv_aload_n X.hx X.hb dX2_cancel_0 rfl (lv_at hl 0 rfl) ?_
  refine lv_iload_n X.hx X.hb dX2_cancel_1 rfl (lv_at hl 1 rfl) ?_
  refine lv_iconst (v := 2) X.hx X.hb dX2_cancel_2 (by decide) ?_
  refine lv_iconst (v := 0) X.hx X.hb dX2_cancel_3 (by decide) ?_
  refine lv_iload_n X.hx X.hb dX2_cancel_4 rfl (lv_at hl 2 rfl) ?_
  refine lv_iconst (v := 0) X.hx X.hb dX2_cancel_5 (by decide) ?_
  refine lv_iconst (v := 1) X.hx X.hb dX2_cancel_6 (by decide) ?_
  refine gcV X hl.1 hR hS 6 [.int p, .int 2, .int 0, .int fr, .int 0, .int 1] [] (m_tells (lo := 0) (hi := 0) (v := 0) l Γ G hW hM (Or.inr ⟨rfl, c00⟩)) hm rfl q1393 q1395 qs24 q40 q1396 rfl rfl ⟨rfl, by decide +kernel, by decide +kernel, by decide +kernel⟩ ⟨by (try dsimp only [RM]); omega, by (try dsimp only [RM]); omega⟩ rfl rfl (Nat.le_of_ble_eq_true rfl) dX2_cancel_7 ⟨by (try dsimp only [RM]); omega, by (try dsimp only [RM]); omega⟩ (fun v626 G627 H locs hq623 hR624 hS625 => ?_)
  have hv9 := mr_int hq623
  obtain ⟨u9, rfl⟩ := hv9
  exact g_iret X hr hlk hR624 hS625 hq623 (by (try dsimp only [RM]); omega) (by (try dsimp only [RM]); omega) dX2_cancel_10

set_option maxHeartbeats 4000000 in
theorem m_reinstate (l : Launch) (Γ : GP) (G : GH) {m : Nat} {σ : MS} {th : Int32} {B : Nat → Nat} (hW : WF σ) (hM : MP Γ G m σ th B) {p fr : Int32} : MetG l yX2_reinstate (ws_ yX2_reinstate cX2_reinstate 3 (some .int)) (RM 4 0 0) Γ G [.ref m, .int p, .int fr] (fun u G1 => MR Γ G G1 m σ (tauT σ p 3 0 fr 0) B (kT σ p 0 fr 0 0 0) (nI (σ.1 2)) u) 0 0 := by
  refine gMet (own := RX2) (by decide) rfl (Nat.le_of_ble_eq_true rfl) ?_
  intro pp ee ss mm below meth cc0 ls X hr hlk hin hnm hR hS hl
  have hl : lv_has ls 3 [(0, .ref m), (1, .int p), (2, .int fr)] := hl
  have hm : G m = some (MOc (nI (σ.1 0)) (σ.2 12 0) (nI (σ.1 1)) (nI (σ.1 2)) th B) := hM.1
  refine lv_aload_n X.hx X.hb dX2_reinstate_0 rfl (lv_at hl 0 rfl) ?_
  refine lv_iload_n X.hx X.hb dX2_reinstate_1 rfl (lv_at hl 1 rfl) ?_
  refine lv_iconst (v := 3) X.hx X.hb dX2_reinstate_2 (by decide) ?_
  refine lv_iconst (v := 0) X.hx X.hb dX2_reinstate_3 (by decide) ?_
  refine lv_iload_n X.hx X.hb dX2_reinstate_4 rfl (lv_at hl 2 rfl) ?_
  refine lv_iconst (v := 0) X.hx X.hb dX2_reinstate_5 (by decide) ?_
  refine lv_iconst (v := 1) X.hx X.hb dX2_reinstate_6 (by decide) ?_
  refine gcV X hl.1 hR hS 6 [.int p, .int 3, .int 0, .int fr, .int 0, .int 1] [] (m_tells (lo := 0) (hi := 0) (v := 0) l Γ G hW hM (Or.inr ⟨rfl, c00⟩)) hm rfl q1393 q1395 qs24 q40 q1396 rfl rfl ⟨rfl, by decide +kernel, by decide +kernel, by decide +kernel⟩ ⟨by (try dsimp only [RM]); omega, by (try dsimp only [RM]); omega⟩ rfl rfl (Nat.le_of_ble_eq_true rfl) dX2_reinstate_7 ⟨by (try dsimp only [RM]); omega, by (try dsimp only [RM]); omega⟩ (fun v631 G632 H locs hq628 hR629 hS630 => ?_)
  have hv9 := mr_int hq628
  obtain ⟨u9, rfl⟩ := hv9
  exact g_iret X hr hlk hR629 hS630 hq628 (by (try dsimp only [RM]); omega) (by (try dsimp only [RM]); omega) dX2_reinstate_10

set_option maxHeartbeats 4000000 in
theorem m_isChange (l : Launch) (Γ : GP) (G : GH) {m : Nat} {σ : MS} {th : Int32} {B : Nat → Nat} (hW : WF σ) (hM : MP Γ G m σ th B) {c : Int32} : MetG l yX2_isChange (ws_ yX2_isChange cX2_isChange 2 (some .boolean)) (RM 3 0 0) Γ G [.ref m, .int c] (fun v G1 => v = some (.int (if bdP (nI (σ.1 2)) c then 0 else 1)) ∧ MP Γ G1 m σ (kC σ c) B ∧ gK TMm G G1) 0 0 := by
  refine gMet (own := RX2) (by decide) rfl (Nat.le_of_ble_eq_true rfl) ?_
  intro pp ee ss mm below meth cc0 ls X hr hlk hin hnm hR hS hl
  have hl : lv_has ls 2 [(0, .ref m), (1, .int c)] := hl
  have hm : G m = some (MOc (nI (σ.1 0)) (σ.2 12 0) (nI (σ.1 1)) (nI (σ.1 2)) th B) := hM.1
  refine lv_aload_n X.hx X.hb dX2_isChange_0 rfl (lv_at hl 0 rfl) ?_
  refine lv_iload_n X.hx X.hb dX2_isChange_1 rfl (lv_at hl 1 rfl) ?_
  refine lv_iconst (v := 0) X.hx X.hb dX2_isChange_2 (by decide) ?_
  refine lv_aload_n X.hx X.hb dX2_isChange_3 rfl (lv_at hl 0 rfl) ?_
  refine g_get X hR hm rfl in_X2 8 (by decide) q1303 (fun _ h => h) rfl dX2_isChange_4 ?_
  refine lv_iconst (v := 1) X.hx X.hb dX2_isChange_7 (by decide) ?_
  refine lv_isub X.hx X.hb dX2_isChange_8 ?_
  refine gcS X hl.1 hR hS 3 [.int c, .int 0, .int ((nI (σ.1 2)) - 1)] [.ref m] (m_isIn l Γ G) q1368 q1369 q40 q1370 rfl rfl ⟨by decide +kernel, by decide +kernel, by decide +kernel⟩ ⟨by (try dsimp only [RM]); omega, by (try dsimp only [RM]); omega⟩ rfl rfl (Nat.le_of_ble_eq_true rfl) dX2_isChange_9 ⟨by (try dsimp only [RM]); omega, by (try dsimp only [RM]); omega⟩ (fun v636 G637 H locs hq633 hR634 hS635 => ?_)
  obtain ⟨rfl, rfl⟩ := hq633
  rw [ite_iff (bad_pl (Nat.lt_of_le_of_lt hW.2.2.1 (by decide)))]
  by_cases hc : bdP (nI (σ.1 2)) c
  · rw [if_pos hc]
    refine lv_if_eq (tgt := 19) X.hx X.hb dX2_isChange_12 (by decide) (fun c12 => ?_) (fun c12 => ?_)
    · refine lv_iconst (v := 1) X.hx X.hb dX2_isChange_19 (by decide) ?_
      refine g_put X hR634 hS635 hm (Nat.le_of_ble_eq_true rfl) rfl in_X2 tyX2 tyX2_ok nmX2 20 (by decide) q1315 (fun _ h => h) rfl rfl rfl (Nat.le_of_ble_eq_true rfl) dX2_isChange_20 (fun H locs hR638 hS639 => ?_)
      obtain ⟨G640, hG640⟩ : ∃ z : GH, z = gu G m ((30, 0), .inr (1, [.int (nI (σ.1 0)), .ref (B 0), .ref (B 1), .int (σ.2 12 0), .int (nI (σ.1 1)), .ref (B 2), .ref (B 3), .ref (B 4), .int (nI (σ.1 2)), .ref (B 5), .ref (B 6), .ref (B 7), .ref (B 8), .ref (B 9), .ref (B 10), .ref (B 11), .ref (B 12), .ref (B 13), .ref (B 14), .ref (B 15), .int 1])) := ⟨_, rfl⟩
      have hR638 : Rep Γ G640 H := by rw [hG640]; exact hR638
      have f641 : G640 m = some ((30, 0), .inr (1, [.int (nI (σ.1 0)), .ref (B 0), .ref (B 1), .int (σ.2 12 0), .int (nI (σ.1 1)), .ref (B 2), .ref (B 3), .ref (B 4), .int (nI (σ.1 2)), .ref (B 5), .ref (B 6), .ref (B 7), .ref (B 8), .ref (B 9), .ref (B 10), .ref (B 11), .ref (B 12), .ref (B 13), .ref (B 14), .ref (B 15), .int 1])) := by rw [hG640]; exact gu_s _ _ _
      have hM642 := hM.obj hG640
      refine lv_aload_n X.hx X.hb dX2_isChange_23 rfl (lv_at hl 0 rfl) ?_
      refine g_get X hR638 f641 rfl in_X2 20 (by decide) q1315 (fun _ h => h) rfl dX2_isChange_24 ?_
      refine lv_if_ne (tgt := 34) X.hx X.hb dX2_isChange_27 (by decide) (fun c27 => ?_) (fun c27 => ?_)
      · refine lv_iconst (v := 0) X.hx X.hb dX2_isChange_34 (by decide) ?_
        exact g_zret X hr hlk hR638 hS639 rfl (⟨rfl, by rw [kC, if_pos hc]; exact hM642, (gK.pt hG640 hm (by show 30 ≤ 30 ∧ 30 < 40; decide))⟩) (by (try dsimp only [RM]); omega) (by (try dsimp only [RM]); omega) dX2_isChange_35
      · exact absurd c27 (by decide)
    · exact absurd (by decide) c12
  · rw [if_neg hc]
    refine lv_if_eq (tgt := 19) X.hx X.hb dX2_isChange_12 (by decide) (fun c12 => ?_) (fun c12 => ?_)
    · exact absurd c12 (by decide)
    · refine lv_iconst (v := 0) X.hx X.hb dX2_isChange_15 (by decide) ?_
      refine lv_goto (tgt := 20) X.hx X.hb dX2_isChange_16 (by decide) ?_
      refine g_put X hR634 hS635 hm (Nat.le_of_ble_eq_true rfl) rfl in_X2 tyX2 tyX2_ok nmX2 20 (by decide) q1315 (fun _ h => h) rfl rfl rfl (Nat.le_of_ble_eq_true rfl) dX2_isChange_20 (fun H locs hR643 hS644 => ?_)
      obtain ⟨G645, hG645⟩ : ∃ z : GH, z = gu G m ((30, 0), .inr (1, [.int (nI (σ.1 0)), .ref (B 0), .ref (B 1), .int (σ.2 12 0), .int (nI (σ.1 1)), .ref (B 2), .ref (B 3), .ref (B 4), .int (nI (σ.1 2)), .ref (B 5), .ref (B 6), .ref (B 7), .ref (B 8), .ref (B 9), .ref (B 10), .ref (B 11), .ref (B 12), .ref (B 13), .ref (B 14), .ref (B 15), .int 0])) := ⟨_, rfl⟩
      have hR643 : Rep Γ G645 H := by rw [hG645]; exact hR643
      have f646 : G645 m = some ((30, 0), .inr (1, [.int (nI (σ.1 0)), .ref (B 0), .ref (B 1), .int (σ.2 12 0), .int (nI (σ.1 1)), .ref (B 2), .ref (B 3), .ref (B 4), .int (nI (σ.1 2)), .ref (B 5), .ref (B 6), .ref (B 7), .ref (B 8), .ref (B 9), .ref (B 10), .ref (B 11), .ref (B 12), .ref (B 13), .ref (B 14), .ref (B 15), .int 0])) := by rw [hG645]; exact gu_s _ _ _
      have hM647 := hM.obj hG645
      refine lv_aload_n X.hx X.hb dX2_isChange_23 rfl (lv_at hl 0 rfl) ?_
      refine g_get X hR643 f646 rfl in_X2 20 (by decide) q1315 (fun _ h => h) rfl dX2_isChange_24 ?_
      refine lv_if_ne (tgt := 34) X.hx X.hb dX2_isChange_27 (by decide) (fun c27 => ?_) (fun c27 => ?_)
      · exact absurd rfl c27
      · refine lv_iconst (v := 1) X.hx X.hb dX2_isChange_30 (by decide) ?_
        refine lv_goto (tgt := 35) X.hx X.hb dX2_isChange_31 (by decide) ?_
        exact g_zret X hr hlk hR643 hS644 rfl (⟨rfl, by rw [kC, if_neg hc]; exact hM647, (gK.pt hG645 hm (by show 30 ≤ 30 ∧ 30 < 40; decide))⟩) (by (try dsimp only [RM]); omega) (by (try dsimp only [RM]); omega) dX2_isChange_35

set_option maxHeartbeats 4000000 in
theorem m_takeBack (l : Launch) (Γ : GP) (G : GH) {m : Nat} {σ : MS} {th : Int32} {B : Nat → Nat} (hW : WF σ) (hM : MP Γ G m σ th B) {c : Int32} : MetG l yX2_takeBack (ws_ yX2_takeBack cX2_takeBack 2 (some .int)) (RM 4 0 0) Γ G [.ref m, .int c] (fun v G1 => MR Γ G G1 m σ (tauK σ c.toNatClampNeg) B (k8 σ c) (σ.2 10 c.toNatClampNeg) v) 0 0 := by
  refine gMet (own := RX2) (by decide) rfl (Nat.le_of_ble_eq_true rfl) ?_
  intro pp ee ss mm below meth cc0 ls X hr hlk hin hnm hR hS hl
  have hl : lv_has ls 2 [(0, .ref m), (1, .int c)] := hl
  have hm : G m = some (MOc (nI (σ.1 0)) (σ.2 12 0) (nI (σ.1 1)) (nI (σ.1 2)) th B) := hM.1
  refine lv_aload_n X.hx X.hb dX2_takeBack_0 rfl (lv_at hl 0 rfl) ?_
  refine lv_iload_n X.hx X.hb dX2_takeBack_1 rfl (lv_at hl 1 rfl) ?_
  refine gcV X hl.1 hR hS 1 [.int c] [] (m_isChange l Γ G hW hM) hm rfl q1417 q1419 qs26 q40 q1420 rfl rfl ⟨rfl, by decide +kernel, by decide +kernel, by decide +kernel⟩ ⟨by (try dsimp only [RM]); omega, by (try dsimp only [RM]); omega⟩ rfl rfl (Nat.le_of_ble_eq_true rfl) dX2_takeBack_2 ⟨by (try dsimp only [RM]); omega, by (try dsimp only [RM]); omega⟩ (fun v651 G652 H locs hq648 hR649 hS650 => ?_)
  obtain ⟨rfl, hMc, hgc⟩ := hq648
  have hm : G652 m = some (MOc (nI (σ.1 0)) (σ.2 12 0) (nI (σ.1 1)) (nI (σ.1 2)) (kC σ c) B) := hMc.1
  have hr10 : G652 (B 10) = some ((31, 10), .inl (Γ.2 1, 60, .inl (σ.2 10))) := hMc.2.1 10 (by decide)
  have hr11 : G652 (B 11) = some ((31, 11), .inl (Γ.2 1, 60, .inl (σ.2 11))) := hMc.2.1 11 (by decide)
  by_cases hc : bdP (nI (σ.1 2)) c
  · rw [if_pos hc]
    refine lv_if_ne (tgt := 10) X.hx X.hb dX2_takeBack_5 (by decide) (fun c5 => ?_) (fun c5 => ?_)
    · exact absurd rfl c5
    · refine lv_iconst (v := 0) X.hx X.hb dX2_takeBack_8 (by decide) ?_
      have hkk : k8 σ c = 1 := by rw [k8, if_pos hc]
      have hkc : kC σ c = 1 := by rw [kC, if_pos hc]
      exact g_iret X hr hlk hR649 hS650 (⟨Or.inr ⟨by rw [hkk]; decide, ⟨_, rfl⟩, by rw [hkk, ← hkc]; exact hMc⟩, hgc⟩) (by (try dsimp only [RM]); omega) (by (try dsimp only [RM]); omega) dX2_takeBack_9
  · rw [if_neg hc]
    refine lv_if_ne (tgt := 10) X.hx X.hb dX2_takeBack_5 (by decide) (fun c5 => ?_) (fun c5 => ?_)
    · obtain ⟨i, hi, rfl⟩ := plc (Nat.lt_of_le_of_lt hW.2.2.1 (by decide)) (fun h9 => hc (Or.inl h9)) (Classical.not_not.mp (fun h9 => hc (Or.inr h9)))
      have hn60 := hW.2.2.1
      have hn4 := hW.1
      have hic : (nI i).toNatClampNeg = i := nI_clamp (by omega)
      have hkc : kC σ (nI i) = 0 := by rw [kC, if_neg hc]
      refine lv_aload_n X.hx X.hb dX2_takeBack_10 rfl (lv_at hl 0 rfl) ?_
      refine lv_aload_n X.hx X.hb dX2_takeBack_11 rfl (lv_at hl 0 rfl) ?_
      refine g_get X hR649 hm rfl in_X2 15 (by decide) q1310 (fun _ h => h) rfl dX2_takeBack_12 ?_
      refine lv_iload_n X.hx X.hb dX2_takeBack_15 rfl (lv_at hl 1 rfl) ?_
      refine g_iald (v := σ.2 11 i) X hR649 hr11 (vp_in_nI (show i < 60 by omega) (by decide)) (by rw [nI_clamp (by omega)]) dX2_takeBack_16 ?_
      refine lv_if_lt (tgt := 24) X.hx X.hb dX2_takeBack_17 (by decide) (fun c17 => ?_) (fun c17 => ?_)
      · have c17 : ¬ ¬ σ.2 11 i < 0 := fun h9 => h9 c17
        refine lv_iconst (v := 0) X.hx X.hb dX2_takeBack_24 (by decide) ?_
        refine g_put X hR649 hS650 hm (Nat.le_of_ble_eq_true rfl) rfl in_X2 tyX2 tyX2_ok nmX2 20 (by decide) q1315 (fun _ h => h) rfl rfl rfl (Nat.le_of_ble_eq_true rfl) dX2_takeBack_25 (fun H locs hR653 hS654 => ?_)
        obtain ⟨G655, hG655⟩ : ∃ z : GH, z = gu G652 m ((30, 0), .inr (1, [.int (nI (σ.1 0)), .ref (B 0), .ref (B 1), .int (σ.2 12 0), .int (nI (σ.1 1)), .ref (B 2), .ref (B 3), .ref (B 4), .int (nI (σ.1 2)), .ref (B 5), .ref (B 6), .ref (B 7), .ref (B 8), .ref (B 9), .ref (B 10), .ref (B 11), .ref (B 12), .ref (B 13), .ref (B 14), .ref (B 15), .int 0])) := ⟨_, rfl⟩
        have hR653 : Rep Γ G655 H := by rw [hG655]; exact hR653
        have f656 : G655 (B 10) = some ((31, 10), .inl (Γ.2 1, 60, .inl (σ.2 10))) := by rw [hG655]; exact gu_t hr10 hm (tne rfl)
        have f657 : G655 (B 11) = some ((31, 11), .inl (Γ.2 1, 60, .inl (σ.2 11))) := by rw [hG655]; exact gu_t hr11 hm (tne rfl)
        have f658 : G655 m = some ((30, 0), .inr (1, [.int (nI (σ.1 0)), .ref (B 0), .ref (B 1), .int (σ.2 12 0), .int (nI (σ.1 1)), .ref (B 2), .ref (B 3), .ref (B 4), .int (nI (σ.1 2)), .ref (B 5), .ref (B 6), .ref (B 7), .ref (B 8), .ref (B 9), .ref (B 10), .ref (B 11), .ref (B 12), .ref (B 13), .ref (B 14), .ref (B 15), .int 0])) := by rw [hG655]; exact gu_s _ _ _
        have hM659 := hMc.obj hG655
        refine lv_aload_n X.hx X.hb dX2_takeBack_28 rfl (lv_at hl 0 rfl) ?_
        refine g_get X hR653 f658 rfl in_X2 20 (by decide) q1315 (fun _ h => h) rfl dX2_takeBack_29 ?_
        refine lv_if_le (tgt := 37) X.hx X.hb dX2_takeBack_32 (by decide) (fun c32 => ?_) (fun c32 => ?_)
        · refine lv_aload_n X.hx X.hb dX2_takeBack_37 rfl (lv_at hl 0 rfl) ?_
          refine g_get X hR653 f658 rfl in_X2 15 (by decide) q1310 (fun _ h => h) rfl dX2_takeBack_38 ?_
          refine lv_iload_n X.hx X.hb dX2_takeBack_41 rfl (lv_at hl 1 rfl) ?_
          refine lv_aload_n X.hx X.hb dX2_takeBack_42 rfl (lv_at hl 0 rfl) ?_
          refine g_get X hR653 f658 rfl in_X2 3 (by decide) q1298 (fun _ h => h) rfl dX2_takeBack_43 ?_
          refine g_iast X hR653 hS654 f657 (Nat.le_of_ble_eq_true rfl) (vp_in_nI (show i < 60 by omega) (by decide)) dX2_takeBack_46 (fun H locs hR660 hS661 => ?_)
          obtain ⟨G662, hG662⟩ : ∃ z : GH, z = gu G655 (B 11) ((31, 11), .inl (Γ.2 1, 60, .inl (upd (σ.2 11) ((nI i).toNatClampNeg) (σ.2 12 0)))) := ⟨_, rfl⟩
          have hR660 : Rep Γ G662 H := by rw [hG662]; exact hR660
          have f663 : G662 (B 10) = some ((31, 10), .inl (Γ.2 1, 60, .inl (σ.2 10))) := by rw [hG662]; exact gu_t f656 f657 (tne2 (by decide))
          have f664 : G662 m = some ((30, 0), .inr (1, [.int (nI (σ.1 0)), .ref (B 0), .ref (B 1), .int (σ.2 12 0), .int (nI (σ.1 1)), .ref (B 2), .ref (B 3), .ref (B 4), .int (nI (σ.1 2)), .ref (B 5), .ref (B 6), .ref (B 7), .ref (B 8), .ref (B 9), .ref (B 10), .ref (B 11), .ref (B 12), .ref (B 13), .ref (B 14), .ref (B 15), .int 0])) := by rw [hG662]; exact gu_t f658 f657 (tne rfl)
          have f665 : G662 (B 11) = some ((31, 11), .inl (Γ.2 1, 60, .inl (upd (σ.2 11) ((nI i).toNatClampNeg) (σ.2 12 0)))) := by rw [hG662]; exact gu_s _ _ _
          have hM666 := hM659.row (G1 := G662) (r := 11) (g := va_up (σ.2 11) i (σ.2 12 0)) (by decide) (by rw [hG662, updn (show i < 2 ^ 31 by omega)]; rfl)
          refine lv_aload_n X.hx X.hb dX2_takeBack_47 rfl (lv_at hl 0 rfl) ?_
          refine g_get X hR660 f664 rfl in_X2 14 (by decide) q1309 (fun _ h => h) rfl dX2_takeBack_48 ?_
          refine lv_iload_n X.hx X.hb dX2_takeBack_51 rfl (lv_at hl 1 rfl) ?_
          refine g_iald (v := σ.2 10 i) X hR660 f663 (vp_in_nI (show i < 60 by omega) (by decide)) (by rw [nI_clamp (by omega)]) dX2_takeBack_52 ?_
          exact g_iret X hr hlk hR660 hS661 (⟨Or.inl ⟨by rw [k8, if_neg hc, hic, if_neg c17], by rw [hic], by rw [hic]; exact hM666.to (tauK σ i) rfl rfl rfl rfl (fun r hr => by rcases c12 hr with rfl | rfl | rfl | rfl | rfl | rfl | rfl | rfl | rfl | rfl | rfl | rfl <;> rfl)⟩, (gK.tr (gK.tr hgc (gK.pt hG655 hm (by show 30 ≤ 30 ∧ 30 < 40; decide))) (gK.pt hG662 f657 (by show 30 ≤ 31 ∧ 31 < 40; decide)))⟩) (by (try dsimp only [RM]); omega) (by (try dsimp only [RM]); omega) dX2_takeBack_53
        · exact absurd (by decide) c32
      · refine lv_iconst (v := 2) X.hx X.hb dX2_takeBack_20 (by decide) ?_
        refine lv_goto (tgt := 25) X.hx X.hb dX2_takeBack_21 (by decide) ?_
        refine g_put X hR649 hS650 hm (Nat.le_of_ble_eq_true rfl) rfl in_X2 tyX2 tyX2_ok nmX2 20 (by decide) q1315 (fun _ h => h) rfl rfl rfl (Nat.le_of_ble_eq_true rfl) dX2_takeBack_25 (fun H locs hR667 hS668 => ?_)
        obtain ⟨G669, hG669⟩ : ∃ z : GH, z = gu G652 m ((30, 0), .inr (1, [.int (nI (σ.1 0)), .ref (B 0), .ref (B 1), .int (σ.2 12 0), .int (nI (σ.1 1)), .ref (B 2), .ref (B 3), .ref (B 4), .int (nI (σ.1 2)), .ref (B 5), .ref (B 6), .ref (B 7), .ref (B 8), .ref (B 9), .ref (B 10), .ref (B 11), .ref (B 12), .ref (B 13), .ref (B 14), .ref (B 15), .int 2])) := ⟨_, rfl⟩
        have hR667 : Rep Γ G669 H := by rw [hG669]; exact hR667
        have f670 : G669 (B 10) = some ((31, 10), .inl (Γ.2 1, 60, .inl (σ.2 10))) := by rw [hG669]; exact gu_t hr10 hm (tne rfl)
        have f671 : G669 (B 11) = some ((31, 11), .inl (Γ.2 1, 60, .inl (σ.2 11))) := by rw [hG669]; exact gu_t hr11 hm (tne rfl)
        have f672 : G669 m = some ((30, 0), .inr (1, [.int (nI (σ.1 0)), .ref (B 0), .ref (B 1), .int (σ.2 12 0), .int (nI (σ.1 1)), .ref (B 2), .ref (B 3), .ref (B 4), .int (nI (σ.1 2)), .ref (B 5), .ref (B 6), .ref (B 7), .ref (B 8), .ref (B 9), .ref (B 10), .ref (B 11), .ref (B 12), .ref (B 13), .ref (B 14), .ref (B 15), .int 2])) := by rw [hG669]; exact gu_s _ _ _
        have hM673 := hMc.obj hG669
        refine lv_aload_n X.hx X.hb dX2_takeBack_28 rfl (lv_at hl 0 rfl) ?_
        refine g_get X hR667 f672 rfl in_X2 20 (by decide) q1315 (fun _ h => h) rfl dX2_takeBack_29 ?_
        refine lv_if_le (tgt := 37) X.hx X.hb dX2_takeBack_32 (by decide) (fun c32 => ?_) (fun c32 => ?_)
        · exact absurd c32 (by decide)
        · refine lv_iconst (v := 0) X.hx X.hb dX2_takeBack_35 (by decide) ?_
          have hkk : k8 σ (nI i) = 2 := by rw [k8, if_neg hc, hic, if_pos c17]
          exact g_iret X hr hlk hR667 hS668 (⟨Or.inr ⟨by rw [hkk]; decide, ⟨_, rfl⟩, by rw [hkk]; exact hM673⟩, (gK.tr hgc (gK.pt hG669 hm (by show 30 ≤ 30 ∧ 30 < 40; decide)))⟩) (by (try dsimp only [RM]); omega) (by (try dsimp only [RM]); omega) dX2_takeBack_36
    · exact absurd c5 (by decide)

set_option maxHeartbeats 4000000 in
theorem m_billed (l : Launch) (Γ : GP) (G : GH) {m : Nat} {σ : MS} {th : Int32} {B : Nat → Nat} (hW : WF σ) (hM : MP Γ G m σ th B) {p : Int32} : MetG l yX2_billed (ws_ yX2_billed cX2_billed 2 (some .int)) (RM 3 0 0) Γ G [.ref m, .int p] (fun v G1 => MR Γ G G1 m σ σ B (kP σ p) (σ.2 1 p.toNatClampNeg) v) 0 0 := by
  refine gMet (own := RX2) (by decide) rfl (Nat.le_of_ble_eq_true rfl) ?_
  intro pp ee ss mm below meth cc0 ls X hr hlk hin hnm hR hS hl
  have hl : lv_has ls 2 [(0, .ref m), (1, .int p)] := hl
  have hm : G m = some (MOc (nI (σ.1 0)) (σ.2 12 0) (nI (σ.1 1)) (nI (σ.1 2)) th B) := hM.1
  have hr1 : G (B 1) = some ((31, 1), .inl (Γ.2 1, 4, .inl (σ.2 1))) := hM.2.1 1 (by decide)
  refine lv_aload_n X.hx X.hb dX2_billed_0 rfl (lv_at hl 0 rfl) ?_
  refine lv_aload_n X.hx X.hb dX2_billed_1 rfl (lv_at hl 0 rfl) ?_
  refine lv_iload_n X.hx X.hb dX2_billed_2 rfl (lv_at hl 1 rfl) ?_
  refine gcV X hl.1 hR hS 1 [.int p] [.ref m] (m_isPolicy l Γ G hW hM) hm rfl q1397 q1399 qs25 q40 q1400 rfl rfl ⟨rfl, by decide +kernel, by decide +kernel, by decide +kernel⟩ ⟨by (try dsimp only [RM]); omega, by (try dsimp only [RM]); omega⟩ rfl rfl (Nat.le_of_ble_eq_true rfl) dX2_billed_3 ⟨by (try dsimp only [RM]); omega, by (try dsimp only [RM]); omega⟩ (fun v677 G678 H locs hq674 hR675 hS676 => ?_)
  obtain ⟨rfl, rfl⟩ := hq674
  by_cases hP : bdP (nI (σ.1 0)) p
  · rw [if_pos hP]
    refine lv_if_eq (tgt := 13) X.hx X.hb dX2_billed_6 (by decide) (fun c6 => ?_) (fun c6 => ?_)
    · refine lv_iconst (v := 1) X.hx X.hb dX2_billed_13 (by decide) ?_
      refine g_put X hR675 hS676 hm (Nat.le_of_ble_eq_true rfl) rfl in_X2 tyX2 tyX2_ok nmX2 20 (by decide) q1315 (fun _ h => h) rfl rfl rfl (Nat.le_of_ble_eq_true rfl) dX2_billed_14 (fun H locs hR679 hS680 => ?_)
      obtain ⟨G681, hG681⟩ : ∃ z : GH, z = gu G m ((30, 0), .inr (1, [.int (nI (σ.1 0)), .ref (B 0), .ref (B 1), .int (σ.2 12 0), .int (nI (σ.1 1)), .ref (B 2), .ref (B 3), .ref (B 4), .int (nI (σ.1 2)), .ref (B 5), .ref (B 6), .ref (B 7), .ref (B 8), .ref (B 9), .ref (B 10), .ref (B 11), .ref (B 12), .ref (B 13), .ref (B 14), .ref (B 15), .int 1])) := ⟨_, rfl⟩
      have hR679 : Rep Γ G681 H := by rw [hG681]; exact hR679
      have f682 : G681 (B 1) = some ((31, 1), .inl (Γ.2 1, 4, .inl (σ.2 1))) := by rw [hG681]; exact gu_t hr1 hm (tne rfl)
      have f683 : G681 m = some ((30, 0), .inr (1, [.int (nI (σ.1 0)), .ref (B 0), .ref (B 1), .int (σ.2 12 0), .int (nI (σ.1 1)), .ref (B 2), .ref (B 3), .ref (B 4), .int (nI (σ.1 2)), .ref (B 5), .ref (B 6), .ref (B 7), .ref (B 8), .ref (B 9), .ref (B 10), .ref (B 11), .ref (B 12), .ref (B 13), .ref (B 14), .ref (B 15), .int 1])) := by rw [hG681]; exact gu_s _ _ _
      have hM684 := hM.obj hG681
      refine lv_aload_n X.hx X.hb dX2_billed_17 rfl (lv_at hl 0 rfl) ?_
      refine g_get X hR679 f683 rfl in_X2 20 (by decide) q1315 (fun _ h => h) rfl dX2_billed_18 ?_
      refine lv_if_le (tgt := 28) X.hx X.hb dX2_billed_21 (by decide) (fun c21 => ?_) (fun c21 => ?_)
      · exact absurd c21 (by decide)
      · refine lv_iconst (v := 0) X.hx X.hb dX2_billed_24 (by decide) ?_
        refine lv_goto (tgt := 34) X.hx X.hb dX2_billed_25 (by decide) ?_
        have hkk : kP σ p = 1 := by rw [kP, if_pos hP]
        exact g_iret X hr hlk hR679 hS680 (⟨Or.inr ⟨by rw [hkk]; decide, ⟨_, rfl⟩, by rw [hkk]; exact hM684⟩, (gK.pt hG681 hm (by show 30 ≤ 30 ∧ 30 < 40; decide))⟩) (by (try dsimp only [RM]); omega) (by (try dsimp only [RM]); omega) dX2_billed_34
    · exact absurd (by decide) c6
  · rw [if_neg hP]
    refine lv_if_eq (tgt := 13) X.hx X.hb dX2_billed_6 (by decide) (fun c6 => ?_) (fun c6 => ?_)
    · exact absurd c6 (by decide)
    · refine lv_iconst (v := 0) X.hx X.hb dX2_billed_9 (by decide) ?_
      refine lv_goto (tgt := 14) X.hx X.hb dX2_billed_10 (by decide) ?_
      refine g_put X hR675 hS676 hm (Nat.le_of_ble_eq_true rfl) rfl in_X2 tyX2 tyX2_ok nmX2 20 (by decide) q1315 (fun _ h => h) rfl rfl rfl (Nat.le_of_ble_eq_true rfl) dX2_billed_14 (fun H locs hR685 hS686 => ?_)
      obtain ⟨G687, hG687⟩ : ∃ z : GH, z = gu G m ((30, 0), .inr (1, [.int (nI (σ.1 0)), .ref (B 0), .ref (B 1), .int (σ.2 12 0), .int (nI (σ.1 1)), .ref (B 2), .ref (B 3), .ref (B 4), .int (nI (σ.1 2)), .ref (B 5), .ref (B 6), .ref (B 7), .ref (B 8), .ref (B 9), .ref (B 10), .ref (B 11), .ref (B 12), .ref (B 13), .ref (B 14), .ref (B 15), .int 0])) := ⟨_, rfl⟩
      have hR685 : Rep Γ G687 H := by rw [hG687]; exact hR685
      have f688 : G687 (B 1) = some ((31, 1), .inl (Γ.2 1, 4, .inl (σ.2 1))) := by rw [hG687]; exact gu_t hr1 hm (tne rfl)
      have f689 : G687 m = some ((30, 0), .inr (1, [.int (nI (σ.1 0)), .ref (B 0), .ref (B 1), .int (σ.2 12 0), .int (nI (σ.1 1)), .ref (B 2), .ref (B 3), .ref (B 4), .int (nI (σ.1 2)), .ref (B 5), .ref (B 6), .ref (B 7), .ref (B 8), .ref (B 9), .ref (B 10), .ref (B 11), .ref (B 12), .ref (B 13), .ref (B 14), .ref (B 15), .int 0])) := by rw [hG687]; exact gu_s _ _ _
      have hM690 := hM.obj hG687
      refine lv_aload_n X.hx X.hb dX2_billed_17 rfl (lv_at hl 0 rfl) ?_
      refine g_get X hR685 f689 rfl in_X2 20 (by decide) q1315 (fun _ h => h) rfl dX2_billed_18 ?_
      refine lv_if_le (tgt := 28) X.hx X.hb dX2_billed_21 (by decide) (fun c21 => ?_) (fun c21 => ?_)
      · refine lv_aload_n X.hx X.hb dX2_billed_28 rfl (lv_at hl 0 rfl) ?_
        refine g_get X hR685 f689 rfl in_X2 2 (by decide) q1297 (fun _ h => h) rfl dX2_billed_29 ?_
        refine lv_iload_n X.hx X.hb dX2_billed_32 rfl (lv_at hl 1 rfl) ?_
        obtain ⟨i, hi, rfl⟩ := plc (Nat.lt_of_le_of_lt hW.1 (by decide)) (fun h9 => hP (Or.inl h9)) (Classical.not_not.mp (fun h9 => hP (Or.inr h9)))
        have hn60 := hW.2.2.1
        have hn4 := hW.1
        have hic : (nI i).toNatClampNeg = i := nI_clamp (by omega)
        refine g_iald (v := σ.2 1 i) X hR685 f688 (vp_in_nI (show i < 4 by omega) (by decide)) (by rw [nI_clamp (by omega)]) dX2_billed_33 ?_
        exact g_iret X hr hlk hR685 hS686 (⟨Or.inl ⟨by rw [kP, if_neg hP], by rw [hic], hM690⟩, (gK.pt hG687 hm (by show 30 ≤ 30 ∧ 30 < 40; decide))⟩) (by (try dsimp only [RM]); omega) (by (try dsimp only [RM]); omega) dX2_billed_34
      · exact absurd (by decide) c21

