set_option maxRecDepth 100000
/-! the law: one call of each kind -/
set_option maxHeartbeats 4000000 in
theorem m_thrown9 (l : Launch) (Γ : GP) (G : GH) {m : Nat} {σ : MS} {th : Int32} {B : Nat → Nat} (hM : MP Γ G m σ th B) : MetG l yX2_thrown (ws_ yX2_thrown cX2_thrown 1 (some .int)) (RM 1 0 0) Γ G [.ref m] (fun v G1 => v = some (.int th) ∧ G = G1) 0 0 := by
  refine gMet (own := RX2) (by decide) rfl (Nat.le_of_ble_eq_true rfl) ?_
  intro pp ee ss mm below meth cc0 ls X hr hlk hin hnm hR hS hl
  have hl : lv_has ls 1 [(0, .ref m)] := hl
  have hm : G m = some (MOc (nI (σ.1 0)) (σ.2 12 0) (nI (σ.1 1)) (nI (σ.1 2)) th B) := hM.1
  refine lv_aload_n X.hx X.hb dX2_thrown_0 rfl (lv_at hl 0 rfl) ?_
  refine g_get X hR hm rfl in_X2 20 (by decide) q1315 (fun _ h => h) rfl dX2_thrown_1 ?_
  exact g_iret X hr hlk hR hS (⟨rfl, rfl⟩) (by (try dsimp only [RM]); omega) (by (try dsimp only [RM]); omega) dX2_thrown_4

theorem XP.tm {Γ : GP} {G G1 : GH} {x : Nat} {σ : MS} {A : Nat → Nat → Nat} (h : XP Γ G x σ A) (hk : gK TMm G G1) : XP Γ G1 x σ A := by
  have n0 : ∀ a j : Nat, (a < 30 ∨ 40 ≤ a) → ¬ TMm (a, j) := fun a j b h => by have h1 := h.1; have h2 := h.2; dsimp only at h1 h2; omega
  exact h.kp hk (n0 _ _ (by decide)) (n0 _ _ (by decide)) (fun _ _ => n0 _ _ (by decide)) (fun _ _ => n0 _ _ (by decide)) (n0 _ _ (by decide)) (fun _ _ => ⟨n0 _ _ (by decide), n0 _ _ (by decide), n0 _ _ (by decide)⟩) (fun _ _ => ⟨n0 _ _ (by decide), n0 _ _ (by decide), n0 _ _ (by decide)⟩) (fun t ht => ⟨fun e => by have := ht.1; omega, fun e => by have := ht.2; omega⟩) (fun _ _ => n0 _ _ (by decide))
theorem TXo_m {t : Nat × Nat} (h : TXo t) : ¬ TMm t := by
  rintro ⟨h1, h2⟩
  rcases h with h | h
  · omega
  · rw [h] at h2; dsimp only at h2; omega
theorem TXo_50 {t : Nat × Nat} (h : TXo t) : t.1 < 50 := by
  rcases h with h | h
  · omega
  · rw [h]; decide
/-- what stands between two calls -/
def LSt (Γ : GP) (G : GH) (x u o : Nat) (σ : MS) : Prop := (∃ A, XP Γ G x σ A) ∧ (∃ B th, MP Γ G u σ th B) ∧ CN Γ G ∧ ∃ fL : Nat → Int64, G o = some ((40, 0), .inl (Γ.2 3, 1, .inr (.inl fL)))
section LAWS
variable {pp : Program} {l : Launch} {ee : Env} {R : Room} {ss : State} {mm : MethodId} {args : Array Value} {below : List Frame} {meth : Method} {cc0 : Code} {H : Heap} {locs : List Loc} {cells slots : Nat} {Q : State → Prop} {ls : Array Slot} {Γ : GP} {G : GH}

set_option maxHeartbeats 4000000 in
theorem l_open (X : Cx pp ss mm args cc0 Γ code 7 RX0) (hst : l.stackTraces = false) {b L n : Nat} {xs : Nat → Int32} (hXs : va_X b L xs ss ss.heap) (hbl : b < ss.heap.size) (hbA : ¬ gA Γ b) (hn : n + 5 ≤ L) (hL : L ≤ 320) (hRf : 100 ≤ R.frames) (hRl : 20000 ≤ R.locals) (hRc : cells + 4000 ≤ R.cells) (hRs : slots + 12000 ≤ R.slots) {x u o : Nat} {σ : MS} (hW : WF σ) (hz : σ.2 1 (σ.1 0) = 0) (hI : LSt Γ G x u o σ) (hR : Rep Γ G H) (hS : va_S (gA Γ) ss.heap H locs) (hl : lv_has ls 7 [(0, .ref b), (1, .ref x), (2, .ref u), (3, .ref o), (4, .int (nI n))])
    (kk : ∀ (τ1 : MS) (G1 : GH) (H1 : Heap) (locs1 : List Loc) (ls1 : Array Slot), (τ1 = σ ∨ (k0 σ (xs (n + 1)) = 0 ∧ τ1 = tauO σ (xs (n + 1)))) → LSt Γ G1 x u o τ1 → Rep Γ G1 H1 → va_S (gA Γ) ss.heap H1 locs1 → lv_has ls1 7 [(0, .ref b), (1, .ref x), (2, .ref u), (3, .ref o), (4, .int (nI n))] → W pp l ee R ss mm args below meth cc0 H1 locs1 (cells + 4000) (slots + 12000) Q (F0 mm 1521 ls1 [])) :
    W pp l ee R ss mm args below meth cc0 H locs cells slots Q (F0 mm 136 ls []) := by
  obtain ⟨⟨A, hX⟩, ⟨B, th, hM⟩, hC, fL, ho⟩ := hI
  obtain ⟨⟨rf, hx, -⟩, -⟩ := id hX
  have hm := hM.1
  refine lv_aload_n X.hx X.hb dL_law_136 rfl (lv_at hl 1 rfl) ?_
  refine lv_aload_n X.hx X.hb dL_law_137 rfl (lv_at hl 0 rfl) ?_
  refine lv_iload X.hx X.hb dL_law_138 (lv_at hl 4 rfl) ?_
  refine lv_iconst (v := 1) X.hx X.hb dL_law_140 (by decide) ?_
  refine lv_iadd X.hx X.hb dL_law_141 ?_
  refine lv_topi (fun x853 hx853 => ?_)
  obtain rfl : x853 = nI (n + 1) := hx853.trans (nI_add n 1)
  refine va_sld X.hx X.hb hXs hbl hbA hS (vp_in_nI (by omega) (by omega)) dL_law_142 ?_
  refine lv_topi (fun x854 hx854 => ?_)
  obtain rfl : x854 = xs (n + 1) := hx854.trans (by rw [nI_clamp (by omega)])
  refine lv_aload_n X.hx X.hb dL_law_143 rfl (lv_at hl 3 rfl) ?_
  refine gxWS X hl.1 hR hS 3 [.ref x, .int (xs (n + 1)), .ref o] [] (w_open l Γ G hst hW hX hC ho) q153 q154 q35 q155 rfl rfl ⟨by decide +kernel, by decide +kernel, by decide +kernel⟩ ⟨by (try dsimp only [RM]); omega, by (try dsimp only [RM]); omega⟩ rfl rfl (Nat.le_of_ble_eq_true rfl) dL_law_144 ⟨by (try dsimp only [RM]); omega, by (try dsimp only [RM]); omega⟩ (fun E860 ce q9 G9 H locs hq9 hR9 hS9 hce hcv hcl => ?_) (fun v858 G859 H locs hq855 hR856 hS857 => ?_)
  · exact hq9.elim
  · obtain ⟨hcr, hgo⟩ := hq855
    rcases hcr with ⟨hk0, rfl, ⟨A1, hX1⟩, fL1, ho1, hfL⟩ | ⟨hk0, rfl, ⟨A1, hX1⟩, fL1, ho1⟩
    · have hM1 : MP Γ G859 u σ th B := hM.keep hgo (fun t ht => TXo_m ht)
      have hC1 := hC.keep hgo (fun t ht => TXo_50 ht)
      have hm1 := hM1.1
      refine lv_istore (lv' := [(5, .int 0), (0, .ref b), (1, .ref x), (2, .ref u), (3, .ref o), (4, .int (nI n))]) X.hx X.hb dL_law_147 hl (by decide) rfl (fun ls hl => ?_)
      refine lv_aload_n X.hx X.hb dL_law_149 rfl (lv_at hl 3 rfl) ?_
      refine lv_aload_n X.hx X.hb dL_law_150 rfl (lv_at hl 1 rfl) ?_
      refine lv_iload X.hx X.hb dL_law_151 (lv_at hl 5 rfl) ?_
      refine lv_iconst (v := 1) X.hx X.hb dL_law_153 (by decide) ?_
      refine lv_iadd X.hx X.hb dL_law_154 ?_
      refine lv_topi (fun x861 hx861 => ?_)
      obtain rfl : x861 = nI (n + 1) := hx861.trans (nI_add n 1)
      refine va_sld X.hx X.hb hXs hbl hbA hS857 (vp_in_nI (by omega) (by omega)) dL_law_155 ?_
      refine lv_topi (fun x862 hx862 => ?_)
      obtain rfl : x862 = xs (n + 1) := hx862.trans (by rw [nI_clamp (by omega)])
      refine gcV X hl.1 hR856 hS857 1 [.int (xs (n + 1))] [] (m_open l Γ G859 hW hM1 hz) hm1 rfl q1364 q1365 q1366 q40 q1367 rfl rfl ⟨rfl, by decide +kernel, by decide +kernel, by decide +kernel⟩ ⟨by (try dsimp only [RM]); omega, by (try dsimp only [RM]); omega⟩ rfl rfl (Nat.le_of_ble_eq_true rfl) dL_law_156 ⟨by (try dsimp only [RM]); omega, by (try dsimp only [RM]); omega⟩ (fun v866 G867 H locs hq863 hR864 hS865 => ?_)
      obtain ⟨hmr, hgm⟩ := hq863
      rcases hmr with ⟨hj0, rfl, hM2⟩ | ⟨hj0, ⟨w9, rfl⟩, hM2⟩
      · have hX2 := hX1.tm hgm
        have hC2 := hC1.keep hgm (fun t ht => Nat.lt_trans ht.2 (by decide))
        have ho2 := hgm _ _ ho1 (fun h9 => absurd h9.2 (by show ¬ 40 < 40; decide))
        have hm2 := hM2.1
        refine lv_istore (lv' := [(6, .int (nI (σ.1 0))), (5, .int 0), (0, .ref b), (1, .ref x), (2, .ref u), (3, .ref o), (4, .int (nI n))]) X.hx X.hb dL_law_159 hl (by decide) rfl (fun ls hl => ?_)
        refine lv_aload_n X.hx X.hb dL_law_161 rfl (lv_at hl 4 rfl) ?_
        refine gcV X hl.1 hR864 hS865 0 [] [] (m_thrown9 l Γ G867 hM2) hm2 rfl q1360 q1361 q1362 q40 q1363 rfl rfl ⟨rfl, by decide +kernel, by decide +kernel, by decide +kernel⟩ ⟨by (try dsimp only [RM]); omega, by (try dsimp only [RM]); omega⟩ rfl rfl (Nat.le_of_ble_eq_true rfl) dL_law_162 ⟨by (try dsimp only [RM]); omega, by (try dsimp only [RM]); omega⟩ (fun v871 G872 H locs hq868 hR869 hS870 => ?_)
        obtain ⟨rfl, rfl⟩ := hq868
        refine lv_iload X.hx X.hb dL_law_165 (lv_at hl 1 rfl) ?_
        refine lv_icmp_eq (tgt := 172) X.hx X.hb dL_law_167 (by decide) (fun c167 => ?_) (fun c167 => ?_)
        · refine lv_iload X.hx X.hb dL_law_172 (lv_at hl 1 rfl) ?_
          refine lv_if_ne (tgt := 189) X.hx X.hb dL_law_174 (by decide) (fun c174 => ?_) (fun c174 => ?_)
          · exact absurd rfl c174
          · refine lv_aload_n X.hx X.hb dL_law_177 rfl (lv_at hl 5 rfl) ?_
            refine lv_iconst (v := 0) X.hx X.hb dL_law_178 (by decide) ?_
            refine g_lald (v := (nI (σ.1 0)).toInt64) X hR869 ho2 (vp_in_nI (n := 0) (by decide) (by decide)) hfL dL_law_179 ?_
            refine lv_iload X.hx X.hb dL_law_180 (lv_at hl 0 rfl) ?_
            refine lv_i2l X.hx X.hb dL_law_182 rfl ?_
            refine W.lcmp X.hx X.hb dL_law_183 ?_
            refine lv_if_eq (tgt := 189) X.hx X.hb dL_law_184 (by decide) (fun c184 => ?_) (fun c184 => ?_)
            · refine lv_goto (tgt := 1521) X.hx X.hb dL_law_189 (by decide) ?_
              exact kk _ _ _ _ _ (Or.inr ⟨hk0, rfl⟩) ⟨⟨_, hX2⟩, ⟨_, _, hM2⟩, hC2, _, ho2⟩ hR869 hS870 (lv_sub hl [2, 3, 4, 5, 6] rfl)
            · exact absurd ((lg_cmp_eq _ _).mpr rfl) c184
        · exact absurd (by decide) c167
      · exact absurd hk0 hj0
    · have hM1 : MP Γ G859 u σ th B := hM.keep hgo (fun t ht => TXo_m ht)
      have hC1 := hC.keep hgo (fun t ht => TXo_50 ht)
      have hm1 := hM1.1
      refine lv_istore (lv' := [(5, .int (k0 σ (xs (n + 1)))), (0, .ref b), (1, .ref x), (2, .ref u), (3, .ref o), (4, .int (nI n))]) X.hx X.hb dL_law_147 hl (by decide) rfl (fun ls hl => ?_)
      refine lv_aload_n X.hx X.hb dL_law_149 rfl (lv_at hl 3 rfl) ?_
      refine lv_aload_n X.hx X.hb dL_law_150 rfl (lv_at hl 1 rfl) ?_
      refine lv_iload X.hx X.hb dL_law_151 (lv_at hl 5 rfl) ?_
      refine lv_iconst (v := 1) X.hx X.hb dL_law_153 (by decide) ?_
      refine lv_iadd X.hx X.hb dL_law_154 ?_
      refine lv_topi (fun x873 hx873 => ?_)
      obtain rfl : x873 = nI (n + 1) := hx873.trans (nI_add n 1)
      refine va_sld X.hx X.hb hXs hbl hbA hS857 (vp_in_nI (by omega) (by omega)) dL_law_155 ?_
      refine lv_topi (fun x874 hx874 => ?_)
      obtain rfl : x874 = xs (n + 1) := hx874.trans (by rw [nI_clamp (by omega)])
      refine gcV X hl.1 hR856 hS857 1 [.int (xs (n + 1))] [] (m_open l Γ G859 hW hM1 hz) hm1 rfl q1364 q1365 q1366 q40 q1367 rfl rfl ⟨rfl, by decide +kernel, by decide +kernel, by decide +kernel⟩ ⟨by (try dsimp only [RM]); omega, by (try dsimp only [RM]); omega⟩ rfl rfl (Nat.le_of_ble_eq_true rfl) dL_law_156 ⟨by (try dsimp only [RM]); omega, by (try dsimp only [RM]); omega⟩ (fun v878 G879 H locs hq875 hR876 hS877 => ?_)
      obtain ⟨hmr, hgm⟩ := hq875
      rcases hmr with ⟨hj0, rfl, hM2⟩ | ⟨hj0, ⟨w9, rfl⟩, hM2⟩
      · exact absurd hj0 hk0
      · have hX2 := hX1.tm hgm
        have hC2 := hC1.keep hgm (fun t ht => Nat.lt_trans ht.2 (by decide))
        have ho2 := hgm _ _ ho1 (fun h9 => absurd h9.2 (by show ¬ 40 < 40; decide))
        have hm2 := hM2.1
        refine lv_istore (lv' := [(6, .int w9), (5, .int (k0 σ (xs (n + 1)))), (0, .ref b), (1, .ref x), (2, .ref u), (3, .ref o), (4, .int (nI n))]) X.hx X.hb dL_law_159 hl (by decide) rfl (fun ls hl => ?_)
        refine lv_aload_n X.hx X.hb dL_law_161 rfl (lv_at hl 4 rfl) ?_
        refine gcV X hl.1 hR876 hS877 0 [] [] (m_thrown9 l Γ G879 hM2) hm2 rfl q1360 q1361 q1362 q40 q1363 rfl rfl ⟨rfl, by decide +kernel, by decide +kernel, by decide +kernel⟩ ⟨by (try dsimp only [RM]); omega, by (try dsimp only [RM]); omega⟩ rfl rfl (Nat.le_of_ble_eq_true rfl) dL_law_162 ⟨by (try dsimp only [RM]); omega, by (try dsimp only [RM]); omega⟩ (fun v883 G884 H locs hq880 hR881 hS882 => ?_)
        obtain ⟨rfl, rfl⟩ := hq880
        refine lv_iload X.hx X.hb dL_law_165 (lv_at hl 1 rfl) ?_
        refine lv_icmp_eq (tgt := 172) X.hx X.hb dL_law_167 (by decide) (fun c167 => ?_) (fun c167 => ?_)
        · refine lv_iload X.hx X.hb dL_law_172 (lv_at hl 1 rfl) ?_
          refine lv_if_ne (tgt := 189) X.hx X.hb dL_law_174 (by decide) (fun c174 => ?_) (fun c174 => ?_)
          · refine lv_goto (tgt := 1521) X.hx X.hb dL_law_189 (by decide) ?_
            exact kk _ _ _ _ _ (Or.inl rfl) ⟨⟨_, hX2⟩, ⟨_, _, hM2⟩, hC2, _, ho2⟩ hR881 hS882 (lv_sub hl [2, 3, 4, 5, 6] rfl)
          · exact absurd c174 hk0
        · exact absurd rfl c167

set_option maxHeartbeats 4000000 in
theorem l_setWeight (X : Cx pp ss mm args cc0 Γ code 7 RX0) (hst : l.stackTraces = false) {b L n : Nat} {xs : Nat → Int32} (hXs : va_X b L xs ss ss.heap) (hbl : b < ss.heap.size) (hbA : ¬ gA Γ b) (hn : n + 5 ≤ L) (hL : L ≤ 320) (hRf : 100 ≤ R.frames) (hRl : 20000 ≤ R.locals) (hRc : cells + 4000 ≤ R.cells) (hRs : slots + 12000 ≤ R.slots) {x u o : Nat} {σ : MS} (hW : WF σ) (hz : σ.2 1 (σ.1 0) = 0) (hI : LSt Γ G x u o σ) (hR : Rep Γ G H) (hS : va_S (gA Γ) ss.heap H locs) (hl : lv_has ls 7 [(0, .ref b), (1, .ref x), (2, .ref u), (3, .ref o), (4, .int (nI n))])
    (kk : ∀ (τ1 : MS) (G1 : GH) (H1 : Heap) (locs1 : List Loc) (ls1 : Array Slot), (τ1 = σ ∨ (k1 σ (xs (n + 1)) (xs (n + 2)) (xs (n + 3)) = 0 ∧ τ1 = tauW σ (xs (n + 1)) (xs (n + 2)) (xs (n + 3)))) → LSt Γ G1 x u o τ1 → Rep Γ G1 H1 → va_S (gA Γ) ss.heap H1 locs1 → lv_has ls1 7 [(0, .ref b), (1, .ref x), (2, .ref u), (3, .ref o), (4, .int (nI n))] → W pp l ee R ss mm args below meth cc0 H1 locs1 (cells + 4000) (slots + 12000) Q (F0 mm 1521 ls1 [])) :
    W pp l ee R ss mm args below meth cc0 H locs cells slots Q (F0 mm 192 ls []) := by
  obtain ⟨⟨A, hX⟩, ⟨B, th, hM⟩, hC, fL, ho⟩ := hI
  obtain ⟨⟨rf, hx, -⟩, -⟩ := id hX
  have hm := hM.1
  refine lv_aload_n X.hx X.hb dL_law_192 rfl (lv_at hl 1 rfl) ?_
  refine lv_aload_n X.hx X.hb dL_law_193 rfl (lv_at hl 0 rfl) ?_
  refine lv_iload X.hx X.hb dL_law_194 (lv_at hl 4 rfl) ?_
  refine lv_iconst (v := 1) X.hx X.hb dL_law_196 (by decide) ?_
  refine lv_iadd X.hx X.hb dL_law_197 ?_
  refine lv_topi (fun x885 hx885 => ?_)
  obtain rfl : x885 = nI (n + 1) := hx885.trans (nI_add n 1)
  refine va_sld X.hx X.hb hXs hbl hbA hS (vp_in_nI (by omega) (by omega)) dL_law_198 ?_
  refine lv_topi (fun x886 hx886 => ?_)
  obtain rfl : x886 = xs (n + 1) := hx886.trans (by rw [nI_clamp (by omega)])
  refine lv_aload_n X.hx X.hb dL_law_199 rfl (lv_at hl 0 rfl) ?_
  refine lv_iload X.hx X.hb dL_law_200 (lv_at hl 4 rfl) ?_
  refine lv_iconst (v := 2) X.hx X.hb dL_law_202 (by decide) ?_
  refine lv_iadd X.hx X.hb dL_law_203 ?_
  refine lv_topi (fun x887 hx887 => ?_)
  obtain rfl : x887 = nI (n + 2) := hx887.trans (nI_add n 2)
  refine va_sld X.hx X.hb hXs hbl hbA hS (vp_in_nI (by omega) (by omega)) dL_law_204 ?_
  refine lv_topi (fun x888 hx888 => ?_)
  obtain rfl : x888 = xs (n + 2) := hx888.trans (by rw [nI_clamp (by omega)])
  refine lv_aload_n X.hx X.hb dL_law_205 rfl (lv_at hl 0 rfl) ?_
  refine lv_iload X.hx X.hb dL_law_206 (lv_at hl 4 rfl) ?_
  refine lv_iconst (v := 3) X.hx X.hb dL_law_208 (by decide) ?_
  refine lv_iadd X.hx X.hb dL_law_209 ?_
  refine lv_topi (fun x889 hx889 => ?_)
  obtain rfl : x889 = nI (n + 3) := hx889.trans (nI_add n 3)
  refine va_sld X.hx X.hb hXs hbl hbA hS (vp_in_nI (by omega) (by omega)) dL_law_210 ?_
  refine lv_topi (fun x890 hx890 => ?_)
  obtain rfl : x890 = xs (n + 3) := hx890.trans (by rw [nI_clamp (by omega)])
  refine lv_aload_n X.hx X.hb dL_law_211 rfl (lv_at hl 3 rfl) ?_
  refine gxWS X hl.1 hR hS 5 [.ref x, .int (xs (n + 1)), .int (xs (n + 2)), .int (xs (n + 3)), .ref o] [] (w_setWeight l Γ G hst hW hX hC ho) q380 q381 q35 q382 rfl rfl ⟨by decide +kernel, by decide +kernel, by decide +kernel⟩ ⟨by (try dsimp only [RM]); omega, by (try dsimp only [RM]); omega⟩ rfl rfl (Nat.le_of_ble_eq_true rfl) dL_law_212 ⟨by (try dsimp only [RM]); omega, by (try dsimp only [RM]); omega⟩ (fun E896 ce q9 G9 H locs hq9 hR9 hS9 hce hcv hcl => ?_) (fun v894 G895 H locs hq891 hR892 hS893 => ?_)
  · exact hq9.elim
  · obtain ⟨hcr, hgo⟩ := hq891
    rcases hcr with ⟨hk0, rfl, ⟨A1, hX1⟩, fL1, ho1, hfL⟩ | ⟨hk0, rfl, ⟨A1, hX1⟩, fL1, ho1⟩
    · have hM1 : MP Γ G895 u σ th B := hM.keep hgo (fun t ht => TXo_m ht)
      have hC1 := hC.keep hgo (fun t ht => TXo_50 ht)
      have hm1 := hM1.1
      refine lv_istore (lv' := [(5, .int 0), (0, .ref b), (1, .ref x), (2, .ref u), (3, .ref o), (4, .int (nI n))]) X.hx X.hb dL_law_215 hl (by decide) rfl (fun ls hl => ?_)
      refine lv_aload_n X.hx X.hb dL_law_217 rfl (lv_at hl 3 rfl) ?_
      refine lv_aload_n X.hx X.hb dL_law_218 rfl (lv_at hl 1 rfl) ?_
      refine lv_iload X.hx X.hb dL_law_219 (lv_at hl 5 rfl) ?_
      refine lv_iconst (v := 1) X.hx X.hb dL_law_221 (by decide) ?_
      refine lv_iadd X.hx X.hb dL_law_222 ?_
      refine lv_topi (fun x897 hx897 => ?_)
      obtain rfl : x897 = nI (n + 1) := hx897.trans (nI_add n 1)
      refine va_sld X.hx X.hb hXs hbl hbA hS893 (vp_in_nI (by omega) (by omega)) dL_law_223 ?_
      refine lv_topi (fun x898 hx898 => ?_)
      obtain rfl : x898 = xs (n + 1) := hx898.trans (by rw [nI_clamp (by omega)])
      refine lv_aload_n X.hx X.hb dL_law_224 rfl (lv_at hl 1 rfl) ?_
      refine lv_iload X.hx X.hb dL_law_225 (lv_at hl 5 rfl) ?_
      refine lv_iconst (v := 2) X.hx X.hb dL_law_227 (by decide) ?_
      refine lv_iadd X.hx X.hb dL_law_228 ?_
      refine lv_topi (fun x899 hx899 => ?_)
      obtain rfl : x899 = nI (n + 2) := hx899.trans (nI_add n 2)
      refine va_sld X.hx X.hb hXs hbl hbA hS893 (vp_in_nI (by omega) (by omega)) dL_law_229 ?_
      refine lv_topi (fun x900 hx900 => ?_)
      obtain rfl : x900 = xs (n + 2) := hx900.trans (by rw [nI_clamp (by omega)])
      refine lv_aload_n X.hx X.hb dL_law_230 rfl (lv_at hl 1 rfl) ?_
      refine lv_iload X.hx X.hb dL_law_231 (lv_at hl 5 rfl) ?_
      refine lv_iconst (v := 3) X.hx X.hb dL_law_233 (by decide) ?_
      refine lv_iadd X.hx X.hb dL_law_234 ?_
      refine lv_topi (fun x901 hx901 => ?_)
      obtain rfl : x901 = nI (n + 3) := hx901.trans (nI_add n 3)
      refine va_sld X.hx X.hb hXs hbl hbA hS893 (vp_in_nI (by omega) (by omega)) dL_law_235 ?_
      refine lv_topi (fun x902 hx902 => ?_)
      obtain rfl : x902 = xs (n + 3) := hx902.trans (by rw [nI_clamp (by omega)])
      refine gcV X hl.1 hR892 hS893 3 [.int (xs (n + 1)), .int (xs (n + 2)), .int (xs (n + 3))] [] (m_setWeight l Γ G895 hW hM1) hm1 rfl q1371 q1372 q1373 q40 q1374 rfl rfl ⟨rfl, by decide +kernel, by decide +kernel, by decide +kernel⟩ ⟨by (try dsimp only [RM]); omega, by (try dsimp only [RM]); omega⟩ rfl rfl (Nat.le_of_ble_eq_true rfl) dL_law_236 ⟨by (try dsimp only [RM]); omega, by (try dsimp only [RM]); omega⟩ (fun v906 G907 H locs hq903 hR904 hS905 => ?_)
      obtain ⟨hmr, hgm⟩ := hq903
      rcases hmr with ⟨hj0, rfl, hM2⟩ | ⟨hj0, ⟨w9, rfl⟩, hM2⟩
      · have hX2 := hX1.tm hgm
        have hC2 := hC1.keep hgm (fun t ht => Nat.lt_trans ht.2 (by decide))
        have ho2 := hgm _ _ ho1 (fun h9 => absurd h9.2 (by show ¬ 40 < 40; decide))
        have hm2 := hM2.1
        refine lv_istore (lv' := [(6, .int (nI (σ.1 1 + 1))), (5, .int 0), (0, .ref b), (1, .ref x), (2, .ref u), (3, .ref o), (4, .int (nI n))]) X.hx X.hb dL_law_239 hl (by decide) rfl (fun ls hl => ?_)
        refine lv_aload_n X.hx X.hb dL_law_241 rfl (lv_at hl 4 rfl) ?_
        refine gcV X hl.1 hR904 hS905 0 [] [] (m_thrown9 l Γ G907 hM2) hm2 rfl q1360 q1361 q1362 q40 q1363 rfl rfl ⟨rfl, by decide +kernel, by decide +kernel, by decide +kernel⟩ ⟨by (try dsimp only [RM]); omega, by (try dsimp only [RM]); omega⟩ rfl rfl (Nat.le_of_ble_eq_true rfl) dL_law_242 ⟨by (try dsimp only [RM]); omega, by (try dsimp only [RM]); omega⟩ (fun v911 G912 H locs hq908 hR909 hS910 => ?_)
        obtain ⟨rfl, rfl⟩ := hq908
        refine lv_iload X.hx X.hb dL_law_245 (lv_at hl 1 rfl) ?_
        refine lv_icmp_eq (tgt := 252) X.hx X.hb dL_law_247 (by decide) (fun c247 => ?_) (fun c247 => ?_)
        · refine lv_iload X.hx X.hb dL_law_252 (lv_at hl 1 rfl) ?_
          refine lv_if_ne (tgt := 269) X.hx X.hb dL_law_254 (by decide) (fun c254 => ?_) (fun c254 => ?_)
          · exact absurd rfl c254
          · refine lv_aload_n X.hx X.hb dL_law_257 rfl (lv_at hl 5 rfl) ?_
            refine lv_iconst (v := 0) X.hx X.hb dL_law_258 (by decide) ?_
            refine g_lald (v := (nI (σ.1 1 + 1)).toInt64) X hR909 ho2 (vp_in_nI (n := 0) (by decide) (by decide)) hfL dL_law_259 ?_
            refine lv_iload X.hx X.hb dL_law_260 (lv_at hl 0 rfl) ?_
            refine lv_i2l X.hx X.hb dL_law_262 rfl ?_
            refine W.lcmp X.hx X.hb dL_law_263 ?_
            refine lv_if_eq (tgt := 269) X.hx X.hb dL_law_264 (by decide) (fun c264 => ?_) (fun c264 => ?_)
            · refine lv_goto (tgt := 1521) X.hx X.hb dL_law_269 (by decide) ?_
              exact kk _ _ _ _ _ (Or.inr ⟨hk0, rfl⟩) ⟨⟨_, hX2⟩, ⟨_, _, hM2⟩, hC2, _, ho2⟩ hR909 hS910 (lv_sub hl [2, 3, 4, 5, 6] rfl)
            · exact absurd ((lg_cmp_eq _ _).mpr rfl) c264
        · exact absurd (by decide) c247
      · exact absurd hk0 hj0
    · have hM1 : MP Γ G895 u σ th B := hM.keep hgo (fun t ht => TXo_m ht)
      have hC1 := hC.keep hgo (fun t ht => TXo_50 ht)
      have hm1 := hM1.1
      refine lv_istore (lv' := [(5, .int (k1 σ (xs (n + 1)) (xs (n + 2)) (xs (n + 3)))), (0, .ref b), (1, .ref x), (2, .ref u), (3, .ref o), (4, .int (nI n))]) X.hx X.hb dL_law_215 hl (by decide) rfl (fun ls hl => ?_)
      refine lv_aload_n X.hx X.hb dL_law_217 rfl (lv_at hl 3 rfl) ?_
      refine lv_aload_n X.hx X.hb dL_law_218 rfl (lv_at hl 1 rfl) ?_
      refine lv_iload X.hx X.hb dL_law_219 (lv_at hl 5 rfl) ?_
      refine lv_iconst (v := 1) X.hx X.hb dL_law_221 (by decide) ?_
      refine lv_iadd X.hx X.hb dL_law_222 ?_
      refine lv_topi (fun x913 hx913 => ?_)
      obtain rfl : x913 = nI (n + 1) := hx913.trans (nI_add n 1)
      refine va_sld X.hx X.hb hXs hbl hbA hS893 (vp_in_nI (by omega) (by omega)) dL_law_223 ?_
      refine lv_topi (fun x914 hx914 => ?_)
      obtain rfl : x914 = xs (n + 1) := hx914.trans (by rw [nI_clamp (by omega)])
      refine lv_aload_n X.hx X.hb dL_law_224 rfl (lv_at hl 1 rfl) ?_
      refine lv_iload X.hx X.hb dL_law_225 (lv_at hl 5 rfl) ?_
      refine lv_iconst (v := 2) X.hx X.hb dL_law_227 (by decide) ?_
      refine lv_iadd X.hx X.hb dL_law_228 ?_
      refine lv_topi (fun x915 hx915 => ?_)
      obtain rfl : x915 = nI (n + 2) := hx915.trans (nI_add n 2)
      refine va_sld X.hx X.hb hXs hbl hbA hS893 (vp_in_nI (by omega) (by omega)) dL_law_229 ?_
      refine lv_topi (fun x916 hx916 => ?_)
      obtain rfl : x916 = xs (n + 2) := hx916.trans (by rw [nI_clamp (by omega)])
      refine lv_aload_n X.hx X.hb dL_law_230 rfl (lv_at hl 1 rfl) ?_
      refine lv_iload X.hx X.hb dL_law_231 (lv_at hl 5 rfl) ?_
      refine lv_iconst (v := 3) X.hx X.hb dL_law_233 (by decide) ?_
      refine lv_iadd X.hx X.hb dL_law_234 ?_
      refine lv_topi (fun x917 hx917 => ?_)
      obtain rfl : x917 = nI (n + 3) := hx917.trans (nI_add n 3)
      refine va_sld X.hx X.hb hXs hbl hbA hS893 (vp_in_nI (by omega) (by omega)) dL_law_235 ?_
      refine lv_topi (fun x918 hx918 => ?_)
      obtain rfl : x918 = xs (n + 3) := hx918.trans (by rw [nI_clamp (by omega)])
      refine gcV X hl.1 hR892 hS893 3 [.int (xs (n + 1)), .int (xs (n + 2)), .int (xs (n + 3))] [] (m_setWeight l Γ G895 hW hM1) hm1 rfl q1371 q1372 q1373 q40 q1374 rfl rfl ⟨rfl, by decide +kernel, by decide +kernel, by decide +kernel⟩ ⟨by (try dsimp only [RM]); omega, by (try dsimp only [RM]); omega⟩ rfl rfl (Nat.le_of_ble_eq_true rfl) dL_law_236 ⟨by (try dsimp only [RM]); omega, by (try dsimp only [RM]); omega⟩ (fun v922 G923 H locs hq919 hR920 hS921 => ?_)
      obtain ⟨hmr, hgm⟩ := hq919
      rcases hmr with ⟨hj0, rfl, hM2⟩ | ⟨hj0, ⟨w9, rfl⟩, hM2⟩
      · exact absurd hj0 hk0
      · have hX2 := hX1.tm hgm
        have hC2 := hC1.keep hgm (fun t ht => Nat.lt_trans ht.2 (by decide))
        have ho2 := hgm _ _ ho1 (fun h9 => absurd h9.2 (by show ¬ 40 < 40; decide))
        have hm2 := hM2.1
        refine lv_istore (lv' := [(6, .int w9), (5, .int (k1 σ (xs (n + 1)) (xs (n + 2)) (xs (n + 3)))), (0, .ref b), (1, .ref x), (2, .ref u), (3, .ref o), (4, .int (nI n))]) X.hx X.hb dL_law_239 hl (by decide) rfl (fun ls hl => ?_)
        refine lv_aload_n X.hx X.hb dL_law_241 rfl (lv_at hl 4 rfl) ?_
        refine gcV X hl.1 hR920 hS921 0 [] [] (m_thrown9 l Γ G923 hM2) hm2 rfl q1360 q1361 q1362 q40 q1363 rfl rfl ⟨rfl, by decide +kernel, by decide +kernel, by decide +kernel⟩ ⟨by (try dsimp only [RM]); omega, by (try dsimp only [RM]); omega⟩ rfl rfl (Nat.le_of_ble_eq_true rfl) dL_law_242 ⟨by (try dsimp only [RM]); omega, by (try dsimp only [RM]); omega⟩ (fun v927 G928 H locs hq924 hR925 hS926 => ?_)
        obtain ⟨rfl, rfl⟩ := hq924
        refine lv_iload X.hx X.hb dL_law_245 (lv_at hl 1 rfl) ?_
        refine lv_icmp_eq (tgt := 252) X.hx X.hb dL_law_247 (by decide) (fun c247 => ?_) (fun c247 => ?_)
        · refine lv_iload X.hx X.hb dL_law_252 (lv_at hl 1 rfl) ?_
          refine lv_if_ne (tgt := 269) X.hx X.hb dL_law_254 (by decide) (fun c254 => ?_) (fun c254 => ?_)
          · refine lv_goto (tgt := 1521) X.hx X.hb dL_law_269 (by decide) ?_
            exact kk _ _ _ _ _ (Or.inl rfl) ⟨⟨_, hX2⟩, ⟨_, _, hM2⟩, hC2, _, ho2⟩ hR925 hS926 (lv_sub hl [2, 3, 4, 5, 6] rfl)
          · exact absurd c254 hk0
        · exact absurd rfl c247

set_option maxHeartbeats 4000000 in
theorem l_pass (X : Cx pp ss mm args cc0 Γ code 7 RX0) (hst : l.stackTraces = false) {b L n : Nat} {xs : Nat → Int32} (hXs : va_X b L xs ss ss.heap) (hbl : b < ss.heap.size) (hbA : ¬ gA Γ b) (hn : n + 5 ≤ L) (hL : L ≤ 320) (hRf : 100 ≤ R.frames) (hRl : 20000 ≤ R.locals) (hRc : cells + 4000 ≤ R.cells) (hRs : slots + 12000 ≤ R.slots) {x u o : Nat} {σ : MS} (hW : WF σ) (hz : σ.2 1 (σ.1 0) = 0) (hI : LSt Γ G x u o σ) (hR : Rep Γ G H) (hS : va_S (gA Γ) ss.heap H locs) (hl : lv_has ls 7 [(0, .ref b), (1, .ref x), (2, .ref u), (3, .ref o), (4, .int (nI n))])
    (kk : ∀ (τ1 : MS) (G1 : GH) (H1 : Heap) (locs1 : List Loc) (ls1 : Array Slot), (τ1 = σ ∨ (k2 (xs (n + 1)) = 0 ∧ τ1 = tauP σ (xs (n + 1)))) → LSt Γ G1 x u o τ1 → Rep Γ G1 H1 → va_S (gA Γ) ss.heap H1 locs1 → lv_has ls1 7 [(0, .ref b), (1, .ref x), (2, .ref u), (3, .ref o), (4, .int (nI n))] → W pp l ee R ss mm args below meth cc0 H1 locs1 (cells + 4000) (slots + 12000) Q (F0 mm 1521 ls1 [])) :
    W pp l ee R ss mm args below meth cc0 H locs cells slots Q (F0 mm 272 ls []) := by
  obtain ⟨⟨A, hX⟩, ⟨B, th, hM⟩, hC, fL, ho⟩ := hI
  obtain ⟨⟨rf, hx, -⟩, -⟩ := id hX
  have hm := hM.1
  refine lv_aload_n X.hx X.hb dL_law_272 rfl (lv_at hl 1 rfl) ?_
  refine lv_aload_n X.hx X.hb dL_law_273 rfl (lv_at hl 0 rfl) ?_
  refine lv_iload X.hx X.hb dL_law_274 (lv_at hl 4 rfl) ?_
  refine lv_iconst (v := 1) X.hx X.hb dL_law_276 (by decide) ?_
  refine lv_iadd X.hx X.hb dL_law_277 ?_
  refine lv_topi (fun x929 hx929 => ?_)
  obtain rfl : x929 = nI (n + 1) := hx929.trans (nI_add n 1)
  refine va_sld X.hx X.hb hXs hbl hbA hS (vp_in_nI (by omega) (by omega)) dL_law_278 ?_
  refine lv_topi (fun x930 hx930 => ?_)
  obtain rfl : x930 = xs (n + 1) := hx930.trans (by rw [nI_clamp (by omega)])
  refine lv_aload_n X.hx X.hb dL_law_279 rfl (lv_at hl 3 rfl) ?_
  refine gxWS X hl.1 hR hS 3 [.ref x, .int (xs (n + 1)), .ref o] [] (w_pass l Γ G hst hW hX hC ho) q457 q458 q35 q459 rfl rfl ⟨by decide +kernel, by decide +kernel, by decide +kernel⟩ ⟨by (try dsimp only [RM]); omega, by (try dsimp only [RM]); omega⟩ rfl rfl (Nat.le_of_ble_eq_true rfl) dL_law_280 ⟨by (try dsimp only [RM]); omega, by (try dsimp only [RM]); omega⟩ (fun E936 ce q9 G9 H locs hq9 hR9 hS9 hce hcv hcl => ?_) (fun v934 G935 H locs hq931 hR932 hS933 => ?_)
  · exact hq9.elim
  · obtain ⟨hcr, hgo⟩ := hq931
    rcases hcr with ⟨hk0, rfl, ⟨A1, hX1⟩, fL1, ho1, hfL⟩ | ⟨hk0, rfl, ⟨A1, hX1⟩, fL1, ho1⟩
    · have hM1 : MP Γ G935 u σ th B := hM.keep hgo (fun t ht => TXo_m ht)
      have hC1 := hC.keep hgo (fun t ht => TXo_50 ht)
      have hm1 := hM1.1
      refine lv_istore (lv' := [(5, .int 0), (0, .ref b), (1, .ref x), (2, .ref u), (3, .ref o), (4, .int (nI n))]) X.hx X.hb dL_law_283 hl (by decide) rfl (fun ls hl => ?_)
      refine lv_aload_n X.hx X.hb dL_law_285 rfl (lv_at hl 3 rfl) ?_
      refine lv_aload_n X.hx X.hb dL_law_286 rfl (lv_at hl 1 rfl) ?_
      refine lv_iload X.hx X.hb dL_law_287 (lv_at hl 5 rfl) ?_
      refine lv_iconst (v := 1) X.hx X.hb dL_law_289 (by decide) ?_
      refine lv_iadd X.hx X.hb dL_law_290 ?_
      refine lv_topi (fun x937 hx937 => ?_)
      obtain rfl : x937 = nI (n + 1) := hx937.trans (nI_add n 1)
      refine va_sld X.hx X.hb hXs hbl hbA hS933 (vp_in_nI (by omega) (by omega)) dL_law_291 ?_
      refine lv_topi (fun x938 hx938 => ?_)
      obtain rfl : x938 = xs (n + 1) := hx938.trans (by rw [nI_clamp (by omega)])
      refine gcV X hl.1 hR932 hS933 1 [.int (xs (n + 1))] [] (m_pass l Γ G935 hW hM1) hm1 rfl q1381 q1382 q1383 q40 q1384 rfl rfl ⟨rfl, by decide +kernel, by decide +kernel, by decide +kernel⟩ ⟨by (try dsimp only [RM]); omega, by (try dsimp only [RM]); omega⟩ rfl rfl (Nat.le_of_ble_eq_true rfl) dL_law_292 ⟨by (try dsimp only [RM]); omega, by (try dsimp only [RM]); omega⟩ (fun v942 G943 H locs hq939 hR940 hS941 => ?_)
      obtain ⟨hmr, hgm⟩ := hq939
      rcases hmr with ⟨hj0, rfl, hM2⟩ | ⟨hj0, ⟨w9, rfl⟩, hM2⟩
      · have hX2 := hX1.tm hgm
        have hC2 := hC1.keep hgm (fun t ht => Nat.lt_trans ht.2 (by decide))
        have ho2 := hgm _ _ ho1 (fun h9 => absurd h9.2 (by show ¬ 40 < 40; decide))
        have hm2 := hM2.1
        refine lv_istore (lv' := [(6, .int (σ.2 12 0 + (xs (n + 1)))), (5, .int 0), (0, .ref b), (1, .ref x), (2, .ref u), (3, .ref o), (4, .int (nI n))]) X.hx X.hb dL_law_295 hl (by decide) rfl (fun ls hl => ?_)
        refine lv_aload_n X.hx X.hb dL_law_297 rfl (lv_at hl 4 rfl) ?_
        refine gcV X hl.1 hR940 hS941 0 [] [] (m_thrown9 l Γ G943 hM2) hm2 rfl q1360 q1361 q1362 q40 q1363 rfl rfl ⟨rfl, by decide +kernel, by decide +kernel, by decide +kernel⟩ ⟨by (try dsimp only [RM]); omega, by (try dsimp only [RM]); omega⟩ rfl rfl (Nat.le_of_ble_eq_true rfl) dL_law_298 ⟨by (try dsimp only [RM]); omega, by (try dsimp only [RM]); omega⟩ (fun v947 G948 H locs hq944 hR945 hS946 => ?_)
        obtain ⟨rfl, rfl⟩ := hq944
        refine lv_iload X.hx X.hb dL_law_301 (lv_at hl 1 rfl) ?_
        refine lv_icmp_eq (tgt := 308) X.hx X.hb dL_law_303 (by decide) (fun c303 => ?_) (fun c303 => ?_)
        · refine lv_iload X.hx X.hb dL_law_308 (lv_at hl 1 rfl) ?_
          refine lv_if_ne (tgt := 325) X.hx X.hb dL_law_310 (by decide) (fun c310 => ?_) (fun c310 => ?_)
          · exact absurd rfl c310
          · refine lv_aload_n X.hx X.hb dL_law_313 rfl (lv_at hl 5 rfl) ?_
            refine lv_iconst (v := 0) X.hx X.hb dL_law_314 (by decide) ?_
            refine g_lald (v := (σ.2 12 0 + (xs (n + 1))).toInt64) X hR945 ho2 (vp_in_nI (n := 0) (by decide) (by decide)) hfL dL_law_315 ?_
            refine lv_iload X.hx X.hb dL_law_316 (lv_at hl 0 rfl) ?_
            refine lv_i2l X.hx X.hb dL_law_318 rfl ?_
            refine W.lcmp X.hx X.hb dL_law_319 ?_
            refine lv_if_eq (tgt := 325) X.hx X.hb dL_law_320 (by decide) (fun c320 => ?_) (fun c320 => ?_)
            · refine lv_goto (tgt := 1521) X.hx X.hb dL_law_325 (by decide) ?_
              exact kk _ _ _ _ _ (Or.inr ⟨hk0, rfl⟩) ⟨⟨_, hX2⟩, ⟨_, _, hM2⟩, hC2, _, ho2⟩ hR945 hS946 (lv_sub hl [2, 3, 4, 5, 6] rfl)
            · exact absurd ((lg_cmp_eq _ _).mpr rfl) c320
        · exact absurd (by decide) c303
      · exact absurd hk0 hj0
    · have hM1 : MP Γ G935 u σ th B := hM.keep hgo (fun t ht => TXo_m ht)
      have hC1 := hC.keep hgo (fun t ht => TXo_50 ht)
      have hm1 := hM1.1
      refine lv_istore (lv' := [(5, .int (k2 (xs (n + 1)))), (0, .ref b), (1, .ref x), (2, .ref u), (3, .ref o), (4, .int (nI n))]) X.hx X.hb dL_law_283 hl (by decide) rfl (fun ls hl => ?_)
      refine lv_aload_n X.hx X.hb dL_law_285 rfl (lv_at hl 3 rfl) ?_
      refine lv_aload_n X.hx X.hb dL_law_286 rfl (lv_at hl 1 rfl) ?_
      refine lv_iload X.hx X.hb dL_law_287 (lv_at hl 5 rfl) ?_
      refine lv_iconst (v := 1) X.hx X.hb dL_law_289 (by decide) ?_
      refine lv_iadd X.hx X.hb dL_law_290 ?_
      refine lv_topi (fun x949 hx949 => ?_)
      obtain rfl : x949 = nI (n + 1) := hx949.trans (nI_add n 1)
      refine va_sld X.hx X.hb hXs hbl hbA hS933 (vp_in_nI (by omega) (by omega)) dL_law_291 ?_
      refine lv_topi (fun x950 hx950 => ?_)
      obtain rfl : x950 = xs (n + 1) := hx950.trans (by rw [nI_clamp (by omega)])
      refine gcV X hl.1 hR932 hS933 1 [.int (xs (n + 1))] [] (m_pass l Γ G935 hW hM1) hm1 rfl q1381 q1382 q1383 q40 q1384 rfl rfl ⟨rfl, by decide +kernel, by decide +kernel, by decide +kernel⟩ ⟨by (try dsimp only [RM]); omega, by (try dsimp only [RM]); omega⟩ rfl rfl (Nat.le_of_ble_eq_true rfl) dL_law_292 ⟨by (try dsimp only [RM]); omega, by (try dsimp only [RM]); omega⟩ (fun v954 G955 H locs hq951 hR952 hS953 => ?_)
      obtain ⟨hmr, hgm⟩ := hq951
      rcases hmr with ⟨hj0, rfl, hM2⟩ | ⟨hj0, ⟨w9, rfl⟩, hM2⟩
      · exact absurd hj0 hk0
      · have hX2 := hX1.tm hgm
        have hC2 := hC1.keep hgm (fun t ht => Nat.lt_trans ht.2 (by decide))
        have ho2 := hgm _ _ ho1 (fun h9 => absurd h9.2 (by show ¬ 40 < 40; decide))
        have hm2 := hM2.1
        refine lv_istore (lv' := [(6, .int w9), (5, .int (k2 (xs (n + 1)))), (0, .ref b), (1, .ref x), (2, .ref u), (3, .ref o), (4, .int (nI n))]) X.hx X.hb dL_law_295 hl (by decide) rfl (fun ls hl => ?_)
        refine lv_aload_n X.hx X.hb dL_law_297 rfl (lv_at hl 4 rfl) ?_
        refine gcV X hl.1 hR952 hS953 0 [] [] (m_thrown9 l Γ G955 hM2) hm2 rfl q1360 q1361 q1362 q40 q1363 rfl rfl ⟨rfl, by decide +kernel, by decide +kernel, by decide +kernel⟩ ⟨by (try dsimp only [RM]); omega, by (try dsimp only [RM]); omega⟩ rfl rfl (Nat.le_of_ble_eq_true rfl) dL_law_298 ⟨by (try dsimp only [RM]); omega, by (try dsimp only [RM]); omega⟩ (fun v959 G960 H locs hq956 hR957 hS958 => ?_)
        obtain ⟨rfl, rfl⟩ := hq956
        refine lv_iload X.hx X.hb dL_law_301 (lv_at hl 1 rfl) ?_
        refine lv_icmp_eq (tgt := 308) X.hx X.hb dL_law_303 (by decide) (fun c303 => ?_) (fun c303 => ?_)
        · refine lv_iload X.hx X.hb dL_law_308 (lv_at hl 1 rfl) ?_
          refine lv_if_ne (tgt := 325) X.hx X.hb dL_law_310 (by decide) (fun c310 => ?_) (fun c310 => ?_)
          · refine lv_goto (tgt := 1521) X.hx X.hb dL_law_325 (by decide) ?_
            exact kk _ _ _ _ _ (Or.inl rfl) ⟨⟨_, hX2⟩, ⟨_, _, hM2⟩, hC2, _, ho2⟩ hR957 hS958 (lv_sub hl [2, 3, 4, 5, 6] rfl)
          · exact absurd c310 hk0
        · exact absurd rfl c303

set_option maxHeartbeats 4000000 in
theorem l_today (X : Cx pp ss mm args cc0 Γ code 7 RX0) (hst : l.stackTraces = false) {b L n : Nat} {xs : Nat → Int32} (hXs : va_X b L xs ss ss.heap) (hbl : b < ss.heap.size) (hbA : ¬ gA Γ b) (hn : n + 5 ≤ L) (hL : L ≤ 320) (hRf : 100 ≤ R.frames) (hRl : 20000 ≤ R.locals) (hRc : cells + 4000 ≤ R.cells) (hRs : slots + 12000 ≤ R.slots) {x u o : Nat} {σ : MS} (hW : WF σ) (hz : σ.2 1 (σ.1 0) = 0) (hI : LSt Γ G x u o σ) (hR : Rep Γ G H) (hS : va_S (gA Γ) ss.heap H locs) (hl : lv_has ls 7 [(0, .ref b), (1, .ref x), (2, .ref u), (3, .ref o), (4, .int (nI n))])
    (kk : ∀ (τ1 : MS) (G1 : GH) (H1 : Heap) (locs1 : List Loc) (ls1 : Array Slot), τ1 = σ → LSt Γ G1 x u o τ1 → Rep Γ G1 H1 → va_S (gA Γ) ss.heap H1 locs1 → lv_has ls1 7 [(0, .ref b), (1, .ref x), (2, .ref u), (3, .ref o), (4, .int (nI n))] → W pp l ee R ss mm args below meth cc0 H1 locs1 (cells + 4000) (slots + 12000) Q (F0 mm 1521 ls1 [])) :
    W pp l ee R ss mm args below meth cc0 H locs cells slots Q (F0 mm 328 ls []) := by
  obtain ⟨⟨A, hX⟩, ⟨B, th, hM⟩, hC, fL, ho⟩ := hI
  obtain ⟨⟨rf, hx, -⟩, -⟩ := id hX
  have hm := hM.1
  refine lv_aload_n X.hx X.hb dL_law_328 rfl (lv_at hl 1 rfl) ?_
  refine gcV X hl.1 hR hS 0 [] [] (c_today l Γ G hW hX) hx rfl q135 q136 q137 q36 q138 rfl rfl ⟨rfl, by decide +kernel, by decide +kernel, by decide +kernel⟩ ⟨by (try dsimp only [RM]); omega, by (try dsimp only [RM]); omega⟩ rfl rfl (Nat.le_of_ble_eq_true rfl) dL_law_329 ⟨by (try dsimp only [RM]); omega, by (try dsimp only [RM]); omega⟩ (fun v964 G965 H locs hq961 hR962 hS963 => ?_)
  obtain ⟨rfl, rfl⟩ := hq961
  refine lv_aload_n X.hx X.hb dL_law_332 rfl (lv_at hl 2 rfl) ?_
  refine gcV X hl.1 hR962 hS963 0 [] [.int (σ.2 12 0)] (m_today l Γ G hW hM) hm rfl q1385 q1386 q1387 q40 q1388 rfl rfl ⟨rfl, by decide +kernel, by decide +kernel, by decide +kernel⟩ ⟨by (try dsimp only [RM]); omega, by (try dsimp only [RM]); omega⟩ rfl rfl (Nat.le_of_ble_eq_true rfl) dL_law_333 ⟨by (try dsimp only [RM]); omega, by (try dsimp only [RM]); omega⟩ (fun v969 G970 H locs hq966 hR967 hS968 => ?_)
  obtain ⟨rfl, hM2, hgm⟩ := hq966
  refine lv_icmp_eq (tgt := 1521) X.hx X.hb dL_law_336 (by decide) (fun c336 => ?_) (fun c336 => ?_)
  · exact kk σ _ _ _ _ rfl ⟨⟨_, hX.tm hgm⟩, ⟨_, _, hM2⟩, hC.keep hgm (fun t ht => Nat.lt_trans ht.2 (by decide)), _, hgm _ _ ho (fun h9 => absurd h9.2 (by show ¬ 40 < 40; decide))⟩ hR967 hS968 (lv_sub hl [0, 1, 2, 3, 4] rfl)
  · exact absurd rfl c336

set_option maxHeartbeats 4000000 in
theorem l_change (X : Cx pp ss mm args cc0 Γ code 7 RX0) (hst : l.stackTraces = false) {b L n : Nat} {xs : Nat → Int32} (hXs : va_X b L xs ss ss.heap) (hbl : b < ss.heap.size) (hbA : ¬ gA Γ b) (hn : n + 5 ≤ L) (hL : L ≤ 320) (hRf : 100 ≤ R.frames) (hRl : 20000 ≤ R.locals) (hRc : cells + 4000 ≤ R.cells) (hRs : slots + 12000 ≤ R.slots) {x u o : Nat} {σ : MS} (hW : WF σ) (hz : σ.2 1 (σ.1 0) = 0) (hI : LSt Γ G x u o σ) (hR : Rep Γ G H) (hS : va_S (gA Γ) ss.heap H locs) (hl : lv_has ls 7 [(0, .ref b), (1, .ref x), (2, .ref u), (3, .ref o), (4, .int (nI n))])
    (kk : ∀ (τ1 : MS) (G1 : GH) (H1 : Heap) (locs1 : List Loc) (ls1 : Array Slot), (τ1 = σ ∨ (kT σ (xs (n + 1)) (xs (n + 2)) (xs (n + 3)) 0 20 (xs (n + 4)) = 0 ∧ τ1 = tauT σ (xs (n + 1)) 0 (xs (n + 2)) (xs (n + 3)) (xs (n + 4)))) → LSt Γ G1 x u o τ1 → Rep Γ G1 H1 → va_S (gA Γ) ss.heap H1 locs1 → lv_has ls1 7 [(0, .ref b), (1, .ref x), (2, .ref u), (3, .ref o), (4, .int (nI n))] → W pp l ee R ss mm args below meth cc0 H1 locs1 (cells + 4000) (slots + 12000) Q (F0 mm 1521 ls1 [])) :
    W pp l ee R ss mm args below meth cc0 H locs cells slots Q (F0 mm 341 ls []) := by
  obtain ⟨⟨A, hX⟩, ⟨B, th, hM⟩, hC, fL, ho⟩ := hI
  obtain ⟨⟨rf, hx, -⟩, -⟩ := id hX
  have hm := hM.1
  refine lv_aload_n X.hx X.hb dL_law_341 rfl (lv_at hl 1 rfl) ?_
  refine lv_aload_n X.hx X.hb dL_law_342 rfl (lv_at hl 0 rfl) ?_
  refine lv_iload X.hx X.hb dL_law_343 (lv_at hl 4 rfl) ?_
  refine lv_iconst (v := 1) X.hx X.hb dL_law_345 (by decide) ?_
  refine lv_iadd X.hx X.hb dL_law_346 ?_
  refine lv_topi (fun x971 hx971 => ?_)
  obtain rfl : x971 = nI (n + 1) := hx971.trans (nI_add n 1)
  refine va_sld X.hx X.hb hXs hbl hbA hS (vp_in_nI (by omega) (by omega)) dL_law_347 ?_
  refine lv_topi (fun x972 hx972 => ?_)
  obtain rfl : x972 = xs (n + 1) := hx972.trans (by rw [nI_clamp (by omega)])
  refine lv_aload_n X.hx X.hb dL_law_348 rfl (lv_at hl 0 rfl) ?_
  refine lv_iload X.hx X.hb dL_law_349 (lv_at hl 4 rfl) ?_
  refine lv_iconst (v := 2) X.hx X.hb dL_law_351 (by decide) ?_
  refine lv_iadd X.hx X.hb dL_law_352 ?_
  refine lv_topi (fun x973 hx973 => ?_)
  obtain rfl : x973 = nI (n + 2) := hx973.trans (nI_add n 2)
  refine va_sld X.hx X.hb hXs hbl hbA hS (vp_in_nI (by omega) (by omega)) dL_law_353 ?_
  refine lv_topi (fun x974 hx974 => ?_)
  obtain rfl : x974 = xs (n + 2) := hx974.trans (by rw [nI_clamp (by omega)])
  refine lv_aload_n X.hx X.hb dL_law_354 rfl (lv_at hl 0 rfl) ?_
  refine lv_iload X.hx X.hb dL_law_355 (lv_at hl 4 rfl) ?_
  refine lv_iconst (v := 3) X.hx X.hb dL_law_357 (by decide) ?_
  refine lv_iadd X.hx X.hb dL_law_358 ?_
  refine lv_topi (fun x975 hx975 => ?_)
  obtain rfl : x975 = nI (n + 3) := hx975.trans (nI_add n 3)
  refine va_sld X.hx X.hb hXs hbl hbA hS (vp_in_nI (by omega) (by omega)) dL_law_359 ?_
  refine lv_topi (fun x976 hx976 => ?_)
  obtain rfl : x976 = xs (n + 3) := hx976.trans (by rw [nI_clamp (by omega)])
  refine lv_aload_n X.hx X.hb dL_law_360 rfl (lv_at hl 0 rfl) ?_
  refine lv_iload X.hx X.hb dL_law_361 (lv_at hl 4 rfl) ?_
  refine lv_iconst (v := 4) X.hx X.hb dL_law_363 (by decide) ?_
  refine lv_iadd X.hx X.hb dL_law_364 ?_
  refine lv_topi (fun x977 hx977 => ?_)
  obtain rfl : x977 = nI (n + 4) := hx977.trans (nI_add n 4)
  refine va_sld X.hx X.hb hXs hbl hbA hS (vp_in_nI (by omega) (by omega)) dL_law_365 ?_
  refine lv_topi (fun x978 hx978 => ?_)
  obtain rfl : x978 = xs (n + 4) := hx978.trans (by rw [nI_clamp (by omega)])
  refine lv_aload_n X.hx X.hb dL_law_366 rfl (lv_at hl 3 rfl) ?_
  refine gxWS X hl.1 hR hS 6 [.ref x, .int (xs (n + 1)), .int (xs (n + 2)), .int (xs (n + 3)), .int (xs (n + 4)), .ref o] [] (w_change l Γ G hst hW hX hC ho) q464 q465 q35 q466 rfl rfl ⟨by decide +kernel, by decide +kernel, by decide +kernel⟩ ⟨by (try dsimp only [RM]); omega, by (try dsimp only [RM]); omega⟩ rfl rfl (Nat.le_of_ble_eq_true rfl) dL_law_367 ⟨by (try dsimp only [RM]); omega, by (try dsimp only [RM]); omega⟩ (fun E984 ce q9 G9 H locs hq9 hR9 hS9 hce hcv hcl => ?_) (fun v982 G983 H locs hq979 hR980 hS981 => ?_)
  · exact hq9.elim
  · obtain ⟨hcr, hgo⟩ := hq979
    rcases hcr with ⟨hk0, rfl, ⟨A1, hX1⟩, fL1, ho1, hfL⟩ | ⟨hk0, rfl, ⟨A1, hX1⟩, fL1, ho1⟩
    · have hM1 : MP Γ G983 u σ th B := hM.keep hgo (fun t ht => TXo_m ht)
      have hC1 := hC.keep hgo (fun t ht => TXo_50 ht)
      have hm1 := hM1.1
      refine lv_istore (lv' := [(5, .int 0), (0, .ref b), (1, .ref x), (2, .ref u), (3, .ref o), (4, .int (nI n))]) X.hx X.hb dL_law_370 hl (by decide) rfl (fun ls hl => ?_)
      refine lv_aload_n X.hx X.hb dL_law_372 rfl (lv_at hl 3 rfl) ?_
      refine lv_aload_n X.hx X.hb dL_law_373 rfl (lv_at hl 1 rfl) ?_
      refine lv_iload X.hx X.hb dL_law_374 (lv_at hl 5 rfl) ?_
      refine lv_iconst (v := 1) X.hx X.hb dL_law_376 (by decide) ?_
      refine lv_iadd X.hx X.hb dL_law_377 ?_
      refine lv_topi (fun x985 hx985 => ?_)
      obtain rfl : x985 = nI (n + 1) := hx985.trans (nI_add n 1)
      refine va_sld X.hx X.hb hXs hbl hbA hS981 (vp_in_nI (by omega) (by omega)) dL_law_378 ?_
      refine lv_topi (fun x986 hx986 => ?_)
      obtain rfl : x986 = xs (n + 1) := hx986.trans (by rw [nI_clamp (by omega)])
      refine lv_aload_n X.hx X.hb dL_law_379 rfl (lv_at hl 1 rfl) ?_
      refine lv_iload X.hx X.hb dL_law_380 (lv_at hl 5 rfl) ?_
      refine lv_iconst (v := 2) X.hx X.hb dL_law_382 (by decide) ?_
      refine lv_iadd X.hx X.hb dL_law_383 ?_
      refine lv_topi (fun x987 hx987 => ?_)
      obtain rfl : x987 = nI (n + 2) := hx987.trans (nI_add n 2)
      refine va_sld X.hx X.hb hXs hbl hbA hS981 (vp_in_nI (by omega) (by omega)) dL_law_384 ?_
      refine lv_topi (fun x988 hx988 => ?_)
      obtain rfl : x988 = xs (n + 2) := hx988.trans (by rw [nI_clamp (by omega)])
      refine lv_aload_n X.hx X.hb dL_law_385 rfl (lv_at hl 1 rfl) ?_
      refine lv_iload X.hx X.hb dL_law_386 (lv_at hl 5 rfl) ?_
      refine lv_iconst (v := 3) X.hx X.hb dL_law_388 (by decide) ?_
      refine lv_iadd X.hx X.hb dL_law_389 ?_
      refine lv_topi (fun x989 hx989 => ?_)
      obtain rfl : x989 = nI (n + 3) := hx989.trans (nI_add n 3)
      refine va_sld X.hx X.hb hXs hbl hbA hS981 (vp_in_nI (by omega) (by omega)) dL_law_390 ?_
      refine lv_topi (fun x990 hx990 => ?_)
      obtain rfl : x990 = xs (n + 3) := hx990.trans (by rw [nI_clamp (by omega)])
      refine lv_aload_n X.hx X.hb dL_law_391 rfl (lv_at hl 1 rfl) ?_
      refine lv_iload X.hx X.hb dL_law_392 (lv_at hl 5 rfl) ?_
      refine lv_iconst (v := 4) X.hx X.hb dL_law_394 (by decide) ?_
      refine lv_iadd X.hx X.hb dL_law_395 ?_
      refine lv_topi (fun x991 hx991 => ?_)
      obtain rfl : x991 = nI (n + 4) := hx991.trans (nI_add n 4)
      refine va_sld X.hx X.hb hXs hbl hbA hS981 (vp_in_nI (by omega) (by omega)) dL_law_396 ?_
      refine lv_topi (fun x992 hx992 => ?_)
      obtain rfl : x992 = xs (n + 4) := hx992.trans (by rw [nI_clamp (by omega)])
      refine gcV X hl.1 hR980 hS981 4 [.int (xs (n + 1)), .int (xs (n + 2)), .int (xs (n + 3)), .int (xs (n + 4))] [] (m_change l Γ G983 hW hM1) hm1 rfl q1389 q1390 q1391 q40 q1392 rfl rfl ⟨rfl, by decide +kernel, by decide +kernel, by decide +kernel⟩ ⟨by (try dsimp only [RM]); omega, by (try dsimp only [RM]); omega⟩ rfl rfl (Nat.le_of_ble_eq_true rfl) dL_law_397 ⟨by (try dsimp only [RM]); omega, by (try dsimp only [RM]); omega⟩ (fun v996 G997 H locs hq993 hR994 hS995 => ?_)
      obtain ⟨hmr, hgm⟩ := hq993
      rcases hmr with ⟨hj0, rfl, hM2⟩ | ⟨hj0, ⟨w9, rfl⟩, hM2⟩
      · have hX2 := hX1.tm hgm
        have hC2 := hC1.keep hgm (fun t ht => Nat.lt_trans ht.2 (by decide))
        have ho2 := hgm _ _ ho1 (fun h9 => absurd h9.2 (by show ¬ 40 < 40; decide))
        have hm2 := hM2.1
        refine lv_istore (lv' := [(6, .int (nI (σ.1 2))), (5, .int 0), (0, .ref b), (1, .ref x), (2, .ref u), (3, .ref o), (4, .int (nI n))]) X.hx X.hb dL_law_400 hl (by decide) rfl (fun ls hl => ?_)
        refine lv_aload_n X.hx X.hb dL_law_402 rfl (lv_at hl 4 rfl) ?_
        refine gcV X hl.1 hR994 hS995 0 [] [] (m_thrown9 l Γ G997 hM2) hm2 rfl q1360 q1361 q1362 q40 q1363 rfl rfl ⟨rfl, by decide +kernel, by decide +kernel, by decide +kernel⟩ ⟨by (try dsimp only [RM]); omega, by (try dsimp only [RM]); omega⟩ rfl rfl (Nat.le_of_ble_eq_true rfl) dL_law_403 ⟨by (try dsimp only [RM]); omega, by (try dsimp only [RM]); omega⟩ (fun v1001 G1002 H locs hq998 hR999 hS1000 => ?_)
        obtain ⟨rfl, rfl⟩ := hq998
        refine lv_iload X.hx X.hb dL_law_406 (lv_at hl 1 rfl) ?_
        refine lv_icmp_eq (tgt := 413) X.hx X.hb dL_law_408 (by decide) (fun c408 => ?_) (fun c408 => ?_)
        · refine lv_iload X.hx X.hb dL_law_413 (lv_at hl 1 rfl) ?_
          refine lv_if_ne (tgt := 430) X.hx X.hb dL_law_415 (by decide) (fun c415 => ?_) (fun c415 => ?_)
          · exact absurd rfl c415
          · refine lv_aload_n X.hx X.hb dL_law_418 rfl (lv_at hl 5 rfl) ?_
            refine lv_iconst (v := 0) X.hx X.hb dL_law_419 (by decide) ?_
            refine g_lald (v := (nI (σ.1 2)).toInt64) X hR999 ho2 (vp_in_nI (n := 0) (by decide) (by decide)) hfL dL_law_420 ?_
            refine lv_iload X.hx X.hb dL_law_421 (lv_at hl 0 rfl) ?_
            refine lv_i2l X.hx X.hb dL_law_423 rfl ?_
            refine W.lcmp X.hx X.hb dL_law_424 ?_
            refine lv_if_eq (tgt := 430) X.hx X.hb dL_law_425 (by decide) (fun c425 => ?_) (fun c425 => ?_)
            · refine lv_goto (tgt := 1521) X.hx X.hb dL_law_430 (by decide) ?_
              exact kk _ _ _ _ _ (Or.inr ⟨hk0, rfl⟩) ⟨⟨_, hX2⟩, ⟨_, _, hM2⟩, hC2, _, ho2⟩ hR999 hS1000 (lv_sub hl [2, 3, 4, 5, 6] rfl)
            · exact absurd ((lg_cmp_eq _ _).mpr rfl) c425
        · exact absurd (by decide) c408
      · exact absurd hk0 hj0
    · have hM1 : MP Γ G983 u σ th B := hM.keep hgo (fun t ht => TXo_m ht)
      have hC1 := hC.keep hgo (fun t ht => TXo_50 ht)
      have hm1 := hM1.1
      refine lv_istore (lv' := [(5, .int (kT σ (xs (n + 1)) (xs (n + 2)) (xs (n + 3)) 0 20 (xs (n + 4)))), (0, .ref b), (1, .ref x), (2, .ref u), (3, .ref o), (4, .int (nI n))]) X.hx X.hb dL_law_370 hl (by decide) rfl (fun ls hl => ?_)
      refine lv_aload_n X.hx X.hb dL_law_372 rfl (lv_at hl 3 rfl) ?_
      refine lv_aload_n X.hx X.hb dL_law_373 rfl (lv_at hl 1 rfl) ?_
      refine lv_iload X.hx X.hb dL_law_374 (lv_at hl 5 rfl) ?_
      refine lv_iconst (v := 1) X.hx X.hb dL_law_376 (by decide) ?_
      refine lv_iadd X.hx X.hb dL_law_377 ?_
      refine lv_topi (fun x1003 hx1003 => ?_)
      obtain rfl : x1003 = nI (n + 1) := hx1003.trans (nI_add n 1)
      refine va_sld X.hx X.hb hXs hbl hbA hS981 (vp_in_nI (by omega) (by omega)) dL_law_378 ?_
      refine lv_topi (fun x1004 hx1004 => ?_)
      obtain rfl : x1004 = xs (n + 1) := hx1004.trans (by rw [nI_clamp (by omega)])
      refine lv_aload_n X.hx X.hb dL_law_379 rfl (lv_at hl 1 rfl) ?_
      refine lv_iload X.hx X.hb dL_law_380 (lv_at hl 5 rfl) ?_
      refine lv_iconst (v := 2) X.hx X.hb dL_law_382 (by decide) ?_
      refine lv_iadd X.hx X.hb dL_law_383 ?_
      refine lv_topi (fun x1005 hx1005 => ?_)
      obtain rfl : x1005 = nI (n + 2) := hx1005.trans (nI_add n 2)
      refine va_sld X.hx X.hb hXs hbl hbA hS981 (vp_in_nI (by omega) (by omega)) dL_law_384 ?_
      refine lv_topi (fun x1006 hx1006 => ?_)
      obtain rfl : x1006 = xs (n + 2) := hx1006.trans (by rw [nI_clamp (by omega)])
      refine lv_aload_n X.hx X.hb dL_law_385 rfl (lv_at hl 1 rfl) ?_
      refine lv_iload X.hx X.hb dL_law_386 (lv_at hl 5 rfl) ?_
      refine lv_iconst (v := 3) X.hx X.hb dL_law_388 (by decide) ?_
      refine lv_iadd X.hx X.hb dL_law_389 ?_
      refine lv_topi (fun x1007 hx1007 => ?_)
      obtain rfl : x1007 = nI (n + 3) := hx1007.trans (nI_add n 3)
      refine va_sld X.hx X.hb hXs hbl hbA hS981 (vp_in_nI (by omega) (by omega)) dL_law_390 ?_
      refine lv_topi (fun x1008 hx1008 => ?_)
      obtain rfl : x1008 = xs (n + 3) := hx1008.trans (by rw [nI_clamp (by omega)])
      refine lv_aload_n X.hx X.hb dL_law_391 rfl (lv_at hl 1 rfl) ?_
      refine lv_iload X.hx X.hb dL_law_392 (lv_at hl 5 rfl) ?_
      refine lv_iconst (v := 4) X.hx X.hb dL_law_394 (by decide) ?_
      refine lv_iadd X.hx X.hb dL_law_395 ?_
      refine lv_topi (fun x1009 hx1009 => ?_)
      obtain rfl : x1009 = nI (n + 4) := hx1009.trans (nI_add n 4)
      refine va_sld X.hx X.hb hXs hbl hbA hS981 (vp_in_nI (by omega) (by omega)) dL_law_396 ?_
      refine lv_topi (fun x1010 hx1010 => ?_)
      obtain rfl : x1010 = xs (n + 4) := hx1010.trans (by rw [nI_clamp (by omega)])
      refine gcV X hl.1 hR980 hS981 4 [.int (xs (n + 1)), .int (xs (n + 2)), .int (xs (n + 3)), .int (xs (n + 4))] [] (m_change l Γ G983 hW hM1) hm1 rfl q1389 q1390 q1391 q40 q1392 rfl rfl ⟨rfl, by decide +kernel, by decide +kernel, by decide +kernel⟩ ⟨by (try dsimp only [RM]); omega, by (try dsimp only [RM]); omega⟩ rfl rfl (Nat.le_of_ble_eq_true rfl) dL_law_397 ⟨by (try dsimp only [RM]); omega, by (try dsimp only [RM]); omega⟩ (fun v1014 G1015 H locs hq1011 hR1012 hS1013 => ?_)
      obtain ⟨hmr, hgm⟩ := hq1011
      rcases hmr with ⟨hj0, rfl, hM2⟩ | ⟨hj0, ⟨w9, rfl⟩, hM2⟩
      · exact absurd hj0 hk0
      · have hX2 := hX1.tm hgm
        have hC2 := hC1.keep hgm (fun t ht => Nat.lt_trans ht.2 (by decide))
        have ho2 := hgm _ _ ho1 (fun h9 => absurd h9.2 (by show ¬ 40 < 40; decide))
        have hm2 := hM2.1
        refine lv_istore (lv' := [(6, .int w9), (5, .int (kT σ (xs (n + 1)) (xs (n + 2)) (xs (n + 3)) 0 20 (xs (n + 4)))), (0, .ref b), (1, .ref x), (2, .ref u), (3, .ref o), (4, .int (nI n))]) X.hx X.hb dL_law_400 hl (by decide) rfl (fun ls hl => ?_)
        refine lv_aload_n X.hx X.hb dL_law_402 rfl (lv_at hl 4 rfl) ?_
        refine gcV X hl.1 hR1012 hS1013 0 [] [] (m_thrown9 l Γ G1015 hM2) hm2 rfl q1360 q1361 q1362 q40 q1363 rfl rfl ⟨rfl, by decide +kernel, by decide +kernel, by decide +kernel⟩ ⟨by (try dsimp only [RM]); omega, by (try dsimp only [RM]); omega⟩ rfl rfl (Nat.le_of_ble_eq_true rfl) dL_law_403 ⟨by (try dsimp only [RM]); omega, by (try dsimp only [RM]); omega⟩ (fun v1019 G1020 H locs hq1016 hR1017 hS1018 => ?_)
        obtain ⟨rfl, rfl⟩ := hq1016
        refine lv_iload X.hx X.hb dL_law_406 (lv_at hl 1 rfl) ?_
        refine lv_icmp_eq (tgt := 413) X.hx X.hb dL_law_408 (by decide) (fun c408 => ?_) (fun c408 => ?_)
        · refine lv_iload X.hx X.hb dL_law_413 (lv_at hl 1 rfl) ?_
          refine lv_if_ne (tgt := 430) X.hx X.hb dL_law_415 (by decide) (fun c415 => ?_) (fun c415 => ?_)
          · refine lv_goto (tgt := 1521) X.hx X.hb dL_law_430 (by decide) ?_
            exact kk _ _ _ _ _ (Or.inl rfl) ⟨⟨_, hX2⟩, ⟨_, _, hM2⟩, hC2, _, ho2⟩ hR1017 hS1018 (lv_sub hl [2, 3, 4, 5, 6] rfl)
          · exact absurd c415 hk0
        · exact absurd rfl c408

set_option maxHeartbeats 4000000 in
theorem l_add (X : Cx pp ss mm args cc0 Γ code 7 RX0) (hst : l.stackTraces = false) {b L n : Nat} {xs : Nat → Int32} (hXs : va_X b L xs ss ss.heap) (hbl : b < ss.heap.size) (hbA : ¬ gA Γ b) (hn : n + 5 ≤ L) (hL : L ≤ 320) (hRf : 100 ≤ R.frames) (hRl : 20000 ≤ R.locals) (hRc : cells + 4000 ≤ R.cells) (hRs : slots + 12000 ≤ R.slots) {x u o : Nat} {σ : MS} (hW : WF σ) (hz : σ.2 1 (σ.1 0) = 0) (hI : LSt Γ G x u o σ) (hR : Rep Γ G H) (hS : va_S (gA Γ) ss.heap H locs) (hl : lv_has ls 7 [(0, .ref b), (1, .ref x), (2, .ref u), (3, .ref o), (4, .int (nI n))])
    (kk : ∀ (τ1 : MS) (G1 : GH) (H1 : Heap) (locs1 : List Loc) (ls1 : Array Slot), (τ1 = σ ∨ (kT σ (xs (n + 1)) (xs (n + 2)) (xs (n + 3)) (-20) 20 (xs (n + 4)) = 0 ∧ τ1 = tauT σ (xs (n + 1)) 1 (xs (n + 2)) (xs (n + 3)) (xs (n + 4)))) → LSt Γ G1 x u o τ1 → Rep Γ G1 H1 → va_S (gA Γ) ss.heap H1 locs1 → lv_has ls1 7 [(0, .ref b), (1, .ref x), (2, .ref u), (3, .ref o), (4, .int (nI n))] → W pp l ee R ss mm args below meth cc0 H1 locs1 (cells + 4000) (slots + 12000) Q (F0 mm 1521 ls1 [])) :
    W pp l ee R ss mm args below meth cc0 H locs cells slots Q (F0 mm 433 ls []) := by
  obtain ⟨⟨A, hX⟩, ⟨B, th, hM⟩, hC, fL, ho⟩ := hI
  obtain ⟨⟨rf, hx, -⟩, -⟩ := id hX
  have hm := hM.1
  refine lv_aload_n X.hx X.hb dL_law_433 rfl (lv_at hl 1 rfl) ?_
  refine lv_aload_n X.hx X.hb dL_law_434 rfl (lv_at hl 0 rfl) ?_
  refine lv_iload X.hx X.hb dL_law_435 (lv_at hl 4 rfl) ?_
  refine lv_iconst (v := 1) X.hx X.hb dL_law_437 (by decide) ?_
  refine lv_iadd X.hx X.hb dL_law_438 ?_
  refine lv_topi (fun x1021 hx1021 => ?_)
  obtain rfl : x1021 = nI (n + 1) := hx1021.trans (nI_add n 1)
  refine va_sld X.hx X.hb hXs hbl hbA hS (vp_in_nI (by omega) (by omega)) dL_law_439 ?_
  refine lv_topi (fun x1022 hx1022 => ?_)
  obtain rfl : x1022 = xs (n + 1) := hx1022.trans (by rw [nI_clamp (by omega)])
  refine lv_aload_n X.hx X.hb dL_law_440 rfl (lv_at hl 0 rfl) ?_
  refine lv_iload X.hx X.hb dL_law_441 (lv_at hl 4 rfl) ?_
  refine lv_iconst (v := 2) X.hx X.hb dL_law_443 (by decide) ?_
  refine lv_iadd X.hx X.hb dL_law_444 ?_
  refine lv_topi (fun x1023 hx1023 => ?_)
  obtain rfl : x1023 = nI (n + 2) := hx1023.trans (nI_add n 2)
  refine va_sld X.hx X.hb hXs hbl hbA hS (vp_in_nI (by omega) (by omega)) dL_law_445 ?_
  refine lv_topi (fun x1024 hx1024 => ?_)
  obtain rfl : x1024 = xs (n + 2) := hx1024.trans (by rw [nI_clamp (by omega)])
  refine lv_aload_n X.hx X.hb dL_law_446 rfl (lv_at hl 0 rfl) ?_
  refine lv_iload X.hx X.hb dL_law_447 (lv_at hl 4 rfl) ?_
  refine lv_iconst (v := 3) X.hx X.hb dL_law_449 (by decide) ?_
  refine lv_iadd X.hx X.hb dL_law_450 ?_
  refine lv_topi (fun x1025 hx1025 => ?_)
  obtain rfl : x1025 = nI (n + 3) := hx1025.trans (nI_add n 3)
  refine va_sld X.hx X.hb hXs hbl hbA hS (vp_in_nI (by omega) (by omega)) dL_law_451 ?_
  refine lv_topi (fun x1026 hx1026 => ?_)
  obtain rfl : x1026 = xs (n + 3) := hx1026.trans (by rw [nI_clamp (by omega)])
  refine lv_aload_n X.hx X.hb dL_law_452 rfl (lv_at hl 0 rfl) ?_
  refine lv_iload X.hx X.hb dL_law_453 (lv_at hl 4 rfl) ?_
  refine lv_iconst (v := 4) X.hx X.hb dL_law_455 (by decide) ?_
  refine lv_iadd X.hx X.hb dL_law_456 ?_
  refine lv_topi (fun x1027 hx1027 => ?_)
  obtain rfl : x1027 = nI (n + 4) := hx1027.trans (nI_add n 4)
  refine va_sld X.hx X.hb hXs hbl hbA hS (vp_in_nI (by omega) (by omega)) dL_law_457 ?_
  refine lv_topi (fun x1028 hx1028 => ?_)
  obtain rfl : x1028 = xs (n + 4) := hx1028.trans (by rw [nI_clamp (by omega)])
  refine lv_aload_n X.hx X.hb dL_law_458 rfl (lv_at hl 3 rfl) ?_
  refine gxWS X hl.1 hR hS 6 [.ref x, .int (xs (n + 1)), .int (xs (n + 2)), .int (xs (n + 3)), .int (xs (n + 4)), .ref o] [] (w_add l Γ G hst hW hX hC ho) q673 q674 q35 q675 rfl rfl ⟨by decide +kernel, by decide +kernel, by decide +kernel⟩ ⟨by (try dsimp only [RM]); omega, by (try dsimp only [RM]); omega⟩ rfl rfl (Nat.le_of_ble_eq_true rfl) dL_law_459 ⟨by (try dsimp only [RM]); omega, by (try dsimp only [RM]); omega⟩ (fun E1034 ce q9 G9 H locs hq9 hR9 hS9 hce hcv hcl => ?_) (fun v1032 G1033 H locs hq1029 hR1030 hS1031 => ?_)
  · exact hq9.elim
  · obtain ⟨hcr, hgo⟩ := hq1029
    rcases hcr with ⟨hk0, rfl, ⟨A1, hX1⟩, fL1, ho1, hfL⟩ | ⟨hk0, rfl, ⟨A1, hX1⟩, fL1, ho1⟩
    · have hM1 : MP Γ G1033 u σ th B := hM.keep hgo (fun t ht => TXo_m ht)
      have hC1 := hC.keep hgo (fun t ht => TXo_50 ht)
      have hm1 := hM1.1
      refine lv_istore (lv' := [(5, .int 0), (0, .ref b), (1, .ref x), (2, .ref u), (3, .ref o), (4, .int (nI n))]) X.hx X.hb dL_law_462 hl (by decide) rfl (fun ls hl => ?_)
      refine lv_aload_n X.hx X.hb dL_law_464 rfl (lv_at hl 3 rfl) ?_
      refine lv_aload_n X.hx X.hb dL_law_465 rfl (lv_at hl 1 rfl) ?_
      refine lv_iload X.hx X.hb dL_law_466 (lv_at hl 5 rfl) ?_
      refine lv_iconst (v := 1) X.hx X.hb dL_law_468 (by decide) ?_
      refine lv_iadd X.hx X.hb dL_law_469 ?_
      refine lv_topi (fun x1035 hx1035 => ?_)
      obtain rfl : x1035 = nI (n + 1) := hx1035.trans (nI_add n 1)
      refine va_sld X.hx X.hb hXs hbl hbA hS1031 (vp_in_nI (by omega) (by omega)) dL_law_470 ?_
      refine lv_topi (fun x1036 hx1036 => ?_)
      obtain rfl : x1036 = xs (n + 1) := hx1036.trans (by rw [nI_clamp (by omega)])
      refine lv_aload_n X.hx X.hb dL_law_471 rfl (lv_at hl 1 rfl) ?_
      refine lv_iload X.hx X.hb dL_law_472 (lv_at hl 5 rfl) ?_
      refine lv_iconst (v := 2) X.hx X.hb dL_law_474 (by decide) ?_
      refine lv_iadd X.hx X.hb dL_law_475 ?_
      refine lv_topi (fun x1037 hx1037 => ?_)
      obtain rfl : x1037 = nI (n + 2) := hx1037.trans (nI_add n 2)
      refine va_sld X.hx X.hb hXs hbl hbA hS1031 (vp_in_nI (by omega) (by omega)) dL_law_476 ?_
      refine lv_topi (fun x1038 hx1038 => ?_)
      obtain rfl : x1038 = xs (n + 2) := hx1038.trans (by rw [nI_clamp (by omega)])
      refine lv_aload_n X.hx X.hb dL_law_477 rfl (lv_at hl 1 rfl) ?_
      refine lv_iload X.hx X.hb dL_law_478 (lv_at hl 5 rfl) ?_
      refine lv_iconst (v := 3) X.hx X.hb dL_law_480 (by decide) ?_
      refine lv_iadd X.hx X.hb dL_law_481 ?_
      refine lv_topi (fun x1039 hx1039 => ?_)
      obtain rfl : x1039 = nI (n + 3) := hx1039.trans (nI_add n 3)
      refine va_sld X.hx X.hb hXs hbl hbA hS1031 (vp_in_nI (by omega) (by omega)) dL_law_482 ?_
      refine lv_topi (fun x1040 hx1040 => ?_)
      obtain rfl : x1040 = xs (n + 3) := hx1040.trans (by rw [nI_clamp (by omega)])
      refine lv_aload_n X.hx X.hb dL_law_483 rfl (lv_at hl 1 rfl) ?_
      refine lv_iload X.hx X.hb dL_law_484 (lv_at hl 5 rfl) ?_
      refine lv_iconst (v := 4) X.hx X.hb dL_law_486 (by decide) ?_
      refine lv_iadd X.hx X.hb dL_law_487 ?_
      refine lv_topi (fun x1041 hx1041 => ?_)
      obtain rfl : x1041 = nI (n + 4) := hx1041.trans (nI_add n 4)
      refine va_sld X.hx X.hb hXs hbl hbA hS1031 (vp_in_nI (by omega) (by omega)) dL_law_488 ?_
      refine lv_topi (fun x1042 hx1042 => ?_)
      obtain rfl : x1042 = xs (n + 4) := hx1042.trans (by rw [nI_clamp (by omega)])
      refine gcV X hl.1 hR1030 hS1031 4 [.int (xs (n + 1)), .int (xs (n + 2)), .int (xs (n + 3)), .int (xs (n + 4))] [] (m_add l Γ G1033 hW hM1) hm1 rfl q1401 q1402 q1403 q40 q1404 rfl rfl ⟨rfl, by decide +kernel, by decide +kernel, by decide +kernel⟩ ⟨by (try dsimp only [RM]); omega, by (try dsimp only [RM]); omega⟩ rfl rfl (Nat.le_of_ble_eq_true rfl) dL_law_489 ⟨by (try dsimp only [RM]); omega, by (try dsimp only [RM]); omega⟩ (fun v1046 G1047 H locs hq1043 hR1044 hS1045 => ?_)
      obtain ⟨hmr, hgm⟩ := hq1043
      rcases hmr with ⟨hj0, rfl, hM2⟩ | ⟨hj0, ⟨w9, rfl⟩, hM2⟩
      · have hX2 := hX1.tm hgm
        have hC2 := hC1.keep hgm (fun t ht => Nat.lt_trans ht.2 (by decide))
        have ho2 := hgm _ _ ho1 (fun h9 => absurd h9.2 (by show ¬ 40 < 40; decide))
        have hm2 := hM2.1
        refine lv_istore (lv' := [(6, .int (nI (σ.1 2))), (5, .int 0), (0, .ref b), (1, .ref x), (2, .ref u), (3, .ref o), (4, .int (nI n))]) X.hx X.hb dL_law_492 hl (by decide) rfl (fun ls hl => ?_)
        refine lv_aload_n X.hx X.hb dL_law_494 rfl (lv_at hl 4 rfl) ?_
        refine gcV X hl.1 hR1044 hS1045 0 [] [] (m_thrown9 l Γ G1047 hM2) hm2 rfl q1360 q1361 q1362 q40 q1363 rfl rfl ⟨rfl, by decide +kernel, by decide +kernel, by decide +kernel⟩ ⟨by (try dsimp only [RM]); omega, by (try dsimp only [RM]); omega⟩ rfl rfl (Nat.le_of_ble_eq_true rfl) dL_law_495 ⟨by (try dsimp only [RM]); omega, by (try dsimp only [RM]); omega⟩ (fun v1051 G1052 H locs hq1048 hR1049 hS1050 => ?_)
        obtain ⟨rfl, rfl⟩ := hq1048
        refine lv_iload X.hx X.hb dL_law_498 (lv_at hl 1 rfl) ?_
        refine lv_icmp_eq (tgt := 505) X.hx X.hb dL_law_500 (by decide) (fun c500 => ?_) (fun c500 => ?_)
        · refine lv_iload X.hx X.hb dL_law_505 (lv_at hl 1 rfl) ?_
          refine lv_if_ne (tgt := 522) X.hx X.hb dL_law_507 (by decide) (fun c507 => ?_) (fun c507 => ?_)
          · exact absurd rfl c507
          · refine lv_aload_n X.hx X.hb dL_law_510 rfl (lv_at hl 5 rfl) ?_
            refine lv_iconst (v := 0) X.hx X.hb dL_law_511 (by decide) ?_
            refine g_lald (v := (nI (σ.1 2)).toInt64) X hR1049 ho2 (vp_in_nI (n := 0) (by decide) (by decide)) hfL dL_law_512 ?_
            refine lv_iload X.hx X.hb dL_law_513 (lv_at hl 0 rfl) ?_
            refine lv_i2l X.hx X.hb dL_law_515 rfl ?_
            refine W.lcmp X.hx X.hb dL_law_516 ?_
            refine lv_if_eq (tgt := 522) X.hx X.hb dL_law_517 (by decide) (fun c517 => ?_) (fun c517 => ?_)
            · refine lv_goto (tgt := 1521) X.hx X.hb dL_law_522 (by decide) ?_
              exact kk _ _ _ _ _ (Or.inr ⟨hk0, rfl⟩) ⟨⟨_, hX2⟩, ⟨_, _, hM2⟩, hC2, _, ho2⟩ hR1049 hS1050 (lv_sub hl [2, 3, 4, 5, 6] rfl)
            · exact absurd ((lg_cmp_eq _ _).mpr rfl) c517
        · exact absurd (by decide) c500
      · exact absurd hk0 hj0
    · have hM1 : MP Γ G1033 u σ th B := hM.keep hgo (fun t ht => TXo_m ht)
      have hC1 := hC.keep hgo (fun t ht => TXo_50 ht)
      have hm1 := hM1.1
      refine lv_istore (lv' := [(5, .int (kT σ (xs (n + 1)) (xs (n + 2)) (xs (n + 3)) (-20) 20 (xs (n + 4)))), (0, .ref b), (1, .ref x), (2, .ref u), (3, .ref o), (4, .int (nI n))]) X.hx X.hb dL_law_462 hl (by decide) rfl (fun ls hl => ?_)
      refine lv_aload_n X.hx X.hb dL_law_464 rfl (lv_at hl 3 rfl) ?_
      refine lv_aload_n X.hx X.hb dL_law_465 rfl (lv_at hl 1 rfl) ?_
      refine lv_iload X.hx X.hb dL_law_466 (lv_at hl 5 rfl) ?_
      refine lv_iconst (v := 1) X.hx X.hb dL_law_468 (by decide) ?_
      refine lv_iadd X.hx X.hb dL_law_469 ?_
      refine lv_topi (fun x1053 hx1053 => ?_)
      obtain rfl : x1053 = nI (n + 1) := hx1053.trans (nI_add n 1)
      refine va_sld X.hx X.hb hXs hbl hbA hS1031 (vp_in_nI (by omega) (by omega)) dL_law_470 ?_
      refine lv_topi (fun x1054 hx1054 => ?_)
      obtain rfl : x1054 = xs (n + 1) := hx1054.trans (by rw [nI_clamp (by omega)])
      refine lv_aload_n X.hx X.hb dL_law_471 rfl (lv_at hl 1 rfl) ?_
      refine lv_iload X.hx X.hb dL_law_472 (lv_at hl 5 rfl) ?_
      refine lv_iconst (v := 2) X.hx X.hb dL_law_474 (by decide) ?_
      refine lv_iadd X.hx X.hb dL_law_475 ?_
      refine lv_topi (fun x1055 hx1055 => ?_)
      obtain rfl : x1055 = nI (n + 2) := hx1055.trans (nI_add n 2)
      refine va_sld X.hx X.hb hXs hbl hbA hS1031 (vp_in_nI (by omega) (by omega)) dL_law_476 ?_
      refine lv_topi (fun x1056 hx1056 => ?_)
      obtain rfl : x1056 = xs (n + 2) := hx1056.trans (by rw [nI_clamp (by omega)])
      refine lv_aload_n X.hx X.hb dL_law_477 rfl (lv_at hl 1 rfl) ?_
      refine lv_iload X.hx X.hb dL_law_478 (lv_at hl 5 rfl) ?_
      refine lv_iconst (v := 3) X.hx X.hb dL_law_480 (by decide) ?_
      refine lv_iadd X.hx X.hb dL_law_481 ?_
      refine lv_topi (fun x1057 hx1057 => ?_)
      obtain rfl : x1057 = nI (n + 3) := hx1057.trans (nI_add n 3)
      refine va_sld X.hx X.hb hXs hbl hbA hS1031 (vp_in_nI (by omega) (by omega)) dL_law_482 ?_
      refine lv_topi (fun x1058 hx1058 => ?_)
      obtain rfl : x1058 = xs (n + 3) := hx1058.trans (by rw [nI_clamp (by omega)])
      refine lv_aload_n X.hx X.hb dL_law_483 rfl (lv_at hl 1 rfl) ?_
      refine lv_iload X.hx X.hb dL_law_484 (lv_at hl 5 rfl) ?_
      refine lv_iconst (v := 4) X.hx X.hb dL_law_486 (by decide) ?_
      refine lv_iadd X.hx X.hb dL_law_487 ?_
      refine lv_topi (fun x1059 hx1059 => ?_)
      obtain rfl : x1059 = nI (n + 4) := hx1059.trans (nI_add n 4)
      refine va_sld X.hx X.hb hXs hbl hbA hS1031 (vp_in_nI (by omega) (by omega)) dL_law_488 ?_
      refine lv_topi (fun x1060 hx1060 => ?_)
      obtain rfl : x1060 = xs (n + 4) := hx1060.trans (by rw [nI_clamp (by omega)])
      refine gcV X hl.1 hR1030 hS1031 4 [.int (xs (n + 1)), .int (xs (n + 2)), .int (xs (n + 3)), .int (xs (n + 4))] [] (m_add l Γ G1033 hW hM1) hm1 rfl q1401 q1402 q1403 q40 q1404 rfl rfl ⟨rfl, by decide +kernel, by decide +kernel, by decide +kernel⟩ ⟨by (try dsimp only [RM]); omega, by (try dsimp only [RM]); omega⟩ rfl rfl (Nat.le_of_ble_eq_true rfl) dL_law_489 ⟨by (try dsimp only [RM]); omega, by (try dsimp only [RM]); omega⟩ (fun v1064 G1065 H locs hq1061 hR1062 hS1063 => ?_)
      obtain ⟨hmr, hgm⟩ := hq1061
      rcases hmr with ⟨hj0, rfl, hM2⟩ | ⟨hj0, ⟨w9, rfl⟩, hM2⟩
      · exact absurd hj0 hk0
      · have hX2 := hX1.tm hgm
        have hC2 := hC1.keep hgm (fun t ht => Nat.lt_trans ht.2 (by decide))
        have ho2 := hgm _ _ ho1 (fun h9 => absurd h9.2 (by show ¬ 40 < 40; decide))
        have hm2 := hM2.1
        refine lv_istore (lv' := [(6, .int w9), (5, .int (kT σ (xs (n + 1)) (xs (n + 2)) (xs (n + 3)) (-20) 20 (xs (n + 4)))), (0, .ref b), (1, .ref x), (2, .ref u), (3, .ref o), (4, .int (nI n))]) X.hx X.hb dL_law_492 hl (by decide) rfl (fun ls hl => ?_)
        refine lv_aload_n X.hx X.hb dL_law_494 rfl (lv_at hl 4 rfl) ?_
        refine gcV X hl.1 hR1062 hS1063 0 [] [] (m_thrown9 l Γ G1065 hM2) hm2 rfl q1360 q1361 q1362 q40 q1363 rfl rfl ⟨rfl, by decide +kernel, by decide +kernel, by decide +kernel⟩ ⟨by (try dsimp only [RM]); omega, by (try dsimp only [RM]); omega⟩ rfl rfl (Nat.le_of_ble_eq_true rfl) dL_law_495 ⟨by (try dsimp only [RM]); omega, by (try dsimp only [RM]); omega⟩ (fun v1069 G1070 H locs hq1066 hR1067 hS1068 => ?_)
        obtain ⟨rfl, rfl⟩ := hq1066
        refine lv_iload X.hx X.hb dL_law_498 (lv_at hl 1 rfl) ?_
        refine lv_icmp_eq (tgt := 505) X.hx X.hb dL_law_500 (by decide) (fun c500 => ?_) (fun c500 => ?_)
        · refine lv_iload X.hx X.hb dL_law_505 (lv_at hl 1 rfl) ?_
          refine lv_if_ne (tgt := 522) X.hx X.hb dL_law_507 (by decide) (fun c507 => ?_) (fun c507 => ?_)
          · refine lv_goto (tgt := 1521) X.hx X.hb dL_law_522 (by decide) ?_
            exact kk _ _ _ _ _ (Or.inl rfl) ⟨⟨_, hX2⟩, ⟨_, _, hM2⟩, hC2, _, ho2⟩ hR1067 hS1068 (lv_sub hl [2, 3, 4, 5, 6] rfl)
          · exact absurd c507 hk0
        · exact absurd rfl c500

set_option maxHeartbeats 4000000 in
theorem l_cancel (X : Cx pp ss mm args cc0 Γ code 7 RX0) (hst : l.stackTraces = false) {b L n : Nat} {xs : Nat → Int32} (hXs : va_X b L xs ss ss.heap) (hbl : b < ss.heap.size) (hbA : ¬ gA Γ b) (hn : n + 5 ≤ L) (hL : L ≤ 320) (hRf : 100 ≤ R.frames) (hRl : 20000 ≤ R.locals) (hRc : cells + 4000 ≤ R.cells) (hRs : slots + 12000 ≤ R.slots) {x u o : Nat} {σ : MS} (hW : WF σ) (hz : σ.2 1 (σ.1 0) = 0) (hI : LSt Γ G x u o σ) (hR : Rep Γ G H) (hS : va_S (gA Γ) ss.heap H locs) (hl : lv_has ls 7 [(0, .ref b), (1, .ref x), (2, .ref u), (3, .ref o), (4, .int (nI n))])
    (kk : ∀ (τ1 : MS) (G1 : GH) (H1 : Heap) (locs1 : List Loc) (ls1 : Array Slot), (τ1 = σ ∨ (kT σ (xs (n + 1)) 0 (xs (n + 2)) 0 0 0 = 0 ∧ τ1 = tauT σ (xs (n + 1)) 2 0 (xs (n + 2)) 0)) → LSt Γ G1 x u o τ1 → Rep Γ G1 H1 → va_S (gA Γ) ss.heap H1 locs1 → lv_has ls1 7 [(0, .ref b), (1, .ref x), (2, .ref u), (3, .ref o), (4, .int (nI n))] → W pp l ee R ss mm args below meth cc0 H1 locs1 (cells + 4000) (slots + 12000) Q (F0 mm 1521 ls1 [])) :
    W pp l ee R ss mm args below meth cc0 H locs cells slots Q (F0 mm 525 ls []) := by
  obtain ⟨⟨A, hX⟩, ⟨B, th, hM⟩, hC, fL, ho⟩ := hI
  obtain ⟨⟨rf, hx, -⟩, -⟩ := id hX
  have hm := hM.1
  refine lv_aload_n X.hx X.hb dL_law_525 rfl (lv_at hl 1 rfl) ?_
  refine lv_aload_n X.hx X.hb dL_law_526 rfl (lv_at hl 0 rfl) ?_
  refine lv_iload X.hx X.hb dL_law_527 (lv_at hl 4 rfl) ?_
  refine lv_iconst (v := 1) X.hx X.hb dL_law_529 (by decide) ?_
  refine lv_iadd X.hx X.hb dL_law_530 ?_
  refine lv_topi (fun x1071 hx1071 => ?_)
  obtain rfl : x1071 = nI (n + 1) := hx1071.trans (nI_add n 1)
  refine va_sld X.hx X.hb hXs hbl hbA hS (vp_in_nI (by omega) (by omega)) dL_law_531 ?_
  refine lv_topi (fun x1072 hx1072 => ?_)
  obtain rfl : x1072 = xs (n + 1) := hx1072.trans (by rw [nI_clamp (by omega)])
  refine lv_aload_n X.hx X.hb dL_law_532 rfl (lv_at hl 0 rfl) ?_
  refine lv_iload X.hx X.hb dL_law_533 (lv_at hl 4 rfl) ?_
  refine lv_iconst (v := 2) X.hx X.hb dL_law_535 (by decide) ?_
  refine lv_iadd X.hx X.hb dL_law_536 ?_
  refine lv_topi (fun x1073 hx1073 => ?_)
  obtain rfl : x1073 = nI (n + 2) := hx1073.trans (nI_add n 2)
  refine va_sld X.hx X.hb hXs hbl hbA hS (vp_in_nI (by omega) (by omega)) dL_law_537 ?_
  refine lv_topi (fun x1074 hx1074 => ?_)
  obtain rfl : x1074 = xs (n + 2) := hx1074.trans (by rw [nI_clamp (by omega)])
  refine lv_aload_n X.hx X.hb dL_law_538 rfl (lv_at hl 3 rfl) ?_
  refine gxWS X hl.1 hR hS 4 [.ref x, .int (xs (n + 1)), .int (xs (n + 2)), .ref o] [] (w_cancel l Γ G hst hW hX hC ho) q684 q685 q35 q686 rfl rfl ⟨by decide +kernel, by decide +kernel, by decide +kernel⟩ ⟨by (try dsimp only [RM]); omega, by (try dsimp only [RM]); omega⟩ rfl rfl (Nat.le_of_ble_eq_true rfl) dL_law_539 ⟨by (try dsimp only [RM]); omega, by (try dsimp only [RM]); omega⟩ (fun E1080 ce q9 G9 H locs hq9 hR9 hS9 hce hcv hcl => ?_) (fun v1078 G1079 H locs hq1075 hR1076 hS1077 => ?_)
  · exact hq9.elim
  · obtain ⟨hcr, hgo⟩ := hq1075
    rcases hcr with ⟨hk0, rfl, ⟨A1, hX1⟩, fL1, ho1, hfL⟩ | ⟨hk0, rfl, ⟨A1, hX1⟩, fL1, ho1⟩
    · have hM1 : MP Γ G1079 u σ th B := hM.keep hgo (fun t ht => TXo_m ht)
      have hC1 := hC.keep hgo (fun t ht => TXo_50 ht)
      have hm1 := hM1.1
      refine lv_istore (lv' := [(5, .int 0), (0, .ref b), (1, .ref x), (2, .ref u), (3, .ref o), (4, .int (nI n))]) X.hx X.hb dL_law_542 hl (by decide) rfl (fun ls hl => ?_)
      refine lv_aload_n X.hx X.hb dL_law_544 rfl (lv_at hl 3 rfl) ?_
      refine lv_aload_n X.hx X.hb dL_law_545 rfl (lv_at hl 1 rfl) ?_
      refine lv_iload X.hx X.hb dL_law_546 (lv_at hl 5 rfl) ?_
      refine lv_iconst (v := 1) X.hx X.hb dL_law_548 (by decide) ?_
      refine lv_iadd X.hx X.hb dL_law_549 ?_
      refine lv_topi (fun x1081 hx1081 => ?_)
      obtain rfl : x1081 = nI (n + 1) := hx1081.trans (nI_add n 1)
      refine va_sld X.hx X.hb hXs hbl hbA hS1077 (vp_in_nI (by omega) (by omega)) dL_law_550 ?_
      refine lv_topi (fun x1082 hx1082 => ?_)
      obtain rfl : x1082 = xs (n + 1) := hx1082.trans (by rw [nI_clamp (by omega)])
      refine lv_aload_n X.hx X.hb dL_law_551 rfl (lv_at hl 1 rfl) ?_
      refine lv_iload X.hx X.hb dL_law_552 (lv_at hl 5 rfl) ?_
      refine lv_iconst (v := 2) X.hx X.hb dL_law_554 (by decide) ?_
      refine lv_iadd X.hx X.hb dL_law_555 ?_
      refine lv_topi (fun x1083 hx1083 => ?_)
      obtain rfl : x1083 = nI (n + 2) := hx1083.trans (nI_add n 2)
      refine va_sld X.hx X.hb hXs hbl hbA hS1077 (vp_in_nI (by omega) (by omega)) dL_law_556 ?_
      refine lv_topi (fun x1084 hx1084 => ?_)
      obtain rfl : x1084 = xs (n + 2) := hx1084.trans (by rw [nI_clamp (by omega)])
      refine gcV X hl.1 hR1076 hS1077 2 [.int (xs (n + 1)), .int (xs (n + 2))] [] (m_cancel l Γ G1079 hW hM1) hm1 rfl q1405 q1406 q1407 q40 q1408 rfl rfl ⟨rfl, by decide +kernel, by decide +kernel, by decide +kernel⟩ ⟨by (try dsimp only [RM]); omega, by (try dsimp only [RM]); omega⟩ rfl rfl (Nat.le_of_ble_eq_true rfl) dL_law_557 ⟨by (try dsimp only [RM]); omega, by (try dsimp only [RM]); omega⟩ (fun v1088 G1089 H locs hq1085 hR1086 hS1087 => ?_)
      obtain ⟨hmr, hgm⟩ := hq1085
      rcases hmr with ⟨hj0, rfl, hM2⟩ | ⟨hj0, ⟨w9, rfl⟩, hM2⟩
      · have hX2 := hX1.tm hgm
        have hC2 := hC1.keep hgm (fun t ht => Nat.lt_trans ht.2 (by decide))
        have ho2 := hgm _ _ ho1 (fun h9 => absurd h9.2 (by show ¬ 40 < 40; decide))
        have hm2 := hM2.1
        refine lv_istore (lv' := [(6, .int (nI (σ.1 2))), (5, .int 0), (0, .ref b), (1, .ref x), (2, .ref u), (3, .ref o), (4, .int (nI n))]) X.hx X.hb dL_law_560 hl (by decide) rfl (fun ls hl => ?_)
        refine lv_aload_n X.hx X.hb dL_law_562 rfl (lv_at hl 4 rfl) ?_
        refine gcV X hl.1 hR1086 hS1087 0 [] [] (m_thrown9 l Γ G1089 hM2) hm2 rfl q1360 q1361 q1362 q40 q1363 rfl rfl ⟨rfl, by decide +kernel, by decide +kernel, by decide +kernel⟩ ⟨by (try dsimp only [RM]); omega, by (try dsimp only [RM]); omega⟩ rfl rfl (Nat.le_of_ble_eq_true rfl) dL_law_563 ⟨by (try dsimp only [RM]); omega, by (try dsimp only [RM]); omega⟩ (fun v1093 G1094 H locs hq1090 hR1091 hS1092 => ?_)
        obtain ⟨rfl, rfl⟩ := hq1090
        refine lv_iload X.hx X.hb dL_law_566 (lv_at hl 1 rfl) ?_
        refine lv_icmp_eq (tgt := 573) X.hx X.hb dL_law_568 (by decide) (fun c568 => ?_) (fun c568 => ?_)
        · refine lv_iload X.hx X.hb dL_law_573 (lv_at hl 1 rfl) ?_
          refine lv_if_ne (tgt := 590) X.hx X.hb dL_law_575 (by decide) (fun c575 => ?_) (fun c575 => ?_)
          · exact absurd rfl c575
          · refine lv_aload_n X.hx X.hb dL_law_578 rfl (lv_at hl 5 rfl) ?_
            refine lv_iconst (v := 0) X.hx X.hb dL_law_579 (by decide) ?_
            refine g_lald (v := (nI (σ.1 2)).toInt64) X hR1091 ho2 (vp_in_nI (n := 0) (by decide) (by decide)) hfL dL_law_580 ?_
            refine lv_iload X.hx X.hb dL_law_581 (lv_at hl 0 rfl) ?_
            refine lv_i2l X.hx X.hb dL_law_583 rfl ?_
            refine W.lcmp X.hx X.hb dL_law_584 ?_
            refine lv_if_eq (tgt := 590) X.hx X.hb dL_law_585 (by decide) (fun c585 => ?_) (fun c585 => ?_)
            · refine lv_goto (tgt := 1521) X.hx X.hb dL_law_590 (by decide) ?_
              exact kk _ _ _ _ _ (Or.inr ⟨hk0, rfl⟩) ⟨⟨_, hX2⟩, ⟨_, _, hM2⟩, hC2, _, ho2⟩ hR1091 hS1092 (lv_sub hl [2, 3, 4, 5, 6] rfl)
            · exact absurd ((lg_cmp_eq _ _).mpr rfl) c585
        · exact absurd (by decide) c568
      · exact absurd hk0 hj0
    · have hM1 : MP Γ G1079 u σ th B := hM.keep hgo (fun t ht => TXo_m ht)
      have hC1 := hC.keep hgo (fun t ht => TXo_50 ht)
      have hm1 := hM1.1
      refine lv_istore (lv' := [(5, .int (kT σ (xs (n + 1)) 0 (xs (n + 2)) 0 0 0)), (0, .ref b), (1, .ref x), (2, .ref u), (3, .ref o), (4, .int (nI n))]) X.hx X.hb dL_law_542 hl (by decide) rfl (fun ls hl => ?_)
      refine lv_aload_n X.hx X.hb dL_law_544 rfl (lv_at hl 3 rfl) ?_
      refine lv_aload_n X.hx X.hb dL_law_545 rfl (lv_at hl 1 rfl) ?_
      refine lv_iload X.hx X.hb dL_law_546 (lv_at hl 5 rfl) ?_
      refine lv_iconst (v := 1) X.hx X.hb dL_law_548 (by decide) ?_
      refine lv_iadd X.hx X.hb dL_law_549 ?_
      refine lv_topi (fun x1095 hx1095 => ?_)
      obtain rfl : x1095 = nI (n + 1) := hx1095.trans (nI_add n 1)
      refine va_sld X.hx X.hb hXs hbl hbA hS1077 (vp_in_nI (by omega) (by omega)) dL_law_550 ?_
      refine lv_topi (fun x1096 hx1096 => ?_)
      obtain rfl : x1096 = xs (n + 1) := hx1096.trans (by rw [nI_clamp (by omega)])
      refine lv_aload_n X.hx X.hb dL_law_551 rfl (lv_at hl 1 rfl) ?_
      refine lv_iload X.hx X.hb dL_law_552 (lv_at hl 5 rfl) ?_
      refine lv_iconst (v := 2) X.hx X.hb dL_law_554 (by decide) ?_
      refine lv_iadd X.hx X.hb dL_law_555 ?_
      refine lv_topi (fun x1097 hx1097 => ?_)
      obtain rfl : x1097 = nI (n + 2) := hx1097.trans (nI_add n 2)
      refine va_sld X.hx X.hb hXs hbl hbA hS1077 (vp_in_nI (by omega) (by omega)) dL_law_556 ?_
      refine lv_topi (fun x1098 hx1098 => ?_)
      obtain rfl : x1098 = xs (n + 2) := hx1098.trans (by rw [nI_clamp (by omega)])
      refine gcV X hl.1 hR1076 hS1077 2 [.int (xs (n + 1)), .int (xs (n + 2))] [] (m_cancel l Γ G1079 hW hM1) hm1 rfl q1405 q1406 q1407 q40 q1408 rfl rfl ⟨rfl, by decide +kernel, by decide +kernel, by decide +kernel⟩ ⟨by (try dsimp only [RM]); omega, by (try dsimp only [RM]); omega⟩ rfl rfl (Nat.le_of_ble_eq_true rfl) dL_law_557 ⟨by (try dsimp only [RM]); omega, by (try dsimp only [RM]); omega⟩ (fun v1102 G1103 H locs hq1099 hR1100 hS1101 => ?_)
      obtain ⟨hmr, hgm⟩ := hq1099
      rcases hmr with ⟨hj0, rfl, hM2⟩ | ⟨hj0, ⟨w9, rfl⟩, hM2⟩
      · exact absurd hj0 hk0
      · have hX2 := hX1.tm hgm
        have hC2 := hC1.keep hgm (fun t ht => Nat.lt_trans ht.2 (by decide))
        have ho2 := hgm _ _ ho1 (fun h9 => absurd h9.2 (by show ¬ 40 < 40; decide))
        have hm2 := hM2.1
        refine lv_istore (lv' := [(6, .int w9), (5, .int (kT σ (xs (n + 1)) 0 (xs (n + 2)) 0 0 0)), (0, .ref b), (1, .ref x), (2, .ref u), (3, .ref o), (4, .int (nI n))]) X.hx X.hb dL_law_560 hl (by decide) rfl (fun ls hl => ?_)
        refine lv_aload_n X.hx X.hb dL_law_562 rfl (lv_at hl 4 rfl) ?_
        refine gcV X hl.1 hR1100 hS1101 0 [] [] (m_thrown9 l Γ G1103 hM2) hm2 rfl q1360 q1361 q1362 q40 q1363 rfl rfl ⟨rfl, by decide +kernel, by decide +kernel, by decide +kernel⟩ ⟨by (try dsimp only [RM]); omega, by (try dsimp only [RM]); omega⟩ rfl rfl (Nat.le_of_ble_eq_true rfl) dL_law_563 ⟨by (try dsimp only [RM]); omega, by (try dsimp only [RM]); omega⟩ (fun v1107 G1108 H locs hq1104 hR1105 hS1106 => ?_)
        obtain ⟨rfl, rfl⟩ := hq1104
        refine lv_iload X.hx X.hb dL_law_566 (lv_at hl 1 rfl) ?_
        refine lv_icmp_eq (tgt := 573) X.hx X.hb dL_law_568 (by decide) (fun c568 => ?_) (fun c568 => ?_)
        · refine lv_iload X.hx X.hb dL_law_573 (lv_at hl 1 rfl) ?_
          refine lv_if_ne (tgt := 590) X.hx X.hb dL_law_575 (by decide) (fun c575 => ?_) (fun c575 => ?_)
          · refine lv_goto (tgt := 1521) X.hx X.hb dL_law_590 (by decide) ?_
            exact kk _ _ _ _ _ (Or.inl rfl) ⟨⟨_, hX2⟩, ⟨_, _, hM2⟩, hC2, _, ho2⟩ hR1105 hS1106 (lv_sub hl [2, 3, 4, 5, 6] rfl)
          · exact absurd c575 hk0
        · exact absurd rfl c568

set_option maxHeartbeats 4000000 in
theorem l_reinstate (X : Cx pp ss mm args cc0 Γ code 7 RX0) (hst : l.stackTraces = false) {b L n : Nat} {xs : Nat → Int32} (hXs : va_X b L xs ss ss.heap) (hbl : b < ss.heap.size) (hbA : ¬ gA Γ b) (hn : n + 5 ≤ L) (hL : L ≤ 320) (hRf : 100 ≤ R.frames) (hRl : 20000 ≤ R.locals) (hRc : cells + 4000 ≤ R.cells) (hRs : slots + 12000 ≤ R.slots) {x u o : Nat} {σ : MS} (hW : WF σ) (hz : σ.2 1 (σ.1 0) = 0) (hI : LSt Γ G x u o σ) (hR : Rep Γ G H) (hS : va_S (gA Γ) ss.heap H locs) (hl : lv_has ls 7 [(0, .ref b), (1, .ref x), (2, .ref u), (3, .ref o), (4, .int (nI n))])
    (kk : ∀ (τ1 : MS) (G1 : GH) (H1 : Heap) (locs1 : List Loc) (ls1 : Array Slot), (τ1 = σ ∨ (kT σ (xs (n + 1)) 0 (xs (n + 2)) 0 0 0 = 0 ∧ τ1 = tauT σ (xs (n + 1)) 3 0 (xs (n + 2)) 0)) → LSt Γ G1 x u o τ1 → Rep Γ G1 H1 → va_S (gA Γ) ss.heap H1 locs1 → lv_has ls1 7 [(0, .ref b), (1, .ref x), (2, .ref u), (3, .ref o), (4, .int (nI n))] → W pp l ee R ss mm args below meth cc0 H1 locs1 (cells + 4000) (slots + 12000) Q (F0 mm 1521 ls1 [])) :
    W pp l ee R ss mm args below meth cc0 H locs cells slots Q (F0 mm 593 ls []) := by
  obtain ⟨⟨A, hX⟩, ⟨B, th, hM⟩, hC, fL, ho⟩ := hI
  obtain ⟨⟨rf, hx, -⟩, -⟩ := id hX
  have hm := hM.1
  refine lv_aload_n X.hx X.hb dL_law_593 rfl (lv_at hl 1 rfl) ?_
  refine lv_aload_n X.hx X.hb dL_law_594 rfl (lv_at hl 0 rfl) ?_
  refine lv_iload X.hx X.hb dL_law_595 (lv_at hl 4 rfl) ?_
  refine lv_iconst (v := 1) X.hx X.hb dL_law_597 (by decide) ?_
  refine lv_iadd X.hx X.hb dL_law_598 ?_
  refine lv_topi (fun x1109 hx1109 => ?_)
  obtain rfl : x1109 = nI (n + 1) := hx1109.trans (nI_add n 1)
  refine va_sld X.hx X.hb hXs hbl hbA hS (vp_in_nI (by omega) (by omega)) dL_law_599 ?_
  refine lv_topi (fun x1110 hx1110 => ?_)
  obtain rfl : x1110 = xs (n + 1) := hx1110.trans (by rw [nI_clamp (by omega)])
  refine lv_aload_n X.hx X.hb dL_law_600 rfl (lv_at hl 0 rfl) ?_
  refine lv_iload X.hx X.hb dL_law_601 (lv_at hl 4 rfl) ?_
  refine lv_iconst (v := 2) X.hx X.hb dL_law_603 (by decide) ?_
  refine lv_iadd X.hx X.hb dL_law_604 ?_
  refine lv_topi (fun x1111 hx1111 => ?_)
  obtain rfl : x1111 = nI (n + 2) := hx1111.trans (nI_add n 2)
  refine va_sld X.hx X.hb hXs hbl hbA hS (vp_in_nI (by omega) (by omega)) dL_law_605 ?_
  refine lv_topi (fun x1112 hx1112 => ?_)
  obtain rfl : x1112 = xs (n + 2) := hx1112.trans (by rw [nI_clamp (by omega)])
  refine lv_aload_n X.hx X.hb dL_law_606 rfl (lv_at hl 3 rfl) ?_
  refine gxWS X hl.1 hR hS 4 [.ref x, .int (xs (n + 1)), .int (xs (n + 2)), .ref o] [] (w_reinstate l Γ G hst hW hX hC ho) q693 q694 q35 q695 rfl rfl ⟨by decide +kernel, by decide +kernel, by decide +kernel⟩ ⟨by (try dsimp only [RM]); omega, by (try dsimp only [RM]); omega⟩ rfl rfl (Nat.le_of_ble_eq_true rfl) dL_law_607 ⟨by (try dsimp only [RM]); omega, by (try dsimp only [RM]); omega⟩ (fun E1118 ce q9 G9 H locs hq9 hR9 hS9 hce hcv hcl => ?_) (fun v1116 G1117 H locs hq1113 hR1114 hS1115 => ?_)
  · exact hq9.elim
  · obtain ⟨hcr, hgo⟩ := hq1113
    rcases hcr with ⟨hk0, rfl, ⟨A1, hX1⟩, fL1, ho1, hfL⟩ | ⟨hk0, rfl, ⟨A1, hX1⟩, fL1, ho1⟩
    · have hM1 : MP Γ G1117 u σ th B := hM.keep hgo (fun t ht => TXo_m ht)
      have hC1 := hC.keep hgo (fun t ht => TXo_50 ht)
      have hm1 := hM1.1
      refine lv_istore (lv' := [(5, .int 0), (0, .ref b), (1, .ref x), (2, .ref u), (3, .ref o), (4, .int (nI n))]) X.hx X.hb dL_law_610 hl (by decide) rfl (fun ls hl => ?_)
      refine lv_aload_n X.hx X.hb dL_law_612 rfl (lv_at hl 3 rfl) ?_
      refine lv_aload_n X.hx X.hb dL_law_613 rfl (lv_at hl 1 rfl) ?_
      refine lv_iload X.hx X.hb dL_law_614 (lv_at hl 5 rfl) ?_
      refine lv_iconst (v := 1) X.hx X.hb dL_law_616 (by decide) ?_
      refine lv_iadd X.hx X.hb dL_law_617 ?_
      refine lv_topi (fun x1119 hx1119 => ?_)
      obtain rfl : x1119 = nI (n + 1) := hx1119.trans (nI_add n 1)
      refine va_sld X.hx X.hb hXs hbl hbA hS1115 (vp_in_nI (by omega) (by omega)) dL_law_618 ?_
      refine lv_topi (fun x1120 hx1120 => ?_)
      obtain rfl : x1120 = xs (n + 1) := hx1120.trans (by rw [nI_clamp (by omega)])
      refine lv_aload_n X.hx X.hb dL_law_619 rfl (lv_at hl 1 rfl) ?_
      refine lv_iload X.hx X.hb dL_law_620 (lv_at hl 5 rfl) ?_
      refine lv_iconst (v := 2) X.hx X.hb dL_law_622 (by decide) ?_
      refine lv_iadd X.hx X.hb dL_law_623 ?_
      refine lv_topi (fun x1121 hx1121 => ?_)
      obtain rfl : x1121 = nI (n + 2) := hx1121.trans (nI_add n 2)
      refine va_sld X.hx X.hb hXs hbl hbA hS1115 (vp_in_nI (by omega) (by omega)) dL_law_624 ?_
      refine lv_topi (fun x1122 hx1122 => ?_)
      obtain rfl : x1122 = xs (n + 2) := hx1122.trans (by rw [nI_clamp (by omega)])
      refine gcV X hl.1 hR1114 hS1115 2 [.int (xs (n + 1)), .int (xs (n + 2))] [] (m_reinstate l Γ G1117 hW hM1) hm1 rfl q1409 q1410 q1411 q40 q1412 rfl rfl ⟨rfl, by decide +kernel, by decide +kernel, by decide +kernel⟩ ⟨by (try dsimp only [RM]); omega, by (try dsimp only [RM]); omega⟩ rfl rfl (Nat.le_of_ble_eq_true rfl) dL_law_625 ⟨by (try dsimp only [RM]); omega, by (try dsimp only [RM]); omega⟩ (fun v1126 G1127 H locs hq1123 hR1124 hS1125 => ?_)
      obtain ⟨hmr, hgm⟩ := hq1123
      rcases hmr with ⟨hj0, rfl, hM2⟩ | ⟨hj0, ⟨w9, rfl⟩, hM2⟩
      · have hX2 := hX1.tm hgm
        have hC2 := hC1.keep hgm (fun t ht => Nat.lt_trans ht.2 (by decide))
        have ho2 := hgm _ _ ho1 (fun h9 => absurd h9.2 (by show ¬ 40 < 40; decide))
        have hm2 := hM2.1
        refine lv_istore (lv' := [(6, .int (nI (σ.1 2))), (5, .int 0), (0, .ref b), (1, .ref x), (2, .ref u), (3, .ref o), (4, .int (nI n))]) X.hx X.hb dL_law_628 hl (by decide) rfl (fun ls hl => ?_)
        refine lv_aload_n X.hx X.hb dL_law_630 rfl (lv_at hl 4 rfl) ?_
        refine gcV X hl.1 hR1124 hS1125 0 [] [] (m_thrown9 l Γ G1127 hM2) hm2 rfl q1360 q1361 q1362 q40 q1363 rfl rfl ⟨rfl, by decide +kernel, by decide +kernel, by decide +kernel⟩ ⟨by (try dsimp only [RM]); omega, by (try dsimp only [RM]); omega⟩ rfl rfl (Nat.le_of_ble_eq_true rfl) dL_law_631 ⟨by (try dsimp only [RM]); omega, by (try dsimp only [RM]); omega⟩ (fun v1131 G1132 H locs hq1128 hR1129 hS1130 => ?_)
        obtain ⟨rfl, rfl⟩ := hq1128
        refine lv_iload X.hx X.hb dL_law_634 (lv_at hl 1 rfl) ?_
        refine lv_icmp_eq (tgt := 641) X.hx X.hb dL_law_636 (by decide) (fun c636 => ?_) (fun c636 => ?_)
        · refine lv_iload X.hx X.hb dL_law_641 (lv_at hl 1 rfl) ?_
          refine lv_if_ne (tgt := 658) X.hx X.hb dL_law_643 (by decide) (fun c643 => ?_) (fun c643 => ?_)
          · exact absurd rfl c643
          · refine lv_aload_n X.hx X.hb dL_law_646 rfl (lv_at hl 5 rfl) ?_
            refine lv_iconst (v := 0) X.hx X.hb dL_law_647 (by decide) ?_
            refine g_lald (v := (nI (σ.1 2)).toInt64) X hR1129 ho2 (vp_in_nI (n := 0) (by decide) (by decide)) hfL dL_law_648 ?_
            refine lv_iload X.hx X.hb dL_law_649 (lv_at hl 0 rfl) ?_
            refine lv_i2l X.hx X.hb dL_law_651 rfl ?_
            refine W.lcmp X.hx X.hb dL_law_652 ?_
            refine lv_if_eq (tgt := 658) X.hx X.hb dL_law_653 (by decide) (fun c653 => ?_) (fun c653 => ?_)
            · refine lv_goto (tgt := 1521) X.hx X.hb dL_law_658 (by decide) ?_
              exact kk _ _ _ _ _ (Or.inr ⟨hk0, rfl⟩) ⟨⟨_, hX2⟩, ⟨_, _, hM2⟩, hC2, _, ho2⟩ hR1129 hS1130 (lv_sub hl [2, 3, 4, 5, 6] rfl)
            · exact absurd ((lg_cmp_eq _ _).mpr rfl) c653
        · exact absurd (by decide) c636
      · exact absurd hk0 hj0
    · have hM1 : MP Γ G1117 u σ th B := hM.keep hgo (fun t ht => TXo_m ht)
      have hC1 := hC.keep hgo (fun t ht => TXo_50 ht)
      have hm1 := hM1.1
      refine lv_istore (lv' := [(5, .int (kT σ (xs (n + 1)) 0 (xs (n + 2)) 0 0 0)), (0, .ref b), (1, .ref x), (2, .ref u), (3, .ref o), (4, .int (nI n))]) X.hx X.hb dL_law_610 hl (by decide) rfl (fun ls hl => ?_)
      refine lv_aload_n X.hx X.hb dL_law_612 rfl (lv_at hl 3 rfl) ?_
      refine lv_aload_n X.hx X.hb dL_law_613 rfl (lv_at hl 1 rfl) ?_
      refine lv_iload X.hx X.hb dL_law_614 (lv_at hl 5 rfl) ?_
      refine lv_iconst (v := 1) X.hx X.hb dL_law_616 (by decide) ?_
      refine lv_iadd X.hx X.hb dL_law_617 ?_
      refine lv_topi (fun x1133 hx1133 => ?_)
      obtain rfl : x1133 = nI (n + 1) := hx1133.trans (nI_add n 1)
      refine va_sld X.hx X.hb hXs hbl hbA hS1115 (vp_in_nI (by omega) (by omega)) dL_law_618 ?_
      refine lv_topi (fun x1134 hx1134 => ?_)
      obtain rfl : x1134 = xs (n + 1) := hx1134.trans (by rw [nI_clamp (by omega)])
      refine lv_aload_n X.hx X.hb dL_law_619 rfl (lv_at hl 1 rfl) ?_
      refine lv_iload X.hx X.hb dL_law_620 (lv_at hl 5 rfl) ?_
      refine lv_iconst (v := 2) X.hx X.hb dL_law_622 (by decide) ?_
      refine lv_iadd X.hx X.hb dL_law_623 ?_
      refine lv_topi (fun x1135 hx1135 => ?_)
      obtain rfl : x1135 = nI (n + 2) := hx1135.trans (nI_add n 2)
      refine va_sld X.hx X.hb hXs hbl hbA hS1115 (vp_in_nI (by omega) (by omega)) dL_law_624 ?_
      refine lv_topi (fun x1136 hx1136 => ?_)
      obtain rfl : x1136 = xs (n + 2) := hx1136.trans (by rw [nI_clamp (by omega)])
      refine gcV X hl.1 hR1114 hS1115 2 [.int (xs (n + 1)), .int (xs (n + 2))] [] (m_reinstate l Γ G1117 hW hM1) hm1 rfl q1409 q1410 q1411 q40 q1412 rfl rfl ⟨rfl, by decide +kernel, by decide +kernel, by decide +kernel⟩ ⟨by (try dsimp only [RM]); omega, by (try dsimp only [RM]); omega⟩ rfl rfl (Nat.le_of_ble_eq_true rfl) dL_law_625 ⟨by (try dsimp only [RM]); omega, by (try dsimp only [RM]); omega⟩ (fun v1140 G1141 H locs hq1137 hR1138 hS1139 => ?_)
      obtain ⟨hmr, hgm⟩ := hq1137
      rcases hmr with ⟨hj0, rfl, hM2⟩ | ⟨hj0, ⟨w9, rfl⟩, hM2⟩
      · exact absurd hj0 hk0
      · have hX2 := hX1.tm hgm
        have hC2 := hC1.keep hgm (fun t ht => Nat.lt_trans ht.2 (by decide))
        have ho2 := hgm _ _ ho1 (fun h9 => absurd h9.2 (by show ¬ 40 < 40; decide))
        have hm2 := hM2.1
        refine lv_istore (lv' := [(6, .int w9), (5, .int (kT σ (xs (n + 1)) 0 (xs (n + 2)) 0 0 0)), (0, .ref b), (1, .ref x), (2, .ref u), (3, .ref o), (4, .int (nI n))]) X.hx X.hb dL_law_628 hl (by decide) rfl (fun ls hl => ?_)
        refine lv_aload_n X.hx X.hb dL_law_630 rfl (lv_at hl 4 rfl) ?_
        refine gcV X hl.1 hR1138 hS1139 0 [] [] (m_thrown9 l Γ G1141 hM2) hm2 rfl q1360 q1361 q1362 q40 q1363 rfl rfl ⟨rfl, by decide +kernel, by decide +kernel, by decide +kernel⟩ ⟨by (try dsimp only [RM]); omega, by (try dsimp only [RM]); omega⟩ rfl rfl (Nat.le_of_ble_eq_true rfl) dL_law_631 ⟨by (try dsimp only [RM]); omega, by (try dsimp only [RM]); omega⟩ (fun v1145 G1146 H locs hq1142 hR1143 hS1144 => ?_)
        obtain ⟨rfl, rfl⟩ := hq1142
        refine lv_iload X.hx X.hb dL_law_634 (lv_at hl 1 rfl) ?_
        refine lv_icmp_eq (tgt := 641) X.hx X.hb dL_law_636 (by decide) (fun c636 => ?_) (fun c636 => ?_)
        · refine lv_iload X.hx X.hb dL_law_641 (lv_at hl 1 rfl) ?_
          refine lv_if_ne (tgt := 658) X.hx X.hb dL_law_643 (by decide) (fun c643 => ?_) (fun c643 => ?_)
          · refine lv_goto (tgt := 1521) X.hx X.hb dL_law_658 (by decide) ?_
            exact kk _ _ _ _ _ (Or.inl rfl) ⟨⟨_, hX2⟩, ⟨_, _, hM2⟩, hC2, _, ho2⟩ hR1143 hS1144 (lv_sub hl [2, 3, 4, 5, 6] rfl)
          · exact absurd c643 hk0
        · exact absurd rfl c636

set_option maxHeartbeats 4000000 in
theorem l_takeBack (X : Cx pp ss mm args cc0 Γ code 7 RX0) (hst : l.stackTraces = false) {b L n : Nat} {xs : Nat → Int32} (hXs : va_X b L xs ss ss.heap) (hbl : b < ss.heap.size) (hbA : ¬ gA Γ b) (hn : n + 5 ≤ L) (hL : L ≤ 320) (hRf : 100 ≤ R.frames) (hRl : 20000 ≤ R.locals) (hRc : cells + 4000 ≤ R.cells) (hRs : slots + 12000 ≤ R.slots) {x u o : Nat} {σ : MS} (hW : WF σ) (hz : σ.2 1 (σ.1 0) = 0) (hI : LSt Γ G x u o σ) (hR : Rep Γ G H) (hS : va_S (gA Γ) ss.heap H locs) (hl : lv_has ls 7 [(0, .ref b), (1, .ref x), (2, .ref u), (3, .ref o), (4, .int (nI n))])
    (kk : ∀ (τ1 : MS) (G1 : GH) (H1 : Heap) (locs1 : List Loc) (ls1 : Array Slot), (τ1 = σ ∨ (k8 σ (xs (n + 1)) = 0 ∧ τ1 = tauK σ (xs (n + 1)).toNatClampNeg)) → LSt Γ G1 x u o τ1 → Rep Γ G1 H1 → va_S (gA Γ) ss.heap H1 locs1 → lv_has ls1 7 [(0, .ref b), (1, .ref x), (2, .ref u), (3, .ref o), (4, .int (nI n))] → W pp l ee R ss mm args below meth cc0 H1 locs1 (cells + 4000) (slots + 12000) Q (F0 mm 1521 ls1 [])) :
    W pp l ee R ss mm args below meth cc0 H locs cells slots Q (F0 mm 661 ls []) := by
  obtain ⟨⟨A, hX⟩, ⟨B, th, hM⟩, hC, fL, ho⟩ := hI
  obtain ⟨⟨rf, hx, -⟩, -⟩ := id hX
  have hm := hM.1
  refine lv_aload_n X.hx X.hb dL_law_661 rfl (lv_at hl 1 rfl) ?_
  refine lv_aload_n X.hx X.hb dL_law_662 rfl (lv_at hl 0 rfl) ?_
  refine lv_iload X.hx X.hb dL_law_663 (lv_at hl 4 rfl) ?_
  refine lv_iconst (v := 1) X.hx X.hb dL_law_665 (by decide) ?_
  refine lv_iadd X.hx X.hb dL_law_666 ?_
  refine lv_topi (fun x1147 hx1147 => ?_)
  obtain rfl : x1147 = nI (n + 1) := hx1147.trans (nI_add n 1)
  refine va_sld X.hx X.hb hXs hbl hbA hS (vp_in_nI (by omega) (by omega)) dL_law_667 ?_
  refine lv_topi (fun x1148 hx1148 => ?_)
  obtain rfl : x1148 = xs (n + 1) := hx1148.trans (by rw [nI_clamp (by omega)])
  refine lv_aload_n X.hx X.hb dL_law_668 rfl (lv_at hl 3 rfl) ?_
  refine gxWS X hl.1 hR hS 3 [.ref x, .int (xs (n + 1)), .ref o] [] (w_takeBack l Γ G hst hW hX hC ho) q702 q703 q35 q704 rfl rfl ⟨by decide +kernel, by decide +kernel, by decide +kernel⟩ ⟨by (try dsimp only [RM]); omega, by (try dsimp only [RM]); omega⟩ rfl rfl (Nat.le_of_ble_eq_true rfl) dL_law_669 ⟨by (try dsimp only [RM]); omega, by (try dsimp only [RM]); omega⟩ (fun E1154 ce q9 G9 H locs hq9 hR9 hS9 hce hcv hcl => ?_) (fun v1152 G1153 H locs hq1149 hR1150 hS1151 => ?_)
  · exact hq9.elim
  · obtain ⟨hcr, hgo⟩ := hq1149
    rcases hcr with ⟨hk0, rfl, ⟨A1, hX1⟩, fL1, ho1, hfL⟩ | ⟨hk0, rfl, ⟨A1, hX1⟩, fL1, ho1⟩
    · have hM1 : MP Γ G1153 u σ th B := hM.keep hgo (fun t ht => TXo_m ht)
      have hC1 := hC.keep hgo (fun t ht => TXo_50 ht)
      have hm1 := hM1.1
      refine lv_istore (lv' := [(5, .int 0), (0, .ref b), (1, .ref x), (2, .ref u), (3, .ref o), (4, .int (nI n))]) X.hx X.hb dL_law_672 hl (by decide) rfl (fun ls hl => ?_)
      refine lv_aload_n X.hx X.hb dL_law_674 rfl (lv_at hl 3 rfl) ?_
      refine lv_aload_n X.hx X.hb dL_law_675 rfl (lv_at hl 1 rfl) ?_
      refine lv_iload X.hx X.hb dL_law_676 (lv_at hl 5 rfl) ?_
      refine lv_iconst (v := 1) X.hx X.hb dL_law_678 (by decide) ?_
      refine lv_iadd X.hx X.hb dL_law_679 ?_
      refine lv_topi (fun x1155 hx1155 => ?_)
      obtain rfl : x1155 = nI (n + 1) := hx1155.trans (nI_add n 1)
      refine va_sld X.hx X.hb hXs hbl hbA hS1151 (vp_in_nI (by omega) (by omega)) dL_law_680 ?_
      refine lv_topi (fun x1156 hx1156 => ?_)
      obtain rfl : x1156 = xs (n + 1) := hx1156.trans (by rw [nI_clamp (by omega)])
      refine gcV X hl.1 hR1150 hS1151 1 [.int (xs (n + 1))] [] (m_takeBack l Γ G1153 hW hM1) hm1 rfl q1413 q1414 q1415 q40 q1416 rfl rfl ⟨rfl, by decide +kernel, by decide +kernel, by decide +kernel⟩ ⟨by (try dsimp only [RM]); omega, by (try dsimp only [RM]); omega⟩ rfl rfl (Nat.le_of_ble_eq_true rfl) dL_law_681 ⟨by (try dsimp only [RM]); omega, by (try dsimp only [RM]); omega⟩ (fun v1160 G1161 H locs hq1157 hR1158 hS1159 => ?_)
      obtain ⟨hmr, hgm⟩ := hq1157
      rcases hmr with ⟨hj0, rfl, hM2⟩ | ⟨hj0, ⟨w9, rfl⟩, hM2⟩
      · have hX2 := hX1.tm hgm
        have hC2 := hC1.keep hgm (fun t ht => Nat.lt_trans ht.2 (by decide))
        have ho2 := hgm _ _ ho1 (fun h9 => absurd h9.2 (by show ¬ 40 < 40; decide))
        have hm2 := hM2.1
        refine lv_istore (lv' := [(6, .int (σ.2 10 (xs (n + 1)).toNatClampNeg)), (5, .int 0), (0, .ref b), (1, .ref x), (2, .ref u), (3, .ref o), (4, .int (nI n))]) X.hx X.hb dL_law_684 hl (by decide) rfl (fun ls hl => ?_)
        refine lv_aload_n X.hx X.hb dL_law_686 rfl (lv_at hl 4 rfl) ?_
        refine gcV X hl.1 hR1158 hS1159 0 [] [] (m_thrown9 l Γ G1161 hM2) hm2 rfl q1360 q1361 q1362 q40 q1363 rfl rfl ⟨rfl, by decide +kernel, by decide +kernel, by decide +kernel⟩ ⟨by (try dsimp only [RM]); omega, by (try dsimp only [RM]); omega⟩ rfl rfl (Nat.le_of_ble_eq_true rfl) dL_law_687 ⟨by (try dsimp only [RM]); omega, by (try dsimp only [RM]); omega⟩ (fun v1165 G1166 H locs hq1162 hR1163 hS1164 => ?_)
        obtain ⟨rfl, rfl⟩ := hq1162
        refine lv_iload X.hx X.hb dL_law_690 (lv_at hl 1 rfl) ?_
        refine lv_icmp_eq (tgt := 697) X.hx X.hb dL_law_692 (by decide) (fun c692 => ?_) (fun c692 => ?_)
        · refine lv_iload X.hx X.hb dL_law_697 (lv_at hl 1 rfl) ?_
          refine lv_if_ne (tgt := 714) X.hx X.hb dL_law_699 (by decide) (fun c699 => ?_) (fun c699 => ?_)
          · exact absurd rfl c699
          · refine lv_aload_n X.hx X.hb dL_law_702 rfl (lv_at hl 5 rfl) ?_
            refine lv_iconst (v := 0) X.hx X.hb dL_law_703 (by decide) ?_
            refine g_lald (v := (σ.2 10 (xs (n + 1)).toNatClampNeg).toInt64) X hR1163 ho2 (vp_in_nI (n := 0) (by decide) (by decide)) hfL dL_law_704 ?_
            refine lv_iload X.hx X.hb dL_law_705 (lv_at hl 0 rfl) ?_
            refine lv_i2l X.hx X.hb dL_law_707 rfl ?_
            refine W.lcmp X.hx X.hb dL_law_708 ?_
            refine lv_if_eq (tgt := 714) X.hx X.hb dL_law_709 (by decide) (fun c709 => ?_) (fun c709 => ?_)
            · refine lv_goto (tgt := 1521) X.hx X.hb dL_law_714 (by decide) ?_
              exact kk _ _ _ _ _ (Or.inr ⟨hk0, rfl⟩) ⟨⟨_, hX2⟩, ⟨_, _, hM2⟩, hC2, _, ho2⟩ hR1163 hS1164 (lv_sub hl [2, 3, 4, 5, 6] rfl)
            · exact absurd ((lg_cmp_eq _ _).mpr rfl) c709
        · exact absurd (by decide) c692
      · exact absurd hk0 hj0
    · have hM1 : MP Γ G1153 u σ th B := hM.keep hgo (fun t ht => TXo_m ht)
      have hC1 := hC.keep hgo (fun t ht => TXo_50 ht)
      have hm1 := hM1.1
      refine lv_istore (lv' := [(5, .int (k8 σ (xs (n + 1)))), (0, .ref b), (1, .ref x), (2, .ref u), (3, .ref o), (4, .int (nI n))]) X.hx X.hb dL_law_672 hl (by decide) rfl (fun ls hl => ?_)
      refine lv_aload_n X.hx X.hb dL_law_674 rfl (lv_at hl 3 rfl) ?_
      refine lv_aload_n X.hx X.hb dL_law_675 rfl (lv_at hl 1 rfl) ?_
      refine lv_iload X.hx X.hb dL_law_676 (lv_at hl 5 rfl) ?_
      refine lv_iconst (v := 1) X.hx X.hb dL_law_678 (by decide) ?_
      refine lv_iadd X.hx X.hb dL_law_679 ?_
      refine lv_topi (fun x1167 hx1167 => ?_)
      obtain rfl : x1167 = nI (n + 1) := hx1167.trans (nI_add n 1)
      refine va_sld X.hx X.hb hXs hbl hbA hS1151 (vp_in_nI (by omega) (by omega)) dL_law_680 ?_
      refine lv_topi (fun x1168 hx1168 => ?_)
      obtain rfl : x1168 = xs (n + 1) := hx1168.trans (by rw [nI_clamp (by omega)])
      refine gcV X hl.1 hR1150 hS1151 1 [.int (xs (n + 1))] [] (m_takeBack l Γ G1153 hW hM1) hm1 rfl q1413 q1414 q1415 q40 q1416 rfl rfl ⟨rfl, by decide +kernel, by decide +kernel, by decide +kernel⟩ ⟨by (try dsimp only [RM]); omega, by (try dsimp only [RM]); omega⟩ rfl rfl (Nat.le_of_ble_eq_true rfl) dL_law_681 ⟨by (try dsimp only [RM]); omega, by (try dsimp only [RM]); omega⟩ (fun v1172 G1173 H locs hq1169 hR1170 hS1171 => ?_)
      obtain ⟨hmr, hgm⟩ := hq1169
      rcases hmr with ⟨hj0, rfl, hM2⟩ | ⟨hj0, ⟨w9, rfl⟩, hM2⟩
      · exact absurd hj0 hk0
      · have hX2 := hX1.tm hgm
        have hC2 := hC1.keep hgm (fun t ht => Nat.lt_trans ht.2 (by decide))
        have ho2 := hgm _ _ ho1 (fun h9 => absurd h9.2 (by show ¬ 40 < 40; decide))
        have hm2 := hM2.1
        refine lv_istore (lv' := [(6, .int w9), (5, .int (k8 σ (xs (n + 1)))), (0, .ref b), (1, .ref x), (2, .ref u), (3, .ref o), (4, .int (nI n))]) X.hx X.hb dL_law_684 hl (by decide) rfl (fun ls hl => ?_)
        refine lv_aload_n X.hx X.hb dL_law_686 rfl (lv_at hl 4 rfl) ?_
        refine gcV X hl.1 hR1170 hS1171 0 [] [] (m_thrown9 l Γ G1173 hM2) hm2 rfl q1360 q1361 q1362 q40 q1363 rfl rfl ⟨rfl, by decide +kernel, by decide +kernel, by decide +kernel⟩ ⟨by (try dsimp only [RM]); omega, by (try dsimp only [RM]); omega⟩ rfl rfl (Nat.le_of_ble_eq_true rfl) dL_law_687 ⟨by (try dsimp only [RM]); omega, by (try dsimp only [RM]); omega⟩ (fun v1177 G1178 H locs hq1174 hR1175 hS1176 => ?_)
        obtain ⟨rfl, rfl⟩ := hq1174
        refine lv_iload X.hx X.hb dL_law_690 (lv_at hl 1 rfl) ?_
        refine lv_icmp_eq (tgt := 697) X.hx X.hb dL_law_692 (by decide) (fun c692 => ?_) (fun c692 => ?_)
        · refine lv_iload X.hx X.hb dL_law_697 (lv_at hl 1 rfl) ?_
          refine lv_if_ne (tgt := 714) X.hx X.hb dL_law_699 (by decide) (fun c699 => ?_) (fun c699 => ?_)
          · refine lv_goto (tgt := 1521) X.hx X.hb dL_law_714 (by decide) ?_
            exact kk _ _ _ _ _ (Or.inl rfl) ⟨⟨_, hX2⟩, ⟨_, _, hM2⟩, hC2, _, ho2⟩ hR1175 hS1176 (lv_sub hl [2, 3, 4, 5, 6] rfl)
          · exact absurd c699 hk0
        · exact absurd rfl c692

set_option maxHeartbeats 4000000 in
theorem l_changes (X : Cx pp ss mm args cc0 Γ code 7 RX0) (hst : l.stackTraces = false) {b L n : Nat} {xs : Nat → Int32} (hXs : va_X b L xs ss ss.heap) (hbl : b < ss.heap.size) (hbA : ¬ gA Γ b) (hn : n + 5 ≤ L) (hL : L ≤ 320) (hRf : 100 ≤ R.frames) (hRl : 20000 ≤ R.locals) (hRc : cells + 4000 ≤ R.cells) (hRs : slots + 12000 ≤ R.slots) {x u o : Nat} {σ : MS} (hW : WF σ) (hz : σ.2 1 (σ.1 0) = 0) (hI : LSt Γ G x u o σ) (hR : Rep Γ G H) (hS : va_S (gA Γ) ss.heap H locs) (hl : lv_has ls 7 [(0, .ref b), (1, .ref x), (2, .ref u), (3, .ref o), (4, .int (nI n))])
    (kk : ∀ (τ1 : MS) (G1 : GH) (H1 : Heap) (locs1 : List Loc) (ls1 : Array Slot), τ1 = σ → LSt Γ G1 x u o τ1 → Rep Γ G1 H1 → va_S (gA Γ) ss.heap H1 locs1 → lv_has ls1 7 [(0, .ref b), (1, .ref x), (2, .ref u), (3, .ref o), (4, .int (nI n))] → W pp l ee R ss mm args below meth cc0 H1 locs1 (cells + 4000) (slots + 12000) Q (F0 mm 1521 ls1 [])) :
    W pp l ee R ss mm args below meth cc0 H locs cells slots Q (F0 mm 717 ls []) := by
  obtain ⟨⟨A, hX⟩, ⟨B, th, hM⟩, hC, fL, ho⟩ := hI
  obtain ⟨⟨rf, hx, -⟩, -⟩ := id hX
  have hm := hM.1
  refine lv_aload_n X.hx X.hb dL_law_717 rfl (lv_at hl 1 rfl) ?_
  refine gcV X hl.1 hR hS 0 [] [] (c_changes l Γ G hW hX) hx rfl q139 q140 q141 q36 q142 rfl rfl ⟨rfl, by decide +kernel, by decide +kernel, by decide +kernel⟩ ⟨by (try dsimp only [RM]); omega, by (try dsimp only [RM]); omega⟩ rfl rfl (Nat.le_of_ble_eq_true rfl) dL_law_718 ⟨by (try dsimp only [RM]); omega, by (try dsimp only [RM]); omega⟩ (fun v1182 G1183 H locs hq1179 hR1180 hS1181 => ?_)
  obtain ⟨rfl, rfl⟩ := hq1179
  refine lv_aload_n X.hx X.hb dL_law_721 rfl (lv_at hl 2 rfl) ?_
  refine gcV X hl.1 hR1180 hS1181 0 [] [.int (nI (σ.1 2))] (m_changes l Γ G hW hM) hm rfl q1421 q1422 q1423 q40 q1424 rfl rfl ⟨rfl, by decide +kernel, by decide +kernel, by decide +kernel⟩ ⟨by (try dsimp only [RM]); omega, by (try dsimp only [RM]); omega⟩ rfl rfl (Nat.le_of_ble_eq_true rfl) dL_law_722 ⟨by (try dsimp only [RM]); omega, by (try dsimp only [RM]); omega⟩ (fun v1187 G1188 H locs hq1184 hR1185 hS1186 => ?_)
  obtain ⟨rfl, hM2, hgm⟩ := hq1184
  refine lv_icmp_eq (tgt := 1521) X.hx X.hb dL_law_725 (by decide) (fun c725 => ?_) (fun c725 => ?_)
  · exact kk σ _ _ _ _ rfl ⟨⟨_, hX.tm hgm⟩, ⟨_, _, hM2⟩, hC.keep hgm (fun t ht => Nat.lt_trans ht.2 (by decide)), _, hgm _ _ ho (fun h9 => absurd h9.2 (by show ¬ 40 < 40; decide))⟩ hR1185 hS1186 (lv_sub hl [0, 1, 2, 3, 4] rfl)
  · exact absurd rfl c725

set_option maxHeartbeats 4000000 in
theorem l_laidAnew (X : Cx pp ss mm args cc0 Γ code 7 RX0) (hst : l.stackTraces = false) {b L n : Nat} {xs : Nat → Int32} (hXs : va_X b L xs ss ss.heap) (hbl : b < ss.heap.size) (hbA : ¬ gA Γ b) (hn : n + 5 ≤ L) (hL : L ≤ 320) (hRf : 100 ≤ R.frames) (hRl : 20000 ≤ R.locals) (hRc : cells + 4000 ≤ R.cells) (hRs : slots + 12000 ≤ R.slots) {x u o : Nat} {σ : MS} (hW : WF σ) (hz : σ.2 1 (σ.1 0) = 0) (hI : LSt Γ G x u o σ) (hR : Rep Γ G H) (hS : va_S (gA Γ) ss.heap H locs) (hl : lv_has ls 7 [(0, .ref b), (1, .ref x), (2, .ref u), (3, .ref o), (4, .int (nI n))])
    (kk : ∀ (τ1 : MS) (G1 : GH) (H1 : Heap) (locs1 : List Loc) (ls1 : Array Slot), (τ1 = σ ∨ (kC σ (xs (n + 1)) = 0 ∧ τ1 = σ)) → LSt Γ G1 x u o τ1 → Rep Γ G1 H1 → va_S (gA Γ) ss.heap H1 locs1 → lv_has ls1 7 [(0, .ref b), (1, .ref x), (2, .ref u), (3, .ref o), (4, .int (nI n))] → W pp l ee R ss mm args below meth cc0 H1 locs1 (cells + 4000) (slots + 12000) Q (F0 mm 1521 ls1 [])) :
    W pp l ee R ss mm args below meth cc0 H locs cells slots Q (F0 mm 730 ls []) := by
  obtain ⟨⟨A, hX⟩, ⟨B, th, hM⟩, hC, fL, ho⟩ := hI
  obtain ⟨⟨rf, hx, -⟩, -⟩ := id hX
  have hm := hM.1
  refine lv_aload_n X.hx X.hb dL_law_730 rfl (lv_at hl 1 rfl) ?_
  refine lv_aload_n X.hx X.hb dL_law_731 rfl (lv_at hl 0 rfl) ?_
  refine lv_iload X.hx X.hb dL_law_732 (lv_at hl 4 rfl) ?_
  refine lv_iconst (v := 1) X.hx X.hb dL_law_734 (by decide) ?_
  refine lv_iadd X.hx X.hb dL_law_735 ?_
  refine lv_topi (fun x1189 hx1189 => ?_)
  obtain rfl : x1189 = nI (n + 1) := hx1189.trans (nI_add n 1)
  refine va_sld X.hx X.hb hXs hbl hbA hS (vp_in_nI (by omega) (by omega)) dL_law_736 ?_
  refine lv_topi (fun x1190 hx1190 => ?_)
  obtain rfl : x1190 = xs (n + 1) := hx1190.trans (by rw [nI_clamp (by omega)])
  refine lv_aload_n X.hx X.hb dL_law_737 rfl (lv_at hl 3 rfl) ?_
  refine gxWS X hl.1 hR hS 3 [.ref x, .int (xs (n + 1)), .ref o] [] (w_laidAnew l Γ G hst hW hX hC ho) q714 q715 q35 q716 rfl rfl ⟨by decide +kernel, by decide +kernel, by decide +kernel⟩ ⟨by (try dsimp only [RM]); omega, by (try dsimp only [RM]); omega⟩ rfl rfl (Nat.le_of_ble_eq_true rfl) dL_law_738 ⟨by (try dsimp only [RM]); omega, by (try dsimp only [RM]); omega⟩ (fun E1196 ce q9 G9 H locs hq9 hR9 hS9 hce hcv hcl => ?_) (fun v1194 G1195 H locs hq1191 hR1192 hS1193 => ?_)
  · exact hq9.elim
  · obtain ⟨hcr, hgo⟩ := hq1191
    rcases hcr with ⟨hk0, rfl, ⟨A1, hX1⟩, fL1, ho1, hfL⟩ | ⟨hk0, rfl, ⟨A1, hX1⟩, fL1, ho1⟩
    · have hM1 : MP Γ G1195 u σ th B := hM.keep hgo (fun t ht => TXo_m ht)
      have hC1 := hC.keep hgo (fun t ht => TXo_50 ht)
      have hm1 := hM1.1
      refine lv_istore (lv' := [(5, .int 0), (0, .ref b), (1, .ref x), (2, .ref u), (3, .ref o), (4, .int (nI n))]) X.hx X.hb dL_law_741 hl (by decide) rfl (fun ls hl => ?_)
      refine lv_aload_n X.hx X.hb dL_law_743 rfl (lv_at hl 3 rfl) ?_
      refine lv_aload_n X.hx X.hb dL_law_744 rfl (lv_at hl 1 rfl) ?_
      refine lv_iload X.hx X.hb dL_law_745 (lv_at hl 5 rfl) ?_
      refine lv_iconst (v := 1) X.hx X.hb dL_law_747 (by decide) ?_
      refine lv_iadd X.hx X.hb dL_law_748 ?_
      refine lv_topi (fun x1197 hx1197 => ?_)
      obtain rfl : x1197 = nI (n + 1) := hx1197.trans (nI_add n 1)
      refine va_sld X.hx X.hb hXs hbl hbA hS1193 (vp_in_nI (by omega) (by omega)) dL_law_749 ?_
      refine lv_topi (fun x1198 hx1198 => ?_)
      obtain rfl : x1198 = xs (n + 1) := hx1198.trans (by rw [nI_clamp (by omega)])
      refine gcV X hl.1 hR1192 hS1193 1 [.int (xs (n + 1))] [] (m_laidAnew l Γ G1195 hW hM1) hm1 rfl q1425 q1426 q1427 q40 q1428 rfl rfl ⟨rfl, by decide +kernel, by decide +kernel, by decide +kernel⟩ ⟨by (try dsimp only [RM]); omega, by (try dsimp only [RM]); omega⟩ rfl rfl (Nat.le_of_ble_eq_true rfl) dL_law_750 ⟨by (try dsimp only [RM]); omega, by (try dsimp only [RM]); omega⟩ (fun v1202 G1203 H locs hq1199 hR1200 hS1201 => ?_)
      obtain ⟨hmr, hgm⟩ := hq1199
      rcases hmr with ⟨hj0, rfl, hM2⟩ | ⟨hj0, ⟨w9, rfl⟩, hM2⟩
      · have hX2 := hX1.tm hgm
        have hC2 := hC1.keep hgm (fun t ht => Nat.lt_trans ht.2 (by decide))
        have ho2 := hgm _ _ ho1 (fun h9 => absurd h9.2 (by show ¬ 40 < 40; decide))
        have hm2 := hM2.1
        refine lv_istore (lv' := [(6, .int (LN σ (xs (n + 1)).toNatClampNeg (xs (n + 1)).toNatClampNeg)), (5, .int 0), (0, .ref b), (1, .ref x), (2, .ref u), (3, .ref o), (4, .int (nI n))]) X.hx X.hb dL_law_753 hl (by decide) rfl (fun ls hl => ?_)
        refine lv_aload_n X.hx X.hb dL_law_755 rfl (lv_at hl 4 rfl) ?_
        refine gcV X hl.1 hR1200 hS1201 0 [] [] (m_thrown9 l Γ G1203 hM2) hm2 rfl q1360 q1361 q1362 q40 q1363 rfl rfl ⟨rfl, by decide +kernel, by decide +kernel, by decide +kernel⟩ ⟨by (try dsimp only [RM]); omega, by (try dsimp only [RM]); omega⟩ rfl rfl (Nat.le_of_ble_eq_true rfl) dL_law_756 ⟨by (try dsimp only [RM]); omega, by (try dsimp only [RM]); omega⟩ (fun v1207 G1208 H locs hq1204 hR1205 hS1206 => ?_)
        obtain ⟨rfl, rfl⟩ := hq1204
        refine lv_iload X.hx X.hb dL_law_759 (lv_at hl 1 rfl) ?_
        refine lv_icmp_eq (tgt := 766) X.hx X.hb dL_law_761 (by decide) (fun c761 => ?_) (fun c761 => ?_)
        · refine lv_iload X.hx X.hb dL_law_766 (lv_at hl 1 rfl) ?_
          refine lv_if_ne (tgt := 783) X.hx X.hb dL_law_768 (by decide) (fun c768 => ?_) (fun c768 => ?_)
          · exact absurd rfl c768
          · refine lv_aload_n X.hx X.hb dL_law_771 rfl (lv_at hl 5 rfl) ?_
            refine lv_iconst (v := 0) X.hx X.hb dL_law_772 (by decide) ?_
            refine g_lald (v := (LN σ (xs (n + 1)).toNatClampNeg (xs (n + 1)).toNatClampNeg).toInt64) X hR1205 ho2 (vp_in_nI (n := 0) (by decide) (by decide)) hfL dL_law_773 ?_
            refine lv_iload X.hx X.hb dL_law_774 (lv_at hl 0 rfl) ?_
            refine lv_i2l X.hx X.hb dL_law_776 rfl ?_
            refine W.lcmp X.hx X.hb dL_law_777 ?_
            refine lv_if_eq (tgt := 783) X.hx X.hb dL_law_778 (by decide) (fun c778 => ?_) (fun c778 => ?_)
            · refine lv_goto (tgt := 1521) X.hx X.hb dL_law_783 (by decide) ?_
              exact kk _ _ _ _ _ (Or.inr ⟨hk0, rfl⟩) ⟨⟨_, hX2⟩, ⟨_, _, hM2⟩, hC2, _, ho2⟩ hR1205 hS1206 (lv_sub hl [2, 3, 4, 5, 6] rfl)
            · exact absurd ((lg_cmp_eq _ _).mpr rfl) c778
        · exact absurd (by decide) c761
      · exact absurd hk0 hj0
    · have hM1 : MP Γ G1195 u σ th B := hM.keep hgo (fun t ht => TXo_m ht)
      have hC1 := hC.keep hgo (fun t ht => TXo_50 ht)
      have hm1 := hM1.1
      refine lv_istore (lv' := [(5, .int (kC σ (xs (n + 1)))), (0, .ref b), (1, .ref x), (2, .ref u), (3, .ref o), (4, .int (nI n))]) X.hx X.hb dL_law_741 hl (by decide) rfl (fun ls hl => ?_)
      refine lv_aload_n X.hx X.hb dL_law_743 rfl (lv_at hl 3 rfl) ?_
      refine lv_aload_n X.hx X.hb dL_law_744 rfl (lv_at hl 1 rfl) ?_
      refine lv_iload X.hx X.hb dL_law_745 (lv_at hl 5 rfl) ?_
      refine lv_iconst (v := 1) X.hx X.hb dL_law_747 (by decide) ?_
      refine lv_iadd X.hx X.hb dL_law_748 ?_
      refine lv_topi (fun x1209 hx1209 => ?_)
      obtain rfl : x1209 = nI (n + 1) := hx1209.trans (nI_add n 1)
      refine va_sld X.hx X.hb hXs hbl hbA hS1193 (vp_in_nI (by omega) (by omega)) dL_law_749 ?_
      refine lv_topi (fun x1210 hx1210 => ?_)
      obtain rfl : x1210 = xs (n + 1) := hx1210.trans (by rw [nI_clamp (by omega)])
      refine gcV X hl.1 hR1192 hS1193 1 [.int (xs (n + 1))] [] (m_laidAnew l Γ G1195 hW hM1) hm1 rfl q1425 q1426 q1427 q40 q1428 rfl rfl ⟨rfl, by decide +kernel, by decide +kernel, by decide +kernel⟩ ⟨by (try dsimp only [RM]); omega, by (try dsimp only [RM]); omega⟩ rfl rfl (Nat.le_of_ble_eq_true rfl) dL_law_750 ⟨by (try dsimp only [RM]); omega, by (try dsimp only [RM]); omega⟩ (fun v1214 G1215 H locs hq1211 hR1212 hS1213 => ?_)
      obtain ⟨hmr, hgm⟩ := hq1211
      rcases hmr with ⟨hj0, rfl, hM2⟩ | ⟨hj0, ⟨w9, rfl⟩, hM2⟩
      · exact absurd hj0 hk0
      · have hX2 := hX1.tm hgm
        have hC2 := hC1.keep hgm (fun t ht => Nat.lt_trans ht.2 (by decide))
        have ho2 := hgm _ _ ho1 (fun h9 => absurd h9.2 (by show ¬ 40 < 40; decide))
        have hm2 := hM2.1
        refine lv_istore (lv' := [(6, .int w9), (5, .int (kC σ (xs (n + 1)))), (0, .ref b), (1, .ref x), (2, .ref u), (3, .ref o), (4, .int (nI n))]) X.hx X.hb dL_law_753 hl (by decide) rfl (fun ls hl => ?_)
        refine lv_aload_n X.hx X.hb dL_law_755 rfl (lv_at hl 4 rfl) ?_
        refine gcV X hl.1 hR1212 hS1213 0 [] [] (m_thrown9 l Γ G1215 hM2) hm2 rfl q1360 q1361 q1362 q40 q1363 rfl rfl ⟨rfl, by decide +kernel, by decide +kernel, by decide +kernel⟩ ⟨by (try dsimp only [RM]); omega, by (try dsimp only [RM]); omega⟩ rfl rfl (Nat.le_of_ble_eq_true rfl) dL_law_756 ⟨by (try dsimp only [RM]); omega, by (try dsimp only [RM]); omega⟩ (fun v1219 G1220 H locs hq1216 hR1217 hS1218 => ?_)
        obtain ⟨rfl, rfl⟩ := hq1216
        refine lv_iload X.hx X.hb dL_law_759 (lv_at hl 1 rfl) ?_
        refine lv_icmp_eq (tgt := 766) X.hx X.hb dL_law_761 (by decide) (fun c761 => ?_) (fun c761 => ?_)
        · refine lv_iload X.hx X.hb dL_law_766 (lv_at hl 1 rfl) ?_
          refine lv_if_ne (tgt := 783) X.hx X.hb dL_law_768 (by decide) (fun c768 => ?_) (fun c768 => ?_)
          · refine lv_goto (tgt := 1521) X.hx X.hb dL_law_783 (by decide) ?_
            exact kk _ _ _ _ _ (Or.inl rfl) ⟨⟨_, hX2⟩, ⟨_, _, hM2⟩, hC2, _, ho2⟩ hR1217 hS1218 (lv_sub hl [2, 3, 4, 5, 6] rfl)
          · exact absurd c768 hk0
        · exact absurd rfl c761

set_option maxHeartbeats 4000000 in
theorem l_value (X : Cx pp ss mm args cc0 Γ code 7 RX0) (hst : l.stackTraces = false) {b L n : Nat} {xs : Nat → Int32} (hXs : va_X b L xs ss ss.heap) (hbl : b < ss.heap.size) (hbA : ¬ gA Γ b) (hn : n + 5 ≤ L) (hL : L ≤ 320) (hRf : 100 ≤ R.frames) (hRl : 20000 ≤ R.locals) (hRc : cells + 4000 ≤ R.cells) (hRs : slots + 12000 ≤ R.slots) {x u o : Nat} {σ : MS} (hW : WF σ) (hz : σ.2 1 (σ.1 0) = 0) (hI : LSt Γ G x u o σ) (hR : Rep Γ G H) (hS : va_S (gA Γ) ss.heap H locs) (hl : lv_has ls 7 [(0, .ref b), (1, .ref x), (2, .ref u), (3, .ref o), (4, .int (nI n))])
    (kk : ∀ (τ1 : MS) (G1 : GH) (H1 : Heap) (locs1 : List Loc) (ls1 : Array Slot), (τ1 = σ ∨ (kV σ (xs (n + 1)) (xs (n + 2)) (xs (n + 3)) (xs (n + 4)) = 0 ∧ τ1 = σ)) → LSt Γ G1 x u o τ1 → Rep Γ G1 H1 → va_S (gA Γ) ss.heap H1 locs1 → lv_has ls1 7 [(0, .ref b), (1, .ref x), (2, .ref u), (3, .ref o), (4, .int (nI n))] → W pp l ee R ss mm args below meth cc0 H1 locs1 (cells + 4000) (slots + 12000) Q (F0 mm 1521 ls1 [])) :
    W pp l ee R ss mm args below meth cc0 H locs cells slots Q (F0 mm 786 ls []) := by
  obtain ⟨⟨A, hX⟩, ⟨B, th, hM⟩, hC, fL, ho⟩ := hI
  obtain ⟨⟨rf, hx, -⟩, -⟩ := id hX
  have hm := hM.1
  refine lv_aload_n X.hx X.hb dL_law_786 rfl (lv_at hl 1 rfl) ?_
  refine lv_aload_n X.hx X.hb dL_law_787 rfl (lv_at hl 0 rfl) ?_
  refine lv_iload X.hx X.hb dL_law_788 (lv_at hl 4 rfl) ?_
  refine lv_iconst (v := 1) X.hx X.hb dL_law_790 (by decide) ?_
  refine lv_iadd X.hx X.hb dL_law_791 ?_
  refine lv_topi (fun x1221 hx1221 => ?_)
  obtain rfl : x1221 = nI (n + 1) := hx1221.trans (nI_add n 1)
  refine va_sld X.hx X.hb hXs hbl hbA hS (vp_in_nI (by omega) (by omega)) dL_law_792 ?_
  refine lv_topi (fun x1222 hx1222 => ?_)
  obtain rfl : x1222 = xs (n + 1) := hx1222.trans (by rw [nI_clamp (by omega)])
  refine lv_aload_n X.hx X.hb dL_law_793 rfl (lv_at hl 0 rfl) ?_
  refine lv_iload X.hx X.hb dL_law_794 (lv_at hl 4 rfl) ?_
  refine lv_iconst (v := 2) X.hx X.hb dL_law_796 (by decide) ?_
  refine lv_iadd X.hx X.hb dL_law_797 ?_
  refine lv_topi (fun x1223 hx1223 => ?_)
  obtain rfl : x1223 = nI (n + 2) := hx1223.trans (nI_add n 2)
  refine va_sld X.hx X.hb hXs hbl hbA hS (vp_in_nI (by omega) (by omega)) dL_law_798 ?_
  refine lv_topi (fun x1224 hx1224 => ?_)
  obtain rfl : x1224 = xs (n + 2) := hx1224.trans (by rw [nI_clamp (by omega)])
  refine lv_aload_n X.hx X.hb dL_law_799 rfl (lv_at hl 0 rfl) ?_
  refine lv_iload X.hx X.hb dL_law_800 (lv_at hl 4 rfl) ?_
  refine lv_iconst (v := 3) X.hx X.hb dL_law_802 (by decide) ?_
  refine lv_iadd X.hx X.hb dL_law_803 ?_
  refine lv_topi (fun x1225 hx1225 => ?_)
  obtain rfl : x1225 = nI (n + 3) := hx1225.trans (nI_add n 3)
  refine va_sld X.hx X.hb hXs hbl hbA hS (vp_in_nI (by omega) (by omega)) dL_law_804 ?_
  refine lv_topi (fun x1226 hx1226 => ?_)
  obtain rfl : x1226 = xs (n + 3) := hx1226.trans (by rw [nI_clamp (by omega)])
  refine lv_aload_n X.hx X.hb dL_law_805 rfl (lv_at hl 0 rfl) ?_
  refine lv_iload X.hx X.hb dL_law_806 (lv_at hl 4 rfl) ?_
  refine lv_iconst (v := 4) X.hx X.hb dL_law_808 (by decide) ?_
  refine lv_iadd X.hx X.hb dL_law_809 ?_
  refine lv_topi (fun x1227 hx1227 => ?_)
  obtain rfl : x1227 = nI (n + 4) := hx1227.trans (nI_add n 4)
  refine va_sld X.hx X.hb hXs hbl hbA hS (vp_in_nI (by omega) (by omega)) dL_law_810 ?_
  refine lv_topi (fun x1228 hx1228 => ?_)
  obtain rfl : x1228 = xs (n + 4) := hx1228.trans (by rw [nI_clamp (by omega)])
  refine lv_aload_n X.hx X.hb dL_law_811 rfl (lv_at hl 3 rfl) ?_
  refine gxWS X hl.1 hR hS 6 [.ref x, .int (xs (n + 1)), .int (xs (n + 2)), .int (xs (n + 3)), .int (xs (n + 4)), .ref o] [] (w_value l Γ G hst hW hX hC ho) q725 q726 q35 q727 rfl rfl ⟨by decide +kernel, by decide +kernel, by decide +kernel⟩ ⟨by (try dsimp only [RM]); omega, by (try dsimp only [RM]); omega⟩ rfl rfl (Nat.le_of_ble_eq_true rfl) dL_law_812 ⟨by (try dsimp only [RM]); omega, by (try dsimp only [RM]); omega⟩ (fun E1234 ce q9 G9 H locs hq9 hR9 hS9 hce hcv hcl => ?_) (fun v1232 G1233 H locs hq1229 hR1230 hS1231 => ?_)
  · exact hq9.elim
  · obtain ⟨hcr, hgo⟩ := hq1229
    rcases hcr with ⟨hk0, rfl, ⟨A1, hX1⟩, fL1, ho1, hfL⟩ | ⟨hk0, rfl, ⟨A1, hX1⟩, fL1, ho1⟩
    · have hM1 : MP Γ G1233 u σ th B := hM.keep hgo (fun t ht => TXo_m ht)
      have hC1 := hC.keep hgo (fun t ht => TXo_50 ht)
      have hm1 := hM1.1
      refine lv_istore (lv' := [(5, .int 0), (0, .ref b), (1, .ref x), (2, .ref u), (3, .ref o), (4, .int (nI n))]) X.hx X.hb dL_law_815 hl (by decide) rfl (fun ls hl => ?_)
      refine lv_aload_n X.hx X.hb dL_law_817 rfl (lv_at hl 3 rfl) ?_
      refine lv_aload_n X.hx X.hb dL_law_818 rfl (lv_at hl 1 rfl) ?_
      refine lv_iload X.hx X.hb dL_law_819 (lv_at hl 5 rfl) ?_
      refine lv_iconst (v := 1) X.hx X.hb dL_law_821 (by decide) ?_
      refine lv_iadd X.hx X.hb dL_law_822 ?_
      refine lv_topi (fun x1235 hx1235 => ?_)
      obtain rfl : x1235 = nI (n + 1) := hx1235.trans (nI_add n 1)
      refine va_sld X.hx X.hb hXs hbl hbA hS1231 (vp_in_nI (by omega) (by omega)) dL_law_823 ?_
      refine lv_topi (fun x1236 hx1236 => ?_)
      obtain rfl : x1236 = xs (n + 1) := hx1236.trans (by rw [nI_clamp (by omega)])
      refine lv_aload_n X.hx X.hb dL_law_824 rfl (lv_at hl 1 rfl) ?_
      refine lv_iload X.hx X.hb dL_law_825 (lv_at hl 5 rfl) ?_
      refine lv_iconst (v := 2) X.hx X.hb dL_law_827 (by decide) ?_
      refine lv_iadd X.hx X.hb dL_law_828 ?_
      refine lv_topi (fun x1237 hx1237 => ?_)
      obtain rfl : x1237 = nI (n + 2) := hx1237.trans (nI_add n 2)
      refine va_sld X.hx X.hb hXs hbl hbA hS1231 (vp_in_nI (by omega) (by omega)) dL_law_829 ?_
      refine lv_topi (fun x1238 hx1238 => ?_)
      obtain rfl : x1238 = xs (n + 2) := hx1238.trans (by rw [nI_clamp (by omega)])
      refine lv_aload_n X.hx X.hb dL_law_830 rfl (lv_at hl 1 rfl) ?_
      refine lv_iload X.hx X.hb dL_law_831 (lv_at hl 5 rfl) ?_
      refine lv_iconst (v := 3) X.hx X.hb dL_law_833 (by decide) ?_
      refine lv_iadd X.hx X.hb dL_law_834 ?_
      refine lv_topi (fun x1239 hx1239 => ?_)
      obtain rfl : x1239 = nI (n + 3) := hx1239.trans (nI_add n 3)
      refine va_sld X.hx X.hb hXs hbl hbA hS1231 (vp_in_nI (by omega) (by omega)) dL_law_835 ?_
      refine lv_topi (fun x1240 hx1240 => ?_)
      obtain rfl : x1240 = xs (n + 3) := hx1240.trans (by rw [nI_clamp (by omega)])
      refine lv_aload_n X.hx X.hb dL_law_836 rfl (lv_at hl 1 rfl) ?_
      refine lv_iload X.hx X.hb dL_law_837 (lv_at hl 5 rfl) ?_
      refine lv_iconst (v := 4) X.hx X.hb dL_law_839 (by decide) ?_
      refine lv_iadd X.hx X.hb dL_law_840 ?_
      refine lv_topi (fun x1241 hx1241 => ?_)
      obtain rfl : x1241 = nI (n + 4) := hx1241.trans (nI_add n 4)
      refine va_sld X.hx X.hb hXs hbl hbA hS1231 (vp_in_nI (by omega) (by omega)) dL_law_841 ?_
      refine lv_topi (fun x1242 hx1242 => ?_)
      obtain rfl : x1242 = xs (n + 4) := hx1242.trans (by rw [nI_clamp (by omega)])
      refine gcV X hl.1 hR1230 hS1231 4 [.int (xs (n + 1)), .int (xs (n + 2)), .int (xs (n + 3)), .int (xs (n + 4))] [] (m_value l Γ G1233 hW hM1) hm1 rfl q1433 q1434 q1435 q40 q1436 rfl rfl ⟨rfl, by decide +kernel, by decide +kernel, by decide +kernel⟩ ⟨by (try dsimp only [RM]); omega, by (try dsimp only [RM]); omega⟩ rfl rfl (Nat.le_of_ble_eq_true rfl) dL_law_842 ⟨by (try dsimp only [RM]); omega, by (try dsimp only [RM]); omega⟩ (fun v1246 G1247 H locs hq1243 hR1244 hS1245 => ?_)
      obtain ⟨hmr, hgm⟩ := hq1243
      rcases hmr with ⟨hj0, rfl, hM2⟩ | ⟨hj0, ⟨w9, rfl⟩, hM2⟩
      · have hX2 := hX1.tm hgm
        have hC2 := hC1.keep hgm (fun t ht => Nat.lt_trans ht.2 (by decide))
        have ho2 := hgm _ _ ho1 (fun h9 => absurd h9.2 (by show ¬ 40 < 40; decide))
        have hm2 := hM2.1
        refine lv_istore (lv' := [(6, .int ((Fk σ (xs (n + 1)).toNatClampNeg (xs (n + 4)) (100 * ((xs (n + 3)).toInt.toNat + 1))).1 (xs (n + 2)).toNatClampNeg)), (5, .int 0), (0, .ref b), (1, .ref x), (2, .ref u), (3, .ref o), (4, .int (nI n))]) X.hx X.hb dL_law_845 hl (by decide) rfl (fun ls hl => ?_)
        refine lv_aload_n X.hx X.hb dL_law_847 rfl (lv_at hl 4 rfl) ?_
        refine gcV X hl.1 hR1244 hS1245 0 [] [] (m_thrown9 l Γ G1247 hM2) hm2 rfl q1360 q1361 q1362 q40 q1363 rfl rfl ⟨rfl, by decide +kernel, by decide +kernel, by decide +kernel⟩ ⟨by (try dsimp only [RM]); omega, by (try dsimp only [RM]); omega⟩ rfl rfl (Nat.le_of_ble_eq_true rfl) dL_law_848 ⟨by (try dsimp only [RM]); omega, by (try dsimp only [RM]); omega⟩ (fun v1251 G1252 H locs hq1248 hR1249 hS1250 => ?_)
        obtain ⟨rfl, rfl⟩ := hq1248
        refine lv_iload X.hx X.hb dL_law_851 (lv_at hl 1 rfl) ?_
        refine lv_icmp_eq (tgt := 858) X.hx X.hb dL_law_853 (by decide) (fun c853 => ?_) (fun c853 => ?_)
        · refine lv_iload X.hx X.hb dL_law_858 (lv_at hl 1 rfl) ?_
          refine lv_if_ne (tgt := 875) X.hx X.hb dL_law_860 (by decide) (fun c860 => ?_) (fun c860 => ?_)
          · exact absurd rfl c860
          · refine lv_aload_n X.hx X.hb dL_law_863 rfl (lv_at hl 5 rfl) ?_
            refine lv_iconst (v := 0) X.hx X.hb dL_law_864 (by decide) ?_
            refine g_lald (v := ((Fk σ (xs (n + 1)).toNatClampNeg (xs (n + 4)) (100 * ((xs (n + 3)).toInt.toNat + 1))).1 (xs (n + 2)).toNatClampNeg).toInt64) X hR1249 ho2 (vp_in_nI (n := 0) (by decide) (by decide)) hfL dL_law_865 ?_
            refine lv_iload X.hx X.hb dL_law_866 (lv_at hl 0 rfl) ?_
            refine lv_i2l X.hx X.hb dL_law_868 rfl ?_
            refine W.lcmp X.hx X.hb dL_law_869 ?_
            refine lv_if_eq (tgt := 875) X.hx X.hb dL_law_870 (by decide) (fun c870 => ?_) (fun c870 => ?_)
            · refine lv_goto (tgt := 1521) X.hx X.hb dL_law_875 (by decide) ?_
              exact kk _ _ _ _ _ (Or.inr ⟨hk0, rfl⟩) ⟨⟨_, hX2⟩, ⟨_, _, hM2⟩, hC2, _, ho2⟩ hR1249 hS1250 (lv_sub hl [2, 3, 4, 5, 6] rfl)
            · exact absurd ((lg_cmp_eq _ _).mpr rfl) c870
        · exact absurd (by decide) c853
      · exact absurd hk0 hj0
    · have hM1 : MP Γ G1233 u σ th B := hM.keep hgo (fun t ht => TXo_m ht)
      have hC1 := hC.keep hgo (fun t ht => TXo_50 ht)
      have hm1 := hM1.1
      refine lv_istore (lv' := [(5, .int (kV σ (xs (n + 1)) (xs (n + 2)) (xs (n + 3)) (xs (n + 4)))), (0, .ref b), (1, .ref x), (2, .ref u), (3, .ref o), (4, .int (nI n))]) X.hx X.hb dL_law_815 hl (by decide) rfl (fun ls hl => ?_)
      refine lv_aload_n X.hx X.hb dL_law_817 rfl (lv_at hl 3 rfl) ?_
      refine lv_aload_n X.hx X.hb dL_law_818 rfl (lv_at hl 1 rfl) ?_
      refine lv_iload X.hx X.hb dL_law_819 (lv_at hl 5 rfl) ?_
      refine lv_iconst (v := 1) X.hx X.hb dL_law_821 (by decide) ?_
      refine lv_iadd X.hx X.hb dL_law_822 ?_
      refine lv_topi (fun x1253 hx1253 => ?_)
      obtain rfl : x1253 = nI (n + 1) := hx1253.trans (nI_add n 1)
      refine va_sld X.hx X.hb hXs hbl hbA hS1231 (vp_in_nI (by omega) (by omega)) dL_law_823 ?_
      refine lv_topi (fun x1254 hx1254 => ?_)
      obtain rfl : x1254 = xs (n + 1) := hx1254.trans (by rw [nI_clamp (by omega)])
      refine lv_aload_n X.hx X.hb dL_law_824 rfl (lv_at hl 1 rfl) ?_
      refine lv_iload X.hx X.hb dL_law_825 (lv_at hl 5 rfl) ?_
      refine lv_iconst (v := 2) X.hx X.hb dL_law_827 (by decide) ?_
      refine lv_iadd X.hx X.hb dL_law_828 ?_
      refine lv_topi (fun x1255 hx1255 => ?_)
      obtain rfl : x1255 = nI (n + 2) := hx1255.trans (nI_add n 2)
      refine va_sld X.hx X.hb hXs hbl hbA hS1231 (vp_in_nI (by omega) (by omega)) dL_law_829 ?_
      refine lv_topi (fun x1256 hx1256 => ?_)
      obtain rfl : x1256 = xs (n + 2) := hx1256.trans (by rw [nI_clamp (by omega)])
      refine lv_aload_n X.hx X.hb dL_law_830 rfl (lv_at hl 1 rfl) ?_
      refine lv_iload X.hx X.hb dL_law_831 (lv_at hl 5 rfl) ?_
      refine lv_iconst (v := 3) X.hx X.hb dL_law_833 (by decide) ?_
      refine lv_iadd X.hx X.hb dL_law_834 ?_
      refine lv_topi (fun x1257 hx1257 => ?_)
      obtain rfl : x1257 = nI (n + 3) := hx1257.trans (nI_add n 3)
      refine va_sld X.hx X.hb hXs hbl hbA hS1231 (vp_in_nI (by omega) (by omega)) dL_law_835 ?_
      refine lv_topi (fun x1258 hx1258 => ?_)
      obtain rfl : x1258 = xs (n + 3) := hx1258.trans (by rw [nI_clamp (by omega)])
      refine lv_aload_n X.hx X.hb dL_law_836 rfl (lv_at hl 1 rfl) ?_
      refine lv_iload X.hx X.hb dL_law_837 (lv_at hl 5 rfl) ?_
      refine lv_iconst (v := 4) X.hx X.hb dL_law_839 (by decide) ?_
      refine lv_iadd X.hx X.hb dL_law_840 ?_
      refine lv_topi (fun x1259 hx1259 => ?_)
      obtain rfl : x1259 = nI (n + 4) := hx1259.trans (nI_add n 4)
      refine va_sld X.hx X.hb hXs hbl hbA hS1231 (vp_in_nI (by omega) (by omega)) dL_law_841 ?_
      refine lv_topi (fun x1260 hx1260 => ?_)
      obtain rfl : x1260 = xs (n + 4) := hx1260.trans (by rw [nI_clamp (by omega)])
      refine gcV X hl.1 hR1230 hS1231 4 [.int (xs (n + 1)), .int (xs (n + 2)), .int (xs (n + 3)), .int (xs (n + 4))] [] (m_value l Γ G1233 hW hM1) hm1 rfl q1433 q1434 q1435 q40 q1436 rfl rfl ⟨rfl, by decide +kernel, by decide +kernel, by decide +kernel⟩ ⟨by (try dsimp only [RM]); omega, by (try dsimp only [RM]); omega⟩ rfl rfl (Nat.le_of_ble_eq_true rfl) dL_law_842 ⟨by (try dsimp only [RM]); omega, by (try dsimp only [RM]); omega⟩ (fun v1264 G1265 H locs hq1261 hR1262 hS1263 => ?_)
      obtain ⟨hmr, hgm⟩ := hq1261
      rcases hmr with ⟨hj0, rfl, hM2⟩ | ⟨hj0, ⟨w9, rfl⟩, hM2⟩
      · exact absurd hj0 hk0
      · have hX2 := hX1.tm hgm
        have hC2 := hC1.keep hgm (fun t ht => Nat.lt_trans ht.2 (by decide))
        have ho2 := hgm _ _ ho1 (fun h9 => absurd h9.2 (by show ¬ 40 < 40; decide))
        have hm2 := hM2.1
        refine lv_istore (lv' := [(6, .int w9), (5, .int (kV σ (xs (n + 1)) (xs (n + 2)) (xs (n + 3)) (xs (n + 4)))), (0, .ref b), (1, .ref x), (2, .ref u), (3, .ref o), (4, .int (nI n))]) X.hx X.hb dL_law_845 hl (by decide) rfl (fun ls hl => ?_)
        refine lv_aload_n X.hx X.hb dL_law_847 rfl (lv_at hl 4 rfl) ?_
        refine gcV X hl.1 hR1262 hS1263 0 [] [] (m_thrown9 l Γ G1265 hM2) hm2 rfl q1360 q1361 q1362 q40 q1363 rfl rfl ⟨rfl, by decide +kernel, by decide +kernel, by decide +kernel⟩ ⟨by (try dsimp only [RM]); omega, by (try dsimp only [RM]); omega⟩ rfl rfl (Nat.le_of_ble_eq_true rfl) dL_law_848 ⟨by (try dsimp only [RM]); omega, by (try dsimp only [RM]); omega⟩ (fun v1269 G1270 H locs hq1266 hR1267 hS1268 => ?_)
        obtain ⟨rfl, rfl⟩ := hq1266
        refine lv_iload X.hx X.hb dL_law_851 (lv_at hl 1 rfl) ?_
        refine lv_icmp_eq (tgt := 858) X.hx X.hb dL_law_853 (by decide) (fun c853 => ?_) (fun c853 => ?_)
        · refine lv_iload X.hx X.hb dL_law_858 (lv_at hl 1 rfl) ?_
          refine lv_if_ne (tgt := 875) X.hx X.hb dL_law_860 (by decide) (fun c860 => ?_) (fun c860 => ?_)
          · refine lv_goto (tgt := 1521) X.hx X.hb dL_law_875 (by decide) ?_
            exact kk _ _ _ _ _ (Or.inl rfl) ⟨⟨_, hX2⟩, ⟨_, _, hM2⟩, hC2, _, ho2⟩ hR1267 hS1268 (lv_sub hl [2, 3, 4, 5, 6] rfl)
          · exact absurd c860 hk0
        · exact absurd rfl c853

set_option maxHeartbeats 4000000 in
theorem l_isCovered (X : Cx pp ss mm args cc0 Γ code 7 RX0) (hst : l.stackTraces = false) {b L n : Nat} {xs : Nat → Int32} (hXs : va_X b L xs ss ss.heap) (hbl : b < ss.heap.size) (hbA : ¬ gA Γ b) (hn : n + 5 ≤ L) (hL : L ≤ 320) (hRf : 100 ≤ R.frames) (hRl : 20000 ≤ R.locals) (hRc : cells + 4000 ≤ R.cells) (hRs : slots + 12000 ≤ R.slots) {x u o : Nat} {σ : MS} (hW : WF σ) (hz : σ.2 1 (σ.1 0) = 0) (hI : LSt Γ G x u o σ) (hR : Rep Γ G H) (hS : va_S (gA Γ) ss.heap H locs) (hl : lv_has ls 7 [(0, .ref b), (1, .ref x), (2, .ref u), (3, .ref o), (4, .int (nI n))])
    (kk : ∀ (τ1 : MS) (G1 : GH) (H1 : Heap) (locs1 : List Loc) (ls1 : Array Slot), (τ1 = σ ∨ (kV σ (xs (n + 1)) 0 (xs (n + 2)) (xs (n + 3)) = 0 ∧ τ1 = σ)) → LSt Γ G1 x u o τ1 → Rep Γ G1 H1 → va_S (gA Γ) ss.heap H1 locs1 → lv_has ls1 7 [(0, .ref b), (1, .ref x), (2, .ref u), (3, .ref o), (4, .int (nI n))] → W pp l ee R ss mm args below meth cc0 H1 locs1 (cells + 4000) (slots + 12000) Q (F0 mm 1521 ls1 [])) :
    W pp l ee R ss mm args below meth cc0 H locs cells slots Q (F0 mm 878 ls []) := by
  obtain ⟨⟨A, hX⟩, ⟨B, th, hM⟩, hC, fL, ho⟩ := hI
  obtain ⟨⟨rf, hx, -⟩, -⟩ := id hX
  have hm := hM.1
  refine lv_aload_n X.hx X.hb dL_law_878 rfl (lv_at hl 1 rfl) ?_
  refine lv_aload_n X.hx X.hb dL_law_879 rfl (lv_at hl 0 rfl) ?_
  refine lv_iload X.hx X.hb dL_law_880 (lv_at hl 4 rfl) ?_
  refine lv_iconst (v := 1) X.hx X.hb dL_law_882 (by decide) ?_
  refine lv_iadd X.hx X.hb dL_law_883 ?_
  refine lv_topi (fun x1271 hx1271 => ?_)
  obtain rfl : x1271 = nI (n + 1) := hx1271.trans (nI_add n 1)
  refine va_sld X.hx X.hb hXs hbl hbA hS (vp_in_nI (by omega) (by omega)) dL_law_884 ?_
  refine lv_topi (fun x1272 hx1272 => ?_)
  obtain rfl : x1272 = xs (n + 1) := hx1272.trans (by rw [nI_clamp (by omega)])
  refine lv_aload_n X.hx X.hb dL_law_885 rfl (lv_at hl 0 rfl) ?_
  refine lv_iload X.hx X.hb dL_law_886 (lv_at hl 4 rfl) ?_
  refine lv_iconst (v := 2) X.hx X.hb dL_law_888 (by decide) ?_
  refine lv_iadd X.hx X.hb dL_law_889 ?_
  refine lv_topi (fun x1273 hx1273 => ?_)
  obtain rfl : x1273 = nI (n + 2) := hx1273.trans (nI_add n 2)
  refine va_sld X.hx X.hb hXs hbl hbA hS (vp_in_nI (by omega) (by omega)) dL_law_890 ?_
  refine lv_topi (fun x1274 hx1274 => ?_)
  obtain rfl : x1274 = xs (n + 2) := hx1274.trans (by rw [nI_clamp (by omega)])
  refine lv_aload_n X.hx X.hb dL_law_891 rfl (lv_at hl 0 rfl) ?_
  refine lv_iload X.hx X.hb dL_law_892 (lv_at hl 4 rfl) ?_
  refine lv_iconst (v := 3) X.hx X.hb dL_law_894 (by decide) ?_
  refine lv_iadd X.hx X.hb dL_law_895 ?_
  refine lv_topi (fun x1275 hx1275 => ?_)
  obtain rfl : x1275 = nI (n + 3) := hx1275.trans (nI_add n 3)
  refine va_sld X.hx X.hb hXs hbl hbA hS (vp_in_nI (by omega) (by omega)) dL_law_896 ?_
  refine lv_topi (fun x1276 hx1276 => ?_)
  obtain rfl : x1276 = xs (n + 3) := hx1276.trans (by rw [nI_clamp (by omega)])
  refine lv_aload_n X.hx X.hb dL_law_897 rfl (lv_at hl 3 rfl) ?_
  refine gxWS X hl.1 hR hS 5 [.ref x, .int (xs (n + 1)), .int (xs (n + 2)), .int (xs (n + 3)), .ref o] [] (w_isCovered l Γ G hst hW hX hC ho) q1167 q1168 q35 q1169 rfl rfl ⟨by decide +kernel, by decide +kernel, by decide +kernel⟩ ⟨by (try dsimp only [RM]); omega, by (try dsimp only [RM]); omega⟩ rfl rfl (Nat.le_of_ble_eq_true rfl) dL_law_898 ⟨by (try dsimp only [RM]); omega, by (try dsimp only [RM]); omega⟩ (fun E1282 ce q9 G9 H locs hq9 hR9 hS9 hce hcv hcl => ?_) (fun v1280 G1281 H locs hq1277 hR1278 hS1279 => ?_)
  · exact hq9.elim
  · obtain ⟨hcr, hgo⟩ := hq1277
    rcases hcr with ⟨hk0, rfl, ⟨A1, hX1⟩, fL1, ho1, hfL⟩ | ⟨hk0, rfl, ⟨A1, hX1⟩, fL1, ho1⟩
    · have hM1 : MP Γ G1281 u σ th B := hM.keep hgo (fun t ht => TXo_m ht)
      have hC1 := hC.keep hgo (fun t ht => TXo_50 ht)
      have hm1 := hM1.1
      refine lv_istore (lv' := [(5, .int 0), (0, .ref b), (1, .ref x), (2, .ref u), (3, .ref o), (4, .int (nI n))]) X.hx X.hb dL_law_901 hl (by decide) rfl (fun ls hl => ?_)
      refine lv_aload_n X.hx X.hb dL_law_903 rfl (lv_at hl 3 rfl) ?_
      refine lv_aload_n X.hx X.hb dL_law_904 rfl (lv_at hl 1 rfl) ?_
      refine lv_iload X.hx X.hb dL_law_905 (lv_at hl 5 rfl) ?_
      refine lv_iconst (v := 1) X.hx X.hb dL_law_907 (by decide) ?_
      refine lv_iadd X.hx X.hb dL_law_908 ?_
      refine lv_topi (fun x1283 hx1283 => ?_)
      obtain rfl : x1283 = nI (n + 1) := hx1283.trans (nI_add n 1)
      refine va_sld X.hx X.hb hXs hbl hbA hS1279 (vp_in_nI (by omega) (by omega)) dL_law_909 ?_
      refine lv_topi (fun x1284 hx1284 => ?_)
      obtain rfl : x1284 = xs (n + 1) := hx1284.trans (by rw [nI_clamp (by omega)])
      refine lv_aload_n X.hx X.hb dL_law_910 rfl (lv_at hl 1 rfl) ?_
      refine lv_iload X.hx X.hb dL_law_911 (lv_at hl 5 rfl) ?_
      refine lv_iconst (v := 2) X.hx X.hb dL_law_913 (by decide) ?_
      refine lv_iadd X.hx X.hb dL_law_914 ?_
      refine lv_topi (fun x1285 hx1285 => ?_)
      obtain rfl : x1285 = nI (n + 2) := hx1285.trans (nI_add n 2)
      refine va_sld X.hx X.hb hXs hbl hbA hS1279 (vp_in_nI (by omega) (by omega)) dL_law_915 ?_
      refine lv_topi (fun x1286 hx1286 => ?_)
      obtain rfl : x1286 = xs (n + 2) := hx1286.trans (by rw [nI_clamp (by omega)])
      refine lv_aload_n X.hx X.hb dL_law_916 rfl (lv_at hl 1 rfl) ?_
      refine lv_iload X.hx X.hb dL_law_917 (lv_at hl 5 rfl) ?_
      refine lv_iconst (v := 3) X.hx X.hb dL_law_919 (by decide) ?_
      refine lv_iadd X.hx X.hb dL_law_920 ?_
      refine lv_topi (fun x1287 hx1287 => ?_)
      obtain rfl : x1287 = nI (n + 3) := hx1287.trans (nI_add n 3)
      refine va_sld X.hx X.hb hXs hbl hbA hS1279 (vp_in_nI (by omega) (by omega)) dL_law_921 ?_
      refine lv_topi (fun x1288 hx1288 => ?_)
      obtain rfl : x1288 = xs (n + 3) := hx1288.trans (by rw [nI_clamp (by omega)])
      refine gcV X hl.1 hR1278 hS1279 3 [.int (xs (n + 1)), .int (xs (n + 2)), .int (xs (n + 3))] [] (m_isCovered l Γ G1281 hW hM1) hm1 rfl q1452 q1453 q1454 q40 q1455 rfl rfl ⟨rfl, by decide +kernel, by decide +kernel, by decide +kernel⟩ ⟨by (try dsimp only [RM]); omega, by (try dsimp only [RM]); omega⟩ rfl rfl (Nat.le_of_ble_eq_true rfl) dL_law_922 ⟨by (try dsimp only [RM]); omega, by (try dsimp only [RM]); omega⟩ (fun v1292 G1293 H locs hq1289 hR1290 hS1291 => ?_)
      obtain ⟨hmr, hgm⟩ := hq1289
      rcases hmr with ⟨hj0, rfl, hM2⟩ | ⟨hj0, ⟨w9, rfl⟩, hM2⟩
      · have hX2 := hX1.tm hgm
        have hC2 := hC1.keep hgm (fun t ht => Nat.lt_trans ht.2 (by decide))
        have ho2 := hgm _ _ ho1 (fun h9 => absurd h9.2 (by show ¬ 40 < 40; decide))
        have hm2 := hM2.1
        refine lv_istore (lv' := [(6, .int ((Fk σ (xs (n + 1)).toNatClampNeg (xs (n + 3)) (100 * ((xs (n + 2)).toInt.toNat + 1))).2)), (5, .int 0), (0, .ref b), (1, .ref x), (2, .ref u), (3, .ref o), (4, .int (nI n))]) X.hx X.hb dL_law_925 hl (by decide) rfl (fun ls hl => ?_)
        refine lv_aload_n X.hx X.hb dL_law_927 rfl (lv_at hl 4 rfl) ?_
        refine gcV X hl.1 hR1290 hS1291 0 [] [] (m_thrown9 l Γ G1293 hM2) hm2 rfl q1360 q1361 q1362 q40 q1363 rfl rfl ⟨rfl, by decide +kernel, by decide +kernel, by decide +kernel⟩ ⟨by (try dsimp only [RM]); omega, by (try dsimp only [RM]); omega⟩ rfl rfl (Nat.le_of_ble_eq_true rfl) dL_law_928 ⟨by (try dsimp only [RM]); omega, by (try dsimp only [RM]); omega⟩ (fun v1297 G1298 H locs hq1294 hR1295 hS1296 => ?_)
        obtain ⟨rfl, rfl⟩ := hq1294
        refine lv_iload X.hx X.hb dL_law_931 (lv_at hl 1 rfl) ?_
        refine lv_icmp_eq (tgt := 938) X.hx X.hb dL_law_933 (by decide) (fun c933 => ?_) (fun c933 => ?_)
        · refine lv_iload X.hx X.hb dL_law_938 (lv_at hl 1 rfl) ?_
          refine lv_if_ne (tgt := 962) X.hx X.hb dL_law_940 (by decide) (fun c940 => ?_) (fun c940 => ?_)
          · exact absurd rfl c940
          · refine lv_aload_n X.hx X.hb dL_law_943 rfl (lv_at hl 5 rfl) ?_
            refine lv_iconst (v := 0) X.hx X.hb dL_law_944 (by decide) ?_
            refine g_lald (v := ((Fk σ (xs (n + 1)).toNatClampNeg (xs (n + 3)) (100 * ((xs (n + 2)).toInt.toNat + 1))).2).toInt64) X hR1295 ho2 (vp_in_nI (n := 0) (by decide) (by decide)) hfL dL_law_945 ?_
            refine lv_iload X.hx X.hb dL_law_946 (lv_at hl 0 rfl) ?_
            refine lv_if_eq (tgt := 955) X.hx X.hb dL_law_948 (by decide) (fun c948 => ?_) (fun c948 => ?_)
            · refine lv_lconst (v := 0) X.hx X.hb dL_law_955 rfl ?_
              refine W.lcmp X.hx X.hb dL_law_956 ?_
              refine lv_if_eq (tgt := 962) X.hx X.hb dL_law_957 (by decide) (fun c957 => ?_) (fun c957 => ?_)
              · refine lv_goto (tgt := 1521) X.hx X.hb dL_law_962 (by decide) ?_
                exact kk _ _ _ _ _ (Or.inr ⟨hk0, rfl⟩) ⟨⟨_, hX2⟩, ⟨_, _, hM2⟩, hC2, _, ho2⟩ hR1295 hS1296 (lv_sub hl [2, 3, 4, 5, 6] rfl)
              · exact absurd ((lg_cmp_eq _ _).mpr (by rw [c948]; rfl)) c957
            · refine lv_lconst (v := 1) X.hx X.hb dL_law_951 rfl ?_
              refine lv_goto (tgt := 956) X.hx X.hb dL_law_952 (by decide) ?_
              refine W.lcmp X.hx X.hb dL_law_956 ?_
              refine lv_if_eq (tgt := 962) X.hx X.hb dL_law_957 (by decide) (fun c957 => ?_) (fun c957 => ?_)
              · refine lv_goto (tgt := 1521) X.hx X.hb dL_law_962 (by decide) ?_
                exact kk _ _ _ _ _ (Or.inr ⟨hk0, rfl⟩) ⟨⟨_, hX2⟩, ⟨_, _, hM2⟩, hC2, _, ho2⟩ hR1295 hS1296 (lv_sub hl [2, 3, 4, 5, 6] rfl)
              · exact absurd ((lg_cmp_eq _ _).mpr (by rw [(Fk_on _).resolve_left c948]; rfl)) c957
        · exact absurd (by decide) c933
      · exact absurd hk0 hj0
    · have hM1 : MP Γ G1281 u σ th B := hM.keep hgo (fun t ht => TXo_m ht)
      have hC1 := hC.keep hgo (fun t ht => TXo_50 ht)
      have hm1 := hM1.1
      refine lv_istore (lv' := [(5, .int (kV σ (xs (n + 1)) 0 (xs (n + 2)) (xs (n + 3)))), (0, .ref b), (1, .ref x), (2, .ref u), (3, .ref o), (4, .int (nI n))]) X.hx X.hb dL_law_901 hl (by decide) rfl (fun ls hl => ?_)
      refine lv_aload_n X.hx X.hb dL_law_903 rfl (lv_at hl 3 rfl) ?_
      refine lv_aload_n X.hx X.hb dL_law_904 rfl (lv_at hl 1 rfl) ?_
      refine lv_iload X.hx X.hb dL_law_905 (lv_at hl 5 rfl) ?_
      refine lv_iconst (v := 1) X.hx X.hb dL_law_907 (by decide) ?_
      refine lv_iadd X.hx X.hb dL_law_908 ?_
      refine lv_topi (fun x1299 hx1299 => ?_)
      obtain rfl : x1299 = nI (n + 1) := hx1299.trans (nI_add n 1)
      refine va_sld X.hx X.hb hXs hbl hbA hS1279 (vp_in_nI (by omega) (by omega)) dL_law_909 ?_
      refine lv_topi (fun x1300 hx1300 => ?_)
      obtain rfl : x1300 = xs (n + 1) := hx1300.trans (by rw [nI_clamp (by omega)])
      refine lv_aload_n X.hx X.hb dL_law_910 rfl (lv_at hl 1 rfl) ?_
      refine lv_iload X.hx X.hb dL_law_911 (lv_at hl 5 rfl) ?_
      refine lv_iconst (v := 2) X.hx X.hb dL_law_913 (by decide) ?_
      refine lv_iadd X.hx X.hb dL_law_914 ?_
      refine lv_topi (fun x1301 hx1301 => ?_)
      obtain rfl : x1301 = nI (n + 2) := hx1301.trans (nI_add n 2)
      refine va_sld X.hx X.hb hXs hbl hbA hS1279 (vp_in_nI (by omega) (by omega)) dL_law_915 ?_
      refine lv_topi (fun x1302 hx1302 => ?_)
      obtain rfl : x1302 = xs (n + 2) := hx1302.trans (by rw [nI_clamp (by omega)])
      refine lv_aload_n X.hx X.hb dL_law_916 rfl (lv_at hl 1 rfl) ?_
      refine lv_iload X.hx X.hb dL_law_917 (lv_at hl 5 rfl) ?_
      refine lv_iconst (v := 3) X.hx X.hb dL_law_919 (by decide) ?_
      refine lv_iadd X.hx X.hb dL_law_920 ?_
      refine lv_topi (fun x1303 hx1303 => ?_)
      obtain rfl : x1303 = nI (n + 3) := hx1303.trans (nI_add n 3)
      refine va_sld X.hx X.hb hXs hbl hbA hS1279 (vp_in_nI (by omega) (by omega)) dL_law_921 ?_
      refine lv_topi (fun x1304 hx1304 => ?_)
      obtain rfl : x1304 = xs (n + 3) := hx1304.trans (by rw [nI_clamp (by omega)])
      refine gcV X hl.1 hR1278 hS1279 3 [.int (xs (n + 1)), .int (xs (n + 2)), .int (xs (n + 3))] [] (m_isCovered l Γ G1281 hW hM1) hm1 rfl q1452 q1453 q1454 q40 q1455 rfl rfl ⟨rfl, by decide +kernel, by decide +kernel, by decide +kernel⟩ ⟨by (try dsimp only [RM]); omega, by (try dsimp only [RM]); omega⟩ rfl rfl (Nat.le_of_ble_eq_true rfl) dL_law_922 ⟨by (try dsimp only [RM]); omega, by (try dsimp only [RM]); omega⟩ (fun v1308 G1309 H locs hq1305 hR1306 hS1307 => ?_)
      obtain ⟨hmr, hgm⟩ := hq1305
      rcases hmr with ⟨hj0, rfl, hM2⟩ | ⟨hj0, ⟨w9, rfl⟩, hM2⟩
      · exact absurd hj0 hk0
      · have hX2 := hX1.tm hgm
        have hC2 := hC1.keep hgm (fun t ht => Nat.lt_trans ht.2 (by decide))
        have ho2 := hgm _ _ ho1 (fun h9 => absurd h9.2 (by show ¬ 40 < 40; decide))
        have hm2 := hM2.1
        refine lv_istore (lv' := [(6, .int w9), (5, .int (kV σ (xs (n + 1)) 0 (xs (n + 2)) (xs (n + 3)))), (0, .ref b), (1, .ref x), (2, .ref u), (3, .ref o), (4, .int (nI n))]) X.hx X.hb dL_law_925 hl (by decide) rfl (fun ls hl => ?_)
        refine lv_aload_n X.hx X.hb dL_law_927 rfl (lv_at hl 4 rfl) ?_
        refine gcV X hl.1 hR1306 hS1307 0 [] [] (m_thrown9 l Γ G1309 hM2) hm2 rfl q1360 q1361 q1362 q40 q1363 rfl rfl ⟨rfl, by decide +kernel, by decide +kernel, by decide +kernel⟩ ⟨by (try dsimp only [RM]); omega, by (try dsimp only [RM]); omega⟩ rfl rfl (Nat.le_of_ble_eq_true rfl) dL_law_928 ⟨by (try dsimp only [RM]); omega, by (try dsimp only [RM]); omega⟩ (fun v1313 G1314 H locs hq1310 hR1311 hS1312 => ?_)
        obtain ⟨rfl, rfl⟩ := hq1310
        refine lv_iload X.hx X.hb dL_law_931 (lv_at hl 1 rfl) ?_
        refine lv_icmp_eq (tgt := 938) X.hx X.hb dL_law_933 (by decide) (fun c933 => ?_) (fun c933 => ?_)
        · refine lv_iload X.hx X.hb dL_law_938 (lv_at hl 1 rfl) ?_
          refine lv_if_ne (tgt := 962) X.hx X.hb dL_law_940 (by decide) (fun c940 => ?_) (fun c940 => ?_)
          · refine lv_goto (tgt := 1521) X.hx X.hb dL_law_962 (by decide) ?_
            exact kk _ _ _ _ _ (Or.inl rfl) ⟨⟨_, hX2⟩, ⟨_, _, hM2⟩, hC2, _, ho2⟩ hR1311 hS1312 (lv_sub hl [2, 3, 4, 5, 6] rfl)
          · exact absurd c940 hk0
        · exact absurd rfl c933

set_option maxHeartbeats 4000000 in
theorem l_rate (X : Cx pp ss mm args cc0 Γ code 7 RX0) (hst : l.stackTraces = false) {b L n : Nat} {xs : Nat → Int32} (hXs : va_X b L xs ss ss.heap) (hbl : b < ss.heap.size) (hbA : ¬ gA Γ b) (hn : n + 5 ≤ L) (hL : L ≤ 320) (hRf : 100 ≤ R.frames) (hRl : 20000 ≤ R.locals) (hRc : cells + 4000 ≤ R.cells) (hRs : slots + 12000 ≤ R.slots) {x u o : Nat} {σ : MS} (hW : WF σ) (hz : σ.2 1 (σ.1 0) = 0) (hI : LSt Γ G x u o σ) (hR : Rep Γ G H) (hS : va_S (gA Γ) ss.heap H locs) (hl : lv_has ls 7 [(0, .ref b), (1, .ref x), (2, .ref u), (3, .ref o), (4, .int (nI n))])
    (kk : ∀ (τ1 : MS) (G1 : GH) (H1 : Heap) (locs1 : List Loc) (ls1 : Array Slot), (τ1 = σ ∨ (kV σ (xs (n + 1)) 0 (xs (n + 2)) (xs (n + 3)) = 0 ∧ τ1 = σ)) → LSt Γ G1 x u o τ1 → Rep Γ G1 H1 → va_S (gA Γ) ss.heap H1 locs1 → lv_has ls1 7 [(0, .ref b), (1, .ref x), (2, .ref u), (3, .ref o), (4, .int (nI n))] → W pp l ee R ss mm args below meth cc0 H1 locs1 (cells + 4000) (slots + 12000) Q (F0 mm 1521 ls1 [])) :
    W pp l ee R ss mm args below meth cc0 H locs cells slots Q (F0 mm 965 ls []) := by
  obtain ⟨⟨A, hX⟩, ⟨B, th, hM⟩, hC, fL, ho⟩ := hI
  obtain ⟨⟨rf, hx, -⟩, -⟩ := id hX
  have hm := hM.1
  refine lv_aload_n X.hx X.hb dL_law_965 rfl (lv_at hl 1 rfl) ?_
  refine lv_aload_n X.hx X.hb dL_law_966 rfl (lv_at hl 0 rfl) ?_
  refine lv_iload X.hx X.hb dL_law_967 (lv_at hl 4 rfl) ?_
  refine lv_iconst (v := 1) X.hx X.hb dL_law_969 (by decide) ?_
  refine lv_iadd X.hx X.hb dL_law_970 ?_
  refine lv_topi (fun x1315 hx1315 => ?_)
  obtain rfl : x1315 = nI (n + 1) := hx1315.trans (nI_add n 1)
  refine va_sld X.hx X.hb hXs hbl hbA hS (vp_in_nI (by omega) (by omega)) dL_law_971 ?_
  refine lv_topi (fun x1316 hx1316 => ?_)
  obtain rfl : x1316 = xs (n + 1) := hx1316.trans (by rw [nI_clamp (by omega)])
  refine lv_aload_n X.hx X.hb dL_law_972 rfl (lv_at hl 0 rfl) ?_
  refine lv_iload X.hx X.hb dL_law_973 (lv_at hl 4 rfl) ?_
  refine lv_iconst (v := 2) X.hx X.hb dL_law_975 (by decide) ?_
  refine lv_iadd X.hx X.hb dL_law_976 ?_
  refine lv_topi (fun x1317 hx1317 => ?_)
  obtain rfl : x1317 = nI (n + 2) := hx1317.trans (nI_add n 2)
  refine va_sld X.hx X.hb hXs hbl hbA hS (vp_in_nI (by omega) (by omega)) dL_law_977 ?_
  refine lv_topi (fun x1318 hx1318 => ?_)
  obtain rfl : x1318 = xs (n + 2) := hx1318.trans (by rw [nI_clamp (by omega)])
  refine lv_aload_n X.hx X.hb dL_law_978 rfl (lv_at hl 0 rfl) ?_
  refine lv_iload X.hx X.hb dL_law_979 (lv_at hl 4 rfl) ?_
  refine lv_iconst (v := 3) X.hx X.hb dL_law_981 (by decide) ?_
  refine lv_iadd X.hx X.hb dL_law_982 ?_
  refine lv_topi (fun x1319 hx1319 => ?_)
  obtain rfl : x1319 = nI (n + 3) := hx1319.trans (nI_add n 3)
  refine va_sld X.hx X.hb hXs hbl hbA hS (vp_in_nI (by omega) (by omega)) dL_law_983 ?_
  refine lv_topi (fun x1320 hx1320 => ?_)
  obtain rfl : x1320 = xs (n + 3) := hx1320.trans (by rw [nI_clamp (by omega)])
  refine lv_aload_n X.hx X.hb dL_law_984 rfl (lv_at hl 3 rfl) ?_
  refine gxWS X hl.1 hR hS 5 [.ref x, .int (xs (n + 1)), .int (xs (n + 2)), .int (xs (n + 3)), .ref o] [] (w_rate l Γ G hst hW hX hC ho) q1174 q1175 q35 q1176 rfl rfl ⟨by decide +kernel, by decide +kernel, by decide +kernel⟩ ⟨by (try dsimp only [RM]); omega, by (try dsimp only [RM]); omega⟩ rfl rfl (Nat.le_of_ble_eq_true rfl) dL_law_985 ⟨by (try dsimp only [RM]); omega, by (try dsimp only [RM]); omega⟩ (fun E1326 ce q9 G9 H locs hq9 hR9 hS9 hce hcv hcl => ?_) (fun v1324 G1325 H locs hq1321 hR1322 hS1323 => ?_)
  · exact hq9.elim
  · obtain ⟨hcr, hgo⟩ := hq1321
    rcases hcr with ⟨hk0, rfl, ⟨A1, hX1⟩, fL1, ho1, hfL⟩ | ⟨hk0, rfl, ⟨A1, hX1⟩, fL1, ho1⟩
    · have hM1 : MP Γ G1325 u σ th B := hM.keep hgo (fun t ht => TXo_m ht)
      have hC1 := hC.keep hgo (fun t ht => TXo_50 ht)
      have hm1 := hM1.1
      refine lv_istore (lv' := [(5, .int 0), (0, .ref b), (1, .ref x), (2, .ref u), (3, .ref o), (4, .int (nI n))]) X.hx X.hb dL_law_988 hl (by decide) rfl (fun ls hl => ?_)
      refine lv_aload_n X.hx X.hb dL_law_990 rfl (lv_at hl 3 rfl) ?_
      refine lv_aload_n X.hx X.hb dL_law_991 rfl (lv_at hl 1 rfl) ?_
      refine lv_iload X.hx X.hb dL_law_992 (lv_at hl 5 rfl) ?_
      refine lv_iconst (v := 1) X.hx X.hb dL_law_994 (by decide) ?_
      refine lv_iadd X.hx X.hb dL_law_995 ?_
      refine lv_topi (fun x1327 hx1327 => ?_)
      obtain rfl : x1327 = nI (n + 1) := hx1327.trans (nI_add n 1)
      refine va_sld X.hx X.hb hXs hbl hbA hS1323 (vp_in_nI (by omega) (by omega)) dL_law_996 ?_
      refine lv_topi (fun x1328 hx1328 => ?_)
      obtain rfl : x1328 = xs (n + 1) := hx1328.trans (by rw [nI_clamp (by omega)])
      refine lv_aload_n X.hx X.hb dL_law_997 rfl (lv_at hl 1 rfl) ?_
      refine lv_iload X.hx X.hb dL_law_998 (lv_at hl 5 rfl) ?_
      refine lv_iconst (v := 2) X.hx X.hb dL_law_1000 (by decide) ?_
      refine lv_iadd X.hx X.hb dL_law_1001 ?_
      refine lv_topi (fun x1329 hx1329 => ?_)
      obtain rfl : x1329 = nI (n + 2) := hx1329.trans (nI_add n 2)
      refine va_sld X.hx X.hb hXs hbl hbA hS1323 (vp_in_nI (by omega) (by omega)) dL_law_1002 ?_
      refine lv_topi (fun x1330 hx1330 => ?_)
      obtain rfl : x1330 = xs (n + 2) := hx1330.trans (by rw [nI_clamp (by omega)])
      refine lv_aload_n X.hx X.hb dL_law_1003 rfl (lv_at hl 1 rfl) ?_
      refine lv_iload X.hx X.hb dL_law_1004 (lv_at hl 5 rfl) ?_
      refine lv_iconst (v := 3) X.hx X.hb dL_law_1006 (by decide) ?_
      refine lv_iadd X.hx X.hb dL_law_1007 ?_
      refine lv_topi (fun x1331 hx1331 => ?_)
      obtain rfl : x1331 = nI (n + 3) := hx1331.trans (nI_add n 3)
      refine va_sld X.hx X.hb hXs hbl hbA hS1323 (vp_in_nI (by omega) (by omega)) dL_law_1008 ?_
      refine lv_topi (fun x1332 hx1332 => ?_)
      obtain rfl : x1332 = xs (n + 3) := hx1332.trans (by rw [nI_clamp (by omega)])
      refine gcV X hl.1 hR1322 hS1323 3 [.int (xs (n + 1)), .int (xs (n + 2)), .int (xs (n + 3))] [] (m_rate l Γ G1325 hW hM1) hm1 rfl q1456 q1457 q1458 q40 q1459 rfl rfl ⟨rfl, by decide +kernel, by decide +kernel, by decide +kernel⟩ ⟨by (try dsimp only [RM]); omega, by (try dsimp only [RM]); omega⟩ rfl rfl (Nat.le_of_ble_eq_true rfl) dL_law_1009 ⟨by (try dsimp only [RM]); omega, by (try dsimp only [RM]); omega⟩ (fun v1336 G1337 H locs hq1333 hR1334 hS1335 => ?_)
      obtain ⟨hmr, hgm⟩ := hq1333
      rcases hmr with ⟨hj0, rfl, hM2⟩ | ⟨hj0, ⟨w9, rfl⟩, hM2⟩
      · have hX2 := hX1.tm hgm
        have hC2 := hC1.keep hgm (fun t ht => Nat.lt_trans ht.2 (by decide))
        have ho2 := hgm _ _ ho1 (fun h9 => absurd h9.2 (by show ¬ 40 < 40; decide))
        have hm2 := hM2.1
        refine lv_istore (lv' := [(6, .int (rtw σ (xs (n + 1)).toNatClampNeg (xs (n + 2)) (Fk σ (xs (n + 1)).toNatClampNeg (xs (n + 3)) (100 * ((xs (n + 2)).toInt.toNat + 1))))), (5, .int 0), (0, .ref b), (1, .ref x), (2, .ref u), (3, .ref o), (4, .int (nI n))]) X.hx X.hb dL_law_1012 hl (by decide) rfl (fun ls hl => ?_)
        refine lv_aload_n X.hx X.hb dL_law_1014 rfl (lv_at hl 4 rfl) ?_
        refine gcV X hl.1 hR1334 hS1335 0 [] [] (m_thrown9 l Γ G1337 hM2) hm2 rfl q1360 q1361 q1362 q40 q1363 rfl rfl ⟨rfl, by decide +kernel, by decide +kernel, by decide +kernel⟩ ⟨by (try dsimp only [RM]); omega, by (try dsimp only [RM]); omega⟩ rfl rfl (Nat.le_of_ble_eq_true rfl) dL_law_1015 ⟨by (try dsimp only [RM]); omega, by (try dsimp only [RM]); omega⟩ (fun v1341 G1342 H locs hq1338 hR1339 hS1340 => ?_)
        obtain ⟨rfl, rfl⟩ := hq1338
        refine lv_iload X.hx X.hb dL_law_1018 (lv_at hl 1 rfl) ?_
        refine lv_icmp_eq (tgt := 1025) X.hx X.hb dL_law_1020 (by decide) (fun c1020 => ?_) (fun c1020 => ?_)
        · refine lv_iload X.hx X.hb dL_law_1025 (lv_at hl 1 rfl) ?_
          refine lv_if_ne (tgt := 1042) X.hx X.hb dL_law_1027 (by decide) (fun c1027 => ?_) (fun c1027 => ?_)
          · exact absurd rfl c1027
          · refine lv_aload_n X.hx X.hb dL_law_1030 rfl (lv_at hl 5 rfl) ?_
            refine lv_iconst (v := 0) X.hx X.hb dL_law_1031 (by decide) ?_
            refine g_lald (v := (rtw σ (xs (n + 1)).toNatClampNeg (xs (n + 2)) (Fk σ (xs (n + 1)).toNatClampNeg (xs (n + 3)) (100 * ((xs (n + 2)).toInt.toNat + 1)))).toInt64) X hR1339 ho2 (vp_in_nI (n := 0) (by decide) (by decide)) hfL dL_law_1032 ?_
            refine lv_iload X.hx X.hb dL_law_1033 (lv_at hl 0 rfl) ?_
            refine lv_i2l X.hx X.hb dL_law_1035 rfl ?_
            refine W.lcmp X.hx X.hb dL_law_1036 ?_
            refine lv_if_eq (tgt := 1042) X.hx X.hb dL_law_1037 (by decide) (fun c1037 => ?_) (fun c1037 => ?_)
            · refine lv_goto (tgt := 1521) X.hx X.hb dL_law_1042 (by decide) ?_
              exact kk _ _ _ _ _ (Or.inr ⟨hk0, rfl⟩) ⟨⟨_, hX2⟩, ⟨_, _, hM2⟩, hC2, _, ho2⟩ hR1339 hS1340 (lv_sub hl [2, 3, 4, 5, 6] rfl)
            · exact absurd ((lg_cmp_eq _ _).mpr rfl) c1037
        · exact absurd (by decide) c1020
      · exact absurd hk0 hj0
    · have hM1 : MP Γ G1325 u σ th B := hM.keep hgo (fun t ht => TXo_m ht)
      have hC1 := hC.keep hgo (fun t ht => TXo_50 ht)
      have hm1 := hM1.1
      refine lv_istore (lv' := [(5, .int (kV σ (xs (n + 1)) 0 (xs (n + 2)) (xs (n + 3)))), (0, .ref b), (1, .ref x), (2, .ref u), (3, .ref o), (4, .int (nI n))]) X.hx X.hb dL_law_988 hl (by decide) rfl (fun ls hl => ?_)
      refine lv_aload_n X.hx X.hb dL_law_990 rfl (lv_at hl 3 rfl) ?_
      refine lv_aload_n X.hx X.hb dL_law_991 rfl (lv_at hl 1 rfl) ?_
      refine lv_iload X.hx X.hb dL_law_992 (lv_at hl 5 rfl) ?_
      refine lv_iconst (v := 1) X.hx X.hb dL_law_994 (by decide) ?_
      refine lv_iadd X.hx X.hb dL_law_995 ?_
      refine lv_topi (fun x1343 hx1343 => ?_)
      obtain rfl : x1343 = nI (n + 1) := hx1343.trans (nI_add n 1)
      refine va_sld X.hx X.hb hXs hbl hbA hS1323 (vp_in_nI (by omega) (by omega)) dL_law_996 ?_
      refine lv_topi (fun x1344 hx1344 => ?_)
      obtain rfl : x1344 = xs (n + 1) := hx1344.trans (by rw [nI_clamp (by omega)])
      refine lv_aload_n X.hx X.hb dL_law_997 rfl (lv_at hl 1 rfl) ?_
      refine lv_iload X.hx X.hb dL_law_998 (lv_at hl 5 rfl) ?_
      refine lv_iconst (v := 2) X.hx X.hb dL_law_1000 (by decide) ?_
      refine lv_iadd X.hx X.hb dL_law_1001 ?_
      refine lv_topi (fun x1345 hx1345 => ?_)
      obtain rfl : x1345 = nI (n + 2) := hx1345.trans (nI_add n 2)
      refine va_sld X.hx X.hb hXs hbl hbA hS1323 (vp_in_nI (by omega) (by omega)) dL_law_1002 ?_
      refine lv_topi (fun x1346 hx1346 => ?_)
      obtain rfl : x1346 = xs (n + 2) := hx1346.trans (by rw [nI_clamp (by omega)])
      refine lv_aload_n X.hx X.hb dL_law_1003 rfl (lv_at hl 1 rfl) ?_
      refine lv_iload X.hx X.hb dL_law_1004 (lv_at hl 5 rfl) ?_
      refine lv_iconst (v := 3) X.hx X.hb dL_law_1006 (by decide) ?_
      refine lv_iadd X.hx X.hb dL_law_1007 ?_
      refine lv_topi (fun x1347 hx1347 => ?_)
      obtain rfl : x1347 = nI (n + 3) := hx1347.trans (nI_add n 3)
      refine va_sld X.hx X.hb hXs hbl hbA hS1323 (vp_in_nI (by omega) (by omega)) dL_law_1008 ?_
      refine lv_topi (fun x1348 hx1348 => ?_)
      obtain rfl : x1348 = xs (n + 3) := hx1348.trans (by rw [nI_clamp (by omega)])
      refine gcV X hl.1 hR1322 hS1323 3 [.int (xs (n + 1)), .int (xs (n + 2)), .int (xs (n + 3))] [] (m_rate l Γ G1325 hW hM1) hm1 rfl q1456 q1457 q1458 q40 q1459 rfl rfl ⟨rfl, by decide +kernel, by decide +kernel, by decide +kernel⟩ ⟨by (try dsimp only [RM]); omega, by (try dsimp only [RM]); omega⟩ rfl rfl (Nat.le_of_ble_eq_true rfl) dL_law_1009 ⟨by (try dsimp only [RM]); omega, by (try dsimp only [RM]); omega⟩ (fun v1352 G1353 H locs hq1349 hR1350 hS1351 => ?_)
      obtain ⟨hmr, hgm⟩ := hq1349
      rcases hmr with ⟨hj0, rfl, hM2⟩ | ⟨hj0, ⟨w9, rfl⟩, hM2⟩
      · exact absurd hj0 hk0
      · have hX2 := hX1.tm hgm
        have hC2 := hC1.keep hgm (fun t ht => Nat.lt_trans ht.2 (by decide))
        have ho2 := hgm _ _ ho1 (fun h9 => absurd h9.2 (by show ¬ 40 < 40; decide))
        have hm2 := hM2.1
        refine lv_istore (lv' := [(6, .int w9), (5, .int (kV σ (xs (n + 1)) 0 (xs (n + 2)) (xs (n + 3)))), (0, .ref b), (1, .ref x), (2, .ref u), (3, .ref o), (4, .int (nI n))]) X.hx X.hb dL_law_1012 hl (by decide) rfl (fun ls hl => ?_)
        refine lv_aload_n X.hx X.hb dL_law_1014 rfl (lv_at hl 4 rfl) ?_
        refine gcV X hl.1 hR1350 hS1351 0 [] [] (m_thrown9 l Γ G1353 hM2) hm2 rfl q1360 q1361 q1362 q40 q1363 rfl rfl ⟨rfl, by decide +kernel, by decide +kernel, by decide +kernel⟩ ⟨by (try dsimp only [RM]); omega, by (try dsimp only [RM]); omega⟩ rfl rfl (Nat.le_of_ble_eq_true rfl) dL_law_1015 ⟨by (try dsimp only [RM]); omega, by (try dsimp only [RM]); omega⟩ (fun v1357 G1358 H locs hq1354 hR1355 hS1356 => ?_)
        obtain ⟨rfl, rfl⟩ := hq1354
        refine lv_iload X.hx X.hb dL_law_1018 (lv_at hl 1 rfl) ?_
        refine lv_icmp_eq (tgt := 1025) X.hx X.hb dL_law_1020 (by decide) (fun c1020 => ?_) (fun c1020 => ?_)
        · refine lv_iload X.hx X.hb dL_law_1025 (lv_at hl 1 rfl) ?_
          refine lv_if_ne (tgt := 1042) X.hx X.hb dL_law_1027 (by decide) (fun c1027 => ?_) (fun c1027 => ?_)
          · refine lv_goto (tgt := 1521) X.hx X.hb dL_law_1042 (by decide) ?_
            exact kk _ _ _ _ _ (Or.inl rfl) ⟨⟨_, hX2⟩, ⟨_, _, hM2⟩, hC2, _, ho2⟩ hR1355 hS1356 (lv_sub hl [2, 3, 4, 5, 6] rfl)
          · exact absurd c1027 hk0
        · exact absurd rfl c1020

set_option maxHeartbeats 4000000 in
theorem l_segments (X : Cx pp ss mm args cc0 Γ code 7 RX0) (hst : l.stackTraces = false) {b L n : Nat} {xs : Nat → Int32} (hXs : va_X b L xs ss ss.heap) (hbl : b < ss.heap.size) (hbA : ¬ gA Γ b) (hn : n + 5 ≤ L) (hL : L ≤ 320) (hRf : 100 ≤ R.frames) (hRl : 20000 ≤ R.locals) (hRc : cells + 4000 ≤ R.cells) (hRs : slots + 12000 ≤ R.slots) {x u o : Nat} {σ : MS} (hW : WF σ) (hz : σ.2 1 (σ.1 0) = 0) (hI : LSt Γ G x u o σ) (hR : Rep Γ G H) (hS : va_S (gA Γ) ss.heap H locs) (hl : lv_has ls 7 [(0, .ref b), (1, .ref x), (2, .ref u), (3, .ref o), (4, .int (nI n))])
    (kk : ∀ (τ1 : MS) (G1 : GH) (H1 : Heap) (locs1 : List Loc) (ls1 : Array Slot), (τ1 = σ ∨ (kV σ (xs (n + 1)) 0 0 (xs (n + 2)) = 0 ∧ τ1 = σ)) → LSt Γ G1 x u o τ1 → Rep Γ G1 H1 → va_S (gA Γ) ss.heap H1 locs1 → lv_has ls1 7 [(0, .ref b), (1, .ref x), (2, .ref u), (3, .ref o), (4, .int (nI n))] → W pp l ee R ss mm args below meth cc0 H1 locs1 (cells + 4000) (slots + 12000) Q (F0 mm 1521 ls1 [])) :
    W pp l ee R ss mm args below meth cc0 H locs cells slots Q (F0 mm 1045 ls []) := by
  obtain ⟨⟨A, hX⟩, ⟨B, th, hM⟩, hC, fL, ho⟩ := hI
  obtain ⟨⟨rf, hx, -⟩, -⟩ := id hX
  have hm := hM.1
  refine lv_aload_n X.hx X.hb dL_law_1045 rfl (lv_at hl 1 rfl) ?_
  refine lv_aload_n X.hx X.hb dL_law_1046 rfl (lv_at hl 0 rfl) ?_
  refine lv_iload X.hx X.hb dL_law_1047 (lv_at hl 4 rfl) ?_
  refine lv_iconst (v := 1) X.hx X.hb dL_law_1049 (by decide) ?_
  refine lv_iadd X.hx X.hb dL_law_1050 ?_
  refine lv_topi (fun x1359 hx1359 => ?_)
  obtain rfl : x1359 = nI (n + 1) := hx1359.trans (nI_add n 1)
  refine va_sld X.hx X.hb hXs hbl hbA hS (vp_in_nI (by omega) (by omega)) dL_law_1051 ?_
  refine lv_topi (fun x1360 hx1360 => ?_)
  obtain rfl : x1360 = xs (n + 1) := hx1360.trans (by rw [nI_clamp (by omega)])
  refine lv_aload_n X.hx X.hb dL_law_1052 rfl (lv_at hl 0 rfl) ?_
  refine lv_iload X.hx X.hb dL_law_1053 (lv_at hl 4 rfl) ?_
  refine lv_iconst (v := 2) X.hx X.hb dL_law_1055 (by decide) ?_
  refine lv_iadd X.hx X.hb dL_law_1056 ?_
  refine lv_topi (fun x1361 hx1361 => ?_)
  obtain rfl : x1361 = nI (n + 2) := hx1361.trans (nI_add n 2)
  refine va_sld X.hx X.hb hXs hbl hbA hS (vp_in_nI (by omega) (by omega)) dL_law_1057 ?_
  refine lv_topi (fun x1362 hx1362 => ?_)
  obtain rfl : x1362 = xs (n + 2) := hx1362.trans (by rw [nI_clamp (by omega)])
  refine lv_aload_n X.hx X.hb dL_law_1058 rfl (lv_at hl 3 rfl) ?_
  refine gxWS X hl.1 hR hS 4 [.ref x, .int (xs (n + 1)), .int (xs (n + 2)), .ref o] [] (w_segments l Γ G hst hW hX hC ho) q1201 q1202 q35 q1203 rfl rfl ⟨by decide +kernel, by decide +kernel, by decide +kernel⟩ ⟨by (try dsimp only [RM]); omega, by (try dsimp only [RM]); omega⟩ rfl rfl (Nat.le_of_ble_eq_true rfl) dL_law_1059 ⟨by (try dsimp only [RM]); omega, by (try dsimp only [RM]); omega⟩ (fun E1368 ce q9 G9 H locs hq9 hR9 hS9 hce hcv hcl => ?_) (fun v1366 G1367 H locs hq1363 hR1364 hS1365 => ?_)
  · exact hq9.elim
  · obtain ⟨hcr, hgo⟩ := hq1363
    rcases hcr with ⟨hk0, rfl, ⟨A1, hX1⟩, fL1, ho1, hfL⟩ | ⟨hk0, rfl, ⟨A1, hX1⟩, fL1, ho1⟩
    · have hM1 : MP Γ G1367 u σ th B := hM.keep hgo (fun t ht => TXo_m ht)
      have hC1 := hC.keep hgo (fun t ht => TXo_50 ht)
      have hm1 := hM1.1
      refine lv_istore (lv' := [(5, .int 0), (0, .ref b), (1, .ref x), (2, .ref u), (3, .ref o), (4, .int (nI n))]) X.hx X.hb dL_law_1062 hl (by decide) rfl (fun ls hl => ?_)
      refine lv_aload_n X.hx X.hb dL_law_1064 rfl (lv_at hl 3 rfl) ?_
      refine lv_aload_n X.hx X.hb dL_law_1065 rfl (lv_at hl 1 rfl) ?_
      refine lv_iload X.hx X.hb dL_law_1066 (lv_at hl 5 rfl) ?_
      refine lv_iconst (v := 1) X.hx X.hb dL_law_1068 (by decide) ?_
      refine lv_iadd X.hx X.hb dL_law_1069 ?_
      refine lv_topi (fun x1369 hx1369 => ?_)
      obtain rfl : x1369 = nI (n + 1) := hx1369.trans (nI_add n 1)
      refine va_sld X.hx X.hb hXs hbl hbA hS1365 (vp_in_nI (by omega) (by omega)) dL_law_1070 ?_
      refine lv_topi (fun x1370 hx1370 => ?_)
      obtain rfl : x1370 = xs (n + 1) := hx1370.trans (by rw [nI_clamp (by omega)])
      refine lv_aload_n X.hx X.hb dL_law_1071 rfl (lv_at hl 1 rfl) ?_
      refine lv_iload X.hx X.hb dL_law_1072 (lv_at hl 5 rfl) ?_
      refine lv_iconst (v := 2) X.hx X.hb dL_law_1074 (by decide) ?_
      refine lv_iadd X.hx X.hb dL_law_1075 ?_
      refine lv_topi (fun x1371 hx1371 => ?_)
      obtain rfl : x1371 = nI (n + 2) := hx1371.trans (nI_add n 2)
      refine va_sld X.hx X.hb hXs hbl hbA hS1365 (vp_in_nI (by omega) (by omega)) dL_law_1076 ?_
      refine lv_topi (fun x1372 hx1372 => ?_)
      obtain rfl : x1372 = xs (n + 2) := hx1372.trans (by rw [nI_clamp (by omega)])
      refine gcV X hl.1 hR1364 hS1365 2 [.int (xs (n + 1)), .int (xs (n + 2))] [] (m_segments l Γ G1367 hW hM1) hm1 rfl q1460 q1461 q1462 q40 q1463 rfl rfl ⟨rfl, by decide +kernel, by decide +kernel, by decide +kernel⟩ ⟨by (try dsimp only [RM]); omega, by (try dsimp only [RM]); omega⟩ rfl rfl (Nat.le_of_ble_eq_true rfl) dL_law_1077 ⟨by (try dsimp only [RM]); omega, by (try dsimp only [RM]); omega⟩ (fun v1376 G1377 H locs hq1373 hR1374 hS1375 => ?_)
      obtain ⟨hmr, hgm⟩ := hq1373
      rcases hmr with ⟨hj0, rfl, hM2⟩ | ⟨hj0, ⟨w9, rfl⟩, hM2⟩
      · have hX2 := hX1.tm hgm
        have hC2 := hC1.keep hgm (fun t ht => Nat.lt_trans ht.2 (by decide))
        have ho2 := hgm _ _ ho1 (fun h9 => absurd h9.2 (by show ¬ 40 < 40; decide))
        have hm2 := hM2.1
        refine lv_istore (lv' := [(6, .int (nI (nS σ (xs (n + 1)) (xs (n + 2))))), (5, .int 0), (0, .ref b), (1, .ref x), (2, .ref u), (3, .ref o), (4, .int (nI n))]) X.hx X.hb dL_law_1080 hl (by decide) rfl (fun ls hl => ?_)
        refine lv_aload_n X.hx X.hb dL_law_1082 rfl (lv_at hl 4 rfl) ?_
        refine gcV X hl.1 hR1374 hS1375 0 [] [] (m_thrown9 l Γ G1377 hM2) hm2 rfl q1360 q1361 q1362 q40 q1363 rfl rfl ⟨rfl, by decide +kernel, by decide +kernel, by decide +kernel⟩ ⟨by (try dsimp only [RM]); omega, by (try dsimp only [RM]); omega⟩ rfl rfl (Nat.le_of_ble_eq_true rfl) dL_law_1083 ⟨by (try dsimp only [RM]); omega, by (try dsimp only [RM]); omega⟩ (fun v1381 G1382 H locs hq1378 hR1379 hS1380 => ?_)
        obtain ⟨rfl, rfl⟩ := hq1378
        refine lv_iload X.hx X.hb dL_law_1086 (lv_at hl 1 rfl) ?_
        refine lv_icmp_eq (tgt := 1093) X.hx X.hb dL_law_1088 (by decide) (fun c1088 => ?_) (fun c1088 => ?_)
        · refine lv_iload X.hx X.hb dL_law_1093 (lv_at hl 1 rfl) ?_
          refine lv_if_ne (tgt := 1110) X.hx X.hb dL_law_1095 (by decide) (fun c1095 => ?_) (fun c1095 => ?_)
          · exact absurd rfl c1095
          · refine lv_aload_n X.hx X.hb dL_law_1098 rfl (lv_at hl 5 rfl) ?_
            refine lv_iconst (v := 0) X.hx X.hb dL_law_1099 (by decide) ?_
            refine g_lald (v := (nI (nS σ (xs (n + 1)) (xs (n + 2)))).toInt64) X hR1379 ho2 (vp_in_nI (n := 0) (by decide) (by decide)) hfL dL_law_1100 ?_
            refine lv_iload X.hx X.hb dL_law_1101 (lv_at hl 0 rfl) ?_
            refine lv_i2l X.hx X.hb dL_law_1103 rfl ?_
            refine W.lcmp X.hx X.hb dL_law_1104 ?_
            refine lv_if_eq (tgt := 1110) X.hx X.hb dL_law_1105 (by decide) (fun c1105 => ?_) (fun c1105 => ?_)
            · refine lv_goto (tgt := 1521) X.hx X.hb dL_law_1110 (by decide) ?_
              exact kk _ _ _ _ _ (Or.inr ⟨hk0, rfl⟩) ⟨⟨_, hX2⟩, ⟨_, _, hM2⟩, hC2, _, ho2⟩ hR1379 hS1380 (lv_sub hl [2, 3, 4, 5, 6] rfl)
            · exact absurd ((lg_cmp_eq _ _).mpr rfl) c1105
        · exact absurd (by decide) c1088
      · exact absurd hk0 hj0
    · have hM1 : MP Γ G1367 u σ th B := hM.keep hgo (fun t ht => TXo_m ht)
      have hC1 := hC.keep hgo (fun t ht => TXo_50 ht)
      have hm1 := hM1.1
      refine lv_istore (lv' := [(5, .int (kV σ (xs (n + 1)) 0 0 (xs (n + 2)))), (0, .ref b), (1, .ref x), (2, .ref u), (3, .ref o), (4, .int (nI n))]) X.hx X.hb dL_law_1062 hl (by decide) rfl (fun ls hl => ?_)
      refine lv_aload_n X.hx X.hb dL_law_1064 rfl (lv_at hl 3 rfl) ?_
      refine lv_aload_n X.hx X.hb dL_law_1065 rfl (lv_at hl 1 rfl) ?_
      refine lv_iload X.hx X.hb dL_law_1066 (lv_at hl 5 rfl) ?_
      refine lv_iconst (v := 1) X.hx X.hb dL_law_1068 (by decide) ?_
      refine lv_iadd X.hx X.hb dL_law_1069 ?_
      refine lv_topi (fun x1383 hx1383 => ?_)
      obtain rfl : x1383 = nI (n + 1) := hx1383.trans (nI_add n 1)
      refine va_sld X.hx X.hb hXs hbl hbA hS1365 (vp_in_nI (by omega) (by omega)) dL_law_1070 ?_
      refine lv_topi (fun x1384 hx1384 => ?_)
      obtain rfl : x1384 = xs (n + 1) := hx1384.trans (by rw [nI_clamp (by omega)])
      refine lv_aload_n X.hx X.hb dL_law_1071 rfl (lv_at hl 1 rfl) ?_
      refine lv_iload X.hx X.hb dL_law_1072 (lv_at hl 5 rfl) ?_
      refine lv_iconst (v := 2) X.hx X.hb dL_law_1074 (by decide) ?_
      refine lv_iadd X.hx X.hb dL_law_1075 ?_
      refine lv_topi (fun x1385 hx1385 => ?_)
      obtain rfl : x1385 = nI (n + 2) := hx1385.trans (nI_add n 2)
      refine va_sld X.hx X.hb hXs hbl hbA hS1365 (vp_in_nI (by omega) (by omega)) dL_law_1076 ?_
      refine lv_topi (fun x1386 hx1386 => ?_)
      obtain rfl : x1386 = xs (n + 2) := hx1386.trans (by rw [nI_clamp (by omega)])
      refine gcV X hl.1 hR1364 hS1365 2 [.int (xs (n + 1)), .int (xs (n + 2))] [] (m_segments l Γ G1367 hW hM1) hm1 rfl q1460 q1461 q1462 q40 q1463 rfl rfl ⟨rfl, by decide +kernel, by decide +kernel, by decide +kernel⟩ ⟨by (try dsimp only [RM]); omega, by (try dsimp only [RM]); omega⟩ rfl rfl (Nat.le_of_ble_eq_true rfl) dL_law_1077 ⟨by (try dsimp only [RM]); omega, by (try dsimp only [RM]); omega⟩ (fun v1390 G1391 H locs hq1387 hR1388 hS1389 => ?_)
      obtain ⟨hmr, hgm⟩ := hq1387
      rcases hmr with ⟨hj0, rfl, hM2⟩ | ⟨hj0, ⟨w9, rfl⟩, hM2⟩
      · exact absurd hj0 hk0
      · have hX2 := hX1.tm hgm
        have hC2 := hC1.keep hgm (fun t ht => Nat.lt_trans ht.2 (by decide))
        have ho2 := hgm _ _ ho1 (fun h9 => absurd h9.2 (by show ¬ 40 < 40; decide))
        have hm2 := hM2.1
        refine lv_istore (lv' := [(6, .int w9), (5, .int (kV σ (xs (n + 1)) 0 0 (xs (n + 2)))), (0, .ref b), (1, .ref x), (2, .ref u), (3, .ref o), (4, .int (nI n))]) X.hx X.hb dL_law_1080 hl (by decide) rfl (fun ls hl => ?_)
        refine lv_aload_n X.hx X.hb dL_law_1082 rfl (lv_at hl 4 rfl) ?_
        refine gcV X hl.1 hR1388 hS1389 0 [] [] (m_thrown9 l Γ G1391 hM2) hm2 rfl q1360 q1361 q1362 q40 q1363 rfl rfl ⟨rfl, by decide +kernel, by decide +kernel, by decide +kernel⟩ ⟨by (try dsimp only [RM]); omega, by (try dsimp only [RM]); omega⟩ rfl rfl (Nat.le_of_ble_eq_true rfl) dL_law_1083 ⟨by (try dsimp only [RM]); omega, by (try dsimp only [RM]); omega⟩ (fun v1395 G1396 H locs hq1392 hR1393 hS1394 => ?_)
        obtain ⟨rfl, rfl⟩ := hq1392
        refine lv_iload X.hx X.hb dL_law_1086 (lv_at hl 1 rfl) ?_
        refine lv_icmp_eq (tgt := 1093) X.hx X.hb dL_law_1088 (by decide) (fun c1088 => ?_) (fun c1088 => ?_)
        · refine lv_iload X.hx X.hb dL_law_1093 (lv_at hl 1 rfl) ?_
          refine lv_if_ne (tgt := 1110) X.hx X.hb dL_law_1095 (by decide) (fun c1095 => ?_) (fun c1095 => ?_)
          · refine lv_goto (tgt := 1521) X.hx X.hb dL_law_1110 (by decide) ?_
            exact kk _ _ _ _ _ (Or.inl rfl) ⟨⟨_, hX2⟩, ⟨_, _, hM2⟩, hC2, _, ho2⟩ hR1393 hS1394 (lv_sub hl [2, 3, 4, 5, 6] rfl)
          · exact absurd c1095 hk0
        · exact absurd rfl c1088

set_option maxHeartbeats 4000000 in
theorem l_segmentStart (X : Cx pp ss mm args cc0 Γ code 7 RX0) (hst : l.stackTraces = false) {b L n : Nat} {xs : Nat → Int32} (hXs : va_X b L xs ss ss.heap) (hbl : b < ss.heap.size) (hbA : ¬ gA Γ b) (hn : n + 5 ≤ L) (hL : L ≤ 320) (hRf : 100 ≤ R.frames) (hRl : 20000 ≤ R.locals) (hRc : cells + 4000 ≤ R.cells) (hRs : slots + 12000 ≤ R.slots) {x u o : Nat} {σ : MS} (hW : WF σ) (hz : σ.2 1 (σ.1 0) = 0) (hI : LSt Γ G x u o σ) (hR : Rep Γ G H) (hS : va_S (gA Γ) ss.heap H locs) (hl : lv_has ls 7 [(0, .ref b), (1, .ref x), (2, .ref u), (3, .ref o), (4, .int (nI n))])
    (kk : ∀ (τ1 : MS) (G1 : GH) (H1 : Heap) (locs1 : List Loc) (ls1 : Array Slot), (τ1 = σ ∨ (kS σ (xs (n + 1)) (xs (n + 2)) (xs (n + 3)) = 0 ∧ τ1 = σ)) → LSt Γ G1 x u o τ1 → Rep Γ G1 H1 → va_S (gA Γ) ss.heap H1 locs1 → lv_has ls1 7 [(0, .ref b), (1, .ref x), (2, .ref u), (3, .ref o), (4, .int (nI n))] → W pp l ee R ss mm args below meth cc0 H1 locs1 (cells + 4000) (slots + 12000) Q (F0 mm 1521 ls1 [])) :
    W pp l ee R ss mm args below meth cc0 H locs cells slots Q (F0 mm 1113 ls []) := by
  obtain ⟨⟨A, hX⟩, ⟨B, th, hM⟩, hC, fL, ho⟩ := hI
  obtain ⟨⟨rf, hx, -⟩, -⟩ := id hX
  have hm := hM.1
  refine lv_aload_n X.hx X.hb dL_law_1113 rfl (lv_at hl 1 rfl) ?_
  refine lv_aload_n X.hx X.hb dL_law_1114 rfl (lv_at hl 0 rfl) ?_
  refine lv_iload X.hx X.hb dL_law_1115 (lv_at hl 4 rfl) ?_
  refine lv_iconst (v := 1) X.hx X.hb dL_law_1117 (by decide) ?_
  refine lv_iadd X.hx X.hb dL_law_1118 ?_
  refine lv_topi (fun x1397 hx1397 => ?_)
  obtain rfl : x1397 = nI (n + 1) := hx1397.trans (nI_add n 1)
  refine va_sld X.hx X.hb hXs hbl hbA hS (vp_in_nI (by omega) (by omega)) dL_law_1119 ?_
  refine lv_topi (fun x1398 hx1398 => ?_)
  obtain rfl : x1398 = xs (n + 1) := hx1398.trans (by rw [nI_clamp (by omega)])
  refine lv_aload_n X.hx X.hb dL_law_1120 rfl (lv_at hl 0 rfl) ?_
  refine lv_iload X.hx X.hb dL_law_1121 (lv_at hl 4 rfl) ?_
  refine lv_iconst (v := 2) X.hx X.hb dL_law_1123 (by decide) ?_
  refine lv_iadd X.hx X.hb dL_law_1124 ?_
  refine lv_topi (fun x1399 hx1399 => ?_)
  obtain rfl : x1399 = nI (n + 2) := hx1399.trans (nI_add n 2)
  refine va_sld X.hx X.hb hXs hbl hbA hS (vp_in_nI (by omega) (by omega)) dL_law_1125 ?_
  refine lv_topi (fun x1400 hx1400 => ?_)
  obtain rfl : x1400 = xs (n + 2) := hx1400.trans (by rw [nI_clamp (by omega)])
  refine lv_aload_n X.hx X.hb dL_law_1126 rfl (lv_at hl 0 rfl) ?_
  refine lv_iload X.hx X.hb dL_law_1127 (lv_at hl 4 rfl) ?_
  refine lv_iconst (v := 3) X.hx X.hb dL_law_1129 (by decide) ?_
  refine lv_iadd X.hx X.hb dL_law_1130 ?_
  refine lv_topi (fun x1401 hx1401 => ?_)
  obtain rfl : x1401 = nI (n + 3) := hx1401.trans (nI_add n 3)
  refine va_sld X.hx X.hb hXs hbl hbA hS (vp_in_nI (by omega) (by omega)) dL_law_1131 ?_
  refine lv_topi (fun x1402 hx1402 => ?_)
  obtain rfl : x1402 = xs (n + 3) := hx1402.trans (by rw [nI_clamp (by omega)])
  refine lv_aload_n X.hx X.hb dL_law_1132 rfl (lv_at hl 3 rfl) ?_
  refine gxWS X hl.1 hR hS 5 [.ref x, .int (xs (n + 1)), .int (xs (n + 2)), .int (xs (n + 3)), .ref o] [] (w_segmentStart l Γ G hst hW hX hC ho) q1221 q1222 q35 q1223 rfl rfl ⟨by decide +kernel, by decide +kernel, by decide +kernel⟩ ⟨by (try dsimp only [RM]); omega, by (try dsimp only [RM]); omega⟩ rfl rfl (Nat.le_of_ble_eq_true rfl) dL_law_1133 ⟨by (try dsimp only [RM]); omega, by (try dsimp only [RM]); omega⟩ (fun E1408 ce q9 G9 H locs hq9 hR9 hS9 hce hcv hcl => ?_) (fun v1406 G1407 H locs hq1403 hR1404 hS1405 => ?_)
  · exact hq9.elim
  · obtain ⟨hcr, hgo⟩ := hq1403
    rcases hcr with ⟨hk0, rfl, ⟨A1, hX1⟩, fL1, ho1, hfL⟩ | ⟨hk0, rfl, ⟨A1, hX1⟩, fL1, ho1⟩
    · have hM1 : MP Γ G1407 u σ th B := hM.keep hgo (fun t ht => TXo_m ht)
      have hC1 := hC.keep hgo (fun t ht => TXo_50 ht)
      have hm1 := hM1.1
      refine lv_istore (lv' := [(5, .int 0), (0, .ref b), (1, .ref x), (2, .ref u), (3, .ref o), (4, .int (nI n))]) X.hx X.hb dL_law_1136 hl (by decide) rfl (fun ls hl => ?_)
      refine lv_aload_n X.hx X.hb dL_law_1138 rfl (lv_at hl 3 rfl) ?_
      refine lv_aload_n X.hx X.hb dL_law_1139 rfl (lv_at hl 1 rfl) ?_
      refine lv_iload X.hx X.hb dL_law_1140 (lv_at hl 5 rfl) ?_
      refine lv_iconst (v := 1) X.hx X.hb dL_law_1142 (by decide) ?_
      refine lv_iadd X.hx X.hb dL_law_1143 ?_
      refine lv_topi (fun x1409 hx1409 => ?_)
      obtain rfl : x1409 = nI (n + 1) := hx1409.trans (nI_add n 1)
      refine va_sld X.hx X.hb hXs hbl hbA hS1405 (vp_in_nI (by omega) (by omega)) dL_law_1144 ?_
      refine lv_topi (fun x1410 hx1410 => ?_)
      obtain rfl : x1410 = xs (n + 1) := hx1410.trans (by rw [nI_clamp (by omega)])
      refine lv_aload_n X.hx X.hb dL_law_1145 rfl (lv_at hl 1 rfl) ?_
      refine lv_iload X.hx X.hb dL_law_1146 (lv_at hl 5 rfl) ?_
      refine lv_iconst (v := 2) X.hx X.hb dL_law_1148 (by decide) ?_
      refine lv_iadd X.hx X.hb dL_law_1149 ?_
      refine lv_topi (fun x1411 hx1411 => ?_)
      obtain rfl : x1411 = nI (n + 2) := hx1411.trans (nI_add n 2)
      refine va_sld X.hx X.hb hXs hbl hbA hS1405 (vp_in_nI (by omega) (by omega)) dL_law_1150 ?_
      refine lv_topi (fun x1412 hx1412 => ?_)
      obtain rfl : x1412 = xs (n + 2) := hx1412.trans (by rw [nI_clamp (by omega)])
      refine lv_aload_n X.hx X.hb dL_law_1151 rfl (lv_at hl 1 rfl) ?_
      refine lv_iload X.hx X.hb dL_law_1152 (lv_at hl 5 rfl) ?_
      refine lv_iconst (v := 3) X.hx X.hb dL_law_1154 (by decide) ?_
      refine lv_iadd X.hx X.hb dL_law_1155 ?_
      refine lv_topi (fun x1413 hx1413 => ?_)
      obtain rfl : x1413 = nI (n + 3) := hx1413.trans (nI_add n 3)
      refine va_sld X.hx X.hb hXs hbl hbA hS1405 (vp_in_nI (by omega) (by omega)) dL_law_1156 ?_
      refine lv_topi (fun x1414 hx1414 => ?_)
      obtain rfl : x1414 = xs (n + 3) := hx1414.trans (by rw [nI_clamp (by omega)])
      refine gcV X hl.1 hR1404 hS1405 3 [.int (xs (n + 1)), .int (xs (n + 2)), .int (xs (n + 3))] [] (m_segStart l Γ G1407 hW hM1) hm1 rfl q1468 q1469 q1470 q40 q1471 rfl rfl ⟨rfl, by decide +kernel, by decide +kernel, by decide +kernel⟩ ⟨by (try dsimp only [RM]); omega, by (try dsimp only [RM]); omega⟩ rfl rfl (Nat.le_of_ble_eq_true rfl) dL_law_1157 ⟨by (try dsimp only [RM]); omega, by (try dsimp only [RM]); omega⟩ (fun v1418 G1419 H locs hq1415 hR1416 hS1417 => ?_)
      obtain ⟨hmr, hgm⟩ := hq1415
      rcases hmr with ⟨hj0, rfl, hM2⟩ | ⟨hj0, ⟨w9, rfl⟩, hM2⟩
      · have hX2 := hX1.tm hgm
        have hC2 := hC1.keep hgm (fun t ht => Nat.lt_trans ht.2 (by decide))
        have ho2 := hgm _ _ ho1 (fun h9 => absurd h9.2 (by show ¬ 40 < 40; decide))
        have hm2 := hM2.1
        refine lv_istore (lv' := [(6, .int (nI (sdy (rtA σ (xs (n + 1)).toNatClampNeg (xs (n + 3))) (xs (n + 2)).toNatClampNeg 365))), (5, .int 0), (0, .ref b), (1, .ref x), (2, .ref u), (3, .ref o), (4, .int (nI n))]) X.hx X.hb dL_law_1160 hl (by decide) rfl (fun ls hl => ?_)
        refine lv_aload_n X.hx X.hb dL_law_1162 rfl (lv_at hl 4 rfl) ?_
        refine gcV X hl.1 hR1416 hS1417 0 [] [] (m_thrown9 l Γ G1419 hM2) hm2 rfl q1360 q1361 q1362 q40 q1363 rfl rfl ⟨rfl, by decide +kernel, by decide +kernel, by decide +kernel⟩ ⟨by (try dsimp only [RM]); omega, by (try dsimp only [RM]); omega⟩ rfl rfl (Nat.le_of_ble_eq_true rfl) dL_law_1163 ⟨by (try dsimp only [RM]); omega, by (try dsimp only [RM]); omega⟩ (fun v1423 G1424 H locs hq1420 hR1421 hS1422 => ?_)
        obtain ⟨rfl, rfl⟩ := hq1420
        refine lv_iload X.hx X.hb dL_law_1166 (lv_at hl 1 rfl) ?_
        refine lv_icmp_eq (tgt := 1173) X.hx X.hb dL_law_1168 (by decide) (fun c1168 => ?_) (fun c1168 => ?_)
        · refine lv_iload X.hx X.hb dL_law_1173 (lv_at hl 1 rfl) ?_
          refine lv_if_ne (tgt := 1190) X.hx X.hb dL_law_1175 (by decide) (fun c1175 => ?_) (fun c1175 => ?_)
          · exact absurd rfl c1175
          · refine lv_aload_n X.hx X.hb dL_law_1178 rfl (lv_at hl 5 rfl) ?_
            refine lv_iconst (v := 0) X.hx X.hb dL_law_1179 (by decide) ?_
            refine g_lald (v := (nI (sdy (rtA σ (xs (n + 1)).toNatClampNeg (xs (n + 3))) (xs (n + 2)).toNatClampNeg 365)).toInt64) X hR1421 ho2 (vp_in_nI (n := 0) (by decide) (by decide)) hfL dL_law_1180 ?_
            refine lv_iload X.hx X.hb dL_law_1181 (lv_at hl 0 rfl) ?_
            refine lv_i2l X.hx X.hb dL_law_1183 rfl ?_
            refine W.lcmp X.hx X.hb dL_law_1184 ?_
            refine lv_if_eq (tgt := 1190) X.hx X.hb dL_law_1185 (by decide) (fun c1185 => ?_) (fun c1185 => ?_)
            · refine lv_goto (tgt := 1521) X.hx X.hb dL_law_1190 (by decide) ?_
              exact kk _ _ _ _ _ (Or.inr ⟨hk0, rfl⟩) ⟨⟨_, hX2⟩, ⟨_, _, hM2⟩, hC2, _, ho2⟩ hR1421 hS1422 (lv_sub hl [2, 3, 4, 5, 6] rfl)
            · exact absurd ((lg_cmp_eq _ _).mpr rfl) c1185
        · exact absurd (by decide) c1168
      · exact absurd hk0 hj0
    · have hM1 : MP Γ G1407 u σ th B := hM.keep hgo (fun t ht => TXo_m ht)
      have hC1 := hC.keep hgo (fun t ht => TXo_50 ht)
      have hm1 := hM1.1
      refine lv_istore (lv' := [(5, .int (kS σ (xs (n + 1)) (xs (n + 2)) (xs (n + 3)))), (0, .ref b), (1, .ref x), (2, .ref u), (3, .ref o), (4, .int (nI n))]) X.hx X.hb dL_law_1136 hl (by decide) rfl (fun ls hl => ?_)
      refine lv_aload_n X.hx X.hb dL_law_1138 rfl (lv_at hl 3 rfl) ?_
      refine lv_aload_n X.hx X.hb dL_law_1139 rfl (lv_at hl 1 rfl) ?_
      refine lv_iload X.hx X.hb dL_law_1140 (lv_at hl 5 rfl) ?_
      refine lv_iconst (v := 1) X.hx X.hb dL_law_1142 (by decide) ?_
      refine lv_iadd X.hx X.hb dL_law_1143 ?_
      refine lv_topi (fun x1425 hx1425 => ?_)
      obtain rfl : x1425 = nI (n + 1) := hx1425.trans (nI_add n 1)
      refine va_sld X.hx X.hb hXs hbl hbA hS1405 (vp_in_nI (by omega) (by omega)) dL_law_1144 ?_
      refine lv_topi (fun x1426 hx1426 => ?_)
      obtain rfl : x1426 = xs (n + 1) := hx1426.trans (by rw [nI_clamp (by omega)])
      refine lv_aload_n X.hx X.hb dL_law_1145 rfl (lv_at hl 1 rfl) ?_
      refine lv_iload X.hx X.hb dL_law_1146 (lv_at hl 5 rfl) ?_
      refine lv_iconst (v := 2) X.hx X.hb dL_law_1148 (by decide) ?_
      refine lv_iadd X.hx X.hb dL_law_1149 ?_
      refine lv_topi (fun x1427 hx1427 => ?_)
      obtain rfl : x1427 = nI (n + 2) := hx1427.trans (nI_add n 2)
      refine va_sld X.hx X.hb hXs hbl hbA hS1405 (vp_in_nI (by omega) (by omega)) dL_law_1150 ?_
      refine lv_topi (fun x1428 hx1428 => ?_)
      obtain rfl : x1428 = xs (n + 2) := hx1428.trans (by rw [nI_clamp (by omega)])
      refine lv_aload_n X.hx X.hb dL_law_1151 rfl (lv_at hl 1 rfl) ?_
      refine lv_iload X.hx X.hb dL_law_1152 (lv_at hl 5 rfl) ?_
      refine lv_iconst (v := 3) X.hx X.hb dL_law_1154 (by decide) ?_
      refine lv_iadd X.hx X.hb dL_law_1155 ?_
      refine lv_topi (fun x1429 hx1429 => ?_)
      obtain rfl : x1429 = nI (n + 3) := hx1429.trans (nI_add n 3)
      refine va_sld X.hx X.hb hXs hbl hbA hS1405 (vp_in_nI (by omega) (by omega)) dL_law_1156 ?_
      refine lv_topi (fun x1430 hx1430 => ?_)
      obtain rfl : x1430 = xs (n + 3) := hx1430.trans (by rw [nI_clamp (by omega)])
      refine gcV X hl.1 hR1404 hS1405 3 [.int (xs (n + 1)), .int (xs (n + 2)), .int (xs (n + 3))] [] (m_segStart l Γ G1407 hW hM1) hm1 rfl q1468 q1469 q1470 q40 q1471 rfl rfl ⟨rfl, by decide +kernel, by decide +kernel, by decide +kernel⟩ ⟨by (try dsimp only [RM]); omega, by (try dsimp only [RM]); omega⟩ rfl rfl (Nat.le_of_ble_eq_true rfl) dL_law_1157 ⟨by (try dsimp only [RM]); omega, by (try dsimp only [RM]); omega⟩ (fun v1434 G1435 H locs hq1431 hR1432 hS1433 => ?_)
      obtain ⟨hmr, hgm⟩ := hq1431
      rcases hmr with ⟨hj0, rfl, hM2⟩ | ⟨hj0, ⟨w9, rfl⟩, hM2⟩
      · exact absurd hj0 hk0
      · have hX2 := hX1.tm hgm
        have hC2 := hC1.keep hgm (fun t ht => Nat.lt_trans ht.2 (by decide))
        have ho2 := hgm _ _ ho1 (fun h9 => absurd h9.2 (by show ¬ 40 < 40; decide))
        have hm2 := hM2.1
        refine lv_istore (lv' := [(6, .int w9), (5, .int (kS σ (xs (n + 1)) (xs (n + 2)) (xs (n + 3)))), (0, .ref b), (1, .ref x), (2, .ref u), (3, .ref o), (4, .int (nI n))]) X.hx X.hb dL_law_1160 hl (by decide) rfl (fun ls hl => ?_)
        refine lv_aload_n X.hx X.hb dL_law_1162 rfl (lv_at hl 4 rfl) ?_
        refine gcV X hl.1 hR1432 hS1433 0 [] [] (m_thrown9 l Γ G1435 hM2) hm2 rfl q1360 q1361 q1362 q40 q1363 rfl rfl ⟨rfl, by decide +kernel, by decide +kernel, by decide +kernel⟩ ⟨by (try dsimp only [RM]); omega, by (try dsimp only [RM]); omega⟩ rfl rfl (Nat.le_of_ble_eq_true rfl) dL_law_1163 ⟨by (try dsimp only [RM]); omega, by (try dsimp only [RM]); omega⟩ (fun v1439 G1440 H locs hq1436 hR1437 hS1438 => ?_)
        obtain ⟨rfl, rfl⟩ := hq1436
        refine lv_iload X.hx X.hb dL_law_1166 (lv_at hl 1 rfl) ?_
        refine lv_icmp_eq (tgt := 1173) X.hx X.hb dL_law_1168 (by decide) (fun c1168 => ?_) (fun c1168 => ?_)
        · refine lv_iload X.hx X.hb dL_law_1173 (lv_at hl 1 rfl) ?_
          refine lv_if_ne (tgt := 1190) X.hx X.hb dL_law_1175 (by decide) (fun c1175 => ?_) (fun c1175 => ?_)
          · refine lv_goto (tgt := 1521) X.hx X.hb dL_law_1190 (by decide) ?_
            exact kk _ _ _ _ _ (Or.inl rfl) ⟨⟨_, hX2⟩, ⟨_, _, hM2⟩, hC2, _, ho2⟩ hR1437 hS1438 (lv_sub hl [2, 3, 4, 5, 6] rfl)
          · exact absurd c1175 hk0
        · exact absurd rfl c1168

set_option maxHeartbeats 4000000 in
theorem l_segmentPremium (X : Cx pp ss mm args cc0 Γ code 7 RX0) (hst : l.stackTraces = false) {b L n : Nat} {xs : Nat → Int32} (hXs : va_X b L xs ss ss.heap) (hbl : b < ss.heap.size) (hbA : ¬ gA Γ b) (hn : n + 5 ≤ L) (hL : L ≤ 320) (hRf : 100 ≤ R.frames) (hRl : 20000 ≤ R.locals) (hRc : cells + 4000 ≤ R.cells) (hRs : slots + 12000 ≤ R.slots) {x u o : Nat} {σ : MS} (hW : WF σ) (hz : σ.2 1 (σ.1 0) = 0) (hI : LSt Γ G x u o σ) (hR : Rep Γ G H) (hS : va_S (gA Γ) ss.heap H locs) (hl : lv_has ls 7 [(0, .ref b), (1, .ref x), (2, .ref u), (3, .ref o), (4, .int (nI n))])
    (kk : ∀ (τ1 : MS) (G1 : GH) (H1 : Heap) (locs1 : List Loc) (ls1 : Array Slot), (τ1 = σ ∨ (kS σ (xs (n + 1)) (xs (n + 2)) (xs (n + 3)) = 0 ∧ τ1 = σ)) → LSt Γ G1 x u o τ1 → Rep Γ G1 H1 → va_S (gA Γ) ss.heap H1 locs1 → lv_has ls1 7 [(0, .ref b), (1, .ref x), (2, .ref u), (3, .ref o), (4, .int (nI n))] → W pp l ee R ss mm args below meth cc0 H1 locs1 (cells + 4000) (slots + 12000) Q (F0 mm 1521 ls1 [])) :
    W pp l ee R ss mm args below meth cc0 H locs cells slots Q (F0 mm 1193 ls []) := by
  obtain ⟨⟨A, hX⟩, ⟨B, th, hM⟩, hC, fL, ho⟩ := hI
  obtain ⟨⟨rf, hx, -⟩, -⟩ := id hX
  have hm := hM.1
  refine lv_aload_n X.hx X.hb dL_law_1193 rfl (lv_at hl 1 rfl) ?_
  refine lv_aload_n X.hx X.hb dL_law_1194 rfl (lv_at hl 0 rfl) ?_
  refine lv_iload X.hx X.hb dL_law_1195 (lv_at hl 4 rfl) ?_
  refine lv_iconst (v := 1) X.hx X.hb dL_law_1197 (by decide) ?_
  refine lv_iadd X.hx X.hb dL_law_1198 ?_
  refine lv_topi (fun x1441 hx1441 => ?_)
  obtain rfl : x1441 = nI (n + 1) := hx1441.trans (nI_add n 1)
  refine va_sld X.hx X.hb hXs hbl hbA hS (vp_in_nI (by omega) (by omega)) dL_law_1199 ?_
  refine lv_topi (fun x1442 hx1442 => ?_)
  obtain rfl : x1442 = xs (n + 1) := hx1442.trans (by rw [nI_clamp (by omega)])
  refine lv_aload_n X.hx X.hb dL_law_1200 rfl (lv_at hl 0 rfl) ?_
  refine lv_iload X.hx X.hb dL_law_1201 (lv_at hl 4 rfl) ?_
  refine lv_iconst (v := 2) X.hx X.hb dL_law_1203 (by decide) ?_
  refine lv_iadd X.hx X.hb dL_law_1204 ?_
  refine lv_topi (fun x1443 hx1443 => ?_)
  obtain rfl : x1443 = nI (n + 2) := hx1443.trans (nI_add n 2)
  refine va_sld X.hx X.hb hXs hbl hbA hS (vp_in_nI (by omega) (by omega)) dL_law_1205 ?_
  refine lv_topi (fun x1444 hx1444 => ?_)
  obtain rfl : x1444 = xs (n + 2) := hx1444.trans (by rw [nI_clamp (by omega)])
  refine lv_aload_n X.hx X.hb dL_law_1206 rfl (lv_at hl 0 rfl) ?_
  refine lv_iload X.hx X.hb dL_law_1207 (lv_at hl 4 rfl) ?_
  refine lv_iconst (v := 3) X.hx X.hb dL_law_1209 (by decide) ?_
  refine lv_iadd X.hx X.hb dL_law_1210 ?_
  refine lv_topi (fun x1445 hx1445 => ?_)
  obtain rfl : x1445 = nI (n + 3) := hx1445.trans (nI_add n 3)
  refine va_sld X.hx X.hb hXs hbl hbA hS (vp_in_nI (by omega) (by omega)) dL_law_1211 ?_
  refine lv_topi (fun x1446 hx1446 => ?_)
  obtain rfl : x1446 = xs (n + 3) := hx1446.trans (by rw [nI_clamp (by omega)])
  refine lv_aload_n X.hx X.hb dL_law_1212 rfl (lv_at hl 3 rfl) ?_
  refine gxWS X hl.1 hR hS 5 [.ref x, .int (xs (n + 1)), .int (xs (n + 2)), .int (xs (n + 3)), .ref o] [] (w_segmentPremium l Γ G hst hW hX hC ho) q1237 q1238 q35 q1239 rfl rfl ⟨by decide +kernel, by decide +kernel, by decide +kernel⟩ ⟨by (try dsimp only [RM]); omega, by (try dsimp only [RM]); omega⟩ rfl rfl (Nat.le_of_ble_eq_true rfl) dL_law_1213 ⟨by (try dsimp only [RM]); omega, by (try dsimp only [RM]); omega⟩ (fun E1452 ce q9 G9 H locs hq9 hR9 hS9 hce hcv hcl => ?_) (fun v1450 G1451 H locs hq1447 hR1448 hS1449 => ?_)
  · exact hq9.elim
  · obtain ⟨u9, hps, hcr, hgo⟩ := hq1447
    rcases hcr with ⟨hk0, rfl, ⟨A1, hX1⟩, fL1, ho1, hfL⟩ | ⟨hk0, rfl, ⟨A1, hX1⟩, fL1, ho1⟩
    · have hM1 : MP Γ G1451 u σ th B := hM.keep hgo (fun t ht => TXo_m ht)
      have hC1 := hC.keep hgo (fun t ht => TXo_50 ht)
      have hm1 := hM1.1
      refine lv_istore (lv' := [(5, .int 0), (0, .ref b), (1, .ref x), (2, .ref u), (3, .ref o), (4, .int (nI n))]) X.hx X.hb dL_law_1216 hl (by decide) rfl (fun ls hl => ?_)
      refine lv_aload_n X.hx X.hb dL_law_1218 rfl (lv_at hl 3 rfl) ?_
      refine lv_aload_n X.hx X.hb dL_law_1219 rfl (lv_at hl 1 rfl) ?_
      refine lv_iload X.hx X.hb dL_law_1220 (lv_at hl 5 rfl) ?_
      refine lv_iconst (v := 1) X.hx X.hb dL_law_1222 (by decide) ?_
      refine lv_iadd X.hx X.hb dL_law_1223 ?_
      refine lv_topi (fun x1453 hx1453 => ?_)
      obtain rfl : x1453 = nI (n + 1) := hx1453.trans (nI_add n 1)
      refine va_sld X.hx X.hb hXs hbl hbA hS1449 (vp_in_nI (by omega) (by omega)) dL_law_1224 ?_
      refine lv_topi (fun x1454 hx1454 => ?_)
      obtain rfl : x1454 = xs (n + 1) := hx1454.trans (by rw [nI_clamp (by omega)])
      refine lv_aload_n X.hx X.hb dL_law_1225 rfl (lv_at hl 1 rfl) ?_
      refine lv_iload X.hx X.hb dL_law_1226 (lv_at hl 5 rfl) ?_
      refine lv_iconst (v := 2) X.hx X.hb dL_law_1228 (by decide) ?_
      refine lv_iadd X.hx X.hb dL_law_1229 ?_
      refine lv_topi (fun x1455 hx1455 => ?_)
      obtain rfl : x1455 = nI (n + 2) := hx1455.trans (nI_add n 2)
      refine va_sld X.hx X.hb hXs hbl hbA hS1449 (vp_in_nI (by omega) (by omega)) dL_law_1230 ?_
      refine lv_topi (fun x1456 hx1456 => ?_)
      obtain rfl : x1456 = xs (n + 2) := hx1456.trans (by rw [nI_clamp (by omega)])
      refine lv_aload_n X.hx X.hb dL_law_1231 rfl (lv_at hl 1 rfl) ?_
      refine lv_iload X.hx X.hb dL_law_1232 (lv_at hl 5 rfl) ?_
      refine lv_iconst (v := 3) X.hx X.hb dL_law_1234 (by decide) ?_
      refine lv_iadd X.hx X.hb dL_law_1235 ?_
      refine lv_topi (fun x1457 hx1457 => ?_)
      obtain rfl : x1457 = nI (n + 3) := hx1457.trans (nI_add n 3)
      refine va_sld X.hx X.hb hXs hbl hbA hS1449 (vp_in_nI (by omega) (by omega)) dL_law_1236 ?_
      refine lv_topi (fun x1458 hx1458 => ?_)
      obtain rfl : x1458 = xs (n + 3) := hx1458.trans (by rw [nI_clamp (by omega)])
      refine gcV X hl.1 hR1448 hS1449 3 [.int (xs (n + 1)), .int (xs (n + 2)), .int (xs (n + 3))] [] (m_segPrem l Γ G1451 hW hM1) hm1 rfl q1476 q1477 q1478 q40 q1479 rfl rfl ⟨rfl, by decide +kernel, by decide +kernel, by decide +kernel⟩ ⟨by (try dsimp only [RM]); omega, by (try dsimp only [RM]); omega⟩ rfl rfl (Nat.le_of_ble_eq_true rfl) dL_law_1237 ⟨by (try dsimp only [RM]); omega, by (try dsimp only [RM]); omega⟩ (fun v1462 G1463 H locs hq1459 hR1460 hS1461 => ?_)
      obtain ⟨hmr, hgm⟩ := hq1459
      rcases hmr with ⟨hj0, ⟨u8, rfl, hps2⟩, hM2⟩ | ⟨hj0, ⟨w9, rfl⟩, hM2⟩
      · obtain rfl : u8 = u9 := PSg.inj hps2 (hps hk0)
        have hX2 := hX1.tm hgm
        have hC2 := hC1.keep hgm (fun t ht => Nat.lt_trans ht.2 (by decide))
        have ho2 := hgm _ _ ho1 (fun h9 => absurd h9.2 (by show ¬ 40 < 40; decide))
        have hm2 := hM2.1
        refine lv_istore (lv' := [(6, .int u8), (5, .int 0), (0, .ref b), (1, .ref x), (2, .ref u), (3, .ref o), (4, .int (nI n))]) X.hx X.hb dL_law_1240 hl (by decide) rfl (fun ls hl => ?_)
        refine lv_aload_n X.hx X.hb dL_law_1242 rfl (lv_at hl 4 rfl) ?_
        refine gcV X hl.1 hR1460 hS1461 0 [] [] (m_thrown9 l Γ G1463 hM2) hm2 rfl q1360 q1361 q1362 q40 q1363 rfl rfl ⟨rfl, by decide +kernel, by decide +kernel, by decide +kernel⟩ ⟨by (try dsimp only [RM]); omega, by (try dsimp only [RM]); omega⟩ rfl rfl (Nat.le_of_ble_eq_true rfl) dL_law_1243 ⟨by (try dsimp only [RM]); omega, by (try dsimp only [RM]); omega⟩ (fun v1467 G1468 H locs hq1464 hR1465 hS1466 => ?_)
        obtain ⟨rfl, rfl⟩ := hq1464
        refine lv_iload X.hx X.hb dL_law_1246 (lv_at hl 1 rfl) ?_
        refine lv_icmp_eq (tgt := 1253) X.hx X.hb dL_law_1248 (by decide) (fun c1248 => ?_) (fun c1248 => ?_)
        · refine lv_iload X.hx X.hb dL_law_1253 (lv_at hl 1 rfl) ?_
          refine lv_if_ne (tgt := 1270) X.hx X.hb dL_law_1255 (by decide) (fun c1255 => ?_) (fun c1255 => ?_)
          · exact absurd rfl c1255
          · refine lv_aload_n X.hx X.hb dL_law_1258 rfl (lv_at hl 5 rfl) ?_
            refine lv_iconst (v := 0) X.hx X.hb dL_law_1259 (by decide) ?_
            refine g_lald (v := (u8).toInt64) X hR1465 ho2 (vp_in_nI (n := 0) (by decide) (by decide)) hfL dL_law_1260 ?_
            refine lv_iload X.hx X.hb dL_law_1261 (lv_at hl 0 rfl) ?_
            refine lv_i2l X.hx X.hb dL_law_1263 rfl ?_
            refine W.lcmp X.hx X.hb dL_law_1264 ?_
            refine lv_if_eq (tgt := 1270) X.hx X.hb dL_law_1265 (by decide) (fun c1265 => ?_) (fun c1265 => ?_)
            · refine lv_goto (tgt := 1521) X.hx X.hb dL_law_1270 (by decide) ?_
              exact kk _ _ _ _ _ (Or.inr ⟨hk0, rfl⟩) ⟨⟨_, hX2⟩, ⟨_, _, hM2⟩, hC2, _, ho2⟩ hR1465 hS1466 (lv_sub hl [2, 3, 4, 5, 6] rfl)
            · exact absurd ((lg_cmp_eq _ _).mpr rfl) c1265
        · exact absurd (by decide) c1248
      · exact absurd hk0 hj0
    · have hM1 : MP Γ G1451 u σ th B := hM.keep hgo (fun t ht => TXo_m ht)
      have hC1 := hC.keep hgo (fun t ht => TXo_50 ht)
      have hm1 := hM1.1
      refine lv_istore (lv' := [(5, .int (kS σ (xs (n + 1)) (xs (n + 2)) (xs (n + 3)))), (0, .ref b), (1, .ref x), (2, .ref u), (3, .ref o), (4, .int (nI n))]) X.hx X.hb dL_law_1216 hl (by decide) rfl (fun ls hl => ?_)
      refine lv_aload_n X.hx X.hb dL_law_1218 rfl (lv_at hl 3 rfl) ?_
      refine lv_aload_n X.hx X.hb dL_law_1219 rfl (lv_at hl 1 rfl) ?_
      refine lv_iload X.hx X.hb dL_law_1220 (lv_at hl 5 rfl) ?_
      refine lv_iconst (v := 1) X.hx X.hb dL_law_1222 (by decide) ?_
      refine lv_iadd X.hx X.hb dL_law_1223 ?_
      refine lv_topi (fun x1469 hx1469 => ?_)
      obtain rfl : x1469 = nI (n + 1) := hx1469.trans (nI_add n 1)
      refine va_sld X.hx X.hb hXs hbl hbA hS1449 (vp_in_nI (by omega) (by omega)) dL_law_1224 ?_
      refine lv_topi (fun x1470 hx1470 => ?_)
      obtain rfl : x1470 = xs (n + 1) := hx1470.trans (by rw [nI_clamp (by omega)])
      refine lv_aload_n X.hx X.hb dL_law_1225 rfl (lv_at hl 1 rfl) ?_
      refine lv_iload X.hx X.hb dL_law_1226 (lv_at hl 5 rfl) ?_
      refine lv_iconst (v := 2) X.hx X.hb dL_law_1228 (by decide) ?_
      refine lv_iadd X.hx X.hb dL_law_1229 ?_
      refine lv_topi (fun x1471 hx1471 => ?_)
      obtain rfl : x1471 = nI (n + 2) := hx1471.trans (nI_add n 2)
      refine va_sld X.hx X.hb hXs hbl hbA hS1449 (vp_in_nI (by omega) (by omega)) dL_law_1230 ?_
      refine lv_topi (fun x1472 hx1472 => ?_)
      obtain rfl : x1472 = xs (n + 2) := hx1472.trans (by rw [nI_clamp (by omega)])
      refine lv_aload_n X.hx X.hb dL_law_1231 rfl (lv_at hl 1 rfl) ?_
      refine lv_iload X.hx X.hb dL_law_1232 (lv_at hl 5 rfl) ?_
      refine lv_iconst (v := 3) X.hx X.hb dL_law_1234 (by decide) ?_
      refine lv_iadd X.hx X.hb dL_law_1235 ?_
      refine lv_topi (fun x1473 hx1473 => ?_)
      obtain rfl : x1473 = nI (n + 3) := hx1473.trans (nI_add n 3)
      refine va_sld X.hx X.hb hXs hbl hbA hS1449 (vp_in_nI (by omega) (by omega)) dL_law_1236 ?_
      refine lv_topi (fun x1474 hx1474 => ?_)
      obtain rfl : x1474 = xs (n + 3) := hx1474.trans (by rw [nI_clamp (by omega)])
      refine gcV X hl.1 hR1448 hS1449 3 [.int (xs (n + 1)), .int (xs (n + 2)), .int (xs (n + 3))] [] (m_segPrem l Γ G1451 hW hM1) hm1 rfl q1476 q1477 q1478 q40 q1479 rfl rfl ⟨rfl, by decide +kernel, by decide +kernel, by decide +kernel⟩ ⟨by (try dsimp only [RM]); omega, by (try dsimp only [RM]); omega⟩ rfl rfl (Nat.le_of_ble_eq_true rfl) dL_law_1237 ⟨by (try dsimp only [RM]); omega, by (try dsimp only [RM]); omega⟩ (fun v1478 G1479 H locs hq1475 hR1476 hS1477 => ?_)
      obtain ⟨hmr, hgm⟩ := hq1475
      rcases hmr with ⟨hj0, ⟨u8, rfl, hps2⟩, hM2⟩ | ⟨hj0, ⟨w9, rfl⟩, hM2⟩
      · exact absurd hj0 hk0
      · have hX2 := hX1.tm hgm
        have hC2 := hC1.keep hgm (fun t ht => Nat.lt_trans ht.2 (by decide))
        have ho2 := hgm _ _ ho1 (fun h9 => absurd h9.2 (by show ¬ 40 < 40; decide))
        have hm2 := hM2.1
        refine lv_istore (lv' := [(6, .int w9), (5, .int (kS σ (xs (n + 1)) (xs (n + 2)) (xs (n + 3)))), (0, .ref b), (1, .ref x), (2, .ref u), (3, .ref o), (4, .int (nI n))]) X.hx X.hb dL_law_1240 hl (by decide) rfl (fun ls hl => ?_)
        refine lv_aload_n X.hx X.hb dL_law_1242 rfl (lv_at hl 4 rfl) ?_
        refine gcV X hl.1 hR1476 hS1477 0 [] [] (m_thrown9 l Γ G1479 hM2) hm2 rfl q1360 q1361 q1362 q40 q1363 rfl rfl ⟨rfl, by decide +kernel, by decide +kernel, by decide +kernel⟩ ⟨by (try dsimp only [RM]); omega, by (try dsimp only [RM]); omega⟩ rfl rfl (Nat.le_of_ble_eq_true rfl) dL_law_1243 ⟨by (try dsimp only [RM]); omega, by (try dsimp only [RM]); omega⟩ (fun v1483 G1484 H locs hq1480 hR1481 hS1482 => ?_)
        obtain ⟨rfl, rfl⟩ := hq1480
        refine lv_iload X.hx X.hb dL_law_1246 (lv_at hl 1 rfl) ?_
        refine lv_icmp_eq (tgt := 1253) X.hx X.hb dL_law_1248 (by decide) (fun c1248 => ?_) (fun c1248 => ?_)
        · refine lv_iload X.hx X.hb dL_law_1253 (lv_at hl 1 rfl) ?_
          refine lv_if_ne (tgt := 1270) X.hx X.hb dL_law_1255 (by decide) (fun c1255 => ?_) (fun c1255 => ?_)
          · refine lv_goto (tgt := 1521) X.hx X.hb dL_law_1270 (by decide) ?_
            exact kk _ _ _ _ _ (Or.inl rfl) ⟨⟨_, hX2⟩, ⟨_, _, hM2⟩, hC2, _, ho2⟩ hR1481 hS1482 (lv_sub hl [2, 3, 4, 5, 6] rfl)
          · exact absurd c1255 hk0
        · exact absurd rfl c1248

set_option maxHeartbeats 4000000 in
theorem l_premium (X : Cx pp ss mm args cc0 Γ code 7 RX0) (hst : l.stackTraces = false) {b L n : Nat} {xs : Nat → Int32} (hXs : va_X b L xs ss ss.heap) (hbl : b < ss.heap.size) (hbA : ¬ gA Γ b) (hn : n + 5 ≤ L) (hL : L ≤ 320) (hRf : 100 ≤ R.frames) (hRl : 20000 ≤ R.locals) (hRc : cells + 4000 ≤ R.cells) (hRs : slots + 12000 ≤ R.slots) {x u o : Nat} {σ : MS} (hW : WF σ) (hz : σ.2 1 (σ.1 0) = 0) (hI : LSt Γ G x u o σ) (hR : Rep Γ G H) (hS : va_S (gA Γ) ss.heap H locs) (hl : lv_has ls 7 [(0, .ref b), (1, .ref x), (2, .ref u), (3, .ref o), (4, .int (nI n))])
    (kk : ∀ (τ1 : MS) (G1 : GH) (H1 : Heap) (locs1 : List Loc) (ls1 : Array Slot), (τ1 = σ ∨ (kV σ (xs (n + 1)) 0 0 (xs (n + 2)) = 0 ∧ τ1 = σ)) → LSt Γ G1 x u o τ1 → Rep Γ G1 H1 → va_S (gA Γ) ss.heap H1 locs1 → lv_has ls1 7 [(0, .ref b), (1, .ref x), (2, .ref u), (3, .ref o), (4, .int (nI n))] → W pp l ee R ss mm args below meth cc0 H1 locs1 (cells + 4000) (slots + 12000) Q (F0 mm 1521 ls1 [])) :
    W pp l ee R ss mm args below meth cc0 H locs cells slots Q (F0 mm 1273 ls []) := by
  obtain ⟨⟨A, hX⟩, ⟨B, th, hM⟩, hC, fL, ho⟩ := hI
  obtain ⟨⟨rf, hx, -⟩, -⟩ := id hX
  have hm := hM.1
  refine lv_aload_n X.hx X.hb dL_law_1273 rfl (lv_at hl 1 rfl) ?_
  refine lv_aload_n X.hx X.hb dL_law_1274 rfl (lv_at hl 0 rfl) ?_
  refine lv_iload X.hx X.hb dL_law_1275 (lv_at hl 4 rfl) ?_
  refine lv_iconst (v := 1) X.hx X.hb dL_law_1277 (by decide) ?_
  refine lv_iadd X.hx X.hb dL_law_1278 ?_
  refine lv_topi (fun x1485 hx1485 => ?_)
  obtain rfl : x1485 = nI (n + 1) := hx1485.trans (nI_add n 1)
  refine va_sld X.hx X.hb hXs hbl hbA hS (vp_in_nI (by omega) (by omega)) dL_law_1279 ?_
  refine lv_topi (fun x1486 hx1486 => ?_)
  obtain rfl : x1486 = xs (n + 1) := hx1486.trans (by rw [nI_clamp (by omega)])
  refine lv_aload_n X.hx X.hb dL_law_1280 rfl (lv_at hl 0 rfl) ?_
  refine lv_iload X.hx X.hb dL_law_1281 (lv_at hl 4 rfl) ?_
  refine lv_iconst (v := 2) X.hx X.hb dL_law_1283 (by decide) ?_
  refine lv_iadd X.hx X.hb dL_law_1284 ?_
  refine lv_topi (fun x1487 hx1487 => ?_)
  obtain rfl : x1487 = nI (n + 2) := hx1487.trans (nI_add n 2)
  refine va_sld X.hx X.hb hXs hbl hbA hS (vp_in_nI (by omega) (by omega)) dL_law_1285 ?_
  refine lv_topi (fun x1488 hx1488 => ?_)
  obtain rfl : x1488 = xs (n + 2) := hx1488.trans (by rw [nI_clamp (by omega)])
  refine lv_aload_n X.hx X.hb dL_law_1286 rfl (lv_at hl 3 rfl) ?_
  refine gxWS X hl.1 hR hS 4 [.ref x, .int (xs (n + 1)), .int (xs (n + 2)), .ref o] [] (w_premium l Γ G hst hW hX hC ho) q1252 q1253 q35 q1254 rfl rfl ⟨by decide +kernel, by decide +kernel, by decide +kernel⟩ ⟨by (try dsimp only [RM]); omega, by (try dsimp only [RM]); omega⟩ rfl rfl (Nat.le_of_ble_eq_true rfl) dL_law_1287 ⟨by (try dsimp only [RM]); omega, by (try dsimp only [RM]); omega⟩ (fun E1494 ce q9 G9 H locs hq9 hR9 hS9 hce hcv hcl => ?_) (fun v1492 G1493 H locs hq1489 hR1490 hS1491 => ?_)
  · exact hq9.elim
  · obtain ⟨hcr, hgo⟩ := hq1489
    rcases hcr with ⟨hk0, rfl, ⟨A1, hX1⟩, fL1, ho1, hfL⟩ | ⟨hk0, rfl, ⟨A1, hX1⟩, fL1, ho1⟩
    · have hM1 : MP Γ G1493 u σ th B := hM.keep hgo (fun t ht => TXo_m ht)
      have hC1 := hC.keep hgo (fun t ht => TXo_50 ht)
      have hm1 := hM1.1
      refine lv_istore (lv' := [(5, .int 0), (0, .ref b), (1, .ref x), (2, .ref u), (3, .ref o), (4, .int (nI n))]) X.hx X.hb dL_law_1290 hl (by decide) rfl (fun ls hl => ?_)
      refine lv_aload_n X.hx X.hb dL_law_1292 rfl (lv_at hl 3 rfl) ?_
      refine lv_aload_n X.hx X.hb dL_law_1293 rfl (lv_at hl 1 rfl) ?_
      refine lv_iload X.hx X.hb dL_law_1294 (lv_at hl 5 rfl) ?_
      refine lv_iconst (v := 1) X.hx X.hb dL_law_1296 (by decide) ?_
      refine lv_iadd X.hx X.hb dL_law_1297 ?_
      refine lv_topi (fun x1495 hx1495 => ?_)
      obtain rfl : x1495 = nI (n + 1) := hx1495.trans (nI_add n 1)
      refine va_sld X.hx X.hb hXs hbl hbA hS1491 (vp_in_nI (by omega) (by omega)) dL_law_1298 ?_
      refine lv_topi (fun x1496 hx1496 => ?_)
      obtain rfl : x1496 = xs (n + 1) := hx1496.trans (by rw [nI_clamp (by omega)])
      refine lv_aload_n X.hx X.hb dL_law_1299 rfl (lv_at hl 1 rfl) ?_
      refine lv_iload X.hx X.hb dL_law_1300 (lv_at hl 5 rfl) ?_
      refine lv_iconst (v := 2) X.hx X.hb dL_law_1302 (by decide) ?_
      refine lv_iadd X.hx X.hb dL_law_1303 ?_
      refine lv_topi (fun x1497 hx1497 => ?_)
      obtain rfl : x1497 = nI (n + 2) := hx1497.trans (nI_add n 2)
      refine va_sld X.hx X.hb hXs hbl hbA hS1491 (vp_in_nI (by omega) (by omega)) dL_law_1304 ?_
      refine lv_topi (fun x1498 hx1498 => ?_)
      obtain rfl : x1498 = xs (n + 2) := hx1498.trans (by rw [nI_clamp (by omega)])
      refine gcV X hl.1 hR1490 hS1491 2 [.int (xs (n + 1)), .int (xs (n + 2))] [] (m_premium l Γ G1493 hW hM1) hm1 rfl q1484 q1485 q1486 q40 q1487 rfl rfl ⟨rfl, by decide +kernel, by decide +kernel, by decide +kernel⟩ ⟨by (try dsimp only [RM]); omega, by (try dsimp only [RM]); omega⟩ rfl rfl (Nat.le_of_ble_eq_true rfl) dL_law_1305 ⟨by (try dsimp only [RM]); omega, by (try dsimp only [RM]); omega⟩ (fun v1502 G1503 H locs hq1499 hR1500 hS1501 => ?_)
      obtain ⟨hmr, hgm⟩ := hq1499
      rcases hmr with ⟨hj0, rfl, hM2⟩ | ⟨hj0, ⟨w9, rfl⟩, hM2⟩
      · have hX2 := hX1.tm hgm
        have hC2 := hC1.keep hgm (fun t ht => Nat.lt_trans ht.2 (by decide))
        have ho2 := hgm _ _ ho1 (fun h9 => absurd h9.2 (by show ¬ 40 < 40; decide))
        have hm2 := hM2.1
        refine lv_istore (lv' := [(6, .int (SUM (rtA σ (xs (n + 1)).toNatClampNeg (xs (n + 2))) 365 / 365)), (5, .int 0), (0, .ref b), (1, .ref x), (2, .ref u), (3, .ref o), (4, .int (nI n))]) X.hx X.hb dL_law_1308 hl (by decide) rfl (fun ls hl => ?_)
        refine lv_aload_n X.hx X.hb dL_law_1310 rfl (lv_at hl 4 rfl) ?_
        refine gcV X hl.1 hR1500 hS1501 0 [] [] (m_thrown9 l Γ G1503 hM2) hm2 rfl q1360 q1361 q1362 q40 q1363 rfl rfl ⟨rfl, by decide +kernel, by decide +kernel, by decide +kernel⟩ ⟨by (try dsimp only [RM]); omega, by (try dsimp only [RM]); omega⟩ rfl rfl (Nat.le_of_ble_eq_true rfl) dL_law_1311 ⟨by (try dsimp only [RM]); omega, by (try dsimp only [RM]); omega⟩ (fun v1507 G1508 H locs hq1504 hR1505 hS1506 => ?_)
        obtain ⟨rfl, rfl⟩ := hq1504
        refine lv_iload X.hx X.hb dL_law_1314 (lv_at hl 1 rfl) ?_
        refine lv_icmp_eq (tgt := 1321) X.hx X.hb dL_law_1316 (by decide) (fun c1316 => ?_) (fun c1316 => ?_)
        · refine lv_iload X.hx X.hb dL_law_1321 (lv_at hl 1 rfl) ?_
          refine lv_if_ne (tgt := 1338) X.hx X.hb dL_law_1323 (by decide) (fun c1323 => ?_) (fun c1323 => ?_)
          · exact absurd rfl c1323
          · refine lv_aload_n X.hx X.hb dL_law_1326 rfl (lv_at hl 5 rfl) ?_
            refine lv_iconst (v := 0) X.hx X.hb dL_law_1327 (by decide) ?_
            refine g_lald (v := (SUM (rtA σ (xs (n + 1)).toNatClampNeg (xs (n + 2))) 365 / 365).toInt64) X hR1505 ho2 (vp_in_nI (n := 0) (by decide) (by decide)) hfL dL_law_1328 ?_
            refine lv_iload X.hx X.hb dL_law_1329 (lv_at hl 0 rfl) ?_
            refine lv_i2l X.hx X.hb dL_law_1331 rfl ?_
            refine W.lcmp X.hx X.hb dL_law_1332 ?_
            refine lv_if_eq (tgt := 1338) X.hx X.hb dL_law_1333 (by decide) (fun c1333 => ?_) (fun c1333 => ?_)
            · refine lv_goto (tgt := 1521) X.hx X.hb dL_law_1338 (by decide) ?_
              exact kk _ _ _ _ _ (Or.inr ⟨hk0, rfl⟩) ⟨⟨_, hX2⟩, ⟨_, _, hM2⟩, hC2, _, ho2⟩ hR1505 hS1506 (lv_sub hl [2, 3, 4, 5, 6] rfl)
            · exact absurd ((lg_cmp_eq _ _).mpr rfl) c1333
        · exact absurd (by decide) c1316
      · exact absurd hk0 hj0
    · have hM1 : MP Γ G1493 u σ th B := hM.keep hgo (fun t ht => TXo_m ht)
      have hC1 := hC.keep hgo (fun t ht => TXo_50 ht)
      have hm1 := hM1.1
      refine lv_istore (lv' := [(5, .int (kV σ (xs (n + 1)) 0 0 (xs (n + 2)))), (0, .ref b), (1, .ref x), (2, .ref u), (3, .ref o), (4, .int (nI n))]) X.hx X.hb dL_law_1290 hl (by decide) rfl (fun ls hl => ?_)
      refine lv_aload_n X.hx X.hb dL_law_1292 rfl (lv_at hl 3 rfl) ?_
      refine lv_aload_n X.hx X.hb dL_law_1293 rfl (lv_at hl 1 rfl) ?_
      refine lv_iload X.hx X.hb dL_law_1294 (lv_at hl 5 rfl) ?_
      refine lv_iconst (v := 1) X.hx X.hb dL_law_1296 (by decide) ?_
      refine lv_iadd X.hx X.hb dL_law_1297 ?_
      refine lv_topi (fun x1509 hx1509 => ?_)
      obtain rfl : x1509 = nI (n + 1) := hx1509.trans (nI_add n 1)
      refine va_sld X.hx X.hb hXs hbl hbA hS1491 (vp_in_nI (by omega) (by omega)) dL_law_1298 ?_
      refine lv_topi (fun x1510 hx1510 => ?_)
      obtain rfl : x1510 = xs (n + 1) := hx1510.trans (by rw [nI_clamp (by omega)])
      refine lv_aload_n X.hx X.hb dL_law_1299 rfl (lv_at hl 1 rfl) ?_
      refine lv_iload X.hx X.hb dL_law_1300 (lv_at hl 5 rfl) ?_
      refine lv_iconst (v := 2) X.hx X.hb dL_law_1302 (by decide) ?_
      refine lv_iadd X.hx X.hb dL_law_1303 ?_
      refine lv_topi (fun x1511 hx1511 => ?_)
      obtain rfl : x1511 = nI (n + 2) := hx1511.trans (nI_add n 2)
      refine va_sld X.hx X.hb hXs hbl hbA hS1491 (vp_in_nI (by omega) (by omega)) dL_law_1304 ?_
      refine lv_topi (fun x1512 hx1512 => ?_)
      obtain rfl : x1512 = xs (n + 2) := hx1512.trans (by rw [nI_clamp (by omega)])
      refine gcV X hl.1 hR1490 hS1491 2 [.int (xs (n + 1)), .int (xs (n + 2))] [] (m_premium l Γ G1493 hW hM1) hm1 rfl q1484 q1485 q1486 q40 q1487 rfl rfl ⟨rfl, by decide +kernel, by decide +kernel, by decide +kernel⟩ ⟨by (try dsimp only [RM]); omega, by (try dsimp only [RM]); omega⟩ rfl rfl (Nat.le_of_ble_eq_true rfl) dL_law_1305 ⟨by (try dsimp only [RM]); omega, by (try dsimp only [RM]); omega⟩ (fun v1516 G1517 H locs hq1513 hR1514 hS1515 => ?_)
      obtain ⟨hmr, hgm⟩ := hq1513
      rcases hmr with ⟨hj0, rfl, hM2⟩ | ⟨hj0, ⟨w9, rfl⟩, hM2⟩
      · exact absurd hj0 hk0
      · have hX2 := hX1.tm hgm
        have hC2 := hC1.keep hgm (fun t ht => Nat.lt_trans ht.2 (by decide))
        have ho2 := hgm _ _ ho1 (fun h9 => absurd h9.2 (by show ¬ 40 < 40; decide))
        have hm2 := hM2.1
        refine lv_istore (lv' := [(6, .int w9), (5, .int (kV σ (xs (n + 1)) 0 0 (xs (n + 2)))), (0, .ref b), (1, .ref x), (2, .ref u), (3, .ref o), (4, .int (nI n))]) X.hx X.hb dL_law_1308 hl (by decide) rfl (fun ls hl => ?_)
        refine lv_aload_n X.hx X.hb dL_law_1310 rfl (lv_at hl 4 rfl) ?_
        refine gcV X hl.1 hR1514 hS1515 0 [] [] (m_thrown9 l Γ G1517 hM2) hm2 rfl q1360 q1361 q1362 q40 q1363 rfl rfl ⟨rfl, by decide +kernel, by decide +kernel, by decide +kernel⟩ ⟨by (try dsimp only [RM]); omega, by (try dsimp only [RM]); omega⟩ rfl rfl (Nat.le_of_ble_eq_true rfl) dL_law_1311 ⟨by (try dsimp only [RM]); omega, by (try dsimp only [RM]); omega⟩ (fun v1521 G1522 H locs hq1518 hR1519 hS1520 => ?_)
        obtain ⟨rfl, rfl⟩ := hq1518
        refine lv_iload X.hx X.hb dL_law_1314 (lv_at hl 1 rfl) ?_
        refine lv_icmp_eq (tgt := 1321) X.hx X.hb dL_law_1316 (by decide) (fun c1316 => ?_) (fun c1316 => ?_)
        · refine lv_iload X.hx X.hb dL_law_1321 (lv_at hl 1 rfl) ?_
          refine lv_if_ne (tgt := 1338) X.hx X.hb dL_law_1323 (by decide) (fun c1323 => ?_) (fun c1323 => ?_)
          · refine lv_goto (tgt := 1521) X.hx X.hb dL_law_1338 (by decide) ?_
            exact kk _ _ _ _ _ (Or.inl rfl) ⟨⟨_, hX2⟩, ⟨_, _, hM2⟩, hC2, _, ho2⟩ hR1519 hS1520 (lv_sub hl [2, 3, 4, 5, 6] rfl)
          · exact absurd c1323 hk0
        · exact absurd rfl c1316

set_option maxHeartbeats 4000000 in
theorem l_premiumByDays (X : Cx pp ss mm args cc0 Γ code 7 RX0) (hst : l.stackTraces = false) {b L n : Nat} {xs : Nat → Int32} (hXs : va_X b L xs ss ss.heap) (hbl : b < ss.heap.size) (hbA : ¬ gA Γ b) (hn : n + 5 ≤ L) (hL : L ≤ 320) (hRf : 100 ≤ R.frames) (hRl : 20000 ≤ R.locals) (hRc : cells + 4000 ≤ R.cells) (hRs : slots + 12000 ≤ R.slots) {x u o : Nat} {σ : MS} (hW : WF σ) (hz : σ.2 1 (σ.1 0) = 0) (hI : LSt Γ G x u o σ) (hR : Rep Γ G H) (hS : va_S (gA Γ) ss.heap H locs) (hl : lv_has ls 7 [(0, .ref b), (1, .ref x), (2, .ref u), (3, .ref o), (4, .int (nI n))])
    (kk : ∀ (τ1 : MS) (G1 : GH) (H1 : Heap) (locs1 : List Loc) (ls1 : Array Slot), (τ1 = σ ∨ (kV σ (xs (n + 1)) 0 0 (xs (n + 2)) = 0 ∧ τ1 = σ)) → LSt Γ G1 x u o τ1 → Rep Γ G1 H1 → va_S (gA Γ) ss.heap H1 locs1 → lv_has ls1 7 [(0, .ref b), (1, .ref x), (2, .ref u), (3, .ref o), (4, .int (nI n))] → W pp l ee R ss mm args below meth cc0 H1 locs1 (cells + 4000) (slots + 12000) Q (F0 mm 1521 ls1 [])) :
    W pp l ee R ss mm args below meth cc0 H locs cells slots Q (F0 mm 1341 ls []) := by
  obtain ⟨⟨A, hX⟩, ⟨B, th, hM⟩, hC, fL, ho⟩ := hI
  obtain ⟨⟨rf, hx, -⟩, -⟩ := id hX
  have hm := hM.1
  refine lv_aload_n X.hx X.hb dL_law_1341 rfl (lv_at hl 1 rfl) ?_
  refine lv_aload_n X.hx X.hb dL_law_1342 rfl (lv_at hl 0 rfl) ?_
  refine lv_iload X.hx X.hb dL_law_1343 (lv_at hl 4 rfl) ?_
  refine lv_iconst (v := 1) X.hx X.hb dL_law_1345 (by decide) ?_
  refine lv_iadd X.hx X.hb dL_law_1346 ?_
  refine lv_topi (fun x1523 hx1523 => ?_)
  obtain rfl : x1523 = nI (n + 1) := hx1523.trans (nI_add n 1)
  refine va_sld X.hx X.hb hXs hbl hbA hS (vp_in_nI (by omega) (by omega)) dL_law_1347 ?_
  refine lv_topi (fun x1524 hx1524 => ?_)
  obtain rfl : x1524 = xs (n + 1) := hx1524.trans (by rw [nI_clamp (by omega)])
  refine lv_aload_n X.hx X.hb dL_law_1348 rfl (lv_at hl 0 rfl) ?_
  refine lv_iload X.hx X.hb dL_law_1349 (lv_at hl 4 rfl) ?_
  refine lv_iconst (v := 2) X.hx X.hb dL_law_1351 (by decide) ?_
  refine lv_iadd X.hx X.hb dL_law_1352 ?_
  refine lv_topi (fun x1525 hx1525 => ?_)
  obtain rfl : x1525 = nI (n + 2) := hx1525.trans (nI_add n 2)
  refine va_sld X.hx X.hb hXs hbl hbA hS (vp_in_nI (by omega) (by omega)) dL_law_1353 ?_
  refine lv_topi (fun x1526 hx1526 => ?_)
  obtain rfl : x1526 = xs (n + 2) := hx1526.trans (by rw [nI_clamp (by omega)])
  refine lv_aload_n X.hx X.hb dL_law_1354 rfl (lv_at hl 3 rfl) ?_
  refine gxWS X hl.1 hR hS 4 [.ref x, .int (xs (n + 1)), .int (xs (n + 2)), .ref o] [] (w_premiumByDays l Γ G hst hW hX hC ho) q1268 q1269 q35 q1270 rfl rfl ⟨by decide +kernel, by decide +kernel, by decide +kernel⟩ ⟨by (try dsimp only [RM]); omega, by (try dsimp only [RM]); omega⟩ rfl rfl (Nat.le_of_ble_eq_true rfl) dL_law_1355 ⟨by (try dsimp only [RM]); omega, by (try dsimp only [RM]); omega⟩ (fun E1532 ce q9 G9 H locs hq9 hR9 hS9 hce hcv hcl => ?_) (fun v1530 G1531 H locs hq1527 hR1528 hS1529 => ?_)
  · exact hq9.elim
  · obtain ⟨hcr, hgo⟩ := hq1527
    rcases hcr with ⟨hk0, rfl, ⟨A1, hX1⟩, fL1, ho1, hfL⟩ | ⟨hk0, rfl, ⟨A1, hX1⟩, fL1, ho1⟩
    · have hM1 : MP Γ G1531 u σ th B := hM.keep hgo (fun t ht => TXo_m ht)
      have hC1 := hC.keep hgo (fun t ht => TXo_50 ht)
      have hm1 := hM1.1
      refine lv_istore (lv' := [(5, .int 0), (0, .ref b), (1, .ref x), (2, .ref u), (3, .ref o), (4, .int (nI n))]) X.hx X.hb dL_law_1358 hl (by decide) rfl (fun ls hl => ?_)
      refine lv_aload_n X.hx X.hb dL_law_1360 rfl (lv_at hl 3 rfl) ?_
      refine lv_aload_n X.hx X.hb dL_law_1361 rfl (lv_at hl 1 rfl) ?_
      refine lv_iload X.hx X.hb dL_law_1362 (lv_at hl 5 rfl) ?_
      refine lv_iconst (v := 1) X.hx X.hb dL_law_1364 (by decide) ?_
      refine lv_iadd X.hx X.hb dL_law_1365 ?_
      refine lv_topi (fun x1533 hx1533 => ?_)
      obtain rfl : x1533 = nI (n + 1) := hx1533.trans (nI_add n 1)
      refine va_sld X.hx X.hb hXs hbl hbA hS1529 (vp_in_nI (by omega) (by omega)) dL_law_1366 ?_
      refine lv_topi (fun x1534 hx1534 => ?_)
      obtain rfl : x1534 = xs (n + 1) := hx1534.trans (by rw [nI_clamp (by omega)])
      refine lv_aload_n X.hx X.hb dL_law_1367 rfl (lv_at hl 1 rfl) ?_
      refine lv_iload X.hx X.hb dL_law_1368 (lv_at hl 5 rfl) ?_
      refine lv_iconst (v := 2) X.hx X.hb dL_law_1370 (by decide) ?_
      refine lv_iadd X.hx X.hb dL_law_1371 ?_
      refine lv_topi (fun x1535 hx1535 => ?_)
      obtain rfl : x1535 = nI (n + 2) := hx1535.trans (nI_add n 2)
      refine va_sld X.hx X.hb hXs hbl hbA hS1529 (vp_in_nI (by omega) (by omega)) dL_law_1372 ?_
      refine lv_topi (fun x1536 hx1536 => ?_)
      obtain rfl : x1536 = xs (n + 2) := hx1536.trans (by rw [nI_clamp (by omega)])
      refine gcV X hl.1 hR1528 hS1529 2 [.int (xs (n + 1)), .int (xs (n + 2))] [] (m_premByDays l Γ G1531 hW hM1) hm1 rfl q1492 q1493 q1494 q40 q1495 rfl rfl ⟨rfl, by decide +kernel, by decide +kernel, by decide +kernel⟩ ⟨by (try dsimp only [RM]); omega, by (try dsimp only [RM]); omega⟩ rfl rfl (Nat.le_of_ble_eq_true rfl) dL_law_1373 ⟨by (try dsimp only [RM]); omega, by (try dsimp only [RM]); omega⟩ (fun v1540 G1541 H locs hq1537 hR1538 hS1539 => ?_)
      obtain ⟨hmr, hgm⟩ := hq1537
      rcases hmr with ⟨hj0, rfl, hM2⟩ | ⟨hj0, ⟨w9, rfl⟩, hM2⟩
      · have hX2 := hX1.tm hgm
        have hC2 := hC1.keep hgm (fun t ht => Nat.lt_trans ht.2 (by decide))
        have ho2 := hgm _ _ ho1 (fun h9 => absurd h9.2 (by show ¬ 40 < 40; decide))
        have hm2 := hM2.1
        refine lv_istore (lv' := [(6, .int (SUM (rtA σ (xs (n + 1)).toNatClampNeg (xs (n + 2))) 365 / 365)), (5, .int 0), (0, .ref b), (1, .ref x), (2, .ref u), (3, .ref o), (4, .int (nI n))]) X.hx X.hb dL_law_1376 hl (by decide) rfl (fun ls hl => ?_)
        refine lv_aload_n X.hx X.hb dL_law_1378 rfl (lv_at hl 4 rfl) ?_
        refine gcV X hl.1 hR1538 hS1539 0 [] [] (m_thrown9 l Γ G1541 hM2) hm2 rfl q1360 q1361 q1362 q40 q1363 rfl rfl ⟨rfl, by decide +kernel, by decide +kernel, by decide +kernel⟩ ⟨by (try dsimp only [RM]); omega, by (try dsimp only [RM]); omega⟩ rfl rfl (Nat.le_of_ble_eq_true rfl) dL_law_1379 ⟨by (try dsimp only [RM]); omega, by (try dsimp only [RM]); omega⟩ (fun v1545 G1546 H locs hq1542 hR1543 hS1544 => ?_)
        obtain ⟨rfl, rfl⟩ := hq1542
        refine lv_iload X.hx X.hb dL_law_1382 (lv_at hl 1 rfl) ?_
        refine lv_icmp_eq (tgt := 1389) X.hx X.hb dL_law_1384 (by decide) (fun c1384 => ?_) (fun c1384 => ?_)
        · refine lv_iload X.hx X.hb dL_law_1389 (lv_at hl 1 rfl) ?_
          refine lv_if_ne (tgt := 1406) X.hx X.hb dL_law_1391 (by decide) (fun c1391 => ?_) (fun c1391 => ?_)
          · exact absurd rfl c1391
          · refine lv_aload_n X.hx X.hb dL_law_1394 rfl (lv_at hl 5 rfl) ?_
            refine lv_iconst (v := 0) X.hx X.hb dL_law_1395 (by decide) ?_
            refine g_lald (v := (SUM (rtA σ (xs (n + 1)).toNatClampNeg (xs (n + 2))) 365 / 365).toInt64) X hR1543 ho2 (vp_in_nI (n := 0) (by decide) (by decide)) hfL dL_law_1396 ?_
            refine lv_iload X.hx X.hb dL_law_1397 (lv_at hl 0 rfl) ?_
            refine lv_i2l X.hx X.hb dL_law_1399 rfl ?_
            refine W.lcmp X.hx X.hb dL_law_1400 ?_
            refine lv_if_eq (tgt := 1406) X.hx X.hb dL_law_1401 (by decide) (fun c1401 => ?_) (fun c1401 => ?_)
            · refine lv_goto (tgt := 1521) X.hx X.hb dL_law_1406 (by decide) ?_
              exact kk _ _ _ _ _ (Or.inr ⟨hk0, rfl⟩) ⟨⟨_, hX2⟩, ⟨_, _, hM2⟩, hC2, _, ho2⟩ hR1543 hS1544 (lv_sub hl [2, 3, 4, 5, 6] rfl)
            · exact absurd ((lg_cmp_eq _ _).mpr rfl) c1401
        · exact absurd (by decide) c1384
      · exact absurd hk0 hj0
    · have hM1 : MP Γ G1531 u σ th B := hM.keep hgo (fun t ht => TXo_m ht)
      have hC1 := hC.keep hgo (fun t ht => TXo_50 ht)
      have hm1 := hM1.1
      refine lv_istore (lv' := [(5, .int (kV σ (xs (n + 1)) 0 0 (xs (n + 2)))), (0, .ref b), (1, .ref x), (2, .ref u), (3, .ref o), (4, .int (nI n))]) X.hx X.hb dL_law_1358 hl (by decide) rfl (fun ls hl => ?_)
      refine lv_aload_n X.hx X.hb dL_law_1360 rfl (lv_at hl 3 rfl) ?_
      refine lv_aload_n X.hx X.hb dL_law_1361 rfl (lv_at hl 1 rfl) ?_
      refine lv_iload X.hx X.hb dL_law_1362 (lv_at hl 5 rfl) ?_
      refine lv_iconst (v := 1) X.hx X.hb dL_law_1364 (by decide) ?_
      refine lv_iadd X.hx X.hb dL_law_1365 ?_
      refine lv_topi (fun x1547 hx1547 => ?_)
      obtain rfl : x1547 = nI (n + 1) := hx1547.trans (nI_add n 1)
      refine va_sld X.hx X.hb hXs hbl hbA hS1529 (vp_in_nI (by omega) (by omega)) dL_law_1366 ?_
      refine lv_topi (fun x1548 hx1548 => ?_)
      obtain rfl : x1548 = xs (n + 1) := hx1548.trans (by rw [nI_clamp (by omega)])
      refine lv_aload_n X.hx X.hb dL_law_1367 rfl (lv_at hl 1 rfl) ?_
      refine lv_iload X.hx X.hb dL_law_1368 (lv_at hl 5 rfl) ?_
      refine lv_iconst (v := 2) X.hx X.hb dL_law_1370 (by decide) ?_
      refine lv_iadd X.hx X.hb dL_law_1371 ?_
      refine lv_topi (fun x1549 hx1549 => ?_)
      obtain rfl : x1549 = nI (n + 2) := hx1549.trans (nI_add n 2)
      refine va_sld X.hx X.hb hXs hbl hbA hS1529 (vp_in_nI (by omega) (by omega)) dL_law_1372 ?_
      refine lv_topi (fun x1550 hx1550 => ?_)
      obtain rfl : x1550 = xs (n + 2) := hx1550.trans (by rw [nI_clamp (by omega)])
      refine gcV X hl.1 hR1528 hS1529 2 [.int (xs (n + 1)), .int (xs (n + 2))] [] (m_premByDays l Γ G1531 hW hM1) hm1 rfl q1492 q1493 q1494 q40 q1495 rfl rfl ⟨rfl, by decide +kernel, by decide +kernel, by decide +kernel⟩ ⟨by (try dsimp only [RM]); omega, by (try dsimp only [RM]); omega⟩ rfl rfl (Nat.le_of_ble_eq_true rfl) dL_law_1373 ⟨by (try dsimp only [RM]); omega, by (try dsimp only [RM]); omega⟩ (fun v1554 G1555 H locs hq1551 hR1552 hS1553 => ?_)
      obtain ⟨hmr, hgm⟩ := hq1551
      rcases hmr with ⟨hj0, rfl, hM2⟩ | ⟨hj0, ⟨w9, rfl⟩, hM2⟩
      · exact absurd hj0 hk0
      · have hX2 := hX1.tm hgm
        have hC2 := hC1.keep hgm (fun t ht => Nat.lt_trans ht.2 (by decide))
        have ho2 := hgm _ _ ho1 (fun h9 => absurd h9.2 (by show ¬ 40 < 40; decide))
        have hm2 := hM2.1
        refine lv_istore (lv' := [(6, .int w9), (5, .int (kV σ (xs (n + 1)) 0 0 (xs (n + 2)))), (0, .ref b), (1, .ref x), (2, .ref u), (3, .ref o), (4, .int (nI n))]) X.hx X.hb dL_law_1376 hl (by decide) rfl (fun ls hl => ?_)
        refine lv_aload_n X.hx X.hb dL_law_1378 rfl (lv_at hl 4 rfl) ?_
        refine gcV X hl.1 hR1552 hS1553 0 [] [] (m_thrown9 l Γ G1555 hM2) hm2 rfl q1360 q1361 q1362 q40 q1363 rfl rfl ⟨rfl, by decide +kernel, by decide +kernel, by decide +kernel⟩ ⟨by (try dsimp only [RM]); omega, by (try dsimp only [RM]); omega⟩ rfl rfl (Nat.le_of_ble_eq_true rfl) dL_law_1379 ⟨by (try dsimp only [RM]); omega, by (try dsimp only [RM]); omega⟩ (fun v1559 G1560 H locs hq1556 hR1557 hS1558 => ?_)
        obtain ⟨rfl, rfl⟩ := hq1556
        refine lv_iload X.hx X.hb dL_law_1382 (lv_at hl 1 rfl) ?_
        refine lv_icmp_eq (tgt := 1389) X.hx X.hb dL_law_1384 (by decide) (fun c1384 => ?_) (fun c1384 => ?_)
        · refine lv_iload X.hx X.hb dL_law_1389 (lv_at hl 1 rfl) ?_
          refine lv_if_ne (tgt := 1406) X.hx X.hb dL_law_1391 (by decide) (fun c1391 => ?_) (fun c1391 => ?_)
          · refine lv_goto (tgt := 1521) X.hx X.hb dL_law_1406 (by decide) ?_
            exact kk _ _ _ _ _ (Or.inl rfl) ⟨⟨_, hX2⟩, ⟨_, _, hM2⟩, hC2, _, ho2⟩ hR1557 hS1558 (lv_sub hl [2, 3, 4, 5, 6] rfl)
          · exact absurd c1391 hk0
        · exact absurd rfl c1384

set_option maxHeartbeats 4000000 in
theorem l_bill (X : Cx pp ss mm args cc0 Γ code 7 RX0) (hst : l.stackTraces = false) {b L n : Nat} {xs : Nat → Int32} (hXs : va_X b L xs ss ss.heap) (hbl : b < ss.heap.size) (hbA : ¬ gA Γ b) (hn : n + 5 ≤ L) (hL : L ≤ 320) (hRf : 100 ≤ R.frames) (hRl : 20000 ≤ R.locals) (hRc : cells + 4000 ≤ R.cells) (hRs : slots + 12000 ≤ R.slots) {x u o : Nat} {σ : MS} (hW : WF σ) (hz : σ.2 1 (σ.1 0) = 0) (hI : LSt Γ G x u o σ) (hR : Rep Γ G H) (hS : va_S (gA Γ) ss.heap H locs) (hl : lv_has ls 7 [(0, .ref b), (1, .ref x), (2, .ref u), (3, .ref o), (4, .int (nI n))])
    (kk : ∀ (τ1 : MS) (G1 : GH) (H1 : Heap) (locs1 : List Loc) (ls1 : Array Slot), (τ1 = σ ∨ (kP σ (xs (n + 1)) = 0 ∧ τ1 = tauB σ (xs (n + 1)).toNatClampNeg (SUM (rtA σ (xs (n + 1)).toNatClampNeg (σ.2 12 0)) 365 / 365))) → LSt Γ G1 x u o τ1 → Rep Γ G1 H1 → va_S (gA Γ) ss.heap H1 locs1 → lv_has ls1 7 [(0, .ref b), (1, .ref x), (2, .ref u), (3, .ref o), (4, .int (nI n))] → W pp l ee R ss mm args below meth cc0 H1 locs1 (cells + 4000) (slots + 12000) Q (F0 mm 1521 ls1 [])) :
    W pp l ee R ss mm args below meth cc0 H locs cells slots Q (F0 mm 1409 ls []) := by
  obtain ⟨⟨A, hX⟩, ⟨B, th, hM⟩, hC, fL, ho⟩ := hI
  obtain ⟨⟨rf, hx, -⟩, -⟩ := id hX
  have hm := hM.1
  refine lv_aload_n X.hx X.hb dL_law_1409 rfl (lv_at hl 1 rfl) ?_
  refine lv_aload_n X.hx X.hb dL_law_1410 rfl (lv_at hl 0 rfl) ?_
  refine lv_iload X.hx X.hb dL_law_1411 (lv_at hl 4 rfl) ?_
  refine lv_iconst (v := 1) X.hx X.hb dL_law_1413 (by decide) ?_
  refine lv_iadd X.hx X.hb dL_law_1414 ?_
  refine lv_topi (fun x1561 hx1561 => ?_)
  obtain rfl : x1561 = nI (n + 1) := hx1561.trans (nI_add n 1)
  refine va_sld X.hx X.hb hXs hbl hbA hS (vp_in_nI (by omega) (by omega)) dL_law_1415 ?_
  refine lv_topi (fun x1562 hx1562 => ?_)
  obtain rfl : x1562 = xs (n + 1) := hx1562.trans (by rw [nI_clamp (by omega)])
  refine lv_aload_n X.hx X.hb dL_law_1416 rfl (lv_at hl 3 rfl) ?_
  refine gxWS X hl.1 hR hS 3 [.ref x, .int (xs (n + 1)), .ref o] [] (w_bill l Γ G hst hW hX hC ho) q1275 q1276 q35 q1277 rfl rfl ⟨by decide +kernel, by decide +kernel, by decide +kernel⟩ ⟨by (try dsimp only [RM]); omega, by (try dsimp only [RM]); omega⟩ rfl rfl (Nat.le_of_ble_eq_true rfl) dL_law_1417 ⟨by (try dsimp only [RM]); omega, by (try dsimp only [RM]); omega⟩ (fun E1568 ce q9 G9 H locs hq9 hR9 hS9 hce hcv hcl => ?_) (fun v1566 G1567 H locs hq1563 hR1564 hS1565 => ?_)
  · exact hq9.elim
  · obtain ⟨hcr, hgo⟩ := hq1563
    rcases hcr with ⟨hk0, rfl, ⟨A1, hX1⟩, fL1, ho1, hfL⟩ | ⟨hk0, rfl, ⟨A1, hX1⟩, fL1, ho1⟩
    · have hM1 : MP Γ G1567 u σ th B := hM.keep hgo (fun t ht => TXo_m ht)
      have hC1 := hC.keep hgo (fun t ht => TXo_50 ht)
      have hm1 := hM1.1
      refine lv_istore (lv' := [(5, .int 0), (0, .ref b), (1, .ref x), (2, .ref u), (3, .ref o), (4, .int (nI n))]) X.hx X.hb dL_law_1420 hl (by decide) rfl (fun ls hl => ?_)
      refine lv_aload_n X.hx X.hb dL_law_1422 rfl (lv_at hl 3 rfl) ?_
      refine lv_aload_n X.hx X.hb dL_law_1423 rfl (lv_at hl 1 rfl) ?_
      refine lv_iload X.hx X.hb dL_law_1424 (lv_at hl 5 rfl) ?_
      refine lv_iconst (v := 1) X.hx X.hb dL_law_1426 (by decide) ?_
      refine lv_iadd X.hx X.hb dL_law_1427 ?_
      refine lv_topi (fun x1569 hx1569 => ?_)
      obtain rfl : x1569 = nI (n + 1) := hx1569.trans (nI_add n 1)
      refine va_sld X.hx X.hb hXs hbl hbA hS1565 (vp_in_nI (by omega) (by omega)) dL_law_1428 ?_
      refine lv_topi (fun x1570 hx1570 => ?_)
      obtain rfl : x1570 = xs (n + 1) := hx1570.trans (by rw [nI_clamp (by omega)])
      refine gcV X hl.1 hR1564 hS1565 1 [.int (xs (n + 1))] [] (m_bill l Γ G1567 hW hM1) hm1 rfl q1496 q1497 q1498 q40 q1499 rfl rfl ⟨rfl, by decide +kernel, by decide +kernel, by decide +kernel⟩ ⟨by (try dsimp only [RM]); omega, by (try dsimp only [RM]); omega⟩ rfl rfl (Nat.le_of_ble_eq_true rfl) dL_law_1429 ⟨by (try dsimp only [RM]); omega, by (try dsimp only [RM]); omega⟩ (fun v1574 G1575 H locs hq1571 hR1572 hS1573 => ?_)
      obtain ⟨hmr, hgm⟩ := hq1571
      rcases hmr with ⟨hj0, rfl, hM2⟩ | ⟨hj0, ⟨w9, rfl⟩, hM2⟩
      · have hX2 := hX1.tm hgm
        have hC2 := hC1.keep hgm (fun t ht => Nat.lt_trans ht.2 (by decide))
        have ho2 := hgm _ _ ho1 (fun h9 => absurd h9.2 (by show ¬ 40 < 40; decide))
        have hm2 := hM2.1
        refine lv_istore (lv' := [(6, .int (SUM (rtA σ (xs (n + 1)).toNatClampNeg (σ.2 12 0)) 365 / 365 - σ.2 1 (xs (n + 1)).toNatClampNeg)), (5, .int 0), (0, .ref b), (1, .ref x), (2, .ref u), (3, .ref o), (4, .int (nI n))]) X.hx X.hb dL_law_1432 hl (by decide) rfl (fun ls hl => ?_)
        refine lv_aload_n X.hx X.hb dL_law_1434 rfl (lv_at hl 4 rfl) ?_
        refine gcV X hl.1 hR1572 hS1573 0 [] [] (m_thrown9 l Γ G1575 hM2) hm2 rfl q1360 q1361 q1362 q40 q1363 rfl rfl ⟨rfl, by decide +kernel, by decide +kernel, by decide +kernel⟩ ⟨by (try dsimp only [RM]); omega, by (try dsimp only [RM]); omega⟩ rfl rfl (Nat.le_of_ble_eq_true rfl) dL_law_1435 ⟨by (try dsimp only [RM]); omega, by (try dsimp only [RM]); omega⟩ (fun v1579 G1580 H locs hq1576 hR1577 hS1578 => ?_)
        obtain ⟨rfl, rfl⟩ := hq1576
        refine lv_iload X.hx X.hb dL_law_1438 (lv_at hl 1 rfl) ?_
        refine lv_icmp_eq (tgt := 1445) X.hx X.hb dL_law_1440 (by decide) (fun c1440 => ?_) (fun c1440 => ?_)
        · refine lv_iload X.hx X.hb dL_law_1445 (lv_at hl 1 rfl) ?_
          refine lv_if_ne (tgt := 1462) X.hx X.hb dL_law_1447 (by decide) (fun c1447 => ?_) (fun c1447 => ?_)
          · exact absurd rfl c1447
          · refine lv_aload_n X.hx X.hb dL_law_1450 rfl (lv_at hl 5 rfl) ?_
            refine lv_iconst (v := 0) X.hx X.hb dL_law_1451 (by decide) ?_
            refine g_lald (v := (SUM (rtA σ (xs (n + 1)).toNatClampNeg (σ.2 12 0)) 365 / 365 - σ.2 1 (xs (n + 1)).toNatClampNeg).toInt64) X hR1577 ho2 (vp_in_nI (n := 0) (by decide) (by decide)) hfL dL_law_1452 ?_
            refine lv_iload X.hx X.hb dL_law_1453 (lv_at hl 0 rfl) ?_
            refine lv_i2l X.hx X.hb dL_law_1455 rfl ?_
            refine W.lcmp X.hx X.hb dL_law_1456 ?_
            refine lv_if_eq (tgt := 1462) X.hx X.hb dL_law_1457 (by decide) (fun c1457 => ?_) (fun c1457 => ?_)
            · refine lv_goto (tgt := 1521) X.hx X.hb dL_law_1462 (by decide) ?_
              exact kk _ _ _ _ _ (Or.inr ⟨hk0, rfl⟩) ⟨⟨_, hX2⟩, ⟨_, _, hM2⟩, hC2, _, ho2⟩ hR1577 hS1578 (lv_sub hl [2, 3, 4, 5, 6] rfl)
            · exact absurd ((lg_cmp_eq _ _).mpr rfl) c1457
        · exact absurd (by decide) c1440
      · exact absurd hk0 hj0
    · have hM1 : MP Γ G1567 u σ th B := hM.keep hgo (fun t ht => TXo_m ht)
      have hC1 := hC.keep hgo (fun t ht => TXo_50 ht)
      have hm1 := hM1.1
      refine lv_istore (lv' := [(5, .int (kP σ (xs (n + 1)))), (0, .ref b), (1, .ref x), (2, .ref u), (3, .ref o), (4, .int (nI n))]) X.hx X.hb dL_law_1420 hl (by decide) rfl (fun ls hl => ?_)
      refine lv_aload_n X.hx X.hb dL_law_1422 rfl (lv_at hl 3 rfl) ?_
      refine lv_aload_n X.hx X.hb dL_law_1423 rfl (lv_at hl 1 rfl) ?_
      refine lv_iload X.hx X.hb dL_law_1424 (lv_at hl 5 rfl) ?_
      refine lv_iconst (v := 1) X.hx X.hb dL_law_1426 (by decide) ?_
      refine lv_iadd X.hx X.hb dL_law_1427 ?_
      refine lv_topi (fun x1581 hx1581 => ?_)
      obtain rfl : x1581 = nI (n + 1) := hx1581.trans (nI_add n 1)
      refine va_sld X.hx X.hb hXs hbl hbA hS1565 (vp_in_nI (by omega) (by omega)) dL_law_1428 ?_
      refine lv_topi (fun x1582 hx1582 => ?_)
      obtain rfl : x1582 = xs (n + 1) := hx1582.trans (by rw [nI_clamp (by omega)])
      refine gcV X hl.1 hR1564 hS1565 1 [.int (xs (n + 1))] [] (m_bill l Γ G1567 hW hM1) hm1 rfl q1496 q1497 q1498 q40 q1499 rfl rfl ⟨rfl, by decide +kernel, by decide +kernel, by decide +kernel⟩ ⟨by (try dsimp only [RM]); omega, by (try dsimp only [RM]); omega⟩ rfl rfl (Nat.le_of_ble_eq_true rfl) dL_law_1429 ⟨by (try dsimp only [RM]); omega, by (try dsimp only [RM]); omega⟩ (fun v1586 G1587 H locs hq1583 hR1584 hS1585 => ?_)
      obtain ⟨hmr, hgm⟩ := hq1583
      rcases hmr with ⟨hj0, rfl, hM2⟩ | ⟨hj0, ⟨w9, rfl⟩, hM2⟩
      · exact absurd hj0 hk0
      · have hX2 := hX1.tm hgm
        have hC2 := hC1.keep hgm (fun t ht => Nat.lt_trans ht.2 (by decide))
        have ho2 := hgm _ _ ho1 (fun h9 => absurd h9.2 (by show ¬ 40 < 40; decide))
        have hm2 := hM2.1
        refine lv_istore (lv' := [(6, .int w9), (5, .int (kP σ (xs (n + 1)))), (0, .ref b), (1, .ref x), (2, .ref u), (3, .ref o), (4, .int (nI n))]) X.hx X.hb dL_law_1432 hl (by decide) rfl (fun ls hl => ?_)
        refine lv_aload_n X.hx X.hb dL_law_1434 rfl (lv_at hl 4 rfl) ?_
        refine gcV X hl.1 hR1584 hS1585 0 [] [] (m_thrown9 l Γ G1587 hM2) hm2 rfl q1360 q1361 q1362 q40 q1363 rfl rfl ⟨rfl, by decide +kernel, by decide +kernel, by decide +kernel⟩ ⟨by (try dsimp only [RM]); omega, by (try dsimp only [RM]); omega⟩ rfl rfl (Nat.le_of_ble_eq_true rfl) dL_law_1435 ⟨by (try dsimp only [RM]); omega, by (try dsimp only [RM]); omega⟩ (fun v1591 G1592 H locs hq1588 hR1589 hS1590 => ?_)
        obtain ⟨rfl, rfl⟩ := hq1588
        refine lv_iload X.hx X.hb dL_law_1438 (lv_at hl 1 rfl) ?_
        refine lv_icmp_eq (tgt := 1445) X.hx X.hb dL_law_1440 (by decide) (fun c1440 => ?_) (fun c1440 => ?_)
        · refine lv_iload X.hx X.hb dL_law_1445 (lv_at hl 1 rfl) ?_
          refine lv_if_ne (tgt := 1462) X.hx X.hb dL_law_1447 (by decide) (fun c1447 => ?_) (fun c1447 => ?_)
          · refine lv_goto (tgt := 1521) X.hx X.hb dL_law_1462 (by decide) ?_
            exact kk _ _ _ _ _ (Or.inl rfl) ⟨⟨_, hX2⟩, ⟨_, _, hM2⟩, hC2, _, ho2⟩ hR1589 hS1590 (lv_sub hl [2, 3, 4, 5, 6] rfl)
          · exact absurd c1447 hk0
        · exact absurd rfl c1440

set_option maxHeartbeats 4000000 in
theorem l_billed (X : Cx pp ss mm args cc0 Γ code 7 RX0) (hst : l.stackTraces = false) {b L n : Nat} {xs : Nat → Int32} (hXs : va_X b L xs ss ss.heap) (hbl : b < ss.heap.size) (hbA : ¬ gA Γ b) (hn : n + 5 ≤ L) (hL : L ≤ 320) (hRf : 100 ≤ R.frames) (hRl : 20000 ≤ R.locals) (hRc : cells + 4000 ≤ R.cells) (hRs : slots + 12000 ≤ R.slots) {x u o : Nat} {σ : MS} (hW : WF σ) (hz : σ.2 1 (σ.1 0) = 0) (hI : LSt Γ G x u o σ) (hR : Rep Γ G H) (hS : va_S (gA Γ) ss.heap H locs) (hl : lv_has ls 7 [(0, .ref b), (1, .ref x), (2, .ref u), (3, .ref o), (4, .int (nI n))])
    (kk : ∀ (τ1 : MS) (G1 : GH) (H1 : Heap) (locs1 : List Loc) (ls1 : Array Slot), (τ1 = σ ∨ (kP σ (xs (n + 1)) = 0 ∧ τ1 = σ)) → LSt Γ G1 x u o τ1 → Rep Γ G1 H1 → va_S (gA Γ) ss.heap H1 locs1 → lv_has ls1 7 [(0, .ref b), (1, .ref x), (2, .ref u), (3, .ref o), (4, .int (nI n))] → W pp l ee R ss mm args below meth cc0 H1 locs1 (cells + 4000) (slots + 12000) Q (F0 mm 1521 ls1 [])) :
    W pp l ee R ss mm args below meth cc0 H locs cells slots Q (F0 mm 1465 ls []) := by
  obtain ⟨⟨A, hX⟩, ⟨B, th, hM⟩, hC, fL, ho⟩ := hI
  obtain ⟨⟨rf, hx, -⟩, -⟩ := id hX
  have hm := hM.1
  refine lv_aload_n X.hx X.hb dL_law_1465 rfl (lv_at hl 1 rfl) ?_
  refine lv_aload_n X.hx X.hb dL_law_1466 rfl (lv_at hl 0 rfl) ?_
  refine lv_iload X.hx X.hb dL_law_1467 (lv_at hl 4 rfl) ?_
  refine lv_iconst (v := 1) X.hx X.hb dL_law_1469 (by decide) ?_
  refine lv_iadd X.hx X.hb dL_law_1470 ?_
  refine lv_topi (fun x1593 hx1593 => ?_)
  obtain rfl : x1593 = nI (n + 1) := hx1593.trans (nI_add n 1)
  refine va_sld X.hx X.hb hXs hbl hbA hS (vp_in_nI (by omega) (by omega)) dL_law_1471 ?_
  refine lv_topi (fun x1594 hx1594 => ?_)
  obtain rfl : x1594 = xs (n + 1) := hx1594.trans (by rw [nI_clamp (by omega)])
  refine lv_aload_n X.hx X.hb dL_law_1472 rfl (lv_at hl 3 rfl) ?_
  refine gxWS X hl.1 hR hS 3 [.ref x, .int (xs (n + 1)), .ref o] [] (w_billed l Γ G hst hW hX hC ho) q1282 q1283 q35 q1284 rfl rfl ⟨by decide +kernel, by decide +kernel, by decide +kernel⟩ ⟨by (try dsimp only [RM]); omega, by (try dsimp only [RM]); omega⟩ rfl rfl (Nat.le_of_ble_eq_true rfl) dL_law_1473 ⟨by (try dsimp only [RM]); omega, by (try dsimp only [RM]); omega⟩ (fun E1600 ce q9 G9 H locs hq9 hR9 hS9 hce hcv hcl => ?_) (fun v1598 G1599 H locs hq1595 hR1596 hS1597 => ?_)
  · exact hq9.elim
  · obtain ⟨hcr, hgo⟩ := hq1595
    rcases hcr with ⟨hk0, rfl, ⟨A1, hX1⟩, fL1, ho1, hfL⟩ | ⟨hk0, rfl, ⟨A1, hX1⟩, fL1, ho1⟩
    · have hM1 : MP Γ G1599 u σ th B := hM.keep hgo (fun t ht => TXo_m ht)
      have hC1 := hC.keep hgo (fun t ht => TXo_50 ht)
      have hm1 := hM1.1
      refine lv_istore (lv' := [(5, .int 0), (0, .ref b), (1, .ref x), (2, .ref u), (3, .ref o), (4, .int (nI n))]) X.hx X.hb dL_law_1476 hl (by decide) rfl (fun ls hl => ?_)
      refine lv_aload_n X.hx X.hb dL_law_1478 rfl (lv_at hl 3 rfl) ?_
      refine lv_aload_n X.hx X.hb dL_law_1479 rfl (lv_at hl 1 rfl) ?_
      refine lv_iload X.hx X.hb dL_law_1480 (lv_at hl 5 rfl) ?_
      refine lv_iconst (v := 1) X.hx X.hb dL_law_1482 (by decide) ?_
      refine lv_iadd X.hx X.hb dL_law_1483 ?_
      refine lv_topi (fun x1601 hx1601 => ?_)
      obtain rfl : x1601 = nI (n + 1) := hx1601.trans (nI_add n 1)
      refine va_sld X.hx X.hb hXs hbl hbA hS1597 (vp_in_nI (by omega) (by omega)) dL_law_1484 ?_
      refine lv_topi (fun x1602 hx1602 => ?_)
      obtain rfl : x1602 = xs (n + 1) := hx1602.trans (by rw [nI_clamp (by omega)])
      refine gcV X hl.1 hR1596 hS1597 1 [.int (xs (n + 1))] [] (m_billed l Γ G1599 hW hM1) hm1 rfl q1500 q1501 q1502 q40 q1503 rfl rfl ⟨rfl, by decide +kernel, by decide +kernel, by decide +kernel⟩ ⟨by (try dsimp only [RM]); omega, by (try dsimp only [RM]); omega⟩ rfl rfl (Nat.le_of_ble_eq_true rfl) dL_law_1485 ⟨by (try dsimp only [RM]); omega, by (try dsimp only [RM]); omega⟩ (fun v1606 G1607 H locs hq1603 hR1604 hS1605 => ?_)
      obtain ⟨hmr, hgm⟩ := hq1603
      rcases hmr with ⟨hj0, rfl, hM2⟩ | ⟨hj0, ⟨w9, rfl⟩, hM2⟩
      · have hX2 := hX1.tm hgm
        have hC2 := hC1.keep hgm (fun t ht => Nat.lt_trans ht.2 (by decide))
        have ho2 := hgm _ _ ho1 (fun h9 => absurd h9.2 (by show ¬ 40 < 40; decide))
        have hm2 := hM2.1
        refine lv_istore (lv' := [(6, .int (σ.2 1 (xs (n + 1)).toNatClampNeg)), (5, .int 0), (0, .ref b), (1, .ref x), (2, .ref u), (3, .ref o), (4, .int (nI n))]) X.hx X.hb dL_law_1488 hl (by decide) rfl (fun ls hl => ?_)
        refine lv_aload_n X.hx X.hb dL_law_1490 rfl (lv_at hl 4 rfl) ?_
        refine gcV X hl.1 hR1604 hS1605 0 [] [] (m_thrown9 l Γ G1607 hM2) hm2 rfl q1360 q1361 q1362 q40 q1363 rfl rfl ⟨rfl, by decide +kernel, by decide +kernel, by decide +kernel⟩ ⟨by (try dsimp only [RM]); omega, by (try dsimp only [RM]); omega⟩ rfl rfl (Nat.le_of_ble_eq_true rfl) dL_law_1491 ⟨by (try dsimp only [RM]); omega, by (try dsimp only [RM]); omega⟩ (fun v1611 G1612 H locs hq1608 hR1609 hS1610 => ?_)
        obtain ⟨rfl, rfl⟩ := hq1608
        refine lv_iload X.hx X.hb dL_law_1494 (lv_at hl 1 rfl) ?_
        refine lv_icmp_eq (tgt := 1501) X.hx X.hb dL_law_1496 (by decide) (fun c1496 => ?_) (fun c1496 => ?_)
        · refine lv_iload X.hx X.hb dL_law_1501 (lv_at hl 1 rfl) ?_
          refine lv_if_ne (tgt := 1518) X.hx X.hb dL_law_1503 (by decide) (fun c1503 => ?_) (fun c1503 => ?_)
          · exact absurd rfl c1503
          · refine lv_aload_n X.hx X.hb dL_law_1506 rfl (lv_at hl 5 rfl) ?_
            refine lv_iconst (v := 0) X.hx X.hb dL_law_1507 (by decide) ?_
            refine g_lald (v := (σ.2 1 (xs (n + 1)).toNatClampNeg).toInt64) X hR1609 ho2 (vp_in_nI (n := 0) (by decide) (by decide)) hfL dL_law_1508 ?_
            refine lv_iload X.hx X.hb dL_law_1509 (lv_at hl 0 rfl) ?_
            refine lv_i2l X.hx X.hb dL_law_1511 rfl ?_
            refine W.lcmp X.hx X.hb dL_law_1512 ?_
            refine lv_if_eq (tgt := 1518) X.hx X.hb dL_law_1513 (by decide) (fun c1513 => ?_) (fun c1513 => ?_)
            · refine lv_goto (tgt := 1521) X.hx X.hb dL_law_1518 (by decide) ?_
              exact kk _ _ _ _ _ (Or.inr ⟨hk0, rfl⟩) ⟨⟨_, hX2⟩, ⟨_, _, hM2⟩, hC2, _, ho2⟩ hR1609 hS1610 (lv_sub hl [2, 3, 4, 5, 6] rfl)
            · exact absurd ((lg_cmp_eq _ _).mpr rfl) c1513
        · exact absurd (by decide) c1496
      · exact absurd hk0 hj0
    · have hM1 : MP Γ G1599 u σ th B := hM.keep hgo (fun t ht => TXo_m ht)
      have hC1 := hC.keep hgo (fun t ht => TXo_50 ht)
      have hm1 := hM1.1
      refine lv_istore (lv' := [(5, .int (kP σ (xs (n + 1)))), (0, .ref b), (1, .ref x), (2, .ref u), (3, .ref o), (4, .int (nI n))]) X.hx X.hb dL_law_1476 hl (by decide) rfl (fun ls hl => ?_)
      refine lv_aload_n X.hx X.hb dL_law_1478 rfl (lv_at hl 3 rfl) ?_
      refine lv_aload_n X.hx X.hb dL_law_1479 rfl (lv_at hl 1 rfl) ?_
      refine lv_iload X.hx X.hb dL_law_1480 (lv_at hl 5 rfl) ?_
      refine lv_iconst (v := 1) X.hx X.hb dL_law_1482 (by decide) ?_
      refine lv_iadd X.hx X.hb dL_law_1483 ?_
      refine lv_topi (fun x1613 hx1613 => ?_)
      obtain rfl : x1613 = nI (n + 1) := hx1613.trans (nI_add n 1)
      refine va_sld X.hx X.hb hXs hbl hbA hS1597 (vp_in_nI (by omega) (by omega)) dL_law_1484 ?_
      refine lv_topi (fun x1614 hx1614 => ?_)
      obtain rfl : x1614 = xs (n + 1) := hx1614.trans (by rw [nI_clamp (by omega)])
      refine gcV X hl.1 hR1596 hS1597 1 [.int (xs (n + 1))] [] (m_billed l Γ G1599 hW hM1) hm1 rfl q1500 q1501 q1502 q40 q1503 rfl rfl ⟨rfl, by decide +kernel, by decide +kernel, by decide +kernel⟩ ⟨by (try dsimp only [RM]); omega, by (try dsimp only [RM]); omega⟩ rfl rfl (Nat.le_of_ble_eq_true rfl) dL_law_1485 ⟨by (try dsimp only [RM]); omega, by (try dsimp only [RM]); omega⟩ (fun v1618 G1619 H locs hq1615 hR1616 hS1617 => ?_)
      obtain ⟨hmr, hgm⟩ := hq1615
      rcases hmr with ⟨hj0, rfl, hM2⟩ | ⟨hj0, ⟨w9, rfl⟩, hM2⟩
      · exact absurd hj0 hk0
      · have hX2 := hX1.tm hgm
        have hC2 := hC1.keep hgm (fun t ht => Nat.lt_trans ht.2 (by decide))
        have ho2 := hgm _ _ ho1 (fun h9 => absurd h9.2 (by show ¬ 40 < 40; decide))
        have hm2 := hM2.1
        refine lv_istore (lv' := [(6, .int w9), (5, .int (kP σ (xs (n + 1)))), (0, .ref b), (1, .ref x), (2, .ref u), (3, .ref o), (4, .int (nI n))]) X.hx X.hb dL_law_1488 hl (by decide) rfl (fun ls hl => ?_)
        refine lv_aload_n X.hx X.hb dL_law_1490 rfl (lv_at hl 4 rfl) ?_
        refine gcV X hl.1 hR1616 hS1617 0 [] [] (m_thrown9 l Γ G1619 hM2) hm2 rfl q1360 q1361 q1362 q40 q1363 rfl rfl ⟨rfl, by decide +kernel, by decide +kernel, by decide +kernel⟩ ⟨by (try dsimp only [RM]); omega, by (try dsimp only [RM]); omega⟩ rfl rfl (Nat.le_of_ble_eq_true rfl) dL_law_1491 ⟨by (try dsimp only [RM]); omega, by (try dsimp only [RM]); omega⟩ (fun v1623 G1624 H locs hq1620 hR1621 hS1622 => ?_)
        obtain ⟨rfl, rfl⟩ := hq1620
        refine lv_iload X.hx X.hb dL_law_1494 (lv_at hl 1 rfl) ?_
        refine lv_icmp_eq (tgt := 1501) X.hx X.hb dL_law_1496 (by decide) (fun c1496 => ?_) (fun c1496 => ?_)
        · refine lv_iload X.hx X.hb dL_law_1501 (lv_at hl 1 rfl) ?_
          refine lv_if_ne (tgt := 1518) X.hx X.hb dL_law_1503 (by decide) (fun c1503 => ?_) (fun c1503 => ?_)
          · refine lv_goto (tgt := 1521) X.hx X.hb dL_law_1518 (by decide) ?_
            exact kk _ _ _ _ _ (Or.inl rfl) ⟨⟨_, hX2⟩, ⟨_, _, hM2⟩, hC2, _, ho2⟩ hR1621 hS1622 (lv_sub hl [2, 3, 4, 5, 6] rfl)
          · exact absurd c1503 hk0
        · exact absurd rfl c1496

end LAWS
