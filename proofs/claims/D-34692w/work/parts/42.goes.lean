set_option maxRecDepth 100000
/-! the model: the days of a policy -/
set_option maxHeartbeats 4000000 in
theorem m_goes (l : Launch) (Γ : GP) (G : GH) {m : Nat} {σ : MS} {th : Int32} {B : Nat → Nat} (hW : WF σ) (hM : MP Γ G m σ th B) {i : Nat} (hi : i < σ.1 0) {kn : Int32} : MetG l yX2_goes (ws_ yX2_goes cX2_goes 7 none) (RM 3 0 0) Γ G [.ref m, .int (nI i), .int kn] (fun v G1 => v = none ∧ ∃ fv fc fr fs : Nat → Int32, W32 Γ G G1 B fv fc fr fs ∧ VA0 σ i kn 365 fv ∧ DN σ i kn 365 fc fr fs) 0 0 := by
  refine gMet (own := RX2) (by decide) rfl (Nat.le_of_ble_eq_true rfl) ?_
  intro pp ee ss mm below meth cc0 ls X hr hlk hin hnm hR hS hl
  have hl : lv_has ls 7 [(0, .ref m), (1, .int (nI i)), (2, .int kn)] := hl
  have hm0 := hM.1
  obtain ⟨-, -, ⟨fv0, h120⟩, ⟨fc0, h130⟩, ⟨fr0, h140⟩, fs0, h150⟩ := id hM
  have hn4 := hW.1
  have hn60 := hW.2.2.1
  have hw0 : W32 Γ G G B fv0 fc0 fr0 fs0 := ⟨gK.rf, h120, h130, h140, h150⟩
  obtain ⟨hk9, h12, h13, h14, h15⟩ := id hw0
  have hm := hk9 _ _ hm0 (by show ¬ 30 = 32; decide)
  have hr0 : G (B 0) = some ((31, 0), .inl (Γ.2 1, 4, .inl (σ.2 0))) := hk9 _ _ (hM.2.1 0 (by decide)) (by show ¬ 31 = 32; decide)
  have hr5 : G (B 5) = some ((31, 5), .inl (Γ.2 1, 60, .inl (σ.2 5))) := hk9 _ _ (hM.2.1 5 (by decide)) (by show ¬ 31 = 32; decide)
  have hr6 : G (B 6) = some ((31, 6), .inl (Γ.2 1, 60, .inl (σ.2 6))) := hk9 _ _ (hM.2.1 6 (by decide)) (by show ¬ 31 = 32; decide)
  have hr7 : G (B 7) = some ((31, 7), .inl (Γ.2 1, 60, .inl (σ.2 7))) := hk9 _ _ (hM.2.1 7 (by decide)) (by show ¬ 31 = 32; decide)
  have hr8 : G (B 8) = some ((31, 8), .inl (Γ.2 1, 60, .inl (σ.2 8))) := hk9 _ _ (hM.2.1 8 (by decide)) (by show ¬ 31 = 32; decide)
  have hr9 : G (B 9) = some ((31, 9), .inl (Γ.2 1, 60, .inl (σ.2 9))) := hk9 _ _ (hM.2.1 9 (by decide)) (by show ¬ 31 = 32; decide)
  refine lv_iconst (v := 1) X.hx X.hb dX2_goes_0 (by decide) ?_
  refine lv_istore_n (lv' := [(3, .int 1), (0, .ref m), (1, .int (nI i)), (2, .int kn)]) X.hx X.hb dX2_goes_1 rfl hl (by decide) rfl (fun ls hl => ?_)
  refine lv_aload_n X.hx X.hb dX2_goes_2 rfl (lv_at hl 1 rfl) ?_
  refine g_get X hR hm rfl in_X2 19 (by decide) q1314 (fun _ h => h) rfl dX2_goes_3 ?_
  refine lv_iconst (v := 0) X.hx X.hb dX2_goes_6 (by decide) ?_
  refine lv_iconst (v := 0) X.hx X.hb dX2_goes_7 (by decide) ?_
  refine g_iast X hR hS h15 (Nat.le_of_ble_eq_true rfl) (vp_in_nI (n := 0) (by decide) (by decide)) dX2_goes_8 (fun H locs hR212 hS213 => ?_)
  obtain ⟨G214, hG214⟩ : ∃ z : GH, z = gu G (B 15) ((32, 3), .inl (Γ.2 1, 366, .inl (upd fs0 ((0 : Int32).toNatClampNeg) 0))) := ⟨_, rfl⟩
  have hR212 : Rep Γ G214 H := by rw [hG214]; exact hR212
  have f215 : G214 m = some ((30, 0), .inr (1, [.int (nI (σ.1 0)), .ref (B 0), .ref (B 1), .int (σ.2 12 0), .int (nI (σ.1 1)), .ref (B 2), .ref (B 3), .ref (B 4), .int (nI (σ.1 2)), .ref (B 5), .ref (B 6), .ref (B 7), .ref (B 8), .ref (B 9), .ref (B 10), .ref (B 11), .ref (B 12), .ref (B 13), .ref (B 14), .ref (B 15), .int th])) := by rw [hG214]; exact gu_t hm h15 (tne rfl)
  have f216 : G214 (B 0) = some ((31, 0), .inl (Γ.2 1, 4, .inl (σ.2 0))) := by rw [hG214]; exact gu_t hr0 h15 (tne rfl)
  have f217 : G214 (B 5) = some ((31, 5), .inl (Γ.2 1, 60, .inl (σ.2 5))) := by rw [hG214]; exact gu_t hr5 h15 (tne rfl)
  have f218 : G214 (B 6) = some ((31, 6), .inl (Γ.2 1, 60, .inl (σ.2 6))) := by rw [hG214]; exact gu_t hr6 h15 (tne rfl)
  have f219 : G214 (B 7) = some ((31, 7), .inl (Γ.2 1, 60, .inl (σ.2 7))) := by rw [hG214]; exact gu_t hr7 h15 (tne rfl)
  have f220 : G214 (B 8) = some ((31, 8), .inl (Γ.2 1, 60, .inl (σ.2 8))) := by rw [hG214]; exact gu_t hr8 h15 (tne rfl)
  have f221 : G214 (B 9) = some ((31, 9), .inl (Γ.2 1, 60, .inl (σ.2 9))) := by rw [hG214]; exact gu_t hr9 h15 (tne rfl)
  have f222 : G214 (B 12) = some ((32, 0), .inl (Γ.2 1, 1095, .inl fv0)) := by rw [hG214]; exact gu_t h12 h15 (tne2 (by decide))
  have f223 : G214 (B 13) = some ((32, 1), .inl (Γ.2 2, 365, .inl fc0)) := by rw [hG214]; exact gu_t h13 h15 (tne2 (by decide))
  have f224 : G214 (B 14) = some ((32, 2), .inl (Γ.2 1, 365, .inl fr0)) := by rw [hG214]; exact gu_t h14 h15 (tne2 (by decide))
  have f225 : G214 (B 15) = some ((32, 3), .inl (Γ.2 1, 366, .inl (upd fs0 ((0 : Int32).toNatClampNeg) 0))) := by rw [hG214]; exact gu_s _ _ _
  refine lv_iconst (v := 0) X.hx X.hb dX2_goes_9 (by decide) ?_
  refine lv_istore (lv' := [(4, .int 0), (3, .int 1), (0, .ref m), (1, .int (nI i)), (2, .int kn)]) X.hx X.hb dX2_goes_10 hl (by decide) rfl (fun ls hl => ?_)
  have loop : ∀ (r d : Nat) (fv fc fr fs : Nat → Int32) (G1 : GH) (H : Heap) (locs : List Loc) (ls : Array Slot), d ≤ 365 → 365 - d < r → W32 Γ G G1 B fv fc fr fs → VA0 σ i kn d fv → DN σ i kn d fc fr fs → Rep Γ G1 H → va_S (gA Γ) ss.heap H locs → lv_has ls 7 [(0, .ref m), (1, .int (nI i)), (2, .int kn), (3, .int ((Fk σ i kn (100 * d)).2)), (4, .int (nI d))] → W pp l ee (RM 3 0 0) ss mm (List.toArray [.ref m, .int (nI i), .int kn]) below meth cc0 H locs 0 0 (MQ below (Qg Γ (fun v G1 => v = none ∧ ∃ fv fc fr fs : Nat → Int32, W32 Γ G G1 B fv fc fr fs ∧ VA0 σ i kn 365 fv ∧ DN σ i kn 365 fc fr fs)) (List.toArray [.ref m, .int (nI i), .int kn]) ss 0 0 (gA Γ)) (F0 mm 12 ls []) := by
    intro r
    induction r with
    | zero => intro d fv fc fr fs G1 H locs ls h1 h2; omega
    | succ r ih =>
      intro d fv fc fr fs G1 H locs ls h1 h2 hW3 hV hD hR hS hl
      by_cases hd : d < 365
      · have tail : ∀ (fv : Nat → Int32) (G1 : GH) (H : Heap) (locs : List Loc) (ls : Array Slot), W32 Γ G G1 B fv fc fr fs → VAL σ i kn d fv (Fk σ i kn (100 * (d + 1))).1 → Rep Γ G1 H → va_S (gA Γ) ss.heap H locs → lv_has ls 7 [(0, .ref m), (1, .int (nI i)), (2, .int kn), (3, .int ((Fk σ i kn (100 * (d + 1))).2)), (4, .int (nI d))] → W pp l ee (RM 3 0 0) ss mm (List.toArray [.ref m, .int (nI i), .int kn]) below meth cc0 H locs 0 0 (MQ below (Qg Γ (fun v G1 => v = none ∧ ∃ fv fc fr fs : Nat → Int32, W32 Γ G G1 B fv fc fr fs ∧ VA0 σ i kn 365 fv ∧ DN σ i kn 365 fc fr fs)) (List.toArray [.ref m, .int (nI i), .int kn]) ss 0 0 (gA Γ)) (F0 mm 233 ls []) := by
          intro fv G1 H locs ls hW3 hV2 hR hS hl
          have hon := Fk_on (σ := σ) (i := i) (kn := kn) (100 * (d + 1))
          obtain ⟨hk9, h12, h13, h14, h15⟩ := id hW3
          have hm := hk9 _ _ hm0 (by show ¬ 30 = 32; decide)
          have hr0 : G1 (B 0) = some ((31, 0), .inl (Γ.2 1, 4, .inl (σ.2 0))) := hk9 _ _ (hM.2.1 0 (by decide)) (by show ¬ 31 = 32; decide)
          have hr5 : G1 (B 5) = some ((31, 5), .inl (Γ.2 1, 60, .inl (σ.2 5))) := hk9 _ _ (hM.2.1 5 (by decide)) (by show ¬ 31 = 32; decide)
          have hr6 : G1 (B 6) = some ((31, 6), .inl (Γ.2 1, 60, .inl (σ.2 6))) := hk9 _ _ (hM.2.1 6 (by decide)) (by show ¬ 31 = 32; decide)
          have hr7 : G1 (B 7) = some ((31, 7), .inl (Γ.2 1, 60, .inl (σ.2 7))) := hk9 _ _ (hM.2.1 7 (by decide)) (by show ¬ 31 = 32; decide)
          have hr8 : G1 (B 8) = some ((31, 8), .inl (Γ.2 1, 60, .inl (σ.2 8))) := hk9 _ _ (hM.2.1 8 (by decide)) (by show ¬ 31 = 32; decide)
          have hr9 : G1 (B 9) = some ((31, 9), .inl (Γ.2 1, 60, .inl (σ.2 9))) := hk9 _ _ (hM.2.1 9 (by decide)) (by show ¬ 31 = 32; decide)
          refine lv_aload_n X.hx X.hb dX2_goes_233 rfl (lv_at hl 0 rfl) ?_
          refine g_get X hR hm rfl in_X2 17 (by decide) q1312 (fun _ h => h) rfl dX2_goes_234 ?_
          refine lv_iload X.hx X.hb dX2_goes_237 (lv_at hl 4 rfl) ?_
          refine lv_iload_n X.hx X.hb dX2_goes_239 rfl (lv_at hl 3 rfl) ?_
          refine g_zast X hR hS h13 (Nat.le_of_ble_eq_true rfl) (nar_bool hon) (vp_in_nI hd (by decide)) dX2_goes_240 (fun H locs hR226 hS227 => ?_)
          obtain ⟨G228, hG228⟩ : ∃ z : GH, z = gu G1 (B 13) ((32, 1), .inl (Γ.2 2, 365, .inl (upd fc ((nI d).toNatClampNeg) ((Fk σ i kn (100 * (d + 1))).2)))) := ⟨_, rfl⟩
          have hR226 : Rep Γ G228 H := by rw [hG228]; exact hR226
          have f229 : G228 m = some ((30, 0), .inr (1, [.int (nI (σ.1 0)), .ref (B 0), .ref (B 1), .int (σ.2 12 0), .int (nI (σ.1 1)), .ref (B 2), .ref (B 3), .ref (B 4), .int (nI (σ.1 2)), .ref (B 5), .ref (B 6), .ref (B 7), .ref (B 8), .ref (B 9), .ref (B 10), .ref (B 11), .ref (B 12), .ref (B 13), .ref (B 14), .ref (B 15), .int th])) := by rw [hG228]; exact gu_t hm h13 (tne rfl)
          have f230 : G228 (B 0) = some ((31, 0), .inl (Γ.2 1, 4, .inl (σ.2 0))) := by rw [hG228]; exact gu_t hr0 h13 (tne rfl)
          have f231 : G228 (B 5) = some ((31, 5), .inl (Γ.2 1, 60, .inl (σ.2 5))) := by rw [hG228]; exact gu_t hr5 h13 (tne rfl)
          have f232 : G228 (B 6) = some ((31, 6), .inl (Γ.2 1, 60, .inl (σ.2 6))) := by rw [hG228]; exact gu_t hr6 h13 (tne rfl)
          have f233 : G228 (B 7) = some ((31, 7), .inl (Γ.2 1, 60, .inl (σ.2 7))) := by rw [hG228]; exact gu_t hr7 h13 (tne rfl)
          have f234 : G228 (B 8) = some ((31, 8), .inl (Γ.2 1, 60, .inl (σ.2 8))) := by rw [hG228]; exact gu_t hr8 h13 (tne rfl)
          have f235 : G228 (B 9) = some ((31, 9), .inl (Γ.2 1, 60, .inl (σ.2 9))) := by rw [hG228]; exact gu_t hr9 h13 (tne rfl)
          have f236 : G228 (B 12) = some ((32, 0), .inl (Γ.2 1, 1095, .inl fv)) := by rw [hG228]; exact gu_t h12 h13 (tne2 (by decide))
          have f237 : G228 (B 14) = some ((32, 2), .inl (Γ.2 1, 365, .inl fr)) := by rw [hG228]; exact gu_t h14 h13 (tne2 (by decide))
          have f238 : G228 (B 15) = some ((32, 3), .inl (Γ.2 1, 366, .inl fs)) := by rw [hG228]; exact gu_t h15 h13 (tne2 (by decide))
          have f239 : G228 (B 13) = some ((32, 1), .inl (Γ.2 2, 365, .inl (upd fc ((nI d).toNatClampNeg) ((Fk σ i kn (100 * (d + 1))).2)))) := by rw [hG228]; exact gu_s _ _ _
          have hMx : MP Γ G228 m σ th B := hM.wrk (gK.tr hk9 (gK.pt hG228 h13 rfl)) f236 f239 f237 f238
          refine lv_aload_n X.hx X.hb dX2_goes_241 rfl (lv_at hl 0 rfl) ?_
          refine g_get X hR226 f229 rfl in_X2 1 (by decide) q1296 (fun _ h => h) rfl dX2_goes_242 ?_
          refine lv_iload_n X.hx X.hb dX2_goes_245 rfl (lv_at hl 1 rfl) ?_
          refine g_iald (v := σ.2 0 i) X hR226 f230 (vp_in_nI (show i < 4 by omega) (by decide)) (by rw [nI_clamp (by omega)]) dX2_goes_246 ?_
          refine lv_istore (lv' := [(5, .int (σ.2 0 i)), (0, .ref m), (1, .int (nI i)), (2, .int kn), (3, .int ((Fk σ i kn (100 * (d + 1))).2)), (4, .int (nI d))]) X.hx X.hb dX2_goes_247 hl (by decide) rfl (fun ls hl => ?_)
          refine lv_iconst (v := 0) X.hx X.hb dX2_goes_249 (by decide) ?_
          refine lv_istore (lv' := [(6, .int 0), (5, .int (σ.2 0 i)), (0, .ref m), (1, .int (nI i)), (2, .int kn), (3, .int ((Fk σ i kn (100 * (d + 1))).2)), (4, .int (nI d))]) X.hx X.hb dX2_goes_250 hl (by decide) rfl (fun ls hl => ?_)
          refine lv_iload X.hx X.hb dX2_goes_252 (lv_at hl 0 rfl) ?_
          refine lv_iconst (v := 3) X.hx X.hb dX2_goes_254 (by decide) ?_
          refine lv_icmp_ge (tgt := 290) X.hx X.hb dX2_goes_255 (by decide) (fun c255 => ?_) (fun c255 => ?_)
          · exact absurd c255 (by decide)
          · refine lv_iload X.hx X.hb dX2_goes_258 (lv_at hl 1 rfl) ?_
            refine lv_aload_n X.hx X.hb dX2_goes_260 rfl (lv_at hl 2 rfl) ?_
            refine g_get X hR226 f229 rfl in_X2 16 (by decide) q1311 (fun _ h => h) rfl dX2_goes_261 ?_
            refine lv_iconst (v := 3) X.hx X.hb dX2_goes_264 (by decide) ?_
            refine lv_iload X.hx X.hb dX2_goes_265 (lv_at hl 6 rfl) ?_
            refine lv_imul X.hx X.hb dX2_goes_267 ?_
            refine lv_topi (fun x240 hx240 => ?_)
            obtain rfl : x240 = nI (3 * d) := hx240.trans (nI_m3 (by omega))
            refine lv_iload X.hx X.hb dX2_goes_268 (lv_at hl 0 rfl) ?_
            refine lv_iadd X.hx X.hb dX2_goes_270 ?_
            refine lv_topi (fun x241 hx241 => ?_)
            obtain rfl : x241 = nI (3 * d + 0) := hx241.trans (nI_add (3 * d) 0)
            refine g_iald (v := fv (3 * d + 0)) X hR226 f236 (vp_in_nI (show 3 * d + 0 < 1095 by omega) (by decide)) (by rw [nI_clamp (by omega)]) dX2_goes_271 ?_
            refine lv_topi (fun x242 hx242 => ?_)
            obtain rfl : x242 = (Fk σ i kn (100 * (d + 1))).1 0 := hx242.trans (hV2.2 0 (by decide))
            refine lv_aload_n X.hx X.hb dX2_goes_272 rfl (lv_at hl 2 rfl) ?_
            refine lv_iload X.hx X.hb dX2_goes_273 (lv_at hl 0 rfl) ?_
            refine lv_iload X.hx X.hb dX2_goes_275 (lv_at hl 6 rfl) ?_
            refine gcV X hl.1 hR226 hS227 2 [.int 0, .int (nI d)] [.int ((Fk σ i kn (100 * (d + 1))).1 0), .int (σ.2 0 i)] (m_weighs l Γ G228 hW hMx) f229 rfl q1448 q1450 qs30 q40 q1451 rfl rfl ⟨rfl, by decide +kernel, by decide +kernel, by decide +kernel⟩ ⟨by (try dsimp only [RM]); omega, by (try dsimp only [RM]); omega⟩ rfl rfl (Nat.le_of_ble_eq_true rfl) dX2_goes_277 ⟨by (try dsimp only [RM]); omega, by (try dsimp only [RM]); omega⟩ (fun v246 G247 H locs hq243 hR244 hS245 => ?_)
            obtain ⟨rfl, rfl⟩ := hq243
            refine lv_imul X.hx X.hb dX2_goes_280 ?_
            refine lv_iadd X.hx X.hb dX2_goes_281 ?_
            refine lv_istore (lv' := [(5, .int ((σ.2 0 i) + (((Fk σ i kn (100 * (d + 1))).1 0) * (wt σ 0 (nI d))))), (6, .int 0), (0, .ref m), (1, .int (nI i)), (2, .int kn), (3, .int ((Fk σ i kn (100 * (d + 1))).2)), (4, .int (nI d))]) X.hx X.hb dX2_goes_282 hl (by decide) rfl (fun ls hl => ?_)
            obtain ⟨x248, hx248⟩ : ∃ y : Int32, y = 0 + 1 := ⟨_, rfl⟩
            refine lv_iinc (v := x248) (lv' := [(6, .int x248), (5, .int ((σ.2 0 i) + (((Fk σ i kn (100 * (d + 1))).1 0) * (wt σ 0 (nI d))))), (0, .ref m), (1, .int (nI i)), (2, .int kn), (3, .int ((Fk σ i kn (100 * (d + 1))).2)), (4, .int (nI d))]) X.hx X.hb dX2_goes_284 hl (k := 1) rfl (by rw [hx248]; rfl) (by decide) rfl (fun ls hl => ?_)
            obtain rfl : x248 = 1 := hx248.trans (by decide)
            refine lv_goto (tgt := 252) X.hx X.hb dX2_goes_287 (by decide) ?_
            refine lv_iload X.hx X.hb dX2_goes_252 (lv_at hl 0 rfl) ?_
            refine lv_iconst (v := 3) X.hx X.hb dX2_goes_254 (by decide) ?_
            refine lv_icmp_ge (tgt := 290) X.hx X.hb dX2_goes_255 (by decide) (fun c255 => ?_) (fun c255 => ?_)
            · exact absurd c255 (by decide)
            · refine lv_iload X.hx X.hb dX2_goes_258 (lv_at hl 1 rfl) ?_
              refine lv_aload_n X.hx X.hb dX2_goes_260 rfl (lv_at hl 2 rfl) ?_
              refine g_get X hR244 f229 rfl in_X2 16 (by decide) q1311 (fun _ h => h) rfl dX2_goes_261 ?_
              refine lv_iconst (v := 3) X.hx X.hb dX2_goes_264 (by decide) ?_
              refine lv_iload X.hx X.hb dX2_goes_265 (lv_at hl 6 rfl) ?_
              refine lv_imul X.hx X.hb dX2_goes_267 ?_
              refine lv_topi (fun x249 hx249 => ?_)
              obtain rfl : x249 = nI (3 * d) := hx249.trans (nI_m3 (by omega))
              refine lv_iload X.hx X.hb dX2_goes_268 (lv_at hl 0 rfl) ?_
              refine lv_iadd X.hx X.hb dX2_goes_270 ?_
              refine lv_topi (fun x250 hx250 => ?_)
              obtain rfl : x250 = nI (3 * d + 1) := hx250.trans (nI_add (3 * d) 1)
              refine g_iald (v := fv (3 * d + 1)) X hR244 f236 (vp_in_nI (show 3 * d + 1 < 1095 by omega) (by decide)) (by rw [nI_clamp (by omega)]) dX2_goes_271 ?_
              refine lv_topi (fun x251 hx251 => ?_)
              obtain rfl : x251 = (Fk σ i kn (100 * (d + 1))).1 1 := hx251.trans (hV2.2 1 (by decide))
              refine lv_aload_n X.hx X.hb dX2_goes_272 rfl (lv_at hl 2 rfl) ?_
              refine lv_iload X.hx X.hb dX2_goes_273 (lv_at hl 0 rfl) ?_
              refine lv_iload X.hx X.hb dX2_goes_275 (lv_at hl 6 rfl) ?_
              refine gcV X hl.1 hR244 hS245 2 [.int 1, .int (nI d)] [.int ((Fk σ i kn (100 * (d + 1))).1 1), .int ((σ.2 0 i) + (((Fk σ i kn (100 * (d + 1))).1 0) * (wt σ 0 (nI d))))] (m_weighs l Γ G228 hW hMx) f229 rfl q1448 q1450 qs30 q40 q1451 rfl rfl ⟨rfl, by decide +kernel, by decide +kernel, by decide +kernel⟩ ⟨by (try dsimp only [RM]); omega, by (try dsimp only [RM]); omega⟩ rfl rfl (Nat.le_of_ble_eq_true rfl) dX2_goes_277 ⟨by (try dsimp only [RM]); omega, by (try dsimp only [RM]); omega⟩ (fun v255 G256 H locs hq252 hR253 hS254 => ?_)
              obtain ⟨rfl, rfl⟩ := hq252
              refine lv_imul X.hx X.hb dX2_goes_280 ?_
              refine lv_iadd X.hx X.hb dX2_goes_281 ?_
              refine lv_istore (lv' := [(5, .int (((σ.2 0 i) + (((Fk σ i kn (100 * (d + 1))).1 0) * (wt σ 0 (nI d)))) + (((Fk σ i kn (100 * (d + 1))).1 1) * (wt σ 1 (nI d))))), (6, .int 1), (0, .ref m), (1, .int (nI i)), (2, .int kn), (3, .int ((Fk σ i kn (100 * (d + 1))).2)), (4, .int (nI d))]) X.hx X.hb dX2_goes_282 hl (by decide) rfl (fun ls hl => ?_)
              obtain ⟨x257, hx257⟩ : ∃ y : Int32, y = 1 + 1 := ⟨_, rfl⟩
              refine lv_iinc (v := x257) (lv' := [(6, .int x257), (5, .int (((σ.2 0 i) + (((Fk σ i kn (100 * (d + 1))).1 0) * (wt σ 0 (nI d)))) + (((Fk σ i kn (100 * (d + 1))).1 1) * (wt σ 1 (nI d))))), (0, .ref m), (1, .int (nI i)), (2, .int kn), (3, .int ((Fk σ i kn (100 * (d + 1))).2)), (4, .int (nI d))]) X.hx X.hb dX2_goes_284 hl (k := 1) rfl (by rw [hx257]; rfl) (by decide) rfl (fun ls hl => ?_)
              obtain rfl : x257 = 2 := hx257.trans (by decide)
              refine lv_goto (tgt := 252) X.hx X.hb dX2_goes_287 (by decide) ?_
              refine lv_iload X.hx X.hb dX2_goes_252 (lv_at hl 0 rfl) ?_
              refine lv_iconst (v := 3) X.hx X.hb dX2_goes_254 (by decide) ?_
              refine lv_icmp_ge (tgt := 290) X.hx X.hb dX2_goes_255 (by decide) (fun c255 => ?_) (fun c255 => ?_)
              · exact absurd c255 (by decide)
              · refine lv_iload X.hx X.hb dX2_goes_258 (lv_at hl 1 rfl) ?_
                refine lv_aload_n X.hx X.hb dX2_goes_260 rfl (lv_at hl 2 rfl) ?_
                refine g_get X hR253 f229 rfl in_X2 16 (by decide) q1311 (fun _ h => h) rfl dX2_goes_261 ?_
                refine lv_iconst (v := 3) X.hx X.hb dX2_goes_264 (by decide) ?_
                refine lv_iload X.hx X.hb dX2_goes_265 (lv_at hl 6 rfl) ?_
                refine lv_imul X.hx X.hb dX2_goes_267 ?_
                refine lv_topi (fun x258 hx258 => ?_)
                obtain rfl : x258 = nI (3 * d) := hx258.trans (nI_m3 (by omega))
                refine lv_iload X.hx X.hb dX2_goes_268 (lv_at hl 0 rfl) ?_
                refine lv_iadd X.hx X.hb dX2_goes_270 ?_
                refine lv_topi (fun x259 hx259 => ?_)
                obtain rfl : x259 = nI (3 * d + 2) := hx259.trans (nI_add (3 * d) 2)
                refine g_iald (v := fv (3 * d + 2)) X hR253 f236 (vp_in_nI (show 3 * d + 2 < 1095 by omega) (by decide)) (by rw [nI_clamp (by omega)]) dX2_goes_271 ?_
                refine lv_topi (fun x260 hx260 => ?_)
                obtain rfl : x260 = (Fk σ i kn (100 * (d + 1))).1 2 := hx260.trans (hV2.2 2 (by decide))
                refine lv_aload_n X.hx X.hb dX2_goes_272 rfl (lv_at hl 2 rfl) ?_
                refine lv_iload X.hx X.hb dX2_goes_273 (lv_at hl 0 rfl) ?_
                refine lv_iload X.hx X.hb dX2_goes_275 (lv_at hl 6 rfl) ?_
                refine gcV X hl.1 hR253 hS254 2 [.int 2, .int (nI d)] [.int ((Fk σ i kn (100 * (d + 1))).1 2), .int (((σ.2 0 i) + (((Fk σ i kn (100 * (d + 1))).1 0) * (wt σ 0 (nI d)))) + (((Fk σ i kn (100 * (d + 1))).1 1) * (wt σ 1 (nI d))))] (m_weighs l Γ G228 hW hMx) f229 rfl q1448 q1450 qs30 q40 q1451 rfl rfl ⟨rfl, by decide +kernel, by decide +kernel, by decide +kernel⟩ ⟨by (try dsimp only [RM]); omega, by (try dsimp only [RM]); omega⟩ rfl rfl (Nat.le_of_ble_eq_true rfl) dX2_goes_277 ⟨by (try dsimp only [RM]); omega, by (try dsimp only [RM]); omega⟩ (fun v264 G265 H locs hq261 hR262 hS263 => ?_)
                obtain ⟨rfl, rfl⟩ := hq261
                refine lv_imul X.hx X.hb dX2_goes_280 ?_
                refine lv_iadd X.hx X.hb dX2_goes_281 ?_
                refine lv_istore (lv' := [(5, .int ((((σ.2 0 i) + (((Fk σ i kn (100 * (d + 1))).1 0) * (wt σ 0 (nI d)))) + (((Fk σ i kn (100 * (d + 1))).1 1) * (wt σ 1 (nI d)))) + (((Fk σ i kn (100 * (d + 1))).1 2) * (wt σ 2 (nI d))))), (6, .int 2), (0, .ref m), (1, .int (nI i)), (2, .int kn), (3, .int ((Fk σ i kn (100 * (d + 1))).2)), (4, .int (nI d))]) X.hx X.hb dX2_goes_282 hl (by decide) rfl (fun ls hl => ?_)
                obtain ⟨x266, hx266⟩ : ∃ y : Int32, y = 2 + 1 := ⟨_, rfl⟩
                refine lv_iinc (v := x266) (lv' := [(6, .int x266), (5, .int ((((σ.2 0 i) + (((Fk σ i kn (100 * (d + 1))).1 0) * (wt σ 0 (nI d)))) + (((Fk σ i kn (100 * (d + 1))).1 1) * (wt σ 1 (nI d)))) + (((Fk σ i kn (100 * (d + 1))).1 2) * (wt σ 2 (nI d))))), (0, .ref m), (1, .int (nI i)), (2, .int kn), (3, .int ((Fk σ i kn (100 * (d + 1))).2)), (4, .int (nI d))]) X.hx X.hb dX2_goes_284 hl (k := 1) rfl (by rw [hx266]; rfl) (by decide) rfl (fun ls hl => ?_)
                obtain rfl : x266 = 3 := hx266.trans (by decide)
                refine lv_goto (tgt := 252) X.hx X.hb dX2_goes_287 (by decide) ?_
                refine lv_iload X.hx X.hb dX2_goes_252 (lv_at hl 0 rfl) ?_
                refine lv_iconst (v := 3) X.hx X.hb dX2_goes_254 (by decide) ?_
                refine lv_icmp_ge (tgt := 290) X.hx X.hb dX2_goes_255 (by decide) (fun c255 => ?_) (fun c255 => ?_)
                · refine lv_aload_n X.hx X.hb dX2_goes_290 rfl (lv_at hl 2 rfl) ?_
                  refine g_get X hR262 f229 rfl in_X2 18 (by decide) q1313 (fun _ h => h) rfl dX2_goes_291 ?_
                  refine lv_iload X.hx X.hb dX2_goes_294 (lv_at hl 6 rfl) ?_
                  refine lv_iload_n X.hx X.hb dX2_goes_296 rfl (lv_at hl 5 rfl) ?_
                  refine lv_if_eq (tgt := 305) X.hx X.hb dX2_goes_297 (by decide) (fun c297 => ?_) (fun c297 => ?_)
                  · refine lv_iconst (v := 0) X.hx X.hb dX2_goes_305 (by decide) ?_
                    refine lv_topi (fun x267 hx267 => ?_)
                    obtain rfl : x267 = rtA σ i kn d := hx267.trans (by rw [rtA, rtw, if_pos c297])
                    refine g_iast X hR262 hS263 f237 (Nat.le_of_ble_eq_true rfl) (vp_in_nI hd (by decide)) dX2_goes_306 (fun H locs hR268 hS269 => ?_)
                    obtain ⟨G270, hG270⟩ : ∃ z : GH, z = gu G228 (B 14) ((32, 2), .inl (Γ.2 1, 365, .inl (upd fr ((nI d).toNatClampNeg) (rtA σ i kn d)))) := ⟨_, rfl⟩
                    have hR268 : Rep Γ G270 H := by rw [hG270]; exact hR268
                    have f271 : G270 m = some ((30, 0), .inr (1, [.int (nI (σ.1 0)), .ref (B 0), .ref (B 1), .int (σ.2 12 0), .int (nI (σ.1 1)), .ref (B 2), .ref (B 3), .ref (B 4), .int (nI (σ.1 2)), .ref (B 5), .ref (B 6), .ref (B 7), .ref (B 8), .ref (B 9), .ref (B 10), .ref (B 11), .ref (B 12), .ref (B 13), .ref (B 14), .ref (B 15), .int th])) := by rw [hG270]; exact gu_t f229 f237 (tne rfl)
                    have f272 : G270 (B 0) = some ((31, 0), .inl (Γ.2 1, 4, .inl (σ.2 0))) := by rw [hG270]; exact gu_t f230 f237 (tne rfl)
                    have f273 : G270 (B 5) = some ((31, 5), .inl (Γ.2 1, 60, .inl (σ.2 5))) := by rw [hG270]; exact gu_t f231 f237 (tne rfl)
                    have f274 : G270 (B 6) = some ((31, 6), .inl (Γ.2 1, 60, .inl (σ.2 6))) := by rw [hG270]; exact gu_t f232 f237 (tne rfl)
                    have f275 : G270 (B 7) = some ((31, 7), .inl (Γ.2 1, 60, .inl (σ.2 7))) := by rw [hG270]; exact gu_t f233 f237 (tne rfl)
                    have f276 : G270 (B 8) = some ((31, 8), .inl (Γ.2 1, 60, .inl (σ.2 8))) := by rw [hG270]; exact gu_t f234 f237 (tne rfl)
                    have f277 : G270 (B 9) = some ((31, 9), .inl (Γ.2 1, 60, .inl (σ.2 9))) := by rw [hG270]; exact gu_t f235 f237 (tne rfl)
                    have f278 : G270 (B 12) = some ((32, 0), .inl (Γ.2 1, 1095, .inl fv)) := by rw [hG270]; exact gu_t f236 f237 (tne2 (by decide))
                    have f279 : G270 (B 15) = some ((32, 3), .inl (Γ.2 1, 366, .inl fs)) := by rw [hG270]; exact gu_t f238 f237 (tne2 (by decide))
                    have f280 : G270 (B 13) = some ((32, 1), .inl (Γ.2 2, 365, .inl (upd fc ((nI d).toNatClampNeg) ((Fk σ i kn (100 * (d + 1))).2)))) := by rw [hG270]; exact gu_t f239 f237 (tne2 (by decide))
                    have f281 : G270 (B 14) = some ((32, 2), .inl (Γ.2 1, 365, .inl (upd fr ((nI d).toNatClampNeg) (rtA σ i kn d)))) := by rw [hG270]; exact gu_s _ _ _
                    refine lv_aload_n X.hx X.hb dX2_goes_307 rfl (lv_at hl 2 rfl) ?_
                    refine g_get X hR268 f271 rfl in_X2 19 (by decide) q1314 (fun _ h => h) rfl dX2_goes_308 ?_
                    refine lv_iload X.hx X.hb dX2_goes_311 (lv_at hl 6 rfl) ?_
                    refine lv_iconst (v := 1) X.hx X.hb dX2_goes_313 (by decide) ?_
                    refine lv_iadd X.hx X.hb dX2_goes_314 ?_
                    refine lv_topi (fun x282 hx282 => ?_)
                    obtain rfl : x282 = nI (d + 1) := hx282.trans (nI_1 d)
                    refine lv_aload_n X.hx X.hb dX2_goes_315 rfl (lv_at hl 2 rfl) ?_
                    refine g_get X hR268 f271 rfl in_X2 19 (by decide) q1314 (fun _ h => h) rfl dX2_goes_316 ?_
                    refine lv_iload X.hx X.hb dX2_goes_319 (lv_at hl 6 rfl) ?_
                    refine g_iald (v := SUM (rtA σ i kn) d) X hR268 f279 (vp_in_nI (show d < 366 by omega) (by decide)) (by rw [nI_clamp (by omega)]; exact hD.2 d (Nat.le_refl _)) dX2_goes_321 ?_
                    refine lv_aload_n X.hx X.hb dX2_goes_322 rfl (lv_at hl 2 rfl) ?_
                    refine g_get X hR268 f271 rfl in_X2 18 (by decide) q1313 (fun _ h => h) rfl dX2_goes_323 ?_
                    refine lv_iload X.hx X.hb dX2_goes_326 (lv_at hl 6 rfl) ?_
                    refine g_iald (v := rtA σ i kn d) X hR268 f281 (vp_in_nI hd (by decide)) (by rw [updn (by omega), nI_clamp (by omega), va_up_self]) dX2_goes_328 ?_
                    refine lv_iadd X.hx X.hb dX2_goes_329 ?_
                    refine lv_topi (fun x283 hx283 => ?_)
                    obtain rfl : x283 = SUM (rtA σ i kn) (d + 1) := hx283.trans (rfl)
                    refine g_iast X hR268 hS269 f279 (Nat.le_of_ble_eq_true rfl) (vp_in_nI (show d + 1 < 366 by omega) (by decide)) dX2_goes_330 (fun H locs hR284 hS285 => ?_)
                    obtain ⟨G286, hG286⟩ : ∃ z : GH, z = gu G270 (B 15) ((32, 3), .inl (Γ.2 1, 366, .inl (upd fs ((nI (d + 1)).toNatClampNeg) (SUM (rtA σ i kn) (d + 1))))) := ⟨_, rfl⟩
                    have hR284 : Rep Γ G286 H := by rw [hG286]; exact hR284
                    have f287 : G286 m = some ((30, 0), .inr (1, [.int (nI (σ.1 0)), .ref (B 0), .ref (B 1), .int (σ.2 12 0), .int (nI (σ.1 1)), .ref (B 2), .ref (B 3), .ref (B 4), .int (nI (σ.1 2)), .ref (B 5), .ref (B 6), .ref (B 7), .ref (B 8), .ref (B 9), .ref (B 10), .ref (B 11), .ref (B 12), .ref (B 13), .ref (B 14), .ref (B 15), .int th])) := by rw [hG286]; exact gu_t f271 f279 (tne rfl)
                    have f288 : G286 (B 0) = some ((31, 0), .inl (Γ.2 1, 4, .inl (σ.2 0))) := by rw [hG286]; exact gu_t f272 f279 (tne rfl)
                    have f289 : G286 (B 5) = some ((31, 5), .inl (Γ.2 1, 60, .inl (σ.2 5))) := by rw [hG286]; exact gu_t f273 f279 (tne rfl)
                    have f290 : G286 (B 6) = some ((31, 6), .inl (Γ.2 1, 60, .inl (σ.2 6))) := by rw [hG286]; exact gu_t f274 f279 (tne rfl)
                    have f291 : G286 (B 7) = some ((31, 7), .inl (Γ.2 1, 60, .inl (σ.2 7))) := by rw [hG286]; exact gu_t f275 f279 (tne rfl)
                    have f292 : G286 (B 8) = some ((31, 8), .inl (Γ.2 1, 60, .inl (σ.2 8))) := by rw [hG286]; exact gu_t f276 f279 (tne rfl)
                    have f293 : G286 (B 9) = some ((31, 9), .inl (Γ.2 1, 60, .inl (σ.2 9))) := by rw [hG286]; exact gu_t f277 f279 (tne rfl)
                    have f294 : G286 (B 12) = some ((32, 0), .inl (Γ.2 1, 1095, .inl fv)) := by rw [hG286]; exact gu_t f278 f279 (tne2 (by decide))
                    have f295 : G286 (B 13) = some ((32, 1), .inl (Γ.2 2, 365, .inl (upd fc ((nI d).toNatClampNeg) ((Fk σ i kn (100 * (d + 1))).2)))) := by rw [hG286]; exact gu_t f280 f279 (tne2 (by decide))
                    have f296 : G286 (B 14) = some ((32, 2), .inl (Γ.2 1, 365, .inl (upd fr ((nI d).toNatClampNeg) (rtA σ i kn d)))) := by rw [hG286]; exact gu_t f281 f279 (tne2 (by decide))
                    have f297 : G286 (B 15) = some ((32, 3), .inl (Γ.2 1, 366, .inl (upd fs ((nI (d + 1)).toNatClampNeg) (SUM (rtA σ i kn) (d + 1))))) := by rw [hG286]; exact gu_s _ _ _
                    obtain ⟨x298, hx298⟩ : ∃ y : Int32, y = nI d + 1 := ⟨_, rfl⟩
                    refine lv_iinc (v := x298) (lv' := [(4, .int x298), (6, .int 3), (5, .int ((((σ.2 0 i) + (((Fk σ i kn (100 * (d + 1))).1 0) * (wt σ 0 (nI d)))) + (((Fk σ i kn (100 * (d + 1))).1 1) * (wt σ 1 (nI d)))) + (((Fk σ i kn (100 * (d + 1))).1 2) * (wt σ 2 (nI d))))), (0, .ref m), (1, .int (nI i)), (2, .int kn), (3, .int ((Fk σ i kn (100 * (d + 1))).2))]) X.hx X.hb dX2_goes_331 hl (k := 6) rfl (by rw [hx298]; rfl) (by decide) rfl (fun ls hl => ?_)
                    refine lv_goto (tgt := 12) X.hx X.hb dX2_goes_334 (by decide) ?_
                    rw [hx298, nI_1] at hl
                    rw [updn (by omega)] at f295
                    rw [updn (by omega)] at f296
                    rw [updn (by omega)] at f297
                    have hV0 : VA0 σ i kn (d + 1) fv := fun e he j hj => by
                      rcases Nat.lt_or_ge e d with h | h
                      · exact hV2.1 e h j hj
                      · rw [show e = d by omega]; exact hV2.2 j hj
                    exact ih (d + 1) _ _ _ _ _ _ _ _ (by omega) (by omega) ⟨(gK.tr (gK.tr (gK.tr hk9 (gK.pt hG228 h13 rfl)) (gK.pt hG270 f237 rfl)) (gK.pt hG286 f279 rfl)), f294, f295, f296, f297⟩ hV0 (DN_step hD) hR284 hS285 (lv_sub hl [3, 4, 5, 6, 0] rfl)
                  · refine lv_iload X.hx X.hb dX2_goes_300 (lv_at hl 1 rfl) ?_
                    refine lv_goto (tgt := 306) X.hx X.hb dX2_goes_302 (by decide) ?_
                    refine lv_topi (fun x299 hx299 => ?_)
                    obtain rfl : x299 = rtA σ i kn d := hx299.trans (by rw [rtA, rtw, if_neg c297])
                    refine g_iast X hR262 hS263 f237 (Nat.le_of_ble_eq_true rfl) (vp_in_nI hd (by decide)) dX2_goes_306 (fun H locs hR300 hS301 => ?_)
                    obtain ⟨G302, hG302⟩ : ∃ z : GH, z = gu G228 (B 14) ((32, 2), .inl (Γ.2 1, 365, .inl (upd fr ((nI d).toNatClampNeg) (rtA σ i kn d)))) := ⟨_, rfl⟩
                    have hR300 : Rep Γ G302 H := by rw [hG302]; exact hR300
                    have f303 : G302 m = some ((30, 0), .inr (1, [.int (nI (σ.1 0)), .ref (B 0), .ref (B 1), .int (σ.2 12 0), .int (nI (σ.1 1)), .ref (B 2), .ref (B 3), .ref (B 4), .int (nI (σ.1 2)), .ref (B 5), .ref (B 6), .ref (B 7), .ref (B 8), .ref (B 9), .ref (B 10), .ref (B 11), .ref (B 12), .ref (B 13), .ref (B 14), .ref (B 15), .int th])) := by rw [hG302]; exact gu_t f229 f237 (tne rfl)
                    have f304 : G302 (B 0) = some ((31, 0), .inl (Γ.2 1, 4, .inl (σ.2 0))) := by rw [hG302]; exact gu_t f230 f237 (tne rfl)
                    have f305 : G302 (B 5) = some ((31, 5), .inl (Γ.2 1, 60, .inl (σ.2 5))) := by rw [hG302]; exact gu_t f231 f237 (tne rfl)
                    have f306 : G302 (B 6) = some ((31, 6), .inl (Γ.2 1, 60, .inl (σ.2 6))) := by rw [hG302]; exact gu_t f232 f237 (tne rfl)
                    have f307 : G302 (B 7) = some ((31, 7), .inl (Γ.2 1, 60, .inl (σ.2 7))) := by rw [hG302]; exact gu_t f233 f237 (tne rfl)
                    have f308 : G302 (B 8) = some ((31, 8), .inl (Γ.2 1, 60, .inl (σ.2 8))) := by rw [hG302]; exact gu_t f234 f237 (tne rfl)
                    have f309 : G302 (B 9) = some ((31, 9), .inl (Γ.2 1, 60, .inl (σ.2 9))) := by rw [hG302]; exact gu_t f235 f237 (tne rfl)
                    have f310 : G302 (B 12) = some ((32, 0), .inl (Γ.2 1, 1095, .inl fv)) := by rw [hG302]; exact gu_t f236 f237 (tne2 (by decide))
                    have f311 : G302 (B 15) = some ((32, 3), .inl (Γ.2 1, 366, .inl fs)) := by rw [hG302]; exact gu_t f238 f237 (tne2 (by decide))
                    have f312 : G302 (B 13) = some ((32, 1), .inl (Γ.2 2, 365, .inl (upd fc ((nI d).toNatClampNeg) ((Fk σ i kn (100 * (d + 1))).2)))) := by rw [hG302]; exact gu_t f239 f237 (tne2 (by decide))
                    have f313 : G302 (B 14) = some ((32, 2), .inl (Γ.2 1, 365, .inl (upd fr ((nI d).toNatClampNeg) (rtA σ i kn d)))) := by rw [hG302]; exact gu_s _ _ _
                    refine lv_aload_n X.hx X.hb dX2_goes_307 rfl (lv_at hl 2 rfl) ?_
                    refine g_get X hR300 f303 rfl in_X2 19 (by decide) q1314 (fun _ h => h) rfl dX2_goes_308 ?_
                    refine lv_iload X.hx X.hb dX2_goes_311 (lv_at hl 6 rfl) ?_
                    refine lv_iconst (v := 1) X.hx X.hb dX2_goes_313 (by decide) ?_
                    refine lv_iadd X.hx X.hb dX2_goes_314 ?_
                    refine lv_topi (fun x314 hx314 => ?_)
                    obtain rfl : x314 = nI (d + 1) := hx314.trans (nI_1 d)
                    refine lv_aload_n X.hx X.hb dX2_goes_315 rfl (lv_at hl 2 rfl) ?_
                    refine g_get X hR300 f303 rfl in_X2 19 (by decide) q1314 (fun _ h => h) rfl dX2_goes_316 ?_
                    refine lv_iload X.hx X.hb dX2_goes_319 (lv_at hl 6 rfl) ?_
                    refine g_iald (v := SUM (rtA σ i kn) d) X hR300 f311 (vp_in_nI (show d < 366 by omega) (by decide)) (by rw [nI_clamp (by omega)]; exact hD.2 d (Nat.le_refl _)) dX2_goes_321 ?_
                    refine lv_aload_n X.hx X.hb dX2_goes_322 rfl (lv_at hl 2 rfl) ?_
                    refine g_get X hR300 f303 rfl in_X2 18 (by decide) q1313 (fun _ h => h) rfl dX2_goes_323 ?_
                    refine lv_iload X.hx X.hb dX2_goes_326 (lv_at hl 6 rfl) ?_
                    refine g_iald (v := rtA σ i kn d) X hR300 f313 (vp_in_nI hd (by decide)) (by rw [updn (by omega), nI_clamp (by omega), va_up_self]) dX2_goes_328 ?_
                    refine lv_iadd X.hx X.hb dX2_goes_329 ?_
                    refine lv_topi (fun x315 hx315 => ?_)
                    obtain rfl : x315 = SUM (rtA σ i kn) (d + 1) := hx315.trans (rfl)
                    refine g_iast X hR300 hS301 f311 (Nat.le_of_ble_eq_true rfl) (vp_in_nI (show d + 1 < 366 by omega) (by decide)) dX2_goes_330 (fun H locs hR316 hS317 => ?_)
                    obtain ⟨G318, hG318⟩ : ∃ z : GH, z = gu G302 (B 15) ((32, 3), .inl (Γ.2 1, 366, .inl (upd fs ((nI (d + 1)).toNatClampNeg) (SUM (rtA σ i kn) (d + 1))))) := ⟨_, rfl⟩
                    have hR316 : Rep Γ G318 H := by rw [hG318]; exact hR316
                    have f319 : G318 m = some ((30, 0), .inr (1, [.int (nI (σ.1 0)), .ref (B 0), .ref (B 1), .int (σ.2 12 0), .int (nI (σ.1 1)), .ref (B 2), .ref (B 3), .ref (B 4), .int (nI (σ.1 2)), .ref (B 5), .ref (B 6), .ref (B 7), .ref (B 8), .ref (B 9), .ref (B 10), .ref (B 11), .ref (B 12), .ref (B 13), .ref (B 14), .ref (B 15), .int th])) := by rw [hG318]; exact gu_t f303 f311 (tne rfl)
                    have f320 : G318 (B 0) = some ((31, 0), .inl (Γ.2 1, 4, .inl (σ.2 0))) := by rw [hG318]; exact gu_t f304 f311 (tne rfl)
                    have f321 : G318 (B 5) = some ((31, 5), .inl (Γ.2 1, 60, .inl (σ.2 5))) := by rw [hG318]; exact gu_t f305 f311 (tne rfl)
                    have f322 : G318 (B 6) = some ((31, 6), .inl (Γ.2 1, 60, .inl (σ.2 6))) := by rw [hG318]; exact gu_t f306 f311 (tne rfl)
                    have f323 : G318 (B 7) = some ((31, 7), .inl (Γ.2 1, 60, .inl (σ.2 7))) := by rw [hG318]; exact gu_t f307 f311 (tne rfl)
                    have f324 : G318 (B 8) = some ((31, 8), .inl (Γ.2 1, 60, .inl (σ.2 8))) := by rw [hG318]; exact gu_t f308 f311 (tne rfl)
                    have f325 : G318 (B 9) = some ((31, 9), .inl (Γ.2 1, 60, .inl (σ.2 9))) := by rw [hG318]; exact gu_t f309 f311 (tne rfl)
                    have f326 : G318 (B 12) = some ((32, 0), .inl (Γ.2 1, 1095, .inl fv)) := by rw [hG318]; exact gu_t f310 f311 (tne2 (by decide))
                    have f327 : G318 (B 13) = some ((32, 1), .inl (Γ.2 2, 365, .inl (upd fc ((nI d).toNatClampNeg) ((Fk σ i kn (100 * (d + 1))).2)))) := by rw [hG318]; exact gu_t f312 f311 (tne2 (by decide))
                    have f328 : G318 (B 14) = some ((32, 2), .inl (Γ.2 1, 365, .inl (upd fr ((nI d).toNatClampNeg) (rtA σ i kn d)))) := by rw [hG318]; exact gu_t f313 f311 (tne2 (by decide))
                    have f329 : G318 (B 15) = some ((32, 3), .inl (Γ.2 1, 366, .inl (upd fs ((nI (d + 1)).toNatClampNeg) (SUM (rtA σ i kn) (d + 1))))) := by rw [hG318]; exact gu_s _ _ _
                    obtain ⟨x330, hx330⟩ : ∃ y : Int32, y = nI d + 1 := ⟨_, rfl⟩
                    refine lv_iinc (v := x330) (lv' := [(4, .int x330), (6, .int 3), (5, .int ((((σ.2 0 i) + (((Fk σ i kn (100 * (d + 1))).1 0) * (wt σ 0 (nI d)))) + (((Fk σ i kn (100 * (d + 1))).1 1) * (wt σ 1 (nI d)))) + (((Fk σ i kn (100 * (d + 1))).1 2) * (wt σ 2 (nI d))))), (0, .ref m), (1, .int (nI i)), (2, .int kn), (3, .int ((Fk σ i kn (100 * (d + 1))).2))]) X.hx X.hb dX2_goes_331 hl (k := 6) rfl (by rw [hx330]; rfl) (by decide) rfl (fun ls hl => ?_)
                    refine lv_goto (tgt := 12) X.hx X.hb dX2_goes_334 (by decide) ?_
                    rw [hx330, nI_1] at hl
                    rw [updn (by omega)] at f327
                    rw [updn (by omega)] at f328
                    rw [updn (by omega)] at f329
                    have hV0 : VA0 σ i kn (d + 1) fv := fun e he j hj => by
                      rcases Nat.lt_or_ge e d with h | h
                      · exact hV2.1 e h j hj
                      · rw [show e = d by omega]; exact hV2.2 j hj
                    exact ih (d + 1) _ _ _ _ _ _ _ _ (by omega) (by omega) ⟨(gK.tr (gK.tr (gK.tr hk9 (gK.pt hG228 h13 rfl)) (gK.pt hG302 f237 rfl)) (gK.pt hG318 f311 rfl)), f326, f327, f328, f329⟩ hV0 (DN_step hD) hR316 hS317 (lv_sub hl [3, 4, 5, 6, 0] rfl)
                · exact absurd (by decide) c255
        have loop2 : ∀ (q k : Nat) (fv : Nat → Int32) (G1 : GH) (H : Heap) (locs : List Loc) (ls : Array Slot), k ≤ σ.1 2 → σ.1 2 - k < q → W32 Γ G G1 B fv fc fr fs → VAL σ i kn d fv (Fk σ i kn (100 * d + k)).1 → Rep Γ G1 H → va_S (gA Γ) ss.heap H locs → lv_has ls 7 [(0, .ref m), (1, .int (nI i)), (2, .int kn), (3, .int ((Fk σ i kn (100 * d + k)).2)), (4, .int (nI d)), (5, .int (nI k))] → W pp l ee (RM 3 0 0) ss mm (List.toArray [.ref m, .int (nI i), .int kn]) below meth cc0 H locs 0 0 (MQ below (Qg Γ (fun v G1 => v = none ∧ ∃ fv fc fr fs : Nat → Int32, W32 Γ G G1 B fv fc fr fs ∧ VA0 σ i kn 365 fv ∧ DN σ i kn 365 fc fr fs)) (List.toArray [.ref m, .int (nI i), .int kn]) ss 0 0 (gA Γ)) (F0 mm 73 ls []) := by
          intro q
          induction q with
          | zero => intro k fv G1 H locs ls h3 h4; omega
          | succ q ihq =>
            intro k fv G1 H locs ls h3 h4 hW3 hV2 hR hS hl
            by_cases hk : k < σ.1 2
            · obtain ⟨hk9, h12, h13, h14, h15⟩ := id hW3
              have hm := hk9 _ _ hm0 (by show ¬ 30 = 32; decide)
              have hr0 : G1 (B 0) = some ((31, 0), .inl (Γ.2 1, 4, .inl (σ.2 0))) := hk9 _ _ (hM.2.1 0 (by decide)) (by show ¬ 31 = 32; decide)
              have hr5 : G1 (B 5) = some ((31, 5), .inl (Γ.2 1, 60, .inl (σ.2 5))) := hk9 _ _ (hM.2.1 5 (by decide)) (by show ¬ 31 = 32; decide)
              have hr6 : G1 (B 6) = some ((31, 6), .inl (Γ.2 1, 60, .inl (σ.2 6))) := hk9 _ _ (hM.2.1 6 (by decide)) (by show ¬ 31 = 32; decide)
              have hr7 : G1 (B 7) = some ((31, 7), .inl (Γ.2 1, 60, .inl (σ.2 7))) := hk9 _ _ (hM.2.1 7 (by decide)) (by show ¬ 31 = 32; decide)
              have hr8 : G1 (B 8) = some ((31, 8), .inl (Γ.2 1, 60, .inl (σ.2 8))) := hk9 _ _ (hM.2.1 8 (by decide)) (by show ¬ 31 = 32; decide)
              have hr9 : G1 (B 9) = some ((31, 9), .inl (Γ.2 1, 60, .inl (σ.2 9))) := hk9 _ _ (hM.2.1 9 (by decide)) (by show ¬ 31 = 32; decide)
              have hMx : MP Γ G1 m σ th B := hM.wrk hk9 h12 h13 h14 h15
              obtain ⟨-, hkd, hwh, hfr8, -⟩ := hW.2.2.2.2.2.2 k hk
              have hat := Fk_at (σ := σ) (i := i) (d := d) (kn := kn) (show k < 100 by omega)
              have hon := Fk_on (σ := σ) (i := i) (kn := kn) (100 * d + k)
              refine lv_iload X.hx X.hb dX2_goes_73 (lv_at hl 5 rfl) ?_
              refine lv_aload_n X.hx X.hb dX2_goes_75 rfl (lv_at hl 0 rfl) ?_
              refine g_get X hR hm rfl in_X2 8 (by decide) q1303 (fun _ h => h) rfl dX2_goes_76 ?_
              refine lv_icmp_ge (tgt := 233) X.hx X.hb dX2_goes_79 (by decide) (fun c79 => ?_) (fun c79 => ?_)
              · exact absurd c79 (Int32.not_le.mpr (nI_lt hk (by omega)))
              · refine lv_aload_n X.hx X.hb dX2_goes_82 rfl (lv_at hl 0 rfl) ?_
                refine g_get X hR hm rfl in_X2 9 (by decide) q1304 (fun _ h => h) rfl dX2_goes_83 ?_
                refine lv_iload X.hx X.hb dX2_goes_86 (lv_at hl 5 rfl) ?_
                refine g_iald (v := σ.2 5 k) X hR hr5 (vp_in_nI (show k < 60 by omega) (by decide)) (by rw [nI_clamp (by omega)]) dX2_goes_88 ?_
                refine lv_iload_n X.hx X.hb dX2_goes_89 rfl (lv_at hl 1 rfl) ?_
                refine lv_icmp_ne (tgt := 227) X.hx X.hb dX2_goes_90 (by decide) (fun c90 => ?_) (fun c90 => ?_)
                · have hno : Fk σ i kn (100 * d + k + 1) = Fk σ i kn (100 * d + k) := hat.trans (if_neg (fun h9 => c90 h9.1.2))
                  obtain ⟨x331, hx331⟩ : ∃ y : Int32, y = nI k + 1 := ⟨_, rfl⟩
                  refine lv_iinc (v := x331) (lv' := [(5, .int x331), (0, .ref m), (1, .int (nI i)), (2, .int kn), (3, .int ((Fk σ i kn (100 * d + k)).2)), (4, .int (nI d))]) X.hx X.hb dX2_goes_227 hl (k := 5) rfl (by rw [hx331]; rfl) (by decide) rfl (fun ls hl => ?_)
                  refine lv_goto (tgt := 73) X.hx X.hb dX2_goes_230 (by decide) ?_
                  rw [hx331, nI_1] at hl
                  rw [← hno] at hl hV2
                  exact ihq (k + 1) _ _ _ _ _ (by omega) (by omega) ⟨hk9, h12, h13, h14, h15⟩ hV2 hR hS (lv_sub hl [1, 2, 3, 4, 5, 0] rfl)
                · refine lv_aload_n X.hx X.hb dX2_goes_93 rfl (lv_at hl 0 rfl) ?_
                  refine g_get X hR hm rfl in_X2 12 (by decide) q1307 (fun _ h => h) rfl dX2_goes_94 ?_
                  refine lv_iload X.hx X.hb dX2_goes_97 (lv_at hl 5 rfl) ?_
                  refine g_iald (v := σ.2 8 k) X hR hr8 (vp_in_nI (show k < 60 by omega) (by decide)) (by rw [nI_clamp (by omega)]) dX2_goes_99 ?_
                  refine lv_iload X.hx X.hb dX2_goes_100 (lv_at hl 4 rfl) ?_
                  refine lv_icmp_ne (tgt := 227) X.hx X.hb dX2_goes_102 (by decide) (fun c102 => ?_) (fun c102 => ?_)
                  · have hno : Fk σ i kn (100 * d + k + 1) = Fk σ i kn (100 * d + k) := hat.trans (if_neg (fun h9 => c102 (by apply Int32.toInt_inj.mp; rw [h9.2.1, nI_toInt (by omega)])))
                    obtain ⟨x332, hx332⟩ : ∃ y : Int32, y = nI k + 1 := ⟨_, rfl⟩
                    refine lv_iinc (v := x332) (lv' := [(5, .int x332), (0, .ref m), (1, .int (nI i)), (2, .int kn), (3, .int ((Fk σ i kn (100 * d + k)).2)), (4, .int (nI d))]) X.hx X.hb dX2_goes_227 hl (k := 5) rfl (by rw [hx332]; rfl) (by decide) rfl (fun ls hl => ?_)
                    refine lv_goto (tgt := 73) X.hx X.hb dX2_goes_230 (by decide) ?_
                    rw [hx332, nI_1] at hl
                    rw [← hno] at hl hV2
                    exact ihq (k + 1) _ _ _ _ _ (by omega) (by omega) ⟨hk9, h12, h13, h14, h15⟩ hV2 hR hS (lv_sub hl [1, 2, 3, 4, 5, 0] rfl)
                  · refine lv_aload_n X.hx X.hb dX2_goes_105 rfl (lv_at hl 0 rfl) ?_
                    refine lv_iload X.hx X.hb dX2_goes_106 (lv_at hl 5 rfl) ?_
                    refine lv_iload_n X.hx X.hb dX2_goes_108 rfl (lv_at hl 2 rfl) ?_
                    refine gcV X hl.1 hR hS 2 [.int (nI k), .int kn] [] (m_isKnown l Γ G1 hW hMx hk) hm rfl q1429 q1431 qs27 q40 q1432 rfl rfl ⟨rfl, by decide +kernel, by decide +kernel, by decide +kernel⟩ ⟨by (try dsimp only [RM]); omega, by (try dsimp only [RM]); omega⟩ rfl rfl (Nat.le_of_ble_eq_true rfl) dX2_goes_109 ⟨by (try dsimp only [RM]); omega, by (try dsimp only [RM]); omega⟩ (fun v336 G337 H locs hq333 hR334 hS335 => ?_)
                    obtain ⟨rfl, rfl⟩ := hq333
                    refine lv_if_eq (tgt := 227) X.hx X.hb dX2_goes_112 (by decide) (fun c112 => ?_) (fun c112 => ?_)
                    · have hno : Fk σ i kn (100 * d + k + 1) = Fk σ i kn (100 * d + k) := hat.trans (if_neg (fun h9 => absurd ((if_pos h9.2.2).symm.trans c112) (by decide)))
                      obtain ⟨x338, hx338⟩ : ∃ y : Int32, y = nI k + 1 := ⟨_, rfl⟩
                      refine lv_iinc (v := x338) (lv' := [(5, .int x338), (0, .ref m), (1, .int (nI i)), (2, .int kn), (3, .int ((Fk σ i kn (100 * d + k)).2)), (4, .int (nI d))]) X.hx X.hb dX2_goes_227 hl (k := 5) rfl (by rw [hx338]; rfl) (by decide) rfl (fun ls hl => ?_)
                      refine lv_goto (tgt := 73) X.hx X.hb dX2_goes_230 (by decide) ?_
                      rw [hx338, nI_1] at hl
                      rw [← hno] at hl hV2
                      exact ihq (k + 1) _ _ _ _ _ (by omega) (by omega) ⟨hk9, h12, h13, h14, h15⟩ hV2 hR334 hS335 (lv_sub hl [1, 2, 3, 4, 5, 0] rfl)
                    · have hkq := Classical.not_not.mp (fun h9 => c112 (if_neg h9))
                      have hyes : Fk σ i kn (100 * d + k + 1) = apk (σ.2 6 k) (σ.2 7 k) (σ.2 9 k) (Fk σ i kn (100 * d + k)) := hat.trans (if_pos ⟨⟨hk, c90⟩, by rw [c102, nI_toInt (by omega)], hkq⟩)
                      obtain ⟨j, hj3, hje⟩ : ∃ j, j < 3 ∧ σ.2 7 k = nI j := ⟨(σ.2 7 k).toInt.toNat, by have := hwh.1; have := hwh.2; omega, (nI_of8 hwh).symm⟩
                      have hjc : (σ.2 7 k).toNatClampNeg = j := by rw [hje, nI_clamp (by omega)]
                      rcases hkd with e6 | e6 | e6 | e6
                      · have hap : Fk σ i kn (100 * d + k + 1) = (va_up (Fk σ i kn (100 * d + k)).1 j (σ.2 9 k), (Fk σ i kn (100 * d + k)).2) := by rw [hyes, apk, if_pos e6, hjc]
                        refine lv_iconst (v := 3) X.hx X.hb dX2_goes_115 (by decide) ?_
                        refine lv_iload X.hx X.hb dX2_goes_116 (lv_at hl 4 rfl) ?_
                        refine lv_imul X.hx X.hb dX2_goes_118 ?_
                        refine lv_topi (fun x339 hx339 => ?_)
                        obtain rfl : x339 = nI (3 * d) := hx339.trans (nI_m3 (by omega))
                        refine lv_aload_n X.hx X.hb dX2_goes_119 rfl (lv_at hl 0 rfl) ?_
                        refine g_get X hR334 hm rfl in_X2 11 (by decide) q1306 (fun _ h => h) rfl dX2_goes_120 ?_
                        refine lv_iload X.hx X.hb dX2_goes_123 (lv_at hl 5 rfl) ?_
                        refine g_iald (v := σ.2 7 k) X hR334 hr7 (vp_in_nI (show k < 60 by omega) (by decide)) (by rw [nI_clamp (by omega)]) dX2_goes_125 ?_
                        refine lv_iadd X.hx X.hb dX2_goes_126 ?_
                        refine lv_topi (fun x340 hx340 => ?_)
                        obtain rfl : x340 = nI (3 * d + j) := hx340.trans (by rw [hje]; exact nI_add _ _)
                        refine lv_istore (lv' := [(6, .int (nI (3 * d + j))), (0, .ref m), (1, .int (nI i)), (2, .int kn), (3, .int ((Fk σ i kn (100 * d + k)).2)), (4, .int (nI d)), (5, .int (nI k))]) X.hx X.hb dX2_goes_127 hl (by decide) rfl (fun ls hl => ?_)
                        refine lv_aload_n X.hx X.hb dX2_goes_129 rfl (lv_at hl 1 rfl) ?_
                        refine g_get X hR334 hm rfl in_X2 16 (by decide) q1311 (fun _ h => h) rfl dX2_goes_130 ?_
                        refine lv_iload X.hx X.hb dX2_goes_133 (lv_at hl 0 rfl) ?_
                        refine lv_aload_n X.hx X.hb dX2_goes_135 rfl (lv_at hl 1 rfl) ?_
                        refine g_get X hR334 hm rfl in_X2 10 (by decide) q1305 (fun _ h => h) rfl dX2_goes_136 ?_
                        refine lv_iload X.hx X.hb dX2_goes_139 (lv_at hl 6 rfl) ?_
                        refine g_iald (v := σ.2 6 k) X hR334 hr6 (vp_in_nI (show k < 60 by omega) (by decide)) (by rw [nI_clamp (by omega)]) dX2_goes_141 ?_
                        refine lv_if_ne (tgt := 155) X.hx X.hb dX2_goes_142 (by decide) (fun c142 => ?_) (fun c142 => ?_)
                        · exact absurd e6 c142
                        · refine lv_aload_n X.hx X.hb dX2_goes_145 rfl (lv_at hl 1 rfl) ?_
                          refine g_get X hR334 hm rfl in_X2 13 (by decide) q1308 (fun _ h => h) rfl dX2_goes_146 ?_
                          refine lv_iload X.hx X.hb dX2_goes_149 (lv_at hl 6 rfl) ?_
                          refine g_iald (v := σ.2 9 k) X hR334 hr9 (vp_in_nI (show k < 60 by omega) (by decide)) (by rw [nI_clamp (by omega)]) dX2_goes_151 ?_
                          refine lv_goto (tgt := 194) X.hx X.hb dX2_goes_152 (by decide) ?_
                          refine g_iast X hR334 hS335 h12 (Nat.le_of_ble_eq_true rfl) (vp_in_nI (show 3 * d + j < 1095 by omega) (by decide)) dX2_goes_194 (fun H locs hR341 hS342 => ?_)
                          obtain ⟨G343, hG343⟩ : ∃ z : GH, z = gu G1 (B 12) ((32, 0), .inl (Γ.2 1, 1095, .inl (upd fv ((nI (3 * d + j)).toNatClampNeg) (σ.2 9 k)))) := ⟨_, rfl⟩
                          have hR341 : Rep Γ G343 H := by rw [hG343]; exact hR341
                          have f344 : G343 m = some ((30, 0), .inr (1, [.int (nI (σ.1 0)), .ref (B 0), .ref (B 1), .int (σ.2 12 0), .int (nI (σ.1 1)), .ref (B 2), .ref (B 3), .ref (B 4), .int (nI (σ.1 2)), .ref (B 5), .ref (B 6), .ref (B 7), .ref (B 8), .ref (B 9), .ref (B 10), .ref (B 11), .ref (B 12), .ref (B 13), .ref (B 14), .ref (B 15), .int th])) := by rw [hG343]; exact gu_t hm h12 (tne rfl)
                          have f345 : G343 (B 0) = some ((31, 0), .inl (Γ.2 1, 4, .inl (σ.2 0))) := by rw [hG343]; exact gu_t hr0 h12 (tne rfl)
                          have f346 : G343 (B 5) = some ((31, 5), .inl (Γ.2 1, 60, .inl (σ.2 5))) := by rw [hG343]; exact gu_t hr5 h12 (tne rfl)
                          have f347 : G343 (B 6) = some ((31, 6), .inl (Γ.2 1, 60, .inl (σ.2 6))) := by rw [hG343]; exact gu_t hr6 h12 (tne rfl)
                          have f348 : G343 (B 7) = some ((31, 7), .inl (Γ.2 1, 60, .inl (σ.2 7))) := by rw [hG343]; exact gu_t hr7 h12 (tne rfl)
                          have f349 : G343 (B 8) = some ((31, 8), .inl (Γ.2 1, 60, .inl (σ.2 8))) := by rw [hG343]; exact gu_t hr8 h12 (tne rfl)
                          have f350 : G343 (B 9) = some ((31, 9), .inl (Γ.2 1, 60, .inl (σ.2 9))) := by rw [hG343]; exact gu_t hr9 h12 (tne rfl)
                          have f351 : G343 (B 13) = some ((32, 1), .inl (Γ.2 2, 365, .inl fc)) := by rw [hG343]; exact gu_t h13 h12 (tne2 (by decide))
                          have f352 : G343 (B 14) = some ((32, 2), .inl (Γ.2 1, 365, .inl fr)) := by rw [hG343]; exact gu_t h14 h12 (tne2 (by decide))
                          have f353 : G343 (B 15) = some ((32, 3), .inl (Γ.2 1, 366, .inl fs)) := by rw [hG343]; exact gu_t h15 h12 (tne2 (by decide))
                          have f354 : G343 (B 12) = some ((32, 0), .inl (Γ.2 1, 1095, .inl (upd fv ((nI (3 * d + j)).toNatClampNeg) (σ.2 9 k)))) := by rw [hG343]; exact gu_s _ _ _
                          rw [updn (by omega)] at f354
                          have hV3 : VAL σ i kn d (va_up fv (3 * d + j) (σ.2 9 k)) (Fk σ i kn (100 * d + k + 1)).1 := by rw [hap]; exact VAL_upd hV2 hj3
                          refine lv_aload_n X.hx X.hb dX2_goes_195 rfl (lv_at hl 1 rfl) ?_
                          refine g_get X hR341 f344 rfl in_X2 10 (by decide) q1305 (fun _ h => h) rfl dX2_goes_196 ?_
                          refine lv_iload X.hx X.hb dX2_goes_199 (lv_at hl 6 rfl) ?_
                          refine g_iald (v := σ.2 6 k) X hR341 f347 (vp_in_nI (show k < 60 by omega) (by decide)) (by rw [nI_clamp (by omega)]) dX2_goes_201 ?_
                          refine lv_iconst (v := 3) X.hx X.hb dX2_goes_202 (by decide) ?_
                          refine lv_icmp_eq (tgt := 221) X.hx X.hb dX2_goes_203 (by decide) (fun c203 => ?_) (fun c203 => ?_)
                          · exact absurd (e6.symm.trans c203) (by decide)
                          · refine lv_aload_n X.hx X.hb dX2_goes_206 rfl (lv_at hl 1 rfl) ?_
                            refine g_get X hR341 f344 rfl in_X2 10 (by decide) q1305 (fun _ h => h) rfl dX2_goes_207 ?_
                            refine lv_iload X.hx X.hb dX2_goes_210 (lv_at hl 6 rfl) ?_
                            refine g_iald (v := σ.2 6 k) X hR341 f347 (vp_in_nI (show k < 60 by omega) (by decide)) (by rw [nI_clamp (by omega)]) dX2_goes_212 ?_
                            refine lv_iconst (v := 2) X.hx X.hb dX2_goes_213 (by decide) ?_
                            refine lv_icmp_eq (tgt := 225) X.hx X.hb dX2_goes_214 (by decide) (fun c214 => ?_) (fun c214 => ?_)
                            · exact absurd (e6.symm.trans c214) (by decide)
                            · refine lv_iload_n X.hx X.hb dX2_goes_217 rfl (lv_at hl 4 rfl) ?_
                              refine lv_if_eq (tgt := 225) X.hx X.hb dX2_goes_218 (by decide) (fun c218 => ?_) (fun c218 => ?_)
                              · refine lv_iconst (v := 0) X.hx X.hb dX2_goes_225 (by decide) ?_
                                refine lv_topi (fun x355 hx355 => ?_)
                                obtain rfl : x355 = (Fk σ i kn (100 * d + k + 1)).2 := hx355.trans (by rw [hap]; exact c218.symm)
                                refine lv_istore_n (lv' := [(3, .int ((Fk σ i kn (100 * d + k + 1)).2)), (6, .int (nI (3 * d + j))), (0, .ref m), (1, .int (nI i)), (2, .int kn), (4, .int (nI d)), (5, .int (nI k))]) X.hx X.hb dX2_goes_226 rfl hl (by decide) rfl (fun ls hl => ?_)
                                obtain ⟨x356, hx356⟩ : ∃ y : Int32, y = nI k + 1 := ⟨_, rfl⟩
                                refine lv_iinc (v := x356) (lv' := [(5, .int x356), (3, .int ((Fk σ i kn (100 * d + k + 1)).2)), (6, .int (nI (3 * d + j))), (0, .ref m), (1, .int (nI i)), (2, .int kn), (4, .int (nI d))]) X.hx X.hb dX2_goes_227 hl (k := 6) rfl (by rw [hx356]; rfl) (by decide) rfl (fun ls hl => ?_)
                                refine lv_goto (tgt := 73) X.hx X.hb dX2_goes_230 (by decide) ?_
                                rw [hx356, nI_1] at hl
                                exact ihq (k + 1) _ _ _ _ _ (by omega) (by omega) ⟨(gK.tr hk9 (gK.pt hG343 h12 rfl)), f354, f351, f352, f353⟩ hV3 hR341 hS342 (lv_sub hl [3, 4, 5, 1, 6, 0] rfl)
                              · refine lv_iconst (v := 1) X.hx X.hb dX2_goes_221 (by decide) ?_
                                refine lv_goto (tgt := 226) X.hx X.hb dX2_goes_222 (by decide) ?_
                                refine lv_topi (fun x357 hx357 => ?_)
                                obtain rfl : x357 = (Fk σ i kn (100 * d + k + 1)).2 := hx357.trans (by rw [hap]; exact (hon.resolve_left c218).symm)
                                refine lv_istore_n (lv' := [(3, .int ((Fk σ i kn (100 * d + k + 1)).2)), (6, .int (nI (3 * d + j))), (0, .ref m), (1, .int (nI i)), (2, .int kn), (4, .int (nI d)), (5, .int (nI k))]) X.hx X.hb dX2_goes_226 rfl hl (by decide) rfl (fun ls hl => ?_)
                                obtain ⟨x358, hx358⟩ : ∃ y : Int32, y = nI k + 1 := ⟨_, rfl⟩
                                refine lv_iinc (v := x358) (lv' := [(5, .int x358), (3, .int ((Fk σ i kn (100 * d + k + 1)).2)), (6, .int (nI (3 * d + j))), (0, .ref m), (1, .int (nI i)), (2, .int kn), (4, .int (nI d))]) X.hx X.hb dX2_goes_227 hl (k := 6) rfl (by rw [hx358]; rfl) (by decide) rfl (fun ls hl => ?_)
                                refine lv_goto (tgt := 73) X.hx X.hb dX2_goes_230 (by decide) ?_
                                rw [hx358, nI_1] at hl
                                exact ihq (k + 1) _ _ _ _ _ (by omega) (by omega) ⟨(gK.tr hk9 (gK.pt hG343 h12 rfl)), f354, f351, f352, f353⟩ hV3 hR341 hS342 (lv_sub hl [3, 4, 5, 1, 6, 0] rfl)
                      · have hap : Fk σ i kn (100 * d + k + 1) = (va_up (Fk σ i kn (100 * d + k)).1 j (bnd ((Fk σ i kn (100 * d + k)).1 j + σ.2 9 k)), (Fk σ i kn (100 * d + k)).2) := by rw [hyes, apk, if_neg (by rw [e6]; decide), if_pos e6, hjc]
                        refine lv_iconst (v := 3) X.hx X.hb dX2_goes_115 (by decide) ?_
                        refine lv_iload X.hx X.hb dX2_goes_116 (lv_at hl 4 rfl) ?_
                        refine lv_imul X.hx X.hb dX2_goes_118 ?_
                        refine lv_topi (fun x359 hx359 => ?_)
                        obtain rfl : x359 = nI (3 * d) := hx359.trans (nI_m3 (by omega))
                        refine lv_aload_n X.hx X.hb dX2_goes_119 rfl (lv_at hl 0 rfl) ?_
                        refine g_get X hR334 hm rfl in_X2 11 (by decide) q1306 (fun _ h => h) rfl dX2_goes_120 ?_
                        refine lv_iload X.hx X.hb dX2_goes_123 (lv_at hl 5 rfl) ?_
                        refine g_iald (v := σ.2 7 k) X hR334 hr7 (vp_in_nI (show k < 60 by omega) (by decide)) (by rw [nI_clamp (by omega)]) dX2_goes_125 ?_
                        refine lv_iadd X.hx X.hb dX2_goes_126 ?_
                        refine lv_topi (fun x360 hx360 => ?_)
                        obtain rfl : x360 = nI (3 * d + j) := hx360.trans (by rw [hje]; exact nI_add _ _)
                        refine lv_istore (lv' := [(6, .int (nI (3 * d + j))), (0, .ref m), (1, .int (nI i)), (2, .int kn), (3, .int ((Fk σ i kn (100 * d + k)).2)), (4, .int (nI d)), (5, .int (nI k))]) X.hx X.hb dX2_goes_127 hl (by decide) rfl (fun ls hl => ?_)
                        refine lv_aload_n X.hx X.hb dX2_goes_129 rfl (lv_at hl 1 rfl) ?_
                        refine g_get X hR334 hm rfl in_X2 16 (by decide) q1311 (fun _ h => h) rfl dX2_goes_130 ?_
                        refine lv_iload X.hx X.hb dX2_goes_133 (lv_at hl 0 rfl) ?_
                        refine lv_aload_n X.hx X.hb dX2_goes_135 rfl (lv_at hl 1 rfl) ?_
                        refine g_get X hR334 hm rfl in_X2 10 (by decide) q1305 (fun _ h => h) rfl dX2_goes_136 ?_
                        refine lv_iload X.hx X.hb dX2_goes_139 (lv_at hl 6 rfl) ?_
                        refine g_iald (v := σ.2 6 k) X hR334 hr6 (vp_in_nI (show k < 60 by omega) (by decide)) (by rw [nI_clamp (by omega)]) dX2_goes_141 ?_
                        refine lv_if_ne (tgt := 155) X.hx X.hb dX2_goes_142 (by decide) (fun c142 => ?_) (fun c142 => ?_)
                        · refine lv_aload_n X.hx X.hb dX2_goes_155 rfl (lv_at hl 1 rfl) ?_
                          refine g_get X hR334 hm rfl in_X2 10 (by decide) q1305 (fun _ h => h) rfl dX2_goes_156 ?_
                          refine lv_iload X.hx X.hb dX2_goes_159 (lv_at hl 6 rfl) ?_
                          refine g_iald (v := σ.2 6 k) X hR334 hr6 (vp_in_nI (show k < 60 by omega) (by decide)) (by rw [nI_clamp (by omega)]) dX2_goes_161 ?_
                          refine lv_iconst (v := 1) X.hx X.hb dX2_goes_162 (by decide) ?_
                          refine lv_icmp_ne (tgt := 187) X.hx X.hb dX2_goes_163 (by decide) (fun c163 => ?_) (fun c163 => ?_)
                          · exact absurd e6 c163
                          · refine lv_aload_n X.hx X.hb dX2_goes_166 rfl (lv_at hl 1 rfl) ?_
                            refine g_get X hR334 hm rfl in_X2 16 (by decide) q1311 (fun _ h => h) rfl dX2_goes_167 ?_
                            refine lv_iload X.hx X.hb dX2_goes_170 (lv_at hl 0 rfl) ?_
                            refine g_iald (v := fv (3 * d + j)) X hR334 h12 (vp_in_nI (show 3 * d + j < 1095 by omega) (by decide)) (by rw [nI_clamp (by omega)]) dX2_goes_172 ?_
                            refine lv_aload_n X.hx X.hb dX2_goes_173 rfl (lv_at hl 1 rfl) ?_
                            refine g_get X hR334 hm rfl in_X2 13 (by decide) q1308 (fun _ h => h) rfl dX2_goes_174 ?_
                            refine lv_iload X.hx X.hb dX2_goes_177 (lv_at hl 6 rfl) ?_
                            refine g_iald (v := σ.2 9 k) X hR334 hr9 (vp_in_nI (show k < 60 by omega) (by decide)) (by rw [nI_clamp (by omega)]) dX2_goes_179 ?_
                            refine lv_iadd X.hx X.hb dX2_goes_180 ?_
                            refine gcS X hl.1 hR334 hS335 1 [.int ((fv (3 * d + j)) + (σ.2 9 k))] [.int (nI (3 * d + j)), .ref (B 12)] (m_bounded l Γ G1) q1445 q1446 q40 q1447 rfl rfl ⟨by decide +kernel, by decide +kernel, by decide +kernel⟩ ⟨by (try dsimp only [RM]); omega, by (try dsimp only [RM]); omega⟩ rfl rfl (Nat.le_of_ble_eq_true rfl) dX2_goes_181 ⟨by (try dsimp only [RM]); omega, by (try dsimp only [RM]); omega⟩ (fun v364 G365 H locs hq361 hR362 hS363 => ?_)
                            obtain ⟨rfl, rfl⟩ := hq361
                            refine lv_goto (tgt := 194) X.hx X.hb dX2_goes_184 (by decide) ?_
                            refine g_iast X hR362 hS363 h12 (Nat.le_of_ble_eq_true rfl) (vp_in_nI (show 3 * d + j < 1095 by omega) (by decide)) dX2_goes_194 (fun H locs hR366 hS367 => ?_)
                            obtain ⟨G368, hG368⟩ : ∃ z : GH, z = gu G1 (B 12) ((32, 0), .inl (Γ.2 1, 1095, .inl (upd fv ((nI (3 * d + j)).toNatClampNeg) (bnd (fv (3 * d + j) + σ.2 9 k))))) := ⟨_, rfl⟩
                            have hR366 : Rep Γ G368 H := by rw [hG368]; exact hR366
                            have f369 : G368 m = some ((30, 0), .inr (1, [.int (nI (σ.1 0)), .ref (B 0), .ref (B 1), .int (σ.2 12 0), .int (nI (σ.1 1)), .ref (B 2), .ref (B 3), .ref (B 4), .int (nI (σ.1 2)), .ref (B 5), .ref (B 6), .ref (B 7), .ref (B 8), .ref (B 9), .ref (B 10), .ref (B 11), .ref (B 12), .ref (B 13), .ref (B 14), .ref (B 15), .int th])) := by rw [hG368]; exact gu_t hm h12 (tne rfl)
                            have f370 : G368 (B 0) = some ((31, 0), .inl (Γ.2 1, 4, .inl (σ.2 0))) := by rw [hG368]; exact gu_t hr0 h12 (tne rfl)
                            have f371 : G368 (B 5) = some ((31, 5), .inl (Γ.2 1, 60, .inl (σ.2 5))) := by rw [hG368]; exact gu_t hr5 h12 (tne rfl)
                            have f372 : G368 (B 6) = some ((31, 6), .inl (Γ.2 1, 60, .inl (σ.2 6))) := by rw [hG368]; exact gu_t hr6 h12 (tne rfl)
                            have f373 : G368 (B 7) = some ((31, 7), .inl (Γ.2 1, 60, .inl (σ.2 7))) := by rw [hG368]; exact gu_t hr7 h12 (tne rfl)
                            have f374 : G368 (B 8) = some ((31, 8), .inl (Γ.2 1, 60, .inl (σ.2 8))) := by rw [hG368]; exact gu_t hr8 h12 (tne rfl)
                            have f375 : G368 (B 9) = some ((31, 9), .inl (Γ.2 1, 60, .inl (σ.2 9))) := by rw [hG368]; exact gu_t hr9 h12 (tne rfl)
                            have f376 : G368 (B 13) = some ((32, 1), .inl (Γ.2 2, 365, .inl fc)) := by rw [hG368]; exact gu_t h13 h12 (tne2 (by decide))
                            have f377 : G368 (B 14) = some ((32, 2), .inl (Γ.2 1, 365, .inl fr)) := by rw [hG368]; exact gu_t h14 h12 (tne2 (by decide))
                            have f378 : G368 (B 15) = some ((32, 3), .inl (Γ.2 1, 366, .inl fs)) := by rw [hG368]; exact gu_t h15 h12 (tne2 (by decide))
                            have f379 : G368 (B 12) = some ((32, 0), .inl (Γ.2 1, 1095, .inl (upd fv ((nI (3 * d + j)).toNatClampNeg) (bnd (fv (3 * d + j) + σ.2 9 k))))) := by rw [hG368]; exact gu_s _ _ _
                            rw [updn (by omega)] at f379
                            rw [hV2.2 j hj3] at f379
                            have hV3 : VAL σ i kn d (va_up fv (3 * d + j) (bnd ((Fk σ i kn (100 * d + k)).1 j + σ.2 9 k))) (Fk σ i kn (100 * d + k + 1)).1 := by rw [hap]; exact VAL_upd hV2 hj3
                            refine lv_aload_n X.hx X.hb dX2_goes_195 rfl (lv_at hl 1 rfl) ?_
                            refine g_get X hR366 f369 rfl in_X2 10 (by decide) q1305 (fun _ h => h) rfl dX2_goes_196 ?_
                            refine lv_iload X.hx X.hb dX2_goes_199 (lv_at hl 6 rfl) ?_
                            refine g_iald (v := σ.2 6 k) X hR366 f372 (vp_in_nI (show k < 60 by omega) (by decide)) (by rw [nI_clamp (by omega)]) dX2_goes_201 ?_
                            refine lv_iconst (v := 3) X.hx X.hb dX2_goes_202 (by decide) ?_
                            refine lv_icmp_eq (tgt := 221) X.hx X.hb dX2_goes_203 (by decide) (fun c203 => ?_) (fun c203 => ?_)
                            · exact absurd (e6.symm.trans c203) (by decide)
                            · refine lv_aload_n X.hx X.hb dX2_goes_206 rfl (lv_at hl 1 rfl) ?_
                              refine g_get X hR366 f369 rfl in_X2 10 (by decide) q1305 (fun _ h => h) rfl dX2_goes_207 ?_
                              refine lv_iload X.hx X.hb dX2_goes_210 (lv_at hl 6 rfl) ?_
                              refine g_iald (v := σ.2 6 k) X hR366 f372 (vp_in_nI (show k < 60 by omega) (by decide)) (by rw [nI_clamp (by omega)]) dX2_goes_212 ?_
                              refine lv_iconst (v := 2) X.hx X.hb dX2_goes_213 (by decide) ?_
                              refine lv_icmp_eq (tgt := 225) X.hx X.hb dX2_goes_214 (by decide) (fun c214 => ?_) (fun c214 => ?_)
                              · exact absurd (e6.symm.trans c214) (by decide)
                              · refine lv_iload_n X.hx X.hb dX2_goes_217 rfl (lv_at hl 4 rfl) ?_
                                refine lv_if_eq (tgt := 225) X.hx X.hb dX2_goes_218 (by decide) (fun c218 => ?_) (fun c218 => ?_)
                                · refine lv_iconst (v := 0) X.hx X.hb dX2_goes_225 (by decide) ?_
                                  refine lv_topi (fun x380 hx380 => ?_)
                                  obtain rfl : x380 = (Fk σ i kn (100 * d + k + 1)).2 := hx380.trans (by rw [hap]; exact c218.symm)
                                  refine lv_istore_n (lv' := [(3, .int ((Fk σ i kn (100 * d + k + 1)).2)), (6, .int (nI (3 * d + j))), (0, .ref m), (1, .int (nI i)), (2, .int kn), (4, .int (nI d)), (5, .int (nI k))]) X.hx X.hb dX2_goes_226 rfl hl (by decide) rfl (fun ls hl => ?_)
                                  obtain ⟨x381, hx381⟩ : ∃ y : Int32, y = nI k + 1 := ⟨_, rfl⟩
                                  refine lv_iinc (v := x381) (lv' := [(5, .int x381), (3, .int ((Fk σ i kn (100 * d + k + 1)).2)), (6, .int (nI (3 * d + j))), (0, .ref m), (1, .int (nI i)), (2, .int kn), (4, .int (nI d))]) X.hx X.hb dX2_goes_227 hl (k := 6) rfl (by rw [hx381]; rfl) (by decide) rfl (fun ls hl => ?_)
                                  refine lv_goto (tgt := 73) X.hx X.hb dX2_goes_230 (by decide) ?_
                                  rw [hx381, nI_1] at hl
                                  exact ihq (k + 1) _ _ _ _ _ (by omega) (by omega) ⟨(gK.tr hk9 (gK.pt hG368 h12 rfl)), f379, f376, f377, f378⟩ hV3 hR366 hS367 (lv_sub hl [3, 4, 5, 1, 6, 0] rfl)
                                · refine lv_iconst (v := 1) X.hx X.hb dX2_goes_221 (by decide) ?_
                                  refine lv_goto (tgt := 226) X.hx X.hb dX2_goes_222 (by decide) ?_
                                  refine lv_topi (fun x382 hx382 => ?_)
                                  obtain rfl : x382 = (Fk σ i kn (100 * d + k + 1)).2 := hx382.trans (by rw [hap]; exact (hon.resolve_left c218).symm)
                                  refine lv_istore_n (lv' := [(3, .int ((Fk σ i kn (100 * d + k + 1)).2)), (6, .int (nI (3 * d + j))), (0, .ref m), (1, .int (nI i)), (2, .int kn), (4, .int (nI d)), (5, .int (nI k))]) X.hx X.hb dX2_goes_226 rfl hl (by decide) rfl (fun ls hl => ?_)
                                  obtain ⟨x383, hx383⟩ : ∃ y : Int32, y = nI k + 1 := ⟨_, rfl⟩
                                  refine lv_iinc (v := x383) (lv' := [(5, .int x383), (3, .int ((Fk σ i kn (100 * d + k + 1)).2)), (6, .int (nI (3 * d + j))), (0, .ref m), (1, .int (nI i)), (2, .int kn), (4, .int (nI d))]) X.hx X.hb dX2_goes_227 hl (k := 6) rfl (by rw [hx383]; rfl) (by decide) rfl (fun ls hl => ?_)
                                  refine lv_goto (tgt := 73) X.hx X.hb dX2_goes_230 (by decide) ?_
                                  rw [hx383, nI_1] at hl
                                  exact ihq (k + 1) _ _ _ _ _ (by omega) (by omega) ⟨(gK.tr hk9 (gK.pt hG368 h12 rfl)), f379, f376, f377, f378⟩ hV3 hR366 hS367 (lv_sub hl [3, 4, 5, 1, 6, 0] rfl)
                        · exact absurd (e6.symm.trans c142) (by decide)
                      · have hap : Fk σ i kn (100 * d + k + 1) = ((Fk σ i kn (100 * d + k)).1, 0) := by rw [hyes, apk, if_neg (by rw [e6]; decide), if_neg (by rw [e6]; decide), if_pos e6]
                        refine lv_iconst (v := 3) X.hx X.hb dX2_goes_115 (by decide) ?_
                        refine lv_iload X.hx X.hb dX2_goes_116 (lv_at hl 4 rfl) ?_
                        refine lv_imul X.hx X.hb dX2_goes_118 ?_
                        refine lv_topi (fun x384 hx384 => ?_)
                        obtain rfl : x384 = nI (3 * d) := hx384.trans (nI_m3 (by omega))
                        refine lv_aload_n X.hx X.hb dX2_goes_119 rfl (lv_at hl 0 rfl) ?_
                        refine g_get X hR334 hm rfl in_X2 11 (by decide) q1306 (fun _ h => h) rfl dX2_goes_120 ?_
                        refine lv_iload X.hx X.hb dX2_goes_123 (lv_at hl 5 rfl) ?_
                        refine g_iald (v := σ.2 7 k) X hR334 hr7 (vp_in_nI (show k < 60 by omega) (by decide)) (by rw [nI_clamp (by omega)]) dX2_goes_125 ?_
                        refine lv_iadd X.hx X.hb dX2_goes_126 ?_
                        refine lv_topi (fun x385 hx385 => ?_)
                        obtain rfl : x385 = nI (3 * d + j) := hx385.trans (by rw [hje]; exact nI_add _ _)
                        refine lv_istore (lv' := [(6, .int (nI (3 * d + j))), (0, .ref m), (1, .int (nI i)), (2, .int kn), (3, .int ((Fk σ i kn (100 * d + k)).2)), (4, .int (nI d)), (5, .int (nI k))]) X.hx X.hb dX2_goes_127 hl (by decide) rfl (fun ls hl => ?_)
                        refine lv_aload_n X.hx X.hb dX2_goes_129 rfl (lv_at hl 1 rfl) ?_
                        refine g_get X hR334 hm rfl in_X2 16 (by decide) q1311 (fun _ h => h) rfl dX2_goes_130 ?_
                        refine lv_iload X.hx X.hb dX2_goes_133 (lv_at hl 0 rfl) ?_
                        refine lv_aload_n X.hx X.hb dX2_goes_135 rfl (lv_at hl 1 rfl) ?_
                        refine g_get X hR334 hm rfl in_X2 10 (by decide) q1305 (fun _ h => h) rfl dX2_goes_136 ?_
                        refine lv_iload X.hx X.hb dX2_goes_139 (lv_at hl 6 rfl) ?_
                        refine g_iald (v := σ.2 6 k) X hR334 hr6 (vp_in_nI (show k < 60 by omega) (by decide)) (by rw [nI_clamp (by omega)]) dX2_goes_141 ?_
                        refine lv_if_ne (tgt := 155) X.hx X.hb dX2_goes_142 (by decide) (fun c142 => ?_) (fun c142 => ?_)
                        · refine lv_aload_n X.hx X.hb dX2_goes_155 rfl (lv_at hl 1 rfl) ?_
                          refine g_get X hR334 hm rfl in_X2 10 (by decide) q1305 (fun _ h => h) rfl dX2_goes_156 ?_
                          refine lv_iload X.hx X.hb dX2_goes_159 (lv_at hl 6 rfl) ?_
                          refine g_iald (v := σ.2 6 k) X hR334 hr6 (vp_in_nI (show k < 60 by omega) (by decide)) (by rw [nI_clamp (by omega)]) dX2_goes_161 ?_
                          refine lv_iconst (v := 1) X.hx X.hb dX2_goes_162 (by decide) ?_
                          refine lv_icmp_ne (tgt := 187) X.hx X.hb dX2_goes_163 (by decide) (fun c163 => ?_) (fun c163 => ?_)
                          · refine lv_aload_n X.hx X.hb dX2_goes_187 rfl (lv_at hl 1 rfl) ?_
                            refine g_get X hR334 hm rfl in_X2 16 (by decide) q1311 (fun _ h => h) rfl dX2_goes_188 ?_
                            refine lv_iload X.hx X.hb dX2_goes_191 (lv_at hl 0 rfl) ?_
                            refine g_iald (v := fv (3 * d + j)) X hR334 h12 (vp_in_nI (show 3 * d + j < 1095 by omega) (by decide)) (by rw [nI_clamp (by omega)]) dX2_goes_193 ?_
                            refine g_iast X hR334 hS335 h12 (Nat.le_of_ble_eq_true rfl) (vp_in_nI (show 3 * d + j < 1095 by omega) (by decide)) dX2_goes_194 (fun H locs hR386 hS387 => ?_)
                            obtain ⟨G388, hG388⟩ : ∃ z : GH, z = gu G1 (B 12) ((32, 0), .inl (Γ.2 1, 1095, .inl (upd fv ((nI (3 * d + j)).toNatClampNeg) (fv (3 * d + j))))) := ⟨_, rfl⟩
                            have hR386 : Rep Γ G388 H := by rw [hG388]; exact hR386
                            have f389 : G388 m = some ((30, 0), .inr (1, [.int (nI (σ.1 0)), .ref (B 0), .ref (B 1), .int (σ.2 12 0), .int (nI (σ.1 1)), .ref (B 2), .ref (B 3), .ref (B 4), .int (nI (σ.1 2)), .ref (B 5), .ref (B 6), .ref (B 7), .ref (B 8), .ref (B 9), .ref (B 10), .ref (B 11), .ref (B 12), .ref (B 13), .ref (B 14), .ref (B 15), .int th])) := by rw [hG388]; exact gu_t hm h12 (tne rfl)
                            have f390 : G388 (B 0) = some ((31, 0), .inl (Γ.2 1, 4, .inl (σ.2 0))) := by rw [hG388]; exact gu_t hr0 h12 (tne rfl)
                            have f391 : G388 (B 5) = some ((31, 5), .inl (Γ.2 1, 60, .inl (σ.2 5))) := by rw [hG388]; exact gu_t hr5 h12 (tne rfl)
                            have f392 : G388 (B 6) = some ((31, 6), .inl (Γ.2 1, 60, .inl (σ.2 6))) := by rw [hG388]; exact gu_t hr6 h12 (tne rfl)
                            have f393 : G388 (B 7) = some ((31, 7), .inl (Γ.2 1, 60, .inl (σ.2 7))) := by rw [hG388]; exact gu_t hr7 h12 (tne rfl)
                            have f394 : G388 (B 8) = some ((31, 8), .inl (Γ.2 1, 60, .inl (σ.2 8))) := by rw [hG388]; exact gu_t hr8 h12 (tne rfl)
                            have f395 : G388 (B 9) = some ((31, 9), .inl (Γ.2 1, 60, .inl (σ.2 9))) := by rw [hG388]; exact gu_t hr9 h12 (tne rfl)
                            have f396 : G388 (B 13) = some ((32, 1), .inl (Γ.2 2, 365, .inl fc)) := by rw [hG388]; exact gu_t h13 h12 (tne2 (by decide))
                            have f397 : G388 (B 14) = some ((32, 2), .inl (Γ.2 1, 365, .inl fr)) := by rw [hG388]; exact gu_t h14 h12 (tne2 (by decide))
                            have f398 : G388 (B 15) = some ((32, 3), .inl (Γ.2 1, 366, .inl fs)) := by rw [hG388]; exact gu_t h15 h12 (tne2 (by decide))
                            have f399 : G388 (B 12) = some ((32, 0), .inl (Γ.2 1, 1095, .inl (upd fv ((nI (3 * d + j)).toNatClampNeg) (fv (3 * d + j))))) := by rw [hG388]; exact gu_s _ _ _
                            rw [updn (by omega)] at f399
                            rw [va_up_id] at f399
                            have hV3 : VAL σ i kn d fv (Fk σ i kn (100 * d + k + 1)).1 := by rw [hap]; exact hV2
                            refine lv_aload_n X.hx X.hb dX2_goes_195 rfl (lv_at hl 1 rfl) ?_
                            refine g_get X hR386 f389 rfl in_X2 10 (by decide) q1305 (fun _ h => h) rfl dX2_goes_196 ?_
                            refine lv_iload X.hx X.hb dX2_goes_199 (lv_at hl 6 rfl) ?_
                            refine g_iald (v := σ.2 6 k) X hR386 f392 (vp_in_nI (show k < 60 by omega) (by decide)) (by rw [nI_clamp (by omega)]) dX2_goes_201 ?_
                            refine lv_iconst (v := 3) X.hx X.hb dX2_goes_202 (by decide) ?_
                            refine lv_icmp_eq (tgt := 221) X.hx X.hb dX2_goes_203 (by decide) (fun c203 => ?_) (fun c203 => ?_)
                            · exact absurd (e6.symm.trans c203) (by decide)
                            · refine lv_aload_n X.hx X.hb dX2_goes_206 rfl (lv_at hl 1 rfl) ?_
                              refine g_get X hR386 f389 rfl in_X2 10 (by decide) q1305 (fun _ h => h) rfl dX2_goes_207 ?_
                              refine lv_iload X.hx X.hb dX2_goes_210 (lv_at hl 6 rfl) ?_
                              refine g_iald (v := σ.2 6 k) X hR386 f392 (vp_in_nI (show k < 60 by omega) (by decide)) (by rw [nI_clamp (by omega)]) dX2_goes_212 ?_
                              refine lv_iconst (v := 2) X.hx X.hb dX2_goes_213 (by decide) ?_
                              refine lv_icmp_eq (tgt := 225) X.hx X.hb dX2_goes_214 (by decide) (fun c214 => ?_) (fun c214 => ?_)
                              · refine lv_iconst (v := 0) X.hx X.hb dX2_goes_225 (by decide) ?_
                                refine lv_topi (fun x400 hx400 => ?_)
                                obtain rfl : x400 = (Fk σ i kn (100 * d + k + 1)).2 := hx400.trans (by rw [hap])
                                refine lv_istore_n (lv' := [(3, .int ((Fk σ i kn (100 * d + k + 1)).2)), (6, .int (nI (3 * d + j))), (0, .ref m), (1, .int (nI i)), (2, .int kn), (4, .int (nI d)), (5, .int (nI k))]) X.hx X.hb dX2_goes_226 rfl hl (by decide) rfl (fun ls hl => ?_)
                                obtain ⟨x401, hx401⟩ : ∃ y : Int32, y = nI k + 1 := ⟨_, rfl⟩
                                refine lv_iinc (v := x401) (lv' := [(5, .int x401), (3, .int ((Fk σ i kn (100 * d + k + 1)).2)), (6, .int (nI (3 * d + j))), (0, .ref m), (1, .int (nI i)), (2, .int kn), (4, .int (nI d))]) X.hx X.hb dX2_goes_227 hl (k := 6) rfl (by rw [hx401]; rfl) (by decide) rfl (fun ls hl => ?_)
                                refine lv_goto (tgt := 73) X.hx X.hb dX2_goes_230 (by decide) ?_
                                rw [hx401, nI_1] at hl
                                exact ihq (k + 1) _ _ _ _ _ (by omega) (by omega) ⟨(gK.tr hk9 (gK.pt hG388 h12 rfl)), f399, f396, f397, f398⟩ hV3 hR386 hS387 (lv_sub hl [3, 4, 5, 1, 6, 0] rfl)
                              · exact absurd e6 c214
                          · exact absurd (e6.symm.trans c163) (by decide)
                        · exact absurd (e6.symm.trans c142) (by decide)
                      · have hap : Fk σ i kn (100 * d + k + 1) = ((Fk σ i kn (100 * d + k)).1, 1) := by rw [hyes, apk, if_neg (by rw [e6]; decide), if_neg (by rw [e6]; decide), if_neg (by rw [e6]; decide)]
                        refine lv_iconst (v := 3) X.hx X.hb dX2_goes_115 (by decide) ?_
                        refine lv_iload X.hx X.hb dX2_goes_116 (lv_at hl 4 rfl) ?_
                        refine lv_imul X.hx X.hb dX2_goes_118 ?_
                        refine lv_topi (fun x402 hx402 => ?_)
                        obtain rfl : x402 = nI (3 * d) := hx402.trans (nI_m3 (by omega))
                        refine lv_aload_n X.hx X.hb dX2_goes_119 rfl (lv_at hl 0 rfl) ?_
                        refine g_get X hR334 hm rfl in_X2 11 (by decide) q1306 (fun _ h => h) rfl dX2_goes_120 ?_
                        refine lv_iload X.hx X.hb dX2_goes_123 (lv_at hl 5 rfl) ?_
                        refine g_iald (v := σ.2 7 k) X hR334 hr7 (vp_in_nI (show k < 60 by omega) (by decide)) (by rw [nI_clamp (by omega)]) dX2_goes_125 ?_
                        refine lv_iadd X.hx X.hb dX2_goes_126 ?_
                        refine lv_topi (fun x403 hx403 => ?_)
                        obtain rfl : x403 = nI (3 * d + j) := hx403.trans (by rw [hje]; exact nI_add _ _)
                        refine lv_istore (lv' := [(6, .int (nI (3 * d + j))), (0, .ref m), (1, .int (nI i)), (2, .int kn), (3, .int ((Fk σ i kn (100 * d + k)).2)), (4, .int (nI d)), (5, .int (nI k))]) X.hx X.hb dX2_goes_127 hl (by decide) rfl (fun ls hl => ?_)
                        refine lv_aload_n X.hx X.hb dX2_goes_129 rfl (lv_at hl 1 rfl) ?_
                        refine g_get X hR334 hm rfl in_X2 16 (by decide) q1311 (fun _ h => h) rfl dX2_goes_130 ?_
                        refine lv_iload X.hx X.hb dX2_goes_133 (lv_at hl 0 rfl) ?_
                        refine lv_aload_n X.hx X.hb dX2_goes_135 rfl (lv_at hl 1 rfl) ?_
                        refine g_get X hR334 hm rfl in_X2 10 (by decide) q1305 (fun _ h => h) rfl dX2_goes_136 ?_
                        refine lv_iload X.hx X.hb dX2_goes_139 (lv_at hl 6 rfl) ?_
                        refine g_iald (v := σ.2 6 k) X hR334 hr6 (vp_in_nI (show k < 60 by omega) (by decide)) (by rw [nI_clamp (by omega)]) dX2_goes_141 ?_
                        refine lv_if_ne (tgt := 155) X.hx X.hb dX2_goes_142 (by decide) (fun c142 => ?_) (fun c142 => ?_)
                        · refine lv_aload_n X.hx X.hb dX2_goes_155 rfl (lv_at hl 1 rfl) ?_
                          refine g_get X hR334 hm rfl in_X2 10 (by decide) q1305 (fun _ h => h) rfl dX2_goes_156 ?_
                          refine lv_iload X.hx X.hb dX2_goes_159 (lv_at hl 6 rfl) ?_
                          refine g_iald (v := σ.2 6 k) X hR334 hr6 (vp_in_nI (show k < 60 by omega) (by decide)) (by rw [nI_clamp (by omega)]) dX2_goes_161 ?_
                          refine lv_iconst (v := 1) X.hx X.hb dX2_goes_162 (by decide) ?_
                          refine lv_icmp_ne (tgt := 187) X.hx X.hb dX2_goes_163 (by decide) (fun c163 => ?_) (fun c163 => ?_)
                          · refine lv_aload_n X.hx X.hb dX2_goes_187 rfl (lv_at hl 1 rfl) ?_
                            refine g_get X hR334 hm rfl in_X2 16 (by decide) q1311 (fun _ h => h) rfl dX2_goes_188 ?_
                            refine lv_iload X.hx X.hb dX2_goes_191 (lv_at hl 0 rfl) ?_
                            refine g_iald (v := fv (3 * d + j)) X hR334 h12 (vp_in_nI (show 3 * d + j < 1095 by omega) (by decide)) (by rw [nI_clamp (by omega)]) dX2_goes_193 ?_
                            refine g_iast X hR334 hS335 h12 (Nat.le_of_ble_eq_true rfl) (vp_in_nI (show 3 * d + j < 1095 by omega) (by decide)) dX2_goes_194 (fun H locs hR404 hS405 => ?_)
                            obtain ⟨G406, hG406⟩ : ∃ z : GH, z = gu G1 (B 12) ((32, 0), .inl (Γ.2 1, 1095, .inl (upd fv ((nI (3 * d + j)).toNatClampNeg) (fv (3 * d + j))))) := ⟨_, rfl⟩
                            have hR404 : Rep Γ G406 H := by rw [hG406]; exact hR404
                            have f407 : G406 m = some ((30, 0), .inr (1, [.int (nI (σ.1 0)), .ref (B 0), .ref (B 1), .int (σ.2 12 0), .int (nI (σ.1 1)), .ref (B 2), .ref (B 3), .ref (B 4), .int (nI (σ.1 2)), .ref (B 5), .ref (B 6), .ref (B 7), .ref (B 8), .ref (B 9), .ref (B 10), .ref (B 11), .ref (B 12), .ref (B 13), .ref (B 14), .ref (B 15), .int th])) := by rw [hG406]; exact gu_t hm h12 (tne rfl)
                            have f408 : G406 (B 0) = some ((31, 0), .inl (Γ.2 1, 4, .inl (σ.2 0))) := by rw [hG406]; exact gu_t hr0 h12 (tne rfl)
                            have f409 : G406 (B 5) = some ((31, 5), .inl (Γ.2 1, 60, .inl (σ.2 5))) := by rw [hG406]; exact gu_t hr5 h12 (tne rfl)
                            have f410 : G406 (B 6) = some ((31, 6), .inl (Γ.2 1, 60, .inl (σ.2 6))) := by rw [hG406]; exact gu_t hr6 h12 (tne rfl)
                            have f411 : G406 (B 7) = some ((31, 7), .inl (Γ.2 1, 60, .inl (σ.2 7))) := by rw [hG406]; exact gu_t hr7 h12 (tne rfl)
                            have f412 : G406 (B 8) = some ((31, 8), .inl (Γ.2 1, 60, .inl (σ.2 8))) := by rw [hG406]; exact gu_t hr8 h12 (tne rfl)
                            have f413 : G406 (B 9) = some ((31, 9), .inl (Γ.2 1, 60, .inl (σ.2 9))) := by rw [hG406]; exact gu_t hr9 h12 (tne rfl)
                            have f414 : G406 (B 13) = some ((32, 1), .inl (Γ.2 2, 365, .inl fc)) := by rw [hG406]; exact gu_t h13 h12 (tne2 (by decide))
                            have f415 : G406 (B 14) = some ((32, 2), .inl (Γ.2 1, 365, .inl fr)) := by rw [hG406]; exact gu_t h14 h12 (tne2 (by decide))
                            have f416 : G406 (B 15) = some ((32, 3), .inl (Γ.2 1, 366, .inl fs)) := by rw [hG406]; exact gu_t h15 h12 (tne2 (by decide))
                            have f417 : G406 (B 12) = some ((32, 0), .inl (Γ.2 1, 1095, .inl (upd fv ((nI (3 * d + j)).toNatClampNeg) (fv (3 * d + j))))) := by rw [hG406]; exact gu_s _ _ _
                            rw [updn (by omega)] at f417
                            rw [va_up_id] at f417
                            have hV3 : VAL σ i kn d fv (Fk σ i kn (100 * d + k + 1)).1 := by rw [hap]; exact hV2
                            refine lv_aload_n X.hx X.hb dX2_goes_195 rfl (lv_at hl 1 rfl) ?_
                            refine g_get X hR404 f407 rfl in_X2 10 (by decide) q1305 (fun _ h => h) rfl dX2_goes_196 ?_
                            refine lv_iload X.hx X.hb dX2_goes_199 (lv_at hl 6 rfl) ?_
                            refine g_iald (v := σ.2 6 k) X hR404 f410 (vp_in_nI (show k < 60 by omega) (by decide)) (by rw [nI_clamp (by omega)]) dX2_goes_201 ?_
                            refine lv_iconst (v := 3) X.hx X.hb dX2_goes_202 (by decide) ?_
                            refine lv_icmp_eq (tgt := 221) X.hx X.hb dX2_goes_203 (by decide) (fun c203 => ?_) (fun c203 => ?_)
                            · refine lv_iconst (v := 1) X.hx X.hb dX2_goes_221 (by decide) ?_
                              refine lv_goto (tgt := 226) X.hx X.hb dX2_goes_222 (by decide) ?_
                              refine lv_topi (fun x418 hx418 => ?_)
                              obtain rfl : x418 = (Fk σ i kn (100 * d + k + 1)).2 := hx418.trans (by rw [hap])
                              refine lv_istore_n (lv' := [(3, .int ((Fk σ i kn (100 * d + k + 1)).2)), (6, .int (nI (3 * d + j))), (0, .ref m), (1, .int (nI i)), (2, .int kn), (4, .int (nI d)), (5, .int (nI k))]) X.hx X.hb dX2_goes_226 rfl hl (by decide) rfl (fun ls hl => ?_)
                              obtain ⟨x419, hx419⟩ : ∃ y : Int32, y = nI k + 1 := ⟨_, rfl⟩
                              refine lv_iinc (v := x419) (lv' := [(5, .int x419), (3, .int ((Fk σ i kn (100 * d + k + 1)).2)), (6, .int (nI (3 * d + j))), (0, .ref m), (1, .int (nI i)), (2, .int kn), (4, .int (nI d))]) X.hx X.hb dX2_goes_227 hl (k := 6) rfl (by rw [hx419]; rfl) (by decide) rfl (fun ls hl => ?_)
                              refine lv_goto (tgt := 73) X.hx X.hb dX2_goes_230 (by decide) ?_
                              rw [hx419, nI_1] at hl
                              exact ihq (k + 1) _ _ _ _ _ (by omega) (by omega) ⟨(gK.tr hk9 (gK.pt hG406 h12 rfl)), f417, f414, f415, f416⟩ hV3 hR404 hS405 (lv_sub hl [3, 4, 5, 1, 6, 0] rfl)
                            · exact absurd e6 c203
                          · exact absurd (e6.symm.trans c163) (by decide)
                        · exact absurd (e6.symm.trans c142) (by decide)
            · have hne : k = σ.1 2 := by omega
              rw [hne] at hl hV2
              have hend := Fk_end hW (i := i) (d := d) (kn := kn) (100 - σ.1 2) (by omega)
              rw [show 100 * d + (σ.1 2 + (100 - σ.1 2)) = 100 * (d + 1) by omega] at hend
              rw [← hend] at hl hV2
              obtain ⟨hk9, h12, h13, h14, h15⟩ := id hW3
              have hm := hk9 _ _ hm0 (by show ¬ 30 = 32; decide)
              have hr0 : G1 (B 0) = some ((31, 0), .inl (Γ.2 1, 4, .inl (σ.2 0))) := hk9 _ _ (hM.2.1 0 (by decide)) (by show ¬ 31 = 32; decide)
              have hr5 : G1 (B 5) = some ((31, 5), .inl (Γ.2 1, 60, .inl (σ.2 5))) := hk9 _ _ (hM.2.1 5 (by decide)) (by show ¬ 31 = 32; decide)
              have hr6 : G1 (B 6) = some ((31, 6), .inl (Γ.2 1, 60, .inl (σ.2 6))) := hk9 _ _ (hM.2.1 6 (by decide)) (by show ¬ 31 = 32; decide)
              have hr7 : G1 (B 7) = some ((31, 7), .inl (Γ.2 1, 60, .inl (σ.2 7))) := hk9 _ _ (hM.2.1 7 (by decide)) (by show ¬ 31 = 32; decide)
              have hr8 : G1 (B 8) = some ((31, 8), .inl (Γ.2 1, 60, .inl (σ.2 8))) := hk9 _ _ (hM.2.1 8 (by decide)) (by show ¬ 31 = 32; decide)
              have hr9 : G1 (B 9) = some ((31, 9), .inl (Γ.2 1, 60, .inl (σ.2 9))) := hk9 _ _ (hM.2.1 9 (by decide)) (by show ¬ 31 = 32; decide)
              refine lv_iload X.hx X.hb dX2_goes_73 (lv_at hl 5 rfl) ?_
              refine lv_aload_n X.hx X.hb dX2_goes_75 rfl (lv_at hl 0 rfl) ?_
              refine g_get X hR hm rfl in_X2 8 (by decide) q1303 (fun _ h => h) rfl dX2_goes_76 ?_
              refine lv_icmp_ge (tgt := 233) X.hx X.hb dX2_goes_79 (by decide) (fun c79 => ?_) (fun c79 => ?_)
              · exact tail _ _ _ _ _ hW3 hV2 hR hS (lv_sub hl [0, 1, 2, 3, 4] rfl)
              · exact absurd (Int32.le_refl _) c79
        rcases d with _ | d1
        · obtain ⟨hk9, h12, h13, h14, h15⟩ := id hW3
          have hm := hk9 _ _ hm0 (by show ¬ 30 = 32; decide)
          have hr0 : G1 (B 0) = some ((31, 0), .inl (Γ.2 1, 4, .inl (σ.2 0))) := hk9 _ _ (hM.2.1 0 (by decide)) (by show ¬ 31 = 32; decide)
          have hr5 : G1 (B 5) = some ((31, 5), .inl (Γ.2 1, 60, .inl (σ.2 5))) := hk9 _ _ (hM.2.1 5 (by decide)) (by show ¬ 31 = 32; decide)
          have hr6 : G1 (B 6) = some ((31, 6), .inl (Γ.2 1, 60, .inl (σ.2 6))) := hk9 _ _ (hM.2.1 6 (by decide)) (by show ¬ 31 = 32; decide)
          have hr7 : G1 (B 7) = some ((31, 7), .inl (Γ.2 1, 60, .inl (σ.2 7))) := hk9 _ _ (hM.2.1 7 (by decide)) (by show ¬ 31 = 32; decide)
          have hr8 : G1 (B 8) = some ((31, 8), .inl (Γ.2 1, 60, .inl (σ.2 8))) := hk9 _ _ (hM.2.1 8 (by decide)) (by show ¬ 31 = 32; decide)
          have hr9 : G1 (B 9) = some ((31, 9), .inl (Γ.2 1, 60, .inl (σ.2 9))) := hk9 _ _ (hM.2.1 9 (by decide)) (by show ¬ 31 = 32; decide)
          refine lv_iload X.hx X.hb dX2_goes_12 (lv_at hl 4 rfl) ?_
          refine lv_sipush (v := 365) X.hx X.hb dX2_goes_14 (by decide) ?_
          refine lv_icmp_ge (tgt := 337) X.hx X.hb dX2_goes_17 (by decide) (fun c17 => ?_) (fun c17 => ?_)
          · exact absurd c17 (Int32.not_le.mpr (nI_lt hd (by decide)))
          · refine lv_iconst (v := 0) X.hx X.hb dX2_goes_20 (by decide) ?_
            refine lv_istore (lv' := [(5, .int 0), (0, .ref m), (1, .int (nI i)), (2, .int kn), (3, .int ((Fk σ i kn (100 * 0)).2)), (4, .int (nI 0))]) X.hx X.hb dX2_goes_21 hl (by decide) rfl (fun ls hl => ?_)
            refine lv_iload X.hx X.hb dX2_goes_23 (lv_at hl 0 rfl) ?_
            refine lv_iconst (v := 3) X.hx X.hb dX2_goes_25 (by decide) ?_
            refine lv_icmp_ge (tgt := 70) X.hx X.hb dX2_goes_26 (by decide) (fun c26 => ?_) (fun c26 => ?_)
            · exact absurd c26 (by decide)
            · refine lv_aload_n X.hx X.hb dX2_goes_29 rfl (lv_at hl 1 rfl) ?_
              refine g_get X hR hm rfl in_X2 16 (by decide) q1311 (fun _ h => h) rfl dX2_goes_30 ?_
              refine lv_iconst (v := 3) X.hx X.hb dX2_goes_33 (by decide) ?_
              refine lv_iload X.hx X.hb dX2_goes_34 (lv_at hl 5 rfl) ?_
              refine lv_imul X.hx X.hb dX2_goes_36 ?_
              refine lv_topi (fun x420 hx420 => ?_)
              obtain rfl : x420 = nI (3 * 0) := hx420.trans (nI_m3 (by omega))
              refine lv_iload X.hx X.hb dX2_goes_37 (lv_at hl 0 rfl) ?_
              refine lv_iadd X.hx X.hb dX2_goes_39 ?_
              refine lv_topi (fun x421 hx421 => ?_)
              obtain rfl : x421 = nI (3 * 0 + 0) := hx421.trans (nI_add (3 * 0) 0)
              refine lv_iload X.hx X.hb dX2_goes_40 (lv_at hl 5 rfl) ?_
              refine lv_if_ne (tgt := 49) X.hx X.hb dX2_goes_42 (by decide) (fun c42 => ?_) (fun c42 => ?_)
              · exact absurd rfl c42
              · refine lv_iconst (v := 0) X.hx X.hb dX2_goes_45 (by decide) ?_
                refine lv_goto (tgt := 63) X.hx X.hb dX2_goes_46 (by decide) ?_
                refine g_iast X hR hS h12 (Nat.le_of_ble_eq_true rfl) (vp_in_nI (show 3 * 0 + 0 < 1095 by omega) (by decide)) dX2_goes_63 (fun H locs hR422 hS423 => ?_)
                obtain ⟨G424, hG424⟩ : ∃ z : GH, z = gu G1 (B 12) ((32, 0), .inl (Γ.2 1, 1095, .inl (upd fv ((nI (3 * 0 + 0)).toNatClampNeg) 0))) := ⟨_, rfl⟩
                have hR422 : Rep Γ G424 H := by rw [hG424]; exact hR422
                have f425 : G424 m = some ((30, 0), .inr (1, [.int (nI (σ.1 0)), .ref (B 0), .ref (B 1), .int (σ.2 12 0), .int (nI (σ.1 1)), .ref (B 2), .ref (B 3), .ref (B 4), .int (nI (σ.1 2)), .ref (B 5), .ref (B 6), .ref (B 7), .ref (B 8), .ref (B 9), .ref (B 10), .ref (B 11), .ref (B 12), .ref (B 13), .ref (B 14), .ref (B 15), .int th])) := by rw [hG424]; exact gu_t hm h12 (tne rfl)
                have f426 : G424 (B 0) = some ((31, 0), .inl (Γ.2 1, 4, .inl (σ.2 0))) := by rw [hG424]; exact gu_t hr0 h12 (tne rfl)
                have f427 : G424 (B 5) = some ((31, 5), .inl (Γ.2 1, 60, .inl (σ.2 5))) := by rw [hG424]; exact gu_t hr5 h12 (tne rfl)
                have f428 : G424 (B 6) = some ((31, 6), .inl (Γ.2 1, 60, .inl (σ.2 6))) := by rw [hG424]; exact gu_t hr6 h12 (tne rfl)
                have f429 : G424 (B 7) = some ((31, 7), .inl (Γ.2 1, 60, .inl (σ.2 7))) := by rw [hG424]; exact gu_t hr7 h12 (tne rfl)
                have f430 : G424 (B 8) = some ((31, 8), .inl (Γ.2 1, 60, .inl (σ.2 8))) := by rw [hG424]; exact gu_t hr8 h12 (tne rfl)
                have f431 : G424 (B 9) = some ((31, 9), .inl (Γ.2 1, 60, .inl (σ.2 9))) := by rw [hG424]; exact gu_t hr9 h12 (tne rfl)
                have f432 : G424 (B 13) = some ((32, 1), .inl (Γ.2 2, 365, .inl fc)) := by rw [hG424]; exact gu_t h13 h12 (tne2 (by decide))
                have f433 : G424 (B 14) = some ((32, 2), .inl (Γ.2 1, 365, .inl fr)) := by rw [hG424]; exact gu_t h14 h12 (tne2 (by decide))
                have f434 : G424 (B 15) = some ((32, 3), .inl (Γ.2 1, 366, .inl fs)) := by rw [hG424]; exact gu_t h15 h12 (tne2 (by decide))
                have f435 : G424 (B 12) = some ((32, 0), .inl (Γ.2 1, 1095, .inl (upd fv ((nI (3 * 0 + 0)).toNatClampNeg) 0))) := by rw [hG424]; exact gu_s _ _ _
                rw [updn (by omega)] at f435
                obtain ⟨x436, hx436⟩ : ∃ y : Int32, y = 0 + 1 := ⟨_, rfl⟩
                refine lv_iinc (v := x436) (lv' := [(5, .int x436), (0, .ref m), (1, .int (nI i)), (2, .int kn), (3, .int ((Fk σ i kn (100 * 0)).2)), (4, .int (nI 0))]) X.hx X.hb dX2_goes_64 hl (k := 0) rfl (by rw [hx436]; rfl) (by decide) rfl (fun ls hl => ?_)
                obtain rfl : x436 = 1 := hx436.trans (by decide)
                refine lv_goto (tgt := 23) X.hx X.hb dX2_goes_67 (by decide) ?_
                refine lv_iload X.hx X.hb dX2_goes_23 (lv_at hl 0 rfl) ?_
                refine lv_iconst (v := 3) X.hx X.hb dX2_goes_25 (by decide) ?_
                refine lv_icmp_ge (tgt := 70) X.hx X.hb dX2_goes_26 (by decide) (fun c26 => ?_) (fun c26 => ?_)
                · exact absurd c26 (by decide)
                · refine lv_aload_n X.hx X.hb dX2_goes_29 rfl (lv_at hl 1 rfl) ?_
                  refine g_get X hR422 f425 rfl in_X2 16 (by decide) q1311 (fun _ h => h) rfl dX2_goes_30 ?_
                  refine lv_iconst (v := 3) X.hx X.hb dX2_goes_33 (by decide) ?_
                  refine lv_iload X.hx X.hb dX2_goes_34 (lv_at hl 5 rfl) ?_
                  refine lv_imul X.hx X.hb dX2_goes_36 ?_
                  refine lv_topi (fun x437 hx437 => ?_)
                  obtain rfl : x437 = nI (3 * 0) := hx437.trans (nI_m3 (by omega))
                  refine lv_iload X.hx X.hb dX2_goes_37 (lv_at hl 0 rfl) ?_
                  refine lv_iadd X.hx X.hb dX2_goes_39 ?_
                  refine lv_topi (fun x438 hx438 => ?_)
                  obtain rfl : x438 = nI (3 * 0 + 1) := hx438.trans (nI_add (3 * 0) 1)
                  refine lv_iload X.hx X.hb dX2_goes_40 (lv_at hl 5 rfl) ?_
                  refine lv_if_ne (tgt := 49) X.hx X.hb dX2_goes_42 (by decide) (fun c42 => ?_) (fun c42 => ?_)
                  · exact absurd rfl c42
                  · refine lv_iconst (v := 0) X.hx X.hb dX2_goes_45 (by decide) ?_
                    refine lv_goto (tgt := 63) X.hx X.hb dX2_goes_46 (by decide) ?_
                    refine g_iast X hR422 hS423 f435 (Nat.le_of_ble_eq_true rfl) (vp_in_nI (show 3 * 0 + 1 < 1095 by omega) (by decide)) dX2_goes_63 (fun H locs hR439 hS440 => ?_)
                    obtain ⟨G441, hG441⟩ : ∃ z : GH, z = gu G424 (B 12) ((32, 0), .inl (Γ.2 1, 1095, .inl (upd (va_up fv (3 * 0 + 0) 0) ((nI (3 * 0 + 1)).toNatClampNeg) 0))) := ⟨_, rfl⟩
                    have hR439 : Rep Γ G441 H := by rw [hG441]; exact hR439
                    have f442 : G441 m = some ((30, 0), .inr (1, [.int (nI (σ.1 0)), .ref (B 0), .ref (B 1), .int (σ.2 12 0), .int (nI (σ.1 1)), .ref (B 2), .ref (B 3), .ref (B 4), .int (nI (σ.1 2)), .ref (B 5), .ref (B 6), .ref (B 7), .ref (B 8), .ref (B 9), .ref (B 10), .ref (B 11), .ref (B 12), .ref (B 13), .ref (B 14), .ref (B 15), .int th])) := by rw [hG441]; exact gu_t f425 f435 (tne rfl)
                    have f443 : G441 (B 0) = some ((31, 0), .inl (Γ.2 1, 4, .inl (σ.2 0))) := by rw [hG441]; exact gu_t f426 f435 (tne rfl)
                    have f444 : G441 (B 5) = some ((31, 5), .inl (Γ.2 1, 60, .inl (σ.2 5))) := by rw [hG441]; exact gu_t f427 f435 (tne rfl)
                    have f445 : G441 (B 6) = some ((31, 6), .inl (Γ.2 1, 60, .inl (σ.2 6))) := by rw [hG441]; exact gu_t f428 f435 (tne rfl)
                    have f446 : G441 (B 7) = some ((31, 7), .inl (Γ.2 1, 60, .inl (σ.2 7))) := by rw [hG441]; exact gu_t f429 f435 (tne rfl)
                    have f447 : G441 (B 8) = some ((31, 8), .inl (Γ.2 1, 60, .inl (σ.2 8))) := by rw [hG441]; exact gu_t f430 f435 (tne rfl)
                    have f448 : G441 (B 9) = some ((31, 9), .inl (Γ.2 1, 60, .inl (σ.2 9))) := by rw [hG441]; exact gu_t f431 f435 (tne rfl)
                    have f449 : G441 (B 13) = some ((32, 1), .inl (Γ.2 2, 365, .inl fc)) := by rw [hG441]; exact gu_t f432 f435 (tne2 (by decide))
                    have f450 : G441 (B 14) = some ((32, 2), .inl (Γ.2 1, 365, .inl fr)) := by rw [hG441]; exact gu_t f433 f435 (tne2 (by decide))
                    have f451 : G441 (B 15) = some ((32, 3), .inl (Γ.2 1, 366, .inl fs)) := by rw [hG441]; exact gu_t f434 f435 (tne2 (by decide))
                    have f452 : G441 (B 12) = some ((32, 0), .inl (Γ.2 1, 1095, .inl (upd (va_up fv (3 * 0 + 0) 0) ((nI (3 * 0 + 1)).toNatClampNeg) 0))) := by rw [hG441]; exact gu_s _ _ _
                    rw [updn (by omega)] at f452
                    obtain ⟨x453, hx453⟩ : ∃ y : Int32, y = 1 + 1 := ⟨_, rfl⟩
                    refine lv_iinc (v := x453) (lv' := [(5, .int x453), (0, .ref m), (1, .int (nI i)), (2, .int kn), (3, .int ((Fk σ i kn (100 * 0)).2)), (4, .int (nI 0))]) X.hx X.hb dX2_goes_64 hl (k := 0) rfl (by rw [hx453]; rfl) (by decide) rfl (fun ls hl => ?_)
                    obtain rfl : x453 = 2 := hx453.trans (by decide)
                    refine lv_goto (tgt := 23) X.hx X.hb dX2_goes_67 (by decide) ?_
                    refine lv_iload X.hx X.hb dX2_goes_23 (lv_at hl 0 rfl) ?_
                    refine lv_iconst (v := 3) X.hx X.hb dX2_goes_25 (by decide) ?_
                    refine lv_icmp_ge (tgt := 70) X.hx X.hb dX2_goes_26 (by decide) (fun c26 => ?_) (fun c26 => ?_)
                    · exact absurd c26 (by decide)
                    · refine lv_aload_n X.hx X.hb dX2_goes_29 rfl (lv_at hl 1 rfl) ?_
                      refine g_get X hR439 f442 rfl in_X2 16 (by decide) q1311 (fun _ h => h) rfl dX2_goes_30 ?_
                      refine lv_iconst (v := 3) X.hx X.hb dX2_goes_33 (by decide) ?_
                      refine lv_iload X.hx X.hb dX2_goes_34 (lv_at hl 5 rfl) ?_
                      refine lv_imul X.hx X.hb dX2_goes_36 ?_
                      refine lv_topi (fun x454 hx454 => ?_)
                      obtain rfl : x454 = nI (3 * 0) := hx454.trans (nI_m3 (by omega))
                      refine lv_iload X.hx X.hb dX2_goes_37 (lv_at hl 0 rfl) ?_
                      refine lv_iadd X.hx X.hb dX2_goes_39 ?_
                      refine lv_topi (fun x455 hx455 => ?_)
                      obtain rfl : x455 = nI (3 * 0 + 2) := hx455.trans (nI_add (3 * 0) 2)
                      refine lv_iload X.hx X.hb dX2_goes_40 (lv_at hl 5 rfl) ?_
                      refine lv_if_ne (tgt := 49) X.hx X.hb dX2_goes_42 (by decide) (fun c42 => ?_) (fun c42 => ?_)
                      · exact absurd rfl c42
                      · refine lv_iconst (v := 0) X.hx X.hb dX2_goes_45 (by decide) ?_
                        refine lv_goto (tgt := 63) X.hx X.hb dX2_goes_46 (by decide) ?_
                        refine g_iast X hR439 hS440 f452 (Nat.le_of_ble_eq_true rfl) (vp_in_nI (show 3 * 0 + 2 < 1095 by omega) (by decide)) dX2_goes_63 (fun H locs hR456 hS457 => ?_)
                        obtain ⟨G458, hG458⟩ : ∃ z : GH, z = gu G441 (B 12) ((32, 0), .inl (Γ.2 1, 1095, .inl (upd (va_up (va_up fv (3 * 0 + 0) 0) (3 * 0 + 1) 0) ((nI (3 * 0 + 2)).toNatClampNeg) 0))) := ⟨_, rfl⟩
                        have hR456 : Rep Γ G458 H := by rw [hG458]; exact hR456
                        have f459 : G458 m = some ((30, 0), .inr (1, [.int (nI (σ.1 0)), .ref (B 0), .ref (B 1), .int (σ.2 12 0), .int (nI (σ.1 1)), .ref (B 2), .ref (B 3), .ref (B 4), .int (nI (σ.1 2)), .ref (B 5), .ref (B 6), .ref (B 7), .ref (B 8), .ref (B 9), .ref (B 10), .ref (B 11), .ref (B 12), .ref (B 13), .ref (B 14), .ref (B 15), .int th])) := by rw [hG458]; exact gu_t f442 f452 (tne rfl)
                        have f460 : G458 (B 0) = some ((31, 0), .inl (Γ.2 1, 4, .inl (σ.2 0))) := by rw [hG458]; exact gu_t f443 f452 (tne rfl)
                        have f461 : G458 (B 5) = some ((31, 5), .inl (Γ.2 1, 60, .inl (σ.2 5))) := by rw [hG458]; exact gu_t f444 f452 (tne rfl)
                        have f462 : G458 (B 6) = some ((31, 6), .inl (Γ.2 1, 60, .inl (σ.2 6))) := by rw [hG458]; exact gu_t f445 f452 (tne rfl)
                        have f463 : G458 (B 7) = some ((31, 7), .inl (Γ.2 1, 60, .inl (σ.2 7))) := by rw [hG458]; exact gu_t f446 f452 (tne rfl)
                        have f464 : G458 (B 8) = some ((31, 8), .inl (Γ.2 1, 60, .inl (σ.2 8))) := by rw [hG458]; exact gu_t f447 f452 (tne rfl)
                        have f465 : G458 (B 9) = some ((31, 9), .inl (Γ.2 1, 60, .inl (σ.2 9))) := by rw [hG458]; exact gu_t f448 f452 (tne rfl)
                        have f466 : G458 (B 13) = some ((32, 1), .inl (Γ.2 2, 365, .inl fc)) := by rw [hG458]; exact gu_t f449 f452 (tne2 (by decide))
                        have f467 : G458 (B 14) = some ((32, 2), .inl (Γ.2 1, 365, .inl fr)) := by rw [hG458]; exact gu_t f450 f452 (tne2 (by decide))
                        have f468 : G458 (B 15) = some ((32, 3), .inl (Γ.2 1, 366, .inl fs)) := by rw [hG458]; exact gu_t f451 f452 (tne2 (by decide))
                        have f469 : G458 (B 12) = some ((32, 0), .inl (Γ.2 1, 1095, .inl (upd (va_up (va_up fv (3 * 0 + 0) 0) (3 * 0 + 1) 0) ((nI (3 * 0 + 2)).toNatClampNeg) 0))) := by rw [hG458]; exact gu_s _ _ _
                        rw [updn (by omega)] at f469
                        obtain ⟨x470, hx470⟩ : ∃ y : Int32, y = 2 + 1 := ⟨_, rfl⟩
                        refine lv_iinc (v := x470) (lv' := [(5, .int x470), (0, .ref m), (1, .int (nI i)), (2, .int kn), (3, .int ((Fk σ i kn (100 * 0)).2)), (4, .int (nI 0))]) X.hx X.hb dX2_goes_64 hl (k := 0) rfl (by rw [hx470]; rfl) (by decide) rfl (fun ls hl => ?_)
                        obtain rfl : x470 = 3 := hx470.trans (by decide)
                        refine lv_goto (tgt := 23) X.hx X.hb dX2_goes_67 (by decide) ?_
                        refine lv_iload X.hx X.hb dX2_goes_23 (lv_at hl 0 rfl) ?_
                        refine lv_iconst (v := 3) X.hx X.hb dX2_goes_25 (by decide) ?_
                        refine lv_icmp_ge (tgt := 70) X.hx X.hb dX2_goes_26 (by decide) (fun c26 => ?_) (fun c26 => ?_)
                        · refine lv_iconst (v := 0) X.hx X.hb dX2_goes_70 (by decide) ?_
                          refine lv_istore (lv' := [(5, .int 0), (0, .ref m), (1, .int (nI i)), (2, .int kn), (3, .int ((Fk σ i kn (100 * 0)).2)), (4, .int (nI 0))]) X.hx X.hb dX2_goes_71 hl (by decide) rfl (fun ls hl => ?_)
                          have hVf : VAL σ i kn 0 (va_up (va_up (va_up fv (3 * 0 + 0) 0) (3 * 0 + 1) 0) (3 * 0 + 2) 0) (Fk σ i kn (100 * 0)).1 := by
                            refine ⟨fun e he j hj => ?_, fun j hj => ?_⟩
                            · rw [va_up_ne _ _ (by omega), va_up_ne _ _ (by omega), va_up_ne _ _ (by omega)]; exact hV e he j hj
                            · rcases (show j = 0 ∨ j = 1 ∨ j = 2 by omega) with e | e | e
                              · subst e; rw [va_up_ne _ _ (by omega), va_up_ne _ _ (by omega)]; exact va_up_self _ _ _
                              · subst e; rw [va_up_ne _ _ (by omega)]; exact va_up_self _ _ _
                              · subst e; exact va_up_self _ _ _
                          exact loop2 (σ.1 2 + 1) 0 _ _ _ _ _ (by omega) (by omega) ⟨(gK.tr (gK.tr (gK.tr hk9 (gK.pt hG424 h12 rfl)) (gK.pt hG441 f435 rfl)) (gK.pt hG458 f452 rfl)), f469, f466, f467, f468⟩ hVf hR456 hS457 (lv_sub hl [1, 2, 3, 4, 5, 0] rfl)
                        · exact absurd (by decide) c26
        · obtain ⟨hk9, h12, h13, h14, h15⟩ := id hW3
          have hm := hk9 _ _ hm0 (by show ¬ 30 = 32; decide)
          have hr0 : G1 (B 0) = some ((31, 0), .inl (Γ.2 1, 4, .inl (σ.2 0))) := hk9 _ _ (hM.2.1 0 (by decide)) (by show ¬ 31 = 32; decide)
          have hr5 : G1 (B 5) = some ((31, 5), .inl (Γ.2 1, 60, .inl (σ.2 5))) := hk9 _ _ (hM.2.1 5 (by decide)) (by show ¬ 31 = 32; decide)
          have hr6 : G1 (B 6) = some ((31, 6), .inl (Γ.2 1, 60, .inl (σ.2 6))) := hk9 _ _ (hM.2.1 6 (by decide)) (by show ¬ 31 = 32; decide)
          have hr7 : G1 (B 7) = some ((31, 7), .inl (Γ.2 1, 60, .inl (σ.2 7))) := hk9 _ _ (hM.2.1 7 (by decide)) (by show ¬ 31 = 32; decide)
          have hr8 : G1 (B 8) = some ((31, 8), .inl (Γ.2 1, 60, .inl (σ.2 8))) := hk9 _ _ (hM.2.1 8 (by decide)) (by show ¬ 31 = 32; decide)
          have hr9 : G1 (B 9) = some ((31, 9), .inl (Γ.2 1, 60, .inl (σ.2 9))) := hk9 _ _ (hM.2.1 9 (by decide)) (by show ¬ 31 = 32; decide)
          refine lv_iload X.hx X.hb dX2_goes_12 (lv_at hl 4 rfl) ?_
          refine lv_sipush (v := 365) X.hx X.hb dX2_goes_14 (by decide) ?_
          refine lv_icmp_ge (tgt := 337) X.hx X.hb dX2_goes_17 (by decide) (fun c17 => ?_) (fun c17 => ?_)
          · exact absurd c17 (Int32.not_le.mpr (nI_lt hd (by decide)))
          · refine lv_iconst (v := 0) X.hx X.hb dX2_goes_20 (by decide) ?_
            refine lv_istore (lv' := [(5, .int 0), (0, .ref m), (1, .int (nI i)), (2, .int kn), (3, .int ((Fk σ i kn (100 * (d1 + 1))).2)), (4, .int (nI (d1 + 1)))]) X.hx X.hb dX2_goes_21 hl (by decide) rfl (fun ls hl => ?_)
            refine lv_iload X.hx X.hb dX2_goes_23 (lv_at hl 0 rfl) ?_
            refine lv_iconst (v := 3) X.hx X.hb dX2_goes_25 (by decide) ?_
            refine lv_icmp_ge (tgt := 70) X.hx X.hb dX2_goes_26 (by decide) (fun c26 => ?_) (fun c26 => ?_)
            · exact absurd c26 (by decide)
            · refine lv_aload_n X.hx X.hb dX2_goes_29 rfl (lv_at hl 1 rfl) ?_
              refine g_get X hR hm rfl in_X2 16 (by decide) q1311 (fun _ h => h) rfl dX2_goes_30 ?_
              refine lv_iconst (v := 3) X.hx X.hb dX2_goes_33 (by decide) ?_
              refine lv_iload X.hx X.hb dX2_goes_34 (lv_at hl 5 rfl) ?_
              refine lv_imul X.hx X.hb dX2_goes_36 ?_
              refine lv_topi (fun x471 hx471 => ?_)
              obtain rfl : x471 = nI (3 * (d1 + 1)) := hx471.trans (nI_m3 (by omega))
              refine lv_iload X.hx X.hb dX2_goes_37 (lv_at hl 0 rfl) ?_
              refine lv_iadd X.hx X.hb dX2_goes_39 ?_
              refine lv_topi (fun x472 hx472 => ?_)
              obtain rfl : x472 = nI (3 * (d1 + 1) + 0) := hx472.trans (nI_add (3 * (d1 + 1)) 0)
              refine lv_iload X.hx X.hb dX2_goes_40 (lv_at hl 5 rfl) ?_
              refine lv_if_ne (tgt := 49) X.hx X.hb dX2_goes_42 (by decide) (fun c42 => ?_) (fun c42 => ?_)
              · refine lv_aload_n X.hx X.hb dX2_goes_49 rfl (lv_at hl 1 rfl) ?_
                refine g_get X hR hm rfl in_X2 16 (by decide) q1311 (fun _ h => h) rfl dX2_goes_50 ?_
                refine lv_iconst (v := 3) X.hx X.hb dX2_goes_53 (by decide) ?_
                refine lv_iload X.hx X.hb dX2_goes_54 (lv_at hl 5 rfl) ?_
                refine lv_imul X.hx X.hb dX2_goes_56 ?_
                refine lv_topi (fun x473 hx473 => ?_)
                obtain rfl : x473 = nI (3 * (d1 + 1)) := hx473.trans (nI_m3 (by omega))
                refine lv_iconst (v := 3) X.hx X.hb dX2_goes_57 (by decide) ?_
                refine lv_isub X.hx X.hb dX2_goes_58 ?_
                refine lv_topi (fun x474 hx474 => ?_)
                obtain rfl : x474 = nI (3 * d1) := hx474.trans (nI_s3 (by omega))
                refine lv_iload X.hx X.hb dX2_goes_59 (lv_at hl 0 rfl) ?_
                refine lv_iadd X.hx X.hb dX2_goes_61 ?_
                refine lv_topi (fun x475 hx475 => ?_)
                obtain rfl : x475 = nI (3 * d1 + 0) := hx475.trans (nI_add (3 * d1) 0)
                refine g_iald (v := (Fk σ i kn (100 * (d1 + 1))).1 0) X hR h12 (vp_in_nI (show 3 * d1 + 0 < 1095 by omega) (by decide)) (by rw [nI_clamp (by omega)]; exact hV d1 (by omega) 0 (by decide)) dX2_goes_62 ?_
                refine g_iast X hR hS h12 (Nat.le_of_ble_eq_true rfl) (vp_in_nI (show 3 * (d1 + 1) + 0 < 1095 by omega) (by decide)) dX2_goes_63 (fun H locs hR476 hS477 => ?_)
                obtain ⟨G478, hG478⟩ : ∃ z : GH, z = gu G1 (B 12) ((32, 0), .inl (Γ.2 1, 1095, .inl (upd fv ((nI (3 * (d1 + 1) + 0)).toNatClampNeg) ((Fk σ i kn (100 * (d1 + 1))).1 0)))) := ⟨_, rfl⟩
                have hR476 : Rep Γ G478 H := by rw [hG478]; exact hR476
                have f479 : G478 m = some ((30, 0), .inr (1, [.int (nI (σ.1 0)), .ref (B 0), .ref (B 1), .int (σ.2 12 0), .int (nI (σ.1 1)), .ref (B 2), .ref (B 3), .ref (B 4), .int (nI (σ.1 2)), .ref (B 5), .ref (B 6), .ref (B 7), .ref (B 8), .ref (B 9), .ref (B 10), .ref (B 11), .ref (B 12), .ref (B 13), .ref (B 14), .ref (B 15), .int th])) := by rw [hG478]; exact gu_t hm h12 (tne rfl)
                have f480 : G478 (B 0) = some ((31, 0), .inl (Γ.2 1, 4, .inl (σ.2 0))) := by rw [hG478]; exact gu_t hr0 h12 (tne rfl)
                have f481 : G478 (B 5) = some ((31, 5), .inl (Γ.2 1, 60, .inl (σ.2 5))) := by rw [hG478]; exact gu_t hr5 h12 (tne rfl)
                have f482 : G478 (B 6) = some ((31, 6), .inl (Γ.2 1, 60, .inl (σ.2 6))) := by rw [hG478]; exact gu_t hr6 h12 (tne rfl)
                have f483 : G478 (B 7) = some ((31, 7), .inl (Γ.2 1, 60, .inl (σ.2 7))) := by rw [hG478]; exact gu_t hr7 h12 (tne rfl)
                have f484 : G478 (B 8) = some ((31, 8), .inl (Γ.2 1, 60, .inl (σ.2 8))) := by rw [hG478]; exact gu_t hr8 h12 (tne rfl)
                have f485 : G478 (B 9) = some ((31, 9), .inl (Γ.2 1, 60, .inl (σ.2 9))) := by rw [hG478]; exact gu_t hr9 h12 (tne rfl)
                have f486 : G478 (B 13) = some ((32, 1), .inl (Γ.2 2, 365, .inl fc)) := by rw [hG478]; exact gu_t h13 h12 (tne2 (by decide))
                have f487 : G478 (B 14) = some ((32, 2), .inl (Γ.2 1, 365, .inl fr)) := by rw [hG478]; exact gu_t h14 h12 (tne2 (by decide))
                have f488 : G478 (B 15) = some ((32, 3), .inl (Γ.2 1, 366, .inl fs)) := by rw [hG478]; exact gu_t h15 h12 (tne2 (by decide))
                have f489 : G478 (B 12) = some ((32, 0), .inl (Γ.2 1, 1095, .inl (upd fv ((nI (3 * (d1 + 1) + 0)).toNatClampNeg) ((Fk σ i kn (100 * (d1 + 1))).1 0)))) := by rw [hG478]; exact gu_s _ _ _
                rw [updn (by omega)] at f489
                obtain ⟨x490, hx490⟩ : ∃ y : Int32, y = 0 + 1 := ⟨_, rfl⟩
                refine lv_iinc (v := x490) (lv' := [(5, .int x490), (0, .ref m), (1, .int (nI i)), (2, .int kn), (3, .int ((Fk σ i kn (100 * (d1 + 1))).2)), (4, .int (nI (d1 + 1)))]) X.hx X.hb dX2_goes_64 hl (k := 0) rfl (by rw [hx490]; rfl) (by decide) rfl (fun ls hl => ?_)
                obtain rfl : x490 = 1 := hx490.trans (by decide)
                refine lv_goto (tgt := 23) X.hx X.hb dX2_goes_67 (by decide) ?_
                refine lv_iload X.hx X.hb dX2_goes_23 (lv_at hl 0 rfl) ?_
                refine lv_iconst (v := 3) X.hx X.hb dX2_goes_25 (by decide) ?_
                refine lv_icmp_ge (tgt := 70) X.hx X.hb dX2_goes_26 (by decide) (fun c26 => ?_) (fun c26 => ?_)
                · exact absurd c26 (by decide)
                · refine lv_aload_n X.hx X.hb dX2_goes_29 rfl (lv_at hl 1 rfl) ?_
                  refine g_get X hR476 f479 rfl in_X2 16 (by decide) q1311 (fun _ h => h) rfl dX2_goes_30 ?_
                  refine lv_iconst (v := 3) X.hx X.hb dX2_goes_33 (by decide) ?_
                  refine lv_iload X.hx X.hb dX2_goes_34 (lv_at hl 5 rfl) ?_
                  refine lv_imul X.hx X.hb dX2_goes_36 ?_
                  refine lv_topi (fun x491 hx491 => ?_)
                  obtain rfl : x491 = nI (3 * (d1 + 1)) := hx491.trans (nI_m3 (by omega))
                  refine lv_iload X.hx X.hb dX2_goes_37 (lv_at hl 0 rfl) ?_
                  refine lv_iadd X.hx X.hb dX2_goes_39 ?_
                  refine lv_topi (fun x492 hx492 => ?_)
                  obtain rfl : x492 = nI (3 * (d1 + 1) + 1) := hx492.trans (nI_add (3 * (d1 + 1)) 1)
                  refine lv_iload X.hx X.hb dX2_goes_40 (lv_at hl 5 rfl) ?_
                  refine lv_if_ne (tgt := 49) X.hx X.hb dX2_goes_42 (by decide) (fun c42 => ?_) (fun c42 => ?_)
                  · refine lv_aload_n X.hx X.hb dX2_goes_49 rfl (lv_at hl 1 rfl) ?_
                    refine g_get X hR476 f479 rfl in_X2 16 (by decide) q1311 (fun _ h => h) rfl dX2_goes_50 ?_
                    refine lv_iconst (v := 3) X.hx X.hb dX2_goes_53 (by decide) ?_
                    refine lv_iload X.hx X.hb dX2_goes_54 (lv_at hl 5 rfl) ?_
                    refine lv_imul X.hx X.hb dX2_goes_56 ?_
                    refine lv_topi (fun x493 hx493 => ?_)
                    obtain rfl : x493 = nI (3 * (d1 + 1)) := hx493.trans (nI_m3 (by omega))
                    refine lv_iconst (v := 3) X.hx X.hb dX2_goes_57 (by decide) ?_
                    refine lv_isub X.hx X.hb dX2_goes_58 ?_
                    refine lv_topi (fun x494 hx494 => ?_)
                    obtain rfl : x494 = nI (3 * d1) := hx494.trans (nI_s3 (by omega))
                    refine lv_iload X.hx X.hb dX2_goes_59 (lv_at hl 0 rfl) ?_
                    refine lv_iadd X.hx X.hb dX2_goes_61 ?_
                    refine lv_topi (fun x495 hx495 => ?_)
                    obtain rfl : x495 = nI (3 * d1 + 1) := hx495.trans (nI_add (3 * d1) 1)
                    refine g_iald (v := (Fk σ i kn (100 * (d1 + 1))).1 1) X hR476 f489 (vp_in_nI (show 3 * d1 + 1 < 1095 by omega) (by decide)) (by rw [nI_clamp (by omega)]; rw [va_up_ne _ _ (by omega)]; exact hV d1 (by omega) 1 (by decide)) dX2_goes_62 ?_
                    refine g_iast X hR476 hS477 f489 (Nat.le_of_ble_eq_true rfl) (vp_in_nI (show 3 * (d1 + 1) + 1 < 1095 by omega) (by decide)) dX2_goes_63 (fun H locs hR496 hS497 => ?_)
                    obtain ⟨G498, hG498⟩ : ∃ z : GH, z = gu G478 (B 12) ((32, 0), .inl (Γ.2 1, 1095, .inl (upd (va_up fv (3 * (d1 + 1) + 0) ((Fk σ i kn (100 * (d1 + 1))).1 0)) ((nI (3 * (d1 + 1) + 1)).toNatClampNeg) ((Fk σ i kn (100 * (d1 + 1))).1 1)))) := ⟨_, rfl⟩
                    have hR496 : Rep Γ G498 H := by rw [hG498]; exact hR496
                    have f499 : G498 m = some ((30, 0), .inr (1, [.int (nI (σ.1 0)), .ref (B 0), .ref (B 1), .int (σ.2 12 0), .int (nI (σ.1 1)), .ref (B 2), .ref (B 3), .ref (B 4), .int (nI (σ.1 2)), .ref (B 5), .ref (B 6), .ref (B 7), .ref (B 8), .ref (B 9), .ref (B 10), .ref (B 11), .ref (B 12), .ref (B 13), .ref (B 14), .ref (B 15), .int th])) := by rw [hG498]; exact gu_t f479 f489 (tne rfl)
                    have f500 : G498 (B 0) = some ((31, 0), .inl (Γ.2 1, 4, .inl (σ.2 0))) := by rw [hG498]; exact gu_t f480 f489 (tne rfl)
                    have f501 : G498 (B 5) = some ((31, 5), .inl (Γ.2 1, 60, .inl (σ.2 5))) := by rw [hG498]; exact gu_t f481 f489 (tne rfl)
                    have f502 : G498 (B 6) = some ((31, 6), .inl (Γ.2 1, 60, .inl (σ.2 6))) := by rw [hG498]; exact gu_t f482 f489 (tne rfl)
                    have f503 : G498 (B 7) = some ((31, 7), .inl (Γ.2 1, 60, .inl (σ.2 7))) := by rw [hG498]; exact gu_t f483 f489 (tne rfl)
                    have f504 : G498 (B 8) = some ((31, 8), .inl (Γ.2 1, 60, .inl (σ.2 8))) := by rw [hG498]; exact gu_t f484 f489 (tne rfl)
                    have f505 : G498 (B 9) = some ((31, 9), .inl (Γ.2 1, 60, .inl (σ.2 9))) := by rw [hG498]; exact gu_t f485 f489 (tne rfl)
                    have f506 : G498 (B 13) = some ((32, 1), .inl (Γ.2 2, 365, .inl fc)) := by rw [hG498]; exact gu_t f486 f489 (tne2 (by decide))
                    have f507 : G498 (B 14) = some ((32, 2), .inl (Γ.2 1, 365, .inl fr)) := by rw [hG498]; exact gu_t f487 f489 (tne2 (by decide))
                    have f508 : G498 (B 15) = some ((32, 3), .inl (Γ.2 1, 366, .inl fs)) := by rw [hG498]; exact gu_t f488 f489 (tne2 (by decide))
                    have f509 : G498 (B 12) = some ((32, 0), .inl (Γ.2 1, 1095, .inl (upd (va_up fv (3 * (d1 + 1) + 0) ((Fk σ i kn (100 * (d1 + 1))).1 0)) ((nI (3 * (d1 + 1) + 1)).toNatClampNeg) ((Fk σ i kn (100 * (d1 + 1))).1 1)))) := by rw [hG498]; exact gu_s _ _ _
                    rw [updn (by omega)] at f509
                    obtain ⟨x510, hx510⟩ : ∃ y : Int32, y = 1 + 1 := ⟨_, rfl⟩
                    refine lv_iinc (v := x510) (lv' := [(5, .int x510), (0, .ref m), (1, .int (nI i)), (2, .int kn), (3, .int ((Fk σ i kn (100 * (d1 + 1))).2)), (4, .int (nI (d1 + 1)))]) X.hx X.hb dX2_goes_64 hl (k := 0) rfl (by rw [hx510]; rfl) (by decide) rfl (fun ls hl => ?_)
                    obtain rfl : x510 = 2 := hx510.trans (by decide)
                    refine lv_goto (tgt := 23) X.hx X.hb dX2_goes_67 (by decide) ?_
                    refine lv_iload X.hx X.hb dX2_goes_23 (lv_at hl 0 rfl) ?_
                    refine lv_iconst (v := 3) X.hx X.hb dX2_goes_25 (by decide) ?_
                    refine lv_icmp_ge (tgt := 70) X.hx X.hb dX2_goes_26 (by decide) (fun c26 => ?_) (fun c26 => ?_)
                    · exact absurd c26 (by decide)
                    · refine lv_aload_n X.hx X.hb dX2_goes_29 rfl (lv_at hl 1 rfl) ?_
                      refine g_get X hR496 f499 rfl in_X2 16 (by decide) q1311 (fun _ h => h) rfl dX2_goes_30 ?_
                      refine lv_iconst (v := 3) X.hx X.hb dX2_goes_33 (by decide) ?_
                      refine lv_iload X.hx X.hb dX2_goes_34 (lv_at hl 5 rfl) ?_
                      refine lv_imul X.hx X.hb dX2_goes_36 ?_
                      refine lv_topi (fun x511 hx511 => ?_)
                      obtain rfl : x511 = nI (3 * (d1 + 1)) := hx511.trans (nI_m3 (by omega))
                      refine lv_iload X.hx X.hb dX2_goes_37 (lv_at hl 0 rfl) ?_
                      refine lv_iadd X.hx X.hb dX2_goes_39 ?_
                      refine lv_topi (fun x512 hx512 => ?_)
                      obtain rfl : x512 = nI (3 * (d1 + 1) + 2) := hx512.trans (nI_add (3 * (d1 + 1)) 2)
                      refine lv_iload X.hx X.hb dX2_goes_40 (lv_at hl 5 rfl) ?_
                      refine lv_if_ne (tgt := 49) X.hx X.hb dX2_goes_42 (by decide) (fun c42 => ?_) (fun c42 => ?_)
                      · refine lv_aload_n X.hx X.hb dX2_goes_49 rfl (lv_at hl 1 rfl) ?_
                        refine g_get X hR496 f499 rfl in_X2 16 (by decide) q1311 (fun _ h => h) rfl dX2_goes_50 ?_
                        refine lv_iconst (v := 3) X.hx X.hb dX2_goes_53 (by decide) ?_
                        refine lv_iload X.hx X.hb dX2_goes_54 (lv_at hl 5 rfl) ?_
                        refine lv_imul X.hx X.hb dX2_goes_56 ?_
                        refine lv_topi (fun x513 hx513 => ?_)
                        obtain rfl : x513 = nI (3 * (d1 + 1)) := hx513.trans (nI_m3 (by omega))
                        refine lv_iconst (v := 3) X.hx X.hb dX2_goes_57 (by decide) ?_
                        refine lv_isub X.hx X.hb dX2_goes_58 ?_
                        refine lv_topi (fun x514 hx514 => ?_)
                        obtain rfl : x514 = nI (3 * d1) := hx514.trans (nI_s3 (by omega))
                        refine lv_iload X.hx X.hb dX2_goes_59 (lv_at hl 0 rfl) ?_
                        refine lv_iadd X.hx X.hb dX2_goes_61 ?_
                        refine lv_topi (fun x515 hx515 => ?_)
                        obtain rfl : x515 = nI (3 * d1 + 2) := hx515.trans (nI_add (3 * d1) 2)
                        refine g_iald (v := (Fk σ i kn (100 * (d1 + 1))).1 2) X hR496 f509 (vp_in_nI (show 3 * d1 + 2 < 1095 by omega) (by decide)) (by rw [nI_clamp (by omega)]; rw [va_up_ne _ _ (by omega), va_up_ne _ _ (by omega)]; exact hV d1 (by omega) 2 (by decide)) dX2_goes_62 ?_
                        refine g_iast X hR496 hS497 f509 (Nat.le_of_ble_eq_true rfl) (vp_in_nI (show 3 * (d1 + 1) + 2 < 1095 by omega) (by decide)) dX2_goes_63 (fun H locs hR516 hS517 => ?_)
                        obtain ⟨G518, hG518⟩ : ∃ z : GH, z = gu G498 (B 12) ((32, 0), .inl (Γ.2 1, 1095, .inl (upd (va_up (va_up fv (3 * (d1 + 1) + 0) ((Fk σ i kn (100 * (d1 + 1))).1 0)) (3 * (d1 + 1) + 1) ((Fk σ i kn (100 * (d1 + 1))).1 1)) ((nI (3 * (d1 + 1) + 2)).toNatClampNeg) ((Fk σ i kn (100 * (d1 + 1))).1 2)))) := ⟨_, rfl⟩
                        have hR516 : Rep Γ G518 H := by rw [hG518]; exact hR516
                        have f519 : G518 m = some ((30, 0), .inr (1, [.int (nI (σ.1 0)), .ref (B 0), .ref (B 1), .int (σ.2 12 0), .int (nI (σ.1 1)), .ref (B 2), .ref (B 3), .ref (B 4), .int (nI (σ.1 2)), .ref (B 5), .ref (B 6), .ref (B 7), .ref (B 8), .ref (B 9), .ref (B 10), .ref (B 11), .ref (B 12), .ref (B 13), .ref (B 14), .ref (B 15), .int th])) := by rw [hG518]; exact gu_t f499 f509 (tne rfl)
                        have f520 : G518 (B 0) = some ((31, 0), .inl (Γ.2 1, 4, .inl (σ.2 0))) := by rw [hG518]; exact gu_t f500 f509 (tne rfl)
                        have f521 : G518 (B 5) = some ((31, 5), .inl (Γ.2 1, 60, .inl (σ.2 5))) := by rw [hG518]; exact gu_t f501 f509 (tne rfl)
                        have f522 : G518 (B 6) = some ((31, 6), .inl (Γ.2 1, 60, .inl (σ.2 6))) := by rw [hG518]; exact gu_t f502 f509 (tne rfl)
                        have f523 : G518 (B 7) = some ((31, 7), .inl (Γ.2 1, 60, .inl (σ.2 7))) := by rw [hG518]; exact gu_t f503 f509 (tne rfl)
                        have f524 : G518 (B 8) = some ((31, 8), .inl (Γ.2 1, 60, .inl (σ.2 8))) := by rw [hG518]; exact gu_t f504 f509 (tne rfl)
                        have f525 : G518 (B 9) = some ((31, 9), .inl (Γ.2 1, 60, .inl (σ.2 9))) := by rw [hG518]; exact gu_t f505 f509 (tne rfl)
                        have f526 : G518 (B 13) = some ((32, 1), .inl (Γ.2 2, 365, .inl fc)) := by rw [hG518]; exact gu_t f506 f509 (tne2 (by decide))
                        have f527 : G518 (B 14) = some ((32, 2), .inl (Γ.2 1, 365, .inl fr)) := by rw [hG518]; exact gu_t f507 f509 (tne2 (by decide))
                        have f528 : G518 (B 15) = some ((32, 3), .inl (Γ.2 1, 366, .inl fs)) := by rw [hG518]; exact gu_t f508 f509 (tne2 (by decide))
                        have f529 : G518 (B 12) = some ((32, 0), .inl (Γ.2 1, 1095, .inl (upd (va_up (va_up fv (3 * (d1 + 1) + 0) ((Fk σ i kn (100 * (d1 + 1))).1 0)) (3 * (d1 + 1) + 1) ((Fk σ i kn (100 * (d1 + 1))).1 1)) ((nI (3 * (d1 + 1) + 2)).toNatClampNeg) ((Fk σ i kn (100 * (d1 + 1))).1 2)))) := by rw [hG518]; exact gu_s _ _ _
                        rw [updn (by omega)] at f529
                        obtain ⟨x530, hx530⟩ : ∃ y : Int32, y = 2 + 1 := ⟨_, rfl⟩
                        refine lv_iinc (v := x530) (lv' := [(5, .int x530), (0, .ref m), (1, .int (nI i)), (2, .int kn), (3, .int ((Fk σ i kn (100 * (d1 + 1))).2)), (4, .int (nI (d1 + 1)))]) X.hx X.hb dX2_goes_64 hl (k := 0) rfl (by rw [hx530]; rfl) (by decide) rfl (fun ls hl => ?_)
                        obtain rfl : x530 = 3 := hx530.trans (by decide)
                        refine lv_goto (tgt := 23) X.hx X.hb dX2_goes_67 (by decide) ?_
                        refine lv_iload X.hx X.hb dX2_goes_23 (lv_at hl 0 rfl) ?_
                        refine lv_iconst (v := 3) X.hx X.hb dX2_goes_25 (by decide) ?_
                        refine lv_icmp_ge (tgt := 70) X.hx X.hb dX2_goes_26 (by decide) (fun c26 => ?_) (fun c26 => ?_)
                        · refine lv_iconst (v := 0) X.hx X.hb dX2_goes_70 (by decide) ?_
                          refine lv_istore (lv' := [(5, .int 0), (0, .ref m), (1, .int (nI i)), (2, .int kn), (3, .int ((Fk σ i kn (100 * (d1 + 1))).2)), (4, .int (nI (d1 + 1)))]) X.hx X.hb dX2_goes_71 hl (by decide) rfl (fun ls hl => ?_)
                          have hVf : VAL σ i kn (d1 + 1) (va_up (va_up (va_up fv (3 * (d1 + 1) + 0) ((Fk σ i kn (100 * (d1 + 1))).1 0)) (3 * (d1 + 1) + 1) ((Fk σ i kn (100 * (d1 + 1))).1 1)) (3 * (d1 + 1) + 2) ((Fk σ i kn (100 * (d1 + 1))).1 2)) (Fk σ i kn (100 * (d1 + 1))).1 := by
                            refine ⟨fun e he j hj => ?_, fun j hj => ?_⟩
                            · rw [va_up_ne _ _ (by omega), va_up_ne _ _ (by omega), va_up_ne _ _ (by omega)]; exact hV e he j hj
                            · rcases (show j = 0 ∨ j = 1 ∨ j = 2 by omega) with e | e | e
                              · subst e; rw [va_up_ne _ _ (by omega), va_up_ne _ _ (by omega)]; exact va_up_self _ _ _
                              · subst e; rw [va_up_ne _ _ (by omega)]; exact va_up_self _ _ _
                              · subst e; exact va_up_self _ _ _
                          exact loop2 (σ.1 2 + 1) 0 _ _ _ _ _ (by omega) (by omega) ⟨(gK.tr (gK.tr (gK.tr hk9 (gK.pt hG478 h12 rfl)) (gK.pt hG498 f489 rfl)) (gK.pt hG518 f509 rfl)), f529, f526, f527, f528⟩ hVf hR516 hS517 (lv_sub hl [1, 2, 3, 4, 5, 0] rfl)
                        · exact absurd (by decide) c26
                      · exact absurd c42 (nI_ne0 (by omega) (by omega))
                  · exact absurd c42 (nI_ne0 (by omega) (by omega))
              · exact absurd c42 (nI_ne0 (by omega) (by omega))
      · have hne : d = 365 := by omega
        subst hne
        obtain ⟨hk9, h12, h13, h14, h15⟩ := id hW3
        have hm := hk9 _ _ hm0 (by show ¬ 30 = 32; decide)
        have hr0 : G1 (B 0) = some ((31, 0), .inl (Γ.2 1, 4, .inl (σ.2 0))) := hk9 _ _ (hM.2.1 0 (by decide)) (by show ¬ 31 = 32; decide)
        have hr5 : G1 (B 5) = some ((31, 5), .inl (Γ.2 1, 60, .inl (σ.2 5))) := hk9 _ _ (hM.2.1 5 (by decide)) (by show ¬ 31 = 32; decide)
        have hr6 : G1 (B 6) = some ((31, 6), .inl (Γ.2 1, 60, .inl (σ.2 6))) := hk9 _ _ (hM.2.1 6 (by decide)) (by show ¬ 31 = 32; decide)
        have hr7 : G1 (B 7) = some ((31, 7), .inl (Γ.2 1, 60, .inl (σ.2 7))) := hk9 _ _ (hM.2.1 7 (by decide)) (by show ¬ 31 = 32; decide)
        have hr8 : G1 (B 8) = some ((31, 8), .inl (Γ.2 1, 60, .inl (σ.2 8))) := hk9 _ _ (hM.2.1 8 (by decide)) (by show ¬ 31 = 32; decide)
        have hr9 : G1 (B 9) = some ((31, 9), .inl (Γ.2 1, 60, .inl (σ.2 9))) := hk9 _ _ (hM.2.1 9 (by decide)) (by show ¬ 31 = 32; decide)
        refine lv_iload X.hx X.hb dX2_goes_12 (lv_at hl 4 rfl) ?_
        refine lv_sipush (v := 365) X.hx X.hb dX2_goes_14 (by decide) ?_
        refine lv_icmp_ge (tgt := 337) X.hx X.hb dX2_goes_17 (by decide) (fun c17 => ?_) (fun c17 => ?_)
        · exact g_vret X hr hlk hR hS (⟨rfl, fv, fc, fr, fs, hW3, hV, hD⟩) (by (try dsimp only [RM]); omega) (by (try dsimp only [RM]); omega) dX2_goes_337
        · exact absurd (Int32.le_refl _) c17
  exact loop 366 0 fv0 fc0 fr0 _ _ _ _ _ (by omega) (by omega) ⟨(gK.tr hk9 (gK.pt hG214 h15 rfl)), f222, f223, f224, f225⟩ (fun e he => absurd he (Nat.not_lt_zero e)) ⟨fun e he => absurd he (Nat.not_lt_zero e), fun e he => by rw [show e = 0 by omega]; rfl⟩ hR212 hS213 (lv_sub hl [2, 3, 4, 1, 0] rfl)

