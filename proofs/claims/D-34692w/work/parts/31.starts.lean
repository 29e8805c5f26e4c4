set_option maxRecDepth 100000
/-! the component: first days of segments -/
/-- a segment begins on day d -/
abbrev bgn (r : Nat → Int32) (d : Nat) : Prop := 0 < r d ∧ (d = 0 ∨ r d ≠ r (d - 1))
/-- how many segments begin ahead of day n -/
def sn (r : Nat → Int32) : Nat → Nat
  | 0 => 0
  | n + 1 => sn r n + if bgn r n then 1 else 0
theorem sn_y {r : Nat → Int32} {n : Nat} (h : bgn r n) : sn r (n + 1) = sn r n + 1 := by rw [sn, if_pos h]
theorem sn_n {r : Nat → Int32} {n : Nat} (h : ¬ bgn r n) : sn r (n + 1) = sn r n := by rw [sn, if_neg h]; rfl
theorem sn_le {r : Nat → Int32} : ∀ n, sn r n ≤ n := by
  intro n
  induction n with
  | zero => exact Nat.le_refl 0
  | succ n ih =>
    by_cases h : bgn r n
    · rw [sn_y h]; omega
    · rw [sn_n h]; omega
theorem sn_mono {r : Nat → Int32} {m : Nat} : ∀ k, sn r m ≤ sn r (m + k) := by
  intro k
  induction k with
  | zero => exact Nat.le_refl _
  | succ k ih =>
    rw [show m + (k + 1) = (m + k) + 1 from rfl]
    by_cases h : bgn r (m + k)
    · rw [sn_y h]; omega
    · rw [sn_n h]; omega
theorem sn_lt {r : Nat → Int32} {d n : Nat} (h : bgn r d) (hd : d < n) : sn r d < sn r n := by
  have h1 := sn_mono (r := r) (m := d + 1) (n - (d + 1))
  rw [show d + 1 + (n - (d + 1)) = n by omega, sn_y h] at h1
  omega
theorem sn_inj {r : Nat → Int32} {d e : Nat} (hd : bgn r d) (he : bgn r e) (h : sn r d = sn r e) : d = e := by
  rcases Nat.lt_trichotomy d e with h1 | h1 | h1
  · have := sn_lt hd h1; omega
  · exact h1
  · have := sn_lt he h1; omega
theorem sn_ex {r : Nat → Int32} {j : Nat} : ∀ n, j < sn r n → ∃ d, d < n ∧ bgn r d ∧ sn r d = j := by
  intro n
  induction n with
  | zero => intro h; exact absurd h (Nat.not_lt_zero _)
  | succ n ih =>
    intro h
    by_cases hb : bgn r n
    · rw [sn_y hb] at h
      by_cases hj : j < sn r n
      · obtain ⟨d, h1, h2⟩ := ih hj
        exact ⟨d, by omega, h2⟩
      · exact ⟨n, by omega, hb, by omega⟩
    · rw [sn_n hb] at h
      obtain ⟨d, h1, h2⟩ := ih h
      exact ⟨d, by omega, h2⟩
theorem bgn_cong {r s : Nat → Int32} {n : Nat} (h : ∀ d, d < n → r d = s d) {d : Nat} (hd : d < n) : bgn r d ↔ bgn s d := by
  unfold bgn
  rw [h d hd]
  by_cases h0 : d = 0
  · subst h0; simp
  · rw [h (d - 1) (by omega)]
theorem sn_cong {r s : Nat → Int32} {n : Nat} (h : ∀ d, d < n → r d = s d) : ∀ m, m ≤ n → sn r m = sn s m := by
  intro m
  induction m with
  | zero => intro _; rfl
  | succ m ih =>
    intro hm
    by_cases hb : bgn r m
    · rw [sn_y hb, sn_y ((bgn_cong h (by omega)).mp hb), ih (by omega)]
    · rw [sn_n hb, sn_n (fun h9 => hb ((bgn_cong h (by omega)).mpr h9)), ih (by omega)]
/-- a list of the first days of segments ahead of day n, boxed -/
def SL (Γ : GP) (G : GH) (al cap : Nat) (r : Nat → Int32) (n : Nat) : Prop := ∃ ba : Nat → Nat, AL Γ G al 3 (sn r n) cap (fun j => some (ba j)) ∧ ∀ d, d < n → bgn r d → ∃ t : Nat × Nat, G (ba (sn r d)) = some (t, .inr (9, [.int (nI d)])) ∧ (t.1 = 13 ∨ t.1 = 50)
theorem SL.keep {Γ : GP} {G G1 : GH} {al cap n : Nat} {r : Nat → Int32} {T : Nat × Nat → Prop} (h : SL Γ G al cap r n) (hk : gK T G G1) (h1 : ¬ T (1, 3)) (h2 : ¬ T (2, 3)) (h3 : ¬ T (51, 0)) (hb : ∀ t, T t → t.1 ≠ 13 ∧ t.1 ≠ 50) : SL Γ G1 al cap r n := by
  obtain ⟨ba, a1, a2⟩ := h
  refine ⟨ba, a1.keep hk h1 h2 h3, fun d hd hbg => ?_⟩
  obtain ⟨t, b1, b2⟩ := a2 d hd hbg
  exact ⟨t, hk _ _ b1 (fun h9 => b2.elim (hb t h9).1 (hb t h9).2), b2⟩
theorem aS_bd {n cap : Nat} (h : n ≤ cap) (h2 : cap = 0 ∨ 2 ≤ cap) : aS n cap + 4 * cap ≤ 4 * aN n cap ∧ (aN n cap ≤ cap ∨ aN n cap ≤ 10 + 2 * n) ∧ aM n cap ≤ 1 ∧ 2 ≤ aN n cap := by
  unfold aS aN aM aC
  by_cases h1 : n < cap
  · rw [if_pos h1, if_pos h1, if_pos h1]; omega
  · rw [if_neg h1, if_neg h1, if_neg h1]
    by_cases h3 : n = 0
    · rw [if_pos h3]; omega
    · rw [if_neg h3]; omega
theorem AL.cap2 {Γ : GP} {G : GH} {al i n cap : Nat} {f : Nat → Option Nat} (h : AL Γ G al i n cap f) : n ≤ cap ∧ (cap = 0 ∨ 2 ≤ cap) := by
  obtain ⟨mo, ea, g, a1, a2, a3, a4⟩ := h
  refine ⟨a2, ?_⟩
  rcases a4 with ⟨b1, -⟩ | ⟨b1, -⟩
  · exact Or.inl b1
  · exact Or.inr b1
theorem XP.tx3 {Γ : GP} {G G1 : GH} {x : Nat} {σ : MS} {A : Nat → Nat → Nat} (h : XP Γ G x σ A) (hk : gK (tA 3) G G1) : XP Γ G1 x σ A := by
  have n1 : ∀ t : Nat × Nat, t ≠ (1, 3) → t ≠ (2, 3) → ¬ tA 3 t := fun t a b h => h.elim a b
  have n2 : ∀ i j : Nat, i ≠ 1 → i ≠ 2 → ¬ tA 3 (i, j) := fun i j a b => n1 _ (fun e => a (congrArg Prod.fst e)) (fun e => b (congrArg Prod.fst e))
  obtain ⟨⟨rf, p1, p2⟩, ⟨c0, c1, c2, hc, a0, a1, a2⟩, h3, h4, h5⟩ := h
  have n51 : ¬ tA 3 (51, 0) := n2 _ _ (by decide) (by decide)
  refine ⟨⟨rf, hk _ _ p1 (n2 _ _ (by decide) (by decide)), hk _ _ p2 (n2 _ _ (by decide) (by decide))⟩, ⟨c0, c1, c2, hc, a0.keep hk (n1 _ (by decide) (by decide)) (n1 _ (by decide) (by decide)) n51, a1.keep hk (n1 _ (by decide) (by decide)) (n1 _ (by decide) (by decide)) n51, a2.keep hk (n1 _ (by decide) (by decide)) (n1 _ (by decide) (by decide)) n51⟩, fun i hi => ?_, fun k hk9 => ?_, fun j hj => hk _ _ (h5 j hj) (n2 _ _ (by decide) (by decide))⟩
  · obtain ⟨b1, vw, b2, b3⟩ := h3 i hi
    refine ⟨hk _ _ b1 (n2 _ _ (by decide) (by decide)), vw, b2.keep hk (n2 _ _ (by decide) (by decide)) (fun k _ => n2 _ _ (by decide) (by decide)) (fun t ht => ?_), fun v hv => hk _ _ (b3 v hv) (n2 _ _ (by decide) (by decide))⟩
    rcases ht with ht | ht <;> rw [show t = _ from ht] <;> exact ⟨by show _ ≠ _; simp, by show _ ≠ _; simp⟩
  · obtain ⟨b1, b2⟩ := h4 k hk9
    exact ⟨hk _ _ b1 (n2 _ _ (by decide) (by decide)), b2.keep hk (n2 _ _ (by decide) (by decide))⟩
theorem bx_tA {i : Nat} {t : Nat × Nat} (h : t.1 = 13 ∨ t.1 = 50) : ¬ tA i t := fun h9 => by
  have e : t.1 = 1 ∨ t.1 = 2 := h9.elim (fun e => Or.inl (congrArg Prod.fst e)) (fun e => Or.inr (congrArg Prod.fst e))
  omega
theorem TX_tA {i : Nat} {G G1 : GH} (h : gK (tA i) G G1) : gK TX G G1 := h.mono (fun t h => by
  show t.1 < 30
  rcases h with h | h <;> rw [show t = _ from h] <;> simp)
theorem XP.kn {Γ : GP} {G G1 : GH} {x : Nat} {σ : MS} {A : Nat → Nat → Nat} (h : XP Γ G x σ A) (hk : gK (fun _ => False) G G1) : XP Γ G1 x σ A := h.keep (hk.mono (fun _ h => h.elim))

theorem gu_f9 {G G1 : GH} {a b : Nat} {x y : gE} (e : G1 = gu G a x) (hq : G a = none) (h : G b = some y) : G1 b = some y := by rw [e]; exact gu_f h hq

set_option maxHeartbeats 4000000 in
theorem c_starts (l : Launch) (Γ : GP) (G : GH) {x : Nat} {σ : MS} {A : Nat → Nat → Nat} (hW : WF σ) (hX : XP Γ G x σ A) (hC : CN Γ G) {i : Nat} (hi : i < σ.1 0) {kn : Int32} (hkn : kn.toInt < 2147483647) : MetG l yX1_starts (ws_ yX1_starts cX1_starts 5 (some (.object "java/util/List"))) (RM 8 800 3600) Γ G [.ref x, .ref (A 2 i), .int kn] (fun u G1 => ∃ al cap, u = some (.ref al) ∧ cap ≤ 1000 ∧ SL Γ G1 al cap (rtA σ i kn) 365 ∧ XP Γ G1 x σ A ∧ gK TX G G1 ∧ ∃ rf : Nat → Int32, G1 (A 1 0) = some ((15, 0), .inl (Γ.2 1, 365, .inl rf)) ∧ ∀ d, d < 365 → rf d = rtA σ i kn d) 800 3600 := by
  refine gMet (own := RX1) (by decide) rfl (Nat.le_of_ble_eq_true rfl) ?_
  intro pp ee ss mm below meth cc0 ls X hr hlk hin hnm hR hS hl
  have hl : lv_has ls 5 [(0, .ref x), (1, .ref (A 2 i)), (2, .int kn)] := hl
  have hX9 := hX
  obtain ⟨⟨rf0, hx, hrf0⟩, -⟩ := hX9
  refine lv_aload_n X.hx X.hb dX1_starts_0 rfl (lv_at hl 0 rfl) ?_
  refine lv_aload_n X.hx X.hb dX1_starts_1 rfl (lv_at hl 1 rfl) ?_
  refine lv_iload_n X.hx X.hb dX1_starts_2 rfl (lv_at hl 2 rfl) ?_
  refine gcV X hl.1 hR hS 2 [.ref (A 2 i), .int kn] [] (c_find l Γ G hW hX hC hi hkn) hx rfl q1212 q1214 qs18 q36 q1215 rfl rfl ⟨rfl, by decide +kernel, by decide +kernel, by decide +kernel⟩ ⟨by (try dsimp only [RM]); omega, by (try dsimp only [RM]); omega⟩ rfl rfl (Nat.le_of_ble_eq_true rfl) dX1_starts_3 ⟨by (try dsimp only [RM]); omega, by (try dsimp only [RM]); omega⟩ (fun v265 G266 H locs hq262 hR263 hS264 => ?_)
  obtain ⟨rfl, hX1, hgf, rf, hrf, hrd⟩ := hq262
  obtain ⟨⟨_, hx, -⟩, -⟩ := id hX1
  have hC1 := hC.keep hgf (fun t ht => Nat.lt_of_lt_of_le ht (by decide))
  refine g_new (ci := 6) X hR263 hS264 (1, 3) (C := RJ2) (T := TJ2) (N := 3) rfl in_J2 tyJ2 tyJ2_ok q89 q90 q39 (fs := [.int 0, .null, .int 0]) (fun j hj => by rcases (show j = 0 ∨ j = 1 ∨ j = 2 by omega) with rfl | rfl | rfl <;> rfl) (by (try dsimp only [RM]); omega) (by (try dsimp only [RM]); omega) dX1_starts_6 (fun q267 H hq269 hR268 hS270 => ?_)
  obtain ⟨G271, hG271⟩ : ∃ z : GH, z = gu G266 q267 ((1, 3), .inr (6, [.int 0, .null, .int 0])) := ⟨_, rfl⟩
  have hR268 : Rep Γ G271 H := by rw [hG271]; exact hR268
  have f272 : G271 x = some ((0, 0), .inr (0, [.ref (A 0 0), .ref (A 0 1), .ref (A 0 2), .int (σ.2 12 0), .ref (A 1 0)])) := by rw [hG271]; exact gu_f hx hq269
  have f273 : G271 q267 = some ((1, 3), .inr (6, [.int 0, .null, .int 0])) := by rw [hG271]; exact gu_s _ _ _
  refine lv_dup X.hx X.hb dX1_starts_9 rfl ?_
  have hX2 := hX1.kn (gK.nw hG271 hq269)
  have hC2 := hC1.keep (gK.nw (S := fun _ => False) hG271 hq269) (fun _ h => h.elim)
  refine gcI X hl.1 hR268 hS270 0 [] [.ref q267] (c_ALi (e0 := none) l Γ G271 f273) q91 q92 q39 q93 rfl rfl rfl ⟨by decide +kernel, by decide +kernel, by decide +kernel⟩ ⟨by (try dsimp only [RM]); omega, by (try dsimp only [RM]); omega⟩ rfl rfl (Nat.le_of_ble_eq_true rfl) dX1_starts_10 ⟨by (try dsimp only [RM]); omega, by (try dsimp only [RM]); omega⟩ (fun v278 G279 H locs hq275 hR276 hS277 => ?_)
  obtain ⟨rfl, hG274⟩ := hq275
  have hgp : gK (tA 3) _ G279 := gK.pt hG274 f273 (Or.inl rfl)
  have hX3 := hX2.tx3 hgp
  have hC3 := hC2.keep hgp tA_lt
  have hAL0 : AL Γ G279 q267 3 (sn rf 0) 0 (fun j => some 0) := AL.mk0 hC3 (by rw [hG274]; exact gu_s _ _ _)
  have hSL0 : SL Γ G279 q267 0 rf 0 := ⟨fun _ => 0, hAL0, fun d hd => absurd hd (Nat.not_lt_zero d)⟩
  have hrf3 := hgp _ _ (gu_f9 hG271 hq269 hrf) (fun h9 => by rcases h9 with h9 | h9 <;> cases h9)
  have hg3 : gK TX G G279 := gK.tr (gK.tr hgf (gK.nw hG271 hq269)) (TX_tA hgp)
  refine lv_astore_n (lv' := [(3, .ref q267), (0, .ref x), (1, .ref (A 2 i)), (2, .int kn)]) X.hx X.hb dX1_starts_13 rfl hl (by decide) rfl (fun ls hl => ?_)
  refine lv_iconst (v := 0) X.hx X.hb dX1_starts_14 (by decide) ?_
  refine lv_istore (lv' := [(4, .int 0), (3, .ref q267), (0, .ref x), (1, .ref (A 2 i)), (2, .int kn)]) X.hx X.hb dX1_starts_15 hl (by decide) rfl (fun ls hl => ?_)
  have loop : ∀ (n j cap cs sl : Nat) (G1 : GH) (H : Heap) (locs : List Loc) (ls : Array Slot), j ≤ 365 → 365 - j < n → cs ≤ 6 + 2 * j → sl ≤ 20 + j + 4 * cap → cap ≤ 10 + 2 * j → SL Γ G1 q267 cap rf j → XP Γ G1 x σ A → G1 (A 1 0) = some ((15, 0), .inl (Γ.2 1, 365, .inl rf)) → gK TX G G1 → Rep Γ G1 H → va_S (gA Γ) ss.heap H locs → lv_has ls 5 [(0, .ref x), (1, .ref (A 2 i)), (2, .int kn), (3, .ref q267), (4, .int (nI j))] → W pp l ee (RM 8 800 3600) ss mm (List.toArray [.ref x, .ref (A 2 i), .int kn]) below meth cc0 H locs cs sl (MQ below (Qg Γ (fun u G1 => ∃ al cap, u = some (.ref al) ∧ cap ≤ 1000 ∧ SL Γ G1 al cap (rtA σ i kn) 365 ∧ XP Γ G1 x σ A ∧ gK TX G G1 ∧ ∃ rf : Nat → Int32, G1 (A 1 0) = some ((15, 0), .inl (Γ.2 1, 365, .inl rf)) ∧ ∀ d, d < 365 → rf d = rtA σ i kn d)) (List.toArray [.ref x, .ref (A 2 i), .int kn]) ss 800 3600 (gA Γ)) (F0 mm 17 ls []) := by
    intro n
    induction n with
    | zero => intro j cap cs sl G1 H locs ls hj hn; omega
    | succ n ih =>
      intro j cap cs sl G1 H locs ls hj hn hcs hsl hcap hSL hXc hrf hgk hR hS hl
      obtain ⟨⟨_, hx, -⟩, -⟩ := id hXc
      have hCc := hC.keep hgk (fun t ht => Nat.lt_of_lt_of_le ht (by decide))
      have hal9 := hSL
      obtain ⟨ba, hAL, hba⟩ := hal9
      obtain ⟨hnc, hcp⟩ := hAL.cap2
      obtain ⟨hb1, hb2, hb3, hb4⟩ := aS_bd hnc hcp
      have hsn := sn_le (r := rf) j
      obtain ⟨mo, ea, gg, hal, -⟩ := id hAL
      by_cases hj5 : j < 365
      · refine lv_iload X.hx X.hb dX1_starts_17 (lv_at hl 4 rfl) ?_
        refine lv_sipush (v := 365) X.hx X.hb dX1_starts_19 (by decide) ?_
        refine lv_icmp_ge (tgt := 77) X.hx X.hb dX1_starts_22 (by decide) (fun c22 => ?_) (fun c22 => ?_)
        · exact absurd c22 (Int32.not_le.mpr (nI_lt hj5 (by decide)))
        · refine lv_aload_n X.hx X.hb dX1_starts_25 rfl (lv_at hl 0 rfl) ?_
          refine g_get X hR hx rfl in_X1 4 (by decide) q122 (fun _ h => h) rfl dX1_starts_26 ?_
          refine lv_iload X.hx X.hb dX1_starts_29 (lv_at hl 4 rfl) ?_
          refine g_iald (v := rf j) X hR hrf (vp_in_nI hj5 (by decide)) (by rw [nI_clamp (by omega)]) dX1_starts_31 ?_
          refine lv_if_le (tgt := 71) X.hx X.hb dX1_starts_32 (by decide) (fun c32 => ?_) (fun c32 => ?_)
          · obtain ⟨x280, hx280⟩ : ∃ y : Int32, y = nI j + 1 := ⟨_, rfl⟩
            refine lv_iinc (v := x280) (lv' := [(4, .int x280), (0, .ref x), (1, .ref (A 2 i)), (2, .int kn), (3, .ref q267)]) X.hx X.hb dX1_starts_71 hl (k := 4) rfl (by rw [hx280]; rfl) (by decide) rfl (fun ls hl => ?_)
            refine lv_goto (tgt := 17) X.hx X.hb dX1_starts_74 (by decide) ?_
            rw [hx280, nI_1] at hl
            have hnb : ¬ bgn rf j := fun h9 => Int32.not_le.mpr h9.1 c32
            have hSLn : SL Γ G1 q267 cap rf (j + 1) := ⟨ba, by rw [sn_n hnb]; exact hAL, fun d hd hbd => hba d (by rcases Nat.lt_or_ge d j with h | h; exact h; exact absurd hbd (by rw [show d = j by omega]; exact hnb)) hbd⟩
            exact ih (j + 1) _ _ _ _ _ _ _ (by omega) (by omega) (by omega) (by omega) (by omega) hSLn hXc hrf hgk hR hS (lv_sub hl [1, 2, 3, 4, 0] rfl)
          · refine lv_iload X.hx X.hb dX1_starts_35 (lv_at hl 4 rfl) ?_
            refine lv_if_eq (tgt := 59) X.hx X.hb dX1_starts_37 (by decide) (fun c37 => ?_) (fun c37 => ?_)
            · refine lv_aload_n X.hx X.hb dX1_starts_59 rfl (lv_at hl 3 rfl) ?_
              refine lv_iload X.hx X.hb dX1_starts_60 (lv_at hl 4 rfl) ?_
              have hj00 : j = 0 := by
                apply (nI_eq (by omega) (by decide)).mp
                exact c37.trans nI_0.symm
              have hbg : bgn rf j := ⟨Int32.not_le.mp c32, Or.inl hj00⟩
              refine gcS X hl.1 hR hS 1 [.int (nI j)] [.ref q267] (c_valueOf (k := 1000) l Γ G1 hCc) q532 q533 q62 q534 rfl rfl ⟨by decide +kernel, by decide +kernel, by decide +kernel⟩ ⟨by (try dsimp only [RM]); omega, by (try dsimp only [RM]); omega⟩ rfl rfl (Nat.le_of_ble_eq_true rfl) dX1_starts_62 ⟨by (try dsimp only [RM]); omega, by (try dsimp only [RM]); omega⟩ (fun v284 G285 H locs hq281 hR282 hS283 => ?_)
              have hvo := hq281
              have hgo := VO.gk (S := fun _ => False) hvo
              obtain ⟨kb, rfl, ⟨tb, hkb⟩, hor⟩ := hvo
              have htb : tb.1 = 13 ∨ tb.1 = 50 := by
                rcases VO.ibk hor with ⟨tk, h1, -, -, h4⟩
                rw [hkb] at h1
                cases h1; exact h4
              have hSLa := hSL.keep hgo id id id (fun _ h => h.elim)
              have hXa := hXc.kn hgo
              have hrfa := hgo _ _ hrf id
              have hCa := hCc.keep hgo (fun _ h => h.elim)
              obtain ⟨bb, hALa, hbba⟩ := hSLa
              obtain ⟨mo1, ea1, gg1, hal1, -⟩ := id hALa
              have hadd := c_add l Γ G285 hALa (by omega) (fun k hk y hy => by
                obtain ⟨d, hd1, hd2, hd3⟩ := sn_ex _ hk
                obtain ⟨t9, ht9, -⟩ := hbba d hd1 hd2
                rw [hd3] at ht9
                cases hy
                exact ⟨t9, 9, _, _, ht9, rfl, kq1520⟩) hCa.q5 hkb (ci := 9) rfl kq1520 (by rintro rfl; rcases htb with h | h <;> cases h)
              refine gcF X hl.1 hR282 hS283 1 [.ref kb] [] (hadd) hal1 rfl kf2 q305 q308 q310 q39 q312 rfl rfl ⟨by decide +kernel, by decide +kernel, by decide +kernel⟩ ⟨by (try dsimp only [RM]); omega, by (try dsimp only [RM]); omega⟩ rfl rfl (Nat.le_of_ble_eq_true rfl) dX1_starts_65 ⟨by (try dsimp only [RM]); omega, by (try dsimp only [RM]); omega⟩ (fun v289 G290 H locs hq286 hR287 hS288 => ?_)
              obtain ⟨rfl, hga, hAL9⟩ := hq286
              rw [← sn_y hbg] at hAL9
              have hSLn : SL Γ G290 q267 (aN (sn rf j) cap) rf (j + 1) := ⟨va_up bb (sn rf j) kb, hAL9.cong (fun k hk => ?_), fun d hd hbd => ?_⟩
              rotate_left
              · by_cases e : k = sn rf j
                · rw [e, va_up_self, va_up_self]
                · rw [va_up_ne _ _ e, va_up_ne _ _ e]
              · by_cases e : d = j
                · rw [e, va_up_self]
                  exact ⟨tb, hga _ _ hkb (bx_tA htb), htb⟩
                · have hd2 : d < j := by omega
                  rw [va_up_ne _ _ (fun h9 => absurd (sn_lt hbd hd2) (by omega))]
                  obtain ⟨t9, ht9, ht8⟩ := hbba d hd2 hbd
                  exact ⟨t9, hga _ _ ht9 (bx_tA ht8), ht8⟩
              have hXb := hXa.tx3 hga
              have hrfb := hga _ _ hrfa (fun h9 => by rcases h9 with h9 | h9 <;> cases h9)
              have hgb := gK.tr hgk (gK.tr (gK.mono hgo (fun _ h => h.elim)) (TX_tA hga))
              refine lv_pop X.hx X.hb dX1_starts_70 rfl ?_
              obtain ⟨x291, hx291⟩ : ∃ y : Int32, y = nI j + 1 := ⟨_, rfl⟩
              refine lv_iinc (v := x291) (lv' := [(4, .int x291), (0, .ref x), (1, .ref (A 2 i)), (2, .int kn), (3, .ref q267)]) X.hx X.hb dX1_starts_71 hl (k := 4) rfl (by rw [hx291]; rfl) (by decide) rfl (fun ls hl => ?_)
              refine lv_goto (tgt := 17) X.hx X.hb dX1_starts_74 (by decide) ?_
              rw [hx291, nI_1] at hl
              exact ih (j + 1) _ _ _ _ _ _ _ (by omega) (by omega) (by omega) (by omega) (by omega) hSLn hXb hrfb hgb hR287 hS288 (lv_sub hl [1, 2, 3, 4, 0] rfl)
            · refine lv_aload_n X.hx X.hb dX1_starts_40 rfl (lv_at hl 0 rfl) ?_
              refine g_get X hR hx rfl in_X1 4 (by decide) q122 (fun _ h => h) rfl dX1_starts_41 ?_
              refine lv_iload X.hx X.hb dX1_starts_44 (lv_at hl 4 rfl) ?_
              refine g_iald (v := rf j) X hR hrf (vp_in_nI hj5 (by decide)) (by rw [nI_clamp (by omega)]) dX1_starts_46 ?_
              refine lv_aload_n X.hx X.hb dX1_starts_47 rfl (lv_at hl 0 rfl) ?_
              refine g_get X hR hx rfl in_X1 4 (by decide) q122 (fun _ h => h) rfl dX1_starts_48 ?_
              refine lv_iload X.hx X.hb dX1_starts_51 (lv_at hl 4 rfl) ?_
              refine lv_iconst (v := 1) X.hx X.hb dX1_starts_53 (by decide) ?_
              refine lv_isub X.hx X.hb dX1_starts_54 ?_
              have hj0 : 0 < j := Nat.pos_of_ne_zero (fun h9 => c37 (by rw [h9]; rfl))
              obtain ⟨j1, rfl⟩ : ∃ j1, j = j1 + 1 := ⟨j - 1, by omega⟩
              refine lv_topi (fun x9 hx9 => ?_)
              obtain rfl : x9 = nI j1 := hx9.trans (nI_pred j1)
              refine g_iald (v := rf j1) X hR hrf (vp_in_nI (by omega) (by decide)) (by rw [nI_clamp (by omega)]) dX1_starts_55 ?_
              refine lv_icmp_eq (tgt := 71) X.hx X.hb dX1_starts_56 (by decide) (fun c56 => ?_) (fun c56 => ?_)
              · obtain ⟨x292, hx292⟩ : ∃ y : Int32, y = nI (j1 + 1) + 1 := ⟨_, rfl⟩
                refine lv_iinc (v := x292) (lv' := [(4, .int x292), (0, .ref x), (1, .ref (A 2 i)), (2, .int kn), (3, .ref q267)]) X.hx X.hb dX1_starts_71 hl (k := 4) rfl (by rw [hx292]; rfl) (by decide) rfl (fun ls hl => ?_)
                refine lv_goto (tgt := 17) X.hx X.hb dX1_starts_74 (by decide) ?_
                rw [hx292, nI_1] at hl
                have hnb : ¬ bgn rf (j1 + 1) := fun h9 => h9.2.elim (fun h => by omega) (fun h => h c56)
                have hSLn : SL Γ G1 q267 cap rf ((j1 + 1) + 1) := ⟨ba, by rw [sn_n hnb]; exact hAL, fun d hd hbd => hba d (by rcases Nat.lt_or_ge d (j1 + 1) with h | h; exact h; exact absurd hbd (by rw [show d = (j1 + 1) by omega]; exact hnb)) hbd⟩
                exact ih ((j1 + 1) + 1) _ _ _ _ _ _ _ (by omega) (by omega) (by omega) (by omega) (by omega) hSLn hXc hrf hgk hR hS (lv_sub hl [1, 2, 3, 4, 0] rfl)
              · refine lv_aload_n X.hx X.hb dX1_starts_59 rfl (lv_at hl 3 rfl) ?_
                refine lv_iload X.hx X.hb dX1_starts_60 (lv_at hl 4 rfl) ?_
                have hbg : bgn rf (j1 + 1) := ⟨Int32.not_le.mp c32, Or.inr c56⟩
                refine gcS X hl.1 hR hS 1 [.int (nI (j1 + 1))] [.ref q267] (c_valueOf (k := 1000) l Γ G1 hCc) q532 q533 q62 q534 rfl rfl ⟨by decide +kernel, by decide +kernel, by decide +kernel⟩ ⟨by (try dsimp only [RM]); omega, by (try dsimp only [RM]); omega⟩ rfl rfl (Nat.le_of_ble_eq_true rfl) dX1_starts_62 ⟨by (try dsimp only [RM]); omega, by (try dsimp only [RM]); omega⟩ (fun v296 G297 H locs hq293 hR294 hS295 => ?_)
                have hvo := hq293
                have hgo := VO.gk (S := fun _ => False) hvo
                obtain ⟨kb, rfl, ⟨tb, hkb⟩, hor⟩ := hvo
                have htb : tb.1 = 13 ∨ tb.1 = 50 := by
                  rcases VO.ibk hor with ⟨tk, h1, -, -, h4⟩
                  rw [hkb] at h1
                  cases h1; exact h4
                have hSLa := hSL.keep hgo id id id (fun _ h => h.elim)
                have hXa := hXc.kn hgo
                have hrfa := hgo _ _ hrf id
                have hCa := hCc.keep hgo (fun _ h => h.elim)
                obtain ⟨bb, hALa, hbba⟩ := hSLa
                obtain ⟨mo1, ea1, gg1, hal1, -⟩ := id hALa
                have hadd := c_add l Γ G297 hALa (by omega) (fun k hk y hy => by
                  obtain ⟨d, hd1, hd2, hd3⟩ := sn_ex _ hk
                  obtain ⟨t9, ht9, -⟩ := hbba d hd1 hd2
                  rw [hd3] at ht9
                  cases hy
                  exact ⟨t9, 9, _, _, ht9, rfl, kq1520⟩) hCa.q5 hkb (ci := 9) rfl kq1520 (by rintro rfl; rcases htb with h | h <;> cases h)
                refine gcF X hl.1 hR294 hS295 1 [.ref kb] [] (hadd) hal1 rfl kf2 q305 q308 q310 q39 q312 rfl rfl ⟨by decide +kernel, by decide +kernel, by decide +kernel⟩ ⟨by (try dsimp only [RM]); omega, by (try dsimp only [RM]); omega⟩ rfl rfl (Nat.le_of_ble_eq_true rfl) dX1_starts_65 ⟨by (try dsimp only [RM]); omega, by (try dsimp only [RM]); omega⟩ (fun v301 G302 H locs hq298 hR299 hS300 => ?_)
                obtain ⟨rfl, hga, hAL9⟩ := hq298
                rw [← sn_y hbg] at hAL9
                have hSLn : SL Γ G302 q267 (aN (sn rf (j1 + 1)) cap) rf ((j1 + 1) + 1) := ⟨va_up bb (sn rf (j1 + 1)) kb, hAL9.cong (fun k hk => ?_), fun d hd hbd => ?_⟩
                rotate_left
                · by_cases e : k = sn rf (j1 + 1)
                  · rw [e, va_up_self, va_up_self]
                  · rw [va_up_ne _ _ e, va_up_ne _ _ e]
                · by_cases e : d = (j1 + 1)
                  · rw [e, va_up_self]
                    exact ⟨tb, hga _ _ hkb (bx_tA htb), htb⟩
                  · have hd2 : d < (j1 + 1) := by omega
                    rw [va_up_ne _ _ (fun h9 => absurd (sn_lt hbd hd2) (by omega))]
                    obtain ⟨t9, ht9, ht8⟩ := hbba d hd2 hbd
                    exact ⟨t9, hga _ _ ht9 (bx_tA ht8), ht8⟩
                have hXb := hXa.tx3 hga
                have hrfb := hga _ _ hrfa (fun h9 => by rcases h9 with h9 | h9 <;> cases h9)
                have hgb := gK.tr hgk (gK.tr (gK.mono hgo (fun _ h => h.elim)) (TX_tA hga))
                refine lv_pop X.hx X.hb dX1_starts_70 rfl ?_
                obtain ⟨x303, hx303⟩ : ∃ y : Int32, y = nI (j1 + 1) + 1 := ⟨_, rfl⟩
                refine lv_iinc (v := x303) (lv' := [(4, .int x303), (0, .ref x), (1, .ref (A 2 i)), (2, .int kn), (3, .ref q267)]) X.hx X.hb dX1_starts_71 hl (k := 4) rfl (by rw [hx303]; rfl) (by decide) rfl (fun ls hl => ?_)
                refine lv_goto (tgt := 17) X.hx X.hb dX1_starts_74 (by decide) ?_
                rw [hx303, nI_1] at hl
                exact ih ((j1 + 1) + 1) _ _ _ _ _ _ _ (by omega) (by omega) (by omega) (by omega) (by omega) hSLn hXb hrfb hgb hR299 hS300 (lv_sub hl [1, 2, 3, 4, 0] rfl)
      · have hj6 : j = 365 := by omega
        subst hj6
        refine lv_iload X.hx X.hb dX1_starts_17 (lv_at hl 4 rfl) ?_
        refine lv_sipush (v := 365) X.hx X.hb dX1_starts_19 (by decide) ?_
        refine lv_icmp_ge (tgt := 77) X.hx X.hb dX1_starts_22 (by decide) (fun c22 => ?_) (fun c22 => ?_)
        · refine lv_aload_n X.hx X.hb dX1_starts_77 rfl (lv_at hl 3 rfl) ?_
          have hSLr : SL Γ G1 q267 cap (rtA σ i kn) 365 := by
            refine ⟨ba, by rw [← sn_cong hrd 365 (Nat.le_refl _)]; exact hAL, fun d hd hbd => ?_⟩
            rw [← sn_cong hrd d (by omega)]
            exact hba d hd ((bgn_cong hrd hd).mpr hbd)
          exact g_aretS X hr (Or.inl ⟨_, rfl⟩) hlk hR hS (⟨_, _, rfl, by omega, hSLr, hXc, hgk, rf, hrf, hrd⟩) (by (try dsimp only [RM]); omega) (by (try dsimp only [RM]); omega) dX1_starts_78
        · exact absurd (Int32.le_refl _) c22
  exact loop 366 0 0 _ _ _ _ _ _ (by omega) (by omega) (by omega) (by omega) (by omega) hSL0 hX3 hrf3 hg3 hR276 hS277 (lv_sub hl [2, 3, 4, 1, 0] rfl)

