set_option maxRecDepth 100000
/-! the component: weights and rates -/
def Bst (σ : MS) (f d : Int32) : Nat → Option Nat
  | 0 => none
  | n + 1 => if σ.2 2 n = f ∧ σ.2 4 n ≤ d ∧ (match Bst σ f d n with | none => (-1 : Int32) | some b => σ.2 4 b) ≤ σ.2 4 n then some n else Bst σ f d n
def Bw (σ : MS) (f d : Int32) (n : Nat) : Int32 := match Bst σ f d n with | none => 1 | some b => σ.2 3 b
def Bf (σ : MS) (f d : Int32) (n : Nat) : Int32 := match Bst σ f d n with | none => (-1) | some b => σ.2 4 b
theorem Bst_y {σ : MS} {f d : Int32} {n : Nat} (h1 : σ.2 2 n = f) (h2 : σ.2 4 n ≤ d) (h3 : Bf σ f d n ≤ σ.2 4 n) : Bst σ f d (n + 1) = some n := by
  exact if_pos ⟨h1, h2, h3⟩
theorem Bst_n {σ : MS} {f d : Int32} {n : Nat} (h : ¬ (σ.2 2 n = f ∧ σ.2 4 n ≤ d ∧ Bf σ f d n ≤ σ.2 4 n)) : Bst σ f d (n + 1) = Bst σ f d n := by
  exact if_neg h
theorem Bw_y {σ : MS} {f d : Int32} {n : Nat} (h1 : σ.2 2 n = f) (h2 : σ.2 4 n ≤ d) (h3 : Bf σ f d n ≤ σ.2 4 n) : σ.2 3 n = Bw σ f d (n + 1) ∧ σ.2 4 n = Bf σ f d (n + 1) := by
  unfold Bw Bf; rw [Bst_y h1 h2 h3]; exact ⟨rfl, rfl⟩
theorem Bw_n {σ : MS} {f d : Int32} {n : Nat} (h : ¬ (σ.2 2 n = f ∧ σ.2 4 n ≤ d ∧ Bf σ f d n ≤ σ.2 4 n)) : Bw σ f d n = Bw σ f d (n + 1) ∧ Bf σ f d n = Bf σ f d (n + 1) := by
  unfold Bw Bf; rw [Bst_n h]; exact ⟨rfl, rfl⟩
abbrev wt (σ : MS) (f d : Int32) : Int32 := Bw σ f d (σ.1 1)

set_option maxHeartbeats 4000000 in
theorem c_weight (l : Launch) (Γ : GP) (G : GH) {x : Nat} {σ : MS} {A : Nat → Nat → Nat} (hW : WF σ) (hX : XP Γ G x σ A) {f d : Int32} : MetG l yX1_weight (ws_ yX1_weight cX1_weight 7 (some .int)) (RM 4 0 0) Γ G [.ref x, .int f, .int d] (fun v G1 => v = some (.int (wt σ f d)) ∧ G = G1) 0 0 := by
  refine gMet (own := RX1) (by decide) rfl (Nat.le_of_ble_eq_true rfl) ?_
  intro pp ee ss mm below meth cc0 ls X hr hlk hin hnm hR hS hl
  have hl : lv_has ls 7 [(0, .ref x), (1, .int f), (2, .int d)] := hl
  obtain ⟨⟨rf, hx, hrf⟩, ⟨c0, c1, c2, hcap, hA0, hA1, hA2⟩, hXp, hXc, hXt⟩ := hX
  obtain ⟨mo2, ea2, g2, hal2, -⟩ := id hA2
  refine lv_iconst (v := 1) X.hx X.hb dX1_weight_0 (by decide) ?_
  refine lv_istore_n (lv' := [(3, .int 1), (0, .ref x), (1, .int f), (2, .int d)]) X.hx X.hb dX1_weight_1 rfl hl (by decide) rfl (fun ls hl => ?_)
  refine lv_iconst (v := (-1)) X.hx X.hb dX1_weight_2 (by decide) ?_
  refine lv_istore (lv' := [(4, .int (-1)), (3, .int 1), (0, .ref x), (1, .int f), (2, .int d)]) X.hx X.hb dX1_weight_3 hl (by decide) rfl (fun ls hl => ?_)
  refine lv_iconst (v := 0) X.hx X.hb dX1_weight_5 (by decide) ?_
  refine lv_istore (lv' := [(5, .int 0), (4, .int (-1)), (3, .int 1), (0, .ref x), (1, .int f), (2, .int d)]) X.hx X.hb dX1_weight_6 hl (by decide) rfl (fun ls hl => ?_)
  have hnt := hW.2.1
  have loop : ∀ (r n : Nat) (H : Heap) (locs : List Loc) (ls : Array Slot), n ≤ σ.1 1 → σ.1 1 - n < r → Rep Γ G H → va_S (gA Γ) ss.heap H locs → lv_has ls 7 [(0, .ref x), (1, .int f), (2, .int d), (3, .int (Bw σ f d n)), (4, .int (Bf σ f d n)), (5, .int (nI n))] → W pp l ee (RM 4 0 0) ss mm (List.toArray [.ref x, .int f, .int d]) below meth cc0 H locs 0 0 (MQ below (Qg Γ (fun v G1 => v = some (.int (wt σ f d)) ∧ G = G1)) (List.toArray [.ref x, .int f, .int d]) ss 0 0 (gA Γ)) (F0 mm 8 ls []) := by
    intro r
    induction r with
    | zero => intro n H locs ls h1 h2; omega
    | succ r ih =>
      intro n H locs ls h1 h2 hR hS hl
      by_cases hn : n < σ.1 1
      · have ht := hXt n hn
        refine lv_iload X.hx X.hb dX1_weight_8 (lv_at hl 5 rfl) ?_
        refine lv_aload_n X.hx X.hb dX1_weight_10 rfl (lv_at hl 0 rfl) ?_
        refine g_get X hR hx rfl in_X1 2 (by decide) q120 (fun _ h => h) rfl dX1_weight_11 ?_
        refine gcF X hl.1 hR hS 0 [] [.int (nI n)] (c_sizeA l Γ G hA2) hal2 rfl kf1 q144 q148 q150 q39 q152 rfl rfl ⟨by decide +kernel, by decide +kernel, by decide +kernel⟩ ⟨by (try dsimp only [RM]); omega, by (try dsimp only [RM]); omega⟩ rfl rfl (Nat.le_of_ble_eq_true rfl) dX1_weight_14 ⟨by (try dsimp only [RM]); omega, by (try dsimp only [RM]); omega⟩ (fun v200 G201 H locs hq197 hR198 hS199 => ?_)
        obtain ⟨rfl, rfl⟩ := hq197
        refine lv_icmp_ge (tgt := 85) X.hx X.hb dX1_weight_19 (by decide) (fun c19 => ?_) (fun c19 => ?_)
        · exact absurd c19 (Int32.not_le.mpr (nI_lt hn (by omega)))
        · refine lv_aload_n X.hx X.hb dX1_weight_22 rfl (lv_at hl 0 rfl) ?_
          refine g_get X hR198 hx rfl in_X1 2 (by decide) q120 (fun _ h => h) rfl dX1_weight_23 ?_
          refine lv_iload X.hx X.hb dX1_weight_26 (lv_at hl 5 rfl) ?_
          refine gcF X hl.1 hR198 hS199 1 [.int (nI n)] [] (c_getA l Γ G hA2 hn (by omega)) hal2 rfl kf3 q476 q479 q481 q39 q483 rfl rfl ⟨by decide +kernel, by decide +kernel, by decide +kernel⟩ ⟨by (try dsimp only [RM]); omega, by (try dsimp only [RM]); omega⟩ rfl rfl (Nat.le_of_ble_eq_true rfl) dX1_weight_28 ⟨by (try dsimp only [RM]); omega, by (try dsimp only [RM]); omega⟩ (fun v205 G206 H locs hq202 hR203 hS204 => ?_)
          obtain ⟨rfl, rfl⟩ := hq202
          refine g_castS X hR203 ht rfl q438 dX1_weight_33 ?_
          refine lv_astore (lv' := [(6, .ref (A 8 n)), (0, .ref x), (1, .int f), (2, .int d), (3, .int (Bw σ f d n)), (4, .int (Bf σ f d n)), (5, .int (nI n))]) X.hx X.hb dX1_weight_36 hl (by decide) rfl (fun ls hl => ?_)
          refine lv_aload X.hx X.hb dX1_weight_38 (lv_at hl 0 rfl) ?_
          refine gcV X hl.1 hR203 hS204 0 [] [] (c_X4f l Γ G ht) ht rfl q1189 q1190 q1191 q57 q1192 rfl rfl ⟨rfl, by decide +kernel, by decide +kernel, by decide +kernel⟩ ⟨by (try dsimp only [RM]); omega, by (try dsimp only [RM]); omega⟩ rfl rfl (Nat.le_of_ble_eq_true rfl) dX1_weight_40 ⟨by (try dsimp only [RM]); omega, by (try dsimp only [RM]); omega⟩ (fun v210 G211 H locs hq207 hR208 hS209 => ?_)
          obtain ⟨rfl, rfl⟩ := hq207
          refine lv_iload_n X.hx X.hb dX1_weight_43 rfl (lv_at hl 2 rfl) ?_
          refine lv_icmp_ne (tgt := 79) X.hx X.hb dX1_weight_44 (by decide) (fun c44 => ?_) (fun c44 => ?_)
          · obtain ⟨x212, hx212⟩ : ∃ y : Int32, y = nI n + 1 := ⟨_, rfl⟩
            refine lv_iinc (v := x212) (lv' := [(5, .int x212), (6, .ref (A 8 n)), (0, .ref x), (1, .int f), (2, .int d), (3, .int (Bw σ f d n)), (4, .int (Bf σ f d n))]) X.hx X.hb dX1_weight_79 hl (k := 6) rfl (by rw [hx212]; rfl) (by decide) rfl (fun ls hl => ?_)
            refine lv_goto (tgt := 8) X.hx X.hb dX1_weight_82 (by decide) ?_
            obtain ⟨e1, e2⟩ := Bw_n (σ := σ) (f := f) (d := d) (n := n) (fun h9 => c44 h9.1)
            rw [e1, e2] at hl
            rw [hx212, nI_1] at hl
            exact ih (n + 1) _ _ _ (by omega) (by omega) hR208 hS209 (lv_sub hl [2, 3, 4, 5, 6, 0] rfl)
          · refine lv_aload X.hx X.hb dX1_weight_47 (lv_at hl 0 rfl) ?_
            refine gcV X hl.1 hR208 hS209 0 [] [] (c_X4s l Γ G ht) ht rfl q1193 q1194 q1195 q57 q1196 rfl rfl ⟨rfl, by decide +kernel, by decide +kernel, by decide +kernel⟩ ⟨by (try dsimp only [RM]); omega, by (try dsimp only [RM]); omega⟩ rfl rfl (Nat.le_of_ble_eq_true rfl) dX1_weight_49 ⟨by (try dsimp only [RM]); omega, by (try dsimp only [RM]); omega⟩ (fun v216 G217 H locs hq213 hR214 hS215 => ?_)
            obtain ⟨rfl, rfl⟩ := hq213
            refine lv_iload_n X.hx X.hb dX1_weight_52 rfl (lv_at hl 3 rfl) ?_
            refine lv_icmp_gt (tgt := 79) X.hx X.hb dX1_weight_53 (by decide) (fun c53 => ?_) (fun c53 => ?_)
            · obtain ⟨x218, hx218⟩ : ∃ y : Int32, y = nI n + 1 := ⟨_, rfl⟩
              refine lv_iinc (v := x218) (lv' := [(5, .int x218), (6, .ref (A 8 n)), (0, .ref x), (1, .int f), (2, .int d), (3, .int (Bw σ f d n)), (4, .int (Bf σ f d n))]) X.hx X.hb dX1_weight_79 hl (k := 6) rfl (by rw [hx218]; rfl) (by decide) rfl (fun ls hl => ?_)
              refine lv_goto (tgt := 8) X.hx X.hb dX1_weight_82 (by decide) ?_
              obtain ⟨e1, e2⟩ := Bw_n (σ := σ) (f := f) (d := d) (n := n) (fun h9 => absurd h9.2.1 (Int32.not_le.mpr c53))
              rw [e1, e2] at hl
              rw [hx218, nI_1] at hl
              exact ih (n + 1) _ _ _ (by omega) (by omega) hR214 hS215 (lv_sub hl [2, 3, 4, 5, 6, 0] rfl)
            · refine lv_aload X.hx X.hb dX1_weight_56 (lv_at hl 0 rfl) ?_
              refine gcV X hl.1 hR214 hS215 0 [] [] (c_X4s l Γ G ht) ht rfl q1193 q1194 q1195 q57 q1196 rfl rfl ⟨rfl, by decide +kernel, by decide +kernel, by decide +kernel⟩ ⟨by (try dsimp only [RM]); omega, by (try dsimp only [RM]); omega⟩ rfl rfl (Nat.le_of_ble_eq_true rfl) dX1_weight_58 ⟨by (try dsimp only [RM]); omega, by (try dsimp only [RM]); omega⟩ (fun v222 G223 H locs hq219 hR220 hS221 => ?_)
              obtain ⟨rfl, rfl⟩ := hq219
              refine lv_iload X.hx X.hb dX1_weight_61 (lv_at hl 5 rfl) ?_
              refine lv_icmp_lt (tgt := 79) X.hx X.hb dX1_weight_63 (by decide) (fun c63 => ?_) (fun c63 => ?_)
              · obtain ⟨x224, hx224⟩ : ∃ y : Int32, y = nI n + 1 := ⟨_, rfl⟩
                refine lv_iinc (v := x224) (lv' := [(5, .int x224), (6, .ref (A 8 n)), (0, .ref x), (1, .int f), (2, .int d), (3, .int (Bw σ f d n)), (4, .int (Bf σ f d n))]) X.hx X.hb dX1_weight_79 hl (k := 6) rfl (by rw [hx224]; rfl) (by decide) rfl (fun ls hl => ?_)
                refine lv_goto (tgt := 8) X.hx X.hb dX1_weight_82 (by decide) ?_
                obtain ⟨e1, e2⟩ := Bw_n (σ := σ) (f := f) (d := d) (n := n) (fun h9 => absurd h9.2.2 (Int32.not_le.mpr c63))
                rw [e1, e2] at hl
                rw [hx224, nI_1] at hl
                exact ih (n + 1) _ _ _ (by omega) (by omega) hR220 hS221 (lv_sub hl [2, 3, 4, 5, 6, 0] rfl)
              · refine lv_aload X.hx X.hb dX1_weight_66 (lv_at hl 0 rfl) ?_
                refine gcV X hl.1 hR220 hS221 0 [] [] (c_X4w l Γ G ht) ht rfl q1197 q1198 q1199 q57 q1200 rfl rfl ⟨rfl, by decide +kernel, by decide +kernel, by decide +kernel⟩ ⟨by (try dsimp only [RM]); omega, by (try dsimp only [RM]); omega⟩ rfl rfl (Nat.le_of_ble_eq_true rfl) dX1_weight_68 ⟨by (try dsimp only [RM]); omega, by (try dsimp only [RM]); omega⟩ (fun v228 G229 H locs hq225 hR226 hS227 => ?_)
                obtain ⟨rfl, rfl⟩ := hq225
                refine lv_istore_n (lv' := [(3, .int (σ.2 3 n)), (6, .ref (A 8 n)), (0, .ref x), (1, .int f), (2, .int d), (4, .int (Bf σ f d n)), (5, .int (nI n))]) X.hx X.hb dX1_weight_71 rfl hl (by decide) rfl (fun ls hl => ?_)
                refine lv_aload X.hx X.hb dX1_weight_72 (lv_at hl 1 rfl) ?_
                refine gcV X hl.1 hR226 hS227 0 [] [] (c_X4s l Γ G ht) ht rfl q1193 q1194 q1195 q57 q1196 rfl rfl ⟨rfl, by decide +kernel, by decide +kernel, by decide +kernel⟩ ⟨by (try dsimp only [RM]); omega, by (try dsimp only [RM]); omega⟩ rfl rfl (Nat.le_of_ble_eq_true rfl) dX1_weight_74 ⟨by (try dsimp only [RM]); omega, by (try dsimp only [RM]); omega⟩ (fun v233 G234 H locs hq230 hR231 hS232 => ?_)
                obtain ⟨rfl, rfl⟩ := hq230
                refine lv_istore (lv' := [(4, .int (σ.2 4 n)), (3, .int (σ.2 3 n)), (6, .ref (A 8 n)), (0, .ref x), (1, .int f), (2, .int d), (5, .int (nI n))]) X.hx X.hb dX1_weight_77 hl (by decide) rfl (fun ls hl => ?_)
                obtain ⟨x235, hx235⟩ : ∃ y : Int32, y = nI n + 1 := ⟨_, rfl⟩
                refine lv_iinc (v := x235) (lv' := [(5, .int x235), (4, .int (σ.2 4 n)), (3, .int (σ.2 3 n)), (6, .ref (A 8 n)), (0, .ref x), (1, .int f), (2, .int d)]) X.hx X.hb dX1_weight_79 hl (k := 6) rfl (by rw [hx235]; rfl) (by decide) rfl (fun ls hl => ?_)
                refine lv_goto (tgt := 8) X.hx X.hb dX1_weight_82 (by decide) ?_
                obtain ⟨e1, e2⟩ := Bw_y c44 (Int32.not_lt.mp c53) (Int32.not_lt.mp c63)
                rw [e1, e2] at hl
                rw [hx235, nI_1] at hl
                exact ih (n + 1) _ _ _ (by omega) (by omega) hR231 hS232 (lv_sub hl [4, 5, 6, 2, 1, 0] rfl)
      · have hne : n = σ.1 1 := by omega
        rw [hne] at hl
        refine lv_iload X.hx X.hb dX1_weight_8 (lv_at hl 5 rfl) ?_
        refine lv_aload_n X.hx X.hb dX1_weight_10 rfl (lv_at hl 0 rfl) ?_
        refine g_get X hR hx rfl in_X1 2 (by decide) q120 (fun _ h => h) rfl dX1_weight_11 ?_
        refine gcF X hl.1 hR hS 0 [] [.int (nI (σ.1 1))] (c_sizeA l Γ G hA2) hal2 rfl kf1 q144 q148 q150 q39 q152 rfl rfl ⟨by decide +kernel, by decide +kernel, by decide +kernel⟩ ⟨by (try dsimp only [RM]); omega, by (try dsimp only [RM]); omega⟩ rfl rfl (Nat.le_of_ble_eq_true rfl) dX1_weight_14 ⟨by (try dsimp only [RM]); omega, by (try dsimp only [RM]); omega⟩ (fun v239 G240 H locs hq236 hR237 hS238 => ?_)
        obtain ⟨rfl, rfl⟩ := hq236
        refine lv_icmp_ge (tgt := 85) X.hx X.hb dX1_weight_19 (by decide) (fun c19 => ?_) (fun c19 => ?_)
        · refine lv_iload_n X.hx X.hb dX1_weight_85 rfl (lv_at hl 3 rfl) ?_
          exact g_iret X hr hlk hR237 hS238 (⟨rfl, rfl⟩) (by (try dsimp only [RM]); omega) (by (try dsimp only [RM]); omega) dX1_weight_86
        · exact absurd (Int32.le_refl _) c19
  exact loop (σ.1 1 + 1) 0 _ _ _ (by omega) (by omega) hR hS (lv_sub hl [3, 4, 5, 2, 1, 0] rfl)

/-- the rate of policy i on day d under the version w -/
def rtw (σ : MS) (i : Nat) (d : Int32) (w : VW) : Int32 := if w.2 = 0 then 0 else σ.2 0 i + w.1 0 * wt σ 0 d + w.1 1 * wt σ 1 d + w.1 2 * wt σ 2 d

set_option maxHeartbeats 4000000 in
theorem c_rateOf (l : Launch) (Γ : GP) (G : GH) {x : Nat} {σ : MS} {A : Nat → Nat → Nat} (hW : WF σ) (hX : XP Γ G x σ A) {i v : Nat} (hi : i < σ.1 0) {w : VW} (hVP : VP Γ G v w) {d : Int32} : MetG l yX1_rateOf (ws_ yX1_rateOf cX1_rateOf 6 (some .int)) (RM 5 0 0) Γ G [.ref x, .ref (A 2 i), .ref v, .int d] (fun u G1 => u = some (.int (rtw σ i d w)) ∧ G = G1) 0 0 := by
  refine gMet (own := RX1) (by decide) rfl (Nat.le_of_ble_eq_true rfl) ?_
  intro pp ee ss mm below meth cc0 ls X hr hlk hin hnm hR hS hl
  have hl : lv_has ls 6 [(0, .ref x), (1, .ref (A 2 i)), (2, .ref v), (3, .int d)] := hl
  have hX9 := hX
  have hpol := (hX.2.2.1 i hi).1
  obtain ⟨⟨rf, hx, hrf⟩, ⟨c0, c1, c2, hcap, hA0, hA1, hA2⟩, hXp, hXc, hXt⟩ := hX
  obtain ⟨ar, f, hv, har, hf, hon⟩ := hVP
  rcases hon with hw | hw
  · refine lv_aload_n X.hx X.hb dX1_rateOf_0 rfl (lv_at hl 2 rfl) ?_
    refine g_getN X hR hv rfl in_X6 1 (by decide) kq749 (fun _ h => h) rfl dX1_rateOf_1 ?_
    refine lv_if_eq (tgt := 14) X.hx X.hb dX1_rateOf_4 (by decide) (fun c4 => ?_) (fun c4 => ?_)
    · refine lv_iconst (v := 0) X.hx X.hb dX1_rateOf_14 (by decide) ?_
      refine lv_istore (lv' := [(4, .int 0), (0, .ref x), (1, .ref (A 2 i)), (2, .ref v), (3, .int d)]) X.hx X.hb dX1_rateOf_15 hl (by decide) rfl (fun ls hl => ?_)
      refine lv_iconst (v := 0) X.hx X.hb dX1_rateOf_17 (by decide) ?_
      refine lv_istore (lv' := [(5, .int 0), (4, .int 0), (0, .ref x), (1, .ref (A 2 i)), (2, .ref v), (3, .int d)]) X.hx X.hb dX1_rateOf_18 hl (by decide) rfl (fun ls hl => ?_)
      refine lv_iload X.hx X.hb dX1_rateOf_20 (lv_at hl 0 rfl) ?_
      refine lv_iconst (v := 3) X.hx X.hb dX1_rateOf_22 (by decide) ?_
      refine lv_icmp_ge (tgt := 59) X.hx X.hb dX1_rateOf_23 (by decide) (fun c23 => ?_) (fun c23 => ?_)
      · exact absurd c23 (by decide)
      · refine lv_aload_n X.hx X.hb dX1_rateOf_26 rfl (lv_at hl 4 rfl) ?_
        refine g_getN X hR hv rfl in_X6 1 (by decide) kq749 (fun _ h => h) rfl dX1_rateOf_27 ?_
        refine lv_if_eq (tgt := 59) X.hx X.hb dX1_rateOf_30 (by decide) (fun c30 => ?_) (fun c30 => ?_)
        · refine lv_iload X.hx X.hb dX1_rateOf_59 (lv_at hl 1 rfl) ?_
          exact g_iret X hr hlk hR hS (⟨by rw [rtw, if_pos hw], rfl⟩) (by (try dsimp only [RM]); omega) (by (try dsimp only [RM]); omega) dX1_rateOf_61
        · exact absurd hw c30
    · exact absurd hw c4
  · refine lv_aload_n X.hx X.hb dX1_rateOf_0 rfl (lv_at hl 2 rfl) ?_
    refine g_getN X hR hv rfl in_X6 1 (by decide) kq749 (fun _ h => h) rfl dX1_rateOf_1 ?_
    refine lv_if_eq (tgt := 14) X.hx X.hb dX1_rateOf_4 (by decide) (fun c4 => ?_) (fun c4 => ?_)
    · exact absurd (hw.symm.trans c4) (by decide)
    · refine lv_aload_n X.hx X.hb dX1_rateOf_7 rfl (lv_at hl 1 rfl) ?_
      refine g_getN X hR hpol rfl in_X3 0 (by decide) kq293 (fun _ h => h) rfl dX1_rateOf_8 ?_
      refine lv_goto (tgt := 15) X.hx X.hb dX1_rateOf_11 (by decide) ?_
      refine lv_istore (lv' := [(4, .int (σ.2 0 i)), (0, .ref x), (1, .ref (A 2 i)), (2, .ref v), (3, .int d)]) X.hx X.hb dX1_rateOf_15 hl (by decide) rfl (fun ls hl => ?_)
      refine lv_iconst (v := 0) X.hx X.hb dX1_rateOf_17 (by decide) ?_
      refine lv_istore (lv' := [(5, .int 0), (4, .int (σ.2 0 i)), (0, .ref x), (1, .ref (A 2 i)), (2, .ref v), (3, .int d)]) X.hx X.hb dX1_rateOf_18 hl (by decide) rfl (fun ls hl => ?_)
      refine lv_iload X.hx X.hb dX1_rateOf_20 (lv_at hl 0 rfl) ?_
      refine lv_iconst (v := 3) X.hx X.hb dX1_rateOf_22 (by decide) ?_
      refine lv_icmp_ge (tgt := 59) X.hx X.hb dX1_rateOf_23 (by decide) (fun c23 => ?_) (fun c23 => ?_)
      · exact absurd c23 (by decide)
      · refine lv_aload_n X.hx X.hb dX1_rateOf_26 rfl (lv_at hl 4 rfl) ?_
        refine g_getN X hR hv rfl in_X6 1 (by decide) kq749 (fun _ h => h) rfl dX1_rateOf_27 ?_
        refine lv_if_eq (tgt := 59) X.hx X.hb dX1_rateOf_30 (by decide) (fun c30 => ?_) (fun c30 => ?_)
        · exact absurd (hw.symm.trans c30) (by decide)
        · refine lv_iload X.hx X.hb dX1_rateOf_33 (lv_at hl 1 rfl) ?_
          refine lv_aload_n X.hx X.hb dX1_rateOf_35 rfl (lv_at hl 4 rfl) ?_
          refine g_getN X hR hv rfl in_X6 0 (by decide) kq747 (fun _ h => h) rfl dX1_rateOf_36 ?_
          refine lv_iload X.hx X.hb dX1_rateOf_39 (lv_at hl 0 rfl) ?_
          refine g_iald (v := f (0 : Int32).toNatClampNeg) X hR har (in3 ⟨by decide, by decide⟩) rfl dX1_rateOf_41 ?_
          refine lv_topi (fun x241 hx241 => ?_)
          obtain rfl : x241 = w.1 0 := hx241.trans (hf 0 (by decide))
          refine lv_aload_n X.hx X.hb dX1_rateOf_42 rfl (lv_at hl 2 rfl) ?_
          refine lv_iload X.hx X.hb dX1_rateOf_43 (lv_at hl 0 rfl) ?_
          refine lv_iload_n X.hx X.hb dX1_rateOf_45 rfl (lv_at hl 5 rfl) ?_
          refine gcV X hl.1 hR hS 2 [.int 0, .int d] [.int (w.1 0), .int (σ.2 0 i)] (c_weight l Γ G hW hX9) hx rfl q1185 q1187 qs16 q36 q1188 rfl rfl ⟨rfl, by decide +kernel, by decide +kernel, by decide +kernel⟩ ⟨by (try dsimp only [RM]); omega, by (try dsimp only [RM]); omega⟩ rfl rfl (Nat.le_of_ble_eq_true rfl) dX1_rateOf_46 ⟨by (try dsimp only [RM]); omega, by (try dsimp only [RM]); omega⟩ (fun v245 G246 H locs hq242 hR243 hS244 => ?_)
          obtain ⟨rfl, rfl⟩ := hq242
          refine lv_imul X.hx X.hb dX1_rateOf_49 ?_
          refine lv_iadd X.hx X.hb dX1_rateOf_50 ?_
          refine lv_istore (lv' := [(4, .int ((σ.2 0 i) + ((w.1 0) * (wt σ 0 d)))), (5, .int 0), (0, .ref x), (1, .ref (A 2 i)), (2, .ref v), (3, .int d)]) X.hx X.hb dX1_rateOf_51 hl (by decide) rfl (fun ls hl => ?_)
          obtain ⟨x247, hx247⟩ : ∃ y : Int32, y = 0 + 1 := ⟨_, rfl⟩
          refine lv_iinc (v := x247) (lv' := [(5, .int x247), (4, .int ((σ.2 0 i) + ((w.1 0) * (wt σ 0 d)))), (0, .ref x), (1, .ref (A 2 i)), (2, .ref v), (3, .int d)]) X.hx X.hb dX1_rateOf_53 hl (k := 1) rfl (by rw [hx247]; rfl) (by decide) rfl (fun ls hl => ?_)
          obtain rfl : x247 = 1 := hx247.trans (by decide)
          refine lv_goto (tgt := 20) X.hx X.hb dX1_rateOf_56 (by decide) ?_
          refine lv_iload X.hx X.hb dX1_rateOf_20 (lv_at hl 0 rfl) ?_
          refine lv_iconst (v := 3) X.hx X.hb dX1_rateOf_22 (by decide) ?_
          refine lv_icmp_ge (tgt := 59) X.hx X.hb dX1_rateOf_23 (by decide) (fun c23 => ?_) (fun c23 => ?_)
          · exact absurd c23 (by decide)
          · refine lv_aload_n X.hx X.hb dX1_rateOf_26 rfl (lv_at hl 4 rfl) ?_
            refine g_getN X hR243 hv rfl in_X6 1 (by decide) kq749 (fun _ h => h) rfl dX1_rateOf_27 ?_
            refine lv_if_eq (tgt := 59) X.hx X.hb dX1_rateOf_30 (by decide) (fun c30 => ?_) (fun c30 => ?_)
            · exact absurd (hw.symm.trans c30) (by decide)
            · refine lv_iload X.hx X.hb dX1_rateOf_33 (lv_at hl 1 rfl) ?_
              refine lv_aload_n X.hx X.hb dX1_rateOf_35 rfl (lv_at hl 4 rfl) ?_
              refine g_getN X hR243 hv rfl in_X6 0 (by decide) kq747 (fun _ h => h) rfl dX1_rateOf_36 ?_
              refine lv_iload X.hx X.hb dX1_rateOf_39 (lv_at hl 0 rfl) ?_
              refine g_iald (v := f (1 : Int32).toNatClampNeg) X hR243 har (in3 ⟨by decide, by decide⟩) rfl dX1_rateOf_41 ?_
              refine lv_topi (fun x248 hx248 => ?_)
              obtain rfl : x248 = w.1 1 := hx248.trans (hf 1 (by decide))
              refine lv_aload_n X.hx X.hb dX1_rateOf_42 rfl (lv_at hl 2 rfl) ?_
              refine lv_iload X.hx X.hb dX1_rateOf_43 (lv_at hl 0 rfl) ?_
              refine lv_iload_n X.hx X.hb dX1_rateOf_45 rfl (lv_at hl 5 rfl) ?_
              refine gcV X hl.1 hR243 hS244 2 [.int 1, .int d] [.int (w.1 1), .int ((σ.2 0 i) + ((w.1 0) * (wt σ 0 d)))] (c_weight l Γ G hW hX9) hx rfl q1185 q1187 qs16 q36 q1188 rfl rfl ⟨rfl, by decide +kernel, by decide +kernel, by decide +kernel⟩ ⟨by (try dsimp only [RM]); omega, by (try dsimp only [RM]); omega⟩ rfl rfl (Nat.le_of_ble_eq_true rfl) dX1_rateOf_46 ⟨by (try dsimp only [RM]); omega, by (try dsimp only [RM]); omega⟩ (fun v252 G253 H locs hq249 hR250 hS251 => ?_)
              obtain ⟨rfl, rfl⟩ := hq249
              refine lv_imul X.hx X.hb dX1_rateOf_49 ?_
              refine lv_iadd X.hx X.hb dX1_rateOf_50 ?_
              refine lv_istore (lv' := [(4, .int (((σ.2 0 i) + ((w.1 0) * (wt σ 0 d))) + ((w.1 1) * (wt σ 1 d)))), (5, .int 1), (0, .ref x), (1, .ref (A 2 i)), (2, .ref v), (3, .int d)]) X.hx X.hb dX1_rateOf_51 hl (by decide) rfl (fun ls hl => ?_)
              obtain ⟨x254, hx254⟩ : ∃ y : Int32, y = 1 + 1 := ⟨_, rfl⟩
              refine lv_iinc (v := x254) (lv' := [(5, .int x254), (4, .int (((σ.2 0 i) + ((w.1 0) * (wt σ 0 d))) + ((w.1 1) * (wt σ 1 d)))), (0, .ref x), (1, .ref (A 2 i)), (2, .ref v), (3, .int d)]) X.hx X.hb dX1_rateOf_53 hl (k := 1) rfl (by rw [hx254]; rfl) (by decide) rfl (fun ls hl => ?_)
              obtain rfl : x254 = 2 := hx254.trans (by decide)
              refine lv_goto (tgt := 20) X.hx X.hb dX1_rateOf_56 (by decide) ?_
              refine lv_iload X.hx X.hb dX1_rateOf_20 (lv_at hl 0 rfl) ?_
              refine lv_iconst (v := 3) X.hx X.hb dX1_rateOf_22 (by decide) ?_
              refine lv_icmp_ge (tgt := 59) X.hx X.hb dX1_rateOf_23 (by decide) (fun c23 => ?_) (fun c23 => ?_)
              · exact absurd c23 (by decide)
              · refine lv_aload_n X.hx X.hb dX1_rateOf_26 rfl (lv_at hl 4 rfl) ?_
                refine g_getN X hR250 hv rfl in_X6 1 (by decide) kq749 (fun _ h => h) rfl dX1_rateOf_27 ?_
                refine lv_if_eq (tgt := 59) X.hx X.hb dX1_rateOf_30 (by decide) (fun c30 => ?_) (fun c30 => ?_)
                · exact absurd (hw.symm.trans c30) (by decide)
                · refine lv_iload X.hx X.hb dX1_rateOf_33 (lv_at hl 1 rfl) ?_
                  refine lv_aload_n X.hx X.hb dX1_rateOf_35 rfl (lv_at hl 4 rfl) ?_
                  refine g_getN X hR250 hv rfl in_X6 0 (by decide) kq747 (fun _ h => h) rfl dX1_rateOf_36 ?_
                  refine lv_iload X.hx X.hb dX1_rateOf_39 (lv_at hl 0 rfl) ?_
                  refine g_iald (v := f (2 : Int32).toNatClampNeg) X hR250 har (in3 ⟨by decide, by decide⟩) rfl dX1_rateOf_41 ?_
                  refine lv_topi (fun x255 hx255 => ?_)
                  obtain rfl : x255 = w.1 2 := hx255.trans (hf 2 (by decide))
                  refine lv_aload_n X.hx X.hb dX1_rateOf_42 rfl (lv_at hl 2 rfl) ?_
                  refine lv_iload X.hx X.hb dX1_rateOf_43 (lv_at hl 0 rfl) ?_
                  refine lv_iload_n X.hx X.hb dX1_rateOf_45 rfl (lv_at hl 5 rfl) ?_
                  refine gcV X hl.1 hR250 hS251 2 [.int 2, .int d] [.int (w.1 2), .int (((σ.2 0 i) + ((w.1 0) * (wt σ 0 d))) + ((w.1 1) * (wt σ 1 d)))] (c_weight l Γ G hW hX9) hx rfl q1185 q1187 qs16 q36 q1188 rfl rfl ⟨rfl, by decide +kernel, by decide +kernel, by decide +kernel⟩ ⟨by (try dsimp only [RM]); omega, by (try dsimp only [RM]); omega⟩ rfl rfl (Nat.le_of_ble_eq_true rfl) dX1_rateOf_46 ⟨by (try dsimp only [RM]); omega, by (try dsimp only [RM]); omega⟩ (fun v259 G260 H locs hq256 hR257 hS258 => ?_)
                  obtain ⟨rfl, rfl⟩ := hq256
                  refine lv_imul X.hx X.hb dX1_rateOf_49 ?_
                  refine lv_iadd X.hx X.hb dX1_rateOf_50 ?_
                  refine lv_istore (lv' := [(4, .int ((((σ.2 0 i) + ((w.1 0) * (wt σ 0 d))) + ((w.1 1) * (wt σ 1 d))) + ((w.1 2) * (wt σ 2 d)))), (5, .int 2), (0, .ref x), (1, .ref (A 2 i)), (2, .ref v), (3, .int d)]) X.hx X.hb dX1_rateOf_51 hl (by decide) rfl (fun ls hl => ?_)
                  obtain ⟨x261, hx261⟩ : ∃ y : Int32, y = 2 + 1 := ⟨_, rfl⟩
                  refine lv_iinc (v := x261) (lv' := [(5, .int x261), (4, .int ((((σ.2 0 i) + ((w.1 0) * (wt σ 0 d))) + ((w.1 1) * (wt σ 1 d))) + ((w.1 2) * (wt σ 2 d)))), (0, .ref x), (1, .ref (A 2 i)), (2, .ref v), (3, .int d)]) X.hx X.hb dX1_rateOf_53 hl (k := 1) rfl (by rw [hx261]; rfl) (by decide) rfl (fun ls hl => ?_)
                  obtain rfl : x261 = 3 := hx261.trans (by decide)
                  refine lv_goto (tgt := 20) X.hx X.hb dX1_rateOf_56 (by decide) ?_
                  refine lv_iload X.hx X.hb dX1_rateOf_20 (lv_at hl 0 rfl) ?_
                  refine lv_iconst (v := 3) X.hx X.hb dX1_rateOf_22 (by decide) ?_
                  refine lv_icmp_ge (tgt := 59) X.hx X.hb dX1_rateOf_23 (by decide) (fun c23 => ?_) (fun c23 => ?_)
                  · refine lv_iload X.hx X.hb dX1_rateOf_59 (lv_at hl 1 rfl) ?_
                    exact g_iret X hr hlk hR257 hS258 (⟨by rw [rtw, if_neg (by rw [hw]; decide)], rfl⟩) (by (try dsimp only [RM]); omega) (by (try dsimp only [RM]); omega) dX1_rateOf_61
                  · exact absurd (by decide) c23

