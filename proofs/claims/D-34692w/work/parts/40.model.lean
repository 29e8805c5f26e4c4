set_option maxRecDepth 100000
/-! the model: its picture, its small parts -/
/-- the model's tags -/
def TMm (t : Nat × Nat) : Prop := 30 ≤ t.1 ∧ t.1 < 40
abbrev MOc (np td nt nc th : Int32) (B : Nat → Nat) : gE := ((30, 0), .inr (1, [.int np, .ref (B 0), .ref (B 1), .int td, .int nt, .ref (B 2), .ref (B 3), .ref (B 4), .int nc, .ref (B 5), .ref (B 6), .ref (B 7), .ref (B 8), .ref (B 9), .ref (B 10), .ref (B 11), .ref (B 12), .ref (B 13), .ref (B 14), .ref (B 15), .int th]))
abbrev lnR (r : Nat) : Nat := if r < 2 then 4 else if r < 5 then 20 else 60
def MO (Γ : GP) (G : GH) (m : Nat) (np td nt nc th : Int32) (R : Nat → Nat → Int32) (B : Nat → Nat) : Prop :=
  G m = some (MOc np td nt nc th B) ∧ (∀ r, r < 12 → G (B r) = some ((31, r), .inl (Γ.2 1, lnR r, .inl (R r)))) ∧ (∃ fv : Nat → Int32, G (B 12) = some ((32, 0), .inl (Γ.2 1, 1095, .inl fv))) ∧ (∃ fc : Nat → Int32, G (B 13) = some ((32, 1), .inl (Γ.2 2, 365, .inl fc))) ∧ (∃ fr : Nat → Int32, G (B 14) = some ((32, 2), .inl (Γ.2 1, 365, .inl fr))) ∧ ∃ fs : Nat → Int32, G (B 15) = some ((32, 3), .inl (Γ.2 1, 366, .inl fs))
def MP (Γ : GP) (G : GH) (m : Nat) (σ : MS) (th : Int32) (B : Nat → Nat) : Prop := MO Γ G m (nI (σ.1 0)) (σ.2 12 0) (nI (σ.1 1)) (nI (σ.1 2)) th σ.2 B
theorem MO.keep {Γ : GP} {G G1 : GH} {m : Nat} {np td nt nc th : Int32} {R : Nat → Nat → Int32} {B : Nat → Nat} {T : Nat × Nat → Prop} (h : MO Γ G m np td nt nc th R B) (hk : gK T G G1) (hT : ∀ t, T t → ¬ TMm t) : MO Γ G1 m np td nt nc th R B := by
  have n : ∀ i j : Nat, 30 ≤ i → i < 40 → ¬ T (i, j) := fun i j a b h => hT _ h ⟨a, b⟩
  obtain ⟨h1, h2, ⟨f1, h3⟩, ⟨f2, h4⟩, ⟨f3, h5⟩, f4, h6⟩ := h
  exact ⟨hk _ _ h1 (n _ _ (by decide) (by decide)), fun r hr => hk _ _ (h2 r hr) (n _ _ (by decide) (by decide)), ⟨f1, hk _ _ h3 (n _ _ (by decide) (by decide))⟩, ⟨f2, hk _ _ h4 (n _ _ (by decide) (by decide))⟩, ⟨f3, hk _ _ h5 (n _ _ (by decide) (by decide))⟩, f4, hk _ _ h6 (n _ _ (by decide) (by decide))⟩
theorem MO.obj {Γ : GP} {G G1 : GH} {m : Nat} {np td nt nc th np1 td1 nt1 nc1 th1 : Int32} {R : Nat → Nat → Int32} {B : Nat → Nat} (h : MO Γ G m np td nt nc th R B) (e : G1 = gu G m (MOc np1 td1 nt1 nc1 th1 B)) : MO Γ G1 m np1 td1 nt1 nc1 th1 R B := by
  obtain ⟨h1, h2, ⟨f1, h3⟩, ⟨f2, h4⟩, ⟨f3, h5⟩, f4, h6⟩ := h
  have hk : gK (fun t => t = (30, 0)) G G1 := gK.pt e h1 rfl
  have n : ∀ i j : Nat, i ≠ 30 → ¬ ((i, j) : Nat × Nat) = (30, 0) := fun i j a h => a (congrArg Prod.fst h)
  exact ⟨by rw [e]; exact gu_s _ _ _, fun r hr => hk _ _ (h2 r hr) (n _ _ (by decide)), ⟨f1, hk _ _ h3 (n _ _ (by decide))⟩, ⟨f2, hk _ _ h4 (n _ _ (by decide))⟩, ⟨f3, hk _ _ h5 (n _ _ (by decide))⟩, f4, hk _ _ h6 (n _ _ (by decide))⟩
theorem MO.row {Γ : GP} {G G1 : GH} {m : Nat} {np td nt nc th : Int32} {R : Nat → Nat → Int32} {B : Nat → Nat} (h : MO Γ G m np td nt nc th R B) {r : Nat} (hr : r < 12) {g : Nat → Int32} (e : G1 = gu G (B r) ((31, r), .inl (Γ.2 1, lnR r, .inl g))) : MO Γ G1 m np td nt nc th (setr R r g) B := by
  obtain ⟨h1, h2, ⟨f1, h3⟩, ⟨f2, h4⟩, ⟨f3, h5⟩, f4, h6⟩ := h
  have hk : gK (fun t => t = (31, r)) G G1 := gK.pt e (h2 r hr) rfl
  have n : ∀ i j : Nat, i ≠ 31 → ¬ ((i, j) : Nat × Nat) = (31, r) := fun i j a h => a (congrArg Prod.fst h)
  refine ⟨hk _ _ h1 (n _ _ (by decide)), fun q hq => ?_, ⟨f1, hk _ _ h3 (n _ _ (by decide))⟩, ⟨f2, hk _ _ h4 (n _ _ (by decide))⟩, ⟨f3, hk _ _ h5 (n _ _ (by decide))⟩, f4, hk _ _ h6 (n _ _ (by decide))⟩
  unfold setr
  by_cases hqr : q = r
  · subst hqr; rw [if_pos rfl, e]; exact gu_s _ _ _
  · rw [if_neg hqr]; exact hk _ _ (h2 q hq) (fun h9 => hqr (congrArg Prod.snd h9))
theorem MO.wrk {Γ : GP} {G G1 : GH} {m : Nat} {np td nt nc th : Int32} {R : Nat → Nat → Int32} {B : Nat → Nat} (h : MO Γ G m np td nt nc th R B) (hk : gK (fun t => t.1 = 32) G G1) {fv fc fr fs : Nat → Int32} (h3 : G1 (B 12) = some ((32, 0), .inl (Γ.2 1, 1095, .inl fv))) (h4 : G1 (B 13) = some ((32, 1), .inl (Γ.2 2, 365, .inl fc))) (h5 : G1 (B 14) = some ((32, 2), .inl (Γ.2 1, 365, .inl fr))) (h6 : G1 (B 15) = some ((32, 3), .inl (Γ.2 1, 366, .inl fs))) : MO Γ G1 m np td nt nc th R B :=
  ⟨hk _ _ h.1 (by show ¬ 30 = 32; decide), fun r hr => hk _ _ (h.2.1 r hr) (by show ¬ 31 = 32; decide), ⟨fv, h3⟩, ⟨fc, h4⟩, ⟨fr, h5⟩, fs, h6⟩
theorem MO.to {Γ : GP} {G : GH} {m : Nat} {np td nt nc th : Int32} {R : Nat → Nat → Int32} {B : Nat → Nat} (h : MO Γ G m np td nt nc th R B) (τ : MS) (e0 : np = nI (τ.1 0)) (e1 : td = τ.2 12 0) (e2 : nt = nI (τ.1 1)) (e3 : nc = nI (τ.1 2)) (er : ∀ r, r < 12 → R r = τ.2 r) : MP Γ G m τ th B := by
  subst e0 e1 e2 e3
  exact ⟨h.1, fun r hr => by rw [← er r hr]; exact h.2.1 r hr, h.2.2⟩
theorem c12 {r : Nat} (h : r < 12) : r = 0 ∨ r = 1 ∨ r = 2 ∨ r = 3 ∨ r = 4 ∨ r = 5 ∨ r = 6 ∨ r = 7 ∨ r = 8 ∨ r = 9 ∨ r = 10 ∨ r = 11 := by omega
theorem updn {f : Nat → Int32} {n : Nat} {v : Int32} (h : n < 2 ^ 31) : upd f (nI n).toNatClampNeg v = va_up f n v := by
  rw [nI_clamp h]
  funext j
  rfl
/-- how a call of the model ends -/
def MR (Γ : GP) (G G1 : GH) (m : Nat) (σ τ : MS) (B : Nat → Nat) (k val : Int32) (v : Option Value) : Prop := ((k = 0 ∧ v = some (.int val) ∧ MP Γ G1 m τ 0 B) ∨ (k ≠ 0 ∧ (∃ w, v = some (.int w)) ∧ MP Γ G1 m σ k B)) ∧ gK TMm G G1
theorem nI_m1 {n : Nat} (h : n < 2 ^ 31) : (nI n - 1).toInt = (n : Int) - 1 := by
  have e1 : (nI n).toInt = n := nI_toInt h
  have e2 : (1 : Int32).toInt = 1 := rfl
  rw [Int32.toInt_sub, e1, e2, Int.bmod_eq_of_le (by omega) (by omega)]
theorem bad_pl {n : Nat} (h : n < 2 ^ 31) {x : Int32} : bad 0 (nI n - 1) x ↔ bdP (nI n) x := by
  have e1 : (nI n).toInt = n := nI_toInt h
  have e2 := nI_m1 h
  have e : x ≤ nI n - 1 ↔ x < nI n := by rw [Int32.le_iff_toInt_le, Int32.lt_iff_toInt_lt, e1, e2]; omega
  unfold bad bdP
  rw [e]
theorem bad_f {x : Int32} : bad 0 2 x ↔ bdP 3 x := bad_pl (n := 3) (by decide)
theorem ite_iff {a b : Prop} [Decidable a] [Decidable b] (h : a ↔ b) {x y : Int32} : (if a then x else y) = (if b then x else y) := by
  by_cases hb : b
  · rw [if_pos hb, if_pos (h.mpr hb)]
  · rw [if_neg hb, if_neg (fun h9 => hb (h.mp h9))]

set_option maxHeartbeats 4000000 in
theorem m_isIn (l : Launch) (Γ : GP) (G : GH) {x lo hi : Int32} : MetG l yX2_isIn (ws_ yX2_isIn cX2_isIn 3 (some .boolean)) (RM 1 0 0) Γ G [.int x, .int lo, .int hi] (fun v G1 => v = some (.int (if bad lo hi x then 0 else 1)) ∧ G = G1) 0 0 := by
  refine gMet (own := RX2) (by decide) rfl (Nat.le_of_ble_eq_true rfl) ?_
  intro pp ee ss mm below meth cc0 ls X hr hlk hin hnm hR hS hl
  have hl : lv_has ls 3 [(0, .int x), (1, .int lo), (2, .int hi)] := hl
  refine lv_iload_n X.hx X.hb dX2_isIn_0 rfl (lv_at hl 0 rfl) ?_
  refine lv_iload_n X.hx X.hb dX2_isIn_1 rfl (lv_at hl 1 rfl) ?_
  refine lv_icmp_lt (tgt := 14) X.hx X.hb dX2_isIn_2 (by decide) (fun c2 => ?_) (fun c2 => ?_)
  · refine lv_iconst (v := 0) X.hx X.hb dX2_isIn_14 (by decide) ?_
    exact g_zret X hr hlk hR hS rfl (⟨by rw [if_pos (Or.inl c2)], rfl⟩) (by (try dsimp only [RM]); omega) (by (try dsimp only [RM]); omega) dX2_isIn_15
  · refine lv_iload_n X.hx X.hb dX2_isIn_5 rfl (lv_at hl 0 rfl) ?_
    refine lv_iload_n X.hx X.hb dX2_isIn_6 rfl (lv_at hl 2 rfl) ?_
    refine lv_icmp_gt (tgt := 14) X.hx X.hb dX2_isIn_7 (by decide) (fun c7 => ?_) (fun c7 => ?_)
    · refine lv_iconst (v := 0) X.hx X.hb dX2_isIn_14 (by decide) ?_
      exact g_zret X hr hlk hR hS rfl (⟨by rw [if_pos (Or.inr (Int32.not_le.mpr c7))], rfl⟩) (by (try dsimp only [RM]); omega) (by (try dsimp only [RM]); omega) dX2_isIn_15
    · refine lv_iconst (v := 1) X.hx X.hb dX2_isIn_10 (by decide) ?_
      refine lv_goto (tgt := 15) X.hx X.hb dX2_isIn_11 (by decide) ?_
      exact g_zret X hr hlk hR hS rfl (⟨by rw [if_neg (or_no c2 (fun h9 => h9 (Int32.not_lt.mp c7)))], rfl⟩) (by (try dsimp only [RM]); omega) (by (try dsimp only [RM]); omega) dX2_isIn_15

theorem ite01 (a : Prop) [Decidable a] : (if a then (0 : Int32) else 1) = 0 ∨ (if a then (0 : Int32) else 1) = 1 := by by_cases h : a; exact Or.inl (if_pos h); exact Or.inr (if_neg h)

set_option maxHeartbeats 4000000 in
theorem m_isDay (l : Launch) (Γ : GP) (G : GH) {x : Int32} : MetG l yX2_isDay (ws_ yX2_isDay cX2_isDay 1 (some .boolean)) (RM 2 0 0) Γ G [.int x] (fun v G1 => v = some (.int (if bad 0 364 x then 0 else 1)) ∧ G = G1) 0 0 := by
  refine gMet (own := RX2) (by decide) rfl (Nat.le_of_ble_eq_true rfl) ?_
  intro pp ee ss mm below meth cc0 ls X hr hlk hin hnm hR hS hl
  have hl : lv_has ls 1 [(0, .int x)] := hl
  refine lv_iload_n X.hx X.hb dX2_isDay_0 rfl (lv_at hl 0 rfl) ?_
  refine lv_iconst (v := 0) X.hx X.hb dX2_isDay_1 (by decide) ?_
  refine lv_sipush (v := 364) X.hx X.hb dX2_isDay_2 (by decide) ?_
  refine gcS X hl.1 hR hS 3 [.int x, .int 0, .int 364] [] (m_isIn l Γ G) q1368 q1369 q40 q1370 rfl rfl ⟨by decide +kernel, by decide +kernel, by decide +kernel⟩ ⟨by (try dsimp only [RM]); omega, by (try dsimp only [RM]); omega⟩ rfl rfl (Nat.le_of_ble_eq_true rfl) dX2_isDay_5 ⟨by (try dsimp only [RM]); omega, by (try dsimp only [RM]); omega⟩ (fun v200 G201 H locs hq197 hR198 hS199 => ?_)
  obtain ⟨rfl, rfl⟩ := hq197
  exact g_zret X hr hlk hR198 hS199 (nar_bool (ite01 _)) (⟨rfl, rfl⟩) (by (try dsimp only [RM]); omega) (by (try dsimp only [RM]); omega) dX2_isDay_8

set_option maxHeartbeats 4000000 in
theorem m_isField (l : Launch) (Γ : GP) (G : GH) {x : Int32} : MetG l yX2_isField (ws_ yX2_isField cX2_isField 1 (some .boolean)) (RM 2 0 0) Γ G [.int x] (fun v G1 => v = some (.int (if bdP 3 x then 0 else 1)) ∧ G = G1) 0 0 := by
  refine gMet (own := RX2) (by decide) rfl (Nat.le_of_ble_eq_true rfl) ?_
  intro pp ee ss mm below meth cc0 ls X hr hlk hin hnm hR hS hl
  have hl : lv_has ls 1 [(0, .int x)] := hl
  refine lv_iload_n X.hx X.hb dX2_isField_0 rfl (lv_at hl 0 rfl) ?_
  refine lv_iconst (v := 0) X.hx X.hb dX2_isField_1 (by decide) ?_
  refine lv_iconst (v := 2) X.hx X.hb dX2_isField_2 (by decide) ?_
  refine gcS X hl.1 hR hS 3 [.int x, .int 0, .int 2] [] (m_isIn l Γ G) q1368 q1369 q40 q1370 rfl rfl ⟨by decide +kernel, by decide +kernel, by decide +kernel⟩ ⟨by (try dsimp only [RM]); omega, by (try dsimp only [RM]); omega⟩ rfl rfl (Nat.le_of_ble_eq_true rfl) dX2_isField_3 ⟨by (try dsimp only [RM]); omega, by (try dsimp only [RM]); omega⟩ (fun v205 G206 H locs hq202 hR203 hS204 => ?_)
  obtain ⟨rfl, rfl⟩ := hq202
  exact g_zret X hr hlk hR203 hS204 (nar_bool (ite01 _)) (⟨by rw [ite_iff bad_f], rfl⟩) (by (try dsimp only [RM]); omega) (by (try dsimp only [RM]); omega) dX2_isField_6

set_option maxHeartbeats 4000000 in
theorem m_isPolicy (l : Launch) (Γ : GP) (G : GH) {m : Nat} {σ : MS} {th : Int32} {B : Nat → Nat} (hW : WF σ) (hM : MP Γ G m σ th B) {x : Int32} : MetG l yX2_isPolicy (ws_ yX2_isPolicy cX2_isPolicy 2 (some .boolean)) (RM 2 0 0) Γ G [.ref m, .int x] (fun v G1 => v = some (.int (if bdP (nI (σ.1 0)) x then 0 else 1)) ∧ G = G1) 0 0 := by
  refine gMet (own := RX2) (by decide) rfl (Nat.le_of_ble_eq_true rfl) ?_
  intro pp ee ss mm below meth cc0 ls X hr hlk hin hnm hR hS hl
  have hl : lv_has ls 2 [(0, .ref m), (1, .int x)] := hl
  have hm : G m = some (MOc (nI (σ.1 0)) (σ.2 12 0) (nI (σ.1 1)) (nI (σ.1 2)) th B) := hM.1
  refine lv_iload_n X.hx X.hb dX2_isPolicy_0 rfl (lv_at hl 1 rfl) ?_
  refine lv_iconst (v := 0) X.hx X.hb dX2_isPolicy_1 (by decide) ?_
  refine lv_aload_n X.hx X.hb dX2_isPolicy_2 rfl (lv_at hl 0 rfl) ?_
  refine g_get X hR hm rfl in_X2 0 (by decide) q1295 (fun _ h => h) rfl dX2_isPolicy_3 ?_
  refine lv_iconst (v := 1) X.hx X.hb dX2_isPolicy_6 (by decide) ?_
  refine lv_isub X.hx X.hb dX2_isPolicy_7 ?_
  refine gcS X hl.1 hR hS 3 [.int x, .int 0, .int ((nI (σ.1 0)) - 1)] [] (m_isIn l Γ G) q1368 q1369 q40 q1370 rfl rfl ⟨by decide +kernel, by decide +kernel, by decide +kernel⟩ ⟨by (try dsimp only [RM]); omega, by (try dsimp only [RM]); omega⟩ rfl rfl (Nat.le_of_ble_eq_true rfl) dX2_isPolicy_8 ⟨by (try dsimp only [RM]); omega, by (try dsimp only [RM]); omega⟩ (fun v210 G211 H locs hq207 hR208 hS209 => ?_)
  obtain ⟨rfl, rfl⟩ := hq207
  exact g_zret X hr hlk hR208 hS209 (nar_bool (ite01 _)) (⟨by rw [ite_iff (bad_pl (Nat.lt_of_le_of_lt hW.1 (by decide)))], rfl⟩) (by (try dsimp only [RM]); omega) (by (try dsimp only [RM]); omega) dX2_isPolicy_11

set_option maxHeartbeats 4000000 in
theorem m_bounded (l : Launch) (Γ : GP) (G : GH) {x : Int32} : MetG l yX2_bounded (ws_ yX2_bounded cX2_bounded 1 (some .int)) (RM 1 0 0) Γ G [.int x] (fun v G1 => v = some (.int (bnd x)) ∧ G = G1) 0 0 := by
  refine gMet (own := RX2) (by decide) rfl (Nat.le_of_ble_eq_true rfl) ?_
  intro pp ee ss mm below meth cc0 ls X hr hlk hin hnm hR hS hl
  have hl : lv_has ls 1 [(0, .int x)] := hl
  refine lv_iload_n X.hx X.hb dX2_bounded_0 rfl (lv_at hl 0 rfl) ?_
  refine lv_if_ge (tgt := 8) X.hx X.hb dX2_bounded_1 (by decide) (fun c1 => ?_) (fun c1 => ?_)
  · refine lv_iload_n X.hx X.hb dX2_bounded_8 rfl (lv_at hl 0 rfl) ?_
    refine lv_bipush (v := 20) X.hx X.hb dX2_bounded_9 (by decide) ?_
    refine lv_icmp_le (tgt := 19) X.hx X.hb dX2_bounded_11 (by decide) (fun c11 => ?_) (fun c11 => ?_)
    · refine lv_iload_n X.hx X.hb dX2_bounded_19 rfl (lv_at hl 0 rfl) ?_
      exact g_iret X hr hlk hR hS (⟨by rw [bnd, if_neg (Int32.not_lt.mpr c1), if_neg (Int32.not_lt.mpr c11)], rfl⟩) (by (try dsimp only [RM]); omega) (by (try dsimp only [RM]); omega) dX2_bounded_20
    · refine lv_bipush (v := 20) X.hx X.hb dX2_bounded_14 (by decide) ?_
      refine lv_goto (tgt := 20) X.hx X.hb dX2_bounded_16 (by decide) ?_
      exact g_iret X hr hlk hR hS (⟨by rw [bnd, if_neg (Int32.not_lt.mpr c1), if_pos (Int32.not_le.mp c11)], rfl⟩) (by (try dsimp only [RM]); omega) (by (try dsimp only [RM]); omega) dX2_bounded_20
  · refine lv_iconst (v := 0) X.hx X.hb dX2_bounded_4 (by decide) ?_
    refine lv_goto (tgt := 20) X.hx X.hb dX2_bounded_5 (by decide) ?_
    exact g_iret X hr hlk hR hS (⟨by rw [bnd, if_pos (Int32.not_le.mp c1)], rfl⟩) (by (try dsimp only [RM]); omega) (by (try dsimp only [RM]); omega) dX2_bounded_20

set_option maxHeartbeats 4000000 in
theorem m_thrown (l : Launch) (Γ : GP) (G : GH) {m : Nat} {σ : MS} {th : Int32} {B : Nat → Nat} (hW : WF σ) (hM : MP Γ G m σ th B) : MetG l yX2_thrown (ws_ yX2_thrown cX2_thrown 1 (some .int)) (RM 1 0 0) Γ G [.ref m] (fun v G1 => v = some (.int th) ∧ G = G1) 0 0 := by
  refine gMet (own := RX2) (by decide) rfl (Nat.le_of_ble_eq_true rfl) ?_
  intro pp ee ss mm below meth cc0 ls X hr hlk hin hnm hR hS hl
  have hl : lv_has ls 1 [(0, .ref m)] := hl
  have hm : G m = some (MOc (nI (σ.1 0)) (σ.2 12 0) (nI (σ.1 1)) (nI (σ.1 2)) th B) := hM.1
  refine lv_aload_n X.hx X.hb dX2_thrown_0 rfl (lv_at hl 0 rfl) ?_
  refine g_get X hR hm rfl in_X2 20 (by decide) q1315 (fun _ h => h) rfl dX2_thrown_1 ?_
  exact g_iret X hr hlk hR hS (⟨rfl, rfl⟩) (by (try dsimp only [RM]); omega) (by (try dsimp only [RM]); omega) dX2_thrown_4

set_option maxHeartbeats 4000000 in
theorem m_isKnown (l : Launch) (Γ : GP) (G : GH) {m : Nat} {σ : MS} {th : Int32} {B : Nat → Nat} (hW : WF σ) (hM : MP Γ G m σ th B) {k : Nat} (hk : k < σ.1 2) {d : Int32} : MetG l yX2_isKnown (ws_ yX2_isKnown cX2_isKnown 3 (some .boolean)) (RM 1 0 0) Γ G [.ref m, .int (nI k), .int d] (fun v G1 => v = some (.int (if knw σ k d then 1 else 0)) ∧ G = G1) 0 0 := by
  refine gMet (own := RX2) (by decide) rfl (Nat.le_of_ble_eq_true rfl) ?_
  intro pp ee ss mm below meth cc0 ls X hr hlk hin hnm hR hS hl
  have hl : lv_has ls 3 [(0, .ref m), (1, .int (nI k)), (2, .int d)] := hl
  have hm : G m = some (MOc (nI (σ.1 0)) (σ.2 12 0) (nI (σ.1 1)) (nI (σ.1 2)) th B) := hM.1
  have hr10 : G (B 10) = some ((31, 10), .inl (Γ.2 1, 60, .inl (σ.2 10))) := hM.2.1 10 (by decide)
  have hr11 : G (B 11) = some ((31, 11), .inl (Γ.2 1, 60, .inl (σ.2 11))) := hM.2.1 11 (by decide)
  have hn60 := hW.2.2.1
  have hk60 : k < 60 := by omega
  refine lv_aload_n X.hx X.hb dX2_isKnown_0 rfl (lv_at hl 0 rfl) ?_
  refine g_get X hR hm rfl in_X2 14 (by decide) q1309 (fun _ h => h) rfl dX2_isKnown_1 ?_
  refine lv_iload_n X.hx X.hb dX2_isKnown_4 rfl (lv_at hl 1 rfl) ?_
  refine g_iald (v := σ.2 10 k) X hR hr10 (vp_in_nI hk60 (by decide)) (by rw [nI_clamp (by omega)]) dX2_isKnown_5 ?_
  refine lv_iload_n X.hx X.hb dX2_isKnown_6 rfl (lv_at hl 2 rfl) ?_
  refine lv_icmp_gt (tgt := 33) X.hx X.hb dX2_isKnown_7 (by decide) (fun c7 => ?_) (fun c7 => ?_)
  · refine lv_iconst (v := 0) X.hx X.hb dX2_isKnown_33 (by decide) ?_
    exact g_zret X hr hlk hR hS rfl (⟨by rw [if_neg (fun h9 => absurd h9.1 (Int32.not_le.mpr c7))], rfl⟩) (by (try dsimp only [RM]); omega) (by (try dsimp only [RM]); omega) dX2_isKnown_34
  · refine lv_aload_n X.hx X.hb dX2_isKnown_10 rfl (lv_at hl 0 rfl) ?_
    refine g_get X hR hm rfl in_X2 15 (by decide) q1310 (fun _ h => h) rfl dX2_isKnown_11 ?_
    refine lv_iload_n X.hx X.hb dX2_isKnown_14 rfl (lv_at hl 1 rfl) ?_
    refine g_iald (v := σ.2 11 k) X hR hr11 (vp_in_nI hk60 (by decide)) (by rw [nI_clamp (by omega)]) dX2_isKnown_15 ?_
    refine lv_if_lt (tgt := 29) X.hx X.hb dX2_isKnown_16 (by decide) (fun c16 => ?_) (fun c16 => ?_)
    · refine lv_iconst (v := 1) X.hx X.hb dX2_isKnown_29 (by decide) ?_
      refine lv_goto (tgt := 34) X.hx X.hb dX2_isKnown_30 (by decide) ?_
      exact g_zret X hr hlk hR hS rfl (⟨by rw [if_pos ⟨Int32.not_lt.mp c7, Or.inl c16⟩], rfl⟩) (by (try dsimp only [RM]); omega) (by (try dsimp only [RM]); omega) dX2_isKnown_34
    · refine lv_aload_n X.hx X.hb dX2_isKnown_19 rfl (lv_at hl 0 rfl) ?_
      refine g_get X hR hm rfl in_X2 15 (by decide) q1310 (fun _ h => h) rfl dX2_isKnown_20 ?_
      refine lv_iload_n X.hx X.hb dX2_isKnown_23 rfl (lv_at hl 1 rfl) ?_
      refine g_iald (v := σ.2 11 k) X hR hr11 (vp_in_nI hk60 (by decide)) (by rw [nI_clamp (by omega)]) dX2_isKnown_24 ?_
      refine lv_iload_n X.hx X.hb dX2_isKnown_25 rfl (lv_at hl 2 rfl) ?_
      refine lv_icmp_le (tgt := 33) X.hx X.hb dX2_isKnown_26 (by decide) (fun c25 => ?_) (fun c25 => ?_)
      · refine lv_iconst (v := 0) X.hx X.hb dX2_isKnown_33 (by decide) ?_
        exact g_zret X hr hlk hR hS rfl (⟨by rw [if_neg (fun h9 => h9.2.elim c16 (fun h => absurd h (Int32.not_lt.mpr c25)))], rfl⟩) (by (try dsimp only [RM]); omega) (by (try dsimp only [RM]); omega) dX2_isKnown_34
      · refine lv_iconst (v := 1) X.hx X.hb dX2_isKnown_29 (by decide) ?_
        refine lv_goto (tgt := 34) X.hx X.hb dX2_isKnown_30 (by decide) ?_
        exact g_zret X hr hlk hR hS rfl (⟨by rw [if_pos ⟨Int32.not_lt.mp c7, Or.inr (Int32.not_le.mp c25)⟩], rfl⟩) (by (try dsimp only [RM]); omega) (by (try dsimp only [RM]); omega) dX2_isKnown_34

