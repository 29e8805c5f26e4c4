set_option maxRecDepth 100000
/-! java.util.TreeMap: nodes by numbers -/
theorem knv {o v : Option Nat} {N : Nat → Nat} (h : o = v) : some (va_rf (o.map N)) = some (va_rf (v.map N)) := by rw [h]
abbrev nC (k : Nat) (a b : Nat) (l r p : Option Nat) (c : Int32) : gE := ((11, k), .inr (8, [.ref a, .ref b, va_rf l, va_rf r, va_rf p, .int c]))
abbrev nE (N K V : Nat → Nat) (L R P : Nat → Option Nat) (C : Nat → Int32) (k : Nat) : gE := nC k (K k) (V k) ((L k).map N) ((R k).map N) ((P k).map N) (C k)
def TH (G : GH) (S : Nat → Prop) (N K V : Nat → Nat) (L R P : Nat → Option Nat) (C : Nat → Int32) : Prop := (∀ k, S k → G (N k) = some (nE N K V L R P C k)) ∧ ∀ k, S k → C k = 0 ∨ C k = 1
abbrev TMc (p : Nat) (vw root : Option Nat) (sz mo : Int32) : gE := ((4, p), .inr (7, [.null, va_rf vw, .null, va_rf root, .int sz, .int mo, .null, .null, .null]))
/-- the tags of a tree -/
def tN (S : Nat → Prop) (t : Nat × Nat) : Prop := ∃ k, S k ∧ t = (11, k)
def tT (p : Nat) (S : Nat → Prop) (t : Nat × Nat) : Prop := t = (4, p) ∨ ∃ k, S k ∧ t = (11, k)
section THs
variable {G G1 : GH} {S : Nat → Prop} {N K V : Nat → Nat} {L R P : Nat → Option Nat} {C : Nat → Int32} {x : Nat}
theorem TH.ne (h : TH G S N K V L R P C) {j k : Nat} (hj : S j) (hk : S k) (e : j ≠ k) : N j ≠ N k := g_ne (h.1 j hj) (h.1 k hk) (tne2 e)
theorem TH.putL (h : TH G S N K V L R P C) (hx : S x) {y : Option Nat} (e : G1 = gu G (N x) (nC x (K x) (V x) (y.map N) ((R x).map N) ((P x).map N) (C x))) : TH G1 S N K V (va_up L x y) R P C := by
  refine ⟨fun k hk => ?_, h.2⟩
  rw [e]
  by_cases hkx : k = x
  · subst hkx; rw [gu_s]; unfold nE; rw [va_up_self]
  · rw [gu_n (h.ne hk hx hkx)]; unfold nE; rw [va_up_ne _ _ hkx]; exact h.1 k hk
theorem TH.putR (h : TH G S N K V L R P C) (hx : S x) {y : Option Nat} (e : G1 = gu G (N x) (nC x (K x) (V x) ((L x).map N) (y.map N) ((P x).map N) (C x))) : TH G1 S N K V L (va_up R x y) P C := by
  refine ⟨fun k hk => ?_, h.2⟩
  rw [e]
  by_cases hkx : k = x
  · subst hkx; rw [gu_s]; unfold nE; rw [va_up_self]
  · rw [gu_n (h.ne hk hx hkx)]; unfold nE; rw [va_up_ne _ _ hkx]; exact h.1 k hk
theorem TH.putP (h : TH G S N K V L R P C) (hx : S x) {y : Option Nat} (e : G1 = gu G (N x) (nC x (K x) (V x) ((L x).map N) ((R x).map N) (y.map N) (C x))) : TH G1 S N K V L R (va_up P x y) C := by
  refine ⟨fun k hk => ?_, h.2⟩
  rw [e]
  by_cases hkx : k = x
  · subst hkx; rw [gu_s]; unfold nE; rw [va_up_self]
  · rw [gu_n (h.ne hk hx hkx)]; unfold nE; rw [va_up_ne _ _ hkx]; exact h.1 k hk
theorem TH.putC (h : TH G S N K V L R P C) (hx : S x) {y : Int32} (e : G1 = gu G (N x) (nC x (K x) (V x) ((L x).map N) ((R x).map N) ((P x).map N) y)) (hy : y = 0 ∨ y = 1) : TH G1 S N K V L R P (va_up C x y) := by
  refine ⟨fun k hk => ?_, fun k hk => ?_⟩
  · rw [e]
    by_cases hkx : k = x
    · subst hkx; rw [gu_s]; unfold nE; rw [va_up_self]
    · rw [gu_n (h.ne hk hx hkx)]; unfold nE; rw [va_up_ne _ _ hkx]; exact h.1 k hk
  · by_cases hkx : k = x
    · subst hkx; rw [va_up_self]; exact hy
    · rw [va_up_ne _ _ hkx]; exact h.2 k hk
theorem TH.off (h : TH G S N K V L R P C) {a : Nat} {z y : gE} (e : G1 = gu G a y) (ha : G a = some z) (hz : z.1.1 ≠ 11) : TH G1 S N K V L R P C :=
  ⟨fun k hk => by rw [e]; exact gu_t (h.1 k hk) ha (fun e9 => hz (by rw [← e9])), h.2⟩
theorem TH.new (h : TH G S N K V L R P C) {a : Nat} {y : gE} (e : G1 = gu G a y) (ha : G a = none) : TH G1 S N K V L R P C :=
  ⟨fun k hk => by rw [e]; exact gu_f (h.1 k hk) ha, h.2⟩
theorem TH.keep {T : Nat × Nat → Prop} (h : TH G S N K V L R P C) (hk : gK T G G1) (hT : ∀ k, S k → ¬ T (11, k)) : TH G1 S N K V L R P C :=
  ⟨fun k hS => hk _ _ (h.1 k hS) (hT k hS), h.2⟩
end THs

set_option maxHeartbeats 4000000 in
theorem c_parentOfS (l : Launch) (Γ : GP) (G : GH) {S : Nat → Prop} {N K V : Nat → Nat} {L R P : Nat → Option Nat} {C : Nat → Int32} (hT : TH G S N K V L R P C) {x : Nat} (hx : S x) : MetG l yJ9_parentOf (ws_ yJ9_parentOf cJ9_parentOf 1 (some (.object "java/util/TreeMap$Entry"))) (RM 1 0 0) Γ G [.ref (N x)] (fun v G1 => v = some (va_rf ((P x).map N)) ∧ G = G1) 0 0 := by
  refine gMet (own := RJ9) (by decide) rfl (Nat.le_of_ble_eq_true rfl) ?_
  intro pp ee ss mm below meth cc0 ls X hr hlk hin hnm hR hS hl
  have hl : lv_has ls 1 [(0, .ref (N x))] := hl
  refine lv_aload_n X.hx X.hb dJ9_parentOf_0 rfl (lv_at hl 0 rfl) ?_
  refine lv_ifnonnull (tgt := 8) X.hx X.hb dJ9_parentOf_1 (by decide) ?_
  refine lv_aload_n X.hx X.hb dJ9_parentOf_8 rfl (lv_at hl 0 rfl) ?_
  refine g_get (v := va_rf ((P x).map N)) X hR (hT.1 x hx) rfl in_J21 4 (by decide) q623 (fun _ h => h) rfl dJ9_parentOf_9 ?_
  exact g_aret X hr (Or.inl ⟨_, rfl⟩) hlk hR hS (⟨rfl, rfl⟩) (by (try dsimp only [RM]); omega) (by (try dsimp only [RM]); omega) dJ9_parentOf_12

set_option maxHeartbeats 4000000 in
theorem c_parentOfN (l : Launch) (Γ : GP) (G : GH)  : MetG l yJ9_parentOf (ws_ yJ9_parentOf cJ9_parentOf 1 (some (.object "java/util/TreeMap$Entry"))) (RM 1 0 0) Γ G [.null] (fun v G1 => v = some .null ∧ G = G1) 0 0 := by
  refine gMet (own := RJ9) (by decide) rfl (Nat.le_of_ble_eq_true rfl) ?_
  intro pp ee ss mm below meth cc0 ls X hr hlk hin hnm hR hS hl
  have hl : lv_has ls 1 [(0, .null)] := hl
  refine lv_aload_nN X.hx X.hb dJ9_parentOf_0 rfl (lv_at hl 0 rfl) ?_
  refine lv_ifnonnullN X.hx X.hb dJ9_parentOf_1 ?_
  refine lv_null X.hx X.hb dJ9_parentOf_4 ?_
  refine lv_goto (tgt := 12) X.hx X.hb dJ9_parentOf_5 (by decide) ?_
  exact g_aret (r := none) X hr (Or.inl ⟨_, rfl⟩) hlk hR hS (⟨rfl, rfl⟩) (by (try dsimp only [RM]); omega) (by (try dsimp only [RM]); omega) dJ9_parentOf_12

set_option maxHeartbeats 4000000 in
theorem c_leftOfS (l : Launch) (Γ : GP) (G : GH) {S : Nat → Prop} {N K V : Nat → Nat} {L R P : Nat → Option Nat} {C : Nat → Int32} (hT : TH G S N K V L R P C) {x : Nat} (hx : S x) : MetG l yJ9_leftOf (ws_ yJ9_leftOf cJ9_leftOf 1 (some (.object "java/util/TreeMap$Entry"))) (RM 1 0 0) Γ G [.ref (N x)] (fun v G1 => v = some (va_rf ((L x).map N)) ∧ G = G1) 0 0 := by
  refine gMet (own := RJ9) (by decide) rfl (Nat.le_of_ble_eq_true rfl) ?_
  intro pp ee ss mm below meth cc0 ls X hr hlk hin hnm hR hS hl
  have hl : lv_has ls 1 [(0, .ref (N x))] := hl
  refine lv_aload_n X.hx X.hb dJ9_leftOf_0 rfl (lv_at hl 0 rfl) ?_
  refine lv_ifnonnull (tgt := 8) X.hx X.hb dJ9_leftOf_1 (by decide) ?_
  refine lv_aload_n X.hx X.hb dJ9_leftOf_8 rfl (lv_at hl 0 rfl) ?_
  refine g_get (v := va_rf ((L x).map N)) X hR (hT.1 x hx) rfl in_J21 2 (by decide) q620 (fun _ h => h) rfl dJ9_leftOf_9 ?_
  exact g_aret X hr (Or.inl ⟨_, rfl⟩) hlk hR hS (⟨rfl, rfl⟩) (by (try dsimp only [RM]); omega) (by (try dsimp only [RM]); omega) dJ9_leftOf_12

set_option maxHeartbeats 4000000 in
theorem c_leftOfN (l : Launch) (Γ : GP) (G : GH)  : MetG l yJ9_leftOf (ws_ yJ9_leftOf cJ9_leftOf 1 (some (.object "java/util/TreeMap$Entry"))) (RM 1 0 0) Γ G [.null] (fun v G1 => v = some .null ∧ G = G1) 0 0 := by
  refine gMet (own := RJ9) (by decide) rfl (Nat.le_of_ble_eq_true rfl) ?_
  intro pp ee ss mm below meth cc0 ls X hr hlk hin hnm hR hS hl
  have hl : lv_has ls 1 [(0, .null)] := hl
  refine lv_aload_nN X.hx X.hb dJ9_leftOf_0 rfl (lv_at hl 0 rfl) ?_
  refine lv_ifnonnullN X.hx X.hb dJ9_leftOf_1 ?_
  refine lv_null X.hx X.hb dJ9_leftOf_4 ?_
  refine lv_goto (tgt := 12) X.hx X.hb dJ9_leftOf_5 (by decide) ?_
  exact g_aret (r := none) X hr (Or.inl ⟨_, rfl⟩) hlk hR hS (⟨rfl, rfl⟩) (by (try dsimp only [RM]); omega) (by (try dsimp only [RM]); omega) dJ9_leftOf_12

set_option maxHeartbeats 4000000 in
theorem c_rightOfS (l : Launch) (Γ : GP) (G : GH) {S : Nat → Prop} {N K V : Nat → Nat} {L R P : Nat → Option Nat} {C : Nat → Int32} (hT : TH G S N K V L R P C) {x : Nat} (hx : S x) : MetG l yJ9_rightOf (ws_ yJ9_rightOf cJ9_rightOf 1 (some (.object "java/util/TreeMap$Entry"))) (RM 1 0 0) Γ G [.ref (N x)] (fun v G1 => v = some (va_rf ((R x).map N)) ∧ G = G1) 0 0 := by
  refine gMet (own := RJ9) (by decide) rfl (Nat.le_of_ble_eq_true rfl) ?_
  intro pp ee ss mm below meth cc0 ls X hr hlk hin hnm hR hS hl
  have hl : lv_has ls 1 [(0, .ref (N x))] := hl
  refine lv_aload_n X.hx X.hb dJ9_rightOf_0 rfl (lv_at hl 0 rfl) ?_
  refine lv_ifnonnull (tgt := 8) X.hx X.hb dJ9_rightOf_1 (by decide) ?_
  refine lv_aload_n X.hx X.hb dJ9_rightOf_8 rfl (lv_at hl 0 rfl) ?_
  refine g_get (v := va_rf ((R x).map N)) X hR (hT.1 x hx) rfl in_J21 3 (by decide) q621 (fun _ h => h) rfl dJ9_rightOf_9 ?_
  exact g_aret X hr (Or.inl ⟨_, rfl⟩) hlk hR hS (⟨rfl, rfl⟩) (by (try dsimp only [RM]); omega) (by (try dsimp only [RM]); omega) dJ9_rightOf_12

set_option maxHeartbeats 4000000 in
theorem c_rightOfN (l : Launch) (Γ : GP) (G : GH)  : MetG l yJ9_rightOf (ws_ yJ9_rightOf cJ9_rightOf 1 (some (.object "java/util/TreeMap$Entry"))) (RM 1 0 0) Γ G [.null] (fun v G1 => v = some .null ∧ G = G1) 0 0 := by
  refine gMet (own := RJ9) (by decide) rfl (Nat.le_of_ble_eq_true rfl) ?_
  intro pp ee ss mm below meth cc0 ls X hr hlk hin hnm hR hS hl
  have hl : lv_has ls 1 [(0, .null)] := hl
  refine lv_aload_nN X.hx X.hb dJ9_rightOf_0 rfl (lv_at hl 0 rfl) ?_
  refine lv_ifnonnullN X.hx X.hb dJ9_rightOf_1 ?_
  refine lv_null X.hx X.hb dJ9_rightOf_4 ?_
  refine lv_goto (tgt := 12) X.hx X.hb dJ9_rightOf_5 (by decide) ?_
  exact g_aret (r := none) X hr (Or.inl ⟨_, rfl⟩) hlk hR hS (⟨rfl, rfl⟩) (by (try dsimp only [RM]); omega) (by (try dsimp only [RM]); omega) dJ9_rightOf_12

set_option maxHeartbeats 4000000 in
theorem c_colorOfS (l : Launch) (Γ : GP) (G : GH) {S : Nat → Prop} {N K V : Nat → Nat} {L R P : Nat → Option Nat} {C : Nat → Int32} (hT : TH G S N K V L R P C) {x : Nat} (hx : S x) : MetG l yJ9_colorOf (ws_ yJ9_colorOf cJ9_colorOf 1 (some .boolean)) (RM 1 0 0) Γ G [.ref (N x)] (fun v G1 => v = some (.int (C x)) ∧ G = G1) 0 0 := by
  refine gMet (own := RJ9) (by decide) rfl (Nat.le_of_ble_eq_true rfl) ?_
  intro pp ee ss mm below meth cc0 ls X hr hlk hin hnm hR hS hl
  have hl : lv_has ls 1 [(0, .ref (N x))] := hl
  refine lv_aload_n X.hx X.hb dJ9_colorOf_0 rfl (lv_at hl 0 rfl) ?_
  refine lv_ifnonnull (tgt := 8) X.hx X.hb dJ9_colorOf_1 (by decide) ?_
  refine lv_aload_n X.hx X.hb dJ9_colorOf_8 rfl (lv_at hl 0 rfl) ?_
  refine g_get (v := .int (C x)) X hR (hT.1 x hx) rfl in_J21 5 (by decide) q625 (fun _ h => h) rfl dJ9_colorOf_9 ?_
  exact g_zret X hr hlk hR hS (nar_bool (hT.2 x hx)) (⟨rfl, rfl⟩) (by (try dsimp only [RM]); omega) (by (try dsimp only [RM]); omega) dJ9_colorOf_12

set_option maxHeartbeats 4000000 in
theorem c_colorOfN (l : Launch) (Γ : GP) (G : GH)  : MetG l yJ9_colorOf (ws_ yJ9_colorOf cJ9_colorOf 1 (some .boolean)) (RM 1 0 0) Γ G [.null] (fun v G1 => v = some (.int 1) ∧ G = G1) 0 0 := by
  refine gMet (own := RJ9) (by decide) rfl (Nat.le_of_ble_eq_true rfl) ?_
  intro pp ee ss mm below meth cc0 ls X hr hlk hin hnm hR hS hl
  have hl : lv_has ls 1 [(0, .null)] := hl
  refine lv_aload_nN X.hx X.hb dJ9_colorOf_0 rfl (lv_at hl 0 rfl) ?_
  refine lv_ifnonnullN X.hx X.hb dJ9_colorOf_1 ?_
  refine lv_iconst (v := 1) X.hx X.hb dJ9_colorOf_4 (by decide) ?_
  refine lv_goto (tgt := 12) X.hx X.hb dJ9_colorOf_5 (by decide) ?_
  exact g_zret X hr hlk hR hS rfl (⟨rfl, rfl⟩) (by (try dsimp only [RM]); omega) (by (try dsimp only [RM]); omega) dJ9_colorOf_12

set_option maxHeartbeats 4000000 in
theorem c_setColorS0 (l : Launch) (Γ : GP) (G : GH) {S : Nat → Prop} {N K V : Nat → Nat} {L R P : Nat → Option Nat} {C : Nat → Int32} (hT : TH G S N K V L R P C) {x : Nat} (hx : S x) : MetG l yJ9_setColor (ws_ yJ9_setColor cJ9_setColor 2 none) (RM 1 0 0) Γ G [.ref (N x), .int 0] (fun v G1 => v = none ∧ gK (tN S) G G1 ∧ TH G1 S N K V L R P (va_up C x 0)) 0 0 := by
  refine gMet (own := RJ9) (by decide) rfl (Nat.le_of_ble_eq_true rfl) ?_
  intro pp ee ss mm below meth cc0 ls X hr hlk hin hnm hR hS hl
  have hl : lv_has ls 2 [(0, .ref (N x)), (1, .int 0)] := hl
  refine lv_aload_n X.hx X.hb dJ9_setColor_0 rfl (lv_at hl 0 rfl) ?_
  refine lv_ifnull X.hx X.hb dJ9_setColor_1 ?_
  refine lv_aload_n X.hx X.hb dJ9_setColor_4 rfl (lv_at hl 0 rfl) ?_
  refine lv_iload_n X.hx X.hb dJ9_setColor_5 rfl (lv_at hl 1 rfl) ?_
  refine g_put X hR hS (hT.1 x hx) (Nat.le_of_ble_eq_true rfl) rfl in_J21 tyJ21 tyJ21_ok nmJ21 5 (by decide) q625 (fun _ h => h) rfl rfl rfl (Nat.le_of_ble_eq_true rfl) dJ9_setColor_6 (fun H locs hR197 hS198 => ?_)
  obtain ⟨G199, hG199⟩ : ∃ z : GH, z = gu G (N x) ((11, x), .inr (8, [.ref (K x), .ref (V x), va_rf ((L x).map N), va_rf ((R x).map N), va_rf ((P x).map N), .int 0])) := ⟨_, rfl⟩
  have hR197 : Rep Γ G199 H := by rw [hG199]; exact hR197
  obtain ⟨C200, eC200⟩ : ∃ z, z = va_up C x 0 := ⟨_, rfl⟩
  have hT201 := TH.putC hT hx (y := 0) hG199 (by decide)
  rw [← eC200] at hT201
  have k202 : C200 x = 0 := by rw [eC200]; exact va_up_self _ _ _
  exact g_vret X hr hlk hR197 hS198 (⟨rfl, (gK.pt hG199 (hT.1 x hx) ⟨x, hx, rfl⟩), by rw [← eC200]; exact hT201⟩) (by (try dsimp only [RM]); omega) (by (try dsimp only [RM]); omega) dJ9_setColor_9

set_option maxHeartbeats 4000000 in
theorem c_setColorS1 (l : Launch) (Γ : GP) (G : GH) {S : Nat → Prop} {N K V : Nat → Nat} {L R P : Nat → Option Nat} {C : Nat → Int32} (hT : TH G S N K V L R P C) {x : Nat} (hx : S x) : MetG l yJ9_setColor (ws_ yJ9_setColor cJ9_setColor 2 none) (RM 1 0 0) Γ G [.ref (N x), .int 1] (fun v G1 => v = none ∧ gK (tN S) G G1 ∧ TH G1 S N K V L R P (va_up C x 1)) 0 0 := by
  refine gMet (own := RJ9) (by decide) rfl (Nat.le_of_ble_eq_true rfl) ?_
  intro pp ee ss mm below meth cc0 ls X hr hlk hin hnm hR hS hl
  have hl : lv_has ls 2 [(0, .ref (N x)), (1, .int 1)] := hl
  refine lv_aload_n X.hx X.hb dJ9_setColor_0 rfl (lv_at hl 0 rfl) ?_
  refine lv_ifnull X.hx X.hb dJ9_setColor_1 ?_
  refine lv_aload_n X.hx X.hb dJ9_setColor_4 rfl (lv_at hl 0 rfl) ?_
  refine lv_iload_n X.hx X.hb dJ9_setColor_5 rfl (lv_at hl 1 rfl) ?_
  refine g_put X hR hS (hT.1 x hx) (Nat.le_of_ble_eq_true rfl) rfl in_J21 tyJ21 tyJ21_ok nmJ21 5 (by decide) q625 (fun _ h => h) rfl rfl rfl (Nat.le_of_ble_eq_true rfl) dJ9_setColor_6 (fun H locs hR203 hS204 => ?_)
  obtain ⟨G205, hG205⟩ : ∃ z : GH, z = gu G (N x) ((11, x), .inr (8, [.ref (K x), .ref (V x), va_rf ((L x).map N), va_rf ((R x).map N), va_rf ((P x).map N), .int 1])) := ⟨_, rfl⟩
  have hR203 : Rep Γ G205 H := by rw [hG205]; exact hR203
  obtain ⟨C206, eC206⟩ : ∃ z, z = va_up C x 1 := ⟨_, rfl⟩
  have hT207 := TH.putC hT hx (y := 1) hG205 (by decide)
  rw [← eC206] at hT207
  have k208 : C206 x = 1 := by rw [eC206]; exact va_up_self _ _ _
  exact g_vret X hr hlk hR203 hS204 (⟨rfl, (gK.pt hG205 (hT.1 x hx) ⟨x, hx, rfl⟩), by rw [← eC206]; exact hT207⟩) (by (try dsimp only [RM]); omega) (by (try dsimp only [RM]); omega) dJ9_setColor_9

set_option maxHeartbeats 4000000 in
theorem c_setColorN (l : Launch) (Γ : GP) (G : GH) {c : Int32} : MetG l yJ9_setColor (ws_ yJ9_setColor cJ9_setColor 2 none) (RM 1 0 0) Γ G [.null, .int c] (fun v G1 => v = none ∧ G = G1) 0 0 := by
  refine gMet (own := RJ9) (by decide) rfl (Nat.le_of_ble_eq_true rfl) ?_
  intro pp ee ss mm below meth cc0 ls X hr hlk hin hnm hR hS hl
  have hl : lv_has ls 2 [(0, .null), (1, .int c)] := hl
  refine lv_aload_nN X.hx X.hb dJ9_setColor_0 rfl (lv_at hl 0 rfl) ?_
  refine lv_ifnullN (tgt := 9) X.hx X.hb dJ9_setColor_1 (by decide) ?_
  exact g_vret X hr hlk hR hS (⟨rfl, rfl⟩) (by (try dsimp only [RM]); omega) (by (try dsimp only [RM]); omega) dJ9_setColor_9

theorem c_parentOfK (l : Launch) (Γ : GP) (G : GH) {S : Nat → Prop} {N K V : Nat → Nat} {L R P : Nat → Option Nat} {C : Nat → Int32} (hT : TH G S N K V L R P C) {x : Nat} (hx : S x) {y : Nat} (h : P x = some y) : MetG l yJ9_parentOf (ws_ yJ9_parentOf cJ9_parentOf 1 (some (.object "java/util/TreeMap$Entry"))) (RM 1 0 0) Γ G [.ref (N x)] (fun v G1 => v = some (.ref (N y)) ∧ G = G1) 0 0 := by
  have := c_parentOfS l Γ G hT hx
  rw [h] at this
  exact this
theorem c_parentOfKN (l : Launch) (Γ : GP) (G : GH) {S : Nat → Prop} {N K V : Nat → Nat} {L R P : Nat → Option Nat} {C : Nat → Int32} (hT : TH G S N K V L R P C) {x : Nat} (hx : S x) (h : P x = none) : MetG l yJ9_parentOf (ws_ yJ9_parentOf cJ9_parentOf 1 (some (.object "java/util/TreeMap$Entry"))) (RM 1 0 0) Γ G [.ref (N x)] (fun v G1 => v = some .null ∧ G = G1) 0 0 := by
  have := c_parentOfS l Γ G hT hx
  rw [h] at this
  exact this
theorem c_leftOfK (l : Launch) (Γ : GP) (G : GH) {S : Nat → Prop} {N K V : Nat → Nat} {L R P : Nat → Option Nat} {C : Nat → Int32} (hT : TH G S N K V L R P C) {x : Nat} (hx : S x) {y : Nat} (h : L x = some y) : MetG l yJ9_leftOf (ws_ yJ9_leftOf cJ9_leftOf 1 (some (.object "java/util/TreeMap$Entry"))) (RM 1 0 0) Γ G [.ref (N x)] (fun v G1 => v = some (.ref (N y)) ∧ G = G1) 0 0 := by
  have := c_leftOfS l Γ G hT hx
  rw [h] at this
  exact this
theorem c_leftOfKN (l : Launch) (Γ : GP) (G : GH) {S : Nat → Prop} {N K V : Nat → Nat} {L R P : Nat → Option Nat} {C : Nat → Int32} (hT : TH G S N K V L R P C) {x : Nat} (hx : S x) (h : L x = none) : MetG l yJ9_leftOf (ws_ yJ9_leftOf cJ9_leftOf 1 (some (.object "java/util/TreeMap$Entry"))) (RM 1 0 0) Γ G [.ref (N x)] (fun v G1 => v = some .null ∧ G = G1) 0 0 := by
  have := c_leftOfS l Γ G hT hx
  rw [h] at this
  exact this
theorem c_rightOfK (l : Launch) (Γ : GP) (G : GH) {S : Nat → Prop} {N K V : Nat → Nat} {L R P : Nat → Option Nat} {C : Nat → Int32} (hT : TH G S N K V L R P C) {x : Nat} (hx : S x) {y : Nat} (h : R x = some y) : MetG l yJ9_rightOf (ws_ yJ9_rightOf cJ9_rightOf 1 (some (.object "java/util/TreeMap$Entry"))) (RM 1 0 0) Γ G [.ref (N x)] (fun v G1 => v = some (.ref (N y)) ∧ G = G1) 0 0 := by
  have := c_rightOfS l Γ G hT hx
  rw [h] at this
  exact this
theorem c_rightOfKN (l : Launch) (Γ : GP) (G : GH) {S : Nat → Prop} {N K V : Nat → Nat} {L R P : Nat → Option Nat} {C : Nat → Int32} (hT : TH G S N K V L R P C) {x : Nat} (hx : S x) (h : R x = none) : MetG l yJ9_rightOf (ws_ yJ9_rightOf cJ9_rightOf 1 (some (.object "java/util/TreeMap$Entry"))) (RM 1 0 0) Γ G [.ref (N x)] (fun v G1 => v = some .null ∧ G = G1) 0 0 := by
  have := c_rightOfS l Γ G hT hx
  rw [h] at this
  exact this
theorem c_colorOfK (l : Launch) (Γ : GP) (G : GH) {S : Nat → Prop} {N K V : Nat → Nat} {L R P : Nat → Option Nat} {C : Nat → Int32} (hT : TH G S N K V L R P C) {x : Nat} (hx : S x) {c : Int32} (h : C x = c) : MetG l yJ9_colorOf (ws_ yJ9_colorOf cJ9_colorOf 1 (some .boolean)) (RM 1 0 0) Γ G [.ref (N x)] (fun v G1 => v = some (.int c) ∧ G = G1) 0 0 := by
  subst h
  exact c_colorOfS l Γ G hT hx