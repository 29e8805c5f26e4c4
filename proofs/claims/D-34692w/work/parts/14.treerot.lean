set_option maxRecDepth 100000
/-! java.util.TreeMap: the rotations and the repair -/
theorem TI_neL {A B : Int} {S : Nat → Prop} {key lo hi : Nat → Int} {L R P : Nat → Option Nat} {root : Option Nat} {p r : Nat} (h : TI A B S key lo hi L R P root) (hp : S p) (hr : R p = some r) :
    S r ∧ p ≠ r ∧ (∀ q, P p = some q → S q ∧ q ≠ p ∧ q ≠ r ∧ (L q = some p ∨ R q = some p)) ∧ (∀ b, L r = some b → S b ∧ b ≠ p ∧ b ≠ r) := by
  obtain ⟨ha, hb, hc, hd, he, hf, hg, hi1, hj, hk⟩ := h
  obtain ⟨hSr, hlor, hhir, hPr⟩ := hd p r hp hr
  have hap := ha p hp
  have har := ha r hSr
  have hne : p ≠ r := by intro e; subst e; omega
  refine ⟨hSr, hne, fun q hq => ?_, fun b h1 => ?_⟩
  · obtain ⟨hSq, h1⟩ := hi1 p q hp hq
    have haq := ha q hSq
    rcases h1 with h1 | h1
    · have h2 := hc q p hSq h1
      refine ⟨hSq, ?_, ?_, Or.inl h1⟩
      · intro e; subst e; omega
      · intro e; subst e; omega
    · have h2 := hd q p hSq h1
      refine ⟨hSq, ?_, ?_, Or.inr h1⟩
      · intro e; subst e; omega
      · intro e; subst e; omega
  · have h2 := hc r b hSr h1
    have hab := ha b h2.1
    refine ⟨h2.1, ?_, ?_⟩
    · intro e; subst e; omega
    · intro e; subst e; omega
theorem TI_neR {A B : Int} {S : Nat → Prop} {key lo hi : Nat → Int} {L R P : Nat → Option Nat} {root : Option Nat} {p r : Nat} (h : TI A B S key lo hi L R P root) (hp : S p) (hr : L p = some r) :
    S r ∧ p ≠ r ∧ (∀ q, P p = some q → S q ∧ q ≠ p ∧ q ≠ r ∧ (R q = some p ∨ L q = some p)) ∧ (∀ b, R r = some b → S b ∧ b ≠ p ∧ b ≠ r) := TI_neL (TI_mirror h) hp hr
theorem TH.inj {G : GH} {S : Nat → Prop} {N K V : Nat → Nat} {L R P : Nat → Option Nat} {C : Nat → Int32} (h : TH G S N K V L R P C) {o : Option Nat} {x : Nat} (ho : ∀ y, o = some y → S y) (hx : S x) (he : o.map N = some (N x)) : o = some x := by
  cases o with
  | none => cases he
  | some y =>
    by_cases e : y = x
    · rw [e]
    · exact absurd (Option.some.inj he) (h.ne (ho y rfl) hx e)
/-- a rotation about p, whose right child is r -/
def Rot (L R P L1 R1 P1 : Nat → Option Nat) (root root1 : Option Nat) (p r : Nat) : Prop :=
  (L1 r = some p) ∧ (∀ k, k ≠ r → P p = some k → L k = some p → L1 k = some r) ∧ (∀ k, k ≠ r → ¬ (P p = some k ∧ L k = some p) → L1 k = L k) ∧
  (R1 p = L r) ∧ (∀ k, k ≠ p → P p = some k → ¬ L k = some p → R1 k = some r) ∧ (∀ k, k ≠ p → ¬ (P p = some k ∧ ¬ L k = some p) → R1 k = R k) ∧
  (P1 p = some r) ∧ (P1 r = P p) ∧ (∀ k, k ≠ p → k ≠ r → L r = some k → P1 k = some p) ∧ (∀ k, k ≠ p → k ≠ r → ¬ L r = some k → P1 k = P k) ∧
  (P p = none → root1 = some r) ∧ (∀ q, P p = some q → root1 = root)
theorem Rot.TI_L {A B : Int} {S : Nat → Prop} {key lo hi : Nat → Int} {L R P L1 R1 P1 : Nat → Option Nat} {root root1 : Option Nat} {p r : Nat} (z : Rot L R P L1 R1 P1 root root1 p r) (h : TI A B S key lo hi L R P root) (hp : S p) (hr : R p = some r) : TI A B S key (va_up lo r (lo p)) (va_up hi p (key r)) L1 R1 P1 root1 := by
  obtain ⟨a, b, c, d, e, f, g, h1, i, j, k, l⟩ := z
  exact TI_rotL h hp hr a b c d e f g h1 i j k l
theorem Rot.TI_R {A B : Int} {S : Nat → Prop} {key lo hi : Nat → Int} {L R P L1 R1 P1 : Nat → Option Nat} {root root1 : Option Nat} {p r : Nat} (z : Rot R L P R1 L1 P1 root root1 p r) (h : TI A B S key lo hi L R P root) (hp : S p) (hr : L p = some r) : TI A B S key (va_up lo p (key r)) (va_up hi r (hi p)) L1 R1 P1 root1 := by
  obtain ⟨a, b, c, d, e, f, g, h1, i, j, k, l⟩ := z
  exact TI_rotR h hp hr a b c d e f g h1 i j k l
/-- the equations of a rotation's writes -/
theorem Rot_mk {L R P L1 R1 P1 : Nat → Option Nat} {root root1 : Option Nat} {p r : Nat} {ob oq : Option Nat}
    (hpr : p ≠ r) (hb : L r = ob) (hq : P p = oq) (nq : ∀ q, oq = some q → q ≠ p ∧ q ≠ r) (nb : ∀ b, ob = some b → b ≠ p ∧ b ≠ r)
    (eL : ∀ k, L1 k = if k = r then some p else if oq = some k ∧ L k = some p then some r else L k)
    (eR : ∀ k, R1 k = if oq = some k ∧ ¬ L k = some p then some r else if k = p then ob else R k)
    (eP : ∀ k, P1 k = if k = p then some r else if k = r then oq else if ob = some k then some p else P k)
    (e0 : oq = none → root1 = some r) (e1 : ∀ q, oq = some q → root1 = root) : Rot L R P L1 R1 P1 root root1 p r := by
  subst hb; subst hq
  refine ⟨?_, ?_, ?_, ?_, ?_, ?_, ?_, ?_, ?_, ?_, e0, e1⟩
  · rw [eL, if_pos rfl]
  · intro k k1 k2 k3; rw [eL, if_neg k1, if_pos ⟨k2, k3⟩]
  · intro k k1 k2; rw [eL, if_neg k1, if_neg k2]
  · rw [eR, if_neg (fun h => (nq p h.1).1 rfl), if_pos rfl]
  · intro k k1 k2 k3; rw [eR, if_pos ⟨k2, k3⟩]
  · intro k k1 k2; rw [eR, if_neg k2, if_neg k1]
  · rw [eP, if_pos rfl]
  · rw [eP, if_neg (Ne.symm hpr), if_pos rfl]
  · intro k k1 k2 k3; rw [eP, if_neg k1, if_neg k2, if_pos k3]
  · intro k k1 k2 k3; rw [eP, if_neg k1, if_neg k2, if_neg k3]

set_option maxHeartbeats 4000000 in
theorem c_rotL (l : Launch) (Γ : GP) (G : GH) {S : Nat → Prop} {N K V : Nat → Nat} {L R P : Nat → Option Nat} {C : Nat → Int32} (hT : TH G S N K V L R P C) {A B : Int} {key lo hi : Nat → Int} {root : Option Nat} (hI : TI A B S key lo hi L R P root) {a p : Nat} {vw : Option Nat} {sz mo : Int32} (hM : G a = some (TMc p vw (root.map N) sz mo)) {x r : Nat} (hx : S x) (hxr : R x = some r) : MetG l yJ9_rotateLeft (ws_ yJ9_rotateLeft cJ9_rotateLeft 3 none) (RM 1 0 0) Γ G [.ref a, .ref (N x)] (fun v G1 => v = none ∧ gK (tT p S) G G1 ∧ ∃ L1 R1 P1 root1, TH G1 S N K V L1 R1 P1 C ∧ G1 a = some (TMc p vw (root1.map N) sz mo) ∧ Rot L R P L1 R1 P1 root root1 x r) 0 0 := by
  refine gMet (own := RJ9) (by decide) rfl (Nat.le_of_ble_eq_true rfl) ?_
  intro pp ee ss mm below meth cc0 ls X hr hlk hin hnm hR hS hl
  have hl : lv_has ls 3 [(0, .ref a), (1, .ref (N x))] := hl
  refine lv_aload_n X.hx X.hb dJ9_rotateLeft_0 rfl (lv_at hl 1 rfl) ?_
  refine lv_ifnull X.hx X.hb dJ9_rotateLeft_1 ?_
  refine lv_aload_n X.hx X.hb dJ9_rotateLeft_4 rfl (lv_at hl 1 rfl) ?_
  refine g_get (v := .ref (N r)) X hR (hT.1 x hx) rfl in_J21 3 (by decide) q621 (fun _ h => h) (knv (N := N) (o := R x) (v := some r) hxr) dJ9_rotateLeft_5 ?_
  refine lv_astore_n (lv' := [(2, .ref (N r)), (0, .ref a), (1, .ref (N x))]) X.hx X.hb dJ9_rotateLeft_8 rfl hl (by decide) rfl (fun ls hl => ?_)
  obtain ⟨hSr, hpr, hq0, hb0⟩ := TI_neL hI hx hxr
  rcases hb : L r with _ | b
  · rcases hq : P x with _ | q
    · refine lv_aload_n X.hx X.hb dJ9_rotateLeft_9 rfl (lv_at hl 2 rfl) ?_
      refine lv_aload_n X.hx X.hb dJ9_rotateLeft_10 rfl (lv_at hl 0 rfl) ?_
      refine g_get (v := .null) X hR (hT.1 r hSr) rfl in_J21 2 (by decide) q620 (fun _ h => h) (knv (N := N) (o := L r) (v := none) hb) dJ9_rotateLeft_11 ?_
      refine g_put X hR hS (hT.1 x hx) (Nat.le_of_ble_eq_true rfl) rfl in_J21 tyJ21 tyJ21_ok nmJ21 3 (by decide) q621 (fun _ h => h) rfl rfl rfl (Nat.le_of_ble_eq_true rfl) dJ9_rotateLeft_14 (fun H locs hR197 hS198 => ?_)
      obtain ⟨G199, hG199⟩ : ∃ z : GH, z = gu G (N x) ((11, x), .inr (8, [.ref (K x), .ref (V x), va_rf ((L x).map N), .null, va_rf ((P x).map N), .int (C x)])) := ⟨_, rfl⟩
      have hR197 : Rep Γ G199 H := by rw [hG199]; exact hR197
      obtain ⟨R200, eR200⟩ : ∃ z, z = va_up R x none := ⟨_, rfl⟩
      have hT201 := TH.putR hT hx (y := none) hG199
      rw [← eR200] at hT201
      have f202 : G199 a = some ((4, p), .inr (7, [.null, va_rf vw, .null, va_rf (root.map N), .int sz, .int mo, .null, .null, .null])) := by rw [hG199]; exact gu_t hM (hT.1 x hx) (tne rfl)
      have k203 : R200 x = none := by rw [eR200]; exact va_up_self _ _ _
      refine lv_aload_n X.hx X.hb dJ9_rotateLeft_17 rfl (lv_at hl 0 rfl) ?_
      refine g_get (v := .null) X hR197 (hT201.1 r hSr) rfl in_J21 2 (by decide) q620 (fun _ h => h) (knv (N := N) (o := L r) (v := none) hb) dJ9_rotateLeft_18 ?_
      refine lv_ifnullN (tgt := 32) X.hx X.hb dJ9_rotateLeft_21 (by decide) ?_
      refine lv_aload_n X.hx X.hb dJ9_rotateLeft_32 rfl (lv_at hl 0 rfl) ?_
      refine lv_aload_n X.hx X.hb dJ9_rotateLeft_33 rfl (lv_at hl 2 rfl) ?_
      refine g_get (v := .null) X hR197 (hT201.1 x hx) rfl in_J21 4 (by decide) q623 (fun _ h => h) (knv (N := N) (o := P x) (v := none) hq) dJ9_rotateLeft_34 ?_
      refine g_put X hR197 hS198 (hT201.1 r hSr) (Nat.le_of_ble_eq_true rfl) rfl in_J21 tyJ21 tyJ21_ok nmJ21 4 (by decide) q623 (fun _ h => h) rfl rfl rfl (Nat.le_of_ble_eq_true rfl) dJ9_rotateLeft_37 (fun H locs hR204 hS205 => ?_)
      obtain ⟨G206, hG206⟩ : ∃ z : GH, z = gu G199 (N r) ((11, r), .inr (8, [.ref (K r), .ref (V r), va_rf ((L r).map N), va_rf ((R200 r).map N), .null, .int (C r)])) := ⟨_, rfl⟩
      have hR204 : Rep Γ G206 H := by rw [hG206]; exact hR204
      obtain ⟨P207, eP207⟩ : ∃ z, z = va_up P r none := ⟨_, rfl⟩
      have hT208 := TH.putP hT201 hSr (y := none) hG206
      rw [← eP207] at hT208
      have f209 : G206 a = some ((4, p), .inr (7, [.null, va_rf vw, .null, va_rf (root.map N), .int sz, .int mo, .null, .null, .null])) := by rw [hG206]; exact gu_t f202 (hT201.1 r hSr) (tne rfl)
      have k210 : P207 x = none := by rw [eP207, va_up_ne _ _ (hpr)]; exact hq
      have k211 : P207 r = none := by rw [eP207]; exact va_up_self _ _ _
      refine lv_aload_n X.hx X.hb dJ9_rotateLeft_40 rfl (lv_at hl 2 rfl) ?_
      refine g_get (v := .null) X hR204 (hT208.1 x hx) rfl in_J21 4 (by decide) q623 (fun _ h => h) (knv (N := N) (o := P207 x) (v := none) k210) dJ9_rotateLeft_41 ?_
      refine lv_ifnonnullN X.hx X.hb dJ9_rotateLeft_44 ?_
      refine lv_aload_n X.hx X.hb dJ9_rotateLeft_47 rfl (lv_at hl 1 rfl) ?_
      refine lv_aload_n X.hx X.hb dJ9_rotateLeft_48 rfl (lv_at hl 0 rfl) ?_
      refine g_put X hR204 hS205 f209 (Nat.le_of_ble_eq_true rfl) rfl in_J9 tyJ9 tyJ9_ok nmJ9 3 (by decide) q264 (fun _ h => h) rfl rfl rfl (Nat.le_of_ble_eq_true rfl) dJ9_rotateLeft_49 (fun H locs hR212 hS213 => ?_)
      obtain ⟨G214, hG214⟩ : ∃ z : GH, z = gu G206 a ((4, p), .inr (7, [.null, va_rf vw, .null, .ref (N r), .int sz, .int mo, .null, .null, .null])) := ⟨_, rfl⟩
      have hR212 : Rep Γ G214 H := by rw [hG214]; exact hR212
      have f215 : G214 a = some ((4, p), .inr (7, [.null, va_rf vw, .null, .ref (N r), .int sz, .int mo, .null, .null, .null])) := by rw [hG214]; exact gu_s _ _ _
      have hT216 := TH.off hT208 hG214 f209 (by show 4 ≠ 11; decide)
      refine lv_goto (tgt := 85) X.hx X.hb dJ9_rotateLeft_52 (by decide) ?_
      refine lv_aload_n X.hx X.hb dJ9_rotateLeft_85 rfl (lv_at hl 0 rfl) ?_
      refine lv_aload_n X.hx X.hb dJ9_rotateLeft_86 rfl (lv_at hl 2 rfl) ?_
      refine g_put X hR212 hS213 (hT216.1 r hSr) (Nat.le_of_ble_eq_true rfl) rfl in_J21 tyJ21 tyJ21_ok nmJ21 2 (by decide) q620 (fun _ h => h) rfl rfl rfl (Nat.le_of_ble_eq_true rfl) dJ9_rotateLeft_87 (fun H locs hR217 hS218 => ?_)
      obtain ⟨G219, hG219⟩ : ∃ z : GH, z = gu G214 (N r) ((11, r), .inr (8, [.ref (K r), .ref (V r), .ref (N x), va_rf ((R200 r).map N), va_rf ((P207 r).map N), .int (C r)])) := ⟨_, rfl⟩
      have hR217 : Rep Γ G219 H := by rw [hG219]; exact hR217
      obtain ⟨L220, eL220⟩ : ∃ z, z = va_up L r (some x) := ⟨_, rfl⟩
      have hT221 := TH.putL hT216 hSr (y := some x) hG219
      rw [← eL220] at hT221
      have f222 : G219 a = some ((4, p), .inr (7, [.null, va_rf vw, .null, .ref (N r), .int sz, .int mo, .null, .null, .null])) := by rw [hG219]; exact gu_t f215 (hT216.1 r hSr) (tne rfl)
      have k223 : L220 r = some x := by rw [eL220]; exact va_up_self _ _ _
      refine lv_aload_n X.hx X.hb dJ9_rotateLeft_90 rfl (lv_at hl 2 rfl) ?_
      refine lv_aload_n X.hx X.hb dJ9_rotateLeft_91 rfl (lv_at hl 0 rfl) ?_
      refine g_put X hR217 hS218 (hT221.1 x hx) (Nat.le_of_ble_eq_true rfl) rfl in_J21 tyJ21 tyJ21_ok nmJ21 4 (by decide) q623 (fun _ h => h) rfl rfl rfl (Nat.le_of_ble_eq_true rfl) dJ9_rotateLeft_92 (fun H locs hR224 hS225 => ?_)
      obtain ⟨G226, hG226⟩ : ∃ z : GH, z = gu G219 (N x) ((11, x), .inr (8, [.ref (K x), .ref (V x), va_rf ((L220 x).map N), va_rf ((R200 x).map N), .ref (N r), .int (C x)])) := ⟨_, rfl⟩
      have hR224 : Rep Γ G226 H := by rw [hG226]; exact hR224
      obtain ⟨P227, eP227⟩ : ∃ z, z = va_up P207 x (some r) := ⟨_, rfl⟩
      have hT228 := TH.putP hT221 hx (y := some r) hG226
      rw [← eP227] at hT228
      have f229 : G226 a = some ((4, p), .inr (7, [.null, va_rf vw, .null, .ref (N r), .int sz, .int mo, .null, .null, .null])) := by rw [hG226]; exact gu_t f222 (hT221.1 x hx) (tne rfl)
      have k230 : P227 r = none := by rw [eP227, va_up_ne _ _ (Ne.symm (hpr))]; exact k211
      have k231 : P227 x = some r := by rw [eP227]; exact va_up_self _ _ _
      have hgk : gK (tT p S) G G226 := (gK.tr (gK.tr (gK.tr (gK.tr (gK.pt hG199 (hT.1 x hx) (Or.inr ⟨x, hx, rfl⟩)) (gK.pt hG206 (hT201.1 r hSr) (Or.inr ⟨r, hSr, rfl⟩))) (gK.pt hG214 f209 (Or.inl rfl))) (gK.pt hG219 (hT216.1 r hSr) (Or.inr ⟨r, hSr, rfl⟩))) (gK.pt hG226 (hT221.1 x hx) (Or.inr ⟨x, hx, rfl⟩)))
      have hrot : Rot L R P L220 R200 P227 root (some r) x r := by
        refine Rot_mk hpr hb hq ?_ ?_ ?_ ?_ ?_ ?_ ?_
        · intro z hz; cases hz
        · intro z hz; cases hz
        · intro k; simp only [eR200, eP207, eL220, eP227]; unfold va_up; clear hR hS hT hI X hr hlk hin hnm hl hgk hM; grind
        · intro k; simp only [eR200, eP207, eL220, eP227]; unfold va_up; clear hR hS hT hI X hr hlk hin hnm hl hgk hM; grind
        · intro k; simp only [eR200, eP207, eL220, eP227]; unfold va_up; clear hR hS hT hI X hr hlk hin hnm hl hgk hM; grind
        · intro _; rfl
        · intro _ h; cases h
      exact g_vret X hr hlk hR224 hS225 (⟨rfl, hgk, _, _, _, some r, hT228, f229, hrot⟩) (by (try dsimp only [RM]); omega) (by (try dsimp only [RM]); omega) dJ9_rotateLeft_95
    · by_cases hl0 : L q = some x
      · refine lv_aload_n X.hx X.hb dJ9_rotateLeft_9 rfl (lv_at hl 2 rfl) ?_
        refine lv_aload_n X.hx X.hb dJ9_rotateLeft_10 rfl (lv_at hl 0 rfl) ?_
        refine g_get (v := .null) X hR (hT.1 r hSr) rfl in_J21 2 (by decide) q620 (fun _ h => h) (knv (N := N) (o := L r) (v := none) hb) dJ9_rotateLeft_11 ?_
        refine g_put X hR hS (hT.1 x hx) (Nat.le_of_ble_eq_true rfl) rfl in_J21 tyJ21 tyJ21_ok nmJ21 3 (by decide) q621 (fun _ h => h) rfl rfl rfl (Nat.le_of_ble_eq_true rfl) dJ9_rotateLeft_14 (fun H locs hR232 hS233 => ?_)
        obtain ⟨G234, hG234⟩ : ∃ z : GH, z = gu G (N x) ((11, x), .inr (8, [.ref (K x), .ref (V x), va_rf ((L x).map N), .null, va_rf ((P x).map N), .int (C x)])) := ⟨_, rfl⟩
        have hR232 : Rep Γ G234 H := by rw [hG234]; exact hR232
        obtain ⟨R235, eR235⟩ : ∃ z, z = va_up R x none := ⟨_, rfl⟩
        have hT236 := TH.putR hT hx (y := none) hG234
        rw [← eR235] at hT236
        have f237 : G234 a = some ((4, p), .inr (7, [.null, va_rf vw, .null, va_rf (root.map N), .int sz, .int mo, .null, .null, .null])) := by rw [hG234]; exact gu_t hM (hT.1 x hx) (tne rfl)
        have k238 : R235 x = none := by rw [eR235]; exact va_up_self _ _ _
        refine lv_aload_n X.hx X.hb dJ9_rotateLeft_17 rfl (lv_at hl 0 rfl) ?_
        refine g_get (v := .null) X hR232 (hT236.1 r hSr) rfl in_J21 2 (by decide) q620 (fun _ h => h) (knv (N := N) (o := L r) (v := none) hb) dJ9_rotateLeft_18 ?_
        refine lv_ifnullN (tgt := 32) X.hx X.hb dJ9_rotateLeft_21 (by decide) ?_
        refine lv_aload_n X.hx X.hb dJ9_rotateLeft_32 rfl (lv_at hl 0 rfl) ?_
        refine lv_aload_n X.hx X.hb dJ9_rotateLeft_33 rfl (lv_at hl 2 rfl) ?_
        refine g_get (v := .ref (N q)) X hR232 (hT236.1 x hx) rfl in_J21 4 (by decide) q623 (fun _ h => h) (knv (N := N) (o := P x) (v := some q) hq) dJ9_rotateLeft_34 ?_
        refine g_put X hR232 hS233 (hT236.1 r hSr) (Nat.le_of_ble_eq_true rfl) rfl in_J21 tyJ21 tyJ21_ok nmJ21 4 (by decide) q623 (fun _ h => h) rfl rfl rfl (Nat.le_of_ble_eq_true rfl) dJ9_rotateLeft_37 (fun H locs hR239 hS240 => ?_)
        obtain ⟨G241, hG241⟩ : ∃ z : GH, z = gu G234 (N r) ((11, r), .inr (8, [.ref (K r), .ref (V r), va_rf ((L r).map N), va_rf ((R235 r).map N), .ref (N q), .int (C r)])) := ⟨_, rfl⟩
        have hR239 : Rep Γ G241 H := by rw [hG241]; exact hR239
        obtain ⟨P242, eP242⟩ : ∃ z, z = va_up P r (some q) := ⟨_, rfl⟩
        have hT243 := TH.putP hT236 hSr (y := some q) hG241
        rw [← eP242] at hT243
        have f244 : G241 a = some ((4, p), .inr (7, [.null, va_rf vw, .null, va_rf (root.map N), .int sz, .int mo, .null, .null, .null])) := by rw [hG241]; exact gu_t f237 (hT236.1 r hSr) (tne rfl)
        have k245 : P242 x = some q := by rw [eP242, va_up_ne _ _ (hpr)]; exact hq
        have k246 : P242 r = some q := by rw [eP242]; exact va_up_self _ _ _
        refine lv_aload_n X.hx X.hb dJ9_rotateLeft_40 rfl (lv_at hl 2 rfl) ?_
        refine g_get (v := .ref (N q)) X hR239 (hT243.1 x hx) rfl in_J21 4 (by decide) q623 (fun _ h => h) (knv (N := N) (o := P242 x) (v := some q) k245) dJ9_rotateLeft_41 ?_
        refine lv_ifnonnull (tgt := 55) X.hx X.hb dJ9_rotateLeft_44 (by decide) ?_
        refine lv_aload_n X.hx X.hb dJ9_rotateLeft_55 rfl (lv_at hl 2 rfl) ?_
        refine g_get (v := .ref (N q)) X hR239 (hT243.1 x hx) rfl in_J21 4 (by decide) q623 (fun _ h => h) (knv (N := N) (o := P242 x) (v := some q) k245) dJ9_rotateLeft_56 ?_
        refine g_get (v := .ref (N x)) X hR239 (hT243.1 q (hq0 q hq).1) rfl in_J21 2 (by decide) q620 (fun _ h => h) (knv (N := N) (o := L q) (v := some x) hl0) dJ9_rotateLeft_59 ?_
        refine lv_aload_n X.hx X.hb dJ9_rotateLeft_62 rfl (lv_at hl 2 rfl) ?_
        refine lv_acmp_ne (rx := some (N x)) (ry := some (N x)) (tgt := 77) X.hx X.hb dJ9_rotateLeft_63 (by decide) (fun c63 => ?_) (fun c63 => ?_)
        · exact absurd rfl c63
        · refine lv_aload_n X.hx X.hb dJ9_rotateLeft_66 rfl (lv_at hl 2 rfl) ?_
          refine g_get (v := .ref (N q)) X hR239 (hT243.1 x hx) rfl in_J21 4 (by decide) q623 (fun _ h => h) (knv (N := N) (o := P242 x) (v := some q) k245) dJ9_rotateLeft_67 ?_
          refine lv_aload_n X.hx X.hb dJ9_rotateLeft_70 rfl (lv_at hl 0 rfl) ?_
          refine g_put X hR239 hS240 (hT243.1 q (hq0 q hq).1) (Nat.le_of_ble_eq_true rfl) rfl in_J21 tyJ21 tyJ21_ok nmJ21 2 (by decide) q620 (fun _ h => h) rfl rfl rfl (Nat.le_of_ble_eq_true rfl) dJ9_rotateLeft_71 (fun H locs hR247 hS248 => ?_)
          obtain ⟨G249, hG249⟩ : ∃ z : GH, z = gu G241 (N q) ((11, q), .inr (8, [.ref (K q), .ref (V q), .ref (N r), va_rf ((R235 q).map N), va_rf ((P242 q).map N), .int (C q)])) := ⟨_, rfl⟩
          have hR247 : Rep Γ G249 H := by rw [hG249]; exact hR247
          obtain ⟨L250, eL250⟩ : ∃ z, z = va_up L q (some r) := ⟨_, rfl⟩
          have hT251 := TH.putL hT243 (hq0 q hq).1 (y := some r) hG249
          rw [← eL250] at hT251
          have f252 : G249 a = some ((4, p), .inr (7, [.null, va_rf vw, .null, va_rf (root.map N), .int sz, .int mo, .null, .null, .null])) := by rw [hG249]; exact gu_t f244 (hT243.1 q (hq0 q hq).1) (tne rfl)
          have k253 : L250 r = none := by rw [eL250, va_up_ne _ _ (Ne.symm ((hq0 q hq).2.2.1))]; exact hb
          have k254 : L250 q = some r := by rw [eL250]; exact va_up_self _ _ _
          refine lv_goto (tgt := 85) X.hx X.hb dJ9_rotateLeft_74 (by decide) ?_
          refine lv_aload_n X.hx X.hb dJ9_rotateLeft_85 rfl (lv_at hl 0 rfl) ?_
          refine lv_aload_n X.hx X.hb dJ9_rotateLeft_86 rfl (lv_at hl 2 rfl) ?_
          refine g_put X hR247 hS248 (hT251.1 r hSr) (Nat.le_of_ble_eq_true rfl) rfl in_J21 tyJ21 tyJ21_ok nmJ21 2 (by decide) q620 (fun _ h => h) rfl rfl rfl (Nat.le_of_ble_eq_true rfl) dJ9_rotateLeft_87 (fun H locs hR255 hS256 => ?_)
          obtain ⟨G257, hG257⟩ : ∃ z : GH, z = gu G249 (N r) ((11, r), .inr (8, [.ref (K r), .ref (V r), .ref (N x), va_rf ((R235 r).map N), va_rf ((P242 r).map N), .int (C r)])) := ⟨_, rfl⟩
          have hR255 : Rep Γ G257 H := by rw [hG257]; exact hR255
          obtain ⟨L258, eL258⟩ : ∃ z, z = va_up L250 r (some x) := ⟨_, rfl⟩
          have hT259 := TH.putL hT251 hSr (y := some x) hG257
          rw [← eL258] at hT259
          have f260 : G257 a = some ((4, p), .inr (7, [.null, va_rf vw, .null, va_rf (root.map N), .int sz, .int mo, .null, .null, .null])) := by rw [hG257]; exact gu_t f252 (hT251.1 r hSr) (tne rfl)
          have k261 : L258 q = some r := by rw [eL258, va_up_ne _ _ ((hq0 q hq).2.2.1)]; exact k254
          have k262 : L258 r = some x := by rw [eL258]; exact va_up_self _ _ _
          refine lv_aload_n X.hx X.hb dJ9_rotateLeft_90 rfl (lv_at hl 2 rfl) ?_
          refine lv_aload_n X.hx X.hb dJ9_rotateLeft_91 rfl (lv_at hl 0 rfl) ?_
          refine g_put X hR255 hS256 (hT259.1 x hx) (Nat.le_of_ble_eq_true rfl) rfl in_J21 tyJ21 tyJ21_ok nmJ21 4 (by decide) q623 (fun _ h => h) rfl rfl rfl (Nat.le_of_ble_eq_true rfl) dJ9_rotateLeft_92 (fun H locs hR263 hS264 => ?_)
          obtain ⟨G265, hG265⟩ : ∃ z : GH, z = gu G257 (N x) ((11, x), .inr (8, [.ref (K x), .ref (V x), va_rf ((L258 x).map N), va_rf ((R235 x).map N), .ref (N r), .int (C x)])) := ⟨_, rfl⟩
          have hR263 : Rep Γ G265 H := by rw [hG265]; exact hR263
          obtain ⟨P266, eP266⟩ : ∃ z, z = va_up P242 x (some r) := ⟨_, rfl⟩
          have hT267 := TH.putP hT259 hx (y := some r) hG265
          rw [← eP266] at hT267
          have f268 : G265 a = some ((4, p), .inr (7, [.null, va_rf vw, .null, va_rf (root.map N), .int sz, .int mo, .null, .null, .null])) := by rw [hG265]; exact gu_t f260 (hT259.1 x hx) (tne rfl)
          have k269 : P266 r = some q := by rw [eP266, va_up_ne _ _ (Ne.symm (hpr))]; exact k246
          have k270 : P266 x = some r := by rw [eP266]; exact va_up_self _ _ _
          have hgk : gK (tT p S) G G265 := (gK.tr (gK.tr (gK.tr (gK.tr (gK.pt hG234 (hT.1 x hx) (Or.inr ⟨x, hx, rfl⟩)) (gK.pt hG241 (hT236.1 r hSr) (Or.inr ⟨r, hSr, rfl⟩))) (gK.pt hG249 (hT243.1 q (hq0 q hq).1) (Or.inr ⟨q, (hq0 q hq).1, rfl⟩))) (gK.pt hG257 (hT251.1 r hSr) (Or.inr ⟨r, hSr, rfl⟩))) (gK.pt hG265 (hT259.1 x hx) (Or.inr ⟨x, hx, rfl⟩)))
          have hrot : Rot L R P L258 R235 P266 root (root) x r := by
            refine Rot_mk hpr hb hq ?_ ?_ ?_ ?_ ?_ ?_ ?_
            · intro z hz; cases hz; exact ⟨(hq0 q hq).2.1, (hq0 q hq).2.2.1⟩
            · intro z hz; cases hz
            · intro k; simp only [eR235, eP242, eL250, eL258, eP266]; unfold va_up; clear hR hS hT hI X hr hlk hin hnm hl hgk hM; grind
            · intro k; simp only [eR235, eP242, eL250, eL258, eP266]; unfold va_up; clear hR hS hT hI X hr hlk hin hnm hl hgk hM; grind
            · intro k; simp only [eR235, eP242, eL250, eL258, eP266]; unfold va_up; clear hR hS hT hI X hr hlk hin hnm hl hgk hM; grind
            · intro h; cases h
            · intro _ _; rfl
          exact g_vret X hr hlk hR263 hS264 (⟨rfl, hgk, _, _, _, root, hT267, f268, hrot⟩) (by (try dsimp only [RM]); omega) (by (try dsimp only [RM]); omega) dJ9_rotateLeft_95
      · refine lv_aload_n X.hx X.hb dJ9_rotateLeft_9 rfl (lv_at hl 2 rfl) ?_
        refine lv_aload_n X.hx X.hb dJ9_rotateLeft_10 rfl (lv_at hl 0 rfl) ?_
        refine g_get (v := .null) X hR (hT.1 r hSr) rfl in_J21 2 (by decide) q620 (fun _ h => h) (knv (N := N) (o := L r) (v := none) hb) dJ9_rotateLeft_11 ?_
        refine g_put X hR hS (hT.1 x hx) (Nat.le_of_ble_eq_true rfl) rfl in_J21 tyJ21 tyJ21_ok nmJ21 3 (by decide) q621 (fun _ h => h) rfl rfl rfl (Nat.le_of_ble_eq_true rfl) dJ9_rotateLeft_14 (fun H locs hR271 hS272 => ?_)
        obtain ⟨G273, hG273⟩ : ∃ z : GH, z = gu G (N x) ((11, x), .inr (8, [.ref (K x), .ref (V x), va_rf ((L x).map N), .null, va_rf ((P x).map N), .int (C x)])) := ⟨_, rfl⟩
        have hR271 : Rep Γ G273 H := by rw [hG273]; exact hR271
        obtain ⟨R274, eR274⟩ : ∃ z, z = va_up R x none := ⟨_, rfl⟩
        have hT275 := TH.putR hT hx (y := none) hG273
        rw [← eR274] at hT275
        have f276 : G273 a = some ((4, p), .inr (7, [.null, va_rf vw, .null, va_rf (root.map N), .int sz, .int mo, .null, .null, .null])) := by rw [hG273]; exact gu_t hM (hT.1 x hx) (tne rfl)
        have k277 : R274 x = none := by rw [eR274]; exact va_up_self _ _ _
        refine lv_aload_n X.hx X.hb dJ9_rotateLeft_17 rfl (lv_at hl 0 rfl) ?_
        refine g_get (v := .null) X hR271 (hT275.1 r hSr) rfl in_J21 2 (by decide) q620 (fun _ h => h) (knv (N := N) (o := L r) (v := none) hb) dJ9_rotateLeft_18 ?_
        refine lv_ifnullN (tgt := 32) X.hx X.hb dJ9_rotateLeft_21 (by decide) ?_
        refine lv_aload_n X.hx X.hb dJ9_rotateLeft_32 rfl (lv_at hl 0 rfl) ?_
        refine lv_aload_n X.hx X.hb dJ9_rotateLeft_33 rfl (lv_at hl 2 rfl) ?_
        refine g_get (v := .ref (N q)) X hR271 (hT275.1 x hx) rfl in_J21 4 (by decide) q623 (fun _ h => h) (knv (N := N) (o := P x) (v := some q) hq) dJ9_rotateLeft_34 ?_
        refine g_put X hR271 hS272 (hT275.1 r hSr) (Nat.le_of_ble_eq_true rfl) rfl in_J21 tyJ21 tyJ21_ok nmJ21 4 (by decide) q623 (fun _ h => h) rfl rfl rfl (Nat.le_of_ble_eq_true rfl) dJ9_rotateLeft_37 (fun H locs hR278 hS279 => ?_)
        obtain ⟨G280, hG280⟩ : ∃ z : GH, z = gu G273 (N r) ((11, r), .inr (8, [.ref (K r), .ref (V r), va_rf ((L r).map N), va_rf ((R274 r).map N), .ref (N q), .int (C r)])) := ⟨_, rfl⟩
        have hR278 : Rep Γ G280 H := by rw [hG280]; exact hR278
        obtain ⟨P281, eP281⟩ : ∃ z, z = va_up P r (some q) := ⟨_, rfl⟩
        have hT282 := TH.putP hT275 hSr (y := some q) hG280
        rw [← eP281] at hT282
        have f283 : G280 a = some ((4, p), .inr (7, [.null, va_rf vw, .null, va_rf (root.map N), .int sz, .int mo, .null, .null, .null])) := by rw [hG280]; exact gu_t f276 (hT275.1 r hSr) (tne rfl)
        have k284 : P281 x = some q := by rw [eP281, va_up_ne _ _ (hpr)]; exact hq
        have k285 : P281 r = some q := by rw [eP281]; exact va_up_self _ _ _
        refine lv_aload_n X.hx X.hb dJ9_rotateLeft_40 rfl (lv_at hl 2 rfl) ?_
        refine g_get (v := .ref (N q)) X hR278 (hT282.1 x hx) rfl in_J21 4 (by decide) q623 (fun _ h => h) (knv (N := N) (o := P281 x) (v := some q) k284) dJ9_rotateLeft_41 ?_
        refine lv_ifnonnull (tgt := 55) X.hx X.hb dJ9_rotateLeft_44 (by decide) ?_
        refine lv_aload_n X.hx X.hb dJ9_rotateLeft_55 rfl (lv_at hl 2 rfl) ?_
        refine g_get (v := .ref (N q)) X hR278 (hT282.1 x hx) rfl in_J21 4 (by decide) q623 (fun _ h => h) (knv (N := N) (o := P281 x) (v := some q) k284) dJ9_rotateLeft_56 ?_
        refine g_get (v := va_rf ((L q).map N)) X hR278 (hT282.1 q (hq0 q hq).1) rfl in_J21 2 (by decide) q620 (fun _ h => h) rfl dJ9_rotateLeft_59 ?_
        refine lv_aload_n X.hx X.hb dJ9_rotateLeft_62 rfl (lv_at hl 2 rfl) ?_
        refine lv_acmp_ne (rx := (L q).map N) (ry := some (N x)) (tgt := 77) X.hx X.hb dJ9_rotateLeft_63 (by decide) (fun c63 => ?_) (fun c63 => ?_)
        · refine lv_aload_n X.hx X.hb dJ9_rotateLeft_77 rfl (lv_at hl 2 rfl) ?_
          refine g_get (v := .ref (N q)) X hR278 (hT282.1 x hx) rfl in_J21 4 (by decide) q623 (fun _ h => h) (knv (N := N) (o := P281 x) (v := some q) k284) dJ9_rotateLeft_78 ?_
          refine lv_aload_n X.hx X.hb dJ9_rotateLeft_81 rfl (lv_at hl 0 rfl) ?_
          refine g_put X hR278 hS279 (hT282.1 q (hq0 q hq).1) (Nat.le_of_ble_eq_true rfl) rfl in_J21 tyJ21 tyJ21_ok nmJ21 3 (by decide) q621 (fun _ h => h) rfl rfl rfl (Nat.le_of_ble_eq_true rfl) dJ9_rotateLeft_82 (fun H locs hR286 hS287 => ?_)
          obtain ⟨G288, hG288⟩ : ∃ z : GH, z = gu G280 (N q) ((11, q), .inr (8, [.ref (K q), .ref (V q), va_rf ((L q).map N), .ref (N r), va_rf ((P281 q).map N), .int (C q)])) := ⟨_, rfl⟩
          have hR286 : Rep Γ G288 H := by rw [hG288]; exact hR286
          obtain ⟨R289, eR289⟩ : ∃ z, z = va_up R274 q (some r) := ⟨_, rfl⟩
          have hT290 := TH.putR hT282 (hq0 q hq).1 (y := some r) hG288
          rw [← eR289] at hT290
          have f291 : G288 a = some ((4, p), .inr (7, [.null, va_rf vw, .null, va_rf (root.map N), .int sz, .int mo, .null, .null, .null])) := by rw [hG288]; exact gu_t f283 (hT282.1 q (hq0 q hq).1) (tne rfl)
          have k292 : R289 x = none := by rw [eR289, va_up_ne _ _ (Ne.symm ((hq0 q hq).2.1))]; exact k277
          have k293 : R289 q = some r := by rw [eR289]; exact va_up_self _ _ _
          refine lv_aload_n X.hx X.hb dJ9_rotateLeft_85 rfl (lv_at hl 0 rfl) ?_
          refine lv_aload_n X.hx X.hb dJ9_rotateLeft_86 rfl (lv_at hl 2 rfl) ?_
          refine g_put X hR286 hS287 (hT290.1 r hSr) (Nat.le_of_ble_eq_true rfl) rfl in_J21 tyJ21 tyJ21_ok nmJ21 2 (by decide) q620 (fun _ h => h) rfl rfl rfl (Nat.le_of_ble_eq_true rfl) dJ9_rotateLeft_87 (fun H locs hR294 hS295 => ?_)
          obtain ⟨G296, hG296⟩ : ∃ z : GH, z = gu G288 (N r) ((11, r), .inr (8, [.ref (K r), .ref (V r), .ref (N x), va_rf ((R289 r).map N), va_rf ((P281 r).map N), .int (C r)])) := ⟨_, rfl⟩
          have hR294 : Rep Γ G296 H := by rw [hG296]; exact hR294
          obtain ⟨L297, eL297⟩ : ∃ z, z = va_up L r (some x) := ⟨_, rfl⟩
          have hT298 := TH.putL hT290 hSr (y := some x) hG296
          rw [← eL297] at hT298
          have f299 : G296 a = some ((4, p), .inr (7, [.null, va_rf vw, .null, va_rf (root.map N), .int sz, .int mo, .null, .null, .null])) := by rw [hG296]; exact gu_t f291 (hT290.1 r hSr) (tne rfl)
          have k300 : L297 r = some x := by rw [eL297]; exact va_up_self _ _ _
          refine lv_aload_n X.hx X.hb dJ9_rotateLeft_90 rfl (lv_at hl 2 rfl) ?_
          refine lv_aload_n X.hx X.hb dJ9_rotateLeft_91 rfl (lv_at hl 0 rfl) ?_
          refine g_put X hR294 hS295 (hT298.1 x hx) (Nat.le_of_ble_eq_true rfl) rfl in_J21 tyJ21 tyJ21_ok nmJ21 4 (by decide) q623 (fun _ h => h) rfl rfl rfl (Nat.le_of_ble_eq_true rfl) dJ9_rotateLeft_92 (fun H locs hR301 hS302 => ?_)
          obtain ⟨G303, hG303⟩ : ∃ z : GH, z = gu G296 (N x) ((11, x), .inr (8, [.ref (K x), .ref (V x), va_rf ((L297 x).map N), va_rf ((R289 x).map N), .ref (N r), .int (C x)])) := ⟨_, rfl⟩
          have hR301 : Rep Γ G303 H := by rw [hG303]; exact hR301
          obtain ⟨P304, eP304⟩ : ∃ z, z = va_up P281 x (some r) := ⟨_, rfl⟩
          have hT305 := TH.putP hT298 hx (y := some r) hG303
          rw [← eP304] at hT305
          have f306 : G303 a = some ((4, p), .inr (7, [.null, va_rf vw, .null, va_rf (root.map N), .int sz, .int mo, .null, .null, .null])) := by rw [hG303]; exact gu_t f299 (hT298.1 x hx) (tne rfl)
          have k307 : P304 r = some q := by rw [eP304, va_up_ne _ _ (Ne.symm (hpr))]; exact k285
          have k308 : P304 x = some r := by rw [eP304]; exact va_up_self _ _ _
          have hgk : gK (tT p S) G G303 := (gK.tr (gK.tr (gK.tr (gK.tr (gK.pt hG273 (hT.1 x hx) (Or.inr ⟨x, hx, rfl⟩)) (gK.pt hG280 (hT275.1 r hSr) (Or.inr ⟨r, hSr, rfl⟩))) (gK.pt hG288 (hT282.1 q (hq0 q hq).1) (Or.inr ⟨q, (hq0 q hq).1, rfl⟩))) (gK.pt hG296 (hT290.1 r hSr) (Or.inr ⟨r, hSr, rfl⟩))) (gK.pt hG303 (hT298.1 x hx) (Or.inr ⟨x, hx, rfl⟩)))
          have hrot : Rot L R P L297 R289 P304 root (root) x r := by
            refine Rot_mk hpr hb hq ?_ ?_ ?_ ?_ ?_ ?_ ?_
            · intro z hz; cases hz; exact ⟨(hq0 q hq).2.1, (hq0 q hq).2.2.1⟩
            · intro z hz; cases hz
            · intro k; simp only [eR274, eP281, eR289, eL297, eP304]; unfold va_up; clear hR hS hT hI X hr hlk hin hnm hl hgk hM; grind
            · intro k; simp only [eR274, eP281, eR289, eL297, eP304]; unfold va_up; clear hR hS hT hI X hr hlk hin hnm hl hgk hM; grind
            · intro k; simp only [eR274, eP281, eR289, eL297, eP304]; unfold va_up; clear hR hS hT hI X hr hlk hin hnm hl hgk hM; grind
            · intro h; cases h
            · intro _ _; rfl
          exact g_vret X hr hlk hR301 hS302 (⟨rfl, hgk, _, _, _, root, hT305, f306, hrot⟩) (by (try dsimp only [RM]); omega) (by (try dsimp only [RM]); omega) dJ9_rotateLeft_95
        · exact absurd (hT.inj (fun y hy => (hI.2.2.1 q y (hq0 q hq).1 hy).1) hx c63) hl0
  · rcases hq : P x with _ | q
    · refine lv_aload_n X.hx X.hb dJ9_rotateLeft_9 rfl (lv_at hl 2 rfl) ?_
      refine lv_aload_n X.hx X.hb dJ9_rotateLeft_10 rfl (lv_at hl 0 rfl) ?_
      refine g_get (v := .ref (N b)) X hR (hT.1 r hSr) rfl in_J21 2 (by decide) q620 (fun _ h => h) (knv (N := N) (o := L r) (v := some b) hb) dJ9_rotateLeft_11 ?_
      refine g_put X hR hS (hT.1 x hx) (Nat.le_of_ble_eq_true rfl) rfl in_J21 tyJ21 tyJ21_ok nmJ21 3 (by decide) q621 (fun _ h => h) rfl rfl rfl (Nat.le_of_ble_eq_true rfl) dJ9_rotateLeft_14 (fun H locs hR309 hS310 => ?_)
      obtain ⟨G311, hG311⟩ : ∃ z : GH, z = gu G (N x) ((11, x), .inr (8, [.ref (K x), .ref (V x), va_rf ((L x).map N), .ref (N b), va_rf ((P x).map N), .int (C x)])) := ⟨_, rfl⟩
      have hR309 : Rep Γ G311 H := by rw [hG311]; exact hR309
      obtain ⟨R312, eR312⟩ : ∃ z, z = va_up R x (some b) := ⟨_, rfl⟩
      have hT313 := TH.putR hT hx (y := some b) hG311
      rw [← eR312] at hT313
      have f314 : G311 a = some ((4, p), .inr (7, [.null, va_rf vw, .null, va_rf (root.map N), .int sz, .int mo, .null, .null, .null])) := by rw [hG311]; exact gu_t hM (hT.1 x hx) (tne rfl)
      have k315 : R312 x = some b := by rw [eR312]; exact va_up_self _ _ _
      refine lv_aload_n X.hx X.hb dJ9_rotateLeft_17 rfl (lv_at hl 0 rfl) ?_
      refine g_get (v := .ref (N b)) X hR309 (hT313.1 r hSr) rfl in_J21 2 (by decide) q620 (fun _ h => h) (knv (N := N) (o := L r) (v := some b) hb) dJ9_rotateLeft_18 ?_
      refine lv_ifnull X.hx X.hb dJ9_rotateLeft_21 ?_
      refine lv_aload_n X.hx X.hb dJ9_rotateLeft_24 rfl (lv_at hl 0 rfl) ?_
      refine g_get (v := .ref (N b)) X hR309 (hT313.1 r hSr) rfl in_J21 2 (by decide) q620 (fun _ h => h) (knv (N := N) (o := L r) (v := some b) hb) dJ9_rotateLeft_25 ?_
      refine lv_aload_n X.hx X.hb dJ9_rotateLeft_28 rfl (lv_at hl 2 rfl) ?_
      refine g_put X hR309 hS310 (hT313.1 b (hb0 b hb).1) (Nat.le_of_ble_eq_true rfl) rfl in_J21 tyJ21 tyJ21_ok nmJ21 4 (by decide) q623 (fun _ h => h) rfl rfl rfl (Nat.le_of_ble_eq_true rfl) dJ9_rotateLeft_29 (fun H locs hR316 hS317 => ?_)
      obtain ⟨G318, hG318⟩ : ∃ z : GH, z = gu G311 (N b) ((11, b), .inr (8, [.ref (K b), .ref (V b), va_rf ((L b).map N), va_rf ((R312 b).map N), .ref (N x), .int (C b)])) := ⟨_, rfl⟩
      have hR316 : Rep Γ G318 H := by rw [hG318]; exact hR316
      obtain ⟨P319, eP319⟩ : ∃ z, z = va_up P b (some x) := ⟨_, rfl⟩
      have hT320 := TH.putP hT313 (hb0 b hb).1 (y := some x) hG318
      rw [← eP319] at hT320
      have f321 : G318 a = some ((4, p), .inr (7, [.null, va_rf vw, .null, va_rf (root.map N), .int sz, .int mo, .null, .null, .null])) := by rw [hG318]; exact gu_t f314 (hT313.1 b (hb0 b hb).1) (tne rfl)
      have k322 : P319 x = none := by rw [eP319, va_up_ne _ _ (Ne.symm ((hb0 b hb).2.1))]; exact hq
      have k323 : P319 b = some x := by rw [eP319]; exact va_up_self _ _ _
      refine lv_aload_n X.hx X.hb dJ9_rotateLeft_32 rfl (lv_at hl 0 rfl) ?_
      refine lv_aload_n X.hx X.hb dJ9_rotateLeft_33 rfl (lv_at hl 2 rfl) ?_
      refine g_get (v := .null) X hR316 (hT320.1 x hx) rfl in_J21 4 (by decide) q623 (fun _ h => h) (knv (N := N) (o := P319 x) (v := none) k322) dJ9_rotateLeft_34 ?_
      refine g_put X hR316 hS317 (hT320.1 r hSr) (Nat.le_of_ble_eq_true rfl) rfl in_J21 tyJ21 tyJ21_ok nmJ21 4 (by decide) q623 (fun _ h => h) rfl rfl rfl (Nat.le_of_ble_eq_true rfl) dJ9_rotateLeft_37 (fun H locs hR324 hS325 => ?_)
      obtain ⟨G326, hG326⟩ : ∃ z : GH, z = gu G318 (N r) ((11, r), .inr (8, [.ref (K r), .ref (V r), va_rf ((L r).map N), va_rf ((R312 r).map N), .null, .int (C r)])) := ⟨_, rfl⟩
      have hR324 : Rep Γ G326 H := by rw [hG326]; exact hR324
      obtain ⟨P327, eP327⟩ : ∃ z, z = va_up P319 r none := ⟨_, rfl⟩
      have hT328 := TH.putP hT320 hSr (y := none) hG326
      rw [← eP327] at hT328
      have f329 : G326 a = some ((4, p), .inr (7, [.null, va_rf vw, .null, va_rf (root.map N), .int sz, .int mo, .null, .null, .null])) := by rw [hG326]; exact gu_t f321 (hT320.1 r hSr) (tne rfl)
      have k330 : P327 x = none := by rw [eP327, va_up_ne _ _ (hpr)]; exact k322
      have k331 : P327 b = some x := by rw [eP327, va_up_ne _ _ ((hb0 b hb).2.2)]; exact k323
      have k332 : P327 r = none := by rw [eP327]; exact va_up_self _ _ _
      refine lv_aload_n X.hx X.hb dJ9_rotateLeft_40 rfl (lv_at hl 2 rfl) ?_
      refine g_get (v := .null) X hR324 (hT328.1 x hx) rfl in_J21 4 (by decide) q623 (fun _ h => h) (knv (N := N) (o := P327 x) (v := none) k330) dJ9_rotateLeft_41 ?_
      refine lv_ifnonnullN X.hx X.hb dJ9_rotateLeft_44 ?_
      refine lv_aload_n X.hx X.hb dJ9_rotateLeft_47 rfl (lv_at hl 1 rfl) ?_
      refine lv_aload_n X.hx X.hb dJ9_rotateLeft_48 rfl (lv_at hl 0 rfl) ?_
      refine g_put X hR324 hS325 f329 (Nat.le_of_ble_eq_true rfl) rfl in_J9 tyJ9 tyJ9_ok nmJ9 3 (by decide) q264 (fun _ h => h) rfl rfl rfl (Nat.le_of_ble_eq_true rfl) dJ9_rotateLeft_49 (fun H locs hR333 hS334 => ?_)
      obtain ⟨G335, hG335⟩ : ∃ z : GH, z = gu G326 a ((4, p), .inr (7, [.null, va_rf vw, .null, .ref (N r), .int sz, .int mo, .null, .null, .null])) := ⟨_, rfl⟩
      have hR333 : Rep Γ G335 H := by rw [hG335]; exact hR333
      have f336 : G335 a = some ((4, p), .inr (7, [.null, va_rf vw, .null, .ref (N r), .int sz, .int mo, .null, .null, .null])) := by rw [hG335]; exact gu_s _ _ _
      have hT337 := TH.off hT328 hG335 f329 (by show 4 ≠ 11; decide)
      refine lv_goto (tgt := 85) X.hx X.hb dJ9_rotateLeft_52 (by decide) ?_
      refine lv_aload_n X.hx X.hb dJ9_rotateLeft_85 rfl (lv_at hl 0 rfl) ?_
      refine lv_aload_n X.hx X.hb dJ9_rotateLeft_86 rfl (lv_at hl 2 rfl) ?_
      refine g_put X hR333 hS334 (hT337.1 r hSr) (Nat.le_of_ble_eq_true rfl) rfl in_J21 tyJ21 tyJ21_ok nmJ21 2 (by decide) q620 (fun _ h => h) rfl rfl rfl (Nat.le_of_ble_eq_true rfl) dJ9_rotateLeft_87 (fun H locs hR338 hS339 => ?_)
      obtain ⟨G340, hG340⟩ : ∃ z : GH, z = gu G335 (N r) ((11, r), .inr (8, [.ref (K r), .ref (V r), .ref (N x), va_rf ((R312 r).map N), va_rf ((P327 r).map N), .int (C r)])) := ⟨_, rfl⟩
      have hR338 : Rep Γ G340 H := by rw [hG340]; exact hR338
      obtain ⟨L341, eL341⟩ : ∃ z, z = va_up L r (some x) := ⟨_, rfl⟩
      have hT342 := TH.putL hT337 hSr (y := some x) hG340
      rw [← eL341] at hT342
      have f343 : G340 a = some ((4, p), .inr (7, [.null, va_rf vw, .null, .ref (N r), .int sz, .int mo, .null, .null, .null])) := by rw [hG340]; exact gu_t f336 (hT337.1 r hSr) (tne rfl)
      have k344 : L341 r = some x := by rw [eL341]; exact va_up_self _ _ _
      refine lv_aload_n X.hx X.hb dJ9_rotateLeft_90 rfl (lv_at hl 2 rfl) ?_
      refine lv_aload_n X.hx X.hb dJ9_rotateLeft_91 rfl (lv_at hl 0 rfl) ?_
      refine g_put X hR338 hS339 (hT342.1 x hx) (Nat.le_of_ble_eq_true rfl) rfl in_J21 tyJ21 tyJ21_ok nmJ21 4 (by decide) q623 (fun _ h => h) rfl rfl rfl (Nat.le_of_ble_eq_true rfl) dJ9_rotateLeft_92 (fun H locs hR345 hS346 => ?_)
      obtain ⟨G347, hG347⟩ : ∃ z : GH, z = gu G340 (N x) ((11, x), .inr (8, [.ref (K x), .ref (V x), va_rf ((L341 x).map N), va_rf ((R312 x).map N), .ref (N r), .int (C x)])) := ⟨_, rfl⟩
      have hR345 : Rep Γ G347 H := by rw [hG347]; exact hR345
      obtain ⟨P348, eP348⟩ : ∃ z, z = va_up P327 x (some r) := ⟨_, rfl⟩
      have hT349 := TH.putP hT342 hx (y := some r) hG347
      rw [← eP348] at hT349
      have f350 : G347 a = some ((4, p), .inr (7, [.null, va_rf vw, .null, .ref (N r), .int sz, .int mo, .null, .null, .null])) := by rw [hG347]; exact gu_t f343 (hT342.1 x hx) (tne rfl)
      have k351 : P348 b = some x := by rw [eP348, va_up_ne _ _ ((hb0 b hb).2.1)]; exact k331
      have k352 : P348 r = none := by rw [eP348, va_up_ne _ _ (Ne.symm (hpr))]; exact k332
      have k353 : P348 x = some r := by rw [eP348]; exact va_up_self _ _ _
      have hgk : gK (tT p S) G G347 := (gK.tr (gK.tr (gK.tr (gK.tr (gK.tr (gK.pt hG311 (hT.1 x hx) (Or.inr ⟨x, hx, rfl⟩)) (gK.pt hG318 (hT313.1 b (hb0 b hb).1) (Or.inr ⟨b, (hb0 b hb).1, rfl⟩))) (gK.pt hG326 (hT320.1 r hSr) (Or.inr ⟨r, hSr, rfl⟩))) (gK.pt hG335 f329 (Or.inl rfl))) (gK.pt hG340 (hT337.1 r hSr) (Or.inr ⟨r, hSr, rfl⟩))) (gK.pt hG347 (hT342.1 x hx) (Or.inr ⟨x, hx, rfl⟩)))
      have hrot : Rot L R P L341 R312 P348 root (some r) x r := by
        refine Rot_mk hpr hb hq ?_ ?_ ?_ ?_ ?_ ?_ ?_
        · intro z hz; cases hz
        · intro z hz; cases hz; exact hb0 b hb |>.2
        · intro k; simp only [eR312, eP319, eP327, eL341, eP348]; unfold va_up; clear hR hS hT hI X hr hlk hin hnm hl hgk hM; grind
        · intro k; simp only [eR312, eP319, eP327, eL341, eP348]; unfold va_up; clear hR hS hT hI X hr hlk hin hnm hl hgk hM; grind
        · intro k; simp only [eR312, eP319, eP327, eL341, eP348]; unfold va_up; clear hR hS hT hI X hr hlk hin hnm hl hgk hM; grind
        · intro _; rfl
        · intro _ h; cases h
      exact g_vret X hr hlk hR345 hS346 (⟨rfl, hgk, _, _, _, some r, hT349, f350, hrot⟩) (by (try dsimp only [RM]); omega) (by (try dsimp only [RM]); omega) dJ9_rotateLeft_95
    · by_cases hl0 : L q = some x
      · refine lv_aload_n X.hx X.hb dJ9_rotateLeft_9 rfl (lv_at hl 2 rfl) ?_
        refine lv_aload_n X.hx X.hb dJ9_rotateLeft_10 rfl (lv_at hl 0 rfl) ?_
        refine g_get (v := .ref (N b)) X hR (hT.1 r hSr) rfl in_J21 2 (by decide) q620 (fun _ h => h) (knv (N := N) (o := L r) (v := some b) hb) dJ9_rotateLeft_11 ?_
        refine g_put X hR hS (hT.1 x hx) (Nat.le_of_ble_eq_true rfl) rfl in_J21 tyJ21 tyJ21_ok nmJ21 3 (by decide) q621 (fun _ h => h) rfl rfl rfl (Nat.le_of_ble_eq_true rfl) dJ9_rotateLeft_14 (fun H locs hR354 hS355 => ?_)
        obtain ⟨G356, hG356⟩ : ∃ z : GH, z = gu G (N x) ((11, x), .inr (8, [.ref (K x), .ref (V x), va_rf ((L x).map N), .ref (N b), va_rf ((P x).map N), .int (C x)])) := ⟨_, rfl⟩
        have hR354 : Rep Γ G356 H := by rw [hG356]; exact hR354
        obtain ⟨R357, eR357⟩ : ∃ z, z = va_up R x (some b) := ⟨_, rfl⟩
        have hT358 := TH.putR hT hx (y := some b) hG356
        rw [← eR357] at hT358
        have f359 : G356 a = some ((4, p), .inr (7, [.null, va_rf vw, .null, va_rf (root.map N), .int sz, .int mo, .null, .null, .null])) := by rw [hG356]; exact gu_t hM (hT.1 x hx) (tne rfl)
        have k360 : R357 x = some b := by rw [eR357]; exact va_up_self _ _ _
        refine lv_aload_n X.hx X.hb dJ9_rotateLeft_17 rfl (lv_at hl 0 rfl) ?_
        refine g_get (v := .ref (N b)) X hR354 (hT358.1 r hSr) rfl in_J21 2 (by decide) q620 (fun _ h => h) (knv (N := N) (o := L r) (v := some b) hb) dJ9_rotateLeft_18 ?_
        refine lv_ifnull X.hx X.hb dJ9_rotateLeft_21 ?_
        refine lv_aload_n X.hx X.hb dJ9_rotateLeft_24 rfl (lv_at hl 0 rfl) ?_
        refine g_get (v := .ref (N b)) X hR354 (hT358.1 r hSr) rfl in_J21 2 (by decide) q620 (fun _ h => h) (knv (N := N) (o := L r) (v := some b) hb) dJ9_rotateLeft_25 ?_
        refine lv_aload_n X.hx X.hb dJ9_rotateLeft_28 rfl (lv_at hl 2 rfl) ?_
        refine g_put X hR354 hS355 (hT358.1 b (hb0 b hb).1) (Nat.le_of_ble_eq_true rfl) rfl in_J21 tyJ21 tyJ21_ok nmJ21 4 (by decide) q623 (fun _ h => h) rfl rfl rfl (Nat.le_of_ble_eq_true rfl) dJ9_rotateLeft_29 (fun H locs hR361 hS362 => ?_)
        obtain ⟨G363, hG363⟩ : ∃ z : GH, z = gu G356 (N b) ((11, b), .inr (8, [.ref (K b), .ref (V b), va_rf ((L b).map N), va_rf ((R357 b).map N), .ref (N x), .int (C b)])) := ⟨_, rfl⟩
        have hR361 : Rep Γ G363 H := by rw [hG363]; exact hR361
        obtain ⟨P364, eP364⟩ : ∃ z, z = va_up P b (some x) := ⟨_, rfl⟩
        have hT365 := TH.putP hT358 (hb0 b hb).1 (y := some x) hG363
        rw [← eP364] at hT365
        have f366 : G363 a = some ((4, p), .inr (7, [.null, va_rf vw, .null, va_rf (root.map N), .int sz, .int mo, .null, .null, .null])) := by rw [hG363]; exact gu_t f359 (hT358.1 b (hb0 b hb).1) (tne rfl)
        have k367 : P364 x = some q := by rw [eP364, va_up_ne _ _ (Ne.symm ((hb0 b hb).2.1))]; exact hq
        have k368 : P364 b = some x := by rw [eP364]; exact va_up_self _ _ _
        refine lv_aload_n X.hx X.hb dJ9_rotateLeft_32 rfl (lv_at hl 0 rfl) ?_
        refine lv_aload_n X.hx X.hb dJ9_rotateLeft_33 rfl (lv_at hl 2 rfl) ?_
        refine g_get (v := .ref (N q)) X hR361 (hT365.1 x hx) rfl in_J21 4 (by decide) q623 (fun _ h => h) (knv (N := N) (o := P364 x) (v := some q) k367) dJ9_rotateLeft_34 ?_
        refine g_put X hR361 hS362 (hT365.1 r hSr) (Nat.le_of_ble_eq_true rfl) rfl in_J21 tyJ21 tyJ21_ok nmJ21 4 (by decide) q623 (fun _ h => h) rfl rfl rfl (Nat.le_of_ble_eq_true rfl) dJ9_rotateLeft_37 (fun H locs hR369 hS370 => ?_)
        obtain ⟨G371, hG371⟩ : ∃ z : GH, z = gu G363 (N r) ((11, r), .inr (8, [.ref (K r), .ref (V r), va_rf ((L r).map N), va_rf ((R357 r).map N), .ref (N q), .int (C r)])) := ⟨_, rfl⟩
        have hR369 : Rep Γ G371 H := by rw [hG371]; exact hR369
        obtain ⟨P372, eP372⟩ : ∃ z, z = va_up P364 r (some q) := ⟨_, rfl⟩
        have hT373 := TH.putP hT365 hSr (y := some q) hG371
        rw [← eP372] at hT373
        have f374 : G371 a = some ((4, p), .inr (7, [.null, va_rf vw, .null, va_rf (root.map N), .int sz, .int mo, .null, .null, .null])) := by rw [hG371]; exact gu_t f366 (hT365.1 r hSr) (tne rfl)
        have k375 : P372 x = some q := by rw [eP372, va_up_ne _ _ (hpr)]; exact k367
        have k376 : P372 b = some x := by rw [eP372, va_up_ne _ _ ((hb0 b hb).2.2)]; exact k368
        have k377 : P372 r = some q := by rw [eP372]; exact va_up_self _ _ _
        refine lv_aload_n X.hx X.hb dJ9_rotateLeft_40 rfl (lv_at hl 2 rfl) ?_
        refine g_get (v := .ref (N q)) X hR369 (hT373.1 x hx) rfl in_J21 4 (by decide) q623 (fun _ h => h) (knv (N := N) (o := P372 x) (v := some q) k375) dJ9_rotateLeft_41 ?_
        refine lv_ifnonnull (tgt := 55) X.hx X.hb dJ9_rotateLeft_44 (by decide) ?_
        refine lv_aload_n X.hx X.hb dJ9_rotateLeft_55 rfl (lv_at hl 2 rfl) ?_
        refine g_get (v := .ref (N q)) X hR369 (hT373.1 x hx) rfl in_J21 4 (by decide) q623 (fun _ h => h) (knv (N := N) (o := P372 x) (v := some q) k375) dJ9_rotateLeft_56 ?_
        refine g_get (v := .ref (N x)) X hR369 (hT373.1 q (hq0 q hq).1) rfl in_J21 2 (by decide) q620 (fun _ h => h) (knv (N := N) (o := L q) (v := some x) hl0) dJ9_rotateLeft_59 ?_
        refine lv_aload_n X.hx X.hb dJ9_rotateLeft_62 rfl (lv_at hl 2 rfl) ?_
        refine lv_acmp_ne (rx := some (N x)) (ry := some (N x)) (tgt := 77) X.hx X.hb dJ9_rotateLeft_63 (by decide) (fun c63 => ?_) (fun c63 => ?_)
        · exact absurd rfl c63
        · refine lv_aload_n X.hx X.hb dJ9_rotateLeft_66 rfl (lv_at hl 2 rfl) ?_
          refine g_get (v := .ref (N q)) X hR369 (hT373.1 x hx) rfl in_J21 4 (by decide) q623 (fun _ h => h) (knv (N := N) (o := P372 x) (v := some q) k375) dJ9_rotateLeft_67 ?_
          refine lv_aload_n X.hx X.hb dJ9_rotateLeft_70 rfl (lv_at hl 0 rfl) ?_
          refine g_put X hR369 hS370 (hT373.1 q (hq0 q hq).1) (Nat.le_of_ble_eq_true rfl) rfl in_J21 tyJ21 tyJ21_ok nmJ21 2 (by decide) q620 (fun _ h => h) rfl rfl rfl (Nat.le_of_ble_eq_true rfl) dJ9_rotateLeft_71 (fun H locs hR378 hS379 => ?_)
          obtain ⟨G380, hG380⟩ : ∃ z : GH, z = gu G371 (N q) ((11, q), .inr (8, [.ref (K q), .ref (V q), .ref (N r), va_rf ((R357 q).map N), va_rf ((P372 q).map N), .int (C q)])) := ⟨_, rfl⟩
          have hR378 : Rep Γ G380 H := by rw [hG380]; exact hR378
          obtain ⟨L381, eL381⟩ : ∃ z, z = va_up L q (some r) := ⟨_, rfl⟩
          have hT382 := TH.putL hT373 (hq0 q hq).1 (y := some r) hG380
          rw [← eL381] at hT382
          have f383 : G380 a = some ((4, p), .inr (7, [.null, va_rf vw, .null, va_rf (root.map N), .int sz, .int mo, .null, .null, .null])) := by rw [hG380]; exact gu_t f374 (hT373.1 q (hq0 q hq).1) (tne rfl)
          have k384 : L381 r = some b := by rw [eL381, va_up_ne _ _ (Ne.symm ((hq0 q hq).2.2.1))]; exact hb
          have k385 : L381 q = some r := by rw [eL381]; exact va_up_self _ _ _
          refine lv_goto (tgt := 85) X.hx X.hb dJ9_rotateLeft_74 (by decide) ?_
          refine lv_aload_n X.hx X.hb dJ9_rotateLeft_85 rfl (lv_at hl 0 rfl) ?_
          refine lv_aload_n X.hx X.hb dJ9_rotateLeft_86 rfl (lv_at hl 2 rfl) ?_
          refine g_put X hR378 hS379 (hT382.1 r hSr) (Nat.le_of_ble_eq_true rfl) rfl in_J21 tyJ21 tyJ21_ok nmJ21 2 (by decide) q620 (fun _ h => h) rfl rfl rfl (Nat.le_of_ble_eq_true rfl) dJ9_rotateLeft_87 (fun H locs hR386 hS387 => ?_)
          obtain ⟨G388, hG388⟩ : ∃ z : GH, z = gu G380 (N r) ((11, r), .inr (8, [.ref (K r), .ref (V r), .ref (N x), va_rf ((R357 r).map N), va_rf ((P372 r).map N), .int (C r)])) := ⟨_, rfl⟩
          have hR386 : Rep Γ G388 H := by rw [hG388]; exact hR386
          obtain ⟨L389, eL389⟩ : ∃ z, z = va_up L381 r (some x) := ⟨_, rfl⟩
          have hT390 := TH.putL hT382 hSr (y := some x) hG388
          rw [← eL389] at hT390
          have f391 : G388 a = some ((4, p), .inr (7, [.null, va_rf vw, .null, va_rf (root.map N), .int sz, .int mo, .null, .null, .null])) := by rw [hG388]; exact gu_t f383 (hT382.1 r hSr) (tne rfl)
          have k392 : L389 q = some r := by rw [eL389, va_up_ne _ _ ((hq0 q hq).2.2.1)]; exact k385
          have k393 : L389 r = some x := by rw [eL389]; exact va_up_self _ _ _
          refine lv_aload_n X.hx X.hb dJ9_rotateLeft_90 rfl (lv_at hl 2 rfl) ?_
          refine lv_aload_n X.hx X.hb dJ9_rotateLeft_91 rfl (lv_at hl 0 rfl) ?_
          refine g_put X hR386 hS387 (hT390.1 x hx) (Nat.le_of_ble_eq_true rfl) rfl in_J21 tyJ21 tyJ21_ok nmJ21 4 (by decide) q623 (fun _ h => h) rfl rfl rfl (Nat.le_of_ble_eq_true rfl) dJ9_rotateLeft_92 (fun H locs hR394 hS395 => ?_)
          obtain ⟨G396, hG396⟩ : ∃ z : GH, z = gu G388 (N x) ((11, x), .inr (8, [.ref (K x), .ref (V x), va_rf ((L389 x).map N), va_rf ((R357 x).map N), .ref (N r), .int (C x)])) := ⟨_, rfl⟩
          have hR394 : Rep Γ G396 H := by rw [hG396]; exact hR394
          obtain ⟨P397, eP397⟩ : ∃ z, z = va_up P372 x (some r) := ⟨_, rfl⟩
          have hT398 := TH.putP hT390 hx (y := some r) hG396
          rw [← eP397] at hT398
          have f399 : G396 a = some ((4, p), .inr (7, [.null, va_rf vw, .null, va_rf (root.map N), .int sz, .int mo, .null, .null, .null])) := by rw [hG396]; exact gu_t f391 (hT390.1 x hx) (tne rfl)
          have k400 : P397 b = some x := by rw [eP397, va_up_ne _ _ ((hb0 b hb).2.1)]; exact k376
          have k401 : P397 r = some q := by rw [eP397, va_up_ne _ _ (Ne.symm (hpr))]; exact k377
          have k402 : P397 x = some r := by rw [eP397]; exact va_up_self _ _ _
          have hgk : gK (tT p S) G G396 := (gK.tr (gK.tr (gK.tr (gK.tr (gK.tr (gK.pt hG356 (hT.1 x hx) (Or.inr ⟨x, hx, rfl⟩)) (gK.pt hG363 (hT358.1 b (hb0 b hb).1) (Or.inr ⟨b, (hb0 b hb).1, rfl⟩))) (gK.pt hG371 (hT365.1 r hSr) (Or.inr ⟨r, hSr, rfl⟩))) (gK.pt hG380 (hT373.1 q (hq0 q hq).1) (Or.inr ⟨q, (hq0 q hq).1, rfl⟩))) (gK.pt hG388 (hT382.1 r hSr) (Or.inr ⟨r, hSr, rfl⟩))) (gK.pt hG396 (hT390.1 x hx) (Or.inr ⟨x, hx, rfl⟩)))
          have hrot : Rot L R P L389 R357 P397 root (root) x r := by
            refine Rot_mk hpr hb hq ?_ ?_ ?_ ?_ ?_ ?_ ?_
            · intro z hz; cases hz; exact ⟨(hq0 q hq).2.1, (hq0 q hq).2.2.1⟩
            · intro z hz; cases hz; exact hb0 b hb |>.2
            · intro k; simp only [eR357, eP364, eP372, eL381, eL389, eP397]; unfold va_up; clear hR hS hT hI X hr hlk hin hnm hl hgk hM; grind
            · intro k; simp only [eR357, eP364, eP372, eL381, eL389, eP397]; unfold va_up; clear hR hS hT hI X hr hlk hin hnm hl hgk hM; grind
            · intro k; simp only [eR357, eP364, eP372, eL381, eL389, eP397]; unfold va_up; clear hR hS hT hI X hr hlk hin hnm hl hgk hM; grind
            · intro h; cases h
            · intro _ _; rfl
          exact g_vret X hr hlk hR394 hS395 (⟨rfl, hgk, _, _, _, root, hT398, f399, hrot⟩) (by (try dsimp only [RM]); omega) (by (try dsimp only [RM]); omega) dJ9_rotateLeft_95
      · refine lv_aload_n X.hx X.hb dJ9_rotateLeft_9 rfl (lv_at hl 2 rfl) ?_
        refine lv_aload_n X.hx X.hb dJ9_rotateLeft_10 rfl (lv_at hl 0 rfl) ?_
        refine g_get (v := .ref (N b)) X hR (hT.1 r hSr) rfl in_J21 2 (by decide) q620 (fun _ h => h) (knv (N := N) (o := L r) (v := some b) hb) dJ9_rotateLeft_11 ?_
        refine g_put X hR hS (hT.1 x hx) (Nat.le_of_ble_eq_true rfl) rfl in_J21 tyJ21 tyJ21_ok nmJ21 3 (by decide) q621 (fun _ h => h) rfl rfl rfl (Nat.le_of_ble_eq_true rfl) dJ9_rotateLeft_14 (fun H locs hR403 hS404 => ?_)
        obtain ⟨G405, hG405⟩ : ∃ z : GH, z = gu G (N x) ((11, x), .inr (8, [.ref (K x), .ref (V x), va_rf ((L x).map N), .ref (N b), va_rf ((P x).map N), .int (C x)])) := ⟨_, rfl⟩
        have hR403 : Rep Γ G405 H := by rw [hG405]; exact hR403
        obtain ⟨R406, eR406⟩ : ∃ z, z = va_up R x (some b) := ⟨_, rfl⟩
        have hT407 := TH.putR hT hx (y := some b) hG405
        rw [← eR406] at hT407
        have f408 : G405 a = some ((4, p), .inr (7, [.null, va_rf vw, .null, va_rf (root.map N), .int sz, .int mo, .null, .null, .null])) := by rw [hG405]; exact gu_t hM (hT.1 x hx) (tne rfl)
        have k409 : R406 x = some b := by rw [eR406]; exact va_up_self _ _ _
        refine lv_aload_n X.hx X.hb dJ9_rotateLeft_17 rfl (lv_at hl 0 rfl) ?_
        refine g_get (v := .ref (N b)) X hR403 (hT407.1 r hSr) rfl in_J21 2 (by decide) q620 (fun _ h => h) (knv (N := N) (o := L r) (v := some b) hb) dJ9_rotateLeft_18 ?_
        refine lv_ifnull X.hx X.hb dJ9_rotateLeft_21 ?_
        refine lv_aload_n X.hx X.hb dJ9_rotateLeft_24 rfl (lv_at hl 0 rfl) ?_
        refine g_get (v := .ref (N b)) X hR403 (hT407.1 r hSr) rfl in_J21 2 (by decide) q620 (fun _ h => h) (knv (N := N) (o := L r) (v := some b) hb) dJ9_rotateLeft_25 ?_
        refine lv_aload_n X.hx X.hb dJ9_rotateLeft_28 rfl (lv_at hl 2 rfl) ?_
        refine g_put X hR403 hS404 (hT407.1 b (hb0 b hb).1) (Nat.le_of_ble_eq_true rfl) rfl in_J21 tyJ21 tyJ21_ok nmJ21 4 (by decide) q623 (fun _ h => h) rfl rfl rfl (Nat.le_of_ble_eq_true rfl) dJ9_rotateLeft_29 (fun H locs hR410 hS411 => ?_)
        obtain ⟨G412, hG412⟩ : ∃ z : GH, z = gu G405 (N b) ((11, b), .inr (8, [.ref (K b), .ref (V b), va_rf ((L b).map N), va_rf ((R406 b).map N), .ref (N x), .int (C b)])) := ⟨_, rfl⟩
        have hR410 : Rep Γ G412 H := by rw [hG412]; exact hR410
        obtain ⟨P413, eP413⟩ : ∃ z, z = va_up P b (some x) := ⟨_, rfl⟩
        have hT414 := TH.putP hT407 (hb0 b hb).1 (y := some x) hG412
        rw [← eP413] at hT414
        have f415 : G412 a = some ((4, p), .inr (7, [.null, va_rf vw, .null, va_rf (root.map N), .int sz, .int mo, .null, .null, .null])) := by rw [hG412]; exact gu_t f408 (hT407.1 b (hb0 b hb).1) (tne rfl)
        have k416 : P413 x = some q := by rw [eP413, va_up_ne _ _ (Ne.symm ((hb0 b hb).2.1))]; exact hq
        have k417 : P413 b = some x := by rw [eP413]; exact va_up_self _ _ _
        refine lv_aload_n X.hx X.hb dJ9_rotateLeft_32 rfl (lv_at hl 0 rfl) ?_
        refine lv_aload_n X.hx X.hb dJ9_rotateLeft_33 rfl (lv_at hl 2 rfl) ?_
        refine g_get (v := .ref (N q)) X hR410 (hT414.1 x hx) rfl in_J21 4 (by decide) q623 (fun _ h => h) (knv (N := N) (o := P413 x) (v := some q) k416) dJ9_rotateLeft_34 ?_
        refine g_put X hR410 hS411 (hT414.1 r hSr) (Nat.le_of_ble_eq_true rfl) rfl in_J21 tyJ21 tyJ21_ok nmJ21 4 (by decide) q623 (fun _ h => h) rfl rfl rfl (Nat.le_of_ble_eq_true rfl) dJ9_rotateLeft_37 (fun H locs hR418 hS419 => ?_)
        obtain ⟨G420, hG420⟩ : ∃ z : GH, z = gu G412 (N r) ((11, r), .inr (8, [.ref (K r), .ref (V r), va_rf ((L r).map N), va_rf ((R406 r).map N), .ref (N q), .int (C r)])) := ⟨_, rfl⟩
        have hR418 : Rep Γ G420 H := by rw [hG420]; exact hR418
        obtain ⟨P421, eP421⟩ : ∃ z, z = va_up P413 r (some q) := ⟨_, rfl⟩
        have hT422 := TH.putP hT414 hSr (y := some q) hG420
        rw [← eP421] at hT422
        have f423 : G420 a = some ((4, p), .inr (7, [.null, va_rf vw, .null, va_rf (root.map N), .int sz, .int mo, .null, .null, .null])) := by rw [hG420]; exact gu_t f415 (hT414.1 r hSr) (tne rfl)
        have k424 : P421 x = some q := by rw [eP421, va_up_ne _ _ (hpr)]; exact k416
        have k425 : P421 b = some x := by rw [eP421, va_up_ne _ _ ((hb0 b hb).2.2)]; exact k417
        have k426 : P421 r = some q := by rw [eP421]; exact va_up_self _ _ _
        refine lv_aload_n X.hx X.hb dJ9_rotateLeft_40 rfl (lv_at hl 2 rfl) ?_
        refine g_get (v := .ref (N q)) X hR418 (hT422.1 x hx) rfl in_J21 4 (by decide) q623 (fun _ h => h) (knv (N := N) (o := P421 x) (v := some q) k424) dJ9_rotateLeft_41 ?_
        refine lv_ifnonnull (tgt := 55) X.hx X.hb dJ9_rotateLeft_44 (by decide) ?_
        refine lv_aload_n X.hx X.hb dJ9_rotateLeft_55 rfl (lv_at hl 2 rfl) ?_
        refine g_get (v := .ref (N q)) X hR418 (hT422.1 x hx) rfl in_J21 4 (by decide) q623 (fun _ h => h) (knv (N := N) (o := P421 x) (v := some q) k424) dJ9_rotateLeft_56 ?_
        refine g_get (v := va_rf ((L q).map N)) X hR418 (hT422.1 q (hq0 q hq).1) rfl in_J21 2 (by decide) q620 (fun _ h => h) rfl dJ9_rotateLeft_59 ?_
        refine lv_aload_n X.hx X.hb dJ9_rotateLeft_62 rfl (lv_at hl 2 rfl) ?_
        refine lv_acmp_ne (rx := (L q).map N) (ry := some (N x)) (tgt := 77) X.hx X.hb dJ9_rotateLeft_63 (by decide) (fun c63 => ?_) (fun c63 => ?_)
        · refine lv_aload_n X.hx X.hb dJ9_rotateLeft_77 rfl (lv_at hl 2 rfl) ?_
          refine g_get (v := .ref (N q)) X hR418 (hT422.1 x hx) rfl in_J21 4 (by decide) q623 (fun _ h => h) (knv (N := N) (o := P421 x) (v := some q) k424) dJ9_rotateLeft_78 ?_
          refine lv_aload_n X.hx X.hb dJ9_rotateLeft_81 rfl (lv_at hl 0 rfl) ?_
          refine g_put X hR418 hS419 (hT422.1 q (hq0 q hq).1) (Nat.le_of_ble_eq_true rfl) rfl in_J21 tyJ21 tyJ21_ok nmJ21 3 (by decide) q621 (fun _ h => h) rfl rfl rfl (Nat.le_of_ble_eq_true rfl) dJ9_rotateLeft_82 (fun H locs hR427 hS428 => ?_)
          obtain ⟨G429, hG429⟩ : ∃ z : GH, z = gu G420 (N q) ((11, q), .inr (8, [.ref (K q), .ref (V q), va_rf ((L q).map N), .ref (N r), va_rf ((P421 q).map N), .int (C q)])) := ⟨_, rfl⟩
          have hR427 : Rep Γ G429 H := by rw [hG429]; exact hR427
          obtain ⟨R430, eR430⟩ : ∃ z, z = va_up R406 q (some r) := ⟨_, rfl⟩
          have hT431 := TH.putR hT422 (hq0 q hq).1 (y := some r) hG429
          rw [← eR430] at hT431
          have f432 : G429 a = some ((4, p), .inr (7, [.null, va_rf vw, .null, va_rf (root.map N), .int sz, .int mo, .null, .null, .null])) := by rw [hG429]; exact gu_t f423 (hT422.1 q (hq0 q hq).1) (tne rfl)
          have k433 : R430 x = some b := by rw [eR430, va_up_ne _ _ (Ne.symm ((hq0 q hq).2.1))]; exact k409
          have k434 : R430 q = some r := by rw [eR430]; exact va_up_self _ _ _
          refine lv_aload_n X.hx X.hb dJ9_rotateLeft_85 rfl (lv_at hl 0 rfl) ?_
          refine lv_aload_n X.hx X.hb dJ9_rotateLeft_86 rfl (lv_at hl 2 rfl) ?_
          refine g_put X hR427 hS428 (hT431.1 r hSr) (Nat.le_of_ble_eq_true rfl) rfl in_J21 tyJ21 tyJ21_ok nmJ21 2 (by decide) q620 (fun _ h => h) rfl rfl rfl (Nat.le_of_ble_eq_true rfl) dJ9_rotateLeft_87 (fun H locs hR435 hS436 => ?_)
          obtain ⟨G437, hG437⟩ : ∃ z : GH, z = gu G429 (N r) ((11, r), .inr (8, [.ref (K r), .ref (V r), .ref (N x), va_rf ((R430 r).map N), va_rf ((P421 r).map N), .int (C r)])) := ⟨_, rfl⟩
          have hR435 : Rep Γ G437 H := by rw [hG437]; exact hR435
          obtain ⟨L438, eL438⟩ : ∃ z, z = va_up L r (some x) := ⟨_, rfl⟩
          have hT439 := TH.putL hT431 hSr (y := some x) hG437
          rw [← eL438] at hT439
          have f440 : G437 a = some ((4, p), .inr (7, [.null, va_rf vw, .null, va_rf (root.map N), .int sz, .int mo, .null, .null, .null])) := by rw [hG437]; exact gu_t f432 (hT431.1 r hSr) (tne rfl)
          have k441 : L438 r = some x := by rw [eL438]; exact va_up_self _ _ _
          refine lv_aload_n X.hx X.hb dJ9_rotateLeft_90 rfl (lv_at hl 2 rfl) ?_
          refine lv_aload_n X.hx X.hb dJ9_rotateLeft_91 rfl (lv_at hl 0 rfl) ?_
          refine g_put X hR435 hS436 (hT439.1 x hx) (Nat.le_of_ble_eq_true rfl) rfl in_J21 tyJ21 tyJ21_ok nmJ21 4 (by decide) q623 (fun _ h => h) rfl rfl rfl (Nat.le_of_ble_eq_true rfl) dJ9_rotateLeft_92 (fun H locs hR442 hS443 => ?_)
          obtain ⟨G444, hG444⟩ : ∃ z : GH, z = gu G437 (N x) ((11, x), .inr (8, [.ref (K x), .ref (V x), va_rf ((L438 x).map N), va_rf ((R430 x).map N), .ref (N r), .int (C x)])) := ⟨_, rfl⟩
          have hR442 : Rep Γ G444 H := by rw [hG444]; exact hR442
          obtain ⟨P445, eP445⟩ : ∃ z, z = va_up P421 x (some r) := ⟨_, rfl⟩
          have hT446 := TH.putP hT439 hx (y := some r) hG444
          rw [← eP445] at hT446
          have f447 : G444 a = some ((4, p), .inr (7, [.null, va_rf vw, .null, va_rf (root.map N), .int sz, .int mo, .null, .null, .null])) := by rw [hG444]; exact gu_t f440 (hT439.1 x hx) (tne rfl)
          have k448 : P445 b = some x := by rw [eP445, va_up_ne _ _ ((hb0 b hb).2.1)]; exact k425
          have k449 : P445 r = some q := by rw [eP445, va_up_ne _ _ (Ne.symm (hpr))]; exact k426
          have k450 : P445 x = some r := by rw [eP445]; exact va_up_self _ _ _
          have hgk : gK (tT p S) G G444 := (gK.tr (gK.tr (gK.tr (gK.tr (gK.tr (gK.pt hG405 (hT.1 x hx) (Or.inr ⟨x, hx, rfl⟩)) (gK.pt hG412 (hT407.1 b (hb0 b hb).1) (Or.inr ⟨b, (hb0 b hb).1, rfl⟩))) (gK.pt hG420 (hT414.1 r hSr) (Or.inr ⟨r, hSr, rfl⟩))) (gK.pt hG429 (hT422.1 q (hq0 q hq).1) (Or.inr ⟨q, (hq0 q hq).1, rfl⟩))) (gK.pt hG437 (hT431.1 r hSr) (Or.inr ⟨r, hSr, rfl⟩))) (gK.pt hG444 (hT439.1 x hx) (Or.inr ⟨x, hx, rfl⟩)))
          have hrot : Rot L R P L438 R430 P445 root (root) x r := by
            refine Rot_mk hpr hb hq ?_ ?_ ?_ ?_ ?_ ?_ ?_
            · intro z hz; cases hz; exact ⟨(hq0 q hq).2.1, (hq0 q hq).2.2.1⟩
            · intro z hz; cases hz; exact hb0 b hb |>.2
            · intro k; simp only [eR406, eP413, eP421, eR430, eL438, eP445]; unfold va_up; clear hR hS hT hI X hr hlk hin hnm hl hgk hM; grind
            · intro k; simp only [eR406, eP413, eP421, eR430, eL438, eP445]; unfold va_up; clear hR hS hT hI X hr hlk hin hnm hl hgk hM; grind
            · intro k; simp only [eR406, eP413, eP421, eR430, eL438, eP445]; unfold va_up; clear hR hS hT hI X hr hlk hin hnm hl hgk hM; grind
            · intro h; cases h
            · intro _ _; rfl
          exact g_vret X hr hlk hR442 hS443 (⟨rfl, hgk, _, _, _, root, hT446, f447, hrot⟩) (by (try dsimp only [RM]); omega) (by (try dsimp only [RM]); omega) dJ9_rotateLeft_95
        · exact absurd (hT.inj (fun y hy => (hI.2.2.1 q y (hq0 q hq).1 hy).1) hx c63) hl0

set_option maxHeartbeats 4000000 in
theorem c_rotR (l : Launch) (Γ : GP) (G : GH) {S : Nat → Prop} {N K V : Nat → Nat} {L R P : Nat → Option Nat} {C : Nat → Int32} (hT : TH G S N K V L R P C) {A B : Int} {key lo hi : Nat → Int} {root : Option Nat} (hI : TI A B S key lo hi L R P root) {a p : Nat} {vw : Option Nat} {sz mo : Int32} (hM : G a = some (TMc p vw (root.map N) sz mo)) {x r : Nat} (hx : S x) (hxr : L x = some r) : MetG l yJ9_rotateRight (ws_ yJ9_rotateRight cJ9_rotateRight 3 none) (RM 1 0 0) Γ G [.ref a, .ref (N x)] (fun v G1 => v = none ∧ gK (tT p S) G G1 ∧ ∃ L1 R1 P1 root1, TH G1 S N K V L1 R1 P1 C ∧ G1 a = some (TMc p vw (root1.map N) sz mo) ∧ Rot R L P R1 L1 P1 root root1 x r) 0 0 := by
  refine gMet (own := RJ9) (by decide) rfl (Nat.le_of_ble_eq_true rfl) ?_
  intro pp ee ss mm below meth cc0 ls X hr hlk hin hnm hR hS hl
  have hl : lv_has ls 3 [(0, .ref a), (1, .ref (N x))] := hl
  refine lv_aload_n X.hx X.hb dJ9_rotateRight_0 rfl (lv_at hl 1 rfl) ?_
  refine lv_ifnull X.hx X.hb dJ9_rotateRight_1 ?_
  refine lv_aload_n X.hx X.hb dJ9_rotateRight_4 rfl (lv_at hl 1 rfl) ?_
  refine g_get (v := .ref (N r)) X hR (hT.1 x hx) rfl in_J21 2 (by decide) q620 (fun _ h => h) (knv (N := N) (o := L x) (v := some r) hxr) dJ9_rotateRight_5 ?_
  refine lv_astore_n (lv' := [(2, .ref (N r)), (0, .ref a), (1, .ref (N x))]) X.hx X.hb dJ9_rotateRight_8 rfl hl (by decide) rfl (fun ls hl => ?_)
  obtain ⟨hSr, hpr, hq0, hb0⟩ := TI_neR hI hx hxr
  rcases hb : R r with _ | b
  · rcases hq : P x with _ | q
    · refine lv_aload_n X.hx X.hb dJ9_rotateRight_9 rfl (lv_at hl 2 rfl) ?_
      refine lv_aload_n X.hx X.hb dJ9_rotateRight_10 rfl (lv_at hl 0 rfl) ?_
      refine g_get (v := .null) X hR (hT.1 r hSr) rfl in_J21 3 (by decide) q621 (fun _ h => h) (knv (N := N) (o := R r) (v := none) hb) dJ9_rotateRight_11 ?_
      refine g_put X hR hS (hT.1 x hx) (Nat.le_of_ble_eq_true rfl) rfl in_J21 tyJ21 tyJ21_ok nmJ21 2 (by decide) q620 (fun _ h => h) rfl rfl rfl (Nat.le_of_ble_eq_true rfl) dJ9_rotateRight_14 (fun H locs hR451 hS452 => ?_)
      obtain ⟨G453, hG453⟩ : ∃ z : GH, z = gu G (N x) ((11, x), .inr (8, [.ref (K x), .ref (V x), .null, va_rf ((R x).map N), va_rf ((P x).map N), .int (C x)])) := ⟨_, rfl⟩
      have hR451 : Rep Γ G453 H := by rw [hG453]; exact hR451
      obtain ⟨L454, eL454⟩ : ∃ z, z = va_up L x none := ⟨_, rfl⟩
      have hT455 := TH.putL hT hx (y := none) hG453
      rw [← eL454] at hT455
      have f456 : G453 a = some ((4, p), .inr (7, [.null, va_rf vw, .null, va_rf (root.map N), .int sz, .int mo, .null, .null, .null])) := by rw [hG453]; exact gu_t hM (hT.1 x hx) (tne rfl)
      have k457 : L454 x = none := by rw [eL454]; exact va_up_self _ _ _
      refine lv_aload_n X.hx X.hb dJ9_rotateRight_17 rfl (lv_at hl 0 rfl) ?_
      refine g_get (v := .null) X hR451 (hT455.1 r hSr) rfl in_J21 3 (by decide) q621 (fun _ h => h) (knv (N := N) (o := R r) (v := none) hb) dJ9_rotateRight_18 ?_
      refine lv_ifnullN (tgt := 32) X.hx X.hb dJ9_rotateRight_21 (by decide) ?_
      refine lv_aload_n X.hx X.hb dJ9_rotateRight_32 rfl (lv_at hl 0 rfl) ?_
      refine lv_aload_n X.hx X.hb dJ9_rotateRight_33 rfl (lv_at hl 2 rfl) ?_
      refine g_get (v := .null) X hR451 (hT455.1 x hx) rfl in_J21 4 (by decide) q623 (fun _ h => h) (knv (N := N) (o := P x) (v := none) hq) dJ9_rotateRight_34 ?_
      refine g_put X hR451 hS452 (hT455.1 r hSr) (Nat.le_of_ble_eq_true rfl) rfl in_J21 tyJ21 tyJ21_ok nmJ21 4 (by decide) q623 (fun _ h => h) rfl rfl rfl (Nat.le_of_ble_eq_true rfl) dJ9_rotateRight_37 (fun H locs hR458 hS459 => ?_)
      obtain ⟨G460, hG460⟩ : ∃ z : GH, z = gu G453 (N r) ((11, r), .inr (8, [.ref (K r), .ref (V r), va_rf ((L454 r).map N), va_rf ((R r).map N), .null, .int (C r)])) := ⟨_, rfl⟩
      have hR458 : Rep Γ G460 H := by rw [hG460]; exact hR458
      obtain ⟨P461, eP461⟩ : ∃ z, z = va_up P r none := ⟨_, rfl⟩
      have hT462 := TH.putP hT455 hSr (y := none) hG460
      rw [← eP461] at hT462
      have f463 : G460 a = some ((4, p), .inr (7, [.null, va_rf vw, .null, va_rf (root.map N), .int sz, .int mo, .null, .null, .null])) := by rw [hG460]; exact gu_t f456 (hT455.1 r hSr) (tne rfl)
      have k464 : P461 x = none := by rw [eP461, va_up_ne _ _ (hpr)]; exact hq
      have k465 : P461 r = none := by rw [eP461]; exact va_up_self _ _ _
      refine lv_aload_n X.hx X.hb dJ9_rotateRight_40 rfl (lv_at hl 2 rfl) ?_
      refine g_get (v := .null) X hR458 (hT462.1 x hx) rfl in_J21 4 (by decide) q623 (fun _ h => h) (knv (N := N) (o := P461 x) (v := none) k464) dJ9_rotateRight_41 ?_
      refine lv_ifnonnullN X.hx X.hb dJ9_rotateRight_44 ?_
      refine lv_aload_n X.hx X.hb dJ9_rotateRight_47 rfl (lv_at hl 1 rfl) ?_
      refine lv_aload_n X.hx X.hb dJ9_rotateRight_48 rfl (lv_at hl 0 rfl) ?_
      refine g_put X hR458 hS459 f463 (Nat.le_of_ble_eq_true rfl) rfl in_J9 tyJ9 tyJ9_ok nmJ9 3 (by decide) q264 (fun _ h => h) rfl rfl rfl (Nat.le_of_ble_eq_true rfl) dJ9_rotateRight_49 (fun H locs hR466 hS467 => ?_)
      obtain ⟨G468, hG468⟩ : ∃ z : GH, z = gu G460 a ((4, p), .inr (7, [.null, va_rf vw, .null, .ref (N r), .int sz, .int mo, .null, .null, .null])) := ⟨_, rfl⟩
      have hR466 : Rep Γ G468 H := by rw [hG468]; exact hR466
      have f469 : G468 a = some ((4, p), .inr (7, [.null, va_rf vw, .null, .ref (N r), .int sz, .int mo, .null, .null, .null])) := by rw [hG468]; exact gu_s _ _ _
      have hT470 := TH.off hT462 hG468 f463 (by show 4 ≠ 11; decide)
      refine lv_goto (tgt := 85) X.hx X.hb dJ9_rotateRight_52 (by decide) ?_
      refine lv_aload_n X.hx X.hb dJ9_rotateRight_85 rfl (lv_at hl 0 rfl) ?_
      refine lv_aload_n X.hx X.hb dJ9_rotateRight_86 rfl (lv_at hl 2 rfl) ?_
      refine g_put X hR466 hS467 (hT470.1 r hSr) (Nat.le_of_ble_eq_true rfl) rfl in_J21 tyJ21 tyJ21_ok nmJ21 3 (by decide) q621 (fun _ h => h) rfl rfl rfl (Nat.le_of_ble_eq_true rfl) dJ9_rotateRight_87 (fun H locs hR471 hS472 => ?_)
      obtain ⟨G473, hG473⟩ : ∃ z : GH, z = gu G468 (N r) ((11, r), .inr (8, [.ref (K r), .ref (V r), va_rf ((L454 r).map N), .ref (N x), va_rf ((P461 r).map N), .int (C r)])) := ⟨_, rfl⟩
      have hR471 : Rep Γ G473 H := by rw [hG473]; exact hR471
      obtain ⟨R474, eR474⟩ : ∃ z, z = va_up R r (some x) := ⟨_, rfl⟩
      have hT475 := TH.putR hT470 hSr (y := some x) hG473
      rw [← eR474] at hT475
      have f476 : G473 a = some ((4, p), .inr (7, [.null, va_rf vw, .null, .ref (N r), .int sz, .int mo, .null, .null, .null])) := by rw [hG473]; exact gu_t f469 (hT470.1 r hSr) (tne rfl)
      have k477 : R474 r = some x := by rw [eR474]; exact va_up_self _ _ _
      refine lv_aload_n X.hx X.hb dJ9_rotateRight_90 rfl (lv_at hl 2 rfl) ?_
      refine lv_aload_n X.hx X.hb dJ9_rotateRight_91 rfl (lv_at hl 0 rfl) ?_
      refine g_put X hR471 hS472 (hT475.1 x hx) (Nat.le_of_ble_eq_true rfl) rfl in_J21 tyJ21 tyJ21_ok nmJ21 4 (by decide) q623 (fun _ h => h) rfl rfl rfl (Nat.le_of_ble_eq_true rfl) dJ9_rotateRight_92 (fun H locs hR478 hS479 => ?_)
      obtain ⟨G480, hG480⟩ : ∃ z : GH, z = gu G473 (N x) ((11, x), .inr (8, [.ref (K x), .ref (V x), va_rf ((L454 x).map N), va_rf ((R474 x).map N), .ref (N r), .int (C x)])) := ⟨_, rfl⟩
      have hR478 : Rep Γ G480 H := by rw [hG480]; exact hR478
      obtain ⟨P481, eP481⟩ : ∃ z, z = va_up P461 x (some r) := ⟨_, rfl⟩
      have hT482 := TH.putP hT475 hx (y := some r) hG480
      rw [← eP481] at hT482
      have f483 : G480 a = some ((4, p), .inr (7, [.null, va_rf vw, .null, .ref (N r), .int sz, .int mo, .null, .null, .null])) := by rw [hG480]; exact gu_t f476 (hT475.1 x hx) (tne rfl)
      have k484 : P481 r = none := by rw [eP481, va_up_ne _ _ (Ne.symm (hpr))]; exact k465
      have k485 : P481 x = some r := by rw [eP481]; exact va_up_self _ _ _
      have hgk : gK (tT p S) G G480 := (gK.tr (gK.tr (gK.tr (gK.tr (gK.pt hG453 (hT.1 x hx) (Or.inr ⟨x, hx, rfl⟩)) (gK.pt hG460 (hT455.1 r hSr) (Or.inr ⟨r, hSr, rfl⟩))) (gK.pt hG468 f463 (Or.inl rfl))) (gK.pt hG473 (hT470.1 r hSr) (Or.inr ⟨r, hSr, rfl⟩))) (gK.pt hG480 (hT475.1 x hx) (Or.inr ⟨x, hx, rfl⟩)))
      have hrot : Rot R L P R474 L454 P481 root (some r) x r := by
        refine Rot_mk hpr hb hq ?_ ?_ ?_ ?_ ?_ ?_ ?_
        · intro z hz; cases hz
        · intro z hz; cases hz
        · intro k; simp only [eL454, eP461, eR474, eP481]; unfold va_up; clear hR hS hT hI X hr hlk hin hnm hl hgk hM; grind
        · intro k; simp only [eL454, eP461, eR474, eP481]; unfold va_up; clear hR hS hT hI X hr hlk hin hnm hl hgk hM; grind
        · intro k; simp only [eL454, eP461, eR474, eP481]; unfold va_up; clear hR hS hT hI X hr hlk hin hnm hl hgk hM; grind
        · intro _; rfl
        · intro _ h; cases h
      exact g_vret X hr hlk hR478 hS479 (⟨rfl, hgk, _, _, _, some r, hT482, f483, hrot⟩) (by (try dsimp only [RM]); omega) (by (try dsimp only [RM]); omega) dJ9_rotateRight_95
    · by_cases hl0 : R q = some x
      · refine lv_aload_n X.hx X.hb dJ9_rotateRight_9 rfl (lv_at hl 2 rfl) ?_
        refine lv_aload_n X.hx X.hb dJ9_rotateRight_10 rfl (lv_at hl 0 rfl) ?_
        refine g_get (v := .null) X hR (hT.1 r hSr) rfl in_J21 3 (by decide) q621 (fun _ h => h) (knv (N := N) (o := R r) (v := none) hb) dJ9_rotateRight_11 ?_
        refine g_put X hR hS (hT.1 x hx) (Nat.le_of_ble_eq_true rfl) rfl in_J21 tyJ21 tyJ21_ok nmJ21 2 (by decide) q620 (fun _ h => h) rfl rfl rfl (Nat.le_of_ble_eq_true rfl) dJ9_rotateRight_14 (fun H locs hR486 hS487 => ?_)
        obtain ⟨G488, hG488⟩ : ∃ z : GH, z = gu G (N x) ((11, x), .inr (8, [.ref (K x), .ref (V x), .null, va_rf ((R x).map N), va_rf ((P x).map N), .int (C x)])) := ⟨_, rfl⟩
        have hR486 : Rep Γ G488 H := by rw [hG488]; exact hR486
        obtain ⟨L489, eL489⟩ : ∃ z, z = va_up L x none := ⟨_, rfl⟩
        have hT490 := TH.putL hT hx (y := none) hG488
        rw [← eL489] at hT490
        have f491 : G488 a = some ((4, p), .inr (7, [.null, va_rf vw, .null, va_rf (root.map N), .int sz, .int mo, .null, .null, .null])) := by rw [hG488]; exact gu_t hM (hT.1 x hx) (tne rfl)
        have k492 : L489 x = none := by rw [eL489]; exact va_up_self _ _ _
        refine lv_aload_n X.hx X.hb dJ9_rotateRight_17 rfl (lv_at hl 0 rfl) ?_
        refine g_get (v := .null) X hR486 (hT490.1 r hSr) rfl in_J21 3 (by decide) q621 (fun _ h => h) (knv (N := N) (o := R r) (v := none) hb) dJ9_rotateRight_18 ?_
        refine lv_ifnullN (tgt := 32) X.hx X.hb dJ9_rotateRight_21 (by decide) ?_
        refine lv_aload_n X.hx X.hb dJ9_rotateRight_32 rfl (lv_at hl 0 rfl) ?_
        refine lv_aload_n X.hx X.hb dJ9_rotateRight_33 rfl (lv_at hl 2 rfl) ?_
        refine g_get (v := .ref (N q)) X hR486 (hT490.1 x hx) rfl in_J21 4 (by decide) q623 (fun _ h => h) (knv (N := N) (o := P x) (v := some q) hq) dJ9_rotateRight_34 ?_
        refine g_put X hR486 hS487 (hT490.1 r hSr) (Nat.le_of_ble_eq_true rfl) rfl in_J21 tyJ21 tyJ21_ok nmJ21 4 (by decide) q623 (fun _ h => h) rfl rfl rfl (Nat.le_of_ble_eq_true rfl) dJ9_rotateRight_37 (fun H locs hR493 hS494 => ?_)
        obtain ⟨G495, hG495⟩ : ∃ z : GH, z = gu G488 (N r) ((11, r), .inr (8, [.ref (K r), .ref (V r), va_rf ((L489 r).map N), va_rf ((R r).map N), .ref (N q), .int (C r)])) := ⟨_, rfl⟩
        have hR493 : Rep Γ G495 H := by rw [hG495]; exact hR493
        obtain ⟨P496, eP496⟩ : ∃ z, z = va_up P r (some q) := ⟨_, rfl⟩
        have hT497 := TH.putP hT490 hSr (y := some q) hG495
        rw [← eP496] at hT497
        have f498 : G495 a = some ((4, p), .inr (7, [.null, va_rf vw, .null, va_rf (root.map N), .int sz, .int mo, .null, .null, .null])) := by rw [hG495]; exact gu_t f491 (hT490.1 r hSr) (tne rfl)
        have k499 : P496 x = some q := by rw [eP496, va_up_ne _ _ (hpr)]; exact hq
        have k500 : P496 r = some q := by rw [eP496]; exact va_up_self _ _ _
        refine lv_aload_n X.hx X.hb dJ9_rotateRight_40 rfl (lv_at hl 2 rfl) ?_
        refine g_get (v := .ref (N q)) X hR493 (hT497.1 x hx) rfl in_J21 4 (by decide) q623 (fun _ h => h) (knv (N := N) (o := P496 x) (v := some q) k499) dJ9_rotateRight_41 ?_
        refine lv_ifnonnull (tgt := 55) X.hx X.hb dJ9_rotateRight_44 (by decide) ?_
        refine lv_aload_n X.hx X.hb dJ9_rotateRight_55 rfl (lv_at hl 2 rfl) ?_
        refine g_get (v := .ref (N q)) X hR493 (hT497.1 x hx) rfl in_J21 4 (by decide) q623 (fun _ h => h) (knv (N := N) (o := P496 x) (v := some q) k499) dJ9_rotateRight_56 ?_
        refine g_get (v := .ref (N x)) X hR493 (hT497.1 q (hq0 q hq).1) rfl in_J21 3 (by decide) q621 (fun _ h => h) (knv (N := N) (o := R q) (v := some x) hl0) dJ9_rotateRight_59 ?_
        refine lv_aload_n X.hx X.hb dJ9_rotateRight_62 rfl (lv_at hl 2 rfl) ?_
        refine lv_acmp_ne (rx := some (N x)) (ry := some (N x)) (tgt := 77) X.hx X.hb dJ9_rotateRight_63 (by decide) (fun c63 => ?_) (fun c63 => ?_)
        · exact absurd rfl c63
        · refine lv_aload_n X.hx X.hb dJ9_rotateRight_66 rfl (lv_at hl 2 rfl) ?_
          refine g_get (v := .ref (N q)) X hR493 (hT497.1 x hx) rfl in_J21 4 (by decide) q623 (fun _ h => h) (knv (N := N) (o := P496 x) (v := some q) k499) dJ9_rotateRight_67 ?_
          refine lv_aload_n X.hx X.hb dJ9_rotateRight_70 rfl (lv_at hl 0 rfl) ?_
          refine g_put X hR493 hS494 (hT497.1 q (hq0 q hq).1) (Nat.le_of_ble_eq_true rfl) rfl in_J21 tyJ21 tyJ21_ok nmJ21 3 (by decide) q621 (fun _ h => h) rfl rfl rfl (Nat.le_of_ble_eq_true rfl) dJ9_rotateRight_71 (fun H locs hR501 hS502 => ?_)
          obtain ⟨G503, hG503⟩ : ∃ z : GH, z = gu G495 (N q) ((11, q), .inr (8, [.ref (K q), .ref (V q), va_rf ((L489 q).map N), .ref (N r), va_rf ((P496 q).map N), .int (C q)])) := ⟨_, rfl⟩
          have hR501 : Rep Γ G503 H := by rw [hG503]; exact hR501
          obtain ⟨R504, eR504⟩ : ∃ z, z = va_up R q (some r) := ⟨_, rfl⟩
          have hT505 := TH.putR hT497 (hq0 q hq).1 (y := some r) hG503
          rw [← eR504] at hT505
          have f506 : G503 a = some ((4, p), .inr (7, [.null, va_rf vw, .null, va_rf (root.map N), .int sz, .int mo, .null, .null, .null])) := by rw [hG503]; exact gu_t f498 (hT497.1 q (hq0 q hq).1) (tne rfl)
          have k507 : R504 r = none := by rw [eR504, va_up_ne _ _ (Ne.symm ((hq0 q hq).2.2.1))]; exact hb
          have k508 : R504 q = some r := by rw [eR504]; exact va_up_self _ _ _
          refine lv_goto (tgt := 85) X.hx X.hb dJ9_rotateRight_74 (by decide) ?_
          refine lv_aload_n X.hx X.hb dJ9_rotateRight_85 rfl (lv_at hl 0 rfl) ?_
          refine lv_aload_n X.hx X.hb dJ9_rotateRight_86 rfl (lv_at hl 2 rfl) ?_
          refine g_put X hR501 hS502 (hT505.1 r hSr) (Nat.le_of_ble_eq_true rfl) rfl in_J21 tyJ21 tyJ21_ok nmJ21 3 (by decide) q621 (fun _ h => h) rfl rfl rfl (Nat.le_of_ble_eq_true rfl) dJ9_rotateRight_87 (fun H locs hR509 hS510 => ?_)
          obtain ⟨G511, hG511⟩ : ∃ z : GH, z = gu G503 (N r) ((11, r), .inr (8, [.ref (K r), .ref (V r), va_rf ((L489 r).map N), .ref (N x), va_rf ((P496 r).map N), .int (C r)])) := ⟨_, rfl⟩
          have hR509 : Rep Γ G511 H := by rw [hG511]; exact hR509
          obtain ⟨R512, eR512⟩ : ∃ z, z = va_up R504 r (some x) := ⟨_, rfl⟩
          have hT513 := TH.putR hT505 hSr (y := some x) hG511
          rw [← eR512] at hT513
          have f514 : G511 a = some ((4, p), .inr (7, [.null, va_rf vw, .null, va_rf (root.map N), .int sz, .int mo, .null, .null, .null])) := by rw [hG511]; exact gu_t f506 (hT505.1 r hSr) (tne rfl)
          have k515 : R512 q = some r := by rw [eR512, va_up_ne _ _ ((hq0 q hq).2.2.1)]; exact k508
          have k516 : R512 r = some x := by rw [eR512]; exact va_up_self _ _ _
          refine lv_aload_n X.hx X.hb dJ9_rotateRight_90 rfl (lv_at hl 2 rfl) ?_
          refine lv_aload_n X.hx X.hb dJ9_rotateRight_91 rfl (lv_at hl 0 rfl) ?_
          refine g_put X hR509 hS510 (hT513.1 x hx) (Nat.le_of_ble_eq_true rfl) rfl in_J21 tyJ21 tyJ21_ok nmJ21 4 (by decide) q623 (fun _ h => h) rfl rfl rfl (Nat.le_of_ble_eq_true rfl) dJ9_rotateRight_92 (fun H locs hR517 hS518 => ?_)
          obtain ⟨G519, hG519⟩ : ∃ z : GH, z = gu G511 (N x) ((11, x), .inr (8, [.ref (K x), .ref (V x), va_rf ((L489 x).map N), va_rf ((R512 x).map N), .ref (N r), .int (C x)])) := ⟨_, rfl⟩
          have hR517 : Rep Γ G519 H := by rw [hG519]; exact hR517
          obtain ⟨P520, eP520⟩ : ∃ z, z = va_up P496 x (some r) := ⟨_, rfl⟩
          have hT521 := TH.putP hT513 hx (y := some r) hG519
          rw [← eP520] at hT521
          have f522 : G519 a = some ((4, p), .inr (7, [.null, va_rf vw, .null, va_rf (root.map N), .int sz, .int mo, .null, .null, .null])) := by rw [hG519]; exact gu_t f514 (hT513.1 x hx) (tne rfl)
          have k523 : P520 r = some q := by rw [eP520, va_up_ne _ _ (Ne.symm (hpr))]; exact k500
          have k524 : P520 x = some r := by rw [eP520]; exact va_up_self _ _ _
          have hgk : gK (tT p S) G G519 := (gK.tr (gK.tr (gK.tr (gK.tr (gK.pt hG488 (hT.1 x hx) (Or.inr ⟨x, hx, rfl⟩)) (gK.pt hG495 (hT490.1 r hSr) (Or.inr ⟨r, hSr, rfl⟩))) (gK.pt hG503 (hT497.1 q (hq0 q hq).1) (Or.inr ⟨q, (hq0 q hq).1, rfl⟩))) (gK.pt hG511 (hT505.1 r hSr) (Or.inr ⟨r, hSr, rfl⟩))) (gK.pt hG519 (hT513.1 x hx) (Or.inr ⟨x, hx, rfl⟩)))
          have hrot : Rot R L P R512 L489 P520 root (root) x r := by
            refine Rot_mk hpr hb hq ?_ ?_ ?_ ?_ ?_ ?_ ?_
            · intro z hz; cases hz; exact ⟨(hq0 q hq).2.1, (hq0 q hq).2.2.1⟩
            · intro z hz; cases hz
            · intro k; simp only [eL489, eP496, eR504, eR512, eP520]; unfold va_up; clear hR hS hT hI X hr hlk hin hnm hl hgk hM; grind
            · intro k; simp only [eL489, eP496, eR504, eR512, eP520]; unfold va_up; clear hR hS hT hI X hr hlk hin hnm hl hgk hM; grind
            · intro k; simp only [eL489, eP496, eR504, eR512, eP520]; unfold va_up; clear hR hS hT hI X hr hlk hin hnm hl hgk hM; grind
            · intro h; cases h
            · intro _ _; rfl
          exact g_vret X hr hlk hR517 hS518 (⟨rfl, hgk, _, _, _, root, hT521, f522, hrot⟩) (by (try dsimp only [RM]); omega) (by (try dsimp only [RM]); omega) dJ9_rotateRight_95
      · refine lv_aload_n X.hx X.hb dJ9_rotateRight_9 rfl (lv_at hl 2 rfl) ?_
        refine lv_aload_n X.hx X.hb dJ9_rotateRight_10 rfl (lv_at hl 0 rfl) ?_
        refine g_get (v := .null) X hR (hT.1 r hSr) rfl in_J21 3 (by decide) q621 (fun _ h => h) (knv (N := N) (o := R r) (v := none) hb) dJ9_rotateRight_11 ?_
        refine g_put X hR hS (hT.1 x hx) (Nat.le_of_ble_eq_true rfl) rfl in_J21 tyJ21 tyJ21_ok nmJ21 2 (by decide) q620 (fun _ h => h) rfl rfl rfl (Nat.le_of_ble_eq_true rfl) dJ9_rotateRight_14 (fun H locs hR525 hS526 => ?_)
        obtain ⟨G527, hG527⟩ : ∃ z : GH, z = gu G (N x) ((11, x), .inr (8, [.ref (K x), .ref (V x), .null, va_rf ((R x).map N), va_rf ((P x).map N), .int (C x)])) := ⟨_, rfl⟩
        have hR525 : Rep Γ G527 H := by rw [hG527]; exact hR525
        obtain ⟨L528, eL528⟩ : ∃ z, z = va_up L x none := ⟨_, rfl⟩
        have hT529 := TH.putL hT hx (y := none) hG527
        rw [← eL528] at hT529
        have f530 : G527 a = some ((4, p), .inr (7, [.null, va_rf vw, .null, va_rf (root.map N), .int sz, .int mo, .null, .null, .null])) := by rw [hG527]; exact gu_t hM (hT.1 x hx) (tne rfl)
        have k531 : L528 x = none := by rw [eL528]; exact va_up_self _ _ _
        refine lv_aload_n X.hx X.hb dJ9_rotateRight_17 rfl (lv_at hl 0 rfl) ?_
        refine g_get (v := .null) X hR525 (hT529.1 r hSr) rfl in_J21 3 (by decide) q621 (fun _ h => h) (knv (N := N) (o := R r) (v := none) hb) dJ9_rotateRight_18 ?_
        refine lv_ifnullN (tgt := 32) X.hx X.hb dJ9_rotateRight_21 (by decide) ?_
        refine lv_aload_n X.hx X.hb dJ9_rotateRight_32 rfl (lv_at hl 0 rfl) ?_
        refine lv_aload_n X.hx X.hb dJ9_rotateRight_33 rfl (lv_at hl 2 rfl) ?_
        refine g_get (v := .ref (N q)) X hR525 (hT529.1 x hx) rfl in_J21 4 (by decide) q623 (fun _ h => h) (knv (N := N) (o := P x) (v := some q) hq) dJ9_rotateRight_34 ?_
        refine g_put X hR525 hS526 (hT529.1 r hSr) (Nat.le_of_ble_eq_true rfl) rfl in_J21 tyJ21 tyJ21_ok nmJ21 4 (by decide) q623 (fun _ h => h) rfl rfl rfl (Nat.le_of_ble_eq_true rfl) dJ9_rotateRight_37 (fun H locs hR532 hS533 => ?_)
        obtain ⟨G534, hG534⟩ : ∃ z : GH, z = gu G527 (N r) ((11, r), .inr (8, [.ref (K r), .ref (V r), va_rf ((L528 r).map N), va_rf ((R r).map N), .ref (N q), .int (C r)])) := ⟨_, rfl⟩
        have hR532 : Rep Γ G534 H := by rw [hG534]; exact hR532
        obtain ⟨P535, eP535⟩ : ∃ z, z = va_up P r (some q) := ⟨_, rfl⟩
        have hT536 := TH.putP hT529 hSr (y := some q) hG534
        rw [← eP535] at hT536
        have f537 : G534 a = some ((4, p), .inr (7, [.null, va_rf vw, .null, va_rf (root.map N), .int sz, .int mo, .null, .null, .null])) := by rw [hG534]; exact gu_t f530 (hT529.1 r hSr) (tne rfl)
        have k538 : P535 x = some q := by rw [eP535, va_up_ne _ _ (hpr)]; exact hq
        have k539 : P535 r = some q := by rw [eP535]; exact va_up_self _ _ _
        refine lv_aload_n X.hx X.hb dJ9_rotateRight_40 rfl (lv_at hl 2 rfl) ?_
        refine g_get (v := .ref (N q)) X hR532 (hT536.1 x hx) rfl in_J21 4 (by decide) q623 (fun _ h => h) (knv (N := N) (o := P535 x) (v := some q) k538) dJ9_rotateRight_41 ?_
        refine lv_ifnonnull (tgt := 55) X.hx X.hb dJ9_rotateRight_44 (by decide) ?_
        refine lv_aload_n X.hx X.hb dJ9_rotateRight_55 rfl (lv_at hl 2 rfl) ?_
        refine g_get (v := .ref (N q)) X hR532 (hT536.1 x hx) rfl in_J21 4 (by decide) q623 (fun _ h => h) (knv (N := N) (o := P535 x) (v := some q) k538) dJ9_rotateRight_56 ?_
        refine g_get (v := va_rf ((R q).map N)) X hR532 (hT536.1 q (hq0 q hq).1) rfl in_J21 3 (by decide) q621 (fun _ h => h) rfl dJ9_rotateRight_59 ?_
        refine lv_aload_n X.hx X.hb dJ9_rotateRight_62 rfl (lv_at hl 2 rfl) ?_
        refine lv_acmp_ne (rx := (R q).map N) (ry := some (N x)) (tgt := 77) X.hx X.hb dJ9_rotateRight_63 (by decide) (fun c63 => ?_) (fun c63 => ?_)
        · refine lv_aload_n X.hx X.hb dJ9_rotateRight_77 rfl (lv_at hl 2 rfl) ?_
          refine g_get (v := .ref (N q)) X hR532 (hT536.1 x hx) rfl in_J21 4 (by decide) q623 (fun _ h => h) (knv (N := N) (o := P535 x) (v := some q) k538) dJ9_rotateRight_78 ?_
          refine lv_aload_n X.hx X.hb dJ9_rotateRight_81 rfl (lv_at hl 0 rfl) ?_
          refine g_put X hR532 hS533 (hT536.1 q (hq0 q hq).1) (Nat.le_of_ble_eq_true rfl) rfl in_J21 tyJ21 tyJ21_ok nmJ21 2 (by decide) q620 (fun _ h => h) rfl rfl rfl (Nat.le_of_ble_eq_true rfl) dJ9_rotateRight_82 (fun H locs hR540 hS541 => ?_)
          obtain ⟨G542, hG542⟩ : ∃ z : GH, z = gu G534 (N q) ((11, q), .inr (8, [.ref (K q), .ref (V q), .ref (N r), va_rf ((R q).map N), va_rf ((P535 q).map N), .int (C q)])) := ⟨_, rfl⟩
          have hR540 : Rep Γ G542 H := by rw [hG542]; exact hR540
          obtain ⟨L543, eL543⟩ : ∃ z, z = va_up L528 q (some r) := ⟨_, rfl⟩
          have hT544 := TH.putL hT536 (hq0 q hq).1 (y := some r) hG542
          rw [← eL543] at hT544
          have f545 : G542 a = some ((4, p), .inr (7, [.null, va_rf vw, .null, va_rf (root.map N), .int sz, .int mo, .null, .null, .null])) := by rw [hG542]; exact gu_t f537 (hT536.1 q (hq0 q hq).1) (tne rfl)
          have k546 : L543 x = none := by rw [eL543, va_up_ne _ _ (Ne.symm ((hq0 q hq).2.1))]; exact k531
          have k547 : L543 q = some r := by rw [eL543]; exact va_up_self _ _ _
          refine lv_aload_n X.hx X.hb dJ9_rotateRight_85 rfl (lv_at hl 0 rfl) ?_
          refine lv_aload_n X.hx X.hb dJ9_rotateRight_86 rfl (lv_at hl 2 rfl) ?_
          refine g_put X hR540 hS541 (hT544.1 r hSr) (Nat.le_of_ble_eq_true rfl) rfl in_J21 tyJ21 tyJ21_ok nmJ21 3 (by decide) q621 (fun _ h => h) rfl rfl rfl (Nat.le_of_ble_eq_true rfl) dJ9_rotateRight_87 (fun H locs hR548 hS549 => ?_)
          obtain ⟨G550, hG550⟩ : ∃ z : GH, z = gu G542 (N r) ((11, r), .inr (8, [.ref (K r), .ref (V r), va_rf ((L543 r).map N), .ref (N x), va_rf ((P535 r).map N), .int (C r)])) := ⟨_, rfl⟩
          have hR548 : Rep Γ G550 H := by rw [hG550]; exact hR548
          obtain ⟨R551, eR551⟩ : ∃ z, z = va_up R r (some x) := ⟨_, rfl⟩
          have hT552 := TH.putR hT544 hSr (y := some x) hG550
          rw [← eR551] at hT552
          have f553 : G550 a = some ((4, p), .inr (7, [.null, va_rf vw, .null, va_rf (root.map N), .int sz, .int mo, .null, .null, .null])) := by rw [hG550]; exact gu_t f545 (hT544.1 r hSr) (tne rfl)
          have k554 : R551 r = some x := by rw [eR551]; exact va_up_self _ _ _
          refine lv_aload_n X.hx X.hb dJ9_rotateRight_90 rfl (lv_at hl 2 rfl) ?_
          refine lv_aload_n X.hx X.hb dJ9_rotateRight_91 rfl (lv_at hl 0 rfl) ?_
          refine g_put X hR548 hS549 (hT552.1 x hx) (Nat.le_of_ble_eq_true rfl) rfl in_J21 tyJ21 tyJ21_ok nmJ21 4 (by decide) q623 (fun _ h => h) rfl rfl rfl (Nat.le_of_ble_eq_true rfl) dJ9_rotateRight_92 (fun H locs hR555 hS556 => ?_)
          obtain ⟨G557, hG557⟩ : ∃ z : GH, z = gu G550 (N x) ((11, x), .inr (8, [.ref (K x), .ref (V x), va_rf ((L543 x).map N), va_rf ((R551 x).map N), .ref (N r), .int (C x)])) := ⟨_, rfl⟩
          have hR555 : Rep Γ G557 H := by rw [hG557]; exact hR555
          obtain ⟨P558, eP558⟩ : ∃ z, z = va_up P535 x (some r) := ⟨_, rfl⟩
          have hT559 := TH.putP hT552 hx (y := some r) hG557
          rw [← eP558] at hT559
          have f560 : G557 a = some ((4, p), .inr (7, [.null, va_rf vw, .null, va_rf (root.map N), .int sz, .int mo, .null, .null, .null])) := by rw [hG557]; exact gu_t f553 (hT552.1 x hx) (tne rfl)
          have k561 : P558 r = some q := by rw [eP558, va_up_ne _ _ (Ne.symm (hpr))]; exact k539
          have k562 : P558 x = some r := by rw [eP558]; exact va_up_self _ _ _
          have hgk : gK (tT p S) G G557 := (gK.tr (gK.tr (gK.tr (gK.tr (gK.pt hG527 (hT.1 x hx) (Or.inr ⟨x, hx, rfl⟩)) (gK.pt hG534 (hT529.1 r hSr) (Or.inr ⟨r, hSr, rfl⟩))) (gK.pt hG542 (hT536.1 q (hq0 q hq).1) (Or.inr ⟨q, (hq0 q hq).1, rfl⟩))) (gK.pt hG550 (hT544.1 r hSr) (Or.inr ⟨r, hSr, rfl⟩))) (gK.pt hG557 (hT552.1 x hx) (Or.inr ⟨x, hx, rfl⟩)))
          have hrot : Rot R L P R551 L543 P558 root (root) x r := by
            refine Rot_mk hpr hb hq ?_ ?_ ?_ ?_ ?_ ?_ ?_
            · intro z hz; cases hz; exact ⟨(hq0 q hq).2.1, (hq0 q hq).2.2.1⟩
            · intro z hz; cases hz
            · intro k; simp only [eL528, eP535, eL543, eR551, eP558]; unfold va_up; clear hR hS hT hI X hr hlk hin hnm hl hgk hM; grind
            · intro k; simp only [eL528, eP535, eL543, eR551, eP558]; unfold va_up; clear hR hS hT hI X hr hlk hin hnm hl hgk hM; grind
            · intro k; simp only [eL528, eP535, eL543, eR551, eP558]; unfold va_up; clear hR hS hT hI X hr hlk hin hnm hl hgk hM; grind
            · intro h; cases h
            · intro _ _; rfl
          exact g_vret X hr hlk hR555 hS556 (⟨rfl, hgk, _, _, _, root, hT559, f560, hrot⟩) (by (try dsimp only [RM]); omega) (by (try dsimp only [RM]); omega) dJ9_rotateRight_95
        · exact absurd (hT.inj (fun y hy => (hI.2.2.2.1 q y (hq0 q hq).1 hy).1) hx c63) hl0
  · rcases hq : P x with _ | q
    · refine lv_aload_n X.hx X.hb dJ9_rotateRight_9 rfl (lv_at hl 2 rfl) ?_
      refine lv_aload_n X.hx X.hb dJ9_rotateRight_10 rfl (lv_at hl 0 rfl) ?_
      refine g_get (v := .ref (N b)) X hR (hT.1 r hSr) rfl in_J21 3 (by decide) q621 (fun _ h => h) (knv (N := N) (o := R r) (v := some b) hb) dJ9_rotateRight_11 ?_
      refine g_put X hR hS (hT.1 x hx) (Nat.le_of_ble_eq_true rfl) rfl in_J21 tyJ21 tyJ21_ok nmJ21 2 (by decide) q620 (fun _ h => h) rfl rfl rfl (Nat.le_of_ble_eq_true rfl) dJ9_rotateRight_14 (fun H locs hR563 hS564 => ?_)
      obtain ⟨G565, hG565⟩ : ∃ z : GH, z = gu G (N x) ((11, x), .inr (8, [.ref (K x), .ref (V x), .ref (N b), va_rf ((R x).map N), va_rf ((P x).map N), .int (C x)])) := ⟨_, rfl⟩
      have hR563 : Rep Γ G565 H := by rw [hG565]; exact hR563
      obtain ⟨L566, eL566⟩ : ∃ z, z = va_up L x (some b) := ⟨_, rfl⟩
      have hT567 := TH.putL hT hx (y := some b) hG565
      rw [← eL566] at hT567
      have f568 : G565 a = some ((4, p), .inr (7, [.null, va_rf vw, .null, va_rf (root.map N), .int sz, .int mo, .null, .null, .null])) := by rw [hG565]; exact gu_t hM (hT.1 x hx) (tne rfl)
      have k569 : L566 x = some b := by rw [eL566]; exact va_up_self _ _ _
      refine lv_aload_n X.hx X.hb dJ9_rotateRight_17 rfl (lv_at hl 0 rfl) ?_
      refine g_get (v := .ref (N b)) X hR563 (hT567.1 r hSr) rfl in_J21 3 (by decide) q621 (fun _ h => h) (knv (N := N) (o := R r) (v := some b) hb) dJ9_rotateRight_18 ?_
      refine lv_ifnull X.hx X.hb dJ9_rotateRight_21 ?_
      refine lv_aload_n X.hx X.hb dJ9_rotateRight_24 rfl (lv_at hl 0 rfl) ?_
      refine g_get (v := .ref (N b)) X hR563 (hT567.1 r hSr) rfl in_J21 3 (by decide) q621 (fun _ h => h) (knv (N := N) (o := R r) (v := some b) hb) dJ9_rotateRight_25 ?_
      refine lv_aload_n X.hx X.hb dJ9_rotateRight_28 rfl (lv_at hl 2 rfl) ?_
      refine g_put X hR563 hS564 (hT567.1 b (hb0 b hb).1) (Nat.le_of_ble_eq_true rfl) rfl in_J21 tyJ21 tyJ21_ok nmJ21 4 (by decide) q623 (fun _ h => h) rfl rfl rfl (Nat.le_of_ble_eq_true rfl) dJ9_rotateRight_29 (fun H locs hR570 hS571 => ?_)
      obtain ⟨G572, hG572⟩ : ∃ z : GH, z = gu G565 (N b) ((11, b), .inr (8, [.ref (K b), .ref (V b), va_rf ((L566 b).map N), va_rf ((R b).map N), .ref (N x), .int (C b)])) := ⟨_, rfl⟩
      have hR570 : Rep Γ G572 H := by rw [hG572]; exact hR570
      obtain ⟨P573, eP573⟩ : ∃ z, z = va_up P b (some x) := ⟨_, rfl⟩
      have hT574 := TH.putP hT567 (hb0 b hb).1 (y := some x) hG572
      rw [← eP573] at hT574
      have f575 : G572 a = some ((4, p), .inr (7, [.null, va_rf vw, .null, va_rf (root.map N), .int sz, .int mo, .null, .null, .null])) := by rw [hG572]; exact gu_t f568 (hT567.1 b (hb0 b hb).1) (tne rfl)
      have k576 : P573 x = none := by rw [eP573, va_up_ne _ _ (Ne.symm ((hb0 b hb).2.1))]; exact hq
      have k577 : P573 b = some x := by rw [eP573]; exact va_up_self _ _ _
      refine lv_aload_n X.hx X.hb dJ9_rotateRight_32 rfl (lv_at hl 0 rfl) ?_
      refine lv_aload_n X.hx X.hb dJ9_rotateRight_33 rfl (lv_at hl 2 rfl) ?_
      refine g_get (v := .null) X hR570 (hT574.1 x hx) rfl in_J21 4 (by decide) q623 (fun _ h => h) (knv (N := N) (o := P573 x) (v := none) k576) dJ9_rotateRight_34 ?_
      refine g_put X hR570 hS571 (hT574.1 r hSr) (Nat.le_of_ble_eq_true rfl) rfl in_J21 tyJ21 tyJ21_ok nmJ21 4 (by decide) q623 (fun _ h => h) rfl rfl rfl (Nat.le_of_ble_eq_true rfl) dJ9_rotateRight_37 (fun H locs hR578 hS579 => ?_)
      obtain ⟨G580, hG580⟩ : ∃ z : GH, z = gu G572 (N r) ((11, r), .inr (8, [.ref (K r), .ref (V r), va_rf ((L566 r).map N), va_rf ((R r).map N), .null, .int (C r)])) := ⟨_, rfl⟩
      have hR578 : Rep Γ G580 H := by rw [hG580]; exact hR578
      obtain ⟨P581, eP581⟩ : ∃ z, z = va_up P573 r none := ⟨_, rfl⟩
      have hT582 := TH.putP hT574 hSr (y := none) hG580
      rw [← eP581] at hT582
      have f583 : G580 a = some ((4, p), .inr (7, [.null, va_rf vw, .null, va_rf (root.map N), .int sz, .int mo, .null, .null, .null])) := by rw [hG580]; exact gu_t f575 (hT574.1 r hSr) (tne rfl)
      have k584 : P581 x = none := by rw [eP581, va_up_ne _ _ (hpr)]; exact k576
      have k585 : P581 b = some x := by rw [eP581, va_up_ne _ _ ((hb0 b hb).2.2)]; exact k577
      have k586 : P581 r = none := by rw [eP581]; exact va_up_self _ _ _
      refine lv_aload_n X.hx X.hb dJ9_rotateRight_40 rfl (lv_at hl 2 rfl) ?_
      refine g_get (v := .null) X hR578 (hT582.1 x hx) rfl in_J21 4 (by decide) q623 (fun _ h => h) (knv (N := N) (o := P581 x) (v := none) k584) dJ9_rotateRight_41 ?_
      refine lv_ifnonnullN X.hx X.hb dJ9_rotateRight_44 ?_
      refine lv_aload_n X.hx X.hb dJ9_rotateRight_47 rfl (lv_at hl 1 rfl) ?_
      refine lv_aload_n X.hx X.hb dJ9_rotateRight_48 rfl (lv_at hl 0 rfl) ?_
      refine g_put X hR578 hS579 f583 (Nat.le_of_ble_eq_true rfl) rfl in_J9 tyJ9 tyJ9_ok nmJ9 3 (by decide) q264 (fun _ h => h) rfl rfl rfl (Nat.le_of_ble_eq_true rfl) dJ9_rotateRight_49 (fun H locs hR587 hS588 => ?_)
      obtain ⟨G589, hG589⟩ : ∃ z : GH, z = gu G580 a ((4, p), .inr (7, [.null, va_rf vw, .null, .ref (N r), .int sz, .int mo, .null, .null, .null])) := ⟨_, rfl⟩
      have hR587 : Rep Γ G589 H := by rw [hG589]; exact hR587
      have f590 : G589 a = some ((4, p), .inr (7, [.null, va_rf vw, .null, .ref (N r), .int sz, .int mo, .null, .null, .null])) := by rw [hG589]; exact gu_s _ _ _
      have hT591 := TH.off hT582 hG589 f583 (by show 4 ≠ 11; decide)
      refine lv_goto (tgt := 85) X.hx X.hb dJ9_rotateRight_52 (by decide) ?_
      refine lv_aload_n X.hx X.hb dJ9_rotateRight_85 rfl (lv_at hl 0 rfl) ?_
      refine lv_aload_n X.hx X.hb dJ9_rotateRight_86 rfl (lv_at hl 2 rfl) ?_
      refine g_put X hR587 hS588 (hT591.1 r hSr) (Nat.le_of_ble_eq_true rfl) rfl in_J21 tyJ21 tyJ21_ok nmJ21 3 (by decide) q621 (fun _ h => h) rfl rfl rfl (Nat.le_of_ble_eq_true rfl) dJ9_rotateRight_87 (fun H locs hR592 hS593 => ?_)
      obtain ⟨G594, hG594⟩ : ∃ z : GH, z = gu G589 (N r) ((11, r), .inr (8, [.ref (K r), .ref (V r), va_rf ((L566 r).map N), .ref (N x), va_rf ((P581 r).map N), .int (C r)])) := ⟨_, rfl⟩
      have hR592 : Rep Γ G594 H := by rw [hG594]; exact hR592
      obtain ⟨R595, eR595⟩ : ∃ z, z = va_up R r (some x) := ⟨_, rfl⟩
      have hT596 := TH.putR hT591 hSr (y := some x) hG594
      rw [← eR595] at hT596
      have f597 : G594 a = some ((4, p), .inr (7, [.null, va_rf vw, .null, .ref (N r), .int sz, .int mo, .null, .null, .null])) := by rw [hG594]; exact gu_t f590 (hT591.1 r hSr) (tne rfl)
      have k598 : R595 r = some x := by rw [eR595]; exact va_up_self _ _ _
      refine lv_aload_n X.hx X.hb dJ9_rotateRight_90 rfl (lv_at hl 2 rfl) ?_
      refine lv_aload_n X.hx X.hb dJ9_rotateRight_91 rfl (lv_at hl 0 rfl) ?_
      refine g_put X hR592 hS593 (hT596.1 x hx) (Nat.le_of_ble_eq_true rfl) rfl in_J21 tyJ21 tyJ21_ok nmJ21 4 (by decide) q623 (fun _ h => h) rfl rfl rfl (Nat.le_of_ble_eq_true rfl) dJ9_rotateRight_92 (fun H locs hR599 hS600 => ?_)
      obtain ⟨G601, hG601⟩ : ∃ z : GH, z = gu G594 (N x) ((11, x), .inr (8, [.ref (K x), .ref (V x), va_rf ((L566 x).map N), va_rf ((R595 x).map N), .ref (N r), .int (C x)])) := ⟨_, rfl⟩
      have hR599 : Rep Γ G601 H := by rw [hG601]; exact hR599
      obtain ⟨P602, eP602⟩ : ∃ z, z = va_up P581 x (some r) := ⟨_, rfl⟩
      have hT603 := TH.putP hT596 hx (y := some r) hG601
      rw [← eP602] at hT603
      have f604 : G601 a = some ((4, p), .inr (7, [.null, va_rf vw, .null, .ref (N r), .int sz, .int mo, .null, .null, .null])) := by rw [hG601]; exact gu_t f597 (hT596.1 x hx) (tne rfl)
      have k605 : P602 b = some x := by rw [eP602, va_up_ne _ _ ((hb0 b hb).2.1)]; exact k585
      have k606 : P602 r = none := by rw [eP602, va_up_ne _ _ (Ne.symm (hpr))]; exact k586
      have k607 : P602 x = some r := by rw [eP602]; exact va_up_self _ _ _
      have hgk : gK (tT p S) G G601 := (gK.tr (gK.tr (gK.tr (gK.tr (gK.tr (gK.pt hG565 (hT.1 x hx) (Or.inr ⟨x, hx, rfl⟩)) (gK.pt hG572 (hT567.1 b (hb0 b hb).1) (Or.inr ⟨b, (hb0 b hb).1, rfl⟩))) (gK.pt hG580 (hT574.1 r hSr) (Or.inr ⟨r, hSr, rfl⟩))) (gK.pt hG589 f583 (Or.inl rfl))) (gK.pt hG594 (hT591.1 r hSr) (Or.inr ⟨r, hSr, rfl⟩))) (gK.pt hG601 (hT596.1 x hx) (Or.inr ⟨x, hx, rfl⟩)))
      have hrot : Rot R L P R595 L566 P602 root (some r) x r := by
        refine Rot_mk hpr hb hq ?_ ?_ ?_ ?_ ?_ ?_ ?_
        · intro z hz; cases hz
        · intro z hz; cases hz; exact hb0 b hb |>.2
        · intro k; simp only [eL566, eP573, eP581, eR595, eP602]; unfold va_up; clear hR hS hT hI X hr hlk hin hnm hl hgk hM; grind
        · intro k; simp only [eL566, eP573, eP581, eR595, eP602]; unfold va_up; clear hR hS hT hI X hr hlk hin hnm hl hgk hM; grind
        · intro k; simp only [eL566, eP573, eP581, eR595, eP602]; unfold va_up; clear hR hS hT hI X hr hlk hin hnm hl hgk hM; grind
        · intro _; rfl
        · intro _ h; cases h
      exact g_vret X hr hlk hR599 hS600 (⟨rfl, hgk, _, _, _, some r, hT603, f604, hrot⟩) (by (try dsimp only [RM]); omega) (by (try dsimp only [RM]); omega) dJ9_rotateRight_95
    · by_cases hl0 : R q = some x
      · refine lv_aload_n X.hx X.hb dJ9_rotateRight_9 rfl (lv_at hl 2 rfl) ?_
        refine lv_aload_n X.hx X.hb dJ9_rotateRight_10 rfl (lv_at hl 0 rfl) ?_
        refine g_get (v := .ref (N b)) X hR (hT.1 r hSr) rfl in_J21 3 (by decide) q621 (fun _ h => h) (knv (N := N) (o := R r) (v := some b) hb) dJ9_rotateRight_11 ?_
        refine g_put X hR hS (hT.1 x hx) (Nat.le_of_ble_eq_true rfl) rfl in_J21 tyJ21 tyJ21_ok nmJ21 2 (by decide) q620 (fun _ h => h) rfl rfl rfl (Nat.le_of_ble_eq_true rfl) dJ9_rotateRight_14 (fun H locs hR608 hS609 => ?_)
        obtain ⟨G610, hG610⟩ : ∃ z : GH, z = gu G (N x) ((11, x), .inr (8, [.ref (K x), .ref (V x), .ref (N b), va_rf ((R x).map N), va_rf ((P x).map N), .int (C x)])) := ⟨_, rfl⟩
        have hR608 : Rep Γ G610 H := by rw [hG610]; exact hR608
        obtain ⟨L611, eL611⟩ : ∃ z, z = va_up L x (some b) := ⟨_, rfl⟩
        have hT612 := TH.putL hT hx (y := some b) hG610
        rw [← eL611] at hT612
        have f613 : G610 a = some ((4, p), .inr (7, [.null, va_rf vw, .null, va_rf (root.map N), .int sz, .int mo, .null, .null, .null])) := by rw [hG610]; exact gu_t hM (hT.1 x hx) (tne rfl)
        have k614 : L611 x = some b := by rw [eL611]; exact va_up_self _ _ _
        refine lv_aload_n X.hx X.hb dJ9_rotateRight_17 rfl (lv_at hl 0 rfl) ?_
        refine g_get (v := .ref (N b)) X hR608 (hT612.1 r hSr) rfl in_J21 3 (by decide) q621 (fun _ h => h) (knv (N := N) (o := R r) (v := some b) hb) dJ9_rotateRight_18 ?_
        refine lv_ifnull X.hx X.hb dJ9_rotateRight_21 ?_
        refine lv_aload_n X.hx X.hb dJ9_rotateRight_24 rfl (lv_at hl 0 rfl) ?_
        refine g_get (v := .ref (N b)) X hR608 (hT612.1 r hSr) rfl in_J21 3 (by decide) q621 (fun _ h => h) (knv (N := N) (o := R r) (v := some b) hb) dJ9_rotateRight_25 ?_
        refine lv_aload_n X.hx X.hb dJ9_rotateRight_28 rfl (lv_at hl 2 rfl) ?_
        refine g_put X hR608 hS609 (hT612.1 b (hb0 b hb).1) (Nat.le_of_ble_eq_true rfl) rfl in_J21 tyJ21 tyJ21_ok nmJ21 4 (by decide) q623 (fun _ h => h) rfl rfl rfl (Nat.le_of_ble_eq_true rfl) dJ9_rotateRight_29 (fun H locs hR615 hS616 => ?_)
        obtain ⟨G617, hG617⟩ : ∃ z : GH, z = gu G610 (N b) ((11, b), .inr (8, [.ref (K b), .ref (V b), va_rf ((L611 b).map N), va_rf ((R b).map N), .ref (N x), .int (C b)])) := ⟨_, rfl⟩
        have hR615 : Rep Γ G617 H := by rw [hG617]; exact hR615
        obtain ⟨P618, eP618⟩ : ∃ z, z = va_up P b (some x) := ⟨_, rfl⟩
        have hT619 := TH.putP hT612 (hb0 b hb).1 (y := some x) hG617
        rw [← eP618] at hT619
        have f620 : G617 a = some ((4, p), .inr (7, [.null, va_rf vw, .null, va_rf (root.map N), .int sz, .int mo, .null, .null, .null])) := by rw [hG617]; exact gu_t f613 (hT612.1 b (hb0 b hb).1) (tne rfl)
        have k621 : P618 x = some q := by rw [eP618, va_up_ne _ _ (Ne.symm ((hb0 b hb).2.1))]; exact hq
        have k622 : P618 b = some x := by rw [eP618]; exact va_up_self _ _ _
        refine lv_aload_n X.hx X.hb dJ9_rotateRight_32 rfl (lv_at hl 0 rfl) ?_
        refine lv_aload_n X.hx X.hb dJ9_rotateRight_33 rfl (lv_at hl 2 rfl) ?_
        refine g_get (v := .ref (N q)) X hR615 (hT619.1 x hx) rfl in_J21 4 (by decide) q623 (fun _ h => h) (knv (N := N) (o := P618 x) (v := some q) k621) dJ9_rotateRight_34 ?_
        refine g_put X hR615 hS616 (hT619.1 r hSr) (Nat.le_of_ble_eq_true rfl) rfl in_J21 tyJ21 tyJ21_ok nmJ21 4 (by decide) q623 (fun _ h => h) rfl rfl rfl (Nat.le_of_ble_eq_true rfl) dJ9_rotateRight_37 (fun H locs hR623 hS624 => ?_)
        obtain ⟨G625, hG625⟩ : ∃ z : GH, z = gu G617 (N r) ((11, r), .inr (8, [.ref (K r), .ref (V r), va_rf ((L611 r).map N), va_rf ((R r).map N), .ref (N q), .int (C r)])) := ⟨_, rfl⟩
        have hR623 : Rep Γ G625 H := by rw [hG625]; exact hR623
        obtain ⟨P626, eP626⟩ : ∃ z, z = va_up P618 r (some q) := ⟨_, rfl⟩
        have hT627 := TH.putP hT619 hSr (y := some q) hG625
        rw [← eP626] at hT627
        have f628 : G625 a = some ((4, p), .inr (7, [.null, va_rf vw, .null, va_rf (root.map N), .int sz, .int mo, .null, .null, .null])) := by rw [hG625]; exact gu_t f620 (hT619.1 r hSr) (tne rfl)
        have k629 : P626 x = some q := by rw [eP626, va_up_ne _ _ (hpr)]; exact k621
        have k630 : P626 b = some x := by rw [eP626, va_up_ne _ _ ((hb0 b hb).2.2)]; exact k622
        have k631 : P626 r = some q := by rw [eP626]; exact va_up_self _ _ _
        refine lv_aload_n X.hx X.hb dJ9_rotateRight_40 rfl (lv_at hl 2 rfl) ?_
        refine g_get (v := .ref (N q)) X hR623 (hT627.1 x hx) rfl in_J21 4 (by decide) q623 (fun _ h => h) (knv (N := N) (o := P626 x) (v := some q) k629) dJ9_rotateRight_41 ?_
        refine lv_ifnonnull (tgt := 55) X.hx X.hb dJ9_rotateRight_44 (by decide) ?_
        refine lv_aload_n X.hx X.hb dJ9_rotateRight_55 rfl (lv_at hl 2 rfl) ?_
        refine g_get (v := .ref (N q)) X hR623 (hT627.1 x hx) rfl in_J21 4 (by decide) q623 (fun _ h => h) (knv (N := N) (o := P626 x) (v := some q) k629) dJ9_rotateRight_56 ?_
        refine g_get (v := .ref (N x)) X hR623 (hT627.1 q (hq0 q hq).1) rfl in_J21 3 (by decide) q621 (fun _ h => h) (knv (N := N) (o := R q) (v := some x) hl0) dJ9_rotateRight_59 ?_
        refine lv_aload_n X.hx X.hb dJ9_rotateRight_62 rfl (lv_at hl 2 rfl) ?_
        refine lv_acmp_ne (rx := some (N x)) (ry := some (N x)) (tgt := 77) X.hx X.hb dJ9_rotateRight_63 (by decide) (fun c63 => ?_) (fun c63 => ?_)
        · exact absurd rfl c63
        · refine lv_aload_n X.hx X.hb dJ9_rotateRight_66 rfl (lv_at hl 2 rfl) ?_
          refine g_get (v := .ref (N q)) X hR623 (hT627.1 x hx) rfl in_J21 4 (by decide) q623 (fun _ h => h) (knv (N := N) (o := P626 x) (v := some q) k629) dJ9_rotateRight_67 ?_
          refine lv_aload_n X.hx X.hb dJ9_rotateRight_70 rfl (lv_at hl 0 rfl) ?_
          refine g_put X hR623 hS624 (hT627.1 q (hq0 q hq).1) (Nat.le_of_ble_eq_true rfl) rfl in_J21 tyJ21 tyJ21_ok nmJ21 3 (by decide) q621 (fun _ h => h) rfl rfl rfl (Nat.le_of_ble_eq_true rfl) dJ9_rotateRight_71 (fun H locs hR632 hS633 => ?_)
          obtain ⟨G634, hG634⟩ : ∃ z : GH, z = gu G625 (N q) ((11, q), .inr (8, [.ref (K q), .ref (V q), va_rf ((L611 q).map N), .ref (N r), va_rf ((P626 q).map N), .int (C q)])) := ⟨_, rfl⟩
          have hR632 : Rep Γ G634 H := by rw [hG634]; exact hR632
          obtain ⟨R635, eR635⟩ : ∃ z, z = va_up R q (some r) := ⟨_, rfl⟩
          have hT636 := TH.putR hT627 (hq0 q hq).1 (y := some r) hG634
          rw [← eR635] at hT636
          have f637 : G634 a = some ((4, p), .inr (7, [.null, va_rf vw, .null, va_rf (root.map N), .int sz, .int mo, .null, .null, .null])) := by rw [hG634]; exact gu_t f628 (hT627.1 q (hq0 q hq).1) (tne rfl)
          have k638 : R635 r = some b := by rw [eR635, va_up_ne _ _ (Ne.symm ((hq0 q hq).2.2.1))]; exact hb
          have k639 : R635 q = some r := by rw [eR635]; exact va_up_self _ _ _
          refine lv_goto (tgt := 85) X.hx X.hb dJ9_rotateRight_74 (by decide) ?_
          refine lv_aload_n X.hx X.hb dJ9_rotateRight_85 rfl (lv_at hl 0 rfl) ?_
          refine lv_aload_n X.hx X.hb dJ9_rotateRight_86 rfl (lv_at hl 2 rfl) ?_
          refine g_put X hR632 hS633 (hT636.1 r hSr) (Nat.le_of_ble_eq_true rfl) rfl in_J21 tyJ21 tyJ21_ok nmJ21 3 (by decide) q621 (fun _ h => h) rfl rfl rfl (Nat.le_of_ble_eq_true rfl) dJ9_rotateRight_87 (fun H locs hR640 hS641 => ?_)
          obtain ⟨G642, hG642⟩ : ∃ z : GH, z = gu G634 (N r) ((11, r), .inr (8, [.ref (K r), .ref (V r), va_rf ((L611 r).map N), .ref (N x), va_rf ((P626 r).map N), .int (C r)])) := ⟨_, rfl⟩
          have hR640 : Rep Γ G642 H := by rw [hG642]; exact hR640
          obtain ⟨R643, eR643⟩ : ∃ z, z = va_up R635 r (some x) := ⟨_, rfl⟩
          have hT644 := TH.putR hT636 hSr (y := some x) hG642
          rw [← eR643] at hT644
          have f645 : G642 a = some ((4, p), .inr (7, [.null, va_rf vw, .null, va_rf (root.map N), .int sz, .int mo, .null, .null, .null])) := by rw [hG642]; exact gu_t f637 (hT636.1 r hSr) (tne rfl)
          have k646 : R643 q = some r := by rw [eR643, va_up_ne _ _ ((hq0 q hq).2.2.1)]; exact k639
          have k647 : R643 r = some x := by rw [eR643]; exact va_up_self _ _ _
          refine lv_aload_n X.hx X.hb dJ9_rotateRight_90 rfl (lv_at hl 2 rfl) ?_
          refine lv_aload_n X.hx X.hb dJ9_rotateRight_91 rfl (lv_at hl 0 rfl) ?_
          refine g_put X hR640 hS641 (hT644.1 x hx) (Nat.le_of_ble_eq_true rfl) rfl in_J21 tyJ21 tyJ21_ok nmJ21 4 (by decide) q623 (fun _ h => h) rfl rfl rfl (Nat.le_of_ble_eq_true rfl) dJ9_rotateRight_92 (fun H locs hR648 hS649 => ?_)
          obtain ⟨G650, hG650⟩ : ∃ z : GH, z = gu G642 (N x) ((11, x), .inr (8, [.ref (K x), .ref (V x), va_rf ((L611 x).map N), va_rf ((R643 x).map N), .ref (N r), .int (C x)])) := ⟨_, rfl⟩
          have hR648 : Rep Γ G650 H := by rw [hG650]; exact hR648
          obtain ⟨P651, eP651⟩ : ∃ z, z = va_up P626 x (some r) := ⟨_, rfl⟩
          have hT652 := TH.putP hT644 hx (y := some r) hG650
          rw [← eP651] at hT652
          have f653 : G650 a = some ((4, p), .inr (7, [.null, va_rf vw, .null, va_rf (root.map N), .int sz, .int mo, .null, .null, .null])) := by rw [hG650]; exact gu_t f645 (hT644.1 x hx) (tne rfl)
          have k654 : P651 b = some x := by rw [eP651, va_up_ne _ _ ((hb0 b hb).2.1)]; exact k630
          have k655 : P651 r = some q := by rw [eP651, va_up_ne _ _ (Ne.symm (hpr))]; exact k631
          have k656 : P651 x = some r := by rw [eP651]; exact va_up_self _ _ _
          have hgk : gK (tT p S) G G650 := (gK.tr (gK.tr (gK.tr (gK.tr (gK.tr (gK.pt hG610 (hT.1 x hx) (Or.inr ⟨x, hx, rfl⟩)) (gK.pt hG617 (hT612.1 b (hb0 b hb).1) (Or.inr ⟨b, (hb0 b hb).1, rfl⟩))) (gK.pt hG625 (hT619.1 r hSr) (Or.inr ⟨r, hSr, rfl⟩))) (gK.pt hG634 (hT627.1 q (hq0 q hq).1) (Or.inr ⟨q, (hq0 q hq).1, rfl⟩))) (gK.pt hG642 (hT636.1 r hSr) (Or.inr ⟨r, hSr, rfl⟩))) (gK.pt hG650 (hT644.1 x hx) (Or.inr ⟨x, hx, rfl⟩)))
          have hrot : Rot R L P R643 L611 P651 root (root) x r := by
            refine Rot_mk hpr hb hq ?_ ?_ ?_ ?_ ?_ ?_ ?_
            · intro z hz; cases hz; exact ⟨(hq0 q hq).2.1, (hq0 q hq).2.2.1⟩
            · intro z hz; cases hz; exact hb0 b hb |>.2
            · intro k; simp only [eL611, eP618, eP626, eR635, eR643, eP651]; unfold va_up; clear hR hS hT hI X hr hlk hin hnm hl hgk hM; grind
            · intro k; simp only [eL611, eP618, eP626, eR635, eR643, eP651]; unfold va_up; clear hR hS hT hI X hr hlk hin hnm hl hgk hM; grind
            · intro k; simp only [eL611, eP618, eP626, eR635, eR643, eP651]; unfold va_up; clear hR hS hT hI X hr hlk hin hnm hl hgk hM; grind
            · intro h; cases h
            · intro _ _; rfl
          exact g_vret X hr hlk hR648 hS649 (⟨rfl, hgk, _, _, _, root, hT652, f653, hrot⟩) (by (try dsimp only [RM]); omega) (by (try dsimp only [RM]); omega) dJ9_rotateRight_95
      · refine lv_aload_n X.hx X.hb dJ9_rotateRight_9 rfl (lv_at hl 2 rfl) ?_
        refine lv_aload_n X.hx X.hb dJ9_rotateRight_10 rfl (lv_at hl 0 rfl) ?_
        refine g_get (v := .ref (N b)) X hR (hT.1 r hSr) rfl in_J21 3 (by decide) q621 (fun _ h => h) (knv (N := N) (o := R r) (v := some b) hb) dJ9_rotateRight_11 ?_
        refine g_put X hR hS (hT.1 x hx) (Nat.le_of_ble_eq_true rfl) rfl in_J21 tyJ21 tyJ21_ok nmJ21 2 (by decide) q620 (fun _ h => h) rfl rfl rfl (Nat.le_of_ble_eq_true rfl) dJ9_rotateRight_14 (fun H locs hR657 hS658 => ?_)
        obtain ⟨G659, hG659⟩ : ∃ z : GH, z = gu G (N x) ((11, x), .inr (8, [.ref (K x), .ref (V x), .ref (N b), va_rf ((R x).map N), va_rf ((P x).map N), .int (C x)])) := ⟨_, rfl⟩
        have hR657 : Rep Γ G659 H := by rw [hG659]; exact hR657
        obtain ⟨L660, eL660⟩ : ∃ z, z = va_up L x (some b) := ⟨_, rfl⟩
        have hT661 := TH.putL hT hx (y := some b) hG659
        rw [← eL660] at hT661
        have f662 : G659 a = some ((4, p), .inr (7, [.null, va_rf vw, .null, va_rf (root.map N), .int sz, .int mo, .null, .null, .null])) := by rw [hG659]; exact gu_t hM (hT.1 x hx) (tne rfl)
        have k663 : L660 x = some b := by rw [eL660]; exact va_up_self _ _ _
        refine lv_aload_n X.hx X.hb dJ9_rotateRight_17 rfl (lv_at hl 0 rfl) ?_
        refine g_get (v := .ref (N b)) X hR657 (hT661.1 r hSr) rfl in_J21 3 (by decide) q621 (fun _ h => h) (knv (N := N) (o := R r) (v := some b) hb) dJ9_rotateRight_18 ?_
        refine lv_ifnull X.hx X.hb dJ9_rotateRight_21 ?_
        refine lv_aload_n X.hx X.hb dJ9_rotateRight_24 rfl (lv_at hl 0 rfl) ?_
        refine g_get (v := .ref (N b)) X hR657 (hT661.1 r hSr) rfl in_J21 3 (by decide) q621 (fun _ h => h) (knv (N := N) (o := R r) (v := some b) hb) dJ9_rotateRight_25 ?_
        refine lv_aload_n X.hx X.hb dJ9_rotateRight_28 rfl (lv_at hl 2 rfl) ?_
        refine g_put X hR657 hS658 (hT661.1 b (hb0 b hb).1) (Nat.le_of_ble_eq_true rfl) rfl in_J21 tyJ21 tyJ21_ok nmJ21 4 (by decide) q623 (fun _ h => h) rfl rfl rfl (Nat.le_of_ble_eq_true rfl) dJ9_rotateRight_29 (fun H locs hR664 hS665 => ?_)
        obtain ⟨G666, hG666⟩ : ∃ z : GH, z = gu G659 (N b) ((11, b), .inr (8, [.ref (K b), .ref (V b), va_rf ((L660 b).map N), va_rf ((R b).map N), .ref (N x), .int (C b)])) := ⟨_, rfl⟩
        have hR664 : Rep Γ G666 H := by rw [hG666]; exact hR664
        obtain ⟨P667, eP667⟩ : ∃ z, z = va_up P b (some x) := ⟨_, rfl⟩
        have hT668 := TH.putP hT661 (hb0 b hb).1 (y := some x) hG666
        rw [← eP667] at hT668
        have f669 : G666 a = some ((4, p), .inr (7, [.null, va_rf vw, .null, va_rf (root.map N), .int sz, .int mo, .null, .null, .null])) := by rw [hG666]; exact gu_t f662 (hT661.1 b (hb0 b hb).1) (tne rfl)
        have k670 : P667 x = some q := by rw [eP667, va_up_ne _ _ (Ne.symm ((hb0 b hb).2.1))]; exact hq
        have k671 : P667 b = some x := by rw [eP667]; exact va_up_self _ _ _
        refine lv_aload_n X.hx X.hb dJ9_rotateRight_32 rfl (lv_at hl 0 rfl) ?_
        refine lv_aload_n X.hx X.hb dJ9_rotateRight_33 rfl (lv_at hl 2 rfl) ?_
        refine g_get (v := .ref (N q)) X hR664 (hT668.1 x hx) rfl in_J21 4 (by decide) q623 (fun _ h => h) (knv (N := N) (o := P667 x) (v := some q) k670) dJ9_rotateRight_34 ?_
        refine g_put X hR664 hS665 (hT668.1 r hSr) (Nat.le_of_ble_eq_true rfl) rfl in_J21 tyJ21 tyJ21_ok nmJ21 4 (by decide) q623 (fun _ h => h) rfl rfl rfl (Nat.le_of_ble_eq_true rfl) dJ9_rotateRight_37 (fun H locs hR672 hS673 => ?_)
        obtain ⟨G674, hG674⟩ : ∃ z : GH, z = gu G666 (N r) ((11, r), .inr (8, [.ref (K r), .ref (V r), va_rf ((L660 r).map N), va_rf ((R r).map N), .ref (N q), .int (C r)])) := ⟨_, rfl⟩
        have hR672 : Rep Γ G674 H := by rw [hG674]; exact hR672
        obtain ⟨P675, eP675⟩ : ∃ z, z = va_up P667 r (some q) := ⟨_, rfl⟩
        have hT676 := TH.putP hT668 hSr (y := some q) hG674
        rw [← eP675] at hT676
        have f677 : G674 a = some ((4, p), .inr (7, [.null, va_rf vw, .null, va_rf (root.map N), .int sz, .int mo, .null, .null, .null])) := by rw [hG674]; exact gu_t f669 (hT668.1 r hSr) (tne rfl)
        have k678 : P675 x = some q := by rw [eP675, va_up_ne _ _ (hpr)]; exact k670
        have k679 : P675 b = some x := by rw [eP675, va_up_ne _ _ ((hb0 b hb).2.2)]; exact k671
        have k680 : P675 r = some q := by rw [eP675]; exact va_up_self _ _ _
        refine lv_aload_n X.hx X.hb dJ9_rotateRight_40 rfl (lv_at hl 2 rfl) ?_
        refine g_get (v := .ref (N q)) X hR672 (hT676.1 x hx) rfl in_J21 4 (by decide) q623 (fun _ h => h) (knv (N := N) (o := P675 x) (v := some q) k678) dJ9_rotateRight_41 ?_
        refine lv_ifnonnull (tgt := 55) X.hx X.hb dJ9_rotateRight_44 (by decide) ?_
        refine lv_aload_n X.hx X.hb dJ9_rotateRight_55 rfl (lv_at hl 2 rfl) ?_
        refine g_get (v := .ref (N q)) X hR672 (hT676.1 x hx) rfl in_J21 4 (by decide) q623 (fun _ h => h) (knv (N := N) (o := P675 x) (v := some q) k678) dJ9_rotateRight_56 ?_
        refine g_get (v := va_rf ((R q).map N)) X hR672 (hT676.1 q (hq0 q hq).1) rfl in_J21 3 (by decide) q621 (fun _ h => h) rfl dJ9_rotateRight_59 ?_
        refine lv_aload_n X.hx X.hb dJ9_rotateRight_62 rfl (lv_at hl 2 rfl) ?_
        refine lv_acmp_ne (rx := (R q).map N) (ry := some (N x)) (tgt := 77) X.hx X.hb dJ9_rotateRight_63 (by decide) (fun c63 => ?_) (fun c63 => ?_)
        · refine lv_aload_n X.hx X.hb dJ9_rotateRight_77 rfl (lv_at hl 2 rfl) ?_
          refine g_get (v := .ref (N q)) X hR672 (hT676.1 x hx) rfl in_J21 4 (by decide) q623 (fun _ h => h) (knv (N := N) (o := P675 x) (v := some q) k678) dJ9_rotateRight_78 ?_
          refine lv_aload_n X.hx X.hb dJ9_rotateRight_81 rfl (lv_at hl 0 rfl) ?_
          refine g_put X hR672 hS673 (hT676.1 q (hq0 q hq).1) (Nat.le_of_ble_eq_true rfl) rfl in_J21 tyJ21 tyJ21_ok nmJ21 2 (by decide) q620 (fun _ h => h) rfl rfl rfl (Nat.le_of_ble_eq_true rfl) dJ9_rotateRight_82 (fun H locs hR681 hS682 => ?_)
          obtain ⟨G683, hG683⟩ : ∃ z : GH, z = gu G674 (N q) ((11, q), .inr (8, [.ref (K q), .ref (V q), .ref (N r), va_rf ((R q).map N), va_rf ((P675 q).map N), .int (C q)])) := ⟨_, rfl⟩
          have hR681 : Rep Γ G683 H := by rw [hG683]; exact hR681
          obtain ⟨L684, eL684⟩ : ∃ z, z = va_up L660 q (some r) := ⟨_, rfl⟩
          have hT685 := TH.putL hT676 (hq0 q hq).1 (y := some r) hG683
          rw [← eL684] at hT685
          have f686 : G683 a = some ((4, p), .inr (7, [.null, va_rf vw, .null, va_rf (root.map N), .int sz, .int mo, .null, .null, .null])) := by rw [hG683]; exact gu_t f677 (hT676.1 q (hq0 q hq).1) (tne rfl)
          have k687 : L684 x = some b := by rw [eL684, va_up_ne _ _ (Ne.symm ((hq0 q hq).2.1))]; exact k663
          have k688 : L684 q = some r := by rw [eL684]; exact va_up_self _ _ _
          refine lv_aload_n X.hx X.hb dJ9_rotateRight_85 rfl (lv_at hl 0 rfl) ?_
          refine lv_aload_n X.hx X.hb dJ9_rotateRight_86 rfl (lv_at hl 2 rfl) ?_
          refine g_put X hR681 hS682 (hT685.1 r hSr) (Nat.le_of_ble_eq_true rfl) rfl in_J21 tyJ21 tyJ21_ok nmJ21 3 (by decide) q621 (fun _ h => h) rfl rfl rfl (Nat.le_of_ble_eq_true rfl) dJ9_rotateRight_87 (fun H locs hR689 hS690 => ?_)
          obtain ⟨G691, hG691⟩ : ∃ z : GH, z = gu G683 (N r) ((11, r), .inr (8, [.ref (K r), .ref (V r), va_rf ((L684 r).map N), .ref (N x), va_rf ((P675 r).map N), .int (C r)])) := ⟨_, rfl⟩
          have hR689 : Rep Γ G691 H := by rw [hG691]; exact hR689
          obtain ⟨R692, eR692⟩ : ∃ z, z = va_up R r (some x) := ⟨_, rfl⟩
          have hT693 := TH.putR hT685 hSr (y := some x) hG691
          rw [← eR692] at hT693
          have f694 : G691 a = some ((4, p), .inr (7, [.null, va_rf vw, .null, va_rf (root.map N), .int sz, .int mo, .null, .null, .null])) := by rw [hG691]; exact gu_t f686 (hT685.1 r hSr) (tne rfl)
          have k695 : R692 r = some x := by rw [eR692]; exact va_up_self _ _ _
          refine lv_aload_n X.hx X.hb dJ9_rotateRight_90 rfl (lv_at hl 2 rfl) ?_
          refine lv_aload_n X.hx X.hb dJ9_rotateRight_91 rfl (lv_at hl 0 rfl) ?_
          refine g_put X hR689 hS690 (hT693.1 x hx) (Nat.le_of_ble_eq_true rfl) rfl in_J21 tyJ21 tyJ21_ok nmJ21 4 (by decide) q623 (fun _ h => h) rfl rfl rfl (Nat.le_of_ble_eq_true rfl) dJ9_rotateRight_92 (fun H locs hR696 hS697 => ?_)
          obtain ⟨G698, hG698⟩ : ∃ z : GH, z = gu G691 (N x) ((11, x), .inr (8, [.ref (K x), .ref (V x), va_rf ((L684 x).map N), va_rf ((R692 x).map N), .ref (N r), .int (C x)])) := ⟨_, rfl⟩
          have hR696 : Rep Γ G698 H := by rw [hG698]; exact hR696
          obtain ⟨P699, eP699⟩ : ∃ z, z = va_up P675 x (some r) := ⟨_, rfl⟩
          have hT700 := TH.putP hT693 hx (y := some r) hG698
          rw [← eP699] at hT700
          have f701 : G698 a = some ((4, p), .inr (7, [.null, va_rf vw, .null, va_rf (root.map N), .int sz, .int mo, .null, .null, .null])) := by rw [hG698]; exact gu_t f694 (hT693.1 x hx) (tne rfl)
          have k702 : P699 b = some x := by rw [eP699, va_up_ne _ _ ((hb0 b hb).2.1)]; exact k679
          have k703 : P699 r = some q := by rw [eP699, va_up_ne _ _ (Ne.symm (hpr))]; exact k680
          have k704 : P699 x = some r := by rw [eP699]; exact va_up_self _ _ _
          have hgk : gK (tT p S) G G698 := (gK.tr (gK.tr (gK.tr (gK.tr (gK.tr (gK.pt hG659 (hT.1 x hx) (Or.inr ⟨x, hx, rfl⟩)) (gK.pt hG666 (hT661.1 b (hb0 b hb).1) (Or.inr ⟨b, (hb0 b hb).1, rfl⟩))) (gK.pt hG674 (hT668.1 r hSr) (Or.inr ⟨r, hSr, rfl⟩))) (gK.pt hG683 (hT676.1 q (hq0 q hq).1) (Or.inr ⟨q, (hq0 q hq).1, rfl⟩))) (gK.pt hG691 (hT685.1 r hSr) (Or.inr ⟨r, hSr, rfl⟩))) (gK.pt hG698 (hT693.1 x hx) (Or.inr ⟨x, hx, rfl⟩)))
          have hrot : Rot R L P R692 L684 P699 root (root) x r := by
            refine Rot_mk hpr hb hq ?_ ?_ ?_ ?_ ?_ ?_ ?_
            · intro z hz; cases hz; exact ⟨(hq0 q hq).2.1, (hq0 q hq).2.2.1⟩
            · intro z hz; cases hz; exact hb0 b hb |>.2
            · intro k; simp only [eL660, eP667, eP675, eL684, eR692, eP699]; unfold va_up; clear hR hS hT hI X hr hlk hin hnm hl hgk hM; grind
            · intro k; simp only [eL660, eP667, eP675, eL684, eR692, eP699]; unfold va_up; clear hR hS hT hI X hr hlk hin hnm hl hgk hM; grind
            · intro k; simp only [eL660, eP667, eP675, eL684, eR692, eP699]; unfold va_up; clear hR hS hT hI X hr hlk hin hnm hl hgk hM; grind
            · intro h; cases h
            · intro _ _; rfl
          exact g_vret X hr hlk hR696 hS697 (⟨rfl, hgk, _, _, _, root, hT700, f701, hrot⟩) (by (try dsimp only [RM]); omega) (by (try dsimp only [RM]); omega) dJ9_rotateRight_95
        · exact absurd (hT.inj (fun y hy => (hI.2.2.2.1 q y (hq0 q hq).1 hy).1) hx c63) hl0
