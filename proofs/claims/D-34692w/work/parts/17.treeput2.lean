set_option maxRecDepth 100000
/-! java.util.TreeMap: put, the whole -/
def IBk (G : GH) (a : Nat) (v : Int32) : Prop := ∃ t : Nat × Nat, G a = some (t, .inr (9, [.int v])) ∧ t.1 ≠ 4 ∧ t.1 ≠ 11 ∧ (t.1 = 13 ∨ t.1 = 50)
/-- a map from boxed keys kv k to V k, for the numbers in S -/
def TM (G : GH) (a p : Nat) (vw : Option Nat) (S : Nat → Prop) (N K V : Nat → Nat) (kv : Nat → Int32) : Prop :=
  ∃ (L R P : Nat → Option Nat) (C : Nat → Int32) (lo hi : Nat → Int) (root : Option Nat) (sz mo : Int32), TH G S N K V L R P C ∧ TI (-1) 2147483648 S (fun k => (kv k).toInt) lo hi L R P root ∧ G a = some (TMc p vw (root.map N) sz mo) ∧ (∀ r, root = some r → C r = 1) ∧ ∀ k, S k → IBk G (K k) (kv k)
theorem IBk.keep {G G1 : GH} {a : Nat} {v : Int32} {p : Nat} {S : Nat → Prop} (h : IBk G a v) (hk : gK (tT p S) G G1) : IBk G1 a v := by
  obtain ⟨t, h1, h2, h3, h4⟩ := h
  refine ⟨t, hk _ _ h1 ?_, h2, h3, h4⟩
  rintro (h | ⟨k, -, h⟩)
  · exact h2 (by show t.1 = 4; rw [show t = (4, p) from h])
  · exact h3 (by show t.1 = 11; rw [show t = (11, k) from h])
theorem IBk.kp {G G1 : GH} {a : Nat} {v : Int32} {T : Nat × Nat → Prop} (h : IBk G a v) (hk : gK T G G1) (hb : ∀ t, T t → t.1 ≠ 13 ∧ t.1 ≠ 50) : IBk G1 a v := by
  obtain ⟨t, h1, h2, h3, h4⟩ := h
  refine ⟨t, hk _ _ h1 (fun z => ?_), h2, h3, h4⟩
  obtain ⟨b1, b2⟩ := hb t z
  exact h4.elim b1 b2
theorem TM.add {G G1 : GH} {a p : Nat} {vw : Option Nat} {S : Nat → Prop} {N1 K V : Nat → Nat} {kv : Nat → Int32} {n : Nat} {L R P : Nat → Option Nat} {C : Nat → Int32} {lo hi : Nat → Int} {root : Option Nat} {sz mo : Int32}
    (hk : gK (tT p (fun k => S k ∨ k = n)) G G1) (hT : TH G1 (fun k => S k ∨ k = n) N1 K V L R P C) (hI : TI (-1) 2147483648 (fun k => S k ∨ k = n) (fun k => (kv k).toInt) lo hi L R P root) (hM : G1 a = some (TMc p vw (root.map N1) sz mo)) (hB : ∀ r, root = some r → C r = 1) (hK : ∀ k, S k → IBk G (K k) (kv k)) (hn : IBk G (K n) (kv n)) :
    TM G1 a p vw (fun k => S k ∨ k = n) N1 K V kv :=
  ⟨L, R, P, C, lo, hi, root, sz, mo, hT, hI, hM, hB, fun k h => (h.elim (fun h => hK k h) (fun e => e ▸ hn)).keep hk⟩
theorem TM.init {G : GH} {a p : Nat} {N K V : Nat → Nat} {kv : Nat → Int32} {sz mo : Int32} (h : G a = some (TMc p none none sz mo)) : TM G a p none (fun _ => False) N K V kv :=
  ⟨fun _ => none, fun _ => none, fun _ => none, fun _ => 1, fun _ => 0, fun _ => 0, none, sz, mo, ⟨fun _ h => h.elim, fun _ h => h.elim⟩,
    ⟨fun _ h => h.elim, fun _ _ h => h.elim, fun _ _ h => h.elim, fun _ _ h => h.elim, fun _ _ h => h.elim, fun _ _ h => h.elim, fun _ h => h.elim, fun _ _ h => h.elim, fun _ h => (by cases h), fun _ _ h => h⟩, h, fun _ h => (by cases h), fun _ h => h.elim⟩
theorem TM.keep {G G1 : GH} {a p : Nat} {vw : Option Nat} {S : Nat → Prop} {N K V : Nat → Nat} {kv : Nat → Int32} {T : Nat × Nat → Prop} (h : TM G a p vw S N K V kv) (hk : gK T G G1) (h4 : ¬ T (4, p)) (h11 : ∀ k, S k → ¬ T (11, k)) (hb : ∀ t, T t → t.1 ≠ 13 ∧ t.1 ≠ 50) : TM G1 a p vw S N K V kv := by
  obtain ⟨L, R, P, C, lo, hi, root, sz, mo, hT, hI, hM, hB, hK⟩ := h
  exact ⟨L, R, P, C, lo, hi, root, sz, mo, hT.keep hk h11, hI, hk _ _ hM h4, hB, fun k hS => (hK k hS).kp hk hb⟩
theorem TM.cong {G : GH} {a p : Nat} {vw : Option Nat} {S : Nat → Prop} {N N1 K K1 V V1 : Nat → Nat} {kv kv1 : Nat → Int32} (h : TM G a p vw S N K V kv) (e1 : ∀ k, S k → N1 k = N k) (e2 : ∀ k, S k → K1 k = K k) (e3 : ∀ k, S k → V1 k = V k) (e4 : ∀ k, S k → kv1 k = kv k) : TM G a p vw S N1 K1 V1 kv1 := by
  obtain ⟨L, R, P, C, lo, hi, root, sz, mo, hT, hI, hM, hB, hK⟩ := h
  have mp : ∀ o : Option Nat, (∀ b, o = some b → S b) → o.map N1 = o.map N := by
    intro o ho
    cases o with
    | none => rfl
    | some b => exact congrArg some (e1 b (ho b rfl))
  refine ⟨L, R, P, C, lo, hi, root, sz, mo, ⟨fun k hk => ?_, hT.2⟩, ?_, ?_, hB, fun k hk => ?_⟩
  · rw [e1 k hk, hT.1 k hk]
    unfold nE
    rw [e2 k hk, e3 k hk, mp _ (fun b e => TI_Sl hI hk (Or.inl e)), mp _ (fun b e => TI_Sl hI hk (Or.inr (Or.inl e))), mp _ (fun b e => TI_Sl hI hk (Or.inr (Or.inr e)))]
  · obtain ⟨ha, hb, hc, hd, he, hf, hg, hi1, hj, hk⟩ := hI
    refine ⟨fun k h1 => ?_, fun k c h1 h2 h3 => ?_, fun k b h1 h2 => ?_, fun k b h1 h2 => ?_, fun k c h1 h2 h3 h4 => ?_, fun k c h1 h2 h3 h4 => ?_, hg, hi1, hj, hk⟩
    · have := ha k h1; dsimp only at this ⊢; rw [e4 k h1]; exact this
    · have := hb k c h1 h2 h3; unfold lam at this ⊢; dsimp only at this ⊢; rw [e4 k h1, e4 c h2]; exact this
    · have := hc k b h1 h2; dsimp only at this ⊢; rw [e4 k h1]; exact this
    · have := hd k b h1 h2; dsimp only at this ⊢; rw [e4 k h1]; exact this
    · dsimp only at h3 h4; rw [e4 c h2] at h3 h4; rw [e4 k h1] at h4; exact he k c h1 h2 h3 h4
    · dsimp only at h3 h4; rw [e4 c h2] at h3 h4; rw [e4 k h1] at h3; exact hf k c h1 h2 h3 h4
  · rw [mp _ (fun b e => (hI.2.2.2.2.2.2.2.2.1 b e).1)]; exact hM
  · rw [e2 k hk, e4 k hk]; exact hK k hk
theorem i32_rng (v : Int32) : -2147483648 ≤ v.toInt ∧ v.toInt < 2147483648 := by
  have := v.toInt_lt
  have := v.le_toInt
  constructor <;> omega

set_option maxHeartbeats 4000000 in
theorem c_put2 (l : Launch) (Γ : GP) (G : GH) {a p : Nat} {vw : Option Nat} {S : Nat → Prop} {N K V : Nat → Nat} {kv : Nat → Int32} {n : Nat} (hTM : TM G a p vw S N K V kv) (hn : ¬ S n) (hkn : IBk G (K n) (kv n)) (h0 : 0 ≤ (kv n).toInt) (hu : ∀ k, S k → kv k ≠ kv n) : MetG l yJ9_put_2 (ws_ yJ9_put_2 cJ9_put_2 10 (some (.object "java/lang/Object"))) (RM 6 1 6) Γ G [.ref a, .ref (K n), .ref (V n), .int 1] (fun v G1 => v = some .null ∧ ∃ q, G q = none ∧ gK (tT p (fun k => S k ∨ k = n)) G G1 ∧ TM G1 a p vw (fun k => S k ∨ k = n) (va_up N n q) K V kv) 1 6 := by
  refine gMet (own := RJ9) (by decide) rfl (Nat.le_of_ble_eq_true rfl) ?_
  intro pp ee ss mm below meth cc0 ls X hr hlk hin hnm hR hS hl
  have hl : lv_has ls 10 [(0, .ref a), (1, .ref (K n)), (2, .ref (V n)), (3, .int 1)] := hl
  obtain ⟨L, R, P, C, lo, hi, root, sz, mo, hT, hI, hM, hB, hK⟩ := hTM
  obtain ⟨tk, hka, hk4, hk11, hk13⟩ := hkn
  have hrng := i32_rng (kv n)
  rcases root with _ | r
  · refine lv_aload_n X.hx X.hb dJ9_put_2_0 rfl (lv_at hl 0 rfl) ?_
    refine g_get X hR hM rfl in_J9 3 (by decide) q264 (fun _ h => h) rfl dJ9_put_2_1 ?_
    refine lv_astoreN (lv' := [(4, .null), (0, .ref a), (1, .ref (K n)), (2, .ref (V n)), (3, .int 1)]) X.hx X.hb dJ9_put_2_4 hl (by decide) rfl (fun ls hl => ?_)
    refine lv_aloadN X.hx X.hb dJ9_put_2_6 (lv_at hl 0 rfl) ?_
    refine lv_ifnonnullN X.hx X.hb dJ9_put_2_8 ?_
    refine lv_aload_n X.hx X.hb dJ9_put_2_11 rfl (lv_at hl 1 rfl) ?_
    refine lv_aload_n X.hx X.hb dJ9_put_2_12 rfl (lv_at hl 2 rfl) ?_
    refine lv_aload_n X.hx X.hb dJ9_put_2_13 rfl (lv_at hl 3 rfl) ?_
    refine gcV X hl.1 hR hS 2 [.ref (K n), .ref (V n)] [] (c_addEmpty l Γ G hM hka hk4 hk11 (va := V n) (n := n)) hM rfl q560 q562 qs7 q48 q563 rfl rfl ⟨rfl, by decide +kernel, by decide +kernel, by decide +kernel⟩ ⟨by (try dsimp only [RM]); omega, by (try dsimp only [RM]); omega⟩ rfl rfl (Nat.le_of_ble_eq_true rfl) dJ9_put_2_14 ⟨by (try dsimp only [RM]); omega, by (try dsimp only [RM]); omega⟩ (fun v1990 G1991 H locs hq1987 hR1988 hS1989 => ?_)
    obtain ⟨rfl, q, hq, hgk, hc, hM1⟩ := hq1987
    have hS0 : ∀ k, ¬ S k := hI.2.2.2.2.2.2.2.2.2 rfl
    have hgk9 : gK (tT p (fun k => S k ∨ k = n)) G G1991 := hgk.mono (fun t h => h.elim Or.inl (fun e => Or.inr ⟨n, Or.inr rfl, e⟩))
    have hI9 := TI_one hI (n := n) (L1 := fun _ => none) (R1 := fun _ => none) (P1 := fun _ => none) (by (try dsimp only); omega) (by (try dsimp only); omega) rfl rfl rfl
    have hT9 : TH G1991 (fun k => S k ∨ k = n) (va_up N n q) K V (fun _ => none) (fun _ => none) (fun _ => none) (fun _ => 1) := by
      refine ⟨fun k hk => ?_, fun k _ => Or.inr rfl⟩
      obtain rfl : k = n := hk.resolve_left (hS0 k)
      rw [va_up_self, hc]; rfl
    have hM9 : G1991 a = some (TMc p vw (Option.map (va_up N n q) (some n)) 1 (mo + 1)) := by rw [hM1]; show _ = some (TMc p vw (some (va_up N n q n)) _ _); rw [va_up_self]
    refine lv_null X.hx X.hb dJ9_put_2_17 ?_
    exact g_aret (r := none) X hr (Or.inl ⟨_, rfl⟩) hlk hR1988 hS1989 (⟨rfl, q, hq, hgk9, TM.add hgk9 hT9 hI9 hM9 (C := fun _ => 1) (fun _ _ => rfl) hK ⟨tk, hka, hk4, hk11, hk13⟩⟩) (by (try dsimp only [RM]); omega) (by (try dsimp only [RM]); omega) dJ9_put_2_18
  · obtain ⟨hSr, -, hlr, hhr⟩ := hI.2.2.2.2.2.2.2.2.1 r rfl
    refine lv_aload_n X.hx X.hb dJ9_put_2_0 rfl (lv_at hl 0 rfl) ?_
    refine g_get X hR hM rfl in_J9 3 (by decide) q264 (fun _ h => h) rfl dJ9_put_2_1 ?_
    refine lv_astore (lv' := [(4, .ref (N r)), (0, .ref a), (1, .ref (K n)), (2, .ref (V n)), (3, .int 1)]) X.hx X.hb dJ9_put_2_4 hl (by decide) rfl (fun ls hl => ?_)
    refine lv_aload X.hx X.hb dJ9_put_2_6 (lv_at hl 0 rfl) ?_
    refine lv_ifnonnull (tgt := 19) X.hx X.hb dJ9_put_2_8 (by decide) ?_
    refine lv_aload_n X.hx X.hb dJ9_put_2_19 rfl (lv_at hl 1 rfl) ?_
    refine g_get X hR hM rfl in_J9 2 (by decide) q263 (fun _ h => h) rfl dJ9_put_2_20 ?_
    refine lv_astoreN (lv' := [(7, .null), (4, .ref (N r)), (0, .ref a), (1, .ref (K n)), (2, .ref (V n)), (3, .int 1)]) X.hx X.hb dJ9_put_2_23 hl (by decide) rfl (fun ls hl => ?_)
    refine lv_aloadN X.hx X.hb dJ9_put_2_25 (lv_at hl 0 rfl) ?_
    refine lv_ifnullN (tgt := 112) X.hx X.hb dJ9_put_2_27 (by decide) ?_
    refine lv_aload_n X.hx X.hb dJ9_put_2_112 rfl (lv_at hl 3 rfl) ?_
    refine gcS X hl.1 hR hS 1 [.ref (K n)] [] (c_J17r l Γ G) q639 q640 q58 q641 rfl rfl ⟨by decide +kernel, by decide +kernel, by decide +kernel⟩ ⟨by (try dsimp only [RM]); omega, by (try dsimp only [RM]); omega⟩ rfl rfl (Nat.le_of_ble_eq_true rfl) dJ9_put_2_113 ⟨by (try dsimp only [RM]); omega, by (try dsimp only [RM]); omega⟩ (fun v1995 G1996 H locs hq1992 hR1993 hS1994 => ?_)
    obtain ⟨rfl, rfl⟩ := hq1992
    refine lv_pop X.hx X.hb dJ9_put_2_116 rfl ?_
    refine lv_aload_n X.hx X.hb dJ9_put_2_117 rfl (lv_at hl 3 rfl) ?_
    refine g_castY X hR1993 hka rfl q568 kq573 dJ9_put_2_118 ?_
    refine lv_astore (lv' := [(8, .ref (K n)), (7, .null), (4, .ref (N r)), (0, .ref a), (1, .ref (K n)), (2, .ref (V n)), (3, .int 1)]) X.hx X.hb dJ9_put_2_121 hl (by decide) rfl (fun ls hl => ?_)
    have loop : ∀ (f : Nat) (t : Nat) (H : Heap) (locs : List Loc) (ls : Array Slot), S t → TD S (fun k => (kv k).toInt) lo hi L R (kv n).toInt (lo t) (hi t) → lo t < (kv n).toInt → (kv n).toInt < hi t → hi t - lo t < (f : Int) → Rep Γ G H → va_S (gA Γ) ss.heap H locs → lv_has ls 10 [(0, .ref a), (1, .ref (K n)), (2, .ref (V n)), (3, .int 1), (4, .ref (N t)), (8, .ref (K n))] → W pp l ee (RM 6 1 6) ss mm (List.toArray [.ref a, .ref (K n), .ref (V n), .int 1]) below meth cc0 H locs 0 0 (MQ below (Qg Γ (fun v G1 => v = some .null ∧ ∃ q, G q = none ∧ gK (tT p (fun k => S k ∨ k = n)) G G1 ∧ TM G1 a p vw (fun k => S k ∨ k = n) (va_up N n q) K V kv)) (List.toArray [.ref a, .ref (K n), .ref (V n), .int 1]) ss 1 6 (gA Γ)) (F0 mm 123 ls []) := by
      intro f
      induction f with
      | zero =>
        intro t H locs ls ht hD h1 h2 hf hR hS hl
        omega
      | succ f ih =>
        intro t H locs ls ht hD h1 h2 hf hR hS hl
        obtain ⟨tb, hkb, hb4, hb11⟩ := hK t ht
        have hut := hu t ht
        refine lv_aload X.hx X.hb dJ9_put_2_123 (lv_at hl 4 rfl) ?_
        refine lv_astore (lv' := [(6, .ref (N t)), (0, .ref a), (1, .ref (K n)), (2, .ref (V n)), (3, .int 1), (4, .ref (N t)), (8, .ref (K n))]) X.hx X.hb dJ9_put_2_125 hl (by decide) rfl (fun ls hl => ?_)
        refine lv_aload X.hx X.hb dJ9_put_2_127 (lv_at hl 6 rfl) ?_
        refine lv_aload X.hx X.hb dJ9_put_2_129 (lv_at hl 5 rfl) ?_
        refine g_get (v := .ref (K t)) X hR (hT.1 t ht) rfl in_J21 0 (by decide) q616 (fun _ h => h) rfl dJ9_put_2_131 ?_
        refine gcF X hl.1 hR hS 1 [.ref (K t)] [] (c_cmpTo l Γ G hka hkb) hka rfl kf6 q570 q574 q576 q62 q578 rfl rfl ⟨by decide +kernel, by decide +kernel, by decide +kernel⟩ ⟨by (try dsimp only [RM]); omega, by (try dsimp only [RM]); omega⟩ rfl rfl (Nat.le_of_ble_eq_true rfl) dJ9_put_2_134 ⟨by (try dsimp only [RM]); omega, by (try dsimp only [RM]); omega⟩ (fun v2000 G2001 H locs hq1997 hR1998 hS1999 => ?_)
        obtain ⟨rfl, rfl⟩ := hq1997
        refine lv_istore (lv' := [(5, .int (cmpI (kv n) (kv t))), (6, .ref (N t)), (0, .ref a), (1, .ref (K n)), (2, .ref (V n)), (3, .int 1), (4, .ref (N t)), (8, .ref (K n))]) X.hx X.hb dJ9_put_2_139 hl (by decide) rfl (fun ls hl => ?_)
        refine lv_iload X.hx X.hb dJ9_put_2_141 (lv_at hl 0 rfl) ?_
        refine lv_if_ge (tgt := 156) X.hx X.hb dJ9_put_2_143 (by decide) (fun c143 => ?_) (fun c143 => ?_)
        · refine lv_iload X.hx X.hb dJ9_put_2_156 (lv_at hl 0 rfl) ?_
          refine lv_if_le (tgt := 171) X.hx X.hb dJ9_put_2_158 (by decide) (fun c158 => ?_) (fun c158 => ?_)
          · exact absurd (Int32.toInt_inj.mp (by have a1 := mt (fun h => cmpI_lt.mpr (Int32.lt_iff_toInt_lt.mpr h)) (Int32.not_lt.mpr c143); have a2 := mt (fun h => cmpI_gt.mpr (Int32.lt_iff_toInt_lt.mpr h)) (Int32.not_lt.mpr c158); omega)) hut
          · have hlt : (kv t).toInt < (kv n).toInt := Int32.lt_iff_toInt_lt.mp (cmpI_gt.mp (Int32.not_le.mp c158))
            have hat := hI.1 t ht
            rcases hc : R t with _ | b
            · refine lv_aload X.hx X.hb dJ9_put_2_161 (lv_at hl 6 rfl) ?_
              refine g_get (v := .null) X hR1998 (hT.1 t ht) rfl in_J21 3 (by decide) q621 (fun _ h => h) (knv (N := N) (o := R t) (v := none) hc) dJ9_put_2_163 ?_
              refine lv_astoreN (lv' := [(4, .null), (5, .int (cmpI (kv n) (kv t))), (6, .ref (N t)), (0, .ref a), (1, .ref (K n)), (2, .ref (V n)), (3, .int 1), (8, .ref (K n))]) X.hx X.hb dJ9_put_2_166 hl (by decide) rfl (fun ls hl => ?_)
              refine lv_goto (tgt := 196) X.hx X.hb dJ9_put_2_168 (by decide) ?_
              refine lv_aloadN X.hx X.hb dJ9_put_2_196 (lv_at hl 0 rfl) ?_
              refine lv_ifnonnullN X.hx X.hb dJ9_put_2_198 ?_
              refine lv_aload_n X.hx X.hb dJ9_put_2_201 rfl (lv_at hl 3 rfl) ?_
              refine lv_aload_n X.hx X.hb dJ9_put_2_202 rfl (lv_at hl 4 rfl) ?_
              refine lv_aload_n X.hx X.hb dJ9_put_2_203 rfl (lv_at hl 5 rfl) ?_
              refine lv_aload X.hx X.hb dJ9_put_2_204 (lv_at hl 2 rfl) ?_
              refine lv_iload X.hx X.hb dJ9_put_2_206 (lv_at hl 1 rfl) ?_
              refine lv_if_ge (tgt := 215) X.hx X.hb dJ9_put_2_208 (by decide) (fun c208 => ?_) (fun c208 => ?_)
              · refine lv_iconst (v := 0) X.hx X.hb dJ9_put_2_215 (by decide) ?_
                refine gcV X hl.1 hR1998 hS1999 4 [.ref (K n), .ref (V n), .ref (N t), .int 0] [] (c_addEntryR l Γ G hT hI hM hB ht hn hka hk4 hk11 (va := V n) rfl rfl hc hD hlt h2) hM rfl q642 q644 qs8 q48 q645 rfl rfl ⟨rfl, by decide +kernel, by decide +kernel, by decide +kernel⟩ ⟨by (try dsimp only [RM]); omega, by (try dsimp only [RM]); omega⟩ rfl rfl (Nat.le_of_ble_eq_true rfl) dJ9_put_2_216 ⟨by (try dsimp only [RM]); omega, by (try dsimp only [RM]); omega⟩ (fun v2005 G2006 H locs hq2002 hR2003 hS2004 => ?_)
                obtain ⟨rfl, q, L1, R1, P1, C1, lo1, hi1, root1, hq, hgk, hT1, hI1, hM1, hB1⟩ := hq2002
                refine lv_null X.hx X.hb dJ9_put_2_219 ?_
                exact g_aret (r := none) X hr (Or.inl ⟨_, rfl⟩) hlk hR2003 hS2004 (⟨rfl, q, hq, hgk, TM.add hgk hT1 hI1 hM1 hB1 hK ⟨tk, hka, hk4, hk11, hk13⟩⟩) (by (try dsimp only [RM]); omega) (by (try dsimp only [RM]); omega) dJ9_put_2_220
              · exact absurd c143 c208
            · refine lv_aload X.hx X.hb dJ9_put_2_161 (lv_at hl 6 rfl) ?_
              refine g_get (v := .ref (N b)) X hR1998 (hT.1 t ht) rfl in_J21 3 (by decide) q621 (fun _ h => h) (knv (N := N) (o := R t) (v := some b) hc) dJ9_put_2_163 ?_
              refine lv_astore (lv' := [(4, .ref (N b)), (5, .int (cmpI (kv n) (kv t))), (6, .ref (N t)), (0, .ref a), (1, .ref (K n)), (2, .ref (V n)), (3, .int 1), (8, .ref (K n))]) X.hx X.hb dJ9_put_2_166 hl (by decide) rfl (fun ls hl => ?_)
              refine lv_goto (tgt := 196) X.hx X.hb dJ9_put_2_168 (by decide) ?_
              refine lv_aload X.hx X.hb dJ9_put_2_196 (lv_at hl 0 rfl) ?_
              refine lv_ifnonnull (tgt := 123) X.hx X.hb dJ9_put_2_198 (by decide) ?_
              have hb := hI.2.2.2.1 t b ht hc
              have h9 := TD_right hI ht hD hlt (fun e => by rw [e] at hc; cases hc)
              dsimp only at hb h9 hlt hat
              rw [← hb.2.1, ← hb.2.2.1] at h9
              exact ih b _ _ _ hb.1 h9 (by rw [hb.2.1]; omega) (by rw [hb.2.2.1]; omega) (by rw [hb.2.1, hb.2.2.1]; push_cast at hf; omega) hR1998 hS1999 (lv_sub hl [3, 4, 5, 6, 0, 7] rfl)
        · have hlt : (kv n).toInt < (kv t).toInt := Int32.lt_iff_toInt_lt.mp (cmpI_lt.mp (Int32.not_le.mp c143))
          have hat := hI.1 t ht
          rcases hc : L t with _ | b
          · refine lv_aload X.hx X.hb dJ9_put_2_146 (lv_at hl 6 rfl) ?_
            refine g_get (v := .null) X hR1998 (hT.1 t ht) rfl in_J21 2 (by decide) q620 (fun _ h => h) (knv (N := N) (o := L t) (v := none) hc) dJ9_put_2_148 ?_
            refine lv_astoreN (lv' := [(4, .null), (5, .int (cmpI (kv n) (kv t))), (6, .ref (N t)), (0, .ref a), (1, .ref (K n)), (2, .ref (V n)), (3, .int 1), (8, .ref (K n))]) X.hx X.hb dJ9_put_2_151 hl (by decide) rfl (fun ls hl => ?_)
            refine lv_goto (tgt := 196) X.hx X.hb dJ9_put_2_153 (by decide) ?_
            refine lv_aloadN X.hx X.hb dJ9_put_2_196 (lv_at hl 0 rfl) ?_
            refine lv_ifnonnullN X.hx X.hb dJ9_put_2_198 ?_
            refine lv_aload_n X.hx X.hb dJ9_put_2_201 rfl (lv_at hl 3 rfl) ?_
            refine lv_aload_n X.hx X.hb dJ9_put_2_202 rfl (lv_at hl 4 rfl) ?_
            refine lv_aload_n X.hx X.hb dJ9_put_2_203 rfl (lv_at hl 5 rfl) ?_
            refine lv_aload X.hx X.hb dJ9_put_2_204 (lv_at hl 2 rfl) ?_
            refine lv_iload X.hx X.hb dJ9_put_2_206 (lv_at hl 1 rfl) ?_
            refine lv_if_ge (tgt := 215) X.hx X.hb dJ9_put_2_208 (by decide) (fun c208 => ?_) (fun c208 => ?_)
            · exact absurd c208 (Int32.not_le.mpr (Int32.not_le.mp c143))
            · refine lv_iconst (v := 1) X.hx X.hb dJ9_put_2_211 (by decide) ?_
              refine lv_goto (tgt := 216) X.hx X.hb dJ9_put_2_212 (by decide) ?_
              refine gcV X hl.1 hR1998 hS1999 4 [.ref (K n), .ref (V n), .ref (N t), .int 1] [] (c_addEntryL l Γ G hT hI hM hB ht hn hka hk4 hk11 (va := V n) rfl rfl hc hD h1 hlt) hM rfl q642 q644 qs8 q48 q645 rfl rfl ⟨rfl, by decide +kernel, by decide +kernel, by decide +kernel⟩ ⟨by (try dsimp only [RM]); omega, by (try dsimp only [RM]); omega⟩ rfl rfl (Nat.le_of_ble_eq_true rfl) dJ9_put_2_216 ⟨by (try dsimp only [RM]); omega, by (try dsimp only [RM]); omega⟩ (fun v2010 G2011 H locs hq2007 hR2008 hS2009 => ?_)
              obtain ⟨rfl, q, L1, R1, P1, C1, lo1, hi1, root1, hq, hgk, hT1, hI1, hM1, hB1⟩ := hq2007
              refine lv_null X.hx X.hb dJ9_put_2_219 ?_
              exact g_aret (r := none) X hr (Or.inl ⟨_, rfl⟩) hlk hR2008 hS2009 (⟨rfl, q, hq, hgk, TM.add hgk hT1 hI1 hM1 hB1 hK ⟨tk, hka, hk4, hk11, hk13⟩⟩) (by (try dsimp only [RM]); omega) (by (try dsimp only [RM]); omega) dJ9_put_2_220
          · refine lv_aload X.hx X.hb dJ9_put_2_146 (lv_at hl 6 rfl) ?_
            refine g_get (v := .ref (N b)) X hR1998 (hT.1 t ht) rfl in_J21 2 (by decide) q620 (fun _ h => h) (knv (N := N) (o := L t) (v := some b) hc) dJ9_put_2_148 ?_
            refine lv_astore (lv' := [(4, .ref (N b)), (5, .int (cmpI (kv n) (kv t))), (6, .ref (N t)), (0, .ref a), (1, .ref (K n)), (2, .ref (V n)), (3, .int 1), (8, .ref (K n))]) X.hx X.hb dJ9_put_2_151 hl (by decide) rfl (fun ls hl => ?_)
            refine lv_goto (tgt := 196) X.hx X.hb dJ9_put_2_153 (by decide) ?_
            refine lv_aload X.hx X.hb dJ9_put_2_196 (lv_at hl 0 rfl) ?_
            refine lv_ifnonnull (tgt := 123) X.hx X.hb dJ9_put_2_198 (by decide) ?_
            have hb := hI.2.2.1 t b ht hc
            have h9 := TD_left hI ht hD hlt (fun e => by rw [e] at hc; cases hc)
            dsimp only at hb h9 hlt hat
            rw [← hb.2.1, ← hb.2.2.1] at h9
            exact ih b _ _ _ hb.1 h9 (by rw [hb.2.1]; omega) (by rw [hb.2.2.1]; omega) (by rw [hb.2.1, hb.2.2.1]; push_cast at hf; omega) hR1998 hS1999 (lv_sub hl [3, 4, 5, 6, 0, 7] rfl)
    exact loop (hi r - lo r + 1).toNat r _ _ _ hSr (by rw [hlr, hhr]; exact TD_root hI _) (by rw [hlr]; omega) (by rw [hhr]; omega) (by omega) hR1993 hS1994 (lv_sub hl [3, 4, 5, 6, 2, 0] rfl)

set_option maxHeartbeats 4000000 in
theorem c_put (l : Launch) (Γ : GP) (G : GH) {a p : Nat} {vw : Option Nat} {S : Nat → Prop} {N K V : Nat → Nat} {kv : Nat → Int32} {n : Nat} (hTM : TM G a p vw S N K V kv) (hn : ¬ S n) (hkn : IBk G (K n) (kv n)) (h0 : 0 ≤ (kv n).toInt) (hu : ∀ k, S k → kv k ≠ kv n) : MetG l yJ9_put (ws_ yJ9_put cJ9_put 3 (some (.object "java/lang/Object"))) (RM 7 1 6) Γ G [.ref a, .ref (K n), .ref (V n)] (fun v G1 => v = some .null ∧ ∃ q, G q = none ∧ gK (tT p (fun k => S k ∨ k = n)) G G1 ∧ TM G1 a p vw (fun k => S k ∨ k = n) (va_up N n q) K V kv) 1 6 := by
  refine gMet (own := RJ9) (by decide) rfl (Nat.le_of_ble_eq_true rfl) ?_
  intro pp ee ss mm below meth cc0 ls X hr hlk hin hnm hR hS hl
  have hl : lv_has ls 3 [(0, .ref a), (1, .ref (K n)), (2, .ref (V n))] := hl
  have hTM0 := hTM
  obtain ⟨_, _, _, _, _, _, root, sz, mo, -, -, hM, -, -⟩ := hTM0
  refine lv_aload_n X.hx X.hb dJ9_put_0 rfl (lv_at hl 0 rfl) ?_
  refine lv_aload_n X.hx X.hb dJ9_put_1 rfl (lv_at hl 1 rfl) ?_
  refine lv_aload_n X.hx X.hb dJ9_put_2 rfl (lv_at hl 2 rfl) ?_
  refine lv_iconst (v := 1) X.hx X.hb dJ9_put_3 (by decide) ?_
  refine gcV X hl.1 hR hS 3 [.ref (K n), .ref (V n), .int 1] [] (c_put2 l Γ G hTM hn hkn h0 hu) hM rfl q556 q558 qs6 q48 q559 rfl rfl ⟨rfl, by decide +kernel, by decide +kernel, by decide +kernel⟩ ⟨by (try dsimp only [RM]); omega, by (try dsimp only [RM]); omega⟩ rfl rfl (Nat.le_of_ble_eq_true rfl) dJ9_put_4 ⟨by (try dsimp only [RM]); omega, by (try dsimp only [RM]); omega⟩ (fun v2015 G2016 H locs hq2012 hR2013 hS2014 => ?_)
  obtain ⟨rfl, hq⟩ := hq2012
  exact g_aret (r := none) X hr (Or.inl ⟨_, rfl⟩) hlk hR2013 hS2014 (⟨rfl, hq⟩) (by (try dsimp only [RM]); omega) (by (try dsimp only [RM]); omega) dJ9_put_7

