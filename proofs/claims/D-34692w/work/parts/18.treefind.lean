set_option maxRecDepth 100000
/-! java.util.TreeMap: the first entry, the next, the ceiling -/
/-- o is the least number of S whose key is at least κ -/
def CE (S : Nat → Prop) (kv : Nat → Int32) (κ : Int) (o : Option Nat) : Prop := (∀ m, o = some m → S m ∧ κ ≤ (kv m).toInt ∧ ∀ k, S k → κ ≤ (kv k).toInt → (kv m).toInt ≤ (kv k).toInt) ∧ (o = none → ∀ k, S k → (kv k).toInt < κ)
section CEs
variable {A B : Int} {S : Nat → Prop} {kv : Nat → Int32} {lo hi : Nat → Int} {L R P : Nat → Option Nat} {root : Option Nat} {t x w c : Nat}
theorem CE_low (h : TI A B S (fun k => (kv k).toInt) lo hi L R P root) (ht : S t) (hL : L t = none) {κ : Int} (h1 : ∀ k, S k → κ ≤ (kv k).toInt → lo t < (kv k).toInt) (h2 : κ ≤ (kv t).toInt) : CE S kv κ (some t) := by
  refine ⟨fun m hm => ?_, fun h => by cases h⟩
  cases hm
  refine ⟨ht, h2, fun k hk h3 => ?_⟩
  rcases Int.lt_or_le (kv k).toInt (kv t).toInt with h4 | h4
  · exact absurd hL (h.2.2.2.2.1 t k ht hk (h1 k hk h3) h4)
  · exact h4
theorem CE_upS (h : TI A B S (fun k => (kv k).toInt) lo hi L R P root) (hx : S x) (hR : R x = none) (hc : S c) (e : hi c = hi x) (hP : P c = some w) (hR2 : ¬ R w = some c) {κ : Int} (h1 : (kv x).toInt < κ) (h2 : κ ≤ hi x) : CE S kv κ (some w) := by
  obtain ⟨hw, h9⟩ := h.2.2.2.2.2.2.2.1 c w hc hP
  have h8 := h.2.2.1 w c hw (h9.resolve_right hR2)
  have h7 := h8.2.2.1
  dsimp only at h7
  refine ⟨fun m hm => ?_, fun h => by cases h⟩
  cases hm
  refine ⟨hw, by omega, fun k hk h3 => ?_⟩
  rcases Int.lt_or_le (kv k).toInt (hi x) with h4 | h4
  · exact absurd hR (h.2.2.2.2.2.1 x k hx hk (by dsimp only; omega) h4)
  · omega
theorem CE_upN (h : TI A B S (fun k => (kv k).toInt) lo hi L R P root) (hx : S x) (hR : R x = none) (hc : S c) (e : hi c = hi x) (hP : P c = none) {κ : Int} (h1 : (kv x).toInt < κ) : CE S kv κ none := by
  refine ⟨(fun m h => by cases h), fun _ k hk => ?_⟩
  have h7 := h.2.2.2.2.2.2.2.2.1 c (h.2.2.2.2.2.2.1 c hc hP)
  have h6 := h.1 k hk
  dsimp only at h6
  rcases Int.lt_or_le (kv x).toInt (kv k).toInt with h4 | h4
  · exact absurd hR (h.2.2.2.2.2.1 x k hx hk (by dsimp only; omega) (by dsimp only; omega))
  · omega
theorem CE_eq (ht : S t) {κ : Int} (h : (kv t).toInt = κ) : CE S kv κ (some t) := ⟨(fun m hm => by cases hm; exact ⟨ht, by omega, fun k _ h3 => by omega⟩), fun h => by cases h⟩
theorem CE_nil {κ : Int} (h : ∀ k, ¬ S k) : CE S kv κ none := ⟨(fun m h => by cases h), fun _ k hk => absurd hk (h k)⟩
end CEs

set_option maxHeartbeats 4000000 in
theorem c_first (l : Launch) (Γ : GP) (G : GH) {a p : Nat} {vw : Option Nat} {S : Nat → Prop} {N K V : Nat → Nat} {kv : Nat → Int32} (hTM : TM G a p vw S N K V kv) : MetG l yJ9_getFirstEntry (ws_ yJ9_getFirstEntry cJ9_getFirstEntry 2 (some (.object "java/util/TreeMap$Entry"))) (RM 1 0 0) Γ G [.ref a] (fun v G1 => ∃ o, v = some (va_rf (o.map N)) ∧ CE S kv (-1) o ∧ G = G1) 0 0 := by
  refine gMet (own := RJ9) (by decide) rfl (Nat.le_of_ble_eq_true rfl) ?_
  intro pp ee ss mm below meth cc0 ls X hr hlk hin hnm hR hS hl
  have hl : lv_has ls 2 [(0, .ref a)] := hl
  obtain ⟨L, R, P, C, lo, hi, root, sz, mo, hT, hI, hM, hB, hK⟩ := hTM
  rcases root with _ | r
  · refine lv_aload_n X.hx X.hb dJ9_getFirstEntry_0 rfl (lv_at hl 0 rfl) ?_
    refine g_get X hR hM rfl in_J9 3 (by decide) q264 (fun _ h => h) rfl dJ9_getFirstEntry_1 ?_
    refine lv_astore_nN (lv' := [(1, .null), (0, .ref a)]) X.hx X.hb dJ9_getFirstEntry_4 rfl hl (by decide) rfl (fun ls hl => ?_)
    refine lv_aload_nN X.hx X.hb dJ9_getFirstEntry_5 rfl (lv_at hl 0 rfl) ?_
    refine lv_ifnullN (tgt := 24) X.hx X.hb dJ9_getFirstEntry_6 (by decide) ?_
    refine lv_aload_nN X.hx X.hb dJ9_getFirstEntry_24 rfl (lv_at hl 0 rfl) ?_
    exact g_aret (r := none) X hr (Or.inl ⟨_, rfl⟩) hlk hR hS (⟨none, rfl, CE_nil (hI.2.2.2.2.2.2.2.2.2 rfl), rfl⟩) (by (try dsimp only [RM]); omega) (by (try dsimp only [RM]); omega) dJ9_getFirstEntry_25
  · obtain ⟨hSr, -, hlr, hhr⟩ := hI.2.2.2.2.2.2.2.2.1 r rfl
    refine lv_aload_n X.hx X.hb dJ9_getFirstEntry_0 rfl (lv_at hl 0 rfl) ?_
    refine g_get X hR hM rfl in_J9 3 (by decide) q264 (fun _ h => h) rfl dJ9_getFirstEntry_1 ?_
    refine lv_astore_n (lv' := [(1, .ref (N r)), (0, .ref a)]) X.hx X.hb dJ9_getFirstEntry_4 rfl hl (by decide) rfl (fun ls hl => ?_)
    refine lv_aload_n X.hx X.hb dJ9_getFirstEntry_5 rfl (lv_at hl 0 rfl) ?_
    refine lv_ifnull X.hx X.hb dJ9_getFirstEntry_6 ?_
    have loop : ∀ (f : Nat) (t : Nat) (H : Heap) (locs : List Loc) (ls : Array Slot), S t → lo t = -1 → hi t - lo t < (f : Int) → Rep Γ G H → va_S (gA Γ) ss.heap H locs → lv_has ls 2 [(0, .ref a), (1, .ref (N t))] → W pp l ee (RM 1 0 0) ss mm (List.toArray [.ref a]) below meth cc0 H locs 0 0 (MQ below (Qg Γ (fun v G1 => ∃ o, v = some (va_rf (o.map N)) ∧ CE S kv (-1) o ∧ G = G1)) (List.toArray [.ref a]) ss 0 0 (gA Γ)) (F0 mm 9 ls []) := by
      intro f
      induction f with
      | zero =>
        intro t H locs ls ht h1 hf hR hS hl
        exfalso
        have := hI.1 t ht; omega
      | succ f ih =>
        intro t H locs ls ht h1 hf hR hS hl
        rcases hc : L t with _ | b
        · refine lv_aload_n X.hx X.hb dJ9_getFirstEntry_9 rfl (lv_at hl 1 rfl) ?_
          refine g_get (v := .null) X hR (hT.1 t ht) rfl in_J21 2 (by decide) q620 (fun _ h => h) (knv (N := N) (o := L t) (v := none) hc) dJ9_getFirstEntry_10 ?_
          refine lv_ifnullN (tgt := 24) X.hx X.hb dJ9_getFirstEntry_13 (by decide) ?_
          refine lv_aload_n X.hx X.hb dJ9_getFirstEntry_24 rfl (lv_at hl 1 rfl) ?_
          have hat := hI.1 t ht
          dsimp only at hat
          exact g_aretS X hr (Or.inl ⟨_, rfl⟩) hlk hR hS (⟨some t, rfl, CE_low hI ht hc (fun k hk _ => by have hak := hI.1 k hk; dsimp only at hak; omega) (by omega), rfl⟩) (by (try dsimp only [RM]); omega) (by (try dsimp only [RM]); omega) dJ9_getFirstEntry_25
        · refine lv_aload_n X.hx X.hb dJ9_getFirstEntry_9 rfl (lv_at hl 1 rfl) ?_
          refine g_get (v := .ref (N b)) X hR (hT.1 t ht) rfl in_J21 2 (by decide) q620 (fun _ h => h) (knv (N := N) (o := L t) (v := some b) hc) dJ9_getFirstEntry_10 ?_
          refine lv_ifnull X.hx X.hb dJ9_getFirstEntry_13 ?_
          refine lv_aload_n X.hx X.hb dJ9_getFirstEntry_16 rfl (lv_at hl 1 rfl) ?_
          refine g_get (v := .ref (N b)) X hR (hT.1 t ht) rfl in_J21 2 (by decide) q620 (fun _ h => h) (knv (N := N) (o := L t) (v := some b) hc) dJ9_getFirstEntry_17 ?_
          refine lv_astore_n (lv' := [(1, .ref (N b)), (0, .ref a)]) X.hx X.hb dJ9_getFirstEntry_20 rfl hl (by decide) rfl (fun ls hl => ?_)
          refine lv_goto (tgt := 9) X.hx X.hb dJ9_getFirstEntry_21 (by decide) ?_
          have hb := hI.2.2.1 t b ht hc
          have hat := hI.1 t ht
          dsimp only at hb hat
          exact ih b _ _ _ hb.1 (by omega) (by rw [hb.2.1, hb.2.2.1]; push_cast at hf; omega) hR hS (lv_sub hl [1, 0] rfl)
    exact loop (hi r - lo r + 1).toNat r _ _ _ hSr hlr (by omega) hR hS (lv_sub hl [1, 0] rfl)

set_option maxHeartbeats 4000000 in
theorem c_succ (l : Launch) (Γ : GP) (G : GH) {a p : Nat} {vw : Option Nat} {S : Nat → Prop} {N K V : Nat → Nat} {kv : Nat → Int32} (hTM : TM G a p vw S N K V kv) {x : Nat} (hx : S x) : MetG l yJ9_successor (ws_ yJ9_successor cJ9_successor 3 (some (.object "java/util/TreeMap$Entry"))) (RM 1 0 0) Γ G [.ref (N x)] (fun v G1 => ∃ o, v = some (va_rf (o.map N)) ∧ CE S kv ((kv x).toInt + 1) o ∧ G = G1) 0 0 := by
  refine gMet (own := RJ9) (by decide) rfl (Nat.le_of_ble_eq_true rfl) ?_
  intro pp ee ss mm below meth cc0 ls X hr hlk hin hnm hR hS hl
  have hl : lv_has ls 3 [(0, .ref (N x))] := hl
  obtain ⟨L, R, P, C, lo, hi, root, sz, mo, hT, hI, hM, hB, hK⟩ := hTM
  have hax := hI.1 x hx
  dsimp only at hax
  rcases hRx : R x with _ | r
  · refine lv_aload_n X.hx X.hb dJ9_successor_0 rfl (lv_at hl 0 rfl) ?_
    refine lv_ifnonnull (tgt := 6) X.hx X.hb dJ9_successor_1 (by decide) ?_
    refine lv_aload_n X.hx X.hb dJ9_successor_6 rfl (lv_at hl 0 rfl) ?_
    refine g_get (v := .null) X hR (hT.1 x hx) rfl in_J21 3 (by decide) q621 (fun _ h => h) (knv (N := N) (o := R x) (v := none) hRx) dJ9_successor_7 ?_
    refine lv_ifnullN (tgt := 35) X.hx X.hb dJ9_successor_10 (by decide) ?_
    refine lv_aload_n X.hx X.hb dJ9_successor_35 rfl (lv_at hl 0 rfl) ?_
    refine g_get (v := va_rf ((P x).map N)) X hR (hT.1 x hx) rfl in_J21 4 (by decide) q623 (fun _ h => h) rfl dJ9_successor_36 ?_
    refine g_astore_n (lv' := [(1, va_rf ((P x).map N)), (0, .ref (N x))]) X dJ9_successor_39 rfl hl (by decide) rfl (fun ls hl => ?_)
    refine lv_aload_n X.hx X.hb dJ9_successor_40 rfl (lv_at hl 1 rfl) ?_
    refine lv_astore_n (lv' := [(2, .ref (N x)), (1, va_rf ((P x).map N)), (0, .ref (N x))]) X.hx X.hb dJ9_successor_41 rfl hl (by decide) (by simp [cat_rf]) (fun ls hl => ?_)
    have loop : ∀ (f : Nat) (c : Nat) (H : Heap) (locs : List Loc) (ls : Array Slot), S c → hi c = hi x → (2147483648 : Int) - (hi c - lo c) + 1 < (f : Int) → Rep Γ G H → va_S (gA Γ) ss.heap H locs → lv_has ls 3 [(1, va_rf ((P c).map N)), (2, .ref (N c))] → W pp l ee (RM 1 0 0) ss mm (List.toArray [.ref (N x)]) below meth cc0 H locs 0 0 (MQ below (Qg Γ (fun v G1 => ∃ o, v = some (va_rf (o.map N)) ∧ CE S kv ((kv x).toInt + 1) o ∧ G = G1)) (List.toArray [.ref (N x)]) ss 0 0 (gA Γ)) (F0 mm 42 ls []) := by
      intro f
      induction f with
      | zero =>
        intro c H locs ls hc hec hf hR hS hl
        exfalso
        have := hI.1 c hc; omega
      | succ f ih =>
        intro c H locs ls hc hec hf hR hS hl
        rcases hPc : P c with _ | w
        · rw [hPc] at hl
          refine lv_aload_nN X.hx X.hb dJ9_successor_42 rfl (lv_at hl 0 rfl) ?_
          refine lv_ifnullN (tgt := 64) X.hx X.hb dJ9_successor_43 (by decide) ?_
          refine lv_aload_nN X.hx X.hb dJ9_successor_64 rfl (lv_at hl 0 rfl) ?_
          exact g_aret (r := none) X hr (Or.inl ⟨_, rfl⟩) hlk hR hS (⟨none, rfl, CE_upN hI hx hRx hc hec hPc (by omega), rfl⟩) (by (try dsimp only [RM]); omega) (by (try dsimp only [RM]); omega) dJ9_successor_65
        · rw [hPc] at hl
          obtain ⟨hw, -, hwm, -⟩ := TI_up hI hc hPc
          by_cases hRw : R w = some c
          · refine lv_aload_n X.hx X.hb dJ9_successor_42 rfl (lv_at hl 0 rfl) ?_
            refine lv_ifnull X.hx X.hb dJ9_successor_43 ?_
            refine lv_aload_n X.hx X.hb dJ9_successor_46 rfl (lv_at hl 1 rfl) ?_
            refine lv_aload_n X.hx X.hb dJ9_successor_47 rfl (lv_at hl 0 rfl) ?_
            refine g_get (v := .ref (N c)) X hR (hT.1 w hw) rfl in_J21 3 (by decide) q621 (fun _ h => h) (knv (N := N) (o := R w) (v := some c) hRw) dJ9_successor_48 ?_
            refine lv_acmp_ne (rx := some (N c)) (ry := some (N c)) (tgt := 64) X.hx X.hb dJ9_successor_51 (by decide) (fun c51 => ?_) (fun c51 => ?_)
            · exact absurd rfl c51
            · refine lv_aload_n X.hx X.hb dJ9_successor_54 rfl (lv_at hl 0 rfl) ?_
              refine lv_astore_n (lv' := [(2, .ref (N w)), (1, .ref (N w))]) X.hx X.hb dJ9_successor_55 rfl hl (by decide) rfl (fun ls hl => ?_)
              refine lv_aload_n X.hx X.hb dJ9_successor_56 rfl (lv_at hl 1 rfl) ?_
              refine g_get (v := va_rf ((P w).map N)) X hR (hT.1 w hw) rfl in_J21 4 (by decide) q623 (fun _ h => h) rfl dJ9_successor_57 ?_
              refine g_astore_n (lv' := [(1, va_rf ((P w).map N)), (2, .ref (N w))]) X dJ9_successor_60 rfl hl (by decide) rfl (fun ls hl => ?_)
              refine lv_goto (tgt := 42) X.hx X.hb dJ9_successor_61 (by decide) ?_
              have hb := hI.2.2.2.1 w c hw hRw
              have haw := hI.1 w hw
              dsimp only at hb haw
              exact ih w _ _ _ hw (by omega) (by push_cast at hf; omega) hR hS (lv_sub hl [0, 1] rfl)
          · refine lv_aload_n X.hx X.hb dJ9_successor_42 rfl (lv_at hl 0 rfl) ?_
            refine lv_ifnull X.hx X.hb dJ9_successor_43 ?_
            refine lv_aload_n X.hx X.hb dJ9_successor_46 rfl (lv_at hl 1 rfl) ?_
            refine lv_aload_n X.hx X.hb dJ9_successor_47 rfl (lv_at hl 0 rfl) ?_
            refine g_get (v := va_rf ((R w).map N)) X hR (hT.1 w hw) rfl in_J21 3 (by decide) q621 (fun _ h => h) rfl dJ9_successor_48 ?_
            refine lv_acmp_ne (rx := some (N c)) (ry := (R w).map N) (tgt := 64) X.hx X.hb dJ9_successor_51 (by decide) (fun c51 => ?_) (fun c51 => ?_)
            · refine lv_aload_n X.hx X.hb dJ9_successor_64 rfl (lv_at hl 0 rfl) ?_
              exact g_aretS X hr (Or.inl ⟨_, rfl⟩) hlk hR hS (⟨some w, rfl, CE_upS hI hx hRx hc hec hPc hRw (by omega) (by omega), rfl⟩) (by (try dsimp only [RM]); omega) (by (try dsimp only [RM]); omega) dJ9_successor_65
            · exact absurd (hT.inj (fun y hy => (hI.2.2.2.1 w y hw hy).1) hc c51.symm) hRw
    exact loop ((2147483648 : Int) - (hi x - lo x) + 2).toNat x _ _ _ hx rfl (by omega) hR hS (lv_sub hl [1, 0] rfl)
  · obtain ⟨hSr, hlr, hhr, -⟩ := hI.2.2.2.1 x r hx hRx
    dsimp only at hlr
    refine lv_aload_n X.hx X.hb dJ9_successor_0 rfl (lv_at hl 0 rfl) ?_
    refine lv_ifnonnull (tgt := 6) X.hx X.hb dJ9_successor_1 (by decide) ?_
    refine lv_aload_n X.hx X.hb dJ9_successor_6 rfl (lv_at hl 0 rfl) ?_
    refine g_get (v := .ref (N r)) X hR (hT.1 x hx) rfl in_J21 3 (by decide) q621 (fun _ h => h) (knv (N := N) (o := R x) (v := some r) hRx) dJ9_successor_7 ?_
    refine lv_ifnull X.hx X.hb dJ9_successor_10 ?_
    refine lv_aload_n X.hx X.hb dJ9_successor_13 rfl (lv_at hl 0 rfl) ?_
    refine g_get (v := .ref (N r)) X hR (hT.1 x hx) rfl in_J21 3 (by decide) q621 (fun _ h => h) (knv (N := N) (o := R x) (v := some r) hRx) dJ9_successor_14 ?_
    refine lv_astore_n (lv' := [(1, .ref (N r)), (0, .ref (N x))]) X.hx X.hb dJ9_successor_17 rfl hl (by decide) rfl (fun ls hl => ?_)
    have loop : ∀ (f : Nat) (t : Nat) (H : Heap) (locs : List Loc) (ls : Array Slot), S t → lo t = (kv x).toInt → hi t - lo t < (f : Int) → Rep Γ G H → va_S (gA Γ) ss.heap H locs → lv_has ls 3 [(1, .ref (N t))] → W pp l ee (RM 1 0 0) ss mm (List.toArray [.ref (N x)]) below meth cc0 H locs 0 0 (MQ below (Qg Γ (fun v G1 => ∃ o, v = some (va_rf (o.map N)) ∧ CE S kv ((kv x).toInt + 1) o ∧ G = G1)) (List.toArray [.ref (N x)]) ss 0 0 (gA Γ)) (F0 mm 18 ls []) := by
      intro f
      induction f with
      | zero =>
        intro t H locs ls ht h1 hf hR hS hl
        exfalso
        have := hI.1 t ht; omega
      | succ f ih =>
        intro t H locs ls ht h1 hf hR hS hl
        rcases hc : L t with _ | b
        · have hat := hI.1 t ht
          dsimp only at hat
          refine lv_aload_n X.hx X.hb dJ9_successor_18 rfl (lv_at hl 0 rfl) ?_
          refine g_get (v := .null) X hR (hT.1 t ht) rfl in_J21 2 (by decide) q620 (fun _ h => h) (knv (N := N) (o := L t) (v := none) hc) dJ9_successor_19 ?_
          refine lv_ifnullN (tgt := 33) X.hx X.hb dJ9_successor_22 (by decide) ?_
          refine lv_aload_n X.hx X.hb dJ9_successor_33 rfl (lv_at hl 0 rfl) ?_
          exact g_aretS X hr (Or.inl ⟨_, rfl⟩) hlk hR hS (⟨some t, rfl, CE_low hI ht hc (fun k _ h => by omega) (by omega), rfl⟩) (by (try dsimp only [RM]); omega) (by (try dsimp only [RM]); omega) dJ9_successor_34
        · have hat := hI.1 t ht
          dsimp only at hat
          refine lv_aload_n X.hx X.hb dJ9_successor_18 rfl (lv_at hl 0 rfl) ?_
          refine g_get (v := .ref (N b)) X hR (hT.1 t ht) rfl in_J21 2 (by decide) q620 (fun _ h => h) (knv (N := N) (o := L t) (v := some b) hc) dJ9_successor_19 ?_
          refine lv_ifnull X.hx X.hb dJ9_successor_22 ?_
          refine lv_aload_n X.hx X.hb dJ9_successor_25 rfl (lv_at hl 0 rfl) ?_
          refine g_get (v := .ref (N b)) X hR (hT.1 t ht) rfl in_J21 2 (by decide) q620 (fun _ h => h) (knv (N := N) (o := L t) (v := some b) hc) dJ9_successor_26 ?_
          refine lv_astore_n (lv' := [(1, .ref (N b))]) X.hx X.hb dJ9_successor_29 rfl hl (by decide) rfl (fun ls hl => ?_)
          refine lv_goto (tgt := 18) X.hx X.hb dJ9_successor_30 (by decide) ?_
          have hb := hI.2.2.1 t b ht hc
          dsimp only at hb
          exact ih b _ _ _ hb.1 (by omega) (by rw [hb.2.1, hb.2.2.1]; push_cast at hf; omega) hR hS (lv_sub hl [0] rfl)
    exact loop (hi r - lo r + 1).toNat r _ _ _ hSr hlr (by omega) hR hS (lv_sub hl [0] rfl)

set_option maxHeartbeats 4000000 in
theorem c_ceil (l : Launch) (Γ : GP) (G : GH) {a p : Nat} {vw : Option Nat} {S : Nat → Prop} {N K V : Nat → Nat} {kv : Nat → Int32} (hTM : TM G a p vw S N K V kv) {ka : Nat} {x : Int32} (hka0 : IBk G ka x) (h0 : 0 ≤ x.toInt) : MetG l yJ9_getCeilingEntry (ws_ yJ9_getCeilingEntry cJ9_getCeilingEntry 6 (some (.object "java/util/TreeMap$Entry"))) (RM 5 0 0) Γ G [.ref a, .ref ka] (fun v G1 => ∃ o, v = some (va_rf (o.map N)) ∧ CE S kv (x.toInt) o ∧ G = G1) 0 0 := by
  refine gMet (own := RJ9) (by decide) rfl (Nat.le_of_ble_eq_true rfl) ?_
  intro pp ee ss mm below meth cc0 ls X hr hlk hin hnm hR hS hl
  have hl : lv_has ls 6 [(0, .ref a), (1, .ref ka)] := hl
  obtain ⟨L, R, P, C, lo, hi, root, sz, mo, hT, hI, hM, hB, hK⟩ := hTM
  obtain ⟨tk, hka, -, -⟩ := hka0
  have hrng := i32_rng x
  rcases root with _ | r
  · refine lv_aload_n X.hx X.hb dJ9_getCeilingEntry_0 rfl (lv_at hl 0 rfl) ?_
    refine g_get X hR hM rfl in_J9 3 (by decide) q264 (fun _ h => h) rfl dJ9_getCeilingEntry_1 ?_
    refine lv_astore_nN (lv' := [(2, .null), (0, .ref a), (1, .ref ka)]) X.hx X.hb dJ9_getCeilingEntry_4 rfl hl (by decide) rfl (fun ls hl => ?_)
    refine lv_aload_nN X.hx X.hb dJ9_getCeilingEntry_5 rfl (lv_at hl 0 rfl) ?_
    refine lv_ifnullN (tgt := 105) X.hx X.hb dJ9_getCeilingEntry_6 (by decide) ?_
    refine lv_null X.hx X.hb dJ9_getCeilingEntry_105 ?_
    exact g_aret (r := none) X hr (Or.inl ⟨_, rfl⟩) hlk hR hS (⟨none, rfl, CE_nil (hI.2.2.2.2.2.2.2.2.2 rfl), rfl⟩) (by (try dsimp only [RM]); omega) (by (try dsimp only [RM]); omega) dJ9_getCeilingEntry_106
  · obtain ⟨hSr, -, hlr, hhr⟩ := hI.2.2.2.2.2.2.2.2.1 r rfl
    refine lv_aload_n X.hx X.hb dJ9_getCeilingEntry_0 rfl (lv_at hl 0 rfl) ?_
    refine g_get X hR hM rfl in_J9 3 (by decide) q264 (fun _ h => h) rfl dJ9_getCeilingEntry_1 ?_
    refine lv_astore_n (lv' := [(2, .ref (N r)), (0, .ref a), (1, .ref ka)]) X.hx X.hb dJ9_getCeilingEntry_4 rfl hl (by decide) rfl (fun ls hl => ?_)
    have loop : ∀ (f : Nat) (t : Nat) (H : Heap) (locs : List Loc) (ls : Array Slot), S t → lo t < x.toInt → x.toInt < hi t → hi t - lo t < (f : Int) → Rep Γ G H → va_S (gA Γ) ss.heap H locs → lv_has ls 6 [(0, .ref a), (1, .ref ka), (2, .ref (N t))] → W pp l ee (RM 5 0 0) ss mm (List.toArray [.ref a, .ref ka]) below meth cc0 H locs 0 0 (MQ below (Qg Γ (fun v G1 => ∃ o, v = some (va_rf (o.map N)) ∧ CE S kv (x.toInt) o ∧ G = G1)) (List.toArray [.ref a, .ref ka]) ss 0 0 (gA Γ)) (F0 mm 5 ls []) := by
      intro f
      induction f with
      | zero =>
        intro t H locs ls ht h1 h2 hf hR hS hl
        exfalso
        omega
      | succ f ih =>
        intro t H locs ls ht h1 h2 hf hR hS hl
        obtain ⟨tb, hkb, hb4, hb11⟩ := hK t ht
        have hat := hI.1 t ht
        dsimp only at hat
        refine lv_aload_n X.hx X.hb dJ9_getCeilingEntry_5 rfl (lv_at hl 2 rfl) ?_
        refine lv_ifnull X.hx X.hb dJ9_getCeilingEntry_6 ?_
        refine lv_aload_n X.hx X.hb dJ9_getCeilingEntry_9 rfl (lv_at hl 0 rfl) ?_
        refine lv_aload_n X.hx X.hb dJ9_getCeilingEntry_10 rfl (lv_at hl 1 rfl) ?_
        refine lv_aload_n X.hx X.hb dJ9_getCeilingEntry_11 rfl (lv_at hl 2 rfl) ?_
        refine g_get (v := .ref (K t)) X hR (hT.1 t ht) rfl in_J21 0 (by decide) q616 (fun _ h => h) rfl dJ9_getCeilingEntry_12 ?_
        refine gcV X hl.1 hR hS 2 [.ref ka, .ref (K t)] [] (c_compare (rt := some (N r)) l Γ G hM hka hkb) hM rfl q564 q565 q566 q48 q567 rfl rfl ⟨rfl, by decide +kernel, by decide +kernel, by decide +kernel⟩ ⟨by (try dsimp only [RM]); omega, by (try dsimp only [RM]); omega⟩ rfl rfl (Nat.le_of_ble_eq_true rfl) dJ9_getCeilingEntry_15 ⟨by (try dsimp only [RM]); omega, by (try dsimp only [RM]); omega⟩ (fun v1990 G1991 H locs hq1987 hR1988 hS1989 => ?_)
        obtain ⟨rfl, rfl⟩ := hq1987
        refine lv_istore_n (lv' := [(3, .int (cmpI x (kv t))), (0, .ref a), (1, .ref ka), (2, .ref (N t))]) X.hx X.hb dJ9_getCeilingEntry_18 rfl hl (by decide) rfl (fun ls hl => ?_)
        refine lv_iload_n X.hx X.hb dJ9_getCeilingEntry_19 rfl (lv_at hl 0 rfl) ?_
        refine lv_if_ge (tgt := 40) X.hx X.hb dJ9_getCeilingEntry_20 (by decide) (fun c20 => ?_) (fun c20 => ?_)
        · refine lv_iload_n X.hx X.hb dJ9_getCeilingEntry_40 rfl (lv_at hl 0 rfl) ?_
          refine lv_if_le (tgt := 100) X.hx X.hb dJ9_getCeilingEntry_41 (by decide) (fun c41 => ?_) (fun c41 => ?_)
          · refine lv_aload_n X.hx X.hb dJ9_getCeilingEntry_100 rfl (lv_at hl 3 rfl) ?_
            exact g_aretS X hr (Or.inl ⟨_, rfl⟩) hlk hR1988 hS1989 (⟨some t, rfl, CE_eq ht (by have a1 := mt (fun h => cmpI_lt.mpr (Int32.lt_iff_toInt_lt.mpr h)) (Int32.not_lt.mpr c20); have a2 := mt (fun h => cmpI_gt.mpr (Int32.lt_iff_toInt_lt.mpr h)) (Int32.not_lt.mpr c41); omega), rfl⟩) (by (try dsimp only [RM]); omega) (by (try dsimp only [RM]); omega) dJ9_getCeilingEntry_101
          · have hlt : (kv t).toInt < x.toInt := Int32.lt_iff_toInt_lt.mp (cmpI_gt.mp (Int32.not_le.mp c41))
            rcases hcR : R t with _ | b
            · refine lv_aload_n X.hx X.hb dJ9_getCeilingEntry_44 rfl (lv_at hl 3 rfl) ?_
              refine g_get (v := .null) X hR1988 (hT.1 t ht) rfl in_J21 3 (by decide) q621 (fun _ h => h) (knv (N := N) (o := R t) (v := none) hcR) dJ9_getCeilingEntry_45 ?_
              refine lv_ifnullN (tgt := 59) X.hx X.hb dJ9_getCeilingEntry_48 (by decide) ?_
              refine lv_aload_n X.hx X.hb dJ9_getCeilingEntry_59 rfl (lv_at hl 3 rfl) ?_
              refine g_get (v := va_rf ((P t).map N)) X hR1988 (hT.1 t ht) rfl in_J21 4 (by decide) q623 (fun _ h => h) rfl dJ9_getCeilingEntry_60 ?_
              refine g_astore (lv' := [(4, va_rf ((P t).map N)), (3, .int (cmpI x (kv t))), (0, .ref a), (1, .ref ka), (2, .ref (N t))]) X dJ9_getCeilingEntry_63 hl (by decide) rfl (fun ls hl => ?_)
              refine lv_aload_n X.hx X.hb dJ9_getCeilingEntry_65 rfl (lv_at hl 4 rfl) ?_
              refine lv_astore (lv' := [(5, .ref (N t)), (4, va_rf ((P t).map N)), (3, .int (cmpI x (kv t))), (0, .ref a), (1, .ref ka), (2, .ref (N t))]) X.hx X.hb dJ9_getCeilingEntry_66 hl (by decide) (by simp [cat_rf]) (fun ls hl => ?_)
              have loop : ∀ (f : Nat) (c : Nat) (H : Heap) (locs : List Loc) (ls : Array Slot), S c → hi c = hi t → (2147483648 : Int) - (hi c - lo c) + 1 < (f : Int) → Rep Γ G H → va_S (gA Γ) ss.heap H locs → lv_has ls 6 [(4, va_rf ((P c).map N)), (5, .ref (N c))] → W pp l ee (RM 5 0 0) ss mm (List.toArray [.ref a, .ref ka]) below meth cc0 H locs 0 0 (MQ below (Qg Γ (fun v G1 => ∃ o, v = some (va_rf (o.map N)) ∧ CE S kv (x.toInt) o ∧ G = G1)) (List.toArray [.ref a, .ref ka]) ss 0 0 (gA Γ)) (F0 mm 68 ls []) := by
                intro f
                induction f with
                | zero =>
                  intro c H locs ls hc hec hf hR hS hl
                  exfalso
                  have := hI.1 c hc; omega
                | succ f ih =>
                  intro c H locs ls hc hec hf hR hS hl
                  rcases hPc : P c with _ | w
                  · rw [hPc] at hl
                    refine lv_aloadN X.hx X.hb dJ9_getCeilingEntry_68 (lv_at hl 0 rfl) ?_
                    refine lv_ifnullN (tgt := 97) X.hx X.hb dJ9_getCeilingEntry_70 (by decide) ?_
                    refine lv_aloadN X.hx X.hb dJ9_getCeilingEntry_97 (lv_at hl 0 rfl) ?_
                    exact g_aret (r := none) X hr (Or.inl ⟨_, rfl⟩) hlk hR hS (⟨none, rfl, CE_upN hI ht hcR hc hec hPc (by omega), rfl⟩) (by (try dsimp only [RM]); omega) (by (try dsimp only [RM]); omega) dJ9_getCeilingEntry_99
                  · rw [hPc] at hl
                    obtain ⟨hw, -, hwm, -⟩ := TI_up hI hc hPc
                    by_cases hRw : R w = some c
                    · refine lv_aload X.hx X.hb dJ9_getCeilingEntry_68 (lv_at hl 0 rfl) ?_
                      refine lv_ifnull X.hx X.hb dJ9_getCeilingEntry_70 ?_
                      refine lv_aload X.hx X.hb dJ9_getCeilingEntry_73 (lv_at hl 1 rfl) ?_
                      refine lv_aload X.hx X.hb dJ9_getCeilingEntry_75 (lv_at hl 0 rfl) ?_
                      refine g_get (v := .ref (N c)) X hR (hT.1 w hw) rfl in_J21 3 (by decide) q621 (fun _ h => h) (knv (N := N) (o := R w) (v := some c) hRw) dJ9_getCeilingEntry_77 ?_
                      refine lv_acmp_ne (rx := some (N c)) (ry := some (N c)) (tgt := 97) X.hx X.hb dJ9_getCeilingEntry_80 (by decide) (fun c80 => ?_) (fun c80 => ?_)
                      · exact absurd rfl c80
                      · refine lv_aload X.hx X.hb dJ9_getCeilingEntry_83 (lv_at hl 0 rfl) ?_
                        refine lv_astore (lv' := [(5, .ref (N w)), (4, .ref (N w))]) X.hx X.hb dJ9_getCeilingEntry_85 hl (by decide) rfl (fun ls hl => ?_)
                        refine lv_aload X.hx X.hb dJ9_getCeilingEntry_87 (lv_at hl 1 rfl) ?_
                        refine g_get (v := va_rf ((P w).map N)) X hR (hT.1 w hw) rfl in_J21 4 (by decide) q623 (fun _ h => h) rfl dJ9_getCeilingEntry_89 ?_
                        refine g_astore (lv' := [(4, va_rf ((P w).map N)), (5, .ref (N w))]) X dJ9_getCeilingEntry_92 hl (by decide) rfl (fun ls hl => ?_)
                        refine lv_goto (tgt := 68) X.hx X.hb dJ9_getCeilingEntry_94 (by decide) ?_
                        have hb := hI.2.2.2.1 w c hw hRw
                        have haw := hI.1 w hw
                        dsimp only at hb haw
                        exact ih w _ _ _ hw (by omega) (by push_cast at hf; omega) hR hS (lv_sub hl [0, 1] rfl)
                    · refine lv_aload X.hx X.hb dJ9_getCeilingEntry_68 (lv_at hl 0 rfl) ?_
                      refine lv_ifnull X.hx X.hb dJ9_getCeilingEntry_70 ?_
                      refine lv_aload X.hx X.hb dJ9_getCeilingEntry_73 (lv_at hl 1 rfl) ?_
                      refine lv_aload X.hx X.hb dJ9_getCeilingEntry_75 (lv_at hl 0 rfl) ?_
                      refine g_get (v := va_rf ((R w).map N)) X hR (hT.1 w hw) rfl in_J21 3 (by decide) q621 (fun _ h => h) rfl dJ9_getCeilingEntry_77 ?_
                      refine lv_acmp_ne (rx := some (N c)) (ry := (R w).map N) (tgt := 97) X.hx X.hb dJ9_getCeilingEntry_80 (by decide) (fun c80 => ?_) (fun c80 => ?_)
                      · refine lv_aload X.hx X.hb dJ9_getCeilingEntry_97 (lv_at hl 0 rfl) ?_
                        exact g_aretS X hr (Or.inl ⟨_, rfl⟩) hlk hR hS (⟨some w, rfl, CE_upS hI ht hcR hc hec hPc hRw (by omega) (by omega), rfl⟩) (by (try dsimp only [RM]); omega) (by (try dsimp only [RM]); omega) dJ9_getCeilingEntry_99
                      · exact absurd (hT.inj (fun y hy => (hI.2.2.2.1 w y hw hy).1) hc c80.symm) hRw
              exact loop ((2147483648 : Int) - (hi t - lo t) + 2).toNat t _ _ _ ht rfl (by omega) hR1988 hS1989 (lv_sub hl [1, 0] rfl)
            · refine lv_aload_n X.hx X.hb dJ9_getCeilingEntry_44 rfl (lv_at hl 3 rfl) ?_
              refine g_get (v := .ref (N b)) X hR1988 (hT.1 t ht) rfl in_J21 3 (by decide) q621 (fun _ h => h) (knv (N := N) (o := R t) (v := some b) hcR) dJ9_getCeilingEntry_45 ?_
              refine lv_ifnull X.hx X.hb dJ9_getCeilingEntry_48 ?_
              refine lv_aload_n X.hx X.hb dJ9_getCeilingEntry_51 rfl (lv_at hl 3 rfl) ?_
              refine g_get (v := .ref (N b)) X hR1988 (hT.1 t ht) rfl in_J21 3 (by decide) q621 (fun _ h => h) (knv (N := N) (o := R t) (v := some b) hcR) dJ9_getCeilingEntry_52 ?_
              refine lv_astore_n (lv' := [(2, .ref (N b)), (3, .int (cmpI x (kv t))), (0, .ref a), (1, .ref ka)]) X.hx X.hb dJ9_getCeilingEntry_55 rfl hl (by decide) rfl (fun ls hl => ?_)
              refine lv_goto (tgt := 102) X.hx X.hb dJ9_getCeilingEntry_56 (by decide) ?_
              refine lv_goto (tgt := 5) X.hx X.hb dJ9_getCeilingEntry_102 (by decide) ?_
              have hb := hI.2.2.2.1 t b ht hcR
              dsimp only at hb
              exact ih b _ _ _ hb.1 (by omega) (by omega) (by rw [hb.2.1, hb.2.2.1]; push_cast at hf; omega) hR1988 hS1989 (lv_sub hl [2, 3, 0] rfl)
        · have hlt : x.toInt < (kv t).toInt := Int32.lt_iff_toInt_lt.mp (cmpI_lt.mp (Int32.not_le.mp c20))
          rcases hcR : L t with _ | b
          · refine lv_aload_n X.hx X.hb dJ9_getCeilingEntry_23 rfl (lv_at hl 3 rfl) ?_
            refine g_get (v := .null) X hR1988 (hT.1 t ht) rfl in_J21 2 (by decide) q620 (fun _ h => h) (knv (N := N) (o := L t) (v := none) hcR) dJ9_getCeilingEntry_24 ?_
            refine lv_ifnullN (tgt := 38) X.hx X.hb dJ9_getCeilingEntry_27 (by decide) ?_
            refine lv_aload_n X.hx X.hb dJ9_getCeilingEntry_38 rfl (lv_at hl 3 rfl) ?_
            exact g_aretS X hr (Or.inl ⟨_, rfl⟩) hlk hR1988 hS1989 (⟨some t, rfl, CE_low hI ht hcR (fun k _ h => by omega) (by omega), rfl⟩) (by (try dsimp only [RM]); omega) (by (try dsimp only [RM]); omega) dJ9_getCeilingEntry_39
          · refine lv_aload_n X.hx X.hb dJ9_getCeilingEntry_23 rfl (lv_at hl 3 rfl) ?_
            refine g_get (v := .ref (N b)) X hR1988 (hT.1 t ht) rfl in_J21 2 (by decide) q620 (fun _ h => h) (knv (N := N) (o := L t) (v := some b) hcR) dJ9_getCeilingEntry_24 ?_
            refine lv_ifnull X.hx X.hb dJ9_getCeilingEntry_27 ?_
            refine lv_aload_n X.hx X.hb dJ9_getCeilingEntry_30 rfl (lv_at hl 3 rfl) ?_
            refine g_get (v := .ref (N b)) X hR1988 (hT.1 t ht) rfl in_J21 2 (by decide) q620 (fun _ h => h) (knv (N := N) (o := L t) (v := some b) hcR) dJ9_getCeilingEntry_31 ?_
            refine lv_astore_n (lv' := [(2, .ref (N b)), (3, .int (cmpI x (kv t))), (0, .ref a), (1, .ref ka)]) X.hx X.hb dJ9_getCeilingEntry_34 rfl hl (by decide) rfl (fun ls hl => ?_)
            refine lv_goto (tgt := 102) X.hx X.hb dJ9_getCeilingEntry_35 (by decide) ?_
            refine lv_goto (tgt := 5) X.hx X.hb dJ9_getCeilingEntry_102 (by decide) ?_
            have hb := hI.2.2.1 t b ht hcR
            dsimp only at hb
            exact ih b _ _ _ hb.1 (by omega) (by omega) (by rw [hb.2.1, hb.2.2.1]; push_cast at hf; omega) hR1988 hS1989 (lv_sub hl [2, 3, 0] rfl)
    exact loop (hi r - lo r + 1).toNat r _ _ _ hSr (by omega) (by omega) (by omega) hR hS (lv_sub hl [1, 2, 0] rfl)
