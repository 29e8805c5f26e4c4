set_option maxRecDepth 100000
/-! the model: it goes through the days -/
def bI (σ : MS) (f d : Int32) (n : Nat) : Int32 := match Bst σ f d n with | none => -1 | some b => nI b
theorem bI_y {σ : MS} {f d : Int32} {n : Nat} (h1 : σ.2 2 n = f) (h2 : σ.2 4 n ≤ d) (h3 : Bf σ f d n ≤ σ.2 4 n) : nI n = bI σ f d (n + 1) := by unfold bI; rw [Bst_y h1 h2 h3]
theorem bI_n {σ : MS} {f d : Int32} {n : Nat} (h : ¬ (σ.2 2 n = f ∧ σ.2 4 n ≤ d ∧ Bf σ f d n ≤ σ.2 4 n)) : bI σ f d n = bI σ f d (n + 1) := by unfold bI; rw [Bst_n h]
theorem nI_m3 {d : Nat} (h : d ≤ 400) : 3 * nI d = nI (3 * d) := by
  have e1 : (nI d).toInt = d := nI_toInt (by omega)
  have e3 : (3 : Int32).toInt = 3 := rfl
  apply Int32.toInt_inj.mp
  rw [Int32.toInt_mul, e1, e3, nI_toInt (by omega), Int.bmod_eq_of_le (by omega) (by omega)]
  omega
theorem nI_s3 {d : Nat} (h : d ≤ 400) : nI (3 * (d + 1)) - 3 = nI (3 * d) := by
  have e1 : (nI (3 * (d + 1))).toInt = ((3 * (d + 1) : Nat) : Int) := nI_toInt (by omega)
  have e3 : (3 : Int32).toInt = 3 := rfl
  apply Int32.toInt_inj.mp
  rw [Int32.toInt_sub, e1, e3, nI_toInt (by omega), Int.bmod_eq_of_le (by omega) (by omega)]
  omega
def VAL (σ : MS) (i : Nat) (kn : Int32) (d : Nat) (fv w : Nat → Int32) : Prop := (∀ e, e < d → ∀ j, j < 3 → fv (3 * e + j) = (Fk σ i kn (100 * (e + 1))).1 j) ∧ ∀ j, j < 3 → fv (3 * d + j) = w j
theorem VAL_upd {σ : MS} {i d q : Nat} {kn val : Int32} {fv w : Nat → Int32} (h : VAL σ i kn d fv w) (hq : q < 3) : VAL σ i kn d (va_up fv (3 * d + q) val) (va_up w q val) := by
  refine ⟨fun e he j hj => ?_, fun j hj => ?_⟩
  · rw [va_up_ne _ _ (by omega)]; exact h.1 e he j hj
  · by_cases e : j = q
    · subst e; rw [va_up_self, va_up_self]
    · rw [va_up_ne _ _ (by omega), va_up_ne _ _ e]; exact h.2 j hj
theorem va_up_id {f : Nat → Int32} {p : Nat} : va_up f p (f p) = f := by
  funext j
  by_cases e : j = p
  · subst e; rw [va_up_self]
  · rw [va_up_ne _ _ e]
def VA0 (σ : MS) (i : Nat) (kn : Int32) (d : Nat) (fv : Nat → Int32) : Prop := ∀ e, e < d → ∀ j, j < 3 → fv (3 * e + j) = (Fk σ i kn (100 * (e + 1))).1 j
def DN (σ : MS) (i : Nat) (kn : Int32) (d : Nat) (fc fr fs : Nat → Int32) : Prop := (∀ e, e < d → fc e = (Fk σ i kn (100 * (e + 1))).2 ∧ fr e = rtA σ i kn e) ∧ ∀ e, e ≤ d → fs e = SUM (rtA σ i kn) e
theorem DN_step {σ : MS} {i d : Nat} {kn : Int32} {fc fr fs : Nat → Int32} (h : DN σ i kn d fc fr fs) : DN σ i kn (d + 1) (va_up fc d (Fk σ i kn (100 * (d + 1))).2) (va_up fr d (rtA σ i kn d)) (va_up fs (d + 1) (SUM (rtA σ i kn) (d + 1))) := by
  refine ⟨fun e he => ?_, fun e he => ?_⟩
  · by_cases e1 : e = d
    · subst e1; rw [va_up_self, va_up_self]; exact ⟨rfl, rfl⟩
    · rw [va_up_ne _ _ e1, va_up_ne _ _ e1]; exact h.1 e (by omega)
  · by_cases e1 : e = d + 1
    · subst e1; rw [va_up_self]
    · rw [va_up_ne _ _ e1]; exact h.2 e (by omega)
def W32 (Γ : GP) (G G1 : GH) (B : Nat → Nat) (fv fc fr fs : Nat → Int32) : Prop := gK (fun t => t.1 = 32) G G1 ∧ G1 (B 12) = some ((32, 0), .inl (Γ.2 1, 1095, .inl fv)) ∧ G1 (B 13) = some ((32, 1), .inl (Γ.2 2, 365, .inl fc)) ∧ G1 (B 14) = some ((32, 2), .inl (Γ.2 1, 365, .inl fr)) ∧ G1 (B 15) = some ((32, 3), .inl (Γ.2 1, 366, .inl fs))
theorem Fk_at {σ : MS} {i d k : Nat} {kn : Int32} (hk : k < 100) : Fk σ i kn (100 * d + k + 1) = if Sp σ i k ∧ (σ.2 8 k).toInt = (d : Int) ∧ knw σ k kn then apk (σ.2 6 k) (σ.2 7 k) (σ.2 9 k) (Fk σ i kn (100 * d + k)) else Fk σ i kn (100 * d + k) := by
  rw [Fk_succ, show (100 * d + k) % 100 = k by omega, show (100 * d + k) / 100 = d by omega]
theorem Fk_end {σ : MS} (hW : WF σ) {i d : Nat} {kn : Int32} : ∀ n, σ.1 2 + n ≤ 100 → Fk σ i kn (100 * d + (σ.1 2 + n)) = Fk σ i kn (100 * d + σ.1 2) := by
  intro n
  induction n with
  | zero => intro _; rfl
  | succ n ih =>
    intro h
    rw [← ih (by omega), show 100 * d + (σ.1 2 + (n + 1)) = 100 * d + (σ.1 2 + n) + 1 by omega, Fk_at (by omega), if_neg (fun h9 => by have := h9.1.1; omega)]
theorem Fk_on {σ : MS} {i : Nat} {kn : Int32} : ∀ κ, (Fk σ i kn κ).2 = 0 ∨ (Fk σ i kn κ).2 = 1 := by
  intro κ
  induction κ with
  | zero => exact Or.inr rfl
  | succ κ ih =>
    rw [Fk_succ]
    split
    · unfold apk
      split
      · exact ih
      · split
        · exact ih
        · split
          · exact Or.inl rfl
          · exact Or.inr rfl
    · exact ih

set_option maxHeartbeats 4000000 in
theorem m_weighs (l : Launch) (Γ : GP) (G : GH) {m : Nat} {σ : MS} {th : Int32} {B : Nat → Nat} (hW : WF σ) (hM : MP Γ G m σ th B) {f d : Int32} : MetG l yX2_weighs (ws_ yX2_weighs cX2_weighs 6 (some .int)) (RM 1 0 0) Γ G [.ref m, .int f, .int d] (fun v G1 => v = some (.int (wt σ f d)) ∧ G = G1) 0 0 := by
  refine gMet (own := RX2) (by decide) rfl (Nat.le_of_ble_eq_true rfl) ?_
  intro pp ee ss mm below meth cc0 ls X hr hlk hin hnm hR hS hl
  have hl : lv_has ls 6 [(0, .ref m), (1, .int f), (2, .int d)] := hl
  have hm : G m = some (MOc (nI (σ.1 0)) (σ.2 12 0) (nI (σ.1 1)) (nI (σ.1 2)) th B) := hM.1
  have hr2 : G (B 2) = some ((31, 2), .inl (Γ.2 1, 20, .inl (σ.2 2))) := hM.2.1 2 (by decide)
  have hr3 : G (B 3) = some ((31, 3), .inl (Γ.2 1, 20, .inl (σ.2 3))) := hM.2.1 3 (by decide)
  have hr4 : G (B 4) = some ((31, 4), .inl (Γ.2 1, 20, .inl (σ.2 4))) := hM.2.1 4 (by decide)
  have hn20 := hW.2.1
  refine lv_iconst (v := (-1)) X.hx X.hb dX2_weighs_0 (by decide) ?_
  refine lv_istore_n (lv' := [(3, .int (-1)), (0, .ref m), (1, .int f), (2, .int d)]) X.hx X.hb dX2_weighs_1 rfl hl (by decide) rfl (fun ls hl => ?_)
  refine lv_iconst (v := 0) X.hx X.hb dX2_weighs_2 (by decide) ?_
  refine lv_istore (lv' := [(4, .int 0), (3, .int (-1)), (0, .ref m), (1, .int f), (2, .int d)]) X.hx X.hb dX2_weighs_3 hl (by decide) rfl (fun ls hl => ?_)
  have loop : ∀ (r n : Nat) (H : Heap) (locs : List Loc) (ls : Array Slot), n ≤ σ.1 1 → σ.1 1 - n < r → Rep Γ G H → va_S (gA Γ) ss.heap H locs → lv_has ls 6 [(0, .ref m), (1, .int f), (2, .int d), (3, .int (bI σ f d n)), (4, .int (nI n))] → W pp l ee (RM 1 0 0) ss mm (List.toArray [.ref m, .int f, .int d]) below meth cc0 H locs 0 0 (MQ below (Qg Γ (fun v G1 => v = some (.int (wt σ f d)) ∧ G = G1)) (List.toArray [.ref m, .int f, .int d]) ss 0 0 (gA Γ)) (F0 mm 5 ls []) := by
    intro r
    induction r with
    | zero => intro n H locs ls h1 h2; omega
    | succ r ih =>
      intro n H locs ls h1 h2 hR hS hl
      by_cases hn : n < σ.1 1
      · have hsr := (hW.2.2.2.2.2.1 n hn).2.2
        cases hB : Bst σ f d n with
        | none =>
          have hbI : bI σ f d n = (-1) := by unfold bI; rw [hB]
          have hBf : Bf σ f d n = -1 := by unfold Bf; rw [hB]
          rw [hbI] at hl
          refine lv_iload X.hx X.hb dX2_weighs_5 (lv_at hl 4 rfl) ?_
          refine lv_aload_n X.hx X.hb dX2_weighs_7 rfl (lv_at hl 0 rfl) ?_
          refine g_get X hR hm rfl in_X2 4 (by decide) q1299 (fun _ h => h) rfl dX2_weighs_8 ?_
          refine lv_icmp_ge (tgt := 81) X.hx X.hb dX2_weighs_11 (by decide) (fun c11 => ?_) (fun c11 => ?_)
          · exact absurd c11 (Int32.not_le.mpr (nI_lt hn (by omega)))
          · refine lv_aload_n X.hx X.hb dX2_weighs_14 rfl (lv_at hl 0 rfl) ?_
            refine g_get X hR hm rfl in_X2 5 (by decide) q1300 (fun _ h => h) rfl dX2_weighs_15 ?_
            refine lv_iload X.hx X.hb dX2_weighs_18 (lv_at hl 4 rfl) ?_
            refine g_iald (v := σ.2 2 n) X hR hr2 (vp_in_nI (show n < 20 by omega) (by decide)) (by rw [nI_clamp (by omega)]) dX2_weighs_20 ?_
            refine lv_iload_n X.hx X.hb dX2_weighs_21 rfl (lv_at hl 1 rfl) ?_
            refine lv_icmp_ne (tgt := 40) X.hx X.hb dX2_weighs_22 (by decide) (fun c22 => ?_) (fun c22 => ?_)
            · refine lv_iconst (v := 0) X.hx X.hb dX2_weighs_40 (by decide) ?_
              refine lv_istore (lv' := [(5, .int 0), (0, .ref m), (1, .int f), (2, .int d), (3, .int (-1)), (4, .int (nI n))]) X.hx X.hb dX2_weighs_41 hl (by decide) rfl (fun ls hl => ?_)
              refine lv_iload X.hx X.hb dX2_weighs_43 (lv_at hl 0 rfl) ?_
              refine lv_if_eq (tgt := 73) X.hx X.hb dX2_weighs_45 (by decide) (fun c45 => ?_) (fun c45 => ?_)
              · refine lv_iload_n X.hx X.hb dX2_weighs_73 rfl (lv_at hl 4 rfl) ?_
                refine lv_istore_n (lv' := [(3, .int (-1)), (5, .int 0), (0, .ref m), (1, .int f), (2, .int d), (4, .int (nI n))]) X.hx X.hb dX2_weighs_74 rfl hl (by decide) rfl (fun ls hl => ?_)
                obtain ⟨x212, hx212⟩ : ∃ y : Int32, y = nI n + 1 := ⟨_, rfl⟩
                refine lv_iinc (v := x212) (lv' := [(4, .int x212), (3, .int (-1)), (5, .int 0), (0, .ref m), (1, .int f), (2, .int d)]) X.hx X.hb dX2_weighs_75 hl (k := 5) rfl (by rw [hx212]; rfl) (by decide) rfl (fun ls hl => ?_)
                refine lv_goto (tgt := 5) X.hx X.hb dX2_weighs_78 (by decide) ?_
                have e1 := hbI.symm.trans (bI_n (σ := σ) (f := f) (d := d) (n := n) (fun h9 => c22 h9.1))
                rw [e1] at hl
                rw [hx212, nI_1] at hl
                exact ih (n + 1) _ _ _ (by omega) (by omega) hR hS (lv_sub hl [3, 4, 5, 1, 0] rfl)
              · exact absurd rfl c45
            · refine lv_aload_n X.hx X.hb dX2_weighs_25 rfl (lv_at hl 0 rfl) ?_
              refine g_get X hR hm rfl in_X2 7 (by decide) q1302 (fun _ h => h) rfl dX2_weighs_26 ?_
              refine lv_iload X.hx X.hb dX2_weighs_29 (lv_at hl 4 rfl) ?_
              refine g_iald (v := σ.2 4 n) X hR hr4 (vp_in_nI (show n < 20 by omega) (by decide)) (by rw [nI_clamp (by omega)]) dX2_weighs_31 ?_
              refine lv_iload_n X.hx X.hb dX2_weighs_32 rfl (lv_at hl 2 rfl) ?_
              refine lv_icmp_gt (tgt := 40) X.hx X.hb dX2_weighs_33 (by decide) (fun c33 => ?_) (fun c33 => ?_)
              · refine lv_iconst (v := 0) X.hx X.hb dX2_weighs_40 (by decide) ?_
                refine lv_istore (lv' := [(5, .int 0), (0, .ref m), (1, .int f), (2, .int d), (3, .int (-1)), (4, .int (nI n))]) X.hx X.hb dX2_weighs_41 hl (by decide) rfl (fun ls hl => ?_)
                refine lv_iload X.hx X.hb dX2_weighs_43 (lv_at hl 0 rfl) ?_
                refine lv_if_eq (tgt := 73) X.hx X.hb dX2_weighs_45 (by decide) (fun c45 => ?_) (fun c45 => ?_)
                · refine lv_iload_n X.hx X.hb dX2_weighs_73 rfl (lv_at hl 4 rfl) ?_
                  refine lv_istore_n (lv' := [(3, .int (-1)), (5, .int 0), (0, .ref m), (1, .int f), (2, .int d), (4, .int (nI n))]) X.hx X.hb dX2_weighs_74 rfl hl (by decide) rfl (fun ls hl => ?_)
                  obtain ⟨x213, hx213⟩ : ∃ y : Int32, y = nI n + 1 := ⟨_, rfl⟩
                  refine lv_iinc (v := x213) (lv' := [(4, .int x213), (3, .int (-1)), (5, .int 0), (0, .ref m), (1, .int f), (2, .int d)]) X.hx X.hb dX2_weighs_75 hl (k := 5) rfl (by rw [hx213]; rfl) (by decide) rfl (fun ls hl => ?_)
                  refine lv_goto (tgt := 5) X.hx X.hb dX2_weighs_78 (by decide) ?_
                  have e1 := hbI.symm.trans (bI_n (σ := σ) (f := f) (d := d) (n := n) (fun h9 => absurd h9.2.1 (Int32.not_le.mpr c33)))
                  rw [e1] at hl
                  rw [hx213, nI_1] at hl
                  exact ih (n + 1) _ _ _ (by omega) (by omega) hR hS (lv_sub hl [3, 4, 5, 1, 0] rfl)
                · exact absurd rfl c45
              · refine lv_iconst (v := 1) X.hx X.hb dX2_weighs_36 (by decide) ?_
                refine lv_goto (tgt := 41) X.hx X.hb dX2_weighs_37 (by decide) ?_
                refine lv_istore (lv' := [(5, .int 1), (0, .ref m), (1, .int f), (2, .int d), (3, .int (-1)), (4, .int (nI n))]) X.hx X.hb dX2_weighs_41 hl (by decide) rfl (fun ls hl => ?_)
                refine lv_iload X.hx X.hb dX2_weighs_43 (lv_at hl 0 rfl) ?_
                refine lv_if_eq (tgt := 73) X.hx X.hb dX2_weighs_45 (by decide) (fun c45 => ?_) (fun c45 => ?_)
                · exact absurd c45 (by decide)
                · refine lv_iload_n X.hx X.hb dX2_weighs_48 rfl (lv_at hl 4 rfl) ?_
                  refine lv_if_lt (tgt := 68) X.hx X.hb dX2_weighs_49 (by decide) (fun c49 => ?_) (fun c49 => ?_)
                  · refine lv_iload X.hx X.hb dX2_weighs_68 (lv_at hl 5 rfl) ?_
                    refine lv_goto (tgt := 74) X.hx X.hb dX2_weighs_70 (by decide) ?_
                    refine lv_istore_n (lv' := [(3, .int (nI n)), (5, .int 1), (0, .ref m), (1, .int f), (2, .int d), (4, .int (nI n))]) X.hx X.hb dX2_weighs_74 rfl hl (by decide) rfl (fun ls hl => ?_)
                    obtain ⟨x214, hx214⟩ : ∃ y : Int32, y = nI n + 1 := ⟨_, rfl⟩
                    refine lv_iinc (v := x214) (lv' := [(4, .int x214), (3, .int (nI n)), (5, .int 1), (0, .ref m), (1, .int f), (2, .int d)]) X.hx X.hb dX2_weighs_75 hl (k := 5) rfl (by rw [hx214]; rfl) (by decide) rfl (fun ls hl => ?_)
                    refine lv_goto (tgt := 5) X.hx X.hb dX2_weighs_78 (by decide) ?_
                    have e1 := bI_y (σ := σ) (f := f) (d := d) (n := n) (Classical.not_not.mp (fun h9 => h9 c22)) (Int32.not_lt.mp c33) (by rw [hBf]; exact (Int32.le_iff_toInt_le.mpr (by have := hsr.1; have e : (-1 : Int32).toInt = -1 := rfl; omega)))
                    rw [e1] at hl
                    rw [hx214, nI_1] at hl
                    exact ih (n + 1) _ _ _ (by omega) (by omega) hR hS (lv_sub hl [3, 4, 5, 1, 0] rfl)
                  · exact absurd (by decide) c49
        | some b =>
          have hbI : bI σ f d n = nI b := by unfold bI; rw [hB]
          have hBf : Bf σ f d n = σ.2 4 b := by unfold Bf; rw [hB]
          rw [hbI] at hl
          have hbn := Bst_lt _ hB
          refine lv_iload X.hx X.hb dX2_weighs_5 (lv_at hl 4 rfl) ?_
          refine lv_aload_n X.hx X.hb dX2_weighs_7 rfl (lv_at hl 0 rfl) ?_
          refine g_get X hR hm rfl in_X2 4 (by decide) q1299 (fun _ h => h) rfl dX2_weighs_8 ?_
          refine lv_icmp_ge (tgt := 81) X.hx X.hb dX2_weighs_11 (by decide) (fun c11 => ?_) (fun c11 => ?_)
          · exact absurd c11 (Int32.not_le.mpr (nI_lt hn (by omega)))
          · refine lv_aload_n X.hx X.hb dX2_weighs_14 rfl (lv_at hl 0 rfl) ?_
            refine g_get X hR hm rfl in_X2 5 (by decide) q1300 (fun _ h => h) rfl dX2_weighs_15 ?_
            refine lv_iload X.hx X.hb dX2_weighs_18 (lv_at hl 4 rfl) ?_
            refine g_iald (v := σ.2 2 n) X hR hr2 (vp_in_nI (show n < 20 by omega) (by decide)) (by rw [nI_clamp (by omega)]) dX2_weighs_20 ?_
            refine lv_iload_n X.hx X.hb dX2_weighs_21 rfl (lv_at hl 1 rfl) ?_
            refine lv_icmp_ne (tgt := 40) X.hx X.hb dX2_weighs_22 (by decide) (fun c22 => ?_) (fun c22 => ?_)
            · refine lv_iconst (v := 0) X.hx X.hb dX2_weighs_40 (by decide) ?_
              refine lv_istore (lv' := [(5, .int 0), (0, .ref m), (1, .int f), (2, .int d), (3, .int (nI b)), (4, .int (nI n))]) X.hx X.hb dX2_weighs_41 hl (by decide) rfl (fun ls hl => ?_)
              refine lv_iload X.hx X.hb dX2_weighs_43 (lv_at hl 0 rfl) ?_
              refine lv_if_eq (tgt := 73) X.hx X.hb dX2_weighs_45 (by decide) (fun c45 => ?_) (fun c45 => ?_)
              · refine lv_iload_n X.hx X.hb dX2_weighs_73 rfl (lv_at hl 4 rfl) ?_
                refine lv_istore_n (lv' := [(3, .int (nI b)), (5, .int 0), (0, .ref m), (1, .int f), (2, .int d), (4, .int (nI n))]) X.hx X.hb dX2_weighs_74 rfl hl (by decide) rfl (fun ls hl => ?_)
                obtain ⟨x215, hx215⟩ : ∃ y : Int32, y = nI n + 1 := ⟨_, rfl⟩
                refine lv_iinc (v := x215) (lv' := [(4, .int x215), (3, .int (nI b)), (5, .int 0), (0, .ref m), (1, .int f), (2, .int d)]) X.hx X.hb dX2_weighs_75 hl (k := 5) rfl (by rw [hx215]; rfl) (by decide) rfl (fun ls hl => ?_)
                refine lv_goto (tgt := 5) X.hx X.hb dX2_weighs_78 (by decide) ?_
                have e1 := hbI.symm.trans (bI_n (σ := σ) (f := f) (d := d) (n := n) (fun h9 => c22 h9.1))
                rw [e1] at hl
                rw [hx215, nI_1] at hl
                exact ih (n + 1) _ _ _ (by omega) (by omega) hR hS (lv_sub hl [3, 4, 5, 1, 0] rfl)
              · exact absurd rfl c45
            · refine lv_aload_n X.hx X.hb dX2_weighs_25 rfl (lv_at hl 0 rfl) ?_
              refine g_get X hR hm rfl in_X2 7 (by decide) q1302 (fun _ h => h) rfl dX2_weighs_26 ?_
              refine lv_iload X.hx X.hb dX2_weighs_29 (lv_at hl 4 rfl) ?_
              refine g_iald (v := σ.2 4 n) X hR hr4 (vp_in_nI (show n < 20 by omega) (by decide)) (by rw [nI_clamp (by omega)]) dX2_weighs_31 ?_
              refine lv_iload_n X.hx X.hb dX2_weighs_32 rfl (lv_at hl 2 rfl) ?_
              refine lv_icmp_gt (tgt := 40) X.hx X.hb dX2_weighs_33 (by decide) (fun c33 => ?_) (fun c33 => ?_)
              · refine lv_iconst (v := 0) X.hx X.hb dX2_weighs_40 (by decide) ?_
                refine lv_istore (lv' := [(5, .int 0), (0, .ref m), (1, .int f), (2, .int d), (3, .int (nI b)), (4, .int (nI n))]) X.hx X.hb dX2_weighs_41 hl (by decide) rfl (fun ls hl => ?_)
                refine lv_iload X.hx X.hb dX2_weighs_43 (lv_at hl 0 rfl) ?_
                refine lv_if_eq (tgt := 73) X.hx X.hb dX2_weighs_45 (by decide) (fun c45 => ?_) (fun c45 => ?_)
                · refine lv_iload_n X.hx X.hb dX2_weighs_73 rfl (lv_at hl 4 rfl) ?_
                  refine lv_istore_n (lv' := [(3, .int (nI b)), (5, .int 0), (0, .ref m), (1, .int f), (2, .int d), (4, .int (nI n))]) X.hx X.hb dX2_weighs_74 rfl hl (by decide) rfl (fun ls hl => ?_)
                  obtain ⟨x216, hx216⟩ : ∃ y : Int32, y = nI n + 1 := ⟨_, rfl⟩
                  refine lv_iinc (v := x216) (lv' := [(4, .int x216), (3, .int (nI b)), (5, .int 0), (0, .ref m), (1, .int f), (2, .int d)]) X.hx X.hb dX2_weighs_75 hl (k := 5) rfl (by rw [hx216]; rfl) (by decide) rfl (fun ls hl => ?_)
                  refine lv_goto (tgt := 5) X.hx X.hb dX2_weighs_78 (by decide) ?_
                  have e1 := hbI.symm.trans (bI_n (σ := σ) (f := f) (d := d) (n := n) (fun h9 => absurd h9.2.1 (Int32.not_le.mpr c33)))
                  rw [e1] at hl
                  rw [hx216, nI_1] at hl
                  exact ih (n + 1) _ _ _ (by omega) (by omega) hR hS (lv_sub hl [3, 4, 5, 1, 0] rfl)
                · exact absurd rfl c45
              · refine lv_iconst (v := 1) X.hx X.hb dX2_weighs_36 (by decide) ?_
                refine lv_goto (tgt := 41) X.hx X.hb dX2_weighs_37 (by decide) ?_
                refine lv_istore (lv' := [(5, .int 1), (0, .ref m), (1, .int f), (2, .int d), (3, .int (nI b)), (4, .int (nI n))]) X.hx X.hb dX2_weighs_41 hl (by decide) rfl (fun ls hl => ?_)
                refine lv_iload X.hx X.hb dX2_weighs_43 (lv_at hl 0 rfl) ?_
                refine lv_if_eq (tgt := 73) X.hx X.hb dX2_weighs_45 (by decide) (fun c45 => ?_) (fun c45 => ?_)
                · exact absurd c45 (by decide)
                · refine lv_iload_n X.hx X.hb dX2_weighs_48 rfl (lv_at hl 4 rfl) ?_
                  refine lv_if_lt (tgt := 68) X.hx X.hb dX2_weighs_49 (by decide) (fun c49 => ?_) (fun c49 => ?_)
                  · exact absurd c49 (nI_pos (by omega))
                  · refine lv_aload_n X.hx X.hb dX2_weighs_52 rfl (lv_at hl 1 rfl) ?_
                    refine g_get X hR hm rfl in_X2 7 (by decide) q1302 (fun _ h => h) rfl dX2_weighs_53 ?_
                    refine lv_iload X.hx X.hb dX2_weighs_56 (lv_at hl 5 rfl) ?_
                    refine g_iald (v := σ.2 4 n) X hR hr4 (vp_in_nI (show n < 20 by omega) (by decide)) (by rw [nI_clamp (by omega)]) dX2_weighs_58 ?_
                    refine lv_aload_n X.hx X.hb dX2_weighs_59 rfl (lv_at hl 1 rfl) ?_
                    refine g_get X hR hm rfl in_X2 7 (by decide) q1302 (fun _ h => h) rfl dX2_weighs_60 ?_
                    refine lv_iload_n X.hx X.hb dX2_weighs_63 rfl (lv_at hl 4 rfl) ?_
                    refine g_iald (v := σ.2 4 b) X hR hr4 (vp_in_nI (show b < 20 by omega) (by decide)) (by rw [nI_clamp (by omega)]) dX2_weighs_64 ?_
                    refine lv_icmp_lt (tgt := 73) X.hx X.hb dX2_weighs_65 (by decide) (fun c65 => ?_) (fun c65 => ?_)
                    · refine lv_iload_n X.hx X.hb dX2_weighs_73 rfl (lv_at hl 4 rfl) ?_
                      refine lv_istore_n (lv' := [(3, .int (nI b)), (5, .int 1), (0, .ref m), (1, .int f), (2, .int d), (4, .int (nI n))]) X.hx X.hb dX2_weighs_74 rfl hl (by decide) rfl (fun ls hl => ?_)
                      obtain ⟨x217, hx217⟩ : ∃ y : Int32, y = nI n + 1 := ⟨_, rfl⟩
                      refine lv_iinc (v := x217) (lv' := [(4, .int x217), (3, .int (nI b)), (5, .int 1), (0, .ref m), (1, .int f), (2, .int d)]) X.hx X.hb dX2_weighs_75 hl (k := 5) rfl (by rw [hx217]; rfl) (by decide) rfl (fun ls hl => ?_)
                      refine lv_goto (tgt := 5) X.hx X.hb dX2_weighs_78 (by decide) ?_
                      have e1 := hbI.symm.trans (bI_n (σ := σ) (f := f) (d := d) (n := n) (fun h9 => absurd h9.2.2 (by rw [hBf]; exact Int32.not_le.mpr c65)))
                      rw [e1] at hl
                      rw [hx217, nI_1] at hl
                      exact ih (n + 1) _ _ _ (by omega) (by omega) hR hS (lv_sub hl [3, 4, 5, 1, 0] rfl)
                    · refine lv_iload X.hx X.hb dX2_weighs_68 (lv_at hl 5 rfl) ?_
                      refine lv_goto (tgt := 74) X.hx X.hb dX2_weighs_70 (by decide) ?_
                      refine lv_istore_n (lv' := [(3, .int (nI n)), (5, .int 1), (0, .ref m), (1, .int f), (2, .int d), (4, .int (nI n))]) X.hx X.hb dX2_weighs_74 rfl hl (by decide) rfl (fun ls hl => ?_)
                      obtain ⟨x218, hx218⟩ : ∃ y : Int32, y = nI n + 1 := ⟨_, rfl⟩
                      refine lv_iinc (v := x218) (lv' := [(4, .int x218), (3, .int (nI n)), (5, .int 1), (0, .ref m), (1, .int f), (2, .int d)]) X.hx X.hb dX2_weighs_75 hl (k := 5) rfl (by rw [hx218]; rfl) (by decide) rfl (fun ls hl => ?_)
                      refine lv_goto (tgt := 5) X.hx X.hb dX2_weighs_78 (by decide) ?_
                      have e1 := bI_y (σ := σ) (f := f) (d := d) (n := n) (Classical.not_not.mp (fun h9 => h9 c22)) (Int32.not_lt.mp c33) (by rw [hBf]; exact Int32.not_lt.mp c65)
                      rw [e1] at hl
                      rw [hx218, nI_1] at hl
                      exact ih (n + 1) _ _ _ (by omega) (by omega) hR hS (lv_sub hl [3, 4, 5, 1, 0] rfl)
      · have hne : n = σ.1 1 := by omega
        rw [hne] at hl
        cases hB : Bst σ f d (σ.1 1) with
        | none =>
          have hbI : bI σ f d (σ.1 1) = (-1) := by unfold bI; rw [hB]
          have hwt : wt σ f d = 1 := by show Bw σ f d (σ.1 1) = _; unfold Bw; rw [hB]
          rw [hbI] at hl
          refine lv_iload X.hx X.hb dX2_weighs_5 (lv_at hl 4 rfl) ?_
          refine lv_aload_n X.hx X.hb dX2_weighs_7 rfl (lv_at hl 0 rfl) ?_
          refine g_get X hR hm rfl in_X2 4 (by decide) q1299 (fun _ h => h) rfl dX2_weighs_8 ?_
          refine lv_icmp_ge (tgt := 81) X.hx X.hb dX2_weighs_11 (by decide) (fun c11 => ?_) (fun c11 => ?_)
          · refine lv_iload_n X.hx X.hb dX2_weighs_81 rfl (lv_at hl 3 rfl) ?_
            refine lv_if_ge (tgt := 89) X.hx X.hb dX2_weighs_82 (by decide) (fun c82 => ?_) (fun c82 => ?_)
            · exact absurd c82 (by decide)
            · refine lv_iconst (v := 1) X.hx X.hb dX2_weighs_85 (by decide) ?_
              refine lv_goto (tgt := 95) X.hx X.hb dX2_weighs_86 (by decide) ?_
              exact g_iret X hr hlk hR hS (⟨by rw [hwt], rfl⟩) (by (try dsimp only [RM]); omega) (by (try dsimp only [RM]); omega) dX2_weighs_95
          · exact absurd (Int32.le_refl _) c11
        | some b =>
          have hbI : bI σ f d (σ.1 1) = nI b := by unfold bI; rw [hB]
          have hwt : wt σ f d = σ.2 3 b := by show Bw σ f d (σ.1 1) = _; unfold Bw; rw [hB]
          rw [hbI] at hl
          have hbn := Bst_lt _ hB
          refine lv_iload X.hx X.hb dX2_weighs_5 (lv_at hl 4 rfl) ?_
          refine lv_aload_n X.hx X.hb dX2_weighs_7 rfl (lv_at hl 0 rfl) ?_
          refine g_get X hR hm rfl in_X2 4 (by decide) q1299 (fun _ h => h) rfl dX2_weighs_8 ?_
          refine lv_icmp_ge (tgt := 81) X.hx X.hb dX2_weighs_11 (by decide) (fun c11 => ?_) (fun c11 => ?_)
          · refine lv_iload_n X.hx X.hb dX2_weighs_81 rfl (lv_at hl 3 rfl) ?_
            refine lv_if_ge (tgt := 89) X.hx X.hb dX2_weighs_82 (by decide) (fun c82 => ?_) (fun c82 => ?_)
            · refine lv_aload_n X.hx X.hb dX2_weighs_89 rfl (lv_at hl 0 rfl) ?_
              refine g_get X hR hm rfl in_X2 6 (by decide) q1301 (fun _ h => h) rfl dX2_weighs_90 ?_
              refine lv_iload_n X.hx X.hb dX2_weighs_93 rfl (lv_at hl 3 rfl) ?_
              refine g_iald (v := σ.2 3 b) X hR hr3 (vp_in_nI (show b < 20 by omega) (by decide)) (by rw [nI_clamp (by omega)]) dX2_weighs_94 ?_
              exact g_iret X hr hlk hR hS (⟨by rw [hwt], rfl⟩) (by (try dsimp only [RM]); omega) (by (try dsimp only [RM]); omega) dX2_weighs_95
            · exact absurd (nI_pos' (by omega)) c82
          · exact absurd (Int32.le_refl _) c11
  exact loop (σ.1 1 + 1) 0 _ _ _ (by omega) (by omega) hR hS (lv_sub hl [2, 3, 4, 1, 0] rfl)

