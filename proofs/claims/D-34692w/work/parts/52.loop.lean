set_option maxRecDepth 100000
/-! the law: its loop -/
theorem bad_no {lo hi x : Int32} {k : Int32} {e : Int32} (h : (if bad lo hi x then k else e) = 0) (hk : k ≠ 0) : ¬ bad lo hi x ∧ e = 0 := by
  by_cases hb : bad lo hi x
  · rw [if_pos hb] at h; exact absurd h hk
  · rw [if_neg hb] at h; exact ⟨hb, h⟩
theorem if_no {P : Prop} [Decidable P] {k e : Int32} (h : (if P then k else e) = 0) (hk : k ≠ 0) : ¬ P ∧ e = 0 := by
  by_cases hb : P
  · rw [if_pos hb] at h; exact absurd h hk
  · rw [if_neg hb] at h; exact ⟨hb, h⟩
theorem no_or {a b : Prop} (h : ¬ (a ∨ b)) : ¬ a ∧ ¬ b := ⟨fun h1 => h (Or.inl h1), fun h1 => h (Or.inr h1)⟩
/-- what holds of the state after j calls -/
def LI (σ : MS) (j : Nat) : Prop := WF σ ∧ (σ.2 12 0).toInt ≤ 100 * j ∧ ∀ i, σ.1 0 ≤ i → σ.2 1 i = 0
theorem LI.up {σ : MS} {j : Nat} (h : LI σ j) : LI σ (j + 1) := ⟨h.1, by have := h.2.1; omega, h.2.2⟩
theorem LI_0 : LI (fun _ => 0, fun _ _ => 0) 0 :=
  ⟨⟨by decide, by decide, by decide, ⟨by decide, by decide⟩, fun i hi => absurd hi (Nat.not_lt_zero i), fun i hi => absurd hi (Nat.not_lt_zero i), fun i hi => absurd hi (Nat.not_lt_zero i)⟩, by decide, fun _ _ => rfl⟩
theorem LI_O {σ : MS} {j : Nat} {b : Int32} (h : LI σ j) (hk : k0 σ b = 0) : LI (tauO σ b) (j + 1) := by
  obtain ⟨⟨h1, h2, h3, h4, h5, h6, h7⟩, h8, h9⟩ := h
  obtain ⟨k1, k2⟩ := if_no hk (by decide)
  obtain ⟨k3, -⟩ := if_no k2 (by decide)
  have hn : σ.1 0 < 4 := (nI_ltI (by omega) (by decide)).mp (Classical.not_not.mp k3)
  refine ⟨⟨hn, h2, h3, h4, fun i hi => ?_, h6, fun k hk => ?_⟩, ?_, fun i hi => ?_⟩
  · have hi2 : i < σ.1 0 + 1 := hi
    show rg (va_up (σ.2 0) (σ.1 0) b i) 1 1000
    by_cases e : i = σ.1 0
    · subst e; rw [va_up_self]; exact nb_rg k1
    · rw [va_up_ne _ _ e]; exact h5 i (by omega)
  · obtain ⟨⟨p, hp, hq⟩, hr⟩ := h7 k hk
    exact ⟨⟨p, Nat.lt_succ_of_lt hp, hq⟩, hr⟩
  · show (σ.2 12 0).toInt ≤ _
    omega
  · have hi2 : σ.1 0 + 1 ≤ i := hi
    show va_up (σ.2 1) (σ.1 0) 0 i = 0
    rw [va_up_ne _ _ (by omega)]
    exact h9 i (by omega)
theorem LI_W {σ : MS} {j : Nat} {f w fr : Int32} (h : LI σ j) (hk : k1 σ f w fr = 0) : LI (tauW σ f w fr) (j + 1) := by
  obtain ⟨⟨h1, h2, h3, h4, h5, h6, h7⟩, h8, h9⟩ := h
  obtain ⟨k1, k2⟩ := if_no hk (by decide)
  obtain ⟨k3, k4⟩ := if_no k2 (by decide)
  obtain ⟨k5, k6⟩ := no_or k3
  obtain ⟨k7, -⟩ := if_no k4 (by decide)
  have hn : σ.1 1 < 20 := (nI_ltI (by omega) (by decide)).mp (Classical.not_not.mp k7)
  refine ⟨⟨h1, hn, h3, h4, h5, fun i hi => ?_, h7⟩, ?_, h9⟩
  · have hi2 : i < σ.1 1 + 1 := hi
    show rg (va_up (σ.2 2) (σ.1 1) f i) 0 2 ∧ rg (va_up (σ.2 3) (σ.1 1) w i) 0 100 ∧ rg (va_up (σ.2 4) (σ.1 1) fr i) 0 364
    by_cases e : i = σ.1 1
    · subst e; rw [va_up_self, va_up_self, va_up_self]; exact ⟨f3_rg k1, nb_rg k5, nb_rg k6⟩
    · rw [va_up_ne _ _ e, va_up_ne _ _ e, va_up_ne _ _ e]; exact h6 i (by omega)
  · show (σ.2 12 0).toInt ≤ _
    omega
theorem LI_P {σ : MS} {j : Nat} {d : Int32} (h : LI σ j) (hj : j ≤ 100) (hk : k2 d = 0) : LI (tauP σ d) (j + 1) := by
  obtain ⟨⟨h1, h2, h3, h4, h5, h6, h7⟩, h8, h9⟩ := h
  obtain ⟨k1, -⟩ := if_no hk (by decide)
  have k3 := nb_rg k1
  have e1 : (1 : Int32).toInt = 1 := rfl
  have e2 : (100 : Int32).toInt = 100 := rfl
  have k4 := k3.1
  have k5 := k3.2
  have k6 := h4.1
  have e : (σ.2 12 0 + d).toInt = (σ.2 12 0).toInt + d.toInt := by rw [Int32.toInt_add, Int.bmod_eq_of_le (by omega) (by omega)]
  have e9 : (tauP σ d).2 12 0 = σ.2 12 0 + d := by
    show va_up (σ.2 12) 0 (σ.2 12 0 + d) 0 = _
    exact va_up_self _ _ _
  refine ⟨⟨h1, h2, h3, ?_, h5, h6, h7⟩, ?_, h9⟩
  · rw [e9]; unfold rg; rw [e]; omega
  · rw [e9, e]; omega
theorem LI_B {σ : MS} {j i : Nat} {v : Int32} (h : LI σ j) (hi : i < σ.1 0) : LI (tauB σ i v) (j + 1) := by
  obtain ⟨hW, h8, h9⟩ := h
  refine ⟨hW, ?_, fun q hq => ?_⟩
  · show (σ.2 12 0).toInt ≤ _
    omega
  · have hq2 : σ.1 0 ≤ q := hq
    show va_up (σ.2 1) i v q = 0
    rw [va_up_ne _ _ (by omega)]
    exact h9 q hq2
theorem LI_K {σ : MS} {j i : Nat} (h : LI σ j) : LI (tauK σ i) (j + 1) := by
  obtain ⟨⟨h1, h2, h3, h4, h5, h6, h7⟩, h8, h9⟩ := h
  refine ⟨⟨h1, h2, h3, h4, h5, h6, fun k hk => ?_⟩, ?_, h9⟩
  · obtain ⟨a1, a2, a3, a4, a5, a6, a7, a8⟩ := h7 k hk
    refine ⟨a1, a2, a3, a4, a5, a6, a7, ?_⟩
    show rg (va_up (σ.2 11) i (σ.2 12 0) k) (-1) 100000
    by_cases e : k = i
    · subst e; rw [va_up_self]; exact ⟨by have := h4.1; omega, h4.2⟩
    · rw [va_up_ne _ _ e]; exact a8
  · show (σ.2 12 0).toInt ≤ _
    omega
theorem LI_T {σ : MS} {j : Nat} {p kd f fr nu : Int32} (h : LI σ j) (hp : ¬ bdP (nI (σ.1 0)) p) (hkd : kd = 0 ∨ kd = 1 ∨ kd = 2 ∨ kd = 3) (hf : rg f 0 2) (hfr : ¬ bad 0 364 fr) (hnu : rg nu (-20) 20) (hn0 : kd = 0 → rg nu 0 20) (hnc : nI (σ.1 2) < 60) : LI (tauT σ p kd f fr nu) (j + 1) := by
  obtain ⟨⟨h1, h2, h3, h4, h5, h6, h7⟩, h8, h9⟩ := h
  have hn : σ.1 2 < 60 := (nI_ltI (by omega) (by decide)).mp hnc
  obtain ⟨i, hi, rfl⟩ := plc (by omega) (fun h9 => hp (Or.inl h9)) (Classical.not_not.mp (fun h9 => hp (Or.inr h9)))
  refine ⟨⟨h1, h2, hn, h4, h5, h6, fun k hk => ?_⟩, ?_, h9⟩
  · have hk2 : k < σ.1 2 + 1 := hk
    show (∃ p, p < σ.1 0 ∧ va_up (σ.2 5) (σ.1 2) (nI i) k = nI p) ∧ (va_up (σ.2 6) (σ.1 2) kd k = 0 ∨ va_up (σ.2 6) (σ.1 2) kd k = 1 ∨ va_up (σ.2 6) (σ.1 2) kd k = 2 ∨ va_up (σ.2 6) (σ.1 2) kd k = 3) ∧ rg (va_up (σ.2 7) (σ.1 2) f k) 0 2 ∧ rg (va_up (σ.2 8) (σ.1 2) fr k) 0 364 ∧ rg (va_up (σ.2 9) (σ.1 2) nu k) (-20) 20 ∧ (va_up (σ.2 6) (σ.1 2) kd k = 0 → rg (va_up (σ.2 9) (σ.1 2) nu k) 0 20) ∧ rg (va_up (σ.2 10) (σ.1 2) (σ.2 12 0) k) 0 100000 ∧ rg (va_up (σ.2 11) (σ.1 2) (-1) k) (-1) 100000
    by_cases e : k = σ.1 2
    · subst e
      simp only [va_up_self]
      exact ⟨⟨i, hi, rfl⟩, hkd, hf, nb_rg hfr, hnu, hn0, h4, ⟨by decide, by decide⟩⟩
    · simp only [va_up_ne _ _ e]
      exact h7 k (by omega)
  · show (σ.2 12 0).toInt ≤ _
    omega
theorem kT_ok {σ : MS} {p f fr lo hi v : Int32} (h : kT σ p f fr lo hi v = 0) : ¬ bdP (nI (σ.1 0)) p ∧ ¬ bdP 3 f ∧ ¬ bad lo hi v ∧ ¬ bad 0 364 fr ∧ nI (σ.1 2) < 60 := by
  obtain ⟨k1, k2⟩ := if_no h (by decide)
  obtain ⟨k3, k4⟩ := if_no k2 (by decide)
  obtain ⟨k7, -⟩ := if_no k4 (by decide)
  exact ⟨(no_or k1).1, (no_or k1).2, (no_or k3).1, (no_or k3).2, Classical.not_not.mp k7⟩
theorem nI_s5 {L : Nat} (h : L ≤ 320) : (nI L - 5).toInt = (L : Int) - 5 := by
  have e1 : (nI L).toInt = L := nI_toInt (by omega)
  have e3 : (5 : Int32).toInt = 5 := rfl
  rw [Int32.toInt_sub, e1, e3, Int.bmod_eq_of_le (by omega) (by omega)]

section LAWL
variable {pp : Program} {l : Launch} {ee : Env} {R : Room} {ss : State} {mm : MethodId} {args : Array Value} {below : List Frame} {meth : Method} {cc0 : Code} {Q : State → Prop} {Γ : GP}
set_option maxHeartbeats 4000000 in
theorem law_loop (X : Cx pp ss mm args cc0 Γ code 7 RX0) (hst : l.stackTraces = false) {b L : Nat} {xs : Nat → Int32} (hXs : va_X b L xs ss ss.heap) (hbl : b < ss.heap.size) (hbA : ¬ gA Γ b) (hL : L ≤ 320) (hRf : 100 ≤ R.frames) (hRl : 20000 ≤ R.locals) (hRc : 1200384 ≤ R.cells) (hRs : 5489322 ≤ R.slots) {x u o : Nat}
    (kend : ∀ (H1 : Heap) (locs1 : List Loc) (ls1 : Array Slot) (c1 s1 : Nat), va_S (gA Γ) ss.heap H1 locs1 → c1 ≤ 1200384 → s1 ≤ 5489322 → W pp l ee R ss mm args below meth cc0 H1 locs1 c1 s1 Q (F0 mm 1527 ls1 [])) :
    ∀ (r j : Nat) (σ : MS) (cells slots : Nat) (G : GH) (H : Heap) (locs : List Loc) (ls : Array Slot), j ≤ 64 → 64 - j < r → cells ≤ 100 + 4000 * j → slots ≤ 4000 + 12000 * j → LI σ j → LSt Γ G x u o σ → Rep Γ G H → va_S (gA Γ) ss.heap H locs → lv_has ls 7 [(0, .ref b), (1, .ref x), (2, .ref u), (3, .ref o), (4, .int (nI (5 * j)))] → W pp l ee R ss mm args below meth cc0 H locs cells slots Q (F0 mm 23 ls []) := by
  intro r
  induction r with
  | zero => intro j σ cells slots G H locs ls h1 h2; omega
  | succ r ih =>
    intro j σ cells slots G H locs ls hj hr hc hs hLI hI hR hS hl
    have hjt : (nI (5 * j)).toInt = ((5 * j : Nat) : Int) := nI_toInt (by omega)
    have hLt := nI_s5 hL
    refine lv_iload X.hx X.hb dL_law_23 (lv_at hl 4 rfl) ?_
    refine lv_aload_n X.hx X.hb dL_law_25 rfl (lv_at hl 0 rfl) ?_
    refine va_slen X.hx X.hb hXs hbl hbA hS dL_law_26 ?_
    refine lv_iconst (v := 5) X.hx X.hb dL_law_27 (by decide) ?_
    refine lv_isub X.hx X.hb dL_law_28 ?_
    refine lv_icmp_gt (tgt := 1527) X.hx X.hb dL_law_29 (by decide) (fun c29 => ?_) (fun c29 => ?_)
    · exact kend _ _ _ _ _ hS (by omega) (by omega)
    · refine lv_aload_n X.hx X.hb dL_law_32 rfl (lv_at hl 0 rfl) ?_
      refine lv_iload X.hx X.hb dL_law_33 (lv_at hl 4 rfl) ?_
      have hn : 5 * j + 5 ≤ L := by
        have h9 : (nI (5 * j)).toInt ≤ (nI L - 5).toInt := Int32.le_iff_toInt_le.mp (Int32.not_lt.mp c29)
        omega
      refine va_sld X.hx X.hb hXs hbl hbA hS (vp_in_nI (by omega) (by omega)) dL_law_35 ?_
      refine lv_bipush (v := 31) X.hx X.hb dL_law_36 (by decide) ?_
      refine lv_iand X.hx X.hb dL_law_38 ?_
      generalize (xs (nI (5 * j)).toNatClampNeg) &&& 31 = t9
      have next : ∀ (τ1 : MS) (G1 : GH) (H1 : Heap) (locs1 : List Loc) (ls1 : Array Slot), LI τ1 (j + 1) → LSt Γ G1 x u o τ1 → Rep Γ G1 H1 → va_S (gA Γ) ss.heap H1 locs1 → lv_has ls1 7 [(0, .ref b), (1, .ref x), (2, .ref u), (3, .ref o), (4, .int (nI (5 * j)))] → W pp l ee R ss mm args below meth cc0 H1 locs1 (cells + 4000) (slots + 12000) Q (F0 mm 1521 ls1 []) := by
        intro τ1 G1 H locs ls hL9 hI9 hR hS hl
        obtain ⟨x853, hx853⟩ : ∃ y : Int32, y = nI (5 * j) + 5 := ⟨_, rfl⟩
        refine lv_iinc (v := x853) (lv' := [(4, .int x853), (0, .ref b), (1, .ref x), (2, .ref u), (3, .ref o)]) X.hx X.hb dL_law_1521 hl (k := 4) rfl (by rw [hx853]; rfl) (by decide) rfl (fun ls hl => ?_)
        refine lv_goto (tgt := 23) X.hx X.hb dL_law_1524 (by decide) ?_
        rw [hx853, show nI (5 * j) + 5 = nI (5 * (j + 1)) from nI_add (5 * j) 5] at hl
        exact ih (j + 1) τ1 _ _ _ _ _ _ (by omega) (by omega) (by omega) (by omega) hL9 hI9 hR hS (lv_sub hl [1, 2, 3, 4, 0] rfl)
      have outw : W pp l ee R ss mm args below meth cc0 H locs cells slots Q (F0 mm 1521 ls []) := W.widen (Nat.le_add_right _ _) (Nat.le_add_right _ _) (next σ _ _ _ _ hLI.up hI hR hS (lv_sub hl [0, 1, 2, 3, 4] rfl))
      by_cases t1 : t9.toInt < 0
      · exact lv_tableOut (tgt := 1521) X.hx X.hb dL_law_39 (Or.inl t1) (by decide) outw
      · by_cases t2 : 20 < t9.toInt
        · exact lv_tableOut (tgt := 1521) X.hx X.hb dL_law_39 (Or.inr t2) (by decide) outw
        · rcases (show t9.toInt = 0 ∨ t9.toInt = 1 ∨ t9.toInt = 2 ∨ t9.toInt = 3 ∨ t9.toInt = 4 ∨ t9.toInt = 5 ∨ t9.toInt = 6 ∨ t9.toInt = 7 ∨ t9.toInt = 8 ∨ t9.toInt = 9 ∨ t9.toInt = 10 ∨ t9.toInt = 11 ∨ t9.toInt = 12 ∨ t9.toInt = 13 ∨ t9.toInt = 14 ∨ t9.toInt = 15 ∨ t9.toInt = 16 ∨ t9.toInt = 17 ∨ t9.toInt = 18 ∨ t9.toInt = 19 ∨ t9.toInt = 20 by omega) with t3 | t3 | t3 | t3 | t3 | t3 | t3 | t3 | t3 | t3 | t3 | t3 | t3 | t3 | t3 | t3 | t3 | t3 | t3 | t3 | t3
          · refine lv_tableIn (off := 97) (tgt := 136) X.hx X.hb dL_law_39 t1 t2 (by rw [t3]; rfl) (by decide) ?_
            refine l_open X hst hXs hbl hbA hn hL hRf hRl (by omega) (by omega) hLI.1 (hLI.2.2 _ (Nat.le_refl _)) hI hR hS (lv_sub hl [0, 1, 2, 3, 4] rfl) (fun τ1 G1 H1 locs1 ls1 ht hI1 hR1 hS1 hl1 => next τ1 _ _ _ _ ?_ hI1 hR1 hS1 hl1)
            exact ht.elim (fun e => by rw [e]; exact hLI.up) (fun h => by rw [h.2]; exact LI_O hLI h.1)
          · refine lv_tableIn (off := 153) (tgt := 192) X.hx X.hb dL_law_39 t1 t2 (by rw [t3]; rfl) (by decide) ?_
            refine l_setWeight X hst hXs hbl hbA hn hL hRf hRl (by omega) (by omega) hLI.1 (hLI.2.2 _ (Nat.le_refl _)) hI hR hS (lv_sub hl [0, 1, 2, 3, 4] rfl) (fun τ1 G1 H1 locs1 ls1 ht hI1 hR1 hS1 hl1 => next τ1 _ _ _ _ ?_ hI1 hR1 hS1 hl1)
            exact ht.elim (fun e => by rw [e]; exact hLI.up) (fun h => by rw [h.2]; exact LI_W hLI h.1)
          · refine lv_tableIn (off := 233) (tgt := 272) X.hx X.hb dL_law_39 t1 t2 (by rw [t3]; rfl) (by decide) ?_
            refine l_pass X hst hXs hbl hbA hn hL hRf hRl (by omega) (by omega) hLI.1 (hLI.2.2 _ (Nat.le_refl _)) hI hR hS (lv_sub hl [0, 1, 2, 3, 4] rfl) (fun τ1 G1 H1 locs1 ls1 ht hI1 hR1 hS1 hl1 => next τ1 _ _ _ _ ?_ hI1 hR1 hS1 hl1)
            exact ht.elim (fun e => by rw [e]; exact hLI.up) (fun h => by rw [h.2]; exact LI_P hLI (by omega) h.1)
          · refine lv_tableIn (off := 289) (tgt := 328) X.hx X.hb dL_law_39 t1 t2 (by rw [t3]; rfl) (by decide) ?_
            refine l_today X hst hXs hbl hbA hn hL hRf hRl (by omega) (by omega) hLI.1 (hLI.2.2 _ (Nat.le_refl _)) hI hR hS (lv_sub hl [0, 1, 2, 3, 4] rfl) (fun τ1 G1 H1 locs1 ls1 ht hI1 hR1 hS1 hl1 => next τ1 _ _ _ _ ?_ hI1 hR1 hS1 hl1)
            rw [ht]; exact hLI.up
          · refine lv_tableIn (off := 302) (tgt := 341) X.hx X.hb dL_law_39 t1 t2 (by rw [t3]; rfl) (by decide) ?_
            refine l_change X hst hXs hbl hbA hn hL hRf hRl (by omega) (by omega) hLI.1 (hLI.2.2 _ (Nat.le_refl _)) hI hR hS (lv_sub hl [0, 1, 2, 3, 4] rfl) (fun τ1 G1 H1 locs1 ls1 ht hI1 hR1 hS1 hl1 => next τ1 _ _ _ _ ?_ hI1 hR1 hS1 hl1)
            exact ht.elim (fun e => by rw [e]; exact hLI.up) (fun h => by rw [h.2]; exact LI_T hLI (kT_ok h.1).1 (Or.inl rfl) (f3_rg (kT_ok h.1).2.1) (kT_ok h.1).2.2.2.1 ⟨by have := (nb_rg (kT_ok h.1).2.2.1).1; have e : (0 : Int32).toInt = 0 := rfl; omega, (nb_rg (kT_ok h.1).2.2.1).2⟩ (fun _ => nb_rg (kT_ok h.1).2.2.1) (kT_ok h.1).2.2.2.2)
          · refine lv_tableIn (off := 394) (tgt := 433) X.hx X.hb dL_law_39 t1 t2 (by rw [t3]; rfl) (by decide) ?_
            refine l_add X hst hXs hbl hbA hn hL hRf hRl (by omega) (by omega) hLI.1 (hLI.2.2 _ (Nat.le_refl _)) hI hR hS (lv_sub hl [0, 1, 2, 3, 4] rfl) (fun τ1 G1 H1 locs1 ls1 ht hI1 hR1 hS1 hl1 => next τ1 _ _ _ _ ?_ hI1 hR1 hS1 hl1)
            exact ht.elim (fun e => by rw [e]; exact hLI.up) (fun h => by rw [h.2]; exact LI_T hLI (kT_ok h.1).1 (Or.inr (Or.inl rfl)) (f3_rg (kT_ok h.1).2.1) (kT_ok h.1).2.2.2.1 (nb_rg (kT_ok h.1).2.2.1) (fun h9 => absurd h9 (by decide)) (kT_ok h.1).2.2.2.2)
          · refine lv_tableIn (off := 486) (tgt := 525) X.hx X.hb dL_law_39 t1 t2 (by rw [t3]; rfl) (by decide) ?_
            refine l_cancel X hst hXs hbl hbA hn hL hRf hRl (by omega) (by omega) hLI.1 (hLI.2.2 _ (Nat.le_refl _)) hI hR hS (lv_sub hl [0, 1, 2, 3, 4] rfl) (fun τ1 G1 H1 locs1 ls1 ht hI1 hR1 hS1 hl1 => next τ1 _ _ _ _ ?_ hI1 hR1 hS1 hl1)
            exact ht.elim (fun e => by rw [e]; exact hLI.up) (fun h => by rw [h.2]; exact LI_T hLI (kT_ok h.1).1 (Or.inr (Or.inr (Or.inl rfl))) ⟨by decide, by decide⟩ (kT_ok h.1).2.2.2.1 ⟨by decide, by decide⟩ (fun h9 => absurd h9 (by decide)) (kT_ok h.1).2.2.2.2)
          · refine lv_tableIn (off := 554) (tgt := 593) X.hx X.hb dL_law_39 t1 t2 (by rw [t3]; rfl) (by decide) ?_
            refine l_reinstate X hst hXs hbl hbA hn hL hRf hRl (by omega) (by omega) hLI.1 (hLI.2.2 _ (Nat.le_refl _)) hI hR hS (lv_sub hl [0, 1, 2, 3, 4] rfl) (fun τ1 G1 H1 locs1 ls1 ht hI1 hR1 hS1 hl1 => next τ1 _ _ _ _ ?_ hI1 hR1 hS1 hl1)
            exact ht.elim (fun e => by rw [e]; exact hLI.up) (fun h => by rw [h.2]; exact LI_T hLI (kT_ok h.1).1 (Or.inr (Or.inr (Or.inr rfl))) ⟨by decide, by decide⟩ (kT_ok h.1).2.2.2.1 ⟨by decide, by decide⟩ (fun h9 => absurd h9 (by decide)) (kT_ok h.1).2.2.2.2)
          · refine lv_tableIn (off := 622) (tgt := 661) X.hx X.hb dL_law_39 t1 t2 (by rw [t3]; rfl) (by decide) ?_
            refine l_takeBack X hst hXs hbl hbA hn hL hRf hRl (by omega) (by omega) hLI.1 (hLI.2.2 _ (Nat.le_refl _)) hI hR hS (lv_sub hl [0, 1, 2, 3, 4] rfl) (fun τ1 G1 H1 locs1 ls1 ht hI1 hR1 hS1 hl1 => next τ1 _ _ _ _ ?_ hI1 hR1 hS1 hl1)
            exact ht.elim (fun e => by rw [e]; exact hLI.up) (fun h => by rw [h.2]; exact LI_K hLI)
          · refine lv_tableIn (off := 678) (tgt := 717) X.hx X.hb dL_law_39 t1 t2 (by rw [t3]; rfl) (by decide) ?_
            refine l_changes X hst hXs hbl hbA hn hL hRf hRl (by omega) (by omega) hLI.1 (hLI.2.2 _ (Nat.le_refl _)) hI hR hS (lv_sub hl [0, 1, 2, 3, 4] rfl) (fun τ1 G1 H1 locs1 ls1 ht hI1 hR1 hS1 hl1 => next τ1 _ _ _ _ ?_ hI1 hR1 hS1 hl1)
            rw [ht]; exact hLI.up
          · refine lv_tableIn (off := 691) (tgt := 730) X.hx X.hb dL_law_39 t1 t2 (by rw [t3]; rfl) (by decide) ?_
            refine l_laidAnew X hst hXs hbl hbA hn hL hRf hRl (by omega) (by omega) hLI.1 (hLI.2.2 _ (Nat.le_refl _)) hI hR hS (lv_sub hl [0, 1, 2, 3, 4] rfl) (fun τ1 G1 H1 locs1 ls1 ht hI1 hR1 hS1 hl1 => next τ1 _ _ _ _ ?_ hI1 hR1 hS1 hl1)
            exact ht.elim (fun e => by rw [e]; exact hLI.up) (fun h => by rw [h.2]; exact hLI.up)
          · refine lv_tableIn (off := 747) (tgt := 786) X.hx X.hb dL_law_39 t1 t2 (by rw [t3]; rfl) (by decide) ?_
            refine l_value X hst hXs hbl hbA hn hL hRf hRl (by omega) (by omega) hLI.1 (hLI.2.2 _ (Nat.le_refl _)) hI hR hS (lv_sub hl [0, 1, 2, 3, 4] rfl) (fun τ1 G1 H1 locs1 ls1 ht hI1 hR1 hS1 hl1 => next τ1 _ _ _ _ ?_ hI1 hR1 hS1 hl1)
            exact ht.elim (fun e => by rw [e]; exact hLI.up) (fun h => by rw [h.2]; exact hLI.up)
          · refine lv_tableIn (off := 839) (tgt := 878) X.hx X.hb dL_law_39 t1 t2 (by rw [t3]; rfl) (by decide) ?_
            refine l_isCovered X hst hXs hbl hbA hn hL hRf hRl (by omega) (by omega) hLI.1 (hLI.2.2 _ (Nat.le_refl _)) hI hR hS (lv_sub hl [0, 1, 2, 3, 4] rfl) (fun τ1 G1 H1 locs1 ls1 ht hI1 hR1 hS1 hl1 => next τ1 _ _ _ _ ?_ hI1 hR1 hS1 hl1)
            exact ht.elim (fun e => by rw [e]; exact hLI.up) (fun h => by rw [h.2]; exact hLI.up)
          · refine lv_tableIn (off := 926) (tgt := 965) X.hx X.hb dL_law_39 t1 t2 (by rw [t3]; rfl) (by decide) ?_
            refine l_rate X hst hXs hbl hbA hn hL hRf hRl (by omega) (by omega) hLI.1 (hLI.2.2 _ (Nat.le_refl _)) hI hR hS (lv_sub hl [0, 1, 2, 3, 4] rfl) (fun τ1 G1 H1 locs1 ls1 ht hI1 hR1 hS1 hl1 => next τ1 _ _ _ _ ?_ hI1 hR1 hS1 hl1)
            exact ht.elim (fun e => by rw [e]; exact hLI.up) (fun h => by rw [h.2]; exact hLI.up)
          · refine lv_tableIn (off := 1006) (tgt := 1045) X.hx X.hb dL_law_39 t1 t2 (by rw [t3]; rfl) (by decide) ?_
            refine l_segments X hst hXs hbl hbA hn hL hRf hRl (by omega) (by omega) hLI.1 (hLI.2.2 _ (Nat.le_refl _)) hI hR hS (lv_sub hl [0, 1, 2, 3, 4] rfl) (fun τ1 G1 H1 locs1 ls1 ht hI1 hR1 hS1 hl1 => next τ1 _ _ _ _ ?_ hI1 hR1 hS1 hl1)
            exact ht.elim (fun e => by rw [e]; exact hLI.up) (fun h => by rw [h.2]; exact hLI.up)
          · refine lv_tableIn (off := 1074) (tgt := 1113) X.hx X.hb dL_law_39 t1 t2 (by rw [t3]; rfl) (by decide) ?_
            refine l_segmentStart X hst hXs hbl hbA hn hL hRf hRl (by omega) (by omega) hLI.1 (hLI.2.2 _ (Nat.le_refl _)) hI hR hS (lv_sub hl [0, 1, 2, 3, 4] rfl) (fun τ1 G1 H1 locs1 ls1 ht hI1 hR1 hS1 hl1 => next τ1 _ _ _ _ ?_ hI1 hR1 hS1 hl1)
            exact ht.elim (fun e => by rw [e]; exact hLI.up) (fun h => by rw [h.2]; exact hLI.up)
          · refine lv_tableIn (off := 1154) (tgt := 1193) X.hx X.hb dL_law_39 t1 t2 (by rw [t3]; rfl) (by decide) ?_
            refine l_segmentPremium X hst hXs hbl hbA hn hL hRf hRl (by omega) (by omega) hLI.1 (hLI.2.2 _ (Nat.le_refl _)) hI hR hS (lv_sub hl [0, 1, 2, 3, 4] rfl) (fun τ1 G1 H1 locs1 ls1 ht hI1 hR1 hS1 hl1 => next τ1 _ _ _ _ ?_ hI1 hR1 hS1 hl1)
            exact ht.elim (fun e => by rw [e]; exact hLI.up) (fun h => by rw [h.2]; exact hLI.up)
          · refine lv_tableIn (off := 1234) (tgt := 1273) X.hx X.hb dL_law_39 t1 t2 (by rw [t3]; rfl) (by decide) ?_
            refine l_premium X hst hXs hbl hbA hn hL hRf hRl (by omega) (by omega) hLI.1 (hLI.2.2 _ (Nat.le_refl _)) hI hR hS (lv_sub hl [0, 1, 2, 3, 4] rfl) (fun τ1 G1 H1 locs1 ls1 ht hI1 hR1 hS1 hl1 => next τ1 _ _ _ _ ?_ hI1 hR1 hS1 hl1)
            exact ht.elim (fun e => by rw [e]; exact hLI.up) (fun h => by rw [h.2]; exact hLI.up)
          · refine lv_tableIn (off := 1302) (tgt := 1341) X.hx X.hb dL_law_39 t1 t2 (by rw [t3]; rfl) (by decide) ?_
            refine l_premiumByDays X hst hXs hbl hbA hn hL hRf hRl (by omega) (by omega) hLI.1 (hLI.2.2 _ (Nat.le_refl _)) hI hR hS (lv_sub hl [0, 1, 2, 3, 4] rfl) (fun τ1 G1 H1 locs1 ls1 ht hI1 hR1 hS1 hl1 => next τ1 _ _ _ _ ?_ hI1 hR1 hS1 hl1)
            exact ht.elim (fun e => by rw [e]; exact hLI.up) (fun h => by rw [h.2]; exact hLI.up)
          · refine lv_tableIn (off := 1370) (tgt := 1409) X.hx X.hb dL_law_39 t1 t2 (by rw [t3]; rfl) (by decide) ?_
            refine l_bill X hst hXs hbl hbA hn hL hRf hRl (by omega) (by omega) hLI.1 (hLI.2.2 _ (Nat.le_refl _)) hI hR hS (lv_sub hl [0, 1, 2, 3, 4] rfl) (fun τ1 G1 H1 locs1 ls1 ht hI1 hR1 hS1 hl1 => next τ1 _ _ _ _ ?_ hI1 hR1 hS1 hl1)
            rcases ht with rfl | ⟨h1, rfl⟩
            · exact hLI.up
            · have hp := (if_no h1 (by decide)).1
              obtain ⟨i9, hi9, he9⟩ := plc (Nat.lt_of_le_of_lt hLI.1.1 (by decide)) (fun h9 => hp (Or.inl h9)) (Classical.not_not.mp (fun h9 => hp (Or.inr h9)))
              refine LI_B hLI ?_
              rw [he9, nI_clamp (by have := hLI.1.1; omega)]; exact hi9
          · refine lv_tableIn (off := 1426) (tgt := 1465) X.hx X.hb dL_law_39 t1 t2 (by rw [t3]; rfl) (by decide) ?_
            refine l_billed X hst hXs hbl hbA hn hL hRf hRl (by omega) (by omega) hLI.1 (hLI.2.2 _ (Nat.le_refl _)) hI hR hS (lv_sub hl [0, 1, 2, 3, 4] rfl) (fun τ1 G1 H1 locs1 ls1 ht hI1 hR1 hS1 hl1 => next τ1 _ _ _ _ ?_ hI1 hR1 hS1 hl1)
            exact ht.elim (fun e => by rw [e]; exact hLI.up) (fun h => by rw [h.2]; exact hLI.up)

set_option maxHeartbeats 4000000 in
theorem law_entry (X : Cx pp ss mm args cc0 Γ code 7 RX0) (hst : l.stackTraces = false) {b L : Nat} {xs : Nat → Int32} (hXs : va_X b L xs ss ss.heap) (hbl : b < ss.heap.size) (hbA : ¬ gA Γ b) (hL : L ≤ 320) (hRf : 100 ≤ R.frames) (hRl : 20000 ≤ R.locals) (hRc : 1200384 ≤ R.cells) (hRs : 5489322 ≤ R.slots)
    (kend : ∀ (H1 : Heap) (locs1 : List Loc) (ls1 : Array Slot) (c1 s1 : Nat), va_S (gA Γ) ss.heap H1 locs1 → c1 ≤ 1200384 → s1 ≤ 5489322 → W pp l ee R ss mm args below meth cc0 H1 locs1 c1 s1 Q (F0 mm 1527 ls1 []))
    {G : GH} {ls : Array Slot} (hC : CN Γ G) (hR : Rep Γ G ss.heap) (hS : va_S (gA Γ) ss.heap ss.heap []) (hl : lv_has ls 7 [(0, .ref b)]) : W pp l ee R ss mm args below meth cc0 ss.heap [] 0 0 Q (F0 mm 0 ls []) := by
  refine g_new (ci := 0) X hR hS (0, 0) (C := RX1) (T := TX1) (N := 5) rfl in_X1 tyX1 tyX1_ok q81 q82 q36 (fs := [.null, .null, .null, .int 0, .null]) (fun j hj => by rcases (show j = 0 ∨ j = 1 ∨ j = 2 ∨ j = 3 ∨ j = 4 by omega) with rfl | rfl | rfl | rfl | rfl <;> rfl) (by (try dsimp only [RM]); omega) (by (try dsimp only [RM]); omega) dL_law_0 (fun q854 H hq856 hR855 hS857 => ?_)
  obtain ⟨G858, hG858⟩ : ∃ z : GH, z = gu G q854 ((0, 0), .inr (0, [.null, .null, .null, .int 0, .null])) := ⟨_, rfl⟩
  have hR855 : Rep Γ G858 H := by rw [hG858]; exact hR855
  have f859 : G858 q854 = some ((0, 0), .inr (0, [.null, .null, .null, .int 0, .null])) := by rw [hG858]; exact gu_s _ _ _
  refine lv_dup X.hx X.hb dL_law_3 rfl ?_
  have hg0 : gK (fun _ => False) G G858 := gK.nw hG858 hq856
  have hC0 := hC.keep hg0 (fun _ h => h.elim)
  refine gcI X hl.1 hR855 hS857 0 [] [.ref q854] (c_binit l Γ G858 f859 hC0) q83 q84 q36 q85 rfl rfl rfl ⟨by decide +kernel, by decide +kernel, by decide +kernel⟩ ⟨by (try dsimp only [RM]); omega, by (try dsimp only [RM]); omega⟩ rfl rfl (Nat.le_of_ble_eq_true rfl) dL_law_4 ⟨by (try dsimp only [RM]); omega, by (try dsimp only [RM]); omega⟩ (fun v863 G864 H locs hq860 hR861 hS862 => ?_)
  obtain ⟨rfl, ⟨A, hX⟩, hg1⟩ := hq860
  refine lv_astore_n (lv' := [(1, .ref q854), (0, .ref b)]) X.hx X.hb dL_law_7 rfl hl (by decide) rfl (fun ls hl => ?_)
  refine g_new (ci := 1) X hR861 hS862 (30, 0) (C := RX2) (T := TX2) (N := 21) rfl in_X2 tyX2 tyX2_ok q1289 q1290 q40 (fs := [.int 0, .null, .null, .int 0, .int 0, .null, .null, .null, .int 0, .null, .null, .null, .null, .null, .null, .null, .null, .null, .null, .null, .int 0]) (fun j hj => by rcases (show j = 0 ∨ j = 1 ∨ j = 2 ∨ j = 3 ∨ j = 4 ∨ j = 5 ∨ j = 6 ∨ j = 7 ∨ j = 8 ∨ j = 9 ∨ j = 10 ∨ j = 11 ∨ j = 12 ∨ j = 13 ∨ j = 14 ∨ j = 15 ∨ j = 16 ∨ j = 17 ∨ j = 18 ∨ j = 19 ∨ j = 20 by omega) with rfl | rfl | rfl | rfl | rfl | rfl | rfl | rfl | rfl | rfl | rfl | rfl | rfl | rfl | rfl | rfl | rfl | rfl | rfl | rfl | rfl <;> rfl) (by (try dsimp only [RM]); omega) (by (try dsimp only [RM]); omega) dL_law_8 (fun q865 H hq867 hR866 hS868 => ?_)
  obtain ⟨G869, hG869⟩ : ∃ z : GH, z = gu G864 q865 ((30, 0), .inr (1, [.int 0, .null, .null, .int 0, .int 0, .null, .null, .null, .int 0, .null, .null, .null, .null, .null, .null, .null, .null, .null, .null, .null, .int 0])) := ⟨_, rfl⟩
  have hR866 : Rep Γ G869 H := by rw [hG869]; exact hR866
  have f870 : G869 q865 = some ((30, 0), .inr (1, [.int 0, .null, .null, .int 0, .int 0, .null, .null, .null, .int 0, .null, .null, .null, .null, .null, .null, .null, .null, .null, .null, .null, .int 0])) := by rw [hG869]; exact gu_s _ _ _
  refine lv_dup X.hx X.hb dL_law_11 rfl ?_
  have hg2 : gK (fun _ => False) _ G869 := gK.nw hG869 hq867
  have hX1 := hX.kn hg2
  refine gcI X hl.1 hR866 hS868 0 [] [.ref q865] (m_init l Γ G869 f870) q1291 q1292 q40 q1293 rfl rfl rfl ⟨by decide +kernel, by decide +kernel, by decide +kernel⟩ ⟨by (try dsimp only [RM]); omega, by (try dsimp only [RM]); omega⟩ rfl rfl (Nat.le_of_ble_eq_true rfl) dL_law_12 ⟨by (try dsimp only [RM]); omega, by (try dsimp only [RM]); omega⟩ (fun v874 G875 H locs hq871 hR872 hS873 => ?_)
  obtain ⟨rfl, ⟨B, hM⟩, hg3⟩ := hq871
  refine lv_astore_n (lv' := [(2, .ref q865), (1, .ref q854), (0, .ref b)]) X.hx X.hb dL_law_15 rfl hl (by decide) rfl (fun ls hl => ?_)
  refine lv_iconst (v := 1) X.hx X.hb dL_law_16 (by decide) ?_
  refine g_newa (atype := .long) (ty := .long) (N := 1) (a0 := (1, .inr (.inl (fun _ => 0)))) X hR872 hS873 (40, 0) 2 q1504 rfl rfl (fun _ h => h) (fun _ => rfl) (by decide) (by decide) (by decide) (by (try dsimp only [RM]); omega) (by (try dsimp only [RM]); omega) dL_law_17 (fun q876 H hq878 hR877 hS879 => ?_)
  obtain ⟨G880, hG880⟩ : ∃ z : GH, z = gu G875 q876 ((40, 0), .inl (Γ.2 3, 1, .inr (.inl (fun _ => 0)))) := ⟨_, rfl⟩
  have hR877 : Rep Γ G880 H := by rw [hG880]; exact hR877
  have f881 : G880 q876 = some ((40, 0), .inl (Γ.2 3, 1, .inr (.inl (fun _ => 0)))) := by rw [hG880]; exact gu_s _ _ _
  refine lv_astore_n (lv' := [(3, .ref q876), (2, .ref q865), (1, .ref q854), (0, .ref b)]) X.hx X.hb dL_law_19 rfl hl (by decide) rfl (fun ls hl => ?_)
  refine lv_iconst (v := 0) X.hx X.hb dL_law_20 (by decide) ?_
  refine lv_istore (lv' := [(4, .int 0), (3, .ref q876), (2, .ref q865), (1, .ref q854), (0, .ref b)]) X.hx X.hb dL_law_21 hl (by decide) rfl (fun ls hl => ?_)
  have hg4 : gK (fun _ => False) _ G880 := gK.nw hG880 hq878
  have hX3 := (hX1.tm hg3).kn hg4
  have hM3 : MP Γ G880 q865 (fun _ => 0, fun _ _ => 0) 0 B := hM.keep hg4 (fun _ h => h.elim)
  have hC3 := (((hC0.keep hg1 (fun t (ht : t.1 < 30) => by omega)).keep hg2 (fun _ h => h.elim)).keep hg3 (fun t ht => Nat.lt_trans ht.2 (by decide))).keep hg4 (fun _ h => h.elim)
  exact law_loop X hst hXs hbl hbA hL hRf hRl hRc hRs kend 65 0 _ _ _ _ _ _ _ (by omega) (by omega) (by omega) (by omega) LI_0 ⟨⟨_, hX3⟩, ⟨_, _, hM3⟩, hC3, _, f881⟩ hR877 hS879 (lv_sub hl [4, 3, 2, 1, 0] rfl)

end LAWL
