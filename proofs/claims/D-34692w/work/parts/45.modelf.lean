set_option maxRecDepth 100000
/-! the model: segments found; its making -/
def AT (r : Nat → Int32) (sg : Int32) : Nat → Int32
  | 0 => -1
  | n + 1 => if bgn r n ∧ nI (sn r n) = sg then nI n else AT r sg n
theorem AT_nat {r : Nat → Int32} {j : Nat} (hj : j < 2 ^ 31) : ∀ n, n ≤ 365 → AT r (nI j) n = if j < sn r n then nI (sdy r j n) else -1 := by
  intro n
  induction n with
  | zero => intro _; rw [if_neg (show ¬ j < sn r 0 from Nat.not_lt_zero j)]; rfl
  | succ n ih =>
    intro hn
    have hsl := sn_le (r := r) n
    rw [AT, sdy]
    by_cases hc : bgn r n ∧ sn r n = j
    · have hc1 : bgn r n ∧ nI (sn r n) = nI j := ⟨hc.1, by rw [hc.2]⟩
      have h2 := hc.2
      rw [if_pos hc1, if_pos hc, sn_y hc.1, if_pos (show j < sn r n + 1 by omega)]
    · have hc1 : ¬ (bgn r n ∧ nI (sn r n) = nI j) := fun h9 => hc ⟨h9.1, (nI_eq (by omega) hj).mp h9.2⟩
      rw [if_neg hc1, if_neg hc, ih (by omega)]
      have h3 : j < sn r n ↔ j < sn r (n + 1) := by
        by_cases hb : bgn r n
        · rw [sn_y hb]
          have h4 : sn r n ≠ j := fun h => hc ⟨hb, h⟩
          omega
        · rw [sn_n hb]
      by_cases h1 : j < sn r n
      · rw [if_pos h1, if_pos (h3.mp h1)]
      · rw [if_neg h1, if_neg (fun h9 => h1 (h3.mpr h9))]
theorem AT_no {r : Nat → Int32} {sg : Int32} (h : bdP (nI (sn r 365)) sg) : AT r sg 365 = -1 := by
  have hsl := sn_le (r := r) 365
  by_cases h0 : sg < 0
  · have : ∀ n, n ≤ 365 → AT r sg n = -1 := by
      intro n
      induction n with
      | zero => intro _; rfl
      | succ n ih =>
        intro hn
        have hs2 := sn_le (r := r) n
        rw [AT, if_neg, ih (by omega)]
        rintro ⟨-, h9⟩
        rw [← h9] at h0
        exact nI_pos (by omega) h0
    exact this 365 (Nat.le_refl _)
  · obtain ⟨j, hj, rfl⟩ := nI_of h0
    rw [AT_nat hj 365 (Nat.le_refl _), if_neg]
    intro h9
    exact (h.resolve_left h0) (nI_lt h9 (by omega))
theorem AT_yes {r : Nat → Int32} {sg : Int32} (h : ¬ bdP (nI (sn r 365)) sg) : AT r sg 365 = nI (sdy r sg.toNatClampNeg 365) := by
  have hsl := sn_le (r := r) 365
  obtain ⟨j, hj, rfl⟩ := plc (by omega) (fun h9 => h (Or.inl h9)) (Classical.not_not.mp (fun h9 => h (Or.inr h9)))
  rw [AT_nat (by omega) 365 (Nat.le_refl _), if_pos hj, nI_clamp (by omega)]
theorem sdy_le {r : Nat → Int32} {j : Nat} : ∀ n, sdy r j n ≤ n := by
  intro n
  induction n with
  | zero => exact Nat.le_refl 0
  | succ n ih =>
    rw [sdy]
    split
    · omega
    · omega
theorem kS_ok {σ : MS} {p sg kn : Int32} (h : kS σ p sg kn = 0) : ∃ d, d < 365 ∧ bgn (rtA σ p.toNatClampNeg kn) d ∧ sdy (rtA σ p.toNatClampNeg kn) sg.toNatClampNeg 365 = d := by
  unfold kS at h
  by_cases h1 : bad 0 (σ.2 12 0) kn
  · rw [if_pos h1] at h; exact absurd h (by decide)
  · rw [if_neg h1] at h
    by_cases h2 : bdP (nI (σ.1 0)) p ∨ bdP (nI (nS σ p kn)) sg
    · rw [if_pos h2] at h; exact absurd h (by decide)
    · have h3 : ¬ bdP (nI (nS σ p kn)) sg := fun h9 => h2 (Or.inr h9)
      have hsl := sn_le (r := rtA σ p.toNatClampNeg kn) 365
      obtain ⟨j, hj, rfl⟩ := plc (n := nS σ p kn) (by unfold nS; omega) (fun h9 => h3 (Or.inl h9)) (Classical.not_not.mp (fun h9 => h3 (Or.inr h9)))
      obtain ⟨d, hd, hb, rfl⟩ := sn_ex 365 hj
      have := sn_le (r := rtA σ p.toNatClampNeg kn) d
      exact ⟨d, hd, hb, by rw [nI_clamp (by omega)]; exact sdy_eq hb _ hd⟩

set_option maxHeartbeats 4000000 in
theorem m_found (l : Launch) (Γ : GP) (G : GH) {m : Nat} {σ : MS} {th : Int32} {B : Nat → Nat} (hW : WF σ) (hM : MP Γ G m σ th B) {p sg kn : Int32} : MetG l yX2_found (ws_ yX2_found cX2_found 9 (some .int)) (RM 6 0 0) Γ G [.ref m, .int p, .int sg, .int kn] (fun v G1 => ((kS σ p sg kn = 0 ∧ v = some (.int (nI (sdy (rtA σ p.toNatClampNeg kn) sg.toNatClampNeg 365))) ∧ MP Γ G1 m σ 0 B ∧ LV5 Γ G1 σ p.toNatClampNeg kn B) ∨ (kS σ p sg kn ≠ 0 ∧ v = some (.int (-1)) ∧ MP Γ G1 m σ (kS σ p sg kn) B)) ∧ gK TMm G G1) 0 0 := by
  refine gMet (own := RX2) (by decide) rfl (Nat.le_of_ble_eq_true rfl) ?_
  intro pp ee ss mm below meth cc0 ls X hr hlk hin hnm hR hS hl
  have hl : lv_has ls 9 [(0, .ref m), (1, .int p), (2, .int sg), (3, .int kn)] := hl
  have hm : G m = some (MOc (nI (σ.1 0)) (σ.2 12 0) (nI (σ.1 1)) (nI (σ.1 2)) th B) := hM.1
  refine lv_iconst (v := (-1)) X.hx X.hb dX2_found_0 (by decide) ?_
  refine lv_istore (lv' := [(4, .int (-1)), (0, .ref m), (1, .int p), (2, .int sg), (3, .int kn)]) X.hx X.hb dX2_found_1 hl (by decide) rfl (fun ls hl => ?_)
  refine lv_iload_n X.hx X.hb dX2_found_3 rfl (lv_at hl 4 rfl) ?_
  refine lv_iconst (v := 0) X.hx X.hb dX2_found_4 (by decide) ?_
  refine lv_aload_n X.hx X.hb dX2_found_5 rfl (lv_at hl 1 rfl) ?_
  refine g_get X hR hm rfl in_X2 3 (by decide) q1298 (fun _ h => h) rfl dX2_found_6 ?_
  refine gcS X hl.1 hR hS 3 [.int kn, .int 0, .int (σ.2 12 0)] [] (m_isIn l Γ G) q1368 q1369 q40 q1370 rfl rfl ⟨by decide +kernel, by decide +kernel, by decide +kernel⟩ ⟨by (try dsimp only [RM]); omega, by (try dsimp only [RM]); omega⟩ rfl rfl (Nat.le_of_ble_eq_true rfl) dX2_found_9 ⟨by (try dsimp only [RM]); omega, by (try dsimp only [RM]); omega⟩ (fun v806 G807 H locs hq803 hR804 hS805 => ?_)
  obtain ⟨rfl, rfl⟩ := hq803
  by_cases hK : bad 0 (σ.2 12 0) kn
  · rw [if_pos hK]
    refine lv_istore (lv' := [(5, .int 0), (4, .int (-1)), (0, .ref m), (1, .int p), (2, .int sg), (3, .int kn)]) X.hx X.hb dX2_found_12 hl (by decide) rfl (fun ls hl => ?_)
    refine lv_iload X.hx X.hb dX2_found_14 (lv_at hl 0 rfl) ?_
    refine lv_if_eq (tgt := 34) X.hx X.hb dX2_found_16 (by decide) (fun c16 => ?_) (fun c16 => ?_)
    · refine lv_iconst (v := 0) X.hx X.hb dX2_found_34 (by decide) ?_
      refine lv_istore (lv' := [(6, .int 0), (5, .int 0), (4, .int (-1)), (0, .ref m), (1, .int p), (2, .int sg), (3, .int kn)]) X.hx X.hb dX2_found_35 hl (by decide) rfl (fun ls hl => ?_)
      refine lv_iconst (v := 0) X.hx X.hb dX2_found_37 (by decide) ?_
      refine lv_istore (lv' := [(7, .int 0), (6, .int 0), (5, .int 0), (4, .int (-1)), (0, .ref m), (1, .int p), (2, .int sg), (3, .int kn)]) X.hx X.hb dX2_found_38 hl (by decide) rfl (fun ls hl => ?_)
      refine lv_iconst (v := 0) X.hx X.hb dX2_found_40 (by decide) ?_
      refine lv_istore (lv' := [(8, .int 0), (7, .int 0), (6, .int 0), (5, .int 0), (4, .int (-1)), (0, .ref m), (1, .int p), (2, .int sg), (3, .int kn)]) X.hx X.hb dX2_found_41 hl (by decide) rfl (fun ls hl => ?_)
      refine lv_iload X.hx X.hb dX2_found_43 (lv_at hl 2 rfl) ?_
      refine lv_if_eq (tgt := 105) X.hx X.hb dX2_found_45 (by decide) (fun c45 => ?_) (fun c45 => ?_)
      · refine lv_aload_n X.hx X.hb dX2_found_105 rfl (lv_at hl 5 rfl) ?_
        refine lv_iload X.hx X.hb dX2_found_106 (lv_at hl 3 rfl) ?_
        refine lv_if_ne (tgt := 115) X.hx X.hb dX2_found_108 (by decide) (fun c108 => ?_) (fun c108 => ?_)
        · exact absurd rfl c108
        · refine lv_iconst (v := 1) X.hx X.hb dX2_found_111 (by decide) ?_
          refine lv_goto (tgt := 125) X.hx X.hb dX2_found_112 (by decide) ?_
          refine g_put X hR804 hS805 hm (Nat.le_of_ble_eq_true rfl) rfl in_X2 tyX2 tyX2_ok nmX2 20 (by decide) q1315 (fun _ h => h) rfl rfl rfl (Nat.le_of_ble_eq_true rfl) dX2_found_125 (fun H locs hR808 hS809 => ?_)
          obtain ⟨G810, hG810⟩ : ∃ z : GH, z = gu G m ((30, 0), .inr (1, [.int (nI (σ.1 0)), .ref (B 0), .ref (B 1), .int (σ.2 12 0), .int (nI (σ.1 1)), .ref (B 2), .ref (B 3), .ref (B 4), .int (nI (σ.1 2)), .ref (B 5), .ref (B 6), .ref (B 7), .ref (B 8), .ref (B 9), .ref (B 10), .ref (B 11), .ref (B 12), .ref (B 13), .ref (B 14), .ref (B 15), .int 1])) := ⟨_, rfl⟩
          have hR808 : Rep Γ G810 H := by rw [hG810]; exact hR808
          have f811 : G810 m = some ((30, 0), .inr (1, [.int (nI (σ.1 0)), .ref (B 0), .ref (B 1), .int (σ.2 12 0), .int (nI (σ.1 1)), .ref (B 2), .ref (B 3), .ref (B 4), .int (nI (σ.1 2)), .ref (B 5), .ref (B 6), .ref (B 7), .ref (B 8), .ref (B 9), .ref (B 10), .ref (B 11), .ref (B 12), .ref (B 13), .ref (B 14), .ref (B 15), .int 1])) := by rw [hG810]; exact gu_s _ _ _
          have hM812 := hM.obj hG810
          refine lv_iload X.hx X.hb dX2_found_128 (lv_at hl 4 rfl) ?_
          have hkk : kS σ p sg kn = 1 := by rw [kS, if_pos hK]
          exact g_iret X hr hlk hR808 hS809 (⟨Or.inr ⟨by rw [hkk]; decide, rfl, by rw [hkk]; exact hM812⟩, (gK.pt hG810 hm (by show 30 ≤ 30 ∧ 30 < 40; decide))⟩) (by (try dsimp only [RM]); omega) (by (try dsimp only [RM]); omega) dX2_found_130
      · exact absurd (by decide) c45
    · exact absurd (by decide) c16
  · rw [if_neg hK]
    refine lv_istore (lv' := [(5, .int 1), (4, .int (-1)), (0, .ref m), (1, .int p), (2, .int sg), (3, .int kn)]) X.hx X.hb dX2_found_12 hl (by decide) rfl (fun ls hl => ?_)
    refine lv_iload X.hx X.hb dX2_found_14 (lv_at hl 0 rfl) ?_
    refine lv_if_eq (tgt := 34) X.hx X.hb dX2_found_16 (by decide) (fun c16 => ?_) (fun c16 => ?_)
    · exact absurd c16 (by decide)
    · refine lv_aload_n X.hx X.hb dX2_found_19 rfl (lv_at hl 2 rfl) ?_
      refine lv_iload_n X.hx X.hb dX2_found_20 rfl (lv_at hl 3 rfl) ?_
      refine lv_iconst (v := 0) X.hx X.hb dX2_found_21 (by decide) ?_
      refine lv_iconst (v := 0) X.hx X.hb dX2_found_22 (by decide) ?_
      refine lv_iload_n X.hx X.hb dX2_found_23 rfl (lv_at hl 5 rfl) ?_
      refine gcV X hl.1 hR804 hS805 4 [.int p, .int 0, .int 0, .int kn] [] (m_looks l Γ G hW hM) hm rfl q1437 q1439 qs28 q40 q1440 rfl rfl ⟨rfl, by decide +kernel, by decide +kernel, by decide +kernel⟩ ⟨by (try dsimp only [RM]); omega, by (try dsimp only [RM]); omega⟩ rfl rfl (Nat.le_of_ble_eq_true rfl) dX2_found_24 ⟨by (try dsimp only [RM]); omega, by (try dsimp only [RM]); omega⟩ (fun v816 G817 H locs hq813 hR814 hS815 => ?_)
      obtain ⟨hlk9, hgl⟩ := hq813
      rcases hlk9 with ⟨hk0, rfl, hML, hLV⟩ | ⟨hk0, rfl, hML⟩
      · have hpk : ¬ bdP (nI (σ.1 0)) p ∧ ¬ bdP 3 0 ∧ ¬ bad 0 364 0 ∧ ¬ bad 0 (σ.2 12 0) kn := kV_ok hk0
        obtain ⟨fv, fc, fr, fs, h12, h13, h14, h15, hV, hD9⟩ := id hLV
        have hm : G817 m = some (MOc (nI (σ.1 0)) (σ.2 12 0) (nI (σ.1 1)) (nI (σ.1 2)) 0 B) := hML.1
        refine lv_if_eq (tgt := 34) X.hx X.hb dX2_found_27 (by decide) (fun c27 => ?_) (fun c27 => ?_)
        · exact absurd c27 (by decide)
        · refine lv_iconst (v := 1) X.hx X.hb dX2_found_30 (by decide) ?_
          refine lv_goto (tgt := 35) X.hx X.hb dX2_found_31 (by decide) ?_
          refine lv_istore (lv' := [(6, .int 1), (5, .int 1), (4, .int (-1)), (0, .ref m), (1, .int p), (2, .int sg), (3, .int kn)]) X.hx X.hb dX2_found_35 hl (by decide) rfl (fun ls hl => ?_)
          refine lv_iconst (v := 0) X.hx X.hb dX2_found_37 (by decide) ?_
          refine lv_istore (lv' := [(7, .int 0), (6, .int 1), (5, .int 1), (4, .int (-1)), (0, .ref m), (1, .int p), (2, .int sg), (3, .int kn)]) X.hx X.hb dX2_found_38 hl (by decide) rfl (fun ls hl => ?_)
          refine lv_iconst (v := 0) X.hx X.hb dX2_found_40 (by decide) ?_
          refine lv_istore (lv' := [(8, .int 0), (7, .int 0), (6, .int 1), (5, .int 1), (4, .int (-1)), (0, .ref m), (1, .int p), (2, .int sg), (3, .int kn)]) X.hx X.hb dX2_found_41 hl (by decide) rfl (fun ls hl => ?_)
          have loop : ∀ (n j : Nat) (H : Heap) (locs : List Loc) (ls : Array Slot), j ≤ 365 → 365 - j < n → Rep Γ G817 H → va_S (gA Γ) ss.heap H locs → lv_has ls 9 [(0, .ref m), (1, .int p), (2, .int sg), (3, .int kn), (4, .int (AT (rtA σ p.toNatClampNeg kn) sg j)), (5, .int 1), (6, .int 1), (7, .int (nI (sn (rtA σ p.toNatClampNeg kn) j))), (8, .int (nI j))] → W pp l ee (RM 6 0 0) ss mm (List.toArray [.ref m, .int p, .int sg, .int kn]) below meth cc0 H locs (0 + 0 + 0) (0 + 0 + 0) (MQ below (Qg Γ (fun v G1 => ((kS σ p sg kn = 0 ∧ v = some (.int (nI (sdy (rtA σ p.toNatClampNeg kn) sg.toNatClampNeg 365))) ∧ MP Γ G1 m σ 0 B ∧ LV5 Γ G1 σ p.toNatClampNeg kn B) ∨ (kS σ p sg kn ≠ 0 ∧ v = some (.int (-1)) ∧ MP Γ G1 m σ (kS σ p sg kn) B)) ∧ gK TMm G G1)) (List.toArray [.ref m, .int p, .int sg, .int kn]) ss 0 0 (gA Γ)) (F0 mm 43 ls []) := by
            intro n
            induction n with
            | zero => intro j H locs ls h1 h2; omega
            | succ n ih =>
              intro j H locs ls h1 h2 hR hS hl
              by_cases hj : j < 365
              · refine lv_iload X.hx X.hb dX2_found_43 (lv_at hl 6 rfl) ?_
                refine lv_if_eq (tgt := 105) X.hx X.hb dX2_found_45 (by decide) (fun c45 => ?_) (fun c45 => ?_)
                · exact absurd c45 (by decide)
                · refine lv_iload X.hx X.hb dX2_found_48 (lv_at hl 8 rfl) ?_
                  refine lv_sipush (v := 365) X.hx X.hb dX2_found_50 (by decide) ?_
                  refine lv_icmp_ge (tgt := 105) X.hx X.hb dX2_found_53 (by decide) (fun c53 => ?_) (fun c53 => ?_)
                  · exact absurd c53 (Int32.not_le.mpr (nI_lt hj (by decide)))
                  · refine lv_aload_n X.hx X.hb dX2_found_56 rfl (lv_at hl 0 rfl) ?_
                    refine lv_iload X.hx X.hb dX2_found_57 (lv_at hl 8 rfl) ?_
                    refine gcV X hl.1 hR hS 1 [.int (nI j)] [] (m_begins l Γ G817 hW hML h14 (fun d hd => (hD9.1 d hd).2) hj) hm rfl q1464 q1466 qs31 q40 q1467 rfl rfl ⟨rfl, by decide +kernel, by decide +kernel, by decide +kernel⟩ ⟨by (try dsimp only [RM]); omega, by (try dsimp only [RM]); omega⟩ rfl rfl (Nat.le_of_ble_eq_true rfl) dX2_found_59 ⟨by (try dsimp only [RM]); omega, by (try dsimp only [RM]); omega⟩ (fun v821 G822 H locs hq818 hR819 hS820 => ?_)
                    obtain ⟨rfl, rfl⟩ := hq818
                    by_cases hb : bgn (rtA σ p.toNatClampNeg kn) j
                    · rw [if_pos hb]
                      refine lv_if_eq (tgt := 76) X.hx X.hb dX2_found_62 (by decide) (fun c62 => ?_) (fun c62 => ?_)
                      · exact absurd c62 (by decide)
                      · refine lv_iload X.hx X.hb dX2_found_65 (lv_at hl 7 rfl) ?_
                        refine lv_iload_n X.hx X.hb dX2_found_67 rfl (lv_at hl 2 rfl) ?_
                        refine lv_icmp_ne (tgt := 76) X.hx X.hb dX2_found_68 (by decide) (fun c68 => ?_) (fun c68 => ?_)
                        · refine lv_iload X.hx X.hb dX2_found_76 (lv_at hl 4 rfl) ?_
                          refine lv_topi (fun x823 hx823 => ?_)
                          obtain rfl : x823 = AT (rtA σ p.toNatClampNeg kn) sg (j + 1) := hx823.trans (by rw [AT, if_neg (fun h9 => c68 h9.2)])
                          refine lv_istore (lv' := [(4, .int (AT (rtA σ p.toNatClampNeg kn) sg (j + 1))), (0, .ref m), (1, .int p), (2, .int sg), (3, .int kn), (5, .int 1), (6, .int 1), (7, .int (nI (sn (rtA σ p.toNatClampNeg kn) j))), (8, .int (nI j))]) X.hx X.hb dX2_found_78 hl (by decide) rfl (fun ls hl => ?_)
                          refine lv_iload X.hx X.hb dX2_found_80 (lv_at hl 7 rfl) ?_
                          refine lv_aload_n X.hx X.hb dX2_found_82 rfl (lv_at hl 1 rfl) ?_
                          refine lv_iload X.hx X.hb dX2_found_83 (lv_at hl 8 rfl) ?_
                          refine gcV X hl.1 hR819 hS820 1 [.int (nI j)] [.int (nI (sn (rtA σ p.toNatClampNeg kn) j))] (m_begins l Γ G817 hW hML h14 (fun d hd => (hD9.1 d hd).2) hj) hm rfl q1464 q1466 qs31 q40 q1467 rfl rfl ⟨rfl, by decide +kernel, by decide +kernel, by decide +kernel⟩ ⟨by (try dsimp only [RM]); omega, by (try dsimp only [RM]); omega⟩ rfl rfl (Nat.le_of_ble_eq_true rfl) dX2_found_85 ⟨by (try dsimp only [RM]); omega, by (try dsimp only [RM]); omega⟩ (fun v827 G828 H locs hq824 hR825 hS826 => ?_)
                          obtain ⟨rfl, rfl⟩ := hq824
                          rw [if_pos hb]
                          refine lv_if_eq (tgt := 95) X.hx X.hb dX2_found_88 (by decide) (fun c88 => ?_) (fun c88 => ?_)
                          · exact absurd c88 (by decide)
                          · refine lv_iconst (v := 1) X.hx X.hb dX2_found_91 (by decide) ?_
                            refine lv_goto (tgt := 96) X.hx X.hb dX2_found_92 (by decide) ?_
                            refine lv_iadd X.hx X.hb dX2_found_96 ?_
                            refine lv_topi (fun x829 hx829 => ?_)
                            obtain rfl : x829 = nI (sn (rtA σ p.toNatClampNeg kn) (j + 1)) := hx829.trans (by rw [sn_y hb]; exact nI_1 _)
                            refine lv_istore (lv' := [(7, .int (nI (sn (rtA σ p.toNatClampNeg kn) (j + 1)))), (4, .int (AT (rtA σ p.toNatClampNeg kn) sg (j + 1))), (0, .ref m), (1, .int p), (2, .int sg), (3, .int kn), (5, .int 1), (6, .int 1), (8, .int (nI j))]) X.hx X.hb dX2_found_97 hl (by decide) rfl (fun ls hl => ?_)
                            obtain ⟨x830, hx830⟩ : ∃ y : Int32, y = nI j + 1 := ⟨_, rfl⟩
                            refine lv_iinc (v := x830) (lv' := [(8, .int x830), (7, .int (nI (sn (rtA σ p.toNatClampNeg kn) (j + 1)))), (4, .int (AT (rtA σ p.toNatClampNeg kn) sg (j + 1))), (0, .ref m), (1, .int p), (2, .int sg), (3, .int kn), (5, .int 1), (6, .int 1)]) X.hx X.hb dX2_found_99 hl (k := 8) rfl (by rw [hx830]; rfl) (by decide) rfl (fun ls hl => ?_)
                            refine lv_goto (tgt := 43) X.hx X.hb dX2_found_102 (by decide) ?_
                            rw [hx830, nI_1] at hl
                            exact ih (j + 1) _ _ _ (by omega) (by omega) hR825 hS826 (lv_sub hl [3, 4, 5, 6, 2, 7, 8, 1, 0] rfl)
                        · refine lv_iload X.hx X.hb dX2_found_71 (lv_at hl 8 rfl) ?_
                          refine lv_goto (tgt := 78) X.hx X.hb dX2_found_73 (by decide) ?_
                          refine lv_topi (fun x831 hx831 => ?_)
                          obtain rfl : x831 = AT (rtA σ p.toNatClampNeg kn) sg (j + 1) := hx831.trans (by rw [AT, if_pos ⟨hb, c68⟩])
                          refine lv_istore (lv' := [(4, .int (AT (rtA σ p.toNatClampNeg kn) sg (j + 1))), (0, .ref m), (1, .int p), (2, .int sg), (3, .int kn), (5, .int 1), (6, .int 1), (7, .int (nI (sn (rtA σ p.toNatClampNeg kn) j))), (8, .int (nI j))]) X.hx X.hb dX2_found_78 hl (by decide) rfl (fun ls hl => ?_)
                          refine lv_iload X.hx X.hb dX2_found_80 (lv_at hl 7 rfl) ?_
                          refine lv_aload_n X.hx X.hb dX2_found_82 rfl (lv_at hl 1 rfl) ?_
                          refine lv_iload X.hx X.hb dX2_found_83 (lv_at hl 8 rfl) ?_
                          refine gcV X hl.1 hR819 hS820 1 [.int (nI j)] [.int (nI (sn (rtA σ p.toNatClampNeg kn) j))] (m_begins l Γ G817 hW hML h14 (fun d hd => (hD9.1 d hd).2) hj) hm rfl q1464 q1466 qs31 q40 q1467 rfl rfl ⟨rfl, by decide +kernel, by decide +kernel, by decide +kernel⟩ ⟨by (try dsimp only [RM]); omega, by (try dsimp only [RM]); omega⟩ rfl rfl (Nat.le_of_ble_eq_true rfl) dX2_found_85 ⟨by (try dsimp only [RM]); omega, by (try dsimp only [RM]); omega⟩ (fun v835 G836 H locs hq832 hR833 hS834 => ?_)
                          obtain ⟨rfl, rfl⟩ := hq832
                          rw [if_pos hb]
                          refine lv_if_eq (tgt := 95) X.hx X.hb dX2_found_88 (by decide) (fun c88 => ?_) (fun c88 => ?_)
                          · exact absurd c88 (by decide)
                          · refine lv_iconst (v := 1) X.hx X.hb dX2_found_91 (by decide) ?_
                            refine lv_goto (tgt := 96) X.hx X.hb dX2_found_92 (by decide) ?_
                            refine lv_iadd X.hx X.hb dX2_found_96 ?_
                            refine lv_topi (fun x837 hx837 => ?_)
                            obtain rfl : x837 = nI (sn (rtA σ p.toNatClampNeg kn) (j + 1)) := hx837.trans (by rw [sn_y hb]; exact nI_1 _)
                            refine lv_istore (lv' := [(7, .int (nI (sn (rtA σ p.toNatClampNeg kn) (j + 1)))), (4, .int (AT (rtA σ p.toNatClampNeg kn) sg (j + 1))), (0, .ref m), (1, .int p), (2, .int sg), (3, .int kn), (5, .int 1), (6, .int 1), (8, .int (nI j))]) X.hx X.hb dX2_found_97 hl (by decide) rfl (fun ls hl => ?_)
                            obtain ⟨x838, hx838⟩ : ∃ y : Int32, y = nI j + 1 := ⟨_, rfl⟩
                            refine lv_iinc (v := x838) (lv' := [(8, .int x838), (7, .int (nI (sn (rtA σ p.toNatClampNeg kn) (j + 1)))), (4, .int (AT (rtA σ p.toNatClampNeg kn) sg (j + 1))), (0, .ref m), (1, .int p), (2, .int sg), (3, .int kn), (5, .int 1), (6, .int 1)]) X.hx X.hb dX2_found_99 hl (k := 8) rfl (by rw [hx838]; rfl) (by decide) rfl (fun ls hl => ?_)
                            refine lv_goto (tgt := 43) X.hx X.hb dX2_found_102 (by decide) ?_
                            rw [hx838, nI_1] at hl
                            exact ih (j + 1) _ _ _ (by omega) (by omega) hR833 hS834 (lv_sub hl [3, 4, 5, 6, 2, 7, 8, 1, 0] rfl)
                    · rw [if_neg hb]
                      refine lv_if_eq (tgt := 76) X.hx X.hb dX2_found_62 (by decide) (fun c62 => ?_) (fun c62 => ?_)
                      · refine lv_iload X.hx X.hb dX2_found_76 (lv_at hl 4 rfl) ?_
                        refine lv_topi (fun x839 hx839 => ?_)
                        obtain rfl : x839 = AT (rtA σ p.toNatClampNeg kn) sg (j + 1) := hx839.trans (by rw [AT, if_neg (fun h9 => hb h9.1)])
                        refine lv_istore (lv' := [(4, .int (AT (rtA σ p.toNatClampNeg kn) sg (j + 1))), (0, .ref m), (1, .int p), (2, .int sg), (3, .int kn), (5, .int 1), (6, .int 1), (7, .int (nI (sn (rtA σ p.toNatClampNeg kn) j))), (8, .int (nI j))]) X.hx X.hb dX2_found_78 hl (by decide) rfl (fun ls hl => ?_)
                        refine lv_iload X.hx X.hb dX2_found_80 (lv_at hl 7 rfl) ?_
                        refine lv_aload_n X.hx X.hb dX2_found_82 rfl (lv_at hl 1 rfl) ?_
                        refine lv_iload X.hx X.hb dX2_found_83 (lv_at hl 8 rfl) ?_
                        refine gcV X hl.1 hR819 hS820 1 [.int (nI j)] [.int (nI (sn (rtA σ p.toNatClampNeg kn) j))] (m_begins l Γ G817 hW hML h14 (fun d hd => (hD9.1 d hd).2) hj) hm rfl q1464 q1466 qs31 q40 q1467 rfl rfl ⟨rfl, by decide +kernel, by decide +kernel, by decide +kernel⟩ ⟨by (try dsimp only [RM]); omega, by (try dsimp only [RM]); omega⟩ rfl rfl (Nat.le_of_ble_eq_true rfl) dX2_found_85 ⟨by (try dsimp only [RM]); omega, by (try dsimp only [RM]); omega⟩ (fun v843 G844 H locs hq840 hR841 hS842 => ?_)
                        obtain ⟨rfl, rfl⟩ := hq840
                        rw [if_neg hb]
                        refine lv_if_eq (tgt := 95) X.hx X.hb dX2_found_88 (by decide) (fun c88 => ?_) (fun c88 => ?_)
                        · refine lv_iconst (v := 0) X.hx X.hb dX2_found_95 (by decide) ?_
                          refine lv_iadd X.hx X.hb dX2_found_96 ?_
                          refine lv_topi (fun x845 hx845 => ?_)
                          obtain rfl : x845 = nI (sn (rtA σ p.toNatClampNeg kn) (j + 1)) := hx845.trans (by rw [sn_n hb, Int32.add_zero])
                          refine lv_istore (lv' := [(7, .int (nI (sn (rtA σ p.toNatClampNeg kn) (j + 1)))), (4, .int (AT (rtA σ p.toNatClampNeg kn) sg (j + 1))), (0, .ref m), (1, .int p), (2, .int sg), (3, .int kn), (5, .int 1), (6, .int 1), (8, .int (nI j))]) X.hx X.hb dX2_found_97 hl (by decide) rfl (fun ls hl => ?_)
                          obtain ⟨x846, hx846⟩ : ∃ y : Int32, y = nI j + 1 := ⟨_, rfl⟩
                          refine lv_iinc (v := x846) (lv' := [(8, .int x846), (7, .int (nI (sn (rtA σ p.toNatClampNeg kn) (j + 1)))), (4, .int (AT (rtA σ p.toNatClampNeg kn) sg (j + 1))), (0, .ref m), (1, .int p), (2, .int sg), (3, .int kn), (5, .int 1), (6, .int 1)]) X.hx X.hb dX2_found_99 hl (k := 8) rfl (by rw [hx846]; rfl) (by decide) rfl (fun ls hl => ?_)
                          refine lv_goto (tgt := 43) X.hx X.hb dX2_found_102 (by decide) ?_
                          rw [hx846, nI_1] at hl
                          exact ih (j + 1) _ _ _ (by omega) (by omega) hR841 hS842 (lv_sub hl [3, 4, 5, 6, 2, 7, 8, 1, 0] rfl)
                        · exact absurd (by decide) c88
                      · exact absurd (by decide) c62
              · have hne : j = 365 := by omega
                subst hne
                by_cases hbs : bdP (nI (sn (rtA σ p.toNatClampNeg kn) 365)) sg
                · rw [AT_no hbs] at hl
                  refine lv_iload X.hx X.hb dX2_found_43 (lv_at hl 6 rfl) ?_
                  refine lv_if_eq (tgt := 105) X.hx X.hb dX2_found_45 (by decide) (fun c45 => ?_) (fun c45 => ?_)
                  · exact absurd c45 (by decide)
                  · refine lv_iload X.hx X.hb dX2_found_48 (lv_at hl 8 rfl) ?_
                    refine lv_sipush (v := 365) X.hx X.hb dX2_found_50 (by decide) ?_
                    refine lv_icmp_ge (tgt := 105) X.hx X.hb dX2_found_53 (by decide) (fun c53 => ?_) (fun c53 => ?_)
                    · refine lv_aload_n X.hx X.hb dX2_found_105 rfl (lv_at hl 0 rfl) ?_
                      refine lv_iload X.hx X.hb dX2_found_106 (lv_at hl 5 rfl) ?_
                      refine lv_if_ne (tgt := 115) X.hx X.hb dX2_found_108 (by decide) (fun c108 => ?_) (fun c108 => ?_)
                      · refine lv_iload X.hx X.hb dX2_found_115 (lv_at hl 4 rfl) ?_
                        refine lv_if_ge (tgt := 124) X.hx X.hb dX2_found_117 (by decide) (fun c117 => ?_) (fun c117 => ?_)
                        · exact absurd c117 (by decide)
                        · refine lv_iconst (v := 2) X.hx X.hb dX2_found_120 (by decide) ?_
                          refine lv_goto (tgt := 125) X.hx X.hb dX2_found_121 (by decide) ?_
                          refine g_put X hR hS hm (Nat.le_of_ble_eq_true rfl) rfl in_X2 tyX2 tyX2_ok nmX2 20 (by decide) q1315 (fun _ h => h) rfl rfl rfl (Nat.le_of_ble_eq_true rfl) dX2_found_125 (fun H locs hR847 hS848 => ?_)
                          obtain ⟨G849, hG849⟩ : ∃ z : GH, z = gu G817 m ((30, 0), .inr (1, [.int (nI (σ.1 0)), .ref (B 0), .ref (B 1), .int (σ.2 12 0), .int (nI (σ.1 1)), .ref (B 2), .ref (B 3), .ref (B 4), .int (nI (σ.1 2)), .ref (B 5), .ref (B 6), .ref (B 7), .ref (B 8), .ref (B 9), .ref (B 10), .ref (B 11), .ref (B 12), .ref (B 13), .ref (B 14), .ref (B 15), .int 2])) := ⟨_, rfl⟩
                          have hR847 : Rep Γ G849 H := by rw [hG849]; exact hR847
                          have f850 : G849 (B 12) = some ((32, 0), .inl (Γ.2 1, 1095, .inl fv)) := by rw [hG849]; exact gu_t h12 hm (tne rfl)
                          have f851 : G849 (B 13) = some ((32, 1), .inl (Γ.2 2, 365, .inl fc)) := by rw [hG849]; exact gu_t h13 hm (tne rfl)
                          have f852 : G849 (B 14) = some ((32, 2), .inl (Γ.2 1, 365, .inl fr)) := by rw [hG849]; exact gu_t h14 hm (tne rfl)
                          have f853 : G849 (B 15) = some ((32, 3), .inl (Γ.2 1, 366, .inl fs)) := by rw [hG849]; exact gu_t h15 hm (tne rfl)
                          have f854 : G849 m = some ((30, 0), .inr (1, [.int (nI (σ.1 0)), .ref (B 0), .ref (B 1), .int (σ.2 12 0), .int (nI (σ.1 1)), .ref (B 2), .ref (B 3), .ref (B 4), .int (nI (σ.1 2)), .ref (B 5), .ref (B 6), .ref (B 7), .ref (B 8), .ref (B 9), .ref (B 10), .ref (B 11), .ref (B 12), .ref (B 13), .ref (B 14), .ref (B 15), .int 2])) := by rw [hG849]; exact gu_s _ _ _
                          have hM855 := hML.obj hG849
                          refine lv_iload X.hx X.hb dX2_found_128 (lv_at hl 4 rfl) ?_
                          have hkk : kS σ p sg kn = 2 := by rw [kS, if_neg hK, nS, if_pos (Or.inr hbs)]
                          exact g_iret X hr hlk hR847 hS848 (⟨Or.inr ⟨by rw [hkk]; decide, rfl, by rw [hkk]; exact hM855⟩, (gK.tr hgl (gK.pt hG849 hm (by show 30 ≤ 30 ∧ 30 < 40; decide)))⟩) (by (try dsimp only [RM]); omega) (by (try dsimp only [RM]); omega) dX2_found_130
                      · exact absurd c108 (by decide)
                    · exact absurd (Int32.le_refl _) c53
                · rw [AT_yes hbs] at hl
                  have hsl := sdy_le (r := (rtA σ p.toNatClampNeg kn)) (j := sg.toNatClampNeg) 365
                  refine lv_iload X.hx X.hb dX2_found_43 (lv_at hl 6 rfl) ?_
                  refine lv_if_eq (tgt := 105) X.hx X.hb dX2_found_45 (by decide) (fun c45 => ?_) (fun c45 => ?_)
                  · exact absurd c45 (by decide)
                  · refine lv_iload X.hx X.hb dX2_found_48 (lv_at hl 8 rfl) ?_
                    refine lv_sipush (v := 365) X.hx X.hb dX2_found_50 (by decide) ?_
                    refine lv_icmp_ge (tgt := 105) X.hx X.hb dX2_found_53 (by decide) (fun c53 => ?_) (fun c53 => ?_)
                    · refine lv_aload_n X.hx X.hb dX2_found_105 rfl (lv_at hl 0 rfl) ?_
                      refine lv_iload X.hx X.hb dX2_found_106 (lv_at hl 5 rfl) ?_
                      refine lv_if_ne (tgt := 115) X.hx X.hb dX2_found_108 (by decide) (fun c108 => ?_) (fun c108 => ?_)
                      · refine lv_iload X.hx X.hb dX2_found_115 (lv_at hl 4 rfl) ?_
                        refine lv_if_ge (tgt := 124) X.hx X.hb dX2_found_117 (by decide) (fun c117 => ?_) (fun c117 => ?_)
                        · refine lv_iconst (v := 0) X.hx X.hb dX2_found_124 (by decide) ?_
                          refine g_put X hR hS hm (Nat.le_of_ble_eq_true rfl) rfl in_X2 tyX2 tyX2_ok nmX2 20 (by decide) q1315 (fun _ h => h) rfl rfl rfl (Nat.le_of_ble_eq_true rfl) dX2_found_125 (fun H locs hR856 hS857 => ?_)
                          obtain ⟨G858, hG858⟩ : ∃ z : GH, z = gu G817 m ((30, 0), .inr (1, [.int (nI (σ.1 0)), .ref (B 0), .ref (B 1), .int (σ.2 12 0), .int (nI (σ.1 1)), .ref (B 2), .ref (B 3), .ref (B 4), .int (nI (σ.1 2)), .ref (B 5), .ref (B 6), .ref (B 7), .ref (B 8), .ref (B 9), .ref (B 10), .ref (B 11), .ref (B 12), .ref (B 13), .ref (B 14), .ref (B 15), .int 0])) := ⟨_, rfl⟩
                          have hR856 : Rep Γ G858 H := by rw [hG858]; exact hR856
                          have f859 : G858 (B 12) = some ((32, 0), .inl (Γ.2 1, 1095, .inl fv)) := by rw [hG858]; exact gu_t h12 hm (tne rfl)
                          have f860 : G858 (B 13) = some ((32, 1), .inl (Γ.2 2, 365, .inl fc)) := by rw [hG858]; exact gu_t h13 hm (tne rfl)
                          have f861 : G858 (B 14) = some ((32, 2), .inl (Γ.2 1, 365, .inl fr)) := by rw [hG858]; exact gu_t h14 hm (tne rfl)
                          have f862 : G858 (B 15) = some ((32, 3), .inl (Γ.2 1, 366, .inl fs)) := by rw [hG858]; exact gu_t h15 hm (tne rfl)
                          have f863 : G858 m = some ((30, 0), .inr (1, [.int (nI (σ.1 0)), .ref (B 0), .ref (B 1), .int (σ.2 12 0), .int (nI (σ.1 1)), .ref (B 2), .ref (B 3), .ref (B 4), .int (nI (σ.1 2)), .ref (B 5), .ref (B 6), .ref (B 7), .ref (B 8), .ref (B 9), .ref (B 10), .ref (B 11), .ref (B 12), .ref (B 13), .ref (B 14), .ref (B 15), .int 0])) := by rw [hG858]; exact gu_s _ _ _
                          have hM864 := hML.obj hG858
                          refine lv_iload X.hx X.hb dX2_found_128 (lv_at hl 4 rfl) ?_
                          exact g_iret X hr hlk hR856 hS857 (⟨Or.inl ⟨by rw [kS, if_neg hK, nS, if_neg (or_no hpk.1 hbs)], rfl, hM864, hLV.th (gK.pt hG858 hm rfl)⟩, (gK.tr hgl (gK.pt hG858 hm (by show 30 ≤ 30 ∧ 30 < 40; decide)))⟩) (by (try dsimp only [RM]); omega) (by (try dsimp only [RM]); omega) dX2_found_130
                        · exact absurd (nI_pos' (by omega)) c117
                      · exact absurd c108 (by decide)
                    · exact absurd (Int32.le_refl _) c53
          exact loop 366 0 _ _ _ (by omega) (by omega) hR814 hS815 (lv_sub hl [5, 6, 7, 8, 4, 3, 2, 1, 0] rfl)
      · have hm : G817 m = some (MOc (nI (σ.1 0)) (σ.2 12 0) (nI (σ.1 1)) (nI (σ.1 2)) (kV σ p 0 0 kn) B) := hML.1
        refine lv_if_eq (tgt := 34) X.hx X.hb dX2_found_27 (by decide) (fun c27 => ?_) (fun c27 => ?_)
        · refine lv_iconst (v := 0) X.hx X.hb dX2_found_34 (by decide) ?_
          refine lv_istore (lv' := [(6, .int 0), (5, .int 1), (4, .int (-1)), (0, .ref m), (1, .int p), (2, .int sg), (3, .int kn)]) X.hx X.hb dX2_found_35 hl (by decide) rfl (fun ls hl => ?_)
          refine lv_iconst (v := 0) X.hx X.hb dX2_found_37 (by decide) ?_
          refine lv_istore (lv' := [(7, .int 0), (6, .int 0), (5, .int 1), (4, .int (-1)), (0, .ref m), (1, .int p), (2, .int sg), (3, .int kn)]) X.hx X.hb dX2_found_38 hl (by decide) rfl (fun ls hl => ?_)
          refine lv_iconst (v := 0) X.hx X.hb dX2_found_40 (by decide) ?_
          refine lv_istore (lv' := [(8, .int 0), (7, .int 0), (6, .int 0), (5, .int 1), (4, .int (-1)), (0, .ref m), (1, .int p), (2, .int sg), (3, .int kn)]) X.hx X.hb dX2_found_41 hl (by decide) rfl (fun ls hl => ?_)
          have hbp : bdP (nI (σ.1 0)) p := Classical.not_not.mp (fun h9 => hk0 (by rw [kV, if_neg (or_no h9 c03), if_neg (or_no c0d hK)]))
          refine lv_iload X.hx X.hb dX2_found_43 (lv_at hl 2 rfl) ?_
          refine lv_if_eq (tgt := 105) X.hx X.hb dX2_found_45 (by decide) (fun c45 => ?_) (fun c45 => ?_)
          · refine lv_aload_n X.hx X.hb dX2_found_105 rfl (lv_at hl 5 rfl) ?_
            refine lv_iload X.hx X.hb dX2_found_106 (lv_at hl 3 rfl) ?_
            refine lv_if_ne (tgt := 115) X.hx X.hb dX2_found_108 (by decide) (fun c108 => ?_) (fun c108 => ?_)
            · refine lv_iload X.hx X.hb dX2_found_115 (lv_at hl 4 rfl) ?_
              refine lv_if_ge (tgt := 124) X.hx X.hb dX2_found_117 (by decide) (fun c117 => ?_) (fun c117 => ?_)
              · exact absurd c117 (by decide)
              · refine lv_iconst (v := 2) X.hx X.hb dX2_found_120 (by decide) ?_
                refine lv_goto (tgt := 125) X.hx X.hb dX2_found_121 (by decide) ?_
                refine g_put X hR814 hS815 hm (Nat.le_of_ble_eq_true rfl) rfl in_X2 tyX2 tyX2_ok nmX2 20 (by decide) q1315 (fun _ h => h) rfl rfl rfl (Nat.le_of_ble_eq_true rfl) dX2_found_125 (fun H locs hR865 hS866 => ?_)
                obtain ⟨G867, hG867⟩ : ∃ z : GH, z = gu G817 m ((30, 0), .inr (1, [.int (nI (σ.1 0)), .ref (B 0), .ref (B 1), .int (σ.2 12 0), .int (nI (σ.1 1)), .ref (B 2), .ref (B 3), .ref (B 4), .int (nI (σ.1 2)), .ref (B 5), .ref (B 6), .ref (B 7), .ref (B 8), .ref (B 9), .ref (B 10), .ref (B 11), .ref (B 12), .ref (B 13), .ref (B 14), .ref (B 15), .int 2])) := ⟨_, rfl⟩
                have hR865 : Rep Γ G867 H := by rw [hG867]; exact hR865
                have f868 : G867 m = some ((30, 0), .inr (1, [.int (nI (σ.1 0)), .ref (B 0), .ref (B 1), .int (σ.2 12 0), .int (nI (σ.1 1)), .ref (B 2), .ref (B 3), .ref (B 4), .int (nI (σ.1 2)), .ref (B 5), .ref (B 6), .ref (B 7), .ref (B 8), .ref (B 9), .ref (B 10), .ref (B 11), .ref (B 12), .ref (B 13), .ref (B 14), .ref (B 15), .int 2])) := by rw [hG867]; exact gu_s _ _ _
                have hM869 := hML.obj hG867
                refine lv_iload X.hx X.hb dX2_found_128 (lv_at hl 4 rfl) ?_
                have hkk : kS σ p sg kn = 2 := by rw [kS, if_neg hK, if_pos (Or.inl hbp)]
                exact g_iret X hr hlk hR865 hS866 (⟨Or.inr ⟨by rw [hkk]; decide, rfl, by rw [hkk]; exact hM869⟩, (gK.tr hgl (gK.pt hG867 hm (by show 30 ≤ 30 ∧ 30 < 40; decide)))⟩) (by (try dsimp only [RM]); omega) (by (try dsimp only [RM]); omega) dX2_found_130
            · exact absurd c108 (by decide)
          · exact absurd (by decide) c45
        · exact absurd (by decide) c27

set_option maxHeartbeats 4000000 in
theorem m_segStart (l : Launch) (Γ : GP) (G : GH) {m : Nat} {σ : MS} {th : Int32} {B : Nat → Nat} (hW : WF σ) (hM : MP Γ G m σ th B) {p sg kn : Int32} : MetG l yX2_segmentStart (ws_ yX2_segmentStart cX2_segmentStart 5 (some .int)) (RM 7 0 0) Γ G [.ref m, .int p, .int sg, .int kn] (fun v G1 => MR Γ G G1 m σ σ B (kS σ p sg kn) (nI (sdy (rtA σ p.toNatClampNeg kn) sg.toNatClampNeg 365)) v) 0 0 := by
  refine gMet (own := RX2) (by decide) rfl (Nat.le_of_ble_eq_true rfl) ?_
  intro pp ee ss mm below meth cc0 ls X hr hlk hin hnm hR hS hl
  have hl : lv_has ls 5 [(0, .ref m), (1, .int p), (2, .int sg), (3, .int kn)] := hl
  have hm : G m = some (MOc (nI (σ.1 0)) (σ.2 12 0) (nI (σ.1 1)) (nI (σ.1 2)) th B) := hM.1
  refine lv_aload_n X.hx X.hb dX2_segmentStart_0 rfl (lv_at hl 0 rfl) ?_
  refine lv_iload_n X.hx X.hb dX2_segmentStart_1 rfl (lv_at hl 1 rfl) ?_
  refine lv_iload_n X.hx X.hb dX2_segmentStart_2 rfl (lv_at hl 2 rfl) ?_
  refine lv_iload_n X.hx X.hb dX2_segmentStart_3 rfl (lv_at hl 3 rfl) ?_
  refine gcV X hl.1 hR hS 3 [.int p, .int sg, .int kn] [] (m_found l Γ G hW hM) hm rfl q1472 q1474 qs32 q40 q1475 rfl rfl ⟨rfl, by decide +kernel, by decide +kernel, by decide +kernel⟩ ⟨by (try dsimp only [RM]); omega, by (try dsimp only [RM]); omega⟩ rfl rfl (Nat.le_of_ble_eq_true rfl) dX2_segmentStart_4 ⟨by (try dsimp only [RM]); omega, by (try dsimp only [RM]); omega⟩ (fun v873 G874 H locs hq870 hR871 hS872 => ?_)
  obtain ⟨hf9, hgl⟩ := hq870
  rcases hf9 with ⟨hk0, rfl, hML, hLV⟩ | ⟨hk0, rfl, hML⟩
  · obtain ⟨d, hd5, hbg, hsd⟩ := kS_ok hk0
    refine lv_topi (fun x875 hx875 => ?_)
    obtain rfl : x875 = nI d := hx875.trans (by rw [hsd])
    obtain ⟨fv, fc, fr, fs, h12, h13, h14, h15, hV, hD9⟩ := id hLV
    have hm : G874 m = some (MOc (nI (σ.1 0)) (σ.2 12 0) (nI (σ.1 1)) (nI (σ.1 2)) 0 B) := hML.1
    refine lv_istore (lv' := [(4, .int (nI d)), (0, .ref m), (1, .int p), (2, .int sg), (3, .int kn)]) X.hx X.hb dX2_segmentStart_7 hl (by decide) rfl (fun ls hl => ?_)
    refine lv_iload X.hx X.hb dX2_segmentStart_9 (lv_at hl 0 rfl) ?_
    refine lv_if_ge (tgt := 18) X.hx X.hb dX2_segmentStart_11 (by decide) (fun c11 => ?_) (fun c11 => ?_)
    · refine lv_iload X.hx X.hb dX2_segmentStart_18 (lv_at hl 0 rfl) ?_
      exact g_iret X hr hlk hR871 hS872 (⟨Or.inl ⟨hk0, by rw [hsd], hML⟩, hgl⟩) (by (try dsimp only [RM]); omega) (by (try dsimp only [RM]); omega) dX2_segmentStart_20
    · exact absurd (nI_pos' (by omega)) c11
  · have hm : G874 m = some (MOc (nI (σ.1 0)) (σ.2 12 0) (nI (σ.1 1)) (nI (σ.1 2)) (kS σ p sg kn) B) := hML.1
    refine lv_istore (lv' := [(4, .int (-1)), (0, .ref m), (1, .int p), (2, .int sg), (3, .int kn)]) X.hx X.hb dX2_segmentStart_7 hl (by decide) rfl (fun ls hl => ?_)
    refine lv_iload X.hx X.hb dX2_segmentStart_9 (lv_at hl 0 rfl) ?_
    refine lv_if_ge (tgt := 18) X.hx X.hb dX2_segmentStart_11 (by decide) (fun c11 => ?_) (fun c11 => ?_)
    · exact absurd c11 (by decide)
    · refine lv_iconst (v := 0) X.hx X.hb dX2_segmentStart_14 (by decide) ?_
      refine lv_goto (tgt := 20) X.hx X.hb dX2_segmentStart_15 (by decide) ?_
      exact g_iret X hr hlk hR871 hS872 (⟨Or.inr ⟨hk0, ⟨_, rfl⟩, hML⟩, hgl⟩) (by (try dsimp only [RM]); omega) (by (try dsimp only [RM]); omega) dX2_segmentStart_20

set_option maxHeartbeats 4000000 in
theorem m_segPrem (l : Launch) (Γ : GP) (G : GH) {m : Nat} {σ : MS} {th : Int32} {B : Nat → Nat} (hW : WF σ) (hM : MP Γ G m σ th B) {p sg kn : Int32} : MetG l yX2_segmentPremium (ws_ yX2_segmentPremium cX2_segmentPremium 6 (some .int)) (RM 7 0 0) Γ G [.ref m, .int p, .int sg, .int kn] (fun v G1 => ((kS σ p sg kn = 0 ∧ (∃ u, v = some (.int u) ∧ PSg (rtA σ p.toNatClampNeg kn) (sdy (rtA σ p.toNatClampNeg kn) sg.toNatClampNeg 365) u) ∧ MP Γ G1 m σ 0 B) ∨ (kS σ p sg kn ≠ 0 ∧ (∃ w, v = some (.int w)) ∧ MP Γ G1 m σ (kS σ p sg kn) B)) ∧ gK TMm G G1) 0 0 := by
  refine gMet (own := RX2) (by decide) rfl (Nat.le_of_ble_eq_true rfl) ?_
  intro pp ee ss mm below meth cc0 ls X hr hlk hin hnm hR hS hl
  have hl : lv_has ls 6 [(0, .ref m), (1, .int p), (2, .int sg), (3, .int kn)] := hl
  have hm : G m = some (MOc (nI (σ.1 0)) (σ.2 12 0) (nI (σ.1 1)) (nI (σ.1 2)) th B) := hM.1
  refine lv_aload_n X.hx X.hb dX2_segmentPremium_0 rfl (lv_at hl 0 rfl) ?_
  refine lv_iload_n X.hx X.hb dX2_segmentPremium_1 rfl (lv_at hl 1 rfl) ?_
  refine lv_iload_n X.hx X.hb dX2_segmentPremium_2 rfl (lv_at hl 2 rfl) ?_
  refine lv_iload_n X.hx X.hb dX2_segmentPremium_3 rfl (lv_at hl 3 rfl) ?_
  refine gcV X hl.1 hR hS 3 [.int p, .int sg, .int kn] [] (m_found l Γ G hW hM) hm rfl q1472 q1474 qs32 q40 q1475 rfl rfl ⟨rfl, by decide +kernel, by decide +kernel, by decide +kernel⟩ ⟨by (try dsimp only [RM]); omega, by (try dsimp only [RM]); omega⟩ rfl rfl (Nat.le_of_ble_eq_true rfl) dX2_segmentPremium_4 ⟨by (try dsimp only [RM]); omega, by (try dsimp only [RM]); omega⟩ (fun v879 G880 H locs hq876 hR877 hS878 => ?_)
  obtain ⟨hf9, hgl⟩ := hq876
  rcases hf9 with ⟨hk0, rfl, hML, hLV⟩ | ⟨hk0, rfl, hML⟩
  · obtain ⟨d, hd5, hbg, hsd⟩ := kS_ok hk0
    refine lv_topi (fun x881 hx881 => ?_)
    obtain rfl : x881 = nI d := hx881.trans (by rw [hsd])
    obtain ⟨fv, fc, fr, fs, h12, h13, h14, h15, hV, hD9⟩ := id hLV
    have hm : G880 m = some (MOc (nI (σ.1 0)) (σ.2 12 0) (nI (σ.1 1)) (nI (σ.1 2)) 0 B) := hML.1
    refine lv_istore (lv' := [(4, .int (nI d)), (0, .ref m), (1, .int p), (2, .int sg), (3, .int kn)]) X.hx X.hb dX2_segmentPremium_7 hl (by decide) rfl (fun ls hl => ?_)
    refine lv_iload X.hx X.hb dX2_segmentPremium_9 (lv_at hl 0 rfl) ?_
    refine lv_if_ge (tgt := 16) X.hx X.hb dX2_segmentPremium_11 (by decide) (fun c11 => ?_) (fun c11 => ?_)
    · refine lv_iload X.hx X.hb dX2_segmentPremium_16 (lv_at hl 0 rfl) ?_
      refine lv_istore (lv' := [(5, .int (nI d)), (4, .int (nI d)), (0, .ref m), (1, .int p), (2, .int sg), (3, .int kn)]) X.hx X.hb dX2_segmentPremium_18 hl (by decide) rfl (fun ls hl => ?_)
      have loop : ∀ (n e : Nat) (H : Heap) (locs : List Loc) (ls : Array Slot), d ≤ e → e ≤ 365 → 365 - e < n → (∀ k, d < k → k < e → (rtA σ p.toNatClampNeg kn) k = (rtA σ p.toNatClampNeg kn) d) → Rep Γ G880 H → va_S (gA Γ) ss.heap H locs → lv_has ls 6 [(0, .ref m), (1, .int p), (2, .int sg), (3, .int kn), (4, .int (nI d)), (5, .int (nI e))] → W pp l ee (RM 7 0 0) ss mm (List.toArray [.ref m, .int p, .int sg, .int kn]) below meth cc0 H locs (0 + 0) (0 + 0) (MQ below (Qg Γ (fun v G1 => ((kS σ p sg kn = 0 ∧ (∃ u, v = some (.int u) ∧ PSg (rtA σ p.toNatClampNeg kn) (sdy (rtA σ p.toNatClampNeg kn) sg.toNatClampNeg 365) u) ∧ MP Γ G1 m σ 0 B) ∨ (kS σ p sg kn ≠ 0 ∧ (∃ w, v = some (.int w)) ∧ MP Γ G1 m σ (kS σ p sg kn) B)) ∧ gK TMm G G1)) (List.toArray [.ref m, .int p, .int sg, .int kn]) ss 0 0 (gA Γ)) (F0 mm 20 ls []) := by
        intro n
        induction n with
        | zero => intro e H locs ls h1 h2 h3; omega
        | succ n ih =>
          intro e H locs ls h1 h2 h3 hall hR hS hl
          by_cases hj : e < 365
          · refine lv_iload X.hx X.hb dX2_segmentPremium_20 (lv_at hl 5 rfl) ?_
            refine lv_sipush (v := 365) X.hx X.hb dX2_segmentPremium_22 (by decide) ?_
            refine lv_icmp_ge (tgt := 51) X.hx X.hb dX2_segmentPremium_25 (by decide) (fun c25 => ?_) (fun c25 => ?_)
            · exact absurd c25 (Int32.not_le.mpr (nI_lt hj (by decide)))
            · refine lv_aload_n X.hx X.hb dX2_segmentPremium_28 rfl (lv_at hl 0 rfl) ?_
              refine g_get X hR hm rfl in_X2 18 (by decide) q1313 (fun _ h => h) rfl dX2_segmentPremium_29 ?_
              refine lv_iload X.hx X.hb dX2_segmentPremium_32 (lv_at hl 5 rfl) ?_
              refine g_iald (v := (rtA σ p.toNatClampNeg kn) e) X hR h14 (vp_in_nI hj (by decide)) (by rw [nI_clamp (by omega)]; exact (hD9.1 e hj).2) dX2_segmentPremium_34 ?_
              refine lv_aload_n X.hx X.hb dX2_segmentPremium_35 rfl (lv_at hl 0 rfl) ?_
              refine g_get X hR hm rfl in_X2 18 (by decide) q1313 (fun _ h => h) rfl dX2_segmentPremium_36 ?_
              refine lv_iload X.hx X.hb dX2_segmentPremium_39 (lv_at hl 4 rfl) ?_
              refine g_iald (v := (rtA σ p.toNatClampNeg kn) d) X hR h14 (vp_in_nI hd5 (by decide)) (by rw [nI_clamp (by omega)]; exact (hD9.1 d hd5).2) dX2_segmentPremium_41 ?_
              refine lv_icmp_ne (tgt := 51) X.hx X.hb dX2_segmentPremium_42 (by decide) (fun c42 => ?_) (fun c42 => ?_)
              · have hde : d < e := by
                  rcases Nat.lt_or_ge d e with h | h
                  · exact h
                  · exact absurd (by rw [show e = d by omega]) c42
                have hSE : SE (rtA σ p.toNatClampNeg kn) d e := ⟨hde, h2, hall, Or.inr c42⟩
                refine lv_aload_n X.hx X.hb dX2_segmentPremium_51 rfl (lv_at hl 0 rfl) ?_
                refine lv_iload X.hx X.hb dX2_segmentPremium_52 (lv_at hl 5 rfl) ?_
                have hch := m_charge l Γ G880 hW hML h15 (e := e) (by omega)
                rw [hD9.2 e (by omega)] at hch
                refine gcV X hl.1 hR hS 1 [.int (nI e)] [] (hch) hm rfl q1480 q1482 qs33 q40 q1483 rfl rfl ⟨rfl, by decide +kernel, by decide +kernel, by decide +kernel⟩ ⟨by (try dsimp only [RM]); omega, by (try dsimp only [RM]); omega⟩ rfl rfl (Nat.le_of_ble_eq_true rfl) dX2_segmentPremium_54 ⟨by (try dsimp only [RM]); omega, by (try dsimp only [RM]); omega⟩ (fun v885 G886 H locs hq882 hR883 hS884 => ?_)
                obtain ⟨rfl, rfl⟩ := hq882
                refine lv_aload_n X.hx X.hb dX2_segmentPremium_57 rfl (lv_at hl 0 rfl) ?_
                refine lv_iload X.hx X.hb dX2_segmentPremium_58 (lv_at hl 4 rfl) ?_
                have hch2 := m_charge l Γ G880 hW hML h15 (e := d) (by omega)
                rw [hD9.2 d (by omega)] at hch2
                refine gcV X hl.1 hR883 hS884 1 [.int (nI d)] [.int (SUM (rtA σ p.toNatClampNeg kn) e / 365)] (hch2) hm rfl q1480 q1482 qs33 q40 q1483 rfl rfl ⟨rfl, by decide +kernel, by decide +kernel, by decide +kernel⟩ ⟨by (try dsimp only [RM]); omega, by (try dsimp only [RM]); omega⟩ rfl rfl (Nat.le_of_ble_eq_true rfl) dX2_segmentPremium_60 ⟨by (try dsimp only [RM]); omega, by (try dsimp only [RM]); omega⟩ (fun v890 G891 H locs hq887 hR888 hS889 => ?_)
                obtain ⟨rfl, rfl⟩ := hq887
                refine lv_isub X.hx X.hb dX2_segmentPremium_63 ?_
                exact g_iret X hr hlk hR888 hS889 (⟨Or.inl ⟨hk0, ⟨_, rfl, by rw [hsd]; exact ⟨e, hSE, rfl⟩⟩, hML⟩, hgl⟩) (by (try dsimp only [RM]); omega) (by (try dsimp only [RM]); omega) dX2_segmentPremium_64
              · obtain ⟨x892, hx892⟩ : ∃ y : Int32, y = nI e + 1 := ⟨_, rfl⟩
                refine lv_iinc (v := x892) (lv' := [(5, .int x892), (0, .ref m), (1, .int p), (2, .int sg), (3, .int kn), (4, .int (nI d))]) X.hx X.hb dX2_segmentPremium_45 hl (k := 5) rfl (by rw [hx892]; rfl) (by decide) rfl (fun ls hl => ?_)
                refine lv_goto (tgt := 20) X.hx X.hb dX2_segmentPremium_48 (by decide) ?_
                rw [hx892, nI_1] at hl
                exact ih (e + 1) _ _ _ (by omega) (by omega) (by omega) (fun k a b => by rcases Nat.lt_or_ge k e with h | h; exact hall k a h; rw [show k = e by omega]; exact c42) hR hS (lv_sub hl [1, 2, 3, 4, 5, 0] rfl)
          · have hne : e = 365 := by omega
            subst hne
            have hSE : SE (rtA σ p.toNatClampNeg kn) d 365 := ⟨by omega, h2, hall, Or.inl rfl⟩
            refine lv_iload X.hx X.hb dX2_segmentPremium_20 (lv_at hl 5 rfl) ?_
            refine lv_sipush (v := 365) X.hx X.hb dX2_segmentPremium_22 (by decide) ?_
            refine lv_icmp_ge (tgt := 51) X.hx X.hb dX2_segmentPremium_25 (by decide) (fun c25 => ?_) (fun c25 => ?_)
            · refine lv_aload_n X.hx X.hb dX2_segmentPremium_51 rfl (lv_at hl 0 rfl) ?_
              refine lv_iload X.hx X.hb dX2_segmentPremium_52 (lv_at hl 5 rfl) ?_
              have hch := m_charge l Γ G880 hW hML h15 (e := 365) (by omega)
              rw [hD9.2 365 (by omega)] at hch
              refine gcV X hl.1 hR hS 1 [.int (nI 365)] [] (hch) hm rfl q1480 q1482 qs33 q40 q1483 rfl rfl ⟨rfl, by decide +kernel, by decide +kernel, by decide +kernel⟩ ⟨by (try dsimp only [RM]); omega, by (try dsimp only [RM]); omega⟩ rfl rfl (Nat.le_of_ble_eq_true rfl) dX2_segmentPremium_54 ⟨by (try dsimp only [RM]); omega, by (try dsimp only [RM]); omega⟩ (fun v896 G897 H locs hq893 hR894 hS895 => ?_)
              obtain ⟨rfl, rfl⟩ := hq893
              refine lv_aload_n X.hx X.hb dX2_segmentPremium_57 rfl (lv_at hl 0 rfl) ?_
              refine lv_iload X.hx X.hb dX2_segmentPremium_58 (lv_at hl 4 rfl) ?_
              have hch2 := m_charge l Γ G880 hW hML h15 (e := d) (by omega)
              rw [hD9.2 d (by omega)] at hch2
              refine gcV X hl.1 hR894 hS895 1 [.int (nI d)] [.int (SUM (rtA σ p.toNatClampNeg kn) 365 / 365)] (hch2) hm rfl q1480 q1482 qs33 q40 q1483 rfl rfl ⟨rfl, by decide +kernel, by decide +kernel, by decide +kernel⟩ ⟨by (try dsimp only [RM]); omega, by (try dsimp only [RM]); omega⟩ rfl rfl (Nat.le_of_ble_eq_true rfl) dX2_segmentPremium_60 ⟨by (try dsimp only [RM]); omega, by (try dsimp only [RM]); omega⟩ (fun v901 G902 H locs hq898 hR899 hS900 => ?_)
              obtain ⟨rfl, rfl⟩ := hq898
              refine lv_isub X.hx X.hb dX2_segmentPremium_63 ?_
              exact g_iret X hr hlk hR899 hS900 (⟨Or.inl ⟨hk0, ⟨_, rfl, by rw [hsd]; exact ⟨365, hSE, rfl⟩⟩, hML⟩, hgl⟩) (by (try dsimp only [RM]); omega) (by (try dsimp only [RM]); omega) dX2_segmentPremium_64
            · exact absurd (Int32.le_refl _) c25
      exact loop 366 d _ _ _ (by omega) (by omega) (by omega) (fun k a b => by omega) hR877 hS878 (lv_sub hl [2, 3, 4, 5, 1, 0] rfl)
    · exact absurd (nI_pos' (by omega)) c11
  · have hm : G880 m = some (MOc (nI (σ.1 0)) (σ.2 12 0) (nI (σ.1 1)) (nI (σ.1 2)) (kS σ p sg kn) B) := hML.1
    refine lv_istore (lv' := [(4, .int (-1)), (0, .ref m), (1, .int p), (2, .int sg), (3, .int kn)]) X.hx X.hb dX2_segmentPremium_7 hl (by decide) rfl (fun ls hl => ?_)
    refine lv_iload X.hx X.hb dX2_segmentPremium_9 (lv_at hl 0 rfl) ?_
    refine lv_if_ge (tgt := 16) X.hx X.hb dX2_segmentPremium_11 (by decide) (fun c11 => ?_) (fun c11 => ?_)
    · exact absurd c11 (by decide)
    · refine lv_iconst (v := 0) X.hx X.hb dX2_segmentPremium_14 (by decide) ?_
      exact g_iret X hr hlk hR877 hS878 (⟨Or.inr ⟨hk0, ⟨_, rfl⟩, hML⟩, hgl⟩) (by (try dsimp only [RM]); omega) (by (try dsimp only [RM]); omega) dX2_segmentPremium_15

set_option maxHeartbeats 4000000 in
theorem m_laidAnew (l : Launch) (Γ : GP) (G : GH) {m : Nat} {σ : MS} {th : Int32} {B : Nat → Nat} (hW : WF σ) (hM : MP Γ G m σ th B) {c : Int32} : MetG l yX2_laidAnew (ws_ yX2_laidAnew cX2_laidAnew 5 (some .int)) (RM 5 0 0) Γ G [.ref m, .int c] (fun v G1 => MR Γ G G1 m σ σ B (kC σ c) (LN σ c.toNatClampNeg c.toNatClampNeg) v) 0 0 := by
  refine gMet (own := RX2) (by decide) rfl (Nat.le_of_ble_eq_true rfl) ?_
  intro pp ee ss mm below meth cc0 ls X hr hlk hin hnm hR hS hl
  have hl : lv_has ls 5 [(0, .ref m), (1, .int c)] := hl
  have hm : G m = some (MOc (nI (σ.1 0)) (σ.2 12 0) (nI (σ.1 1)) (nI (σ.1 2)) th B) := hM.1
  refine lv_iconst (v := 0) X.hx X.hb dX2_laidAnew_0 (by decide) ?_
  refine lv_istore_n (lv' := [(2, .int 0), (0, .ref m), (1, .int c)]) X.hx X.hb dX2_laidAnew_1 rfl hl (by decide) rfl (fun ls hl => ?_)
  refine lv_aload_n X.hx X.hb dX2_laidAnew_2 rfl (lv_at hl 1 rfl) ?_
  refine lv_iload_n X.hx X.hb dX2_laidAnew_3 rfl (lv_at hl 2 rfl) ?_
  refine gcV X hl.1 hR hS 1 [.int c] [] (m_isChange l Γ G hW hM) hm rfl q1417 q1419 qs26 q40 q1420 rfl rfl ⟨rfl, by decide +kernel, by decide +kernel, by decide +kernel⟩ ⟨by (try dsimp only [RM]); omega, by (try dsimp only [RM]); omega⟩ rfl rfl (Nat.le_of_ble_eq_true rfl) dX2_laidAnew_4 ⟨by (try dsimp only [RM]); omega, by (try dsimp only [RM]); omega⟩ (fun v906 G907 H locs hq903 hR904 hS905 => ?_)
  obtain ⟨rfl, hMc, hgc⟩ := hq903
  have hm : G907 m = some (MOc (nI (σ.1 0)) (σ.2 12 0) (nI (σ.1 1)) (nI (σ.1 2)) (kC σ c) B) := hMc.1
  have hr5 : G907 (B 5) = some ((31, 5), .inl (Γ.2 1, 60, .inl (σ.2 5))) := hMc.2.1 5 (by decide)
  have hr8 : G907 (B 8) = some ((31, 8), .inl (Γ.2 1, 60, .inl (σ.2 8))) := hMc.2.1 8 (by decide)
  by_cases hc : bdP (nI (σ.1 2)) c
  · rw [if_pos hc]
    refine lv_istore_n (lv' := [(3, .int 0), (2, .int 0), (0, .ref m), (1, .int c)]) X.hx X.hb dX2_laidAnew_7 rfl hl (by decide) rfl (fun ls hl => ?_)
    refine lv_iconst (v := 0) X.hx X.hb dX2_laidAnew_8 (by decide) ?_
    refine lv_istore (lv' := [(4, .int 0), (3, .int 0), (2, .int 0), (0, .ref m), (1, .int c)]) X.hx X.hb dX2_laidAnew_9 hl (by decide) rfl (fun ls hl => ?_)
    refine lv_iload_n X.hx X.hb dX2_laidAnew_11 rfl (lv_at hl 1 rfl) ?_
    refine lv_if_eq (tgt := 80) X.hx X.hb dX2_laidAnew_12 (by decide) (fun c12 => ?_) (fun c12 => ?_)
    · refine lv_iload_n X.hx X.hb dX2_laidAnew_80 rfl (lv_at hl 2 rfl) ?_
      exact g_iret X hr hlk hR904 hS905 (⟨Or.inr ⟨by rw [kC, if_pos hc]; decide, ⟨_, rfl⟩, hMc⟩, hgc⟩) (by (try dsimp only [RM]); omega) (by (try dsimp only [RM]); omega) dX2_laidAnew_81
    · exact absurd (by decide) c12
  · rw [if_neg hc]
    refine lv_istore_n (lv' := [(3, .int 1), (2, .int 0), (0, .ref m), (1, .int c)]) X.hx X.hb dX2_laidAnew_7 rfl hl (by decide) rfl (fun ls hl => ?_)
    refine lv_iconst (v := 0) X.hx X.hb dX2_laidAnew_8 (by decide) ?_
    refine lv_istore (lv' := [(4, .int 0), (3, .int 1), (2, .int 0), (0, .ref m), (1, .int c)]) X.hx X.hb dX2_laidAnew_9 hl (by decide) rfl (fun ls hl => ?_)
    obtain ⟨i, hi, rfl⟩ := plc (Nat.lt_of_le_of_lt hW.2.2.1 (by decide)) (fun h9 => hc (Or.inl h9)) (Classical.not_not.mp (fun h9 => hc (Or.inr h9)))
    have hn60 := hW.2.2.1
    have hn4 := hW.1
    have hic : (nI i).toNatClampNeg = i := nI_clamp (by omega)
    have hkc : kC σ (nI i) = 0 := by rw [kC, if_neg hc]
    have loop : ∀ (n j : Nat) (H : Heap) (locs : List Loc) (ls : Array Slot), j ≤ i → i - j < n → Rep Γ G907 H → va_S (gA Γ) ss.heap H locs → lv_has ls 5 [(0, .ref m), (1, .int (nI i)), (2, .int (LN σ i j)), (3, .int 1), (4, .int (nI j))] → W pp l ee (RM 5 0 0) ss mm (List.toArray [.ref m, .int (nI i)]) below meth cc0 H locs (0 + 0) (0 + 0) (MQ below (Qg Γ (fun v G1 => MR Γ G G1 m σ σ B (kC σ (nI i)) (LN σ (nI i).toNatClampNeg (nI i).toNatClampNeg) v)) (List.toArray [.ref m, .int (nI i)]) ss 0 0 (gA Γ)) (F0 mm 11 ls []) := by
      intro n
      induction n with
      | zero => intro j H locs ls h1 h2; omega
      | succ n ih =>
        intro j H locs ls h1 h2 hR hS hl
        by_cases hj : j < i
        · refine lv_iload_n X.hx X.hb dX2_laidAnew_11 rfl (lv_at hl 3 rfl) ?_
          refine lv_if_eq (tgt := 80) X.hx X.hb dX2_laidAnew_12 (by decide) (fun c12 => ?_) (fun c12 => ?_)
          · exact absurd c12 (by decide)
          · refine lv_iload X.hx X.hb dX2_laidAnew_15 (lv_at hl 4 rfl) ?_
            refine lv_iload_n X.hx X.hb dX2_laidAnew_17 rfl (lv_at hl 1 rfl) ?_
            refine lv_icmp_ge (tgt := 80) X.hx X.hb dX2_laidAnew_18 (by decide) (fun c18 => ?_) (fun c18 => ?_)
            · exact absurd c18 (Int32.not_le.mpr (nI_lt hj (by omega)))
            · refine lv_iload_n X.hx X.hb dX2_laidAnew_21 rfl (lv_at hl 2 rfl) ?_
              refine lv_aload_n X.hx X.hb dX2_laidAnew_22 rfl (lv_at hl 0 rfl) ?_
              refine g_get X hR hm rfl in_X2 9 (by decide) q1304 (fun _ h => h) rfl dX2_laidAnew_23 ?_
              refine lv_iload X.hx X.hb dX2_laidAnew_26 (lv_at hl 4 rfl) ?_
              refine g_iald (v := σ.2 5 j) X hR hr5 (vp_in_nI (show j < 60 by omega) (by decide)) (by rw [nI_clamp (by omega)]) dX2_laidAnew_28 ?_
              refine lv_aload_n X.hx X.hb dX2_laidAnew_29 rfl (lv_at hl 0 rfl) ?_
              refine g_get X hR hm rfl in_X2 9 (by decide) q1304 (fun _ h => h) rfl dX2_laidAnew_30 ?_
              refine lv_iload_n X.hx X.hb dX2_laidAnew_33 rfl (lv_at hl 1 rfl) ?_
              refine g_iald (v := σ.2 5 i) X hR hr5 (vp_in_nI (show i < 60 by omega) (by decide)) (by rw [nI_clamp (by omega)]) dX2_laidAnew_34 ?_
              refine lv_icmp_ne (tgt := 71) X.hx X.hb dX2_laidAnew_35 (by decide) (fun c35 => ?_) (fun c35 => ?_)
              · refine lv_iconst (v := 0) X.hx X.hb dX2_laidAnew_71 (by decide) ?_
                refine lv_iadd X.hx X.hb dX2_laidAnew_72 ?_
                refine lv_topi (fun x908 hx908 => ?_)
                obtain rfl : x908 = LN σ i (j + 1) := hx908.trans (by rw [LN, if_neg (fun h9 => c35 h9.1)])
                refine lv_istore_n (lv' := [(2, .int (LN σ i (j + 1))), (0, .ref m), (1, .int (nI i)), (3, .int 1), (4, .int (nI j))]) X.hx X.hb dX2_laidAnew_73 rfl hl (by decide) rfl (fun ls hl => ?_)
                obtain ⟨x909, hx909⟩ : ∃ y : Int32, y = nI j + 1 := ⟨_, rfl⟩
                refine lv_iinc (v := x909) (lv' := [(4, .int x909), (2, .int (LN σ i (j + 1))), (0, .ref m), (1, .int (nI i)), (3, .int 1)]) X.hx X.hb dX2_laidAnew_74 hl (k := 4) rfl (by rw [hx909]; rfl) (by decide) rfl (fun ls hl => ?_)
                refine lv_goto (tgt := 11) X.hx X.hb dX2_laidAnew_77 (by decide) ?_
                rw [hx909, nI_1] at hl
                exact ih (j + 1) _ _ _ (by omega) (by omega) hR hS (lv_sub hl [2, 3, 1, 4, 0] rfl)
              · refine lv_aload_n X.hx X.hb dX2_laidAnew_38 rfl (lv_at hl 0 rfl) ?_
                refine lv_iload X.hx X.hb dX2_laidAnew_39 (lv_at hl 4 rfl) ?_
                refine lv_aload_n X.hx X.hb dX2_laidAnew_41 rfl (lv_at hl 0 rfl) ?_
                refine g_get X hR hm rfl in_X2 3 (by decide) q1298 (fun _ h => h) rfl dX2_laidAnew_42 ?_
                refine gcV X hl.1 hR hS 2 [.int (nI j), .int (σ.2 12 0)] [.int (LN σ i j)] (m_isKnown l Γ G907 hW hMc (k := j) (by omega)) hm rfl q1429 q1431 qs27 q40 q1432 rfl rfl ⟨rfl, by decide +kernel, by decide +kernel, by decide +kernel⟩ ⟨by (try dsimp only [RM]); omega, by (try dsimp only [RM]); omega⟩ rfl rfl (Nat.le_of_ble_eq_true rfl) dX2_laidAnew_45 ⟨by (try dsimp only [RM]); omega, by (try dsimp only [RM]); omega⟩ (fun v913 G914 H locs hq910 hR911 hS912 => ?_)
                obtain ⟨rfl, rfl⟩ := hq910
                by_cases hkw : knw σ j (σ.2 12 0)
                · rw [if_pos hkw]
                  refine lv_if_eq (tgt := 71) X.hx X.hb dX2_laidAnew_48 (by decide) (fun c48 => ?_) (fun c48 => ?_)
                  · exact absurd c48 (by decide)
                  · refine lv_aload_n X.hx X.hb dX2_laidAnew_51 rfl (lv_at hl 0 rfl) ?_
                    refine g_get X hR911 hm rfl in_X2 12 (by decide) q1307 (fun _ h => h) rfl dX2_laidAnew_52 ?_
                    refine lv_iload X.hx X.hb dX2_laidAnew_55 (lv_at hl 4 rfl) ?_
                    refine g_iald (v := σ.2 8 j) X hR911 hr8 (vp_in_nI (show j < 60 by omega) (by decide)) (by rw [nI_clamp (by omega)]) dX2_laidAnew_57 ?_
                    refine lv_aload_n X.hx X.hb dX2_laidAnew_58 rfl (lv_at hl 0 rfl) ?_
                    refine g_get X hR911 hm rfl in_X2 12 (by decide) q1307 (fun _ h => h) rfl dX2_laidAnew_59 ?_
                    refine lv_iload_n X.hx X.hb dX2_laidAnew_62 rfl (lv_at hl 1 rfl) ?_
                    refine g_iald (v := σ.2 8 i) X hR911 hr8 (vp_in_nI (show i < 60 by omega) (by decide)) (by rw [nI_clamp (by omega)]) dX2_laidAnew_63 ?_
                    refine lv_icmp_le (tgt := 71) X.hx X.hb dX2_laidAnew_64 (by decide) (fun c64 => ?_) (fun c64 => ?_)
                    · refine lv_iconst (v := 0) X.hx X.hb dX2_laidAnew_71 (by decide) ?_
                      refine lv_iadd X.hx X.hb dX2_laidAnew_72 ?_
                      refine lv_topi (fun x915 hx915 => ?_)
                      obtain rfl : x915 = LN σ i (j + 1) := hx915.trans (by rw [LN, if_neg (fun h9 => absurd h9.2.1 (Int32.not_lt.mpr c64))])
                      refine lv_istore_n (lv' := [(2, .int (LN σ i (j + 1))), (0, .ref m), (1, .int (nI i)), (3, .int 1), (4, .int (nI j))]) X.hx X.hb dX2_laidAnew_73 rfl hl (by decide) rfl (fun ls hl => ?_)
                      obtain ⟨x916, hx916⟩ : ∃ y : Int32, y = nI j + 1 := ⟨_, rfl⟩
                      refine lv_iinc (v := x916) (lv' := [(4, .int x916), (2, .int (LN σ i (j + 1))), (0, .ref m), (1, .int (nI i)), (3, .int 1)]) X.hx X.hb dX2_laidAnew_74 hl (k := 4) rfl (by rw [hx916]; rfl) (by decide) rfl (fun ls hl => ?_)
                      refine lv_goto (tgt := 11) X.hx X.hb dX2_laidAnew_77 (by decide) ?_
                      rw [hx916, nI_1] at hl
                      exact ih (j + 1) _ _ _ (by omega) (by omega) hR911 hS912 (lv_sub hl [2, 3, 1, 4, 0] rfl)
                    · refine lv_iconst (v := 1) X.hx X.hb dX2_laidAnew_67 (by decide) ?_
                      refine lv_goto (tgt := 72) X.hx X.hb dX2_laidAnew_68 (by decide) ?_
                      refine lv_iadd X.hx X.hb dX2_laidAnew_72 ?_
                      refine lv_topi (fun x917 hx917 => ?_)
                      obtain rfl : x917 = LN σ i (j + 1) := hx917.trans (by rw [LN, if_pos ⟨c35, Int32.not_le.mp c64, hkw⟩])
                      refine lv_istore_n (lv' := [(2, .int (LN σ i (j + 1))), (0, .ref m), (1, .int (nI i)), (3, .int 1), (4, .int (nI j))]) X.hx X.hb dX2_laidAnew_73 rfl hl (by decide) rfl (fun ls hl => ?_)
                      obtain ⟨x918, hx918⟩ : ∃ y : Int32, y = nI j + 1 := ⟨_, rfl⟩
                      refine lv_iinc (v := x918) (lv' := [(4, .int x918), (2, .int (LN σ i (j + 1))), (0, .ref m), (1, .int (nI i)), (3, .int 1)]) X.hx X.hb dX2_laidAnew_74 hl (k := 4) rfl (by rw [hx918]; rfl) (by decide) rfl (fun ls hl => ?_)
                      refine lv_goto (tgt := 11) X.hx X.hb dX2_laidAnew_77 (by decide) ?_
                      rw [hx918, nI_1] at hl
                      exact ih (j + 1) _ _ _ (by omega) (by omega) hR911 hS912 (lv_sub hl [2, 3, 1, 4, 0] rfl)
                · rw [if_neg hkw]
                  refine lv_if_eq (tgt := 71) X.hx X.hb dX2_laidAnew_48 (by decide) (fun c48 => ?_) (fun c48 => ?_)
                  · refine lv_iconst (v := 0) X.hx X.hb dX2_laidAnew_71 (by decide) ?_
                    refine lv_iadd X.hx X.hb dX2_laidAnew_72 ?_
                    refine lv_topi (fun x919 hx919 => ?_)
                    obtain rfl : x919 = LN σ i (j + 1) := hx919.trans (by rw [LN, if_neg (fun h9 => hkw h9.2.2)])
                    refine lv_istore_n (lv' := [(2, .int (LN σ i (j + 1))), (0, .ref m), (1, .int (nI i)), (3, .int 1), (4, .int (nI j))]) X.hx X.hb dX2_laidAnew_73 rfl hl (by decide) rfl (fun ls hl => ?_)
                    obtain ⟨x920, hx920⟩ : ∃ y : Int32, y = nI j + 1 := ⟨_, rfl⟩
                    refine lv_iinc (v := x920) (lv' := [(4, .int x920), (2, .int (LN σ i (j + 1))), (0, .ref m), (1, .int (nI i)), (3, .int 1)]) X.hx X.hb dX2_laidAnew_74 hl (k := 4) rfl (by rw [hx920]; rfl) (by decide) rfl (fun ls hl => ?_)
                    refine lv_goto (tgt := 11) X.hx X.hb dX2_laidAnew_77 (by decide) ?_
                    rw [hx920, nI_1] at hl
                    exact ih (j + 1) _ _ _ (by omega) (by omega) hR911 hS912 (lv_sub hl [2, 3, 1, 4, 0] rfl)
                  · exact absurd (by decide) c48
        · have hne : j = i := by omega
          rw [hne] at hl
          refine lv_iload_n X.hx X.hb dX2_laidAnew_11 rfl (lv_at hl 3 rfl) ?_
          refine lv_if_eq (tgt := 80) X.hx X.hb dX2_laidAnew_12 (by decide) (fun c12 => ?_) (fun c12 => ?_)
          · exact absurd c12 (by decide)
          · refine lv_iload X.hx X.hb dX2_laidAnew_15 (lv_at hl 4 rfl) ?_
            refine lv_iload_n X.hx X.hb dX2_laidAnew_17 rfl (lv_at hl 1 rfl) ?_
            refine lv_icmp_ge (tgt := 80) X.hx X.hb dX2_laidAnew_18 (by decide) (fun c18 => ?_) (fun c18 => ?_)
            · refine lv_iload_n X.hx X.hb dX2_laidAnew_80 rfl (lv_at hl 2 rfl) ?_
              exact g_iret X hr hlk hR hS (⟨Or.inl ⟨by rw [kC, if_neg hc], by rw [hic], by rw [← hkc]; exact hMc⟩, hgc⟩) (by (try dsimp only [RM]); omega) (by (try dsimp only [RM]); omega) dX2_laidAnew_81
            · exact absurd (Int32.le_refl _) c18
    exact loop (i + 1) 0 _ _ _ (by omega) (by omega) hR904 hS905 (lv_sub hl [3, 4, 2, 1, 0] rfl)

set_option maxHeartbeats 4000000 in
theorem m_init (l : Launch) (Γ : GP) (G : GH) {m : Nat} (hm : G m = some ((30, 0), .inr (1, [.int 0, .null, .null, .int 0, .int 0, .null, .null, .null, .int 0, .null, .null, .null, .null, .null, .null, .null, .null, .null, .null, .null, .int 0]))) : MetG l yX2_init (ws_ yX2_init cX2_init 1 none) (RM 4 16 2679) Γ G [.ref m] (fun u G1 => u = none ∧ (∃ B, MP Γ G1 m (fun _ => 0, fun _ _ => 0) 0 B) ∧ gK TMm G G1) 16 2679 := by
  refine gMet (own := RX2) (by decide) rfl (Nat.le_of_ble_eq_true rfl) ?_
  intro pp ee ss mm below meth cc0 ls X hr hlk hin hnm hR hS hl
  have hl : lv_has ls 1 [(0, .ref m)] := hl
  refine lv_aload_n X.hx X.hb dX2_init_0 rfl (lv_at hl 0 rfl) ?_
  refine W.objInit X.hx X.hb X.hown (X.hts _ q1294) (X.hts _ q87) (X.hts _ q88) rfl (by rw [X.hml]; exact hl.1) rfl dX2_init_1 (Nat.le_of_ble_eq_true rfl) (Nat.le_of_ble_eq_true rfl) ?_
  refine W.eq (g2 := F0 mm 4 ls []) rfl ?_
  refine lv_aload_n X.hx X.hb dX2_init_4 rfl (lv_at hl 0 rfl) ?_
  refine lv_iconst (v := 4) X.hx X.hb dX2_init_5 (by decide) ?_
  refine g_newa (atype := .int) (ty := .int) (N := 4) (a0 := (4, .inl (fun _ => 0))) X hR hS (31, 0) 0 q134 rfl rfl (fun _ h => h) (fun _ => rfl) (by decide) (by decide) (by decide) (by (try dsimp only [RM]); omega) (by (try dsimp only [RM]); omega) dX2_init_6 (fun q921 H hq923 hR922 hS924 => ?_)
  obtain ⟨G925, hG925⟩ : ∃ z : GH, z = gu G q921 ((31, 0), .inl (Γ.2 1, 4, .inl (fun _ => 0))) := ⟨_, rfl⟩
  have hR922 : Rep Γ G925 H := by rw [hG925]; exact hR922
  have f926 : G925 m = some ((30, 0), .inr (1, [.int 0, .null, .null, .int 0, .int 0, .null, .null, .null, .int 0, .null, .null, .null, .null, .null, .null, .null, .null, .null, .null, .null, .int 0])) := by rw [hG925]; exact gu_f hm hq923
  have f927 : G925 q921 = some ((31, 0), .inl (Γ.2 1, 4, .inl (fun _ => 0))) := by rw [hG925]; exact gu_s _ _ _
  refine g_putF X hR922 hS924 f926 (Nat.le_of_ble_eq_true rfl) rfl in_X2 tyX2 tyX2_ok nmX2 1 (by decide) q1296 (fun _ h => h) rfl hin rfl rfl rfl (Nat.le_of_ble_eq_true rfl) dX2_init_8 (fun H locs hR928 hS929 => ?_)
  obtain ⟨G930, hG930⟩ : ∃ z : GH, z = gu G925 m ((30, 0), .inr (1, [.int 0, .ref q921, .null, .int 0, .int 0, .null, .null, .null, .int 0, .null, .null, .null, .null, .null, .null, .null, .null, .null, .null, .null, .int 0])) := ⟨_, rfl⟩
  have hR928 : Rep Γ G930 H := by rw [hG930]; exact hR928
  have f931 : G930 q921 = some ((31, 0), .inl (Γ.2 1, 4, .inl (fun _ => 0))) := by rw [hG930]; exact (gu_n (Ne.symm (fne hm hq923))).trans f927
  have f932 : G930 m = some ((30, 0), .inr (1, [.int 0, .ref q921, .null, .int 0, .int 0, .null, .null, .null, .int 0, .null, .null, .null, .null, .null, .null, .null, .null, .null, .null, .null, .int 0])) := by rw [hG930]; exact gu_s _ _ _
  refine lv_aload_n X.hx X.hb dX2_init_11 rfl (lv_at hl 0 rfl) ?_
  refine lv_iconst (v := 4) X.hx X.hb dX2_init_12 (by decide) ?_
  refine g_newa (atype := .int) (ty := .int) (N := 4) (a0 := (4, .inl (fun _ => 0))) X hR928 hS929 (31, 1) 0 q134 rfl rfl (fun _ h => h) (fun _ => rfl) (by decide) (by decide) (by decide) (by (try dsimp only [RM]); omega) (by (try dsimp only [RM]); omega) dX2_init_13 (fun q933 H hq935 hR934 hS936 => ?_)
  obtain ⟨G937, hG937⟩ : ∃ z : GH, z = gu G930 q933 ((31, 1), .inl (Γ.2 1, 4, .inl (fun _ => 0))) := ⟨_, rfl⟩
  have hR934 : Rep Γ G937 H := by rw [hG937]; exact hR934
  have f938 : G937 q921 = some ((31, 0), .inl (Γ.2 1, 4, .inl (fun _ => 0))) := by rw [hG937]; exact gu_f f931 hq935
  have f939 : G937 m = some ((30, 0), .inr (1, [.int 0, .ref q921, .null, .int 0, .int 0, .null, .null, .null, .int 0, .null, .null, .null, .null, .null, .null, .null, .null, .null, .null, .null, .int 0])) := by rw [hG937]; exact gu_f f932 hq935
  have f940 : G937 q933 = some ((31, 1), .inl (Γ.2 1, 4, .inl (fun _ => 0))) := by rw [hG937]; exact gu_s _ _ _
  refine g_putF X hR934 hS936 f939 (Nat.le_of_ble_eq_true rfl) rfl in_X2 tyX2 tyX2_ok nmX2 2 (by decide) q1297 (fun _ h => h) rfl hin rfl rfl rfl (Nat.le_of_ble_eq_true rfl) dX2_init_15 (fun H locs hR941 hS942 => ?_)
  obtain ⟨G943, hG943⟩ : ∃ z : GH, z = gu G937 m ((30, 0), .inr (1, [.int 0, .ref q921, .ref q933, .int 0, .int 0, .null, .null, .null, .int 0, .null, .null, .null, .null, .null, .null, .null, .null, .null, .null, .null, .int 0])) := ⟨_, rfl⟩
  have hR941 : Rep Γ G943 H := by rw [hG943]; exact hR941
  have f944 : G943 q921 = some ((31, 0), .inl (Γ.2 1, 4, .inl (fun _ => 0))) := by rw [hG943]; exact (gu_n (Ne.symm (fne hm hq923))).trans f938
  have f945 : G943 q933 = some ((31, 1), .inl (Γ.2 1, 4, .inl (fun _ => 0))) := by rw [hG943]; exact (gu_n (Ne.symm (fne f932 hq935))).trans f940
  have f946 : G943 m = some ((30, 0), .inr (1, [.int 0, .ref q921, .ref q933, .int 0, .int 0, .null, .null, .null, .int 0, .null, .null, .null, .null, .null, .null, .null, .null, .null, .null, .null, .int 0])) := by rw [hG943]; exact gu_s _ _ _
  refine lv_aload_n X.hx X.hb dX2_init_18 rfl (lv_at hl 0 rfl) ?_
  refine lv_bipush (v := 20) X.hx X.hb dX2_init_19 (by decide) ?_
  refine g_newa (atype := .int) (ty := .int) (N := 20) (a0 := (20, .inl (fun _ => 0))) X hR941 hS942 (31, 2) 0 q134 rfl rfl (fun _ h => h) (fun _ => rfl) (by decide) (by decide) (by decide) (by (try dsimp only [RM]); omega) (by (try dsimp only [RM]); omega) dX2_init_21 (fun q947 H hq949 hR948 hS950 => ?_)
  obtain ⟨G951, hG951⟩ : ∃ z : GH, z = gu G943 q947 ((31, 2), .inl (Γ.2 1, 20, .inl (fun _ => 0))) := ⟨_, rfl⟩
  have hR948 : Rep Γ G951 H := by rw [hG951]; exact hR948
  have f952 : G951 q921 = some ((31, 0), .inl (Γ.2 1, 4, .inl (fun _ => 0))) := by rw [hG951]; exact gu_f f944 hq949
  have f953 : G951 q933 = some ((31, 1), .inl (Γ.2 1, 4, .inl (fun _ => 0))) := by rw [hG951]; exact gu_f f945 hq949
  have f954 : G951 m = some ((30, 0), .inr (1, [.int 0, .ref q921, .ref q933, .int 0, .int 0, .null, .null, .null, .int 0, .null, .null, .null, .null, .null, .null, .null, .null, .null, .null, .null, .int 0])) := by rw [hG951]; exact gu_f f946 hq949
  have f955 : G951 q947 = some ((31, 2), .inl (Γ.2 1, 20, .inl (fun _ => 0))) := by rw [hG951]; exact gu_s _ _ _
  refine g_putF X hR948 hS950 f954 (Nat.le_of_ble_eq_true rfl) rfl in_X2 tyX2 tyX2_ok nmX2 5 (by decide) q1300 (fun _ h => h) rfl hin rfl rfl rfl (Nat.le_of_ble_eq_true rfl) dX2_init_23 (fun H locs hR956 hS957 => ?_)
  obtain ⟨G958, hG958⟩ : ∃ z : GH, z = gu G951 m ((30, 0), .inr (1, [.int 0, .ref q921, .ref q933, .int 0, .int 0, .ref q947, .null, .null, .int 0, .null, .null, .null, .null, .null, .null, .null, .null, .null, .null, .null, .int 0])) := ⟨_, rfl⟩
  have hR956 : Rep Γ G958 H := by rw [hG958]; exact hR956
  have f959 : G958 q921 = some ((31, 0), .inl (Γ.2 1, 4, .inl (fun _ => 0))) := by rw [hG958]; exact (gu_n (Ne.symm (fne hm hq923))).trans f952
  have f960 : G958 q933 = some ((31, 1), .inl (Γ.2 1, 4, .inl (fun _ => 0))) := by rw [hG958]; exact (gu_n (Ne.symm (fne f932 hq935))).trans f953
  have f961 : G958 q947 = some ((31, 2), .inl (Γ.2 1, 20, .inl (fun _ => 0))) := by rw [hG958]; exact (gu_n (Ne.symm (fne f946 hq949))).trans f955
  have f962 : G958 m = some ((30, 0), .inr (1, [.int 0, .ref q921, .ref q933, .int 0, .int 0, .ref q947, .null, .null, .int 0, .null, .null, .null, .null, .null, .null, .null, .null, .null, .null, .null, .int 0])) := by rw [hG958]; exact gu_s _ _ _
  refine lv_aload_n X.hx X.hb dX2_init_26 rfl (lv_at hl 0 rfl) ?_
  refine lv_bipush (v := 20) X.hx X.hb dX2_init_27 (by decide) ?_
  refine g_newa (atype := .int) (ty := .int) (N := 20) (a0 := (20, .inl (fun _ => 0))) X hR956 hS957 (31, 3) 0 q134 rfl rfl (fun _ h => h) (fun _ => rfl) (by decide) (by decide) (by decide) (by (try dsimp only [RM]); omega) (by (try dsimp only [RM]); omega) dX2_init_29 (fun q963 H hq965 hR964 hS966 => ?_)
  obtain ⟨G967, hG967⟩ : ∃ z : GH, z = gu G958 q963 ((31, 3), .inl (Γ.2 1, 20, .inl (fun _ => 0))) := ⟨_, rfl⟩
  have hR964 : Rep Γ G967 H := by rw [hG967]; exact hR964
  have f968 : G967 q921 = some ((31, 0), .inl (Γ.2 1, 4, .inl (fun _ => 0))) := by rw [hG967]; exact gu_f f959 hq965
  have f969 : G967 q933 = some ((31, 1), .inl (Γ.2 1, 4, .inl (fun _ => 0))) := by rw [hG967]; exact gu_f f960 hq965
  have f970 : G967 q947 = some ((31, 2), .inl (Γ.2 1, 20, .inl (fun _ => 0))) := by rw [hG967]; exact gu_f f961 hq965
  have f971 : G967 m = some ((30, 0), .inr (1, [.int 0, .ref q921, .ref q933, .int 0, .int 0, .ref q947, .null, .null, .int 0, .null, .null, .null, .null, .null, .null, .null, .null, .null, .null, .null, .int 0])) := by rw [hG967]; exact gu_f f962 hq965
  have f972 : G967 q963 = some ((31, 3), .inl (Γ.2 1, 20, .inl (fun _ => 0))) := by rw [hG967]; exact gu_s _ _ _
  refine g_putF X hR964 hS966 f971 (Nat.le_of_ble_eq_true rfl) rfl in_X2 tyX2 tyX2_ok nmX2 6 (by decide) q1301 (fun _ h => h) rfl hin rfl rfl rfl (Nat.le_of_ble_eq_true rfl) dX2_init_31 (fun H locs hR973 hS974 => ?_)
  obtain ⟨G975, hG975⟩ : ∃ z : GH, z = gu G967 m ((30, 0), .inr (1, [.int 0, .ref q921, .ref q933, .int 0, .int 0, .ref q947, .ref q963, .null, .int 0, .null, .null, .null, .null, .null, .null, .null, .null, .null, .null, .null, .int 0])) := ⟨_, rfl⟩
  have hR973 : Rep Γ G975 H := by rw [hG975]; exact hR973
  have f976 : G975 q921 = some ((31, 0), .inl (Γ.2 1, 4, .inl (fun _ => 0))) := by rw [hG975]; exact (gu_n (Ne.symm (fne hm hq923))).trans f968
  have f977 : G975 q933 = some ((31, 1), .inl (Γ.2 1, 4, .inl (fun _ => 0))) := by rw [hG975]; exact (gu_n (Ne.symm (fne f932 hq935))).trans f969
  have f978 : G975 q947 = some ((31, 2), .inl (Γ.2 1, 20, .inl (fun _ => 0))) := by rw [hG975]; exact (gu_n (Ne.symm (fne f946 hq949))).trans f970
  have f979 : G975 q963 = some ((31, 3), .inl (Γ.2 1, 20, .inl (fun _ => 0))) := by rw [hG975]; exact (gu_n (Ne.symm (fne f962 hq965))).trans f972
  have f980 : G975 m = some ((30, 0), .inr (1, [.int 0, .ref q921, .ref q933, .int 0, .int 0, .ref q947, .ref q963, .null, .int 0, .null, .null, .null, .null, .null, .null, .null, .null, .null, .null, .null, .int 0])) := by rw [hG975]; exact gu_s _ _ _
  refine lv_aload_n X.hx X.hb dX2_init_34 rfl (lv_at hl 0 rfl) ?_
  refine lv_bipush (v := 20) X.hx X.hb dX2_init_35 (by decide) ?_
  refine g_newa (atype := .int) (ty := .int) (N := 20) (a0 := (20, .inl (fun _ => 0))) X hR973 hS974 (31, 4) 0 q134 rfl rfl (fun _ h => h) (fun _ => rfl) (by decide) (by decide) (by decide) (by (try dsimp only [RM]); omega) (by (try dsimp only [RM]); omega) dX2_init_37 (fun q981 H hq983 hR982 hS984 => ?_)
  obtain ⟨G985, hG985⟩ : ∃ z : GH, z = gu G975 q981 ((31, 4), .inl (Γ.2 1, 20, .inl (fun _ => 0))) := ⟨_, rfl⟩
  have hR982 : Rep Γ G985 H := by rw [hG985]; exact hR982
  have f986 : G985 q921 = some ((31, 0), .inl (Γ.2 1, 4, .inl (fun _ => 0))) := by rw [hG985]; exact gu_f f976 hq983
  have f987 : G985 q933 = some ((31, 1), .inl (Γ.2 1, 4, .inl (fun _ => 0))) := by rw [hG985]; exact gu_f f977 hq983
  have f988 : G985 q947 = some ((31, 2), .inl (Γ.2 1, 20, .inl (fun _ => 0))) := by rw [hG985]; exact gu_f f978 hq983
  have f989 : G985 q963 = some ((31, 3), .inl (Γ.2 1, 20, .inl (fun _ => 0))) := by rw [hG985]; exact gu_f f979 hq983
  have f990 : G985 m = some ((30, 0), .inr (1, [.int 0, .ref q921, .ref q933, .int 0, .int 0, .ref q947, .ref q963, .null, .int 0, .null, .null, .null, .null, .null, .null, .null, .null, .null, .null, .null, .int 0])) := by rw [hG985]; exact gu_f f980 hq983
  have f991 : G985 q981 = some ((31, 4), .inl (Γ.2 1, 20, .inl (fun _ => 0))) := by rw [hG985]; exact gu_s _ _ _
  refine g_putF X hR982 hS984 f990 (Nat.le_of_ble_eq_true rfl) rfl in_X2 tyX2 tyX2_ok nmX2 7 (by decide) q1302 (fun _ h => h) rfl hin rfl rfl rfl (Nat.le_of_ble_eq_true rfl) dX2_init_39 (fun H locs hR992 hS993 => ?_)
  obtain ⟨G994, hG994⟩ : ∃ z : GH, z = gu G985 m ((30, 0), .inr (1, [.int 0, .ref q921, .ref q933, .int 0, .int 0, .ref q947, .ref q963, .ref q981, .int 0, .null, .null, .null, .null, .null, .null, .null, .null, .null, .null, .null, .int 0])) := ⟨_, rfl⟩
  have hR992 : Rep Γ G994 H := by rw [hG994]; exact hR992
  have f995 : G994 q921 = some ((31, 0), .inl (Γ.2 1, 4, .inl (fun _ => 0))) := by rw [hG994]; exact (gu_n (Ne.symm (fne hm hq923))).trans f986
  have f996 : G994 q933 = some ((31, 1), .inl (Γ.2 1, 4, .inl (fun _ => 0))) := by rw [hG994]; exact (gu_n (Ne.symm (fne f932 hq935))).trans f987
  have f997 : G994 q947 = some ((31, 2), .inl (Γ.2 1, 20, .inl (fun _ => 0))) := by rw [hG994]; exact (gu_n (Ne.symm (fne f946 hq949))).trans f988
  have f998 : G994 q963 = some ((31, 3), .inl (Γ.2 1, 20, .inl (fun _ => 0))) := by rw [hG994]; exact (gu_n (Ne.symm (fne f962 hq965))).trans f989
  have f999 : G994 q981 = some ((31, 4), .inl (Γ.2 1, 20, .inl (fun _ => 0))) := by rw [hG994]; exact (gu_n (Ne.symm (fne f980 hq983))).trans f991
  have f1000 : G994 m = some ((30, 0), .inr (1, [.int 0, .ref q921, .ref q933, .int 0, .int 0, .ref q947, .ref q963, .ref q981, .int 0, .null, .null, .null, .null, .null, .null, .null, .null, .null, .null, .null, .int 0])) := by rw [hG994]; exact gu_s _ _ _
  refine lv_aload_n X.hx X.hb dX2_init_42 rfl (lv_at hl 0 rfl) ?_
  refine lv_bipush (v := 60) X.hx X.hb dX2_init_43 (by decide) ?_
  refine g_newa (atype := .int) (ty := .int) (N := 60) (a0 := (60, .inl (fun _ => 0))) X hR992 hS993 (31, 5) 0 q134 rfl rfl (fun _ h => h) (fun _ => rfl) (by decide) (by decide) (by decide) (by (try dsimp only [RM]); omega) (by (try dsimp only [RM]); omega) dX2_init_45 (fun q1001 H hq1003 hR1002 hS1004 => ?_)
  obtain ⟨G1005, hG1005⟩ : ∃ z : GH, z = gu G994 q1001 ((31, 5), .inl (Γ.2 1, 60, .inl (fun _ => 0))) := ⟨_, rfl⟩
  have hR1002 : Rep Γ G1005 H := by rw [hG1005]; exact hR1002
  have f1006 : G1005 q921 = some ((31, 0), .inl (Γ.2 1, 4, .inl (fun _ => 0))) := by rw [hG1005]; exact gu_f f995 hq1003
  have f1007 : G1005 q933 = some ((31, 1), .inl (Γ.2 1, 4, .inl (fun _ => 0))) := by rw [hG1005]; exact gu_f f996 hq1003
  have f1008 : G1005 q947 = some ((31, 2), .inl (Γ.2 1, 20, .inl (fun _ => 0))) := by rw [hG1005]; exact gu_f f997 hq1003
  have f1009 : G1005 q963 = some ((31, 3), .inl (Γ.2 1, 20, .inl (fun _ => 0))) := by rw [hG1005]; exact gu_f f998 hq1003
  have f1010 : G1005 q981 = some ((31, 4), .inl (Γ.2 1, 20, .inl (fun _ => 0))) := by rw [hG1005]; exact gu_f f999 hq1003
  have f1011 : G1005 m = some ((30, 0), .inr (1, [.int 0, .ref q921, .ref q933, .int 0, .int 0, .ref q947, .ref q963, .ref q981, .int 0, .null, .null, .null, .null, .null, .null, .null, .null, .null, .null, .null, .int 0])) := by rw [hG1005]; exact gu_f f1000 hq1003
  have f1012 : G1005 q1001 = some ((31, 5), .inl (Γ.2 1, 60, .inl (fun _ => 0))) := by rw [hG1005]; exact gu_s _ _ _
  refine g_putF X hR1002 hS1004 f1011 (Nat.le_of_ble_eq_true rfl) rfl in_X2 tyX2 tyX2_ok nmX2 9 (by decide) q1304 (fun _ h => h) rfl hin rfl rfl rfl (Nat.le_of_ble_eq_true rfl) dX2_init_47 (fun H locs hR1013 hS1014 => ?_)
  obtain ⟨G1015, hG1015⟩ : ∃ z : GH, z = gu G1005 m ((30, 0), .inr (1, [.int 0, .ref q921, .ref q933, .int 0, .int 0, .ref q947, .ref q963, .ref q981, .int 0, .ref q1001, .null, .null, .null, .null, .null, .null, .null, .null, .null, .null, .int 0])) := ⟨_, rfl⟩
  have hR1013 : Rep Γ G1015 H := by rw [hG1015]; exact hR1013
  have f1016 : G1015 q921 = some ((31, 0), .inl (Γ.2 1, 4, .inl (fun _ => 0))) := by rw [hG1015]; exact (gu_n (Ne.symm (fne hm hq923))).trans f1006
  have f1017 : G1015 q933 = some ((31, 1), .inl (Γ.2 1, 4, .inl (fun _ => 0))) := by rw [hG1015]; exact (gu_n (Ne.symm (fne f932 hq935))).trans f1007
  have f1018 : G1015 q947 = some ((31, 2), .inl (Γ.2 1, 20, .inl (fun _ => 0))) := by rw [hG1015]; exact (gu_n (Ne.symm (fne f946 hq949))).trans f1008
  have f1019 : G1015 q963 = some ((31, 3), .inl (Γ.2 1, 20, .inl (fun _ => 0))) := by rw [hG1015]; exact (gu_n (Ne.symm (fne f962 hq965))).trans f1009
  have f1020 : G1015 q981 = some ((31, 4), .inl (Γ.2 1, 20, .inl (fun _ => 0))) := by rw [hG1015]; exact (gu_n (Ne.symm (fne f980 hq983))).trans f1010
  have f1021 : G1015 q1001 = some ((31, 5), .inl (Γ.2 1, 60, .inl (fun _ => 0))) := by rw [hG1015]; exact (gu_n (Ne.symm (fne f1000 hq1003))).trans f1012
  have f1022 : G1015 m = some ((30, 0), .inr (1, [.int 0, .ref q921, .ref q933, .int 0, .int 0, .ref q947, .ref q963, .ref q981, .int 0, .ref q1001, .null, .null, .null, .null, .null, .null, .null, .null, .null, .null, .int 0])) := by rw [hG1015]; exact gu_s _ _ _
  refine lv_aload_n X.hx X.hb dX2_init_50 rfl (lv_at hl 0 rfl) ?_
  refine lv_bipush (v := 60) X.hx X.hb dX2_init_51 (by decide) ?_
  refine g_newa (atype := .int) (ty := .int) (N := 60) (a0 := (60, .inl (fun _ => 0))) X hR1013 hS1014 (31, 6) 0 q134 rfl rfl (fun _ h => h) (fun _ => rfl) (by decide) (by decide) (by decide) (by (try dsimp only [RM]); omega) (by (try dsimp only [RM]); omega) dX2_init_53 (fun q1023 H hq1025 hR1024 hS1026 => ?_)
  obtain ⟨G1027, hG1027⟩ : ∃ z : GH, z = gu G1015 q1023 ((31, 6), .inl (Γ.2 1, 60, .inl (fun _ => 0))) := ⟨_, rfl⟩
  have hR1024 : Rep Γ G1027 H := by rw [hG1027]; exact hR1024
  have f1028 : G1027 q921 = some ((31, 0), .inl (Γ.2 1, 4, .inl (fun _ => 0))) := by rw [hG1027]; exact gu_f f1016 hq1025
  have f1029 : G1027 q933 = some ((31, 1), .inl (Γ.2 1, 4, .inl (fun _ => 0))) := by rw [hG1027]; exact gu_f f1017 hq1025
  have f1030 : G1027 q947 = some ((31, 2), .inl (Γ.2 1, 20, .inl (fun _ => 0))) := by rw [hG1027]; exact gu_f f1018 hq1025
  have f1031 : G1027 q963 = some ((31, 3), .inl (Γ.2 1, 20, .inl (fun _ => 0))) := by rw [hG1027]; exact gu_f f1019 hq1025
  have f1032 : G1027 q981 = some ((31, 4), .inl (Γ.2 1, 20, .inl (fun _ => 0))) := by rw [hG1027]; exact gu_f f1020 hq1025
  have f1033 : G1027 q1001 = some ((31, 5), .inl (Γ.2 1, 60, .inl (fun _ => 0))) := by rw [hG1027]; exact gu_f f1021 hq1025
  have f1034 : G1027 m = some ((30, 0), .inr (1, [.int 0, .ref q921, .ref q933, .int 0, .int 0, .ref q947, .ref q963, .ref q981, .int 0, .ref q1001, .null, .null, .null, .null, .null, .null, .null, .null, .null, .null, .int 0])) := by rw [hG1027]; exact gu_f f1022 hq1025
  have f1035 : G1027 q1023 = some ((31, 6), .inl (Γ.2 1, 60, .inl (fun _ => 0))) := by rw [hG1027]; exact gu_s _ _ _
  refine g_putF X hR1024 hS1026 f1034 (Nat.le_of_ble_eq_true rfl) rfl in_X2 tyX2 tyX2_ok nmX2 10 (by decide) q1305 (fun _ h => h) rfl hin rfl rfl rfl (Nat.le_of_ble_eq_true rfl) dX2_init_55 (fun H locs hR1036 hS1037 => ?_)
  obtain ⟨G1038, hG1038⟩ : ∃ z : GH, z = gu G1027 m ((30, 0), .inr (1, [.int 0, .ref q921, .ref q933, .int 0, .int 0, .ref q947, .ref q963, .ref q981, .int 0, .ref q1001, .ref q1023, .null, .null, .null, .null, .null, .null, .null, .null, .null, .int 0])) := ⟨_, rfl⟩
  have hR1036 : Rep Γ G1038 H := by rw [hG1038]; exact hR1036
  have f1039 : G1038 q921 = some ((31, 0), .inl (Γ.2 1, 4, .inl (fun _ => 0))) := by rw [hG1038]; exact (gu_n (Ne.symm (fne hm hq923))).trans f1028
  have f1040 : G1038 q933 = some ((31, 1), .inl (Γ.2 1, 4, .inl (fun _ => 0))) := by rw [hG1038]; exact (gu_n (Ne.symm (fne f932 hq935))).trans f1029
  have f1041 : G1038 q947 = some ((31, 2), .inl (Γ.2 1, 20, .inl (fun _ => 0))) := by rw [hG1038]; exact (gu_n (Ne.symm (fne f946 hq949))).trans f1030
  have f1042 : G1038 q963 = some ((31, 3), .inl (Γ.2 1, 20, .inl (fun _ => 0))) := by rw [hG1038]; exact (gu_n (Ne.symm (fne f962 hq965))).trans f1031
  have f1043 : G1038 q981 = some ((31, 4), .inl (Γ.2 1, 20, .inl (fun _ => 0))) := by rw [hG1038]; exact (gu_n (Ne.symm (fne f980 hq983))).trans f1032
  have f1044 : G1038 q1001 = some ((31, 5), .inl (Γ.2 1, 60, .inl (fun _ => 0))) := by rw [hG1038]; exact (gu_n (Ne.symm (fne f1000 hq1003))).trans f1033
  have f1045 : G1038 q1023 = some ((31, 6), .inl (Γ.2 1, 60, .inl (fun _ => 0))) := by rw [hG1038]; exact (gu_n (Ne.symm (fne f1022 hq1025))).trans f1035
  have f1046 : G1038 m = some ((30, 0), .inr (1, [.int 0, .ref q921, .ref q933, .int 0, .int 0, .ref q947, .ref q963, .ref q981, .int 0, .ref q1001, .ref q1023, .null, .null, .null, .null, .null, .null, .null, .null, .null, .int 0])) := by rw [hG1038]; exact gu_s _ _ _
  refine lv_aload_n X.hx X.hb dX2_init_58 rfl (lv_at hl 0 rfl) ?_
  refine lv_bipush (v := 60) X.hx X.hb dX2_init_59 (by decide) ?_
  refine g_newa (atype := .int) (ty := .int) (N := 60) (a0 := (60, .inl (fun _ => 0))) X hR1036 hS1037 (31, 7) 0 q134 rfl rfl (fun _ h => h) (fun _ => rfl) (by decide) (by decide) (by decide) (by (try dsimp only [RM]); omega) (by (try dsimp only [RM]); omega) dX2_init_61 (fun q1047 H hq1049 hR1048 hS1050 => ?_)
  obtain ⟨G1051, hG1051⟩ : ∃ z : GH, z = gu G1038 q1047 ((31, 7), .inl (Γ.2 1, 60, .inl (fun _ => 0))) := ⟨_, rfl⟩
  have hR1048 : Rep Γ G1051 H := by rw [hG1051]; exact hR1048
  have f1052 : G1051 q921 = some ((31, 0), .inl (Γ.2 1, 4, .inl (fun _ => 0))) := by rw [hG1051]; exact gu_f f1039 hq1049
  have f1053 : G1051 q933 = some ((31, 1), .inl (Γ.2 1, 4, .inl (fun _ => 0))) := by rw [hG1051]; exact gu_f f1040 hq1049
  have f1054 : G1051 q947 = some ((31, 2), .inl (Γ.2 1, 20, .inl (fun _ => 0))) := by rw [hG1051]; exact gu_f f1041 hq1049
  have f1055 : G1051 q963 = some ((31, 3), .inl (Γ.2 1, 20, .inl (fun _ => 0))) := by rw [hG1051]; exact gu_f f1042 hq1049
  have f1056 : G1051 q981 = some ((31, 4), .inl (Γ.2 1, 20, .inl (fun _ => 0))) := by rw [hG1051]; exact gu_f f1043 hq1049
  have f1057 : G1051 q1001 = some ((31, 5), .inl (Γ.2 1, 60, .inl (fun _ => 0))) := by rw [hG1051]; exact gu_f f1044 hq1049
  have f1058 : G1051 q1023 = some ((31, 6), .inl (Γ.2 1, 60, .inl (fun _ => 0))) := by rw [hG1051]; exact gu_f f1045 hq1049
  have f1059 : G1051 m = some ((30, 0), .inr (1, [.int 0, .ref q921, .ref q933, .int 0, .int 0, .ref q947, .ref q963, .ref q981, .int 0, .ref q1001, .ref q1023, .null, .null, .null, .null, .null, .null, .null, .null, .null, .int 0])) := by rw [hG1051]; exact gu_f f1046 hq1049
  have f1060 : G1051 q1047 = some ((31, 7), .inl (Γ.2 1, 60, .inl (fun _ => 0))) := by rw [hG1051]; exact gu_s _ _ _
  refine g_putF X hR1048 hS1050 f1059 (Nat.le_of_ble_eq_true rfl) rfl in_X2 tyX2 tyX2_ok nmX2 11 (by decide) q1306 (fun _ h => h) rfl hin rfl rfl rfl (Nat.le_of_ble_eq_true rfl) dX2_init_63 (fun H locs hR1061 hS1062 => ?_)
  obtain ⟨G1063, hG1063⟩ : ∃ z : GH, z = gu G1051 m ((30, 0), .inr (1, [.int 0, .ref q921, .ref q933, .int 0, .int 0, .ref q947, .ref q963, .ref q981, .int 0, .ref q1001, .ref q1023, .ref q1047, .null, .null, .null, .null, .null, .null, .null, .null, .int 0])) := ⟨_, rfl⟩
  have hR1061 : Rep Γ G1063 H := by rw [hG1063]; exact hR1061
  have f1064 : G1063 q921 = some ((31, 0), .inl (Γ.2 1, 4, .inl (fun _ => 0))) := by rw [hG1063]; exact (gu_n (Ne.symm (fne hm hq923))).trans f1052
  have f1065 : G1063 q933 = some ((31, 1), .inl (Γ.2 1, 4, .inl (fun _ => 0))) := by rw [hG1063]; exact (gu_n (Ne.symm (fne f932 hq935))).trans f1053
  have f1066 : G1063 q947 = some ((31, 2), .inl (Γ.2 1, 20, .inl (fun _ => 0))) := by rw [hG1063]; exact (gu_n (Ne.symm (fne f946 hq949))).trans f1054
  have f1067 : G1063 q963 = some ((31, 3), .inl (Γ.2 1, 20, .inl (fun _ => 0))) := by rw [hG1063]; exact (gu_n (Ne.symm (fne f962 hq965))).trans f1055
  have f1068 : G1063 q981 = some ((31, 4), .inl (Γ.2 1, 20, .inl (fun _ => 0))) := by rw [hG1063]; exact (gu_n (Ne.symm (fne f980 hq983))).trans f1056
  have f1069 : G1063 q1001 = some ((31, 5), .inl (Γ.2 1, 60, .inl (fun _ => 0))) := by rw [hG1063]; exact (gu_n (Ne.symm (fne f1000 hq1003))).trans f1057
  have f1070 : G1063 q1023 = some ((31, 6), .inl (Γ.2 1, 60, .inl (fun _ => 0))) := by rw [hG1063]; exact (gu_n (Ne.symm (fne f1022 hq1025))).trans f1058
  have f1071 : G1063 q1047 = some ((31, 7), .inl (Γ.2 1, 60, .inl (fun _ => 0))) := by rw [hG1063]; exact (gu_n (Ne.symm (fne f1046 hq1049))).trans f1060
  have f1072 : G1063 m = some ((30, 0), .inr (1, [.int 0, .ref q921, .ref q933, .int 0, .int 0, .ref q947, .ref q963, .ref q981, .int 0, .ref q1001, .ref q1023, .ref q1047, .null, .null, .null, .null, .null, .null, .null, .null, .int 0])) := by rw [hG1063]; exact gu_s _ _ _
  refine lv_aload_n X.hx X.hb dX2_init_66 rfl (lv_at hl 0 rfl) ?_
  refine lv_bipush (v := 60) X.hx X.hb dX2_init_67 (by decide) ?_
  refine g_newa (atype := .int) (ty := .int) (N := 60) (a0 := (60, .inl (fun _ => 0))) X hR1061 hS1062 (31, 8) 0 q134 rfl rfl (fun _ h => h) (fun _ => rfl) (by decide) (by decide) (by decide) (by (try dsimp only [RM]); omega) (by (try dsimp only [RM]); omega) dX2_init_69 (fun q1073 H hq1075 hR1074 hS1076 => ?_)
  obtain ⟨G1077, hG1077⟩ : ∃ z : GH, z = gu G1063 q1073 ((31, 8), .inl (Γ.2 1, 60, .inl (fun _ => 0))) := ⟨_, rfl⟩
  have hR1074 : Rep Γ G1077 H := by rw [hG1077]; exact hR1074
  have f1078 : G1077 q921 = some ((31, 0), .inl (Γ.2 1, 4, .inl (fun _ => 0))) := by rw [hG1077]; exact gu_f f1064 hq1075
  have f1079 : G1077 q933 = some ((31, 1), .inl (Γ.2 1, 4, .inl (fun _ => 0))) := by rw [hG1077]; exact gu_f f1065 hq1075
  have f1080 : G1077 q947 = some ((31, 2), .inl (Γ.2 1, 20, .inl (fun _ => 0))) := by rw [hG1077]; exact gu_f f1066 hq1075
  have f1081 : G1077 q963 = some ((31, 3), .inl (Γ.2 1, 20, .inl (fun _ => 0))) := by rw [hG1077]; exact gu_f f1067 hq1075
  have f1082 : G1077 q981 = some ((31, 4), .inl (Γ.2 1, 20, .inl (fun _ => 0))) := by rw [hG1077]; exact gu_f f1068 hq1075
  have f1083 : G1077 q1001 = some ((31, 5), .inl (Γ.2 1, 60, .inl (fun _ => 0))) := by rw [hG1077]; exact gu_f f1069 hq1075
  have f1084 : G1077 q1023 = some ((31, 6), .inl (Γ.2 1, 60, .inl (fun _ => 0))) := by rw [hG1077]; exact gu_f f1070 hq1075
  have f1085 : G1077 q1047 = some ((31, 7), .inl (Γ.2 1, 60, .inl (fun _ => 0))) := by rw [hG1077]; exact gu_f f1071 hq1075
  have f1086 : G1077 m = some ((30, 0), .inr (1, [.int 0, .ref q921, .ref q933, .int 0, .int 0, .ref q947, .ref q963, .ref q981, .int 0, .ref q1001, .ref q1023, .ref q1047, .null, .null, .null, .null, .null, .null, .null, .null, .int 0])) := by rw [hG1077]; exact gu_f f1072 hq1075
  have f1087 : G1077 q1073 = some ((31, 8), .inl (Γ.2 1, 60, .inl (fun _ => 0))) := by rw [hG1077]; exact gu_s _ _ _
  refine g_putF X hR1074 hS1076 f1086 (Nat.le_of_ble_eq_true rfl) rfl in_X2 tyX2 tyX2_ok nmX2 12 (by decide) q1307 (fun _ h => h) rfl hin rfl rfl rfl (Nat.le_of_ble_eq_true rfl) dX2_init_71 (fun H locs hR1088 hS1089 => ?_)
  obtain ⟨G1090, hG1090⟩ : ∃ z : GH, z = gu G1077 m ((30, 0), .inr (1, [.int 0, .ref q921, .ref q933, .int 0, .int 0, .ref q947, .ref q963, .ref q981, .int 0, .ref q1001, .ref q1023, .ref q1047, .ref q1073, .null, .null, .null, .null, .null, .null, .null, .int 0])) := ⟨_, rfl⟩
  have hR1088 : Rep Γ G1090 H := by rw [hG1090]; exact hR1088
  have f1091 : G1090 q921 = some ((31, 0), .inl (Γ.2 1, 4, .inl (fun _ => 0))) := by rw [hG1090]; exact (gu_n (Ne.symm (fne hm hq923))).trans f1078
  have f1092 : G1090 q933 = some ((31, 1), .inl (Γ.2 1, 4, .inl (fun _ => 0))) := by rw [hG1090]; exact (gu_n (Ne.symm (fne f932 hq935))).trans f1079
  have f1093 : G1090 q947 = some ((31, 2), .inl (Γ.2 1, 20, .inl (fun _ => 0))) := by rw [hG1090]; exact (gu_n (Ne.symm (fne f946 hq949))).trans f1080
  have f1094 : G1090 q963 = some ((31, 3), .inl (Γ.2 1, 20, .inl (fun _ => 0))) := by rw [hG1090]; exact (gu_n (Ne.symm (fne f962 hq965))).trans f1081
  have f1095 : G1090 q981 = some ((31, 4), .inl (Γ.2 1, 20, .inl (fun _ => 0))) := by rw [hG1090]; exact (gu_n (Ne.symm (fne f980 hq983))).trans f1082
  have f1096 : G1090 q1001 = some ((31, 5), .inl (Γ.2 1, 60, .inl (fun _ => 0))) := by rw [hG1090]; exact (gu_n (Ne.symm (fne f1000 hq1003))).trans f1083
  have f1097 : G1090 q1023 = some ((31, 6), .inl (Γ.2 1, 60, .inl (fun _ => 0))) := by rw [hG1090]; exact (gu_n (Ne.symm (fne f1022 hq1025))).trans f1084
  have f1098 : G1090 q1047 = some ((31, 7), .inl (Γ.2 1, 60, .inl (fun _ => 0))) := by rw [hG1090]; exact (gu_n (Ne.symm (fne f1046 hq1049))).trans f1085
  have f1099 : G1090 q1073 = some ((31, 8), .inl (Γ.2 1, 60, .inl (fun _ => 0))) := by rw [hG1090]; exact (gu_n (Ne.symm (fne f1072 hq1075))).trans f1087
  have f1100 : G1090 m = some ((30, 0), .inr (1, [.int 0, .ref q921, .ref q933, .int 0, .int 0, .ref q947, .ref q963, .ref q981, .int 0, .ref q1001, .ref q1023, .ref q1047, .ref q1073, .null, .null, .null, .null, .null, .null, .null, .int 0])) := by rw [hG1090]; exact gu_s _ _ _
  refine lv_aload_n X.hx X.hb dX2_init_74 rfl (lv_at hl 0 rfl) ?_
  refine lv_bipush (v := 60) X.hx X.hb dX2_init_75 (by decide) ?_
  refine g_newa (atype := .int) (ty := .int) (N := 60) (a0 := (60, .inl (fun _ => 0))) X hR1088 hS1089 (31, 9) 0 q134 rfl rfl (fun _ h => h) (fun _ => rfl) (by decide) (by decide) (by decide) (by (try dsimp only [RM]); omega) (by (try dsimp only [RM]); omega) dX2_init_77 (fun q1101 H hq1103 hR1102 hS1104 => ?_)
  obtain ⟨G1105, hG1105⟩ : ∃ z : GH, z = gu G1090 q1101 ((31, 9), .inl (Γ.2 1, 60, .inl (fun _ => 0))) := ⟨_, rfl⟩
  have hR1102 : Rep Γ G1105 H := by rw [hG1105]; exact hR1102
  have f1106 : G1105 q921 = some ((31, 0), .inl (Γ.2 1, 4, .inl (fun _ => 0))) := by rw [hG1105]; exact gu_f f1091 hq1103
  have f1107 : G1105 q933 = some ((31, 1), .inl (Γ.2 1, 4, .inl (fun _ => 0))) := by rw [hG1105]; exact gu_f f1092 hq1103
  have f1108 : G1105 q947 = some ((31, 2), .inl (Γ.2 1, 20, .inl (fun _ => 0))) := by rw [hG1105]; exact gu_f f1093 hq1103
  have f1109 : G1105 q963 = some ((31, 3), .inl (Γ.2 1, 20, .inl (fun _ => 0))) := by rw [hG1105]; exact gu_f f1094 hq1103
  have f1110 : G1105 q981 = some ((31, 4), .inl (Γ.2 1, 20, .inl (fun _ => 0))) := by rw [hG1105]; exact gu_f f1095 hq1103
  have f1111 : G1105 q1001 = some ((31, 5), .inl (Γ.2 1, 60, .inl (fun _ => 0))) := by rw [hG1105]; exact gu_f f1096 hq1103
  have f1112 : G1105 q1023 = some ((31, 6), .inl (Γ.2 1, 60, .inl (fun _ => 0))) := by rw [hG1105]; exact gu_f f1097 hq1103
  have f1113 : G1105 q1047 = some ((31, 7), .inl (Γ.2 1, 60, .inl (fun _ => 0))) := by rw [hG1105]; exact gu_f f1098 hq1103
  have f1114 : G1105 q1073 = some ((31, 8), .inl (Γ.2 1, 60, .inl (fun _ => 0))) := by rw [hG1105]; exact gu_f f1099 hq1103
  have f1115 : G1105 m = some ((30, 0), .inr (1, [.int 0, .ref q921, .ref q933, .int 0, .int 0, .ref q947, .ref q963, .ref q981, .int 0, .ref q1001, .ref q1023, .ref q1047, .ref q1073, .null, .null, .null, .null, .null, .null, .null, .int 0])) := by rw [hG1105]; exact gu_f f1100 hq1103
  have f1116 : G1105 q1101 = some ((31, 9), .inl (Γ.2 1, 60, .inl (fun _ => 0))) := by rw [hG1105]; exact gu_s _ _ _
  refine g_putF X hR1102 hS1104 f1115 (Nat.le_of_ble_eq_true rfl) rfl in_X2 tyX2 tyX2_ok nmX2 13 (by decide) q1308 (fun _ h => h) rfl hin rfl rfl rfl (Nat.le_of_ble_eq_true rfl) dX2_init_79 (fun H locs hR1117 hS1118 => ?_)
  obtain ⟨G1119, hG1119⟩ : ∃ z : GH, z = gu G1105 m ((30, 0), .inr (1, [.int 0, .ref q921, .ref q933, .int 0, .int 0, .ref q947, .ref q963, .ref q981, .int 0, .ref q1001, .ref q1023, .ref q1047, .ref q1073, .ref q1101, .null, .null, .null, .null, .null, .null, .int 0])) := ⟨_, rfl⟩
  have hR1117 : Rep Γ G1119 H := by rw [hG1119]; exact hR1117
  have f1120 : G1119 q921 = some ((31, 0), .inl (Γ.2 1, 4, .inl (fun _ => 0))) := by rw [hG1119]; exact (gu_n (Ne.symm (fne hm hq923))).trans f1106
  have f1121 : G1119 q933 = some ((31, 1), .inl (Γ.2 1, 4, .inl (fun _ => 0))) := by rw [hG1119]; exact (gu_n (Ne.symm (fne f932 hq935))).trans f1107
  have f1122 : G1119 q947 = some ((31, 2), .inl (Γ.2 1, 20, .inl (fun _ => 0))) := by rw [hG1119]; exact (gu_n (Ne.symm (fne f946 hq949))).trans f1108
  have f1123 : G1119 q963 = some ((31, 3), .inl (Γ.2 1, 20, .inl (fun _ => 0))) := by rw [hG1119]; exact (gu_n (Ne.symm (fne f962 hq965))).trans f1109
  have f1124 : G1119 q981 = some ((31, 4), .inl (Γ.2 1, 20, .inl (fun _ => 0))) := by rw [hG1119]; exact (gu_n (Ne.symm (fne f980 hq983))).trans f1110
  have f1125 : G1119 q1001 = some ((31, 5), .inl (Γ.2 1, 60, .inl (fun _ => 0))) := by rw [hG1119]; exact (gu_n (Ne.symm (fne f1000 hq1003))).trans f1111
  have f1126 : G1119 q1023 = some ((31, 6), .inl (Γ.2 1, 60, .inl (fun _ => 0))) := by rw [hG1119]; exact (gu_n (Ne.symm (fne f1022 hq1025))).trans f1112
  have f1127 : G1119 q1047 = some ((31, 7), .inl (Γ.2 1, 60, .inl (fun _ => 0))) := by rw [hG1119]; exact (gu_n (Ne.symm (fne f1046 hq1049))).trans f1113
  have f1128 : G1119 q1073 = some ((31, 8), .inl (Γ.2 1, 60, .inl (fun _ => 0))) := by rw [hG1119]; exact (gu_n (Ne.symm (fne f1072 hq1075))).trans f1114
  have f1129 : G1119 q1101 = some ((31, 9), .inl (Γ.2 1, 60, .inl (fun _ => 0))) := by rw [hG1119]; exact (gu_n (Ne.symm (fne f1100 hq1103))).trans f1116
  have f1130 : G1119 m = some ((30, 0), .inr (1, [.int 0, .ref q921, .ref q933, .int 0, .int 0, .ref q947, .ref q963, .ref q981, .int 0, .ref q1001, .ref q1023, .ref q1047, .ref q1073, .ref q1101, .null, .null, .null, .null, .null, .null, .int 0])) := by rw [hG1119]; exact gu_s _ _ _
  refine lv_aload_n X.hx X.hb dX2_init_82 rfl (lv_at hl 0 rfl) ?_
  refine lv_bipush (v := 60) X.hx X.hb dX2_init_83 (by decide) ?_
  refine g_newa (atype := .int) (ty := .int) (N := 60) (a0 := (60, .inl (fun _ => 0))) X hR1117 hS1118 (31, 10) 0 q134 rfl rfl (fun _ h => h) (fun _ => rfl) (by decide) (by decide) (by decide) (by (try dsimp only [RM]); omega) (by (try dsimp only [RM]); omega) dX2_init_85 (fun q1131 H hq1133 hR1132 hS1134 => ?_)
  obtain ⟨G1135, hG1135⟩ : ∃ z : GH, z = gu G1119 q1131 ((31, 10), .inl (Γ.2 1, 60, .inl (fun _ => 0))) := ⟨_, rfl⟩
  have hR1132 : Rep Γ G1135 H := by rw [hG1135]; exact hR1132
  have f1136 : G1135 q921 = some ((31, 0), .inl (Γ.2 1, 4, .inl (fun _ => 0))) := by rw [hG1135]; exact gu_f f1120 hq1133
  have f1137 : G1135 q933 = some ((31, 1), .inl (Γ.2 1, 4, .inl (fun _ => 0))) := by rw [hG1135]; exact gu_f f1121 hq1133
  have f1138 : G1135 q947 = some ((31, 2), .inl (Γ.2 1, 20, .inl (fun _ => 0))) := by rw [hG1135]; exact gu_f f1122 hq1133
  have f1139 : G1135 q963 = some ((31, 3), .inl (Γ.2 1, 20, .inl (fun _ => 0))) := by rw [hG1135]; exact gu_f f1123 hq1133
  have f1140 : G1135 q981 = some ((31, 4), .inl (Γ.2 1, 20, .inl (fun _ => 0))) := by rw [hG1135]; exact gu_f f1124 hq1133
  have f1141 : G1135 q1001 = some ((31, 5), .inl (Γ.2 1, 60, .inl (fun _ => 0))) := by rw [hG1135]; exact gu_f f1125 hq1133
  have f1142 : G1135 q1023 = some ((31, 6), .inl (Γ.2 1, 60, .inl (fun _ => 0))) := by rw [hG1135]; exact gu_f f1126 hq1133
  have f1143 : G1135 q1047 = some ((31, 7), .inl (Γ.2 1, 60, .inl (fun _ => 0))) := by rw [hG1135]; exact gu_f f1127 hq1133
  have f1144 : G1135 q1073 = some ((31, 8), .inl (Γ.2 1, 60, .inl (fun _ => 0))) := by rw [hG1135]; exact gu_f f1128 hq1133
  have f1145 : G1135 q1101 = some ((31, 9), .inl (Γ.2 1, 60, .inl (fun _ => 0))) := by rw [hG1135]; exact gu_f f1129 hq1133
  have f1146 : G1135 m = some ((30, 0), .inr (1, [.int 0, .ref q921, .ref q933, .int 0, .int 0, .ref q947, .ref q963, .ref q981, .int 0, .ref q1001, .ref q1023, .ref q1047, .ref q1073, .ref q1101, .null, .null, .null, .null, .null, .null, .int 0])) := by rw [hG1135]; exact gu_f f1130 hq1133
  have f1147 : G1135 q1131 = some ((31, 10), .inl (Γ.2 1, 60, .inl (fun _ => 0))) := by rw [hG1135]; exact gu_s _ _ _
  refine g_putF X hR1132 hS1134 f1146 (Nat.le_of_ble_eq_true rfl) rfl in_X2 tyX2 tyX2_ok nmX2 14 (by decide) q1309 (fun _ h => h) rfl hin rfl rfl rfl (Nat.le_of_ble_eq_true rfl) dX2_init_87 (fun H locs hR1148 hS1149 => ?_)
  obtain ⟨G1150, hG1150⟩ : ∃ z : GH, z = gu G1135 m ((30, 0), .inr (1, [.int 0, .ref q921, .ref q933, .int 0, .int 0, .ref q947, .ref q963, .ref q981, .int 0, .ref q1001, .ref q1023, .ref q1047, .ref q1073, .ref q1101, .ref q1131, .null, .null, .null, .null, .null, .int 0])) := ⟨_, rfl⟩
  have hR1148 : Rep Γ G1150 H := by rw [hG1150]; exact hR1148
  have f1151 : G1150 q921 = some ((31, 0), .inl (Γ.2 1, 4, .inl (fun _ => 0))) := by rw [hG1150]; exact (gu_n (Ne.symm (fne hm hq923))).trans f1136
  have f1152 : G1150 q933 = some ((31, 1), .inl (Γ.2 1, 4, .inl (fun _ => 0))) := by rw [hG1150]; exact (gu_n (Ne.symm (fne f932 hq935))).trans f1137
  have f1153 : G1150 q947 = some ((31, 2), .inl (Γ.2 1, 20, .inl (fun _ => 0))) := by rw [hG1150]; exact (gu_n (Ne.symm (fne f946 hq949))).trans f1138
  have f1154 : G1150 q963 = some ((31, 3), .inl (Γ.2 1, 20, .inl (fun _ => 0))) := by rw [hG1150]; exact (gu_n (Ne.symm (fne f962 hq965))).trans f1139
  have f1155 : G1150 q981 = some ((31, 4), .inl (Γ.2 1, 20, .inl (fun _ => 0))) := by rw [hG1150]; exact (gu_n (Ne.symm (fne f980 hq983))).trans f1140
  have f1156 : G1150 q1001 = some ((31, 5), .inl (Γ.2 1, 60, .inl (fun _ => 0))) := by rw [hG1150]; exact (gu_n (Ne.symm (fne f1000 hq1003))).trans f1141
  have f1157 : G1150 q1023 = some ((31, 6), .inl (Γ.2 1, 60, .inl (fun _ => 0))) := by rw [hG1150]; exact (gu_n (Ne.symm (fne f1022 hq1025))).trans f1142
  have f1158 : G1150 q1047 = some ((31, 7), .inl (Γ.2 1, 60, .inl (fun _ => 0))) := by rw [hG1150]; exact (gu_n (Ne.symm (fne f1046 hq1049))).trans f1143
  have f1159 : G1150 q1073 = some ((31, 8), .inl (Γ.2 1, 60, .inl (fun _ => 0))) := by rw [hG1150]; exact (gu_n (Ne.symm (fne f1072 hq1075))).trans f1144
  have f1160 : G1150 q1101 = some ((31, 9), .inl (Γ.2 1, 60, .inl (fun _ => 0))) := by rw [hG1150]; exact (gu_n (Ne.symm (fne f1100 hq1103))).trans f1145
  have f1161 : G1150 q1131 = some ((31, 10), .inl (Γ.2 1, 60, .inl (fun _ => 0))) := by rw [hG1150]; exact (gu_n (Ne.symm (fne f1130 hq1133))).trans f1147
  have f1162 : G1150 m = some ((30, 0), .inr (1, [.int 0, .ref q921, .ref q933, .int 0, .int 0, .ref q947, .ref q963, .ref q981, .int 0, .ref q1001, .ref q1023, .ref q1047, .ref q1073, .ref q1101, .ref q1131, .null, .null, .null, .null, .null, .int 0])) := by rw [hG1150]; exact gu_s _ _ _
  refine lv_aload_n X.hx X.hb dX2_init_90 rfl (lv_at hl 0 rfl) ?_
  refine lv_bipush (v := 60) X.hx X.hb dX2_init_91 (by decide) ?_
  refine g_newa (atype := .int) (ty := .int) (N := 60) (a0 := (60, .inl (fun _ => 0))) X hR1148 hS1149 (31, 11) 0 q134 rfl rfl (fun _ h => h) (fun _ => rfl) (by decide) (by decide) (by decide) (by (try dsimp only [RM]); omega) (by (try dsimp only [RM]); omega) dX2_init_93 (fun q1163 H hq1165 hR1164 hS1166 => ?_)
  obtain ⟨G1167, hG1167⟩ : ∃ z : GH, z = gu G1150 q1163 ((31, 11), .inl (Γ.2 1, 60, .inl (fun _ => 0))) := ⟨_, rfl⟩
  have hR1164 : Rep Γ G1167 H := by rw [hG1167]; exact hR1164
  have f1168 : G1167 q921 = some ((31, 0), .inl (Γ.2 1, 4, .inl (fun _ => 0))) := by rw [hG1167]; exact gu_f f1151 hq1165
  have f1169 : G1167 q933 = some ((31, 1), .inl (Γ.2 1, 4, .inl (fun _ => 0))) := by rw [hG1167]; exact gu_f f1152 hq1165
  have f1170 : G1167 q947 = some ((31, 2), .inl (Γ.2 1, 20, .inl (fun _ => 0))) := by rw [hG1167]; exact gu_f f1153 hq1165
  have f1171 : G1167 q963 = some ((31, 3), .inl (Γ.2 1, 20, .inl (fun _ => 0))) := by rw [hG1167]; exact gu_f f1154 hq1165
  have f1172 : G1167 q981 = some ((31, 4), .inl (Γ.2 1, 20, .inl (fun _ => 0))) := by rw [hG1167]; exact gu_f f1155 hq1165
  have f1173 : G1167 q1001 = some ((31, 5), .inl (Γ.2 1, 60, .inl (fun _ => 0))) := by rw [hG1167]; exact gu_f f1156 hq1165
  have f1174 : G1167 q1023 = some ((31, 6), .inl (Γ.2 1, 60, .inl (fun _ => 0))) := by rw [hG1167]; exact gu_f f1157 hq1165
  have f1175 : G1167 q1047 = some ((31, 7), .inl (Γ.2 1, 60, .inl (fun _ => 0))) := by rw [hG1167]; exact gu_f f1158 hq1165
  have f1176 : G1167 q1073 = some ((31, 8), .inl (Γ.2 1, 60, .inl (fun _ => 0))) := by rw [hG1167]; exact gu_f f1159 hq1165
  have f1177 : G1167 q1101 = some ((31, 9), .inl (Γ.2 1, 60, .inl (fun _ => 0))) := by rw [hG1167]; exact gu_f f1160 hq1165
  have f1178 : G1167 q1131 = some ((31, 10), .inl (Γ.2 1, 60, .inl (fun _ => 0))) := by rw [hG1167]; exact gu_f f1161 hq1165
  have f1179 : G1167 m = some ((30, 0), .inr (1, [.int 0, .ref q921, .ref q933, .int 0, .int 0, .ref q947, .ref q963, .ref q981, .int 0, .ref q1001, .ref q1023, .ref q1047, .ref q1073, .ref q1101, .ref q1131, .null, .null, .null, .null, .null, .int 0])) := by rw [hG1167]; exact gu_f f1162 hq1165
  have f1180 : G1167 q1163 = some ((31, 11), .inl (Γ.2 1, 60, .inl (fun _ => 0))) := by rw [hG1167]; exact gu_s _ _ _
  refine g_putF X hR1164 hS1166 f1179 (Nat.le_of_ble_eq_true rfl) rfl in_X2 tyX2 tyX2_ok nmX2 15 (by decide) q1310 (fun _ h => h) rfl hin rfl rfl rfl (Nat.le_of_ble_eq_true rfl) dX2_init_95 (fun H locs hR1181 hS1182 => ?_)
  obtain ⟨G1183, hG1183⟩ : ∃ z : GH, z = gu G1167 m ((30, 0), .inr (1, [.int 0, .ref q921, .ref q933, .int 0, .int 0, .ref q947, .ref q963, .ref q981, .int 0, .ref q1001, .ref q1023, .ref q1047, .ref q1073, .ref q1101, .ref q1131, .ref q1163, .null, .null, .null, .null, .int 0])) := ⟨_, rfl⟩
  have hR1181 : Rep Γ G1183 H := by rw [hG1183]; exact hR1181
  have f1184 : G1183 q921 = some ((31, 0), .inl (Γ.2 1, 4, .inl (fun _ => 0))) := by rw [hG1183]; exact (gu_n (Ne.symm (fne hm hq923))).trans f1168
  have f1185 : G1183 q933 = some ((31, 1), .inl (Γ.2 1, 4, .inl (fun _ => 0))) := by rw [hG1183]; exact (gu_n (Ne.symm (fne f932 hq935))).trans f1169
  have f1186 : G1183 q947 = some ((31, 2), .inl (Γ.2 1, 20, .inl (fun _ => 0))) := by rw [hG1183]; exact (gu_n (Ne.symm (fne f946 hq949))).trans f1170
  have f1187 : G1183 q963 = some ((31, 3), .inl (Γ.2 1, 20, .inl (fun _ => 0))) := by rw [hG1183]; exact (gu_n (Ne.symm (fne f962 hq965))).trans f1171
  have f1188 : G1183 q981 = some ((31, 4), .inl (Γ.2 1, 20, .inl (fun _ => 0))) := by rw [hG1183]; exact (gu_n (Ne.symm (fne f980 hq983))).trans f1172
  have f1189 : G1183 q1001 = some ((31, 5), .inl (Γ.2 1, 60, .inl (fun _ => 0))) := by rw [hG1183]; exact (gu_n (Ne.symm (fne f1000 hq1003))).trans f1173
  have f1190 : G1183 q1023 = some ((31, 6), .inl (Γ.2 1, 60, .inl (fun _ => 0))) := by rw [hG1183]; exact (gu_n (Ne.symm (fne f1022 hq1025))).trans f1174
  have f1191 : G1183 q1047 = some ((31, 7), .inl (Γ.2 1, 60, .inl (fun _ => 0))) := by rw [hG1183]; exact (gu_n (Ne.symm (fne f1046 hq1049))).trans f1175
  have f1192 : G1183 q1073 = some ((31, 8), .inl (Γ.2 1, 60, .inl (fun _ => 0))) := by rw [hG1183]; exact (gu_n (Ne.symm (fne f1072 hq1075))).trans f1176
  have f1193 : G1183 q1101 = some ((31, 9), .inl (Γ.2 1, 60, .inl (fun _ => 0))) := by rw [hG1183]; exact (gu_n (Ne.symm (fne f1100 hq1103))).trans f1177
  have f1194 : G1183 q1131 = some ((31, 10), .inl (Γ.2 1, 60, .inl (fun _ => 0))) := by rw [hG1183]; exact (gu_n (Ne.symm (fne f1130 hq1133))).trans f1178
  have f1195 : G1183 q1163 = some ((31, 11), .inl (Γ.2 1, 60, .inl (fun _ => 0))) := by rw [hG1183]; exact (gu_n (Ne.symm (fne f1162 hq1165))).trans f1180
  have f1196 : G1183 m = some ((30, 0), .inr (1, [.int 0, .ref q921, .ref q933, .int 0, .int 0, .ref q947, .ref q963, .ref q981, .int 0, .ref q1001, .ref q1023, .ref q1047, .ref q1073, .ref q1101, .ref q1131, .ref q1163, .null, .null, .null, .null, .int 0])) := by rw [hG1183]; exact gu_s _ _ _
  refine lv_aload_n X.hx X.hb dX2_init_98 rfl (lv_at hl 0 rfl) ?_
  refine lv_sipush (v := 1095) X.hx X.hb dX2_init_99 (by decide) ?_
  refine g_newa (atype := .int) (ty := .int) (N := 1095) (a0 := (1095, .inl (fun _ => 0))) X hR1181 hS1182 (32, 0) 0 q134 rfl rfl (fun _ h => h) (fun _ => rfl) (by decide) (by decide) (by decide) (by (try dsimp only [RM]); omega) (by (try dsimp only [RM]); omega) dX2_init_102 (fun q1197 H hq1199 hR1198 hS1200 => ?_)
  obtain ⟨G1201, hG1201⟩ : ∃ z : GH, z = gu G1183 q1197 ((32, 0), .inl (Γ.2 1, 1095, .inl (fun _ => 0))) := ⟨_, rfl⟩
  have hR1198 : Rep Γ G1201 H := by rw [hG1201]; exact hR1198
  have f1202 : G1201 q921 = some ((31, 0), .inl (Γ.2 1, 4, .inl (fun _ => 0))) := by rw [hG1201]; exact gu_f f1184 hq1199
  have f1203 : G1201 q933 = some ((31, 1), .inl (Γ.2 1, 4, .inl (fun _ => 0))) := by rw [hG1201]; exact gu_f f1185 hq1199
  have f1204 : G1201 q947 = some ((31, 2), .inl (Γ.2 1, 20, .inl (fun _ => 0))) := by rw [hG1201]; exact gu_f f1186 hq1199
  have f1205 : G1201 q963 = some ((31, 3), .inl (Γ.2 1, 20, .inl (fun _ => 0))) := by rw [hG1201]; exact gu_f f1187 hq1199
  have f1206 : G1201 q981 = some ((31, 4), .inl (Γ.2 1, 20, .inl (fun _ => 0))) := by rw [hG1201]; exact gu_f f1188 hq1199
  have f1207 : G1201 q1001 = some ((31, 5), .inl (Γ.2 1, 60, .inl (fun _ => 0))) := by rw [hG1201]; exact gu_f f1189 hq1199
  have f1208 : G1201 q1023 = some ((31, 6), .inl (Γ.2 1, 60, .inl (fun _ => 0))) := by rw [hG1201]; exact gu_f f1190 hq1199
  have f1209 : G1201 q1047 = some ((31, 7), .inl (Γ.2 1, 60, .inl (fun _ => 0))) := by rw [hG1201]; exact gu_f f1191 hq1199
  have f1210 : G1201 q1073 = some ((31, 8), .inl (Γ.2 1, 60, .inl (fun _ => 0))) := by rw [hG1201]; exact gu_f f1192 hq1199
  have f1211 : G1201 q1101 = some ((31, 9), .inl (Γ.2 1, 60, .inl (fun _ => 0))) := by rw [hG1201]; exact gu_f f1193 hq1199
  have f1212 : G1201 q1131 = some ((31, 10), .inl (Γ.2 1, 60, .inl (fun _ => 0))) := by rw [hG1201]; exact gu_f f1194 hq1199
  have f1213 : G1201 q1163 = some ((31, 11), .inl (Γ.2 1, 60, .inl (fun _ => 0))) := by rw [hG1201]; exact gu_f f1195 hq1199
  have f1214 : G1201 m = some ((30, 0), .inr (1, [.int 0, .ref q921, .ref q933, .int 0, .int 0, .ref q947, .ref q963, .ref q981, .int 0, .ref q1001, .ref q1023, .ref q1047, .ref q1073, .ref q1101, .ref q1131, .ref q1163, .null, .null, .null, .null, .int 0])) := by rw [hG1201]; exact gu_f f1196 hq1199
  have f1215 : G1201 q1197 = some ((32, 0), .inl (Γ.2 1, 1095, .inl (fun _ => 0))) := by rw [hG1201]; exact gu_s _ _ _
  refine g_putF X hR1198 hS1200 f1214 (Nat.le_of_ble_eq_true rfl) rfl in_X2 tyX2 tyX2_ok nmX2 16 (by decide) q1311 (fun _ h => h) rfl hin rfl rfl rfl (Nat.le_of_ble_eq_true rfl) dX2_init_104 (fun H locs hR1216 hS1217 => ?_)
  obtain ⟨G1218, hG1218⟩ : ∃ z : GH, z = gu G1201 m ((30, 0), .inr (1, [.int 0, .ref q921, .ref q933, .int 0, .int 0, .ref q947, .ref q963, .ref q981, .int 0, .ref q1001, .ref q1023, .ref q1047, .ref q1073, .ref q1101, .ref q1131, .ref q1163, .ref q1197, .null, .null, .null, .int 0])) := ⟨_, rfl⟩
  have hR1216 : Rep Γ G1218 H := by rw [hG1218]; exact hR1216
  have f1219 : G1218 q921 = some ((31, 0), .inl (Γ.2 1, 4, .inl (fun _ => 0))) := by rw [hG1218]; exact (gu_n (Ne.symm (fne hm hq923))).trans f1202
  have f1220 : G1218 q933 = some ((31, 1), .inl (Γ.2 1, 4, .inl (fun _ => 0))) := by rw [hG1218]; exact (gu_n (Ne.symm (fne f932 hq935))).trans f1203
  have f1221 : G1218 q947 = some ((31, 2), .inl (Γ.2 1, 20, .inl (fun _ => 0))) := by rw [hG1218]; exact (gu_n (Ne.symm (fne f946 hq949))).trans f1204
  have f1222 : G1218 q963 = some ((31, 3), .inl (Γ.2 1, 20, .inl (fun _ => 0))) := by rw [hG1218]; exact (gu_n (Ne.symm (fne f962 hq965))).trans f1205
  have f1223 : G1218 q981 = some ((31, 4), .inl (Γ.2 1, 20, .inl (fun _ => 0))) := by rw [hG1218]; exact (gu_n (Ne.symm (fne f980 hq983))).trans f1206
  have f1224 : G1218 q1001 = some ((31, 5), .inl (Γ.2 1, 60, .inl (fun _ => 0))) := by rw [hG1218]; exact (gu_n (Ne.symm (fne f1000 hq1003))).trans f1207
  have f1225 : G1218 q1023 = some ((31, 6), .inl (Γ.2 1, 60, .inl (fun _ => 0))) := by rw [hG1218]; exact (gu_n (Ne.symm (fne f1022 hq1025))).trans f1208
  have f1226 : G1218 q1047 = some ((31, 7), .inl (Γ.2 1, 60, .inl (fun _ => 0))) := by rw [hG1218]; exact (gu_n (Ne.symm (fne f1046 hq1049))).trans f1209
  have f1227 : G1218 q1073 = some ((31, 8), .inl (Γ.2 1, 60, .inl (fun _ => 0))) := by rw [hG1218]; exact (gu_n (Ne.symm (fne f1072 hq1075))).trans f1210
  have f1228 : G1218 q1101 = some ((31, 9), .inl (Γ.2 1, 60, .inl (fun _ => 0))) := by rw [hG1218]; exact (gu_n (Ne.symm (fne f1100 hq1103))).trans f1211
  have f1229 : G1218 q1131 = some ((31, 10), .inl (Γ.2 1, 60, .inl (fun _ => 0))) := by rw [hG1218]; exact (gu_n (Ne.symm (fne f1130 hq1133))).trans f1212
  have f1230 : G1218 q1163 = some ((31, 11), .inl (Γ.2 1, 60, .inl (fun _ => 0))) := by rw [hG1218]; exact (gu_n (Ne.symm (fne f1162 hq1165))).trans f1213
  have f1231 : G1218 q1197 = some ((32, 0), .inl (Γ.2 1, 1095, .inl (fun _ => 0))) := by rw [hG1218]; exact (gu_n (Ne.symm (fne f1196 hq1199))).trans f1215
  have f1232 : G1218 m = some ((30, 0), .inr (1, [.int 0, .ref q921, .ref q933, .int 0, .int 0, .ref q947, .ref q963, .ref q981, .int 0, .ref q1001, .ref q1023, .ref q1047, .ref q1073, .ref q1101, .ref q1131, .ref q1163, .ref q1197, .null, .null, .null, .int 0])) := by rw [hG1218]; exact gu_s _ _ _
  refine lv_aload_n X.hx X.hb dX2_init_107 rfl (lv_at hl 0 rfl) ?_
  refine lv_sipush (v := 365) X.hx X.hb dX2_init_108 (by decide) ?_
  refine g_newa (atype := .boolean) (ty := .boolean) (N := 365) (a0 := (365, .inl (fun _ => 0))) X hR1216 hS1217 (32, 1) 1 q1359 rfl rfl (fun _ h => h) (fun _ => rfl) (by decide) (by decide) (by decide) (by (try dsimp only [RM]); omega) (by (try dsimp only [RM]); omega) dX2_init_111 (fun q1233 H hq1235 hR1234 hS1236 => ?_)
  obtain ⟨G1237, hG1237⟩ : ∃ z : GH, z = gu G1218 q1233 ((32, 1), .inl (Γ.2 2, 365, .inl (fun _ => 0))) := ⟨_, rfl⟩
  have hR1234 : Rep Γ G1237 H := by rw [hG1237]; exact hR1234
  have f1238 : G1237 q921 = some ((31, 0), .inl (Γ.2 1, 4, .inl (fun _ => 0))) := by rw [hG1237]; exact gu_f f1219 hq1235
  have f1239 : G1237 q933 = some ((31, 1), .inl (Γ.2 1, 4, .inl (fun _ => 0))) := by rw [hG1237]; exact gu_f f1220 hq1235
  have f1240 : G1237 q947 = some ((31, 2), .inl (Γ.2 1, 20, .inl (fun _ => 0))) := by rw [hG1237]; exact gu_f f1221 hq1235
  have f1241 : G1237 q963 = some ((31, 3), .inl (Γ.2 1, 20, .inl (fun _ => 0))) := by rw [hG1237]; exact gu_f f1222 hq1235
  have f1242 : G1237 q981 = some ((31, 4), .inl (Γ.2 1, 20, .inl (fun _ => 0))) := by rw [hG1237]; exact gu_f f1223 hq1235
  have f1243 : G1237 q1001 = some ((31, 5), .inl (Γ.2 1, 60, .inl (fun _ => 0))) := by rw [hG1237]; exact gu_f f1224 hq1235
  have f1244 : G1237 q1023 = some ((31, 6), .inl (Γ.2 1, 60, .inl (fun _ => 0))) := by rw [hG1237]; exact gu_f f1225 hq1235
  have f1245 : G1237 q1047 = some ((31, 7), .inl (Γ.2 1, 60, .inl (fun _ => 0))) := by rw [hG1237]; exact gu_f f1226 hq1235
  have f1246 : G1237 q1073 = some ((31, 8), .inl (Γ.2 1, 60, .inl (fun _ => 0))) := by rw [hG1237]; exact gu_f f1227 hq1235
  have f1247 : G1237 q1101 = some ((31, 9), .inl (Γ.2 1, 60, .inl (fun _ => 0))) := by rw [hG1237]; exact gu_f f1228 hq1235
  have f1248 : G1237 q1131 = some ((31, 10), .inl (Γ.2 1, 60, .inl (fun _ => 0))) := by rw [hG1237]; exact gu_f f1229 hq1235
  have f1249 : G1237 q1163 = some ((31, 11), .inl (Γ.2 1, 60, .inl (fun _ => 0))) := by rw [hG1237]; exact gu_f f1230 hq1235
  have f1250 : G1237 q1197 = some ((32, 0), .inl (Γ.2 1, 1095, .inl (fun _ => 0))) := by rw [hG1237]; exact gu_f f1231 hq1235
  have f1251 : G1237 m = some ((30, 0), .inr (1, [.int 0, .ref q921, .ref q933, .int 0, .int 0, .ref q947, .ref q963, .ref q981, .int 0, .ref q1001, .ref q1023, .ref q1047, .ref q1073, .ref q1101, .ref q1131, .ref q1163, .ref q1197, .null, .null, .null, .int 0])) := by rw [hG1237]; exact gu_f f1232 hq1235
  have f1252 : G1237 q1233 = some ((32, 1), .inl (Γ.2 2, 365, .inl (fun _ => 0))) := by rw [hG1237]; exact gu_s _ _ _
  refine g_putF X hR1234 hS1236 f1251 (Nat.le_of_ble_eq_true rfl) rfl in_X2 tyX2 tyX2_ok nmX2 17 (by decide) q1312 (fun _ h => h) rfl hin rfl rfl rfl (Nat.le_of_ble_eq_true rfl) dX2_init_113 (fun H locs hR1253 hS1254 => ?_)
  obtain ⟨G1255, hG1255⟩ : ∃ z : GH, z = gu G1237 m ((30, 0), .inr (1, [.int 0, .ref q921, .ref q933, .int 0, .int 0, .ref q947, .ref q963, .ref q981, .int 0, .ref q1001, .ref q1023, .ref q1047, .ref q1073, .ref q1101, .ref q1131, .ref q1163, .ref q1197, .ref q1233, .null, .null, .int 0])) := ⟨_, rfl⟩
  have hR1253 : Rep Γ G1255 H := by rw [hG1255]; exact hR1253
  have f1256 : G1255 q921 = some ((31, 0), .inl (Γ.2 1, 4, .inl (fun _ => 0))) := by rw [hG1255]; exact (gu_n (Ne.symm (fne hm hq923))).trans f1238
  have f1257 : G1255 q933 = some ((31, 1), .inl (Γ.2 1, 4, .inl (fun _ => 0))) := by rw [hG1255]; exact (gu_n (Ne.symm (fne f932 hq935))).trans f1239
  have f1258 : G1255 q947 = some ((31, 2), .inl (Γ.2 1, 20, .inl (fun _ => 0))) := by rw [hG1255]; exact (gu_n (Ne.symm (fne f946 hq949))).trans f1240
  have f1259 : G1255 q963 = some ((31, 3), .inl (Γ.2 1, 20, .inl (fun _ => 0))) := by rw [hG1255]; exact (gu_n (Ne.symm (fne f962 hq965))).trans f1241
  have f1260 : G1255 q981 = some ((31, 4), .inl (Γ.2 1, 20, .inl (fun _ => 0))) := by rw [hG1255]; exact (gu_n (Ne.symm (fne f980 hq983))).trans f1242
  have f1261 : G1255 q1001 = some ((31, 5), .inl (Γ.2 1, 60, .inl (fun _ => 0))) := by rw [hG1255]; exact (gu_n (Ne.symm (fne f1000 hq1003))).trans f1243
  have f1262 : G1255 q1023 = some ((31, 6), .inl (Γ.2 1, 60, .inl (fun _ => 0))) := by rw [hG1255]; exact (gu_n (Ne.symm (fne f1022 hq1025))).trans f1244
  have f1263 : G1255 q1047 = some ((31, 7), .inl (Γ.2 1, 60, .inl (fun _ => 0))) := by rw [hG1255]; exact (gu_n (Ne.symm (fne f1046 hq1049))).trans f1245
  have f1264 : G1255 q1073 = some ((31, 8), .inl (Γ.2 1, 60, .inl (fun _ => 0))) := by rw [hG1255]; exact (gu_n (Ne.symm (fne f1072 hq1075))).trans f1246
  have f1265 : G1255 q1101 = some ((31, 9), .inl (Γ.2 1, 60, .inl (fun _ => 0))) := by rw [hG1255]; exact (gu_n (Ne.symm (fne f1100 hq1103))).trans f1247
  have f1266 : G1255 q1131 = some ((31, 10), .inl (Γ.2 1, 60, .inl (fun _ => 0))) := by rw [hG1255]; exact (gu_n (Ne.symm (fne f1130 hq1133))).trans f1248
  have f1267 : G1255 q1163 = some ((31, 11), .inl (Γ.2 1, 60, .inl (fun _ => 0))) := by rw [hG1255]; exact (gu_n (Ne.symm (fne f1162 hq1165))).trans f1249
  have f1268 : G1255 q1197 = some ((32, 0), .inl (Γ.2 1, 1095, .inl (fun _ => 0))) := by rw [hG1255]; exact (gu_n (Ne.symm (fne f1196 hq1199))).trans f1250
  have f1269 : G1255 q1233 = some ((32, 1), .inl (Γ.2 2, 365, .inl (fun _ => 0))) := by rw [hG1255]; exact (gu_n (Ne.symm (fne f1232 hq1235))).trans f1252
  have f1270 : G1255 m = some ((30, 0), .inr (1, [.int 0, .ref q921, .ref q933, .int 0, .int 0, .ref q947, .ref q963, .ref q981, .int 0, .ref q1001, .ref q1023, .ref q1047, .ref q1073, .ref q1101, .ref q1131, .ref q1163, .ref q1197, .ref q1233, .null, .null, .int 0])) := by rw [hG1255]; exact gu_s _ _ _
  refine lv_aload_n X.hx X.hb dX2_init_116 rfl (lv_at hl 0 rfl) ?_
  refine lv_sipush (v := 365) X.hx X.hb dX2_init_117 (by decide) ?_
  refine g_newa (atype := .int) (ty := .int) (N := 365) (a0 := (365, .inl (fun _ => 0))) X hR1253 hS1254 (32, 2) 0 q134 rfl rfl (fun _ h => h) (fun _ => rfl) (by decide) (by decide) (by decide) (by (try dsimp only [RM]); omega) (by (try dsimp only [RM]); omega) dX2_init_120 (fun q1271 H hq1273 hR1272 hS1274 => ?_)
  obtain ⟨G1275, hG1275⟩ : ∃ z : GH, z = gu G1255 q1271 ((32, 2), .inl (Γ.2 1, 365, .inl (fun _ => 0))) := ⟨_, rfl⟩
  have hR1272 : Rep Γ G1275 H := by rw [hG1275]; exact hR1272
  have f1276 : G1275 q921 = some ((31, 0), .inl (Γ.2 1, 4, .inl (fun _ => 0))) := by rw [hG1275]; exact gu_f f1256 hq1273
  have f1277 : G1275 q933 = some ((31, 1), .inl (Γ.2 1, 4, .inl (fun _ => 0))) := by rw [hG1275]; exact gu_f f1257 hq1273
  have f1278 : G1275 q947 = some ((31, 2), .inl (Γ.2 1, 20, .inl (fun _ => 0))) := by rw [hG1275]; exact gu_f f1258 hq1273
  have f1279 : G1275 q963 = some ((31, 3), .inl (Γ.2 1, 20, .inl (fun _ => 0))) := by rw [hG1275]; exact gu_f f1259 hq1273
  have f1280 : G1275 q981 = some ((31, 4), .inl (Γ.2 1, 20, .inl (fun _ => 0))) := by rw [hG1275]; exact gu_f f1260 hq1273
  have f1281 : G1275 q1001 = some ((31, 5), .inl (Γ.2 1, 60, .inl (fun _ => 0))) := by rw [hG1275]; exact gu_f f1261 hq1273
  have f1282 : G1275 q1023 = some ((31, 6), .inl (Γ.2 1, 60, .inl (fun _ => 0))) := by rw [hG1275]; exact gu_f f1262 hq1273
  have f1283 : G1275 q1047 = some ((31, 7), .inl (Γ.2 1, 60, .inl (fun _ => 0))) := by rw [hG1275]; exact gu_f f1263 hq1273
  have f1284 : G1275 q1073 = some ((31, 8), .inl (Γ.2 1, 60, .inl (fun _ => 0))) := by rw [hG1275]; exact gu_f f1264 hq1273
  have f1285 : G1275 q1101 = some ((31, 9), .inl (Γ.2 1, 60, .inl (fun _ => 0))) := by rw [hG1275]; exact gu_f f1265 hq1273
  have f1286 : G1275 q1131 = some ((31, 10), .inl (Γ.2 1, 60, .inl (fun _ => 0))) := by rw [hG1275]; exact gu_f f1266 hq1273
  have f1287 : G1275 q1163 = some ((31, 11), .inl (Γ.2 1, 60, .inl (fun _ => 0))) := by rw [hG1275]; exact gu_f f1267 hq1273
  have f1288 : G1275 q1197 = some ((32, 0), .inl (Γ.2 1, 1095, .inl (fun _ => 0))) := by rw [hG1275]; exact gu_f f1268 hq1273
  have f1289 : G1275 q1233 = some ((32, 1), .inl (Γ.2 2, 365, .inl (fun _ => 0))) := by rw [hG1275]; exact gu_f f1269 hq1273
  have f1290 : G1275 m = some ((30, 0), .inr (1, [.int 0, .ref q921, .ref q933, .int 0, .int 0, .ref q947, .ref q963, .ref q981, .int 0, .ref q1001, .ref q1023, .ref q1047, .ref q1073, .ref q1101, .ref q1131, .ref q1163, .ref q1197, .ref q1233, .null, .null, .int 0])) := by rw [hG1275]; exact gu_f f1270 hq1273
  have f1291 : G1275 q1271 = some ((32, 2), .inl (Γ.2 1, 365, .inl (fun _ => 0))) := by rw [hG1275]; exact gu_s _ _ _
  refine g_putF X hR1272 hS1274 f1290 (Nat.le_of_ble_eq_true rfl) rfl in_X2 tyX2 tyX2_ok nmX2 18 (by decide) q1313 (fun _ h => h) rfl hin rfl rfl rfl (Nat.le_of_ble_eq_true rfl) dX2_init_122 (fun H locs hR1292 hS1293 => ?_)
  obtain ⟨G1294, hG1294⟩ : ∃ z : GH, z = gu G1275 m ((30, 0), .inr (1, [.int 0, .ref q921, .ref q933, .int 0, .int 0, .ref q947, .ref q963, .ref q981, .int 0, .ref q1001, .ref q1023, .ref q1047, .ref q1073, .ref q1101, .ref q1131, .ref q1163, .ref q1197, .ref q1233, .ref q1271, .null, .int 0])) := ⟨_, rfl⟩
  have hR1292 : Rep Γ G1294 H := by rw [hG1294]; exact hR1292
  have f1295 : G1294 q921 = some ((31, 0), .inl (Γ.2 1, 4, .inl (fun _ => 0))) := by rw [hG1294]; exact (gu_n (Ne.symm (fne hm hq923))).trans f1276
  have f1296 : G1294 q933 = some ((31, 1), .inl (Γ.2 1, 4, .inl (fun _ => 0))) := by rw [hG1294]; exact (gu_n (Ne.symm (fne f932 hq935))).trans f1277
  have f1297 : G1294 q947 = some ((31, 2), .inl (Γ.2 1, 20, .inl (fun _ => 0))) := by rw [hG1294]; exact (gu_n (Ne.symm (fne f946 hq949))).trans f1278
  have f1298 : G1294 q963 = some ((31, 3), .inl (Γ.2 1, 20, .inl (fun _ => 0))) := by rw [hG1294]; exact (gu_n (Ne.symm (fne f962 hq965))).trans f1279
  have f1299 : G1294 q981 = some ((31, 4), .inl (Γ.2 1, 20, .inl (fun _ => 0))) := by rw [hG1294]; exact (gu_n (Ne.symm (fne f980 hq983))).trans f1280
  have f1300 : G1294 q1001 = some ((31, 5), .inl (Γ.2 1, 60, .inl (fun _ => 0))) := by rw [hG1294]; exact (gu_n (Ne.symm (fne f1000 hq1003))).trans f1281
  have f1301 : G1294 q1023 = some ((31, 6), .inl (Γ.2 1, 60, .inl (fun _ => 0))) := by rw [hG1294]; exact (gu_n (Ne.symm (fne f1022 hq1025))).trans f1282
  have f1302 : G1294 q1047 = some ((31, 7), .inl (Γ.2 1, 60, .inl (fun _ => 0))) := by rw [hG1294]; exact (gu_n (Ne.symm (fne f1046 hq1049))).trans f1283
  have f1303 : G1294 q1073 = some ((31, 8), .inl (Γ.2 1, 60, .inl (fun _ => 0))) := by rw [hG1294]; exact (gu_n (Ne.symm (fne f1072 hq1075))).trans f1284
  have f1304 : G1294 q1101 = some ((31, 9), .inl (Γ.2 1, 60, .inl (fun _ => 0))) := by rw [hG1294]; exact (gu_n (Ne.symm (fne f1100 hq1103))).trans f1285
  have f1305 : G1294 q1131 = some ((31, 10), .inl (Γ.2 1, 60, .inl (fun _ => 0))) := by rw [hG1294]; exact (gu_n (Ne.symm (fne f1130 hq1133))).trans f1286
  have f1306 : G1294 q1163 = some ((31, 11), .inl (Γ.2 1, 60, .inl (fun _ => 0))) := by rw [hG1294]; exact (gu_n (Ne.symm (fne f1162 hq1165))).trans f1287
  have f1307 : G1294 q1197 = some ((32, 0), .inl (Γ.2 1, 1095, .inl (fun _ => 0))) := by rw [hG1294]; exact (gu_n (Ne.symm (fne f1196 hq1199))).trans f1288
  have f1308 : G1294 q1233 = some ((32, 1), .inl (Γ.2 2, 365, .inl (fun _ => 0))) := by rw [hG1294]; exact (gu_n (Ne.symm (fne f1232 hq1235))).trans f1289
  have f1309 : G1294 q1271 = some ((32, 2), .inl (Γ.2 1, 365, .inl (fun _ => 0))) := by rw [hG1294]; exact (gu_n (Ne.symm (fne f1270 hq1273))).trans f1291
  have f1310 : G1294 m = some ((30, 0), .inr (1, [.int 0, .ref q921, .ref q933, .int 0, .int 0, .ref q947, .ref q963, .ref q981, .int 0, .ref q1001, .ref q1023, .ref q1047, .ref q1073, .ref q1101, .ref q1131, .ref q1163, .ref q1197, .ref q1233, .ref q1271, .null, .int 0])) := by rw [hG1294]; exact gu_s _ _ _
  refine lv_aload_n X.hx X.hb dX2_init_125 rfl (lv_at hl 0 rfl) ?_
  refine lv_sipush (v := 366) X.hx X.hb dX2_init_126 (by decide) ?_
  refine g_newa (atype := .int) (ty := .int) (N := 366) (a0 := (366, .inl (fun _ => 0))) X hR1292 hS1293 (32, 3) 0 q134 rfl rfl (fun _ h => h) (fun _ => rfl) (by decide) (by decide) (by decide) (by (try dsimp only [RM]); omega) (by (try dsimp only [RM]); omega) dX2_init_129 (fun q1311 H hq1313 hR1312 hS1314 => ?_)
  obtain ⟨G1315, hG1315⟩ : ∃ z : GH, z = gu G1294 q1311 ((32, 3), .inl (Γ.2 1, 366, .inl (fun _ => 0))) := ⟨_, rfl⟩
  have hR1312 : Rep Γ G1315 H := by rw [hG1315]; exact hR1312
  have f1316 : G1315 q921 = some ((31, 0), .inl (Γ.2 1, 4, .inl (fun _ => 0))) := by rw [hG1315]; exact gu_f f1295 hq1313
  have f1317 : G1315 q933 = some ((31, 1), .inl (Γ.2 1, 4, .inl (fun _ => 0))) := by rw [hG1315]; exact gu_f f1296 hq1313
  have f1318 : G1315 q947 = some ((31, 2), .inl (Γ.2 1, 20, .inl (fun _ => 0))) := by rw [hG1315]; exact gu_f f1297 hq1313
  have f1319 : G1315 q963 = some ((31, 3), .inl (Γ.2 1, 20, .inl (fun _ => 0))) := by rw [hG1315]; exact gu_f f1298 hq1313
  have f1320 : G1315 q981 = some ((31, 4), .inl (Γ.2 1, 20, .inl (fun _ => 0))) := by rw [hG1315]; exact gu_f f1299 hq1313
  have f1321 : G1315 q1001 = some ((31, 5), .inl (Γ.2 1, 60, .inl (fun _ => 0))) := by rw [hG1315]; exact gu_f f1300 hq1313
  have f1322 : G1315 q1023 = some ((31, 6), .inl (Γ.2 1, 60, .inl (fun _ => 0))) := by rw [hG1315]; exact gu_f f1301 hq1313
  have f1323 : G1315 q1047 = some ((31, 7), .inl (Γ.2 1, 60, .inl (fun _ => 0))) := by rw [hG1315]; exact gu_f f1302 hq1313
  have f1324 : G1315 q1073 = some ((31, 8), .inl (Γ.2 1, 60, .inl (fun _ => 0))) := by rw [hG1315]; exact gu_f f1303 hq1313
  have f1325 : G1315 q1101 = some ((31, 9), .inl (Γ.2 1, 60, .inl (fun _ => 0))) := by rw [hG1315]; exact gu_f f1304 hq1313
  have f1326 : G1315 q1131 = some ((31, 10), .inl (Γ.2 1, 60, .inl (fun _ => 0))) := by rw [hG1315]; exact gu_f f1305 hq1313
  have f1327 : G1315 q1163 = some ((31, 11), .inl (Γ.2 1, 60, .inl (fun _ => 0))) := by rw [hG1315]; exact gu_f f1306 hq1313
  have f1328 : G1315 q1197 = some ((32, 0), .inl (Γ.2 1, 1095, .inl (fun _ => 0))) := by rw [hG1315]; exact gu_f f1307 hq1313
  have f1329 : G1315 q1233 = some ((32, 1), .inl (Γ.2 2, 365, .inl (fun _ => 0))) := by rw [hG1315]; exact gu_f f1308 hq1313
  have f1330 : G1315 q1271 = some ((32, 2), .inl (Γ.2 1, 365, .inl (fun _ => 0))) := by rw [hG1315]; exact gu_f f1309 hq1313
  have f1331 : G1315 m = some ((30, 0), .inr (1, [.int 0, .ref q921, .ref q933, .int 0, .int 0, .ref q947, .ref q963, .ref q981, .int 0, .ref q1001, .ref q1023, .ref q1047, .ref q1073, .ref q1101, .ref q1131, .ref q1163, .ref q1197, .ref q1233, .ref q1271, .null, .int 0])) := by rw [hG1315]; exact gu_f f1310 hq1313
  have f1332 : G1315 q1311 = some ((32, 3), .inl (Γ.2 1, 366, .inl (fun _ => 0))) := by rw [hG1315]; exact gu_s _ _ _
  refine g_putF X hR1312 hS1314 f1331 (Nat.le_of_ble_eq_true rfl) rfl in_X2 tyX2 tyX2_ok nmX2 19 (by decide) q1314 (fun _ h => h) rfl hin rfl rfl rfl (Nat.le_of_ble_eq_true rfl) dX2_init_131 (fun H locs hR1333 hS1334 => ?_)
  obtain ⟨G1335, hG1335⟩ : ∃ z : GH, z = gu G1315 m ((30, 0), .inr (1, [.int 0, .ref q921, .ref q933, .int 0, .int 0, .ref q947, .ref q963, .ref q981, .int 0, .ref q1001, .ref q1023, .ref q1047, .ref q1073, .ref q1101, .ref q1131, .ref q1163, .ref q1197, .ref q1233, .ref q1271, .ref q1311, .int 0])) := ⟨_, rfl⟩
  have hR1333 : Rep Γ G1335 H := by rw [hG1335]; exact hR1333
  have f1336 : G1335 q921 = some ((31, 0), .inl (Γ.2 1, 4, .inl (fun _ => 0))) := by rw [hG1335]; exact (gu_n (Ne.symm (fne hm hq923))).trans f1316
  have f1337 : G1335 q933 = some ((31, 1), .inl (Γ.2 1, 4, .inl (fun _ => 0))) := by rw [hG1335]; exact (gu_n (Ne.symm (fne f932 hq935))).trans f1317
  have f1338 : G1335 q947 = some ((31, 2), .inl (Γ.2 1, 20, .inl (fun _ => 0))) := by rw [hG1335]; exact (gu_n (Ne.symm (fne f946 hq949))).trans f1318
  have f1339 : G1335 q963 = some ((31, 3), .inl (Γ.2 1, 20, .inl (fun _ => 0))) := by rw [hG1335]; exact (gu_n (Ne.symm (fne f962 hq965))).trans f1319
  have f1340 : G1335 q981 = some ((31, 4), .inl (Γ.2 1, 20, .inl (fun _ => 0))) := by rw [hG1335]; exact (gu_n (Ne.symm (fne f980 hq983))).trans f1320
  have f1341 : G1335 q1001 = some ((31, 5), .inl (Γ.2 1, 60, .inl (fun _ => 0))) := by rw [hG1335]; exact (gu_n (Ne.symm (fne f1000 hq1003))).trans f1321
  have f1342 : G1335 q1023 = some ((31, 6), .inl (Γ.2 1, 60, .inl (fun _ => 0))) := by rw [hG1335]; exact (gu_n (Ne.symm (fne f1022 hq1025))).trans f1322
  have f1343 : G1335 q1047 = some ((31, 7), .inl (Γ.2 1, 60, .inl (fun _ => 0))) := by rw [hG1335]; exact (gu_n (Ne.symm (fne f1046 hq1049))).trans f1323
  have f1344 : G1335 q1073 = some ((31, 8), .inl (Γ.2 1, 60, .inl (fun _ => 0))) := by rw [hG1335]; exact (gu_n (Ne.symm (fne f1072 hq1075))).trans f1324
  have f1345 : G1335 q1101 = some ((31, 9), .inl (Γ.2 1, 60, .inl (fun _ => 0))) := by rw [hG1335]; exact (gu_n (Ne.symm (fne f1100 hq1103))).trans f1325
  have f1346 : G1335 q1131 = some ((31, 10), .inl (Γ.2 1, 60, .inl (fun _ => 0))) := by rw [hG1335]; exact (gu_n (Ne.symm (fne f1130 hq1133))).trans f1326
  have f1347 : G1335 q1163 = some ((31, 11), .inl (Γ.2 1, 60, .inl (fun _ => 0))) := by rw [hG1335]; exact (gu_n (Ne.symm (fne f1162 hq1165))).trans f1327
  have f1348 : G1335 q1197 = some ((32, 0), .inl (Γ.2 1, 1095, .inl (fun _ => 0))) := by rw [hG1335]; exact (gu_n (Ne.symm (fne f1196 hq1199))).trans f1328
  have f1349 : G1335 q1233 = some ((32, 1), .inl (Γ.2 2, 365, .inl (fun _ => 0))) := by rw [hG1335]; exact (gu_n (Ne.symm (fne f1232 hq1235))).trans f1329
  have f1350 : G1335 q1271 = some ((32, 2), .inl (Γ.2 1, 365, .inl (fun _ => 0))) := by rw [hG1335]; exact (gu_n (Ne.symm (fne f1270 hq1273))).trans f1330
  have f1351 : G1335 q1311 = some ((32, 3), .inl (Γ.2 1, 366, .inl (fun _ => 0))) := by rw [hG1335]; exact (gu_n (Ne.symm (fne f1310 hq1313))).trans f1332
  have f1352 : G1335 m = some ((30, 0), .inr (1, [.int 0, .ref q921, .ref q933, .int 0, .int 0, .ref q947, .ref q963, .ref q981, .int 0, .ref q1001, .ref q1023, .ref q1047, .ref q1073, .ref q1101, .ref q1131, .ref q1163, .ref q1197, .ref q1233, .ref q1271, .ref q1311, .int 0])) := by rw [hG1335]; exact gu_s _ _ _
  have hMf : MP Γ G1335 m (fun _ => 0, fun _ _ => 0) 0 (fun r => if r = 0 then q921 else if r = 1 then q933 else if r = 2 then q947 else if r = 3 then q963 else if r = 4 then q981 else if r = 5 then q1001 else if r = 6 then q1023 else if r = 7 then q1047 else if r = 8 then q1073 else if r = 9 then q1101 else if r = 10 then q1131 else if r = 11 then q1163 else if r = 12 then q1197 else if r = 13 then q1233 else if r = 14 then q1271 else q1311) := ⟨f1352, fun r hr => by rcases c12 hr with rfl | rfl | rfl | rfl | rfl | rfl | rfl | rfl | rfl | rfl | rfl | rfl; exact f1336; exact f1337; exact f1338; exact f1339; exact f1340; exact f1341; exact f1342; exact f1343; exact f1344; exact f1345; exact f1346; exact f1347, ⟨_, f1348⟩, ⟨_, f1349⟩, ⟨_, f1350⟩, _, f1351⟩
  exact g_vret X hr hlk hR1333 hS1334 (⟨rfl, ⟨_, hMf⟩, (gK.tr (gK.tr (gK.tr (gK.tr (gK.tr (gK.tr (gK.tr (gK.tr (gK.tr (gK.tr (gK.tr (gK.tr (gK.tr (gK.tr (gK.tr (gK.tr (gK.tr (gK.tr (gK.tr (gK.tr (gK.tr (gK.tr (gK.tr (gK.tr (gK.tr (gK.tr (gK.tr (gK.tr (gK.tr (gK.tr (gK.tr (gK.nw hG925 hq923) (gK.pt hG930 f926 (by show 30 ≤ 30 ∧ 30 < 40; decide))) (gK.nw hG937 hq935)) (gK.pt hG943 f939 (by show 30 ≤ 30 ∧ 30 < 40; decide))) (gK.nw hG951 hq949)) (gK.pt hG958 f954 (by show 30 ≤ 30 ∧ 30 < 40; decide))) (gK.nw hG967 hq965)) (gK.pt hG975 f971 (by show 30 ≤ 30 ∧ 30 < 40; decide))) (gK.nw hG985 hq983)) (gK.pt hG994 f990 (by show 30 ≤ 30 ∧ 30 < 40; decide))) (gK.nw hG1005 hq1003)) (gK.pt hG1015 f1011 (by show 30 ≤ 30 ∧ 30 < 40; decide))) (gK.nw hG1027 hq1025)) (gK.pt hG1038 f1034 (by show 30 ≤ 30 ∧ 30 < 40; decide))) (gK.nw hG1051 hq1049)) (gK.pt hG1063 f1059 (by show 30 ≤ 30 ∧ 30 < 40; decide))) (gK.nw hG1077 hq1075)) (gK.pt hG1090 f1086 (by show 30 ≤ 30 ∧ 30 < 40; decide))) (gK.nw hG1105 hq1103)) (gK.pt hG1119 f1115 (by show 30 ≤ 30 ∧ 30 < 40; decide))) (gK.nw hG1135 hq1133)) (gK.pt hG1150 f1146 (by show 30 ≤ 30 ∧ 30 < 40; decide))) (gK.nw hG1167 hq1165)) (gK.pt hG1183 f1179 (by show 30 ≤ 30 ∧ 30 < 40; decide))) (gK.nw hG1201 hq1199)) (gK.pt hG1218 f1214 (by show 30 ≤ 30 ∧ 30 < 40; decide))) (gK.nw hG1237 hq1235)) (gK.pt hG1255 f1251 (by show 30 ≤ 30 ∧ 30 < 40; decide))) (gK.nw hG1275 hq1273)) (gK.pt hG1294 f1290 (by show 30 ≤ 30 ∧ 30 < 40; decide))) (gK.nw hG1315 hq1313)) (gK.pt hG1335 f1331 (by show 30 ≤ 30 ∧ 30 < 40; decide)))⟩) (by (try dsimp only [RM]); omega) (by (try dsimp only [RM]); omega) dX2_init_134

