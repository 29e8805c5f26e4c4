set_option maxRecDepth 100000
/-! the model: what is asked -/
/-- the days of policy i as known on kn lie in the model's tables -/
def LV5 (Γ : GP) (G : GH) (σ : MS) (i : Nat) (kn : Int32) (B : Nat → Nat) : Prop := ∃ fv fc fr fs : Nat → Int32, G (B 12) = some ((32, 0), .inl (Γ.2 1, 1095, .inl fv)) ∧ G (B 13) = some ((32, 1), .inl (Γ.2 2, 365, .inl fc)) ∧ G (B 14) = some ((32, 2), .inl (Γ.2 1, 365, .inl fr)) ∧ G (B 15) = some ((32, 3), .inl (Γ.2 1, 366, .inl fs)) ∧ VA0 σ i kn 365 fv ∧ DN σ i kn 365 fc fr fs
theorem W32_tm {Γ : GP} {G G1 : GH} {B : Nat → Nat} {fv fc fr fs : Nat → Int32} (h : W32 Γ G G1 B fv fc fr fs) : gK TMm G G1 := h.1.mono (fun t (e : t.1 = 32) => by unfold TMm; omega)
theorem LV5.th {Γ : GP} {G G1 : GH} {σ : MS} {i : Nat} {kn : Int32} {B : Nat → Nat} (h : LV5 Γ G σ i kn B) (hk : gK (fun t => t = (30, 0)) G G1) : LV5 Γ G1 σ i kn B := by
  obtain ⟨fv, fc, fr, fs, h1, h2, h3, h4, h5⟩ := h
  have n : ∀ i j : Nat, i ≠ 30 → ¬ ((i, j) : Nat × Nat) = (30, 0) := fun i j a h => a (congrArg Prod.fst h)
  exact ⟨fv, fc, fr, fs, hk _ _ h1 (n _ _ (by decide)), hk _ _ h2 (n _ _ (by decide)), hk _ _ h3 (n _ _ (by decide)), hk _ _ h4 (n _ _ (by decide)), h5⟩

set_option maxHeartbeats 4000000 in
theorem m_looks (l : Launch) (Γ : GP) (G : GH) {m : Nat} {σ : MS} {th : Int32} {B : Nat → Nat} (hW : WF σ) (hM : MP Γ G m σ th B) {p f d kn : Int32} : MetG l yX2_looks (ws_ yX2_looks cX2_looks 5 (some .boolean)) (RM 4 0 0) Γ G [.ref m, .int p, .int f, .int d, .int kn] (fun v G1 => ((kV σ p f d kn = 0 ∧ v = some (.int 1) ∧ MP Γ G1 m σ 0 B ∧ LV5 Γ G1 σ p.toNatClampNeg kn B) ∨ (kV σ p f d kn ≠ 0 ∧ v = some (.int 0) ∧ MP Γ G1 m σ (kV σ p f d kn) B)) ∧ gK TMm G G1) 0 0 := by
  refine gMet (own := RX2) (by decide) rfl (Nat.le_of_ble_eq_true rfl) ?_
  intro pp ee ss mm below meth cc0 ls X hr hlk hin hnm hR hS hl
  have hl : lv_has ls 5 [(0, .ref m), (1, .int p), (2, .int f), (3, .int d), (4, .int kn)] := hl
  have hm : G m = some (MOc (nI (σ.1 0)) (σ.2 12 0) (nI (σ.1 1)) (nI (σ.1 2)) th B) := hM.1
  refine lv_aload_n X.hx X.hb dX2_looks_0 rfl (lv_at hl 0 rfl) ?_
  refine lv_aload_n X.hx X.hb dX2_looks_1 rfl (lv_at hl 0 rfl) ?_
  refine lv_iload_n X.hx X.hb dX2_looks_2 rfl (lv_at hl 1 rfl) ?_
  refine gcV X hl.1 hR hS 1 [.int p] [.ref m] (m_isPolicy l Γ G hW hM) hm rfl q1397 q1399 qs25 q40 q1400 rfl rfl ⟨rfl, by decide +kernel, by decide +kernel, by decide +kernel⟩ ⟨by (try dsimp only [RM]); omega, by (try dsimp only [RM]); omega⟩ rfl rfl (Nat.le_of_ble_eq_true rfl) dX2_looks_3 ⟨by (try dsimp only [RM]); omega, by (try dsimp only [RM]); omega⟩ (fun v694 G695 H locs hq691 hR692 hS693 => ?_)
  obtain ⟨rfl, rfl⟩ := hq691
  by_cases hP : bdP (nI (σ.1 0)) p
  · rw [if_pos hP]
    refine lv_if_eq (tgt := 16) X.hx X.hb dX2_looks_6 (by decide) (fun c6 => ?_) (fun c6 => ?_)
    · refine lv_iconst (v := 1) X.hx X.hb dX2_looks_16 (by decide) ?_
      refine lv_goto (tgt := 45) X.hx X.hb dX2_looks_17 (by decide) ?_
      refine g_put X hR692 hS693 hm (Nat.le_of_ble_eq_true rfl) rfl in_X2 tyX2 tyX2_ok nmX2 20 (by decide) q1315 (fun _ h => h) rfl rfl rfl (Nat.le_of_ble_eq_true rfl) dX2_looks_45 (fun H locs hR696 hS697 => ?_)
      obtain ⟨G698, hG698⟩ : ∃ z : GH, z = gu G m ((30, 0), .inr (1, [.int (nI (σ.1 0)), .ref (B 0), .ref (B 1), .int (σ.2 12 0), .int (nI (σ.1 1)), .ref (B 2), .ref (B 3), .ref (B 4), .int (nI (σ.1 2)), .ref (B 5), .ref (B 6), .ref (B 7), .ref (B 8), .ref (B 9), .ref (B 10), .ref (B 11), .ref (B 12), .ref (B 13), .ref (B 14), .ref (B 15), .int 1])) := ⟨_, rfl⟩
      have hR696 : Rep Γ G698 H := by rw [hG698]; exact hR696
      have f699 : G698 m = some ((30, 0), .inr (1, [.int (nI (σ.1 0)), .ref (B 0), .ref (B 1), .int (σ.2 12 0), .int (nI (σ.1 1)), .ref (B 2), .ref (B 3), .ref (B 4), .int (nI (σ.1 2)), .ref (B 5), .ref (B 6), .ref (B 7), .ref (B 8), .ref (B 9), .ref (B 10), .ref (B 11), .ref (B 12), .ref (B 13), .ref (B 14), .ref (B 15), .int 1])) := by rw [hG698]; exact gu_s _ _ _
      have hM700 := hM.obj hG698
      refine lv_aload_n X.hx X.hb dX2_looks_48 rfl (lv_at hl 0 rfl) ?_
      refine g_get X hR696 f699 rfl in_X2 20 (by decide) q1315 (fun _ h => h) rfl dX2_looks_49 ?_
      refine lv_if_ne (tgt := 62) X.hx X.hb dX2_looks_52 (by decide) (fun c52 => ?_) (fun c52 => ?_)
      · refine lv_aload_n X.hx X.hb dX2_looks_62 rfl (lv_at hl 0 rfl) ?_
        refine g_get X hR696 f699 rfl in_X2 20 (by decide) q1315 (fun _ h => h) rfl dX2_looks_63 ?_
        refine lv_if_ne (tgt := 73) X.hx X.hb dX2_looks_66 (by decide) (fun c66 => ?_) (fun c66 => ?_)
        · refine lv_iconst (v := 0) X.hx X.hb dX2_looks_73 (by decide) ?_
          have hkk : kV σ p f d kn = 1 := by rw [kV, if_pos (Or.inl hP)]
          exact g_zret X hr hlk hR696 hS697 rfl (⟨Or.inr ⟨by rw [hkk]; decide, rfl, by rw [hkk]; exact hM700⟩, (gK.pt hG698 hm (by show 30 ≤ 30 ∧ 30 < 40; decide))⟩) (by (try dsimp only [RM]); omega) (by (try dsimp only [RM]); omega) dX2_looks_74
        · exact absurd c66 (by decide)
      · exact absurd c52 (by decide)
    · exact absurd (by decide) c6
  · rw [if_neg hP]
    refine lv_if_eq (tgt := 16) X.hx X.hb dX2_looks_6 (by decide) (fun c6 => ?_) (fun c6 => ?_)
    · exact absurd c6 (by decide)
    · refine lv_iload_n X.hx X.hb dX2_looks_9 rfl (lv_at hl 2 rfl) ?_
      refine gcS X hl.1 hR692 hS693 1 [.int f] [.ref m] (m_isField l Γ G) q1375 q1376 q40 q1377 rfl rfl ⟨by decide +kernel, by decide +kernel, by decide +kernel⟩ ⟨by (try dsimp only [RM]); omega, by (try dsimp only [RM]); omega⟩ rfl rfl (Nat.le_of_ble_eq_true rfl) dX2_looks_10 ⟨by (try dsimp only [RM]); omega, by (try dsimp only [RM]); omega⟩ (fun v704 G705 H locs hq701 hR702 hS703 => ?_)
      obtain ⟨rfl, rfl⟩ := hq701
      by_cases hF : bdP 3 f
      · rw [if_pos hF]
        refine lv_if_ne (tgt := 20) X.hx X.hb dX2_looks_13 (by decide) (fun c13 => ?_) (fun c13 => ?_)
        · exact absurd rfl c13
        · refine lv_iconst (v := 1) X.hx X.hb dX2_looks_16 (by decide) ?_
          refine lv_goto (tgt := 45) X.hx X.hb dX2_looks_17 (by decide) ?_
          refine g_put X hR702 hS703 hm (Nat.le_of_ble_eq_true rfl) rfl in_X2 tyX2 tyX2_ok nmX2 20 (by decide) q1315 (fun _ h => h) rfl rfl rfl (Nat.le_of_ble_eq_true rfl) dX2_looks_45 (fun H locs hR706 hS707 => ?_)
          obtain ⟨G708, hG708⟩ : ∃ z : GH, z = gu G m ((30, 0), .inr (1, [.int (nI (σ.1 0)), .ref (B 0), .ref (B 1), .int (σ.2 12 0), .int (nI (σ.1 1)), .ref (B 2), .ref (B 3), .ref (B 4), .int (nI (σ.1 2)), .ref (B 5), .ref (B 6), .ref (B 7), .ref (B 8), .ref (B 9), .ref (B 10), .ref (B 11), .ref (B 12), .ref (B 13), .ref (B 14), .ref (B 15), .int 1])) := ⟨_, rfl⟩
          have hR706 : Rep Γ G708 H := by rw [hG708]; exact hR706
          have f709 : G708 m = some ((30, 0), .inr (1, [.int (nI (σ.1 0)), .ref (B 0), .ref (B 1), .int (σ.2 12 0), .int (nI (σ.1 1)), .ref (B 2), .ref (B 3), .ref (B 4), .int (nI (σ.1 2)), .ref (B 5), .ref (B 6), .ref (B 7), .ref (B 8), .ref (B 9), .ref (B 10), .ref (B 11), .ref (B 12), .ref (B 13), .ref (B 14), .ref (B 15), .int 1])) := by rw [hG708]; exact gu_s _ _ _
          have hM710 := hM.obj hG708
          refine lv_aload_n X.hx X.hb dX2_looks_48 rfl (lv_at hl 0 rfl) ?_
          refine g_get X hR706 f709 rfl in_X2 20 (by decide) q1315 (fun _ h => h) rfl dX2_looks_49 ?_
          refine lv_if_ne (tgt := 62) X.hx X.hb dX2_looks_52 (by decide) (fun c52 => ?_) (fun c52 => ?_)
          · refine lv_aload_n X.hx X.hb dX2_looks_62 rfl (lv_at hl 0 rfl) ?_
            refine g_get X hR706 f709 rfl in_X2 20 (by decide) q1315 (fun _ h => h) rfl dX2_looks_63 ?_
            refine lv_if_ne (tgt := 73) X.hx X.hb dX2_looks_66 (by decide) (fun c66 => ?_) (fun c66 => ?_)
            · refine lv_iconst (v := 0) X.hx X.hb dX2_looks_73 (by decide) ?_
              have hkk : kV σ p f d kn = 1 := by rw [kV, if_pos (Or.inr hF)]
              exact g_zret X hr hlk hR706 hS707 rfl (⟨Or.inr ⟨by rw [hkk]; decide, rfl, by rw [hkk]; exact hM710⟩, (gK.pt hG708 hm (by show 30 ≤ 30 ∧ 30 < 40; decide))⟩) (by (try dsimp only [RM]); omega) (by (try dsimp only [RM]); omega) dX2_looks_74
            · exact absurd c66 (by decide)
          · exact absurd c52 (by decide)
      · rw [if_neg hF]
        refine lv_if_ne (tgt := 20) X.hx X.hb dX2_looks_13 (by decide) (fun c13 => ?_) (fun c13 => ?_)
        · refine lv_iload_n X.hx X.hb dX2_looks_20 rfl (lv_at hl 3 rfl) ?_
          refine gcS X hl.1 hR702 hS703 1 [.int d] [.ref m] (m_isDay l Γ G) q1378 q1379 q40 q1380 rfl rfl ⟨by decide +kernel, by decide +kernel, by decide +kernel⟩ ⟨by (try dsimp only [RM]); omega, by (try dsimp only [RM]); omega⟩ rfl rfl (Nat.le_of_ble_eq_true rfl) dX2_looks_21 ⟨by (try dsimp only [RM]); omega, by (try dsimp only [RM]); omega⟩ (fun v714 G715 H locs hq711 hR712 hS713 => ?_)
          obtain ⟨rfl, rfl⟩ := hq711
          by_cases hD : bad 0 364 d
          · rw [if_pos hD]
            refine lv_if_eq (tgt := 44) X.hx X.hb dX2_looks_24 (by decide) (fun c24 => ?_) (fun c24 => ?_)
            · refine lv_iconst (v := 2) X.hx X.hb dX2_looks_44 (by decide) ?_
              refine g_put X hR712 hS713 hm (Nat.le_of_ble_eq_true rfl) rfl in_X2 tyX2 tyX2_ok nmX2 20 (by decide) q1315 (fun _ h => h) rfl rfl rfl (Nat.le_of_ble_eq_true rfl) dX2_looks_45 (fun H locs hR716 hS717 => ?_)
              obtain ⟨G718, hG718⟩ : ∃ z : GH, z = gu G m ((30, 0), .inr (1, [.int (nI (σ.1 0)), .ref (B 0), .ref (B 1), .int (σ.2 12 0), .int (nI (σ.1 1)), .ref (B 2), .ref (B 3), .ref (B 4), .int (nI (σ.1 2)), .ref (B 5), .ref (B 6), .ref (B 7), .ref (B 8), .ref (B 9), .ref (B 10), .ref (B 11), .ref (B 12), .ref (B 13), .ref (B 14), .ref (B 15), .int 2])) := ⟨_, rfl⟩
              have hR716 : Rep Γ G718 H := by rw [hG718]; exact hR716
              have f719 : G718 m = some ((30, 0), .inr (1, [.int (nI (σ.1 0)), .ref (B 0), .ref (B 1), .int (σ.2 12 0), .int (nI (σ.1 1)), .ref (B 2), .ref (B 3), .ref (B 4), .int (nI (σ.1 2)), .ref (B 5), .ref (B 6), .ref (B 7), .ref (B 8), .ref (B 9), .ref (B 10), .ref (B 11), .ref (B 12), .ref (B 13), .ref (B 14), .ref (B 15), .int 2])) := by rw [hG718]; exact gu_s _ _ _
              have hM720 := hM.obj hG718
              refine lv_aload_n X.hx X.hb dX2_looks_48 rfl (lv_at hl 0 rfl) ?_
              refine g_get X hR716 f719 rfl in_X2 20 (by decide) q1315 (fun _ h => h) rfl dX2_looks_49 ?_
              refine lv_if_ne (tgt := 62) X.hx X.hb dX2_looks_52 (by decide) (fun c52 => ?_) (fun c52 => ?_)
              · refine lv_aload_n X.hx X.hb dX2_looks_62 rfl (lv_at hl 0 rfl) ?_
                refine g_get X hR716 f719 rfl in_X2 20 (by decide) q1315 (fun _ h => h) rfl dX2_looks_63 ?_
                refine lv_if_ne (tgt := 73) X.hx X.hb dX2_looks_66 (by decide) (fun c66 => ?_) (fun c66 => ?_)
                · refine lv_iconst (v := 0) X.hx X.hb dX2_looks_73 (by decide) ?_
                  have hkk : kV σ p f d kn = 2 := by rw [kV, if_neg (or_no hP hF), if_pos (Or.inl hD)]
                  exact g_zret X hr hlk hR716 hS717 rfl (⟨Or.inr ⟨by rw [hkk]; decide, rfl, by rw [hkk]; exact hM720⟩, (gK.pt hG718 hm (by show 30 ≤ 30 ∧ 30 < 40; decide))⟩) (by (try dsimp only [RM]); omega) (by (try dsimp only [RM]); omega) dX2_looks_74
                · exact absurd c66 (by decide)
              · exact absurd c52 (by decide)
            · exact absurd (by decide) c24
          · rw [if_neg hD]
            refine lv_if_eq (tgt := 44) X.hx X.hb dX2_looks_24 (by decide) (fun c24 => ?_) (fun c24 => ?_)
            · exact absurd c24 (by decide)
            · refine lv_iload X.hx X.hb dX2_looks_27 (lv_at hl 4 rfl) ?_
              refine lv_iconst (v := 0) X.hx X.hb dX2_looks_29 (by decide) ?_
              refine lv_aload_n X.hx X.hb dX2_looks_30 rfl (lv_at hl 0 rfl) ?_
              refine g_get X hR712 hm rfl in_X2 3 (by decide) q1298 (fun _ h => h) rfl dX2_looks_31 ?_
              refine gcS X hl.1 hR712 hS713 3 [.int kn, .int 0, .int (σ.2 12 0)] [.ref m] (m_isIn l Γ G) q1368 q1369 q40 q1370 rfl rfl ⟨by decide +kernel, by decide +kernel, by decide +kernel⟩ ⟨by (try dsimp only [RM]); omega, by (try dsimp only [RM]); omega⟩ rfl rfl (Nat.le_of_ble_eq_true rfl) dX2_looks_34 ⟨by (try dsimp only [RM]); omega, by (try dsimp only [RM]); omega⟩ (fun v724 G725 H locs hq721 hR722 hS723 => ?_)
              obtain ⟨rfl, rfl⟩ := hq721
              by_cases hK : bad 0 (σ.2 12 0) kn
              · rw [if_pos hK]
                refine lv_if_eq (tgt := 44) X.hx X.hb dX2_looks_37 (by decide) (fun c37 => ?_) (fun c37 => ?_)
                · refine lv_iconst (v := 2) X.hx X.hb dX2_looks_44 (by decide) ?_
                  refine g_put X hR722 hS723 hm (Nat.le_of_ble_eq_true rfl) rfl in_X2 tyX2 tyX2_ok nmX2 20 (by decide) q1315 (fun _ h => h) rfl rfl rfl (Nat.le_of_ble_eq_true rfl) dX2_looks_45 (fun H locs hR726 hS727 => ?_)
                  obtain ⟨G728, hG728⟩ : ∃ z : GH, z = gu G m ((30, 0), .inr (1, [.int (nI (σ.1 0)), .ref (B 0), .ref (B 1), .int (σ.2 12 0), .int (nI (σ.1 1)), .ref (B 2), .ref (B 3), .ref (B 4), .int (nI (σ.1 2)), .ref (B 5), .ref (B 6), .ref (B 7), .ref (B 8), .ref (B 9), .ref (B 10), .ref (B 11), .ref (B 12), .ref (B 13), .ref (B 14), .ref (B 15), .int 2])) := ⟨_, rfl⟩
                  have hR726 : Rep Γ G728 H := by rw [hG728]; exact hR726
                  have f729 : G728 m = some ((30, 0), .inr (1, [.int (nI (σ.1 0)), .ref (B 0), .ref (B 1), .int (σ.2 12 0), .int (nI (σ.1 1)), .ref (B 2), .ref (B 3), .ref (B 4), .int (nI (σ.1 2)), .ref (B 5), .ref (B 6), .ref (B 7), .ref (B 8), .ref (B 9), .ref (B 10), .ref (B 11), .ref (B 12), .ref (B 13), .ref (B 14), .ref (B 15), .int 2])) := by rw [hG728]; exact gu_s _ _ _
                  have hM730 := hM.obj hG728
                  refine lv_aload_n X.hx X.hb dX2_looks_48 rfl (lv_at hl 0 rfl) ?_
                  refine g_get X hR726 f729 rfl in_X2 20 (by decide) q1315 (fun _ h => h) rfl dX2_looks_49 ?_
                  refine lv_if_ne (tgt := 62) X.hx X.hb dX2_looks_52 (by decide) (fun c52 => ?_) (fun c52 => ?_)
                  · refine lv_aload_n X.hx X.hb dX2_looks_62 rfl (lv_at hl 0 rfl) ?_
                    refine g_get X hR726 f729 rfl in_X2 20 (by decide) q1315 (fun _ h => h) rfl dX2_looks_63 ?_
                    refine lv_if_ne (tgt := 73) X.hx X.hb dX2_looks_66 (by decide) (fun c66 => ?_) (fun c66 => ?_)
                    · refine lv_iconst (v := 0) X.hx X.hb dX2_looks_73 (by decide) ?_
                      have hkk : kV σ p f d kn = 2 := by rw [kV, if_neg (or_no hP hF), if_pos (Or.inr hK)]
                      exact g_zret X hr hlk hR726 hS727 rfl (⟨Or.inr ⟨by rw [hkk]; decide, rfl, by rw [hkk]; exact hM730⟩, (gK.pt hG728 hm (by show 30 ≤ 30 ∧ 30 < 40; decide))⟩) (by (try dsimp only [RM]); omega) (by (try dsimp only [RM]); omega) dX2_looks_74
                    · exact absurd c66 (by decide)
                  · exact absurd c52 (by decide)
                · exact absurd (by decide) c37
              · rw [if_neg hK]
                refine lv_if_eq (tgt := 44) X.hx X.hb dX2_looks_37 (by decide) (fun c37 => ?_) (fun c37 => ?_)
                · exact absurd c37 (by decide)
                · refine lv_iconst (v := 0) X.hx X.hb dX2_looks_40 (by decide) ?_
                  refine lv_goto (tgt := 45) X.hx X.hb dX2_looks_41 (by decide) ?_
                  refine g_put X hR722 hS723 hm (Nat.le_of_ble_eq_true rfl) rfl in_X2 tyX2 tyX2_ok nmX2 20 (by decide) q1315 (fun _ h => h) rfl rfl rfl (Nat.le_of_ble_eq_true rfl) dX2_looks_45 (fun H locs hR731 hS732 => ?_)
                  obtain ⟨G733, hG733⟩ : ∃ z : GH, z = gu G m ((30, 0), .inr (1, [.int (nI (σ.1 0)), .ref (B 0), .ref (B 1), .int (σ.2 12 0), .int (nI (σ.1 1)), .ref (B 2), .ref (B 3), .ref (B 4), .int (nI (σ.1 2)), .ref (B 5), .ref (B 6), .ref (B 7), .ref (B 8), .ref (B 9), .ref (B 10), .ref (B 11), .ref (B 12), .ref (B 13), .ref (B 14), .ref (B 15), .int 0])) := ⟨_, rfl⟩
                  have hR731 : Rep Γ G733 H := by rw [hG733]; exact hR731
                  have f734 : G733 m = some ((30, 0), .inr (1, [.int (nI (σ.1 0)), .ref (B 0), .ref (B 1), .int (σ.2 12 0), .int (nI (σ.1 1)), .ref (B 2), .ref (B 3), .ref (B 4), .int (nI (σ.1 2)), .ref (B 5), .ref (B 6), .ref (B 7), .ref (B 8), .ref (B 9), .ref (B 10), .ref (B 11), .ref (B 12), .ref (B 13), .ref (B 14), .ref (B 15), .int 0])) := by rw [hG733]; exact gu_s _ _ _
                  have hM735 := hM.obj hG733
                  refine lv_aload_n X.hx X.hb dX2_looks_48 rfl (lv_at hl 0 rfl) ?_
                  refine g_get X hR731 f734 rfl in_X2 20 (by decide) q1315 (fun _ h => h) rfl dX2_looks_49 ?_
                  refine lv_if_ne (tgt := 62) X.hx X.hb dX2_looks_52 (by decide) (fun c52 => ?_) (fun c52 => ?_)
                  · exact absurd rfl c52
                  · refine lv_aload_n X.hx X.hb dX2_looks_55 rfl (lv_at hl 0 rfl) ?_
                    refine lv_iload_n X.hx X.hb dX2_looks_56 rfl (lv_at hl 1 rfl) ?_
                    refine lv_iload X.hx X.hb dX2_looks_57 (lv_at hl 4 rfl) ?_
                    have hkq : MP Γ G733 m σ 0 B := hM735
                    obtain ⟨i, hi, rfl⟩ := plc (Nat.lt_of_le_of_lt hW.1 (by decide)) (fun h9 => hP (Or.inl h9)) (Classical.not_not.mp (fun h9 => hP (Or.inr h9)))
                    have hn60 := hW.2.2.1
                    have hn4 := hW.1
                    have hic : (nI i).toNatClampNeg = i := nI_clamp (by omega)
                    refine gcV X hl.1 hR731 hS732 2 [.int (nI i), .int kn] [] (m_goes l Γ G733 hW hkq hi) f734 rfl q1441 q1443 qs29 q40 q1444 rfl rfl ⟨rfl, by decide +kernel, by decide +kernel, by decide +kernel⟩ ⟨by (try dsimp only [RM]); omega, by (try dsimp only [RM]); omega⟩ rfl rfl (Nat.le_of_ble_eq_true rfl) dX2_looks_59 ⟨by (try dsimp only [RM]); omega, by (try dsimp only [RM]); omega⟩ (fun v739 G740 H locs hq736 hR737 hS738 => ?_)
                    obtain ⟨rfl, fv, fc, fr, fs, hW3, hV, hD9⟩ := hq736
                    have hM9 : MP Γ G740 m σ 0 B := hkq.wrk hW3.1 hW3.2.1 hW3.2.2.1 hW3.2.2.2.1 hW3.2.2.2.2
                    have hL9 : LV5 Γ G740 σ i kn B := ⟨fv, fc, fr, fs, hW3.2.1, hW3.2.2.1, hW3.2.2.2.1, hW3.2.2.2.2, hV, hD9⟩
                    have hm2 := hM9.1
                    refine lv_aload_n X.hx X.hb dX2_looks_62 rfl (lv_at hl 0 rfl) ?_
                    refine g_get X hR737 hm2 rfl in_X2 20 (by decide) q1315 (fun _ h => h) rfl dX2_looks_63 ?_
                    refine lv_if_ne (tgt := 73) X.hx X.hb dX2_looks_66 (by decide) (fun c66 => ?_) (fun c66 => ?_)
                    · exact absurd rfl c66
                    · refine lv_iconst (v := 1) X.hx X.hb dX2_looks_69 (by decide) ?_
                      refine lv_goto (tgt := 74) X.hx X.hb dX2_looks_70 (by decide) ?_
                      exact g_zret X hr hlk hR737 hS738 rfl (⟨Or.inl ⟨by rw [kV, if_neg (or_no hP hF), if_neg (or_no hD hK)], rfl, hM9, by rw [hic]; exact hL9⟩, (gK.tr (gK.pt hG733 hm (by show 30 ≤ 30 ∧ 30 < 40; decide)) (W32_tm hW3))⟩) (by (try dsimp only [RM]); omega) (by (try dsimp only [RM]); omega) dX2_looks_74
        · exact absurd c13 (by decide)

theorem kV_ok {σ : MS} {p f d kn : Int32} (h : kV σ p f d kn = 0) : ¬ bdP (nI (σ.1 0)) p ∧ ¬ bdP 3 f ∧ ¬ bad 0 364 d ∧ ¬ bad 0 (σ.2 12 0) kn := by
  unfold kV at h
  by_cases h1 : bdP (nI (σ.1 0)) p ∨ bdP 3 f
  · rw [if_pos h1] at h; exact absurd h (by decide)
  · rw [if_neg h1] at h
    by_cases h2 : bad 0 364 d ∨ bad 0 (σ.2 12 0) kn
    · rw [if_pos h2] at h; exact absurd h (by decide)
    · exact ⟨fun h9 => h1 (Or.inl h9), fun h9 => h1 (Or.inr h9), fun h9 => h2 (Or.inl h9), fun h9 => h2 (Or.inr h9)⟩
theorem d_nat {d : Int32} (h : ¬ bad 0 364 d) : ∃ j, j < 365 ∧ d = nI j ∧ d.toInt.toNat = j := by
  have h1 := nb_rg h
  have e0 : (0 : Int32).toInt = 0 := rfl
  have e1 : (364 : Int32).toInt = 364 := rfl
  have h2 := h1.1
  have h3 := h1.2
  exact ⟨d.toInt.toNat, by omega, (nI_of8 (b := 364) ⟨by omega, by omega⟩).symm, rfl⟩

set_option maxHeartbeats 4000000 in
theorem m_value (l : Launch) (Γ : GP) (G : GH) {m : Nat} {σ : MS} {th : Int32} {B : Nat → Nat} (hW : WF σ) (hM : MP Γ G m σ th B) {p f d kn : Int32} : MetG l yX2_value (ws_ yX2_value cX2_value 5 (some .int)) (RM 5 0 0) Γ G [.ref m, .int p, .int f, .int d, .int kn] (fun v G1 => MR Γ G G1 m σ σ B (kV σ p f d kn) ((Fk σ p.toNatClampNeg kn (100 * (d.toInt.toNat + 1))).1 f.toNatClampNeg) v) 0 0 := by
  refine gMet (own := RX2) (by decide) rfl (Nat.le_of_ble_eq_true rfl) ?_
  intro pp ee ss mm below meth cc0 ls X hr hlk hin hnm hR hS hl
  have hl : lv_has ls 5 [(0, .ref m), (1, .int p), (2, .int f), (3, .int d), (4, .int kn)] := hl
  have hm : G m = some (MOc (nI (σ.1 0)) (σ.2 12 0) (nI (σ.1 1)) (nI (σ.1 2)) th B) := hM.1
  refine lv_aload_n X.hx X.hb dX2_value_0 rfl (lv_at hl 0 rfl) ?_
  refine lv_iload_n X.hx X.hb dX2_value_1 rfl (lv_at hl 1 rfl) ?_
  refine lv_iload_n X.hx X.hb dX2_value_2 rfl (lv_at hl 2 rfl) ?_
  refine lv_iload_n X.hx X.hb dX2_value_3 rfl (lv_at hl 3 rfl) ?_
  refine lv_iload X.hx X.hb dX2_value_4 (lv_at hl 4 rfl) ?_
  refine gcV X hl.1 hR hS 4 [.int p, .int f, .int d, .int kn] [] (m_looks l Γ G hW hM) hm rfl q1437 q1439 qs28 q40 q1440 rfl rfl ⟨rfl, by decide +kernel, by decide +kernel, by decide +kernel⟩ ⟨by (try dsimp only [RM]); omega, by (try dsimp only [RM]); omega⟩ rfl rfl (Nat.le_of_ble_eq_true rfl) dX2_value_6 ⟨by (try dsimp only [RM]); omega, by (try dsimp only [RM]); omega⟩ (fun v744 G745 H locs hq741 hR742 hS743 => ?_)
  obtain ⟨hlk9, hgl⟩ := hq741
  rcases hlk9 with ⟨hk0, rfl, hML, hLV⟩ | ⟨hk0, rfl, hML⟩
  · have hpk : ¬ bdP (nI (σ.1 0)) p ∧ ¬ bdP 3 f ∧ ¬ bad 0 364 d ∧ ¬ bad 0 (σ.2 12 0) kn := kV_ok hk0
    obtain ⟨fv, fc, fr, fs, h12, h13, h14, h15, hV, hD9⟩ := id hLV
    have hm : G745 m = some (MOc (nI (σ.1 0)) (σ.2 12 0) (nI (σ.1 1)) (nI (σ.1 2)) 0 B) := hML.1
    refine lv_if_eq (tgt := 25) X.hx X.hb dX2_value_9 (by decide) (fun c9 => ?_) (fun c9 => ?_)
    · exact absurd c9 (by decide)
    · refine lv_aload_n X.hx X.hb dX2_value_12 rfl (lv_at hl 0 rfl) ?_
      refine g_get X hR742 hm rfl in_X2 16 (by decide) q1311 (fun _ h => h) rfl dX2_value_13 ?_
      refine lv_iconst (v := 3) X.hx X.hb dX2_value_16 (by decide) ?_
      refine lv_iload_n X.hx X.hb dX2_value_17 rfl (lv_at hl 3 rfl) ?_
      obtain ⟨j, hj5, rfl, hjt⟩ := d_nat hpk.2.2.1
      refine lv_imul X.hx X.hb dX2_value_18 ?_
      refine lv_topi (fun x746 hx746 => ?_)
      obtain rfl : x746 = nI (3 * j) := hx746.trans (nI_m3 (by omega))
      refine lv_iload_n X.hx X.hb dX2_value_19 rfl (lv_at hl 2 rfl) ?_
      obtain ⟨q, hq3, hqe⟩ : ∃ q, q < 3 ∧ f = nI q := ⟨f.toInt.toNat, by have := f3_rg hpk.2.1; have := this.1; have := (f3_rg hpk.2.1).2; omega, (nI_of8 (f3_rg hpk.2.1)).symm⟩
      have hqc : f.toNatClampNeg = q := by rw [hqe, nI_clamp (by omega)]
      refine lv_iadd X.hx X.hb dX2_value_20 ?_
      refine lv_topi (fun x747 hx747 => ?_)
      obtain rfl : x747 = nI (3 * j + q) := hx747.trans (by rw [hqe]; exact nI_add _ _)
      refine g_iald (v := (Fk σ p.toNatClampNeg kn (100 * (j + 1))).1 q) X hR742 h12 (vp_in_nI (show 3 * j + q < 1095 by omega) (by decide)) (by rw [nI_clamp (by omega)]; exact hV j hj5 q hq3) dX2_value_21 ?_
      refine lv_goto (tgt := 26) X.hx X.hb dX2_value_22 (by decide) ?_
      exact g_iret X hr hlk hR742 hS743 (⟨Or.inl ⟨hk0, by rw [hjt, hqc], hML⟩, hgl⟩) (by (try dsimp only [RM]); omega) (by (try dsimp only [RM]); omega) dX2_value_26
  · have hm : G745 m = some (MOc (nI (σ.1 0)) (σ.2 12 0) (nI (σ.1 1)) (nI (σ.1 2)) (kV σ p f d kn) B) := hML.1
    refine lv_if_eq (tgt := 25) X.hx X.hb dX2_value_9 (by decide) (fun c9 => ?_) (fun c9 => ?_)
    · refine lv_iconst (v := 0) X.hx X.hb dX2_value_25 (by decide) ?_
      exact g_iret X hr hlk hR742 hS743 (⟨Or.inr ⟨hk0, ⟨_, rfl⟩, hML⟩, hgl⟩) (by (try dsimp only [RM]); omega) (by (try dsimp only [RM]); omega) dX2_value_26
    · exact absurd (by decide) c9

set_option maxHeartbeats 4000000 in
theorem m_isCovered (l : Launch) (Γ : GP) (G : GH) {m : Nat} {σ : MS} {th : Int32} {B : Nat → Nat} (hW : WF σ) (hM : MP Γ G m σ th B) {p d kn : Int32} : MetG l yX2_isCovered (ws_ yX2_isCovered cX2_isCovered 4 (some .boolean)) (RM 5 0 0) Γ G [.ref m, .int p, .int d, .int kn] (fun v G1 => MR Γ G G1 m σ σ B (kV σ p 0 d kn) ((Fk σ p.toNatClampNeg kn (100 * (d.toInt.toNat + 1))).2) v) 0 0 := by
  refine gMet (own := RX2) (by decide) rfl (Nat.le_of_ble_eq_true rfl) ?_
  intro pp ee ss mm below meth cc0 ls X hr hlk hin hnm hR hS hl
  have hl : lv_has ls 4 [(0, .ref m), (1, .int p), (2, .int d), (3, .int kn)] := hl
  have hm : G m = some (MOc (nI (σ.1 0)) (σ.2 12 0) (nI (σ.1 1)) (nI (σ.1 2)) th B) := hM.1
  refine lv_aload_n X.hx X.hb dX2_isCovered_0 rfl (lv_at hl 0 rfl) ?_
  refine lv_iload_n X.hx X.hb dX2_isCovered_1 rfl (lv_at hl 1 rfl) ?_
  refine lv_iconst (v := 0) X.hx X.hb dX2_isCovered_2 (by decide) ?_
  refine lv_iload_n X.hx X.hb dX2_isCovered_3 rfl (lv_at hl 2 rfl) ?_
  refine lv_iload_n X.hx X.hb dX2_isCovered_4 rfl (lv_at hl 3 rfl) ?_
  refine gcV X hl.1 hR hS 4 [.int p, .int 0, .int d, .int kn] [] (m_looks l Γ G hW hM) hm rfl q1437 q1439 qs28 q40 q1440 rfl rfl ⟨rfl, by decide +kernel, by decide +kernel, by decide +kernel⟩ ⟨by (try dsimp only [RM]); omega, by (try dsimp only [RM]); omega⟩ rfl rfl (Nat.le_of_ble_eq_true rfl) dX2_isCovered_5 ⟨by (try dsimp only [RM]); omega, by (try dsimp only [RM]); omega⟩ (fun v751 G752 H locs hq748 hR749 hS750 => ?_)
  obtain ⟨hlk9, hgl⟩ := hq748
  rcases hlk9 with ⟨hk0, rfl, hML, hLV⟩ | ⟨hk0, rfl, hML⟩
  · have hpk : ¬ bdP (nI (σ.1 0)) p ∧ ¬ bdP 3 0 ∧ ¬ bad 0 364 d ∧ ¬ bad 0 (σ.2 12 0) kn := kV_ok hk0
    obtain ⟨fv, fc, fr, fs, h12, h13, h14, h15, hV, hD9⟩ := id hLV
    have hm : G752 m = some (MOc (nI (σ.1 0)) (σ.2 12 0) (nI (σ.1 1)) (nI (σ.1 2)) 0 B) := hML.1
    refine lv_if_eq (tgt := 24) X.hx X.hb dX2_isCovered_8 (by decide) (fun c8 => ?_) (fun c8 => ?_)
    · exact absurd c8 (by decide)
    · refine lv_aload_n X.hx X.hb dX2_isCovered_11 rfl (lv_at hl 0 rfl) ?_
      refine g_get X hR749 hm rfl in_X2 17 (by decide) q1312 (fun _ h => h) rfl dX2_isCovered_12 ?_
      refine lv_iload_n X.hx X.hb dX2_isCovered_15 rfl (lv_at hl 2 rfl) ?_
      obtain ⟨j, hj5, rfl, hjt⟩ := d_nat hpk.2.2.1
      refine g_zald (v := (Fk σ p.toNatClampNeg kn (100 * (j + 1))).2) X hR749 h13 (vp_in_nI hj5 (by decide)) (by rw [nI_clamp (by omega)]; exact (hD9.1 j hj5).1) dX2_isCovered_16 ?_
      refine lv_if_eq (tgt := 24) X.hx X.hb dX2_isCovered_17 (by decide) (fun c17 => ?_) (fun c17 => ?_)
      · refine lv_iconst (v := 0) X.hx X.hb dX2_isCovered_24 (by decide) ?_
        exact g_zret X hr hlk hR749 hS750 rfl (⟨Or.inl ⟨hk0, by rw [hjt]; exact congrArg (fun z => some (Value.int z)) c17.symm, hML⟩, hgl⟩) (by (try dsimp only [RM]); omega) (by (try dsimp only [RM]); omega) dX2_isCovered_25
      · refine lv_iconst (v := 1) X.hx X.hb dX2_isCovered_20 (by decide) ?_
        refine lv_goto (tgt := 25) X.hx X.hb dX2_isCovered_21 (by decide) ?_
        exact g_zret X hr hlk hR749 hS750 rfl (⟨Or.inl ⟨hk0, by rw [hjt]; exact congrArg (fun z => some (Value.int z)) ((Fk_on _).resolve_left c17).symm, hML⟩, hgl⟩) (by (try dsimp only [RM]); omega) (by (try dsimp only [RM]); omega) dX2_isCovered_25
  · have hm : G752 m = some (MOc (nI (σ.1 0)) (σ.2 12 0) (nI (σ.1 1)) (nI (σ.1 2)) (kV σ p 0 d kn) B) := hML.1
    refine lv_if_eq (tgt := 24) X.hx X.hb dX2_isCovered_8 (by decide) (fun c8 => ?_) (fun c8 => ?_)
    · refine lv_iconst (v := 0) X.hx X.hb dX2_isCovered_24 (by decide) ?_
      exact g_zret X hr hlk hR749 hS750 rfl (⟨Or.inr ⟨hk0, ⟨_, rfl⟩, hML⟩, hgl⟩) (by (try dsimp only [RM]); omega) (by (try dsimp only [RM]); omega) dX2_isCovered_25
    · exact absurd (by decide) c8

set_option maxHeartbeats 4000000 in
theorem m_rate (l : Launch) (Γ : GP) (G : GH) {m : Nat} {σ : MS} {th : Int32} {B : Nat → Nat} (hW : WF σ) (hM : MP Γ G m σ th B) {p d kn : Int32} : MetG l yX2_rate (ws_ yX2_rate cX2_rate 4 (some .int)) (RM 5 0 0) Γ G [.ref m, .int p, .int d, .int kn] (fun v G1 => MR Γ G G1 m σ σ B (kV σ p 0 d kn) (rtw σ p.toNatClampNeg d (Fk σ p.toNatClampNeg kn (100 * (d.toInt.toNat + 1)))) v) 0 0 := by
  refine gMet (own := RX2) (by decide) rfl (Nat.le_of_ble_eq_true rfl) ?_
  intro pp ee ss mm below meth cc0 ls X hr hlk hin hnm hR hS hl
  have hl : lv_has ls 4 [(0, .ref m), (1, .int p), (2, .int d), (3, .int kn)] := hl
  have hm : G m = some (MOc (nI (σ.1 0)) (σ.2 12 0) (nI (σ.1 1)) (nI (σ.1 2)) th B) := hM.1
  refine lv_aload_n X.hx X.hb dX2_rate_0 rfl (lv_at hl 0 rfl) ?_
  refine lv_iload_n X.hx X.hb dX2_rate_1 rfl (lv_at hl 1 rfl) ?_
  refine lv_iconst (v := 0) X.hx X.hb dX2_rate_2 (by decide) ?_
  refine lv_iload_n X.hx X.hb dX2_rate_3 rfl (lv_at hl 2 rfl) ?_
  refine lv_iload_n X.hx X.hb dX2_rate_4 rfl (lv_at hl 3 rfl) ?_
  refine gcV X hl.1 hR hS 4 [.int p, .int 0, .int d, .int kn] [] (m_looks l Γ G hW hM) hm rfl q1437 q1439 qs28 q40 q1440 rfl rfl ⟨rfl, by decide +kernel, by decide +kernel, by decide +kernel⟩ ⟨by (try dsimp only [RM]); omega, by (try dsimp only [RM]); omega⟩ rfl rfl (Nat.le_of_ble_eq_true rfl) dX2_rate_5 ⟨by (try dsimp only [RM]); omega, by (try dsimp only [RM]); omega⟩ (fun v756 G757 H locs hq753 hR754 hS755 => ?_)
  obtain ⟨hlk9, hgl⟩ := hq753
  rcases hlk9 with ⟨hk0, rfl, hML, hLV⟩ | ⟨hk0, rfl, hML⟩
  · have hpk : ¬ bdP (nI (σ.1 0)) p ∧ ¬ bdP 3 0 ∧ ¬ bad 0 364 d ∧ ¬ bad 0 (σ.2 12 0) kn := kV_ok hk0
    obtain ⟨fv, fc, fr, fs, h12, h13, h14, h15, hV, hD9⟩ := id hLV
    have hm : G757 m = some (MOc (nI (σ.1 0)) (σ.2 12 0) (nI (σ.1 1)) (nI (σ.1 2)) 0 B) := hML.1
    refine lv_if_eq (tgt := 20) X.hx X.hb dX2_rate_8 (by decide) (fun c8 => ?_) (fun c8 => ?_)
    · exact absurd c8 (by decide)
    · refine lv_aload_n X.hx X.hb dX2_rate_11 rfl (lv_at hl 0 rfl) ?_
      refine g_get X hR754 hm rfl in_X2 18 (by decide) q1313 (fun _ h => h) rfl dX2_rate_12 ?_
      refine lv_iload_n X.hx X.hb dX2_rate_15 rfl (lv_at hl 2 rfl) ?_
      obtain ⟨j, hj5, rfl, hjt⟩ := d_nat hpk.2.2.1
      refine g_iald (v := rtA σ p.toNatClampNeg kn j) X hR754 h14 (vp_in_nI hj5 (by decide)) (by rw [nI_clamp (by omega)]; exact (hD9.1 j hj5).2) dX2_rate_16 ?_
      refine lv_goto (tgt := 21) X.hx X.hb dX2_rate_17 (by decide) ?_
      exact g_iret X hr hlk hR754 hS755 (⟨Or.inl ⟨hk0, by rw [hjt]; rfl, hML⟩, hgl⟩) (by (try dsimp only [RM]); omega) (by (try dsimp only [RM]); omega) dX2_rate_21
  · have hm : G757 m = some (MOc (nI (σ.1 0)) (σ.2 12 0) (nI (σ.1 1)) (nI (σ.1 2)) (kV σ p 0 d kn) B) := hML.1
    refine lv_if_eq (tgt := 20) X.hx X.hb dX2_rate_8 (by decide) (fun c8 => ?_) (fun c8 => ?_)
    · refine lv_iconst (v := 0) X.hx X.hb dX2_rate_20 (by decide) ?_
      exact g_iret X hr hlk hR754 hS755 (⟨Or.inr ⟨hk0, ⟨_, rfl⟩, hML⟩, hgl⟩) (by (try dsimp only [RM]); omega) (by (try dsimp only [RM]); omega) dX2_rate_21
    · exact absurd (by decide) c8

set_option maxHeartbeats 4000000 in
theorem m_begins (l : Launch) (Γ : GP) (G : GH) {m : Nat} {σ : MS} {th : Int32} {B : Nat → Nat} (hW : WF σ) (hM : MP Γ G m σ th B) {r fr : Nat → Int32} (h14 : G (B 14) = some ((32, 2), .inl (Γ.2 1, 365, .inl fr))) (hfr : ∀ d, d < 365 → fr d = r d) {j : Nat} (hj : j < 365) : MetG l yX2_begins (ws_ yX2_begins cX2_begins 2 (some .boolean)) (RM 1 0 0) Γ G [.ref m, .int (nI j)] (fun v G1 => v = some (.int (if bgn r j then 1 else 0)) ∧ G = G1) 0 0 := by
  refine gMet (own := RX2) (by decide) rfl (Nat.le_of_ble_eq_true rfl) ?_
  intro pp ee ss mm below meth cc0 ls X hr hlk hin hnm hR hS hl
  have hl : lv_has ls 2 [(0, .ref m), (1, .int (nI j))] := hl
  have hm : G m = some (MOc (nI (σ.1 0)) (σ.2 12 0) (nI (σ.1 1)) (nI (σ.1 2)) th B) := hM.1
  refine lv_aload_n X.hx X.hb dX2_begins_0 rfl (lv_at hl 0 rfl) ?_
  refine g_get X hR hm rfl in_X2 18 (by decide) q1313 (fun _ h => h) rfl dX2_begins_1 ?_
  refine lv_iload_n X.hx X.hb dX2_begins_4 rfl (lv_at hl 1 rfl) ?_
  refine g_iald (v := r j) X hR h14 (vp_in_nI hj (by decide)) (by rw [nI_clamp (by omega)]; exact hfr j hj) dX2_begins_5 ?_
  refine lv_if_le (tgt := 34) X.hx X.hb dX2_begins_6 (by decide) (fun c6 => ?_) (fun c6 => ?_)
  · refine lv_iconst (v := 0) X.hx X.hb dX2_begins_34 (by decide) ?_
    exact g_zret X hr hlk hR hS rfl (⟨by rw [if_neg (fun h9 => Int32.not_le.mpr h9.1 c6)], rfl⟩) (by (try dsimp only [RM]); omega) (by (try dsimp only [RM]); omega) dX2_begins_35
  · refine lv_iload_n X.hx X.hb dX2_begins_9 rfl (lv_at hl 1 rfl) ?_
    refine lv_if_eq (tgt := 30) X.hx X.hb dX2_begins_10 (by decide) (fun c10 => ?_) (fun c10 => ?_)
    · refine lv_iconst (v := 1) X.hx X.hb dX2_begins_30 (by decide) ?_
      refine lv_goto (tgt := 35) X.hx X.hb dX2_begins_31 (by decide) ?_
      exact g_zret X hr hlk hR hS rfl (⟨by rw [if_pos ⟨Int32.not_le.mp c6, Or.inl ((nI_eq (by omega) (by decide)).mp (c10.trans nI_0.symm))⟩], rfl⟩) (by (try dsimp only [RM]); omega) (by (try dsimp only [RM]); omega) dX2_begins_35
    · refine lv_aload_n X.hx X.hb dX2_begins_13 rfl (lv_at hl 0 rfl) ?_
      refine g_get X hR hm rfl in_X2 18 (by decide) q1313 (fun _ h => h) rfl dX2_begins_14 ?_
      refine lv_iload_n X.hx X.hb dX2_begins_17 rfl (lv_at hl 1 rfl) ?_
      refine lv_iconst (v := 1) X.hx X.hb dX2_begins_18 (by decide) ?_
      refine lv_isub X.hx X.hb dX2_begins_19 ?_
      have hj0 : 0 < j := Nat.pos_of_ne_zero (fun h9 => c10 (by rw [h9]; rfl))
      have hjm : nI j - 1 = nI (j - 1) := by
        obtain ⟨j1, rfl⟩ : ∃ j1, j = j1 + 1 := ⟨j - 1, by omega⟩
        exact nI_pred j1
      rw [hjm]
      refine g_iald (v := r (j - 1)) X hR h14 (vp_in_nI (by omega) (by decide)) (by rw [nI_clamp (by omega)]; exact hfr _ (by omega)) dX2_begins_20 ?_
      refine lv_aload_n X.hx X.hb dX2_begins_21 rfl (lv_at hl 0 rfl) ?_
      refine g_get X hR hm rfl in_X2 18 (by decide) q1313 (fun _ h => h) rfl dX2_begins_22 ?_
      refine lv_iload_n X.hx X.hb dX2_begins_25 rfl (lv_at hl 1 rfl) ?_
      refine g_iald (v := r j) X hR h14 (vp_in_nI hj (by decide)) (by rw [nI_clamp (by omega)]; exact hfr j hj) dX2_begins_26 ?_
      refine lv_icmp_eq (tgt := 34) X.hx X.hb dX2_begins_27 (by decide) (fun c27 => ?_) (fun c27 => ?_)
      · refine lv_iconst (v := 0) X.hx X.hb dX2_begins_34 (by decide) ?_
        exact g_zret X hr hlk hR hS rfl (⟨by rw [if_neg (fun h9 => h9.2.elim (fun h => by omega) (fun h => h c27.symm))], rfl⟩) (by (try dsimp only [RM]); omega) (by (try dsimp only [RM]); omega) dX2_begins_35
      · refine lv_iconst (v := 1) X.hx X.hb dX2_begins_30 (by decide) ?_
        refine lv_goto (tgt := 35) X.hx X.hb dX2_begins_31 (by decide) ?_
        exact g_zret X hr hlk hR hS rfl (⟨by rw [if_pos ⟨Int32.not_le.mp c6, Or.inr (fun h9 => c27 h9.symm)⟩], rfl⟩) (by (try dsimp only [RM]); omega) (by (try dsimp only [RM]); omega) dX2_begins_35

set_option maxHeartbeats 4000000 in
theorem m_charge (l : Launch) (Γ : GP) (G : GH) {m : Nat} {σ : MS} {th : Int32} {B : Nat → Nat} (hW : WF σ) (hM : MP Γ G m σ th B) {fs : Nat → Int32} (h15 : G (B 15) = some ((32, 3), .inl (Γ.2 1, 366, .inl fs))) {e : Nat} (he : e ≤ 365) : MetG l yX2_charge (ws_ yX2_charge cX2_charge 2 (some .int)) (RM 1 0 0) Γ G [.ref m, .int (nI e)] (fun v G1 => v = some (.int (fs e / 365)) ∧ G = G1) 0 0 := by
  refine gMet (own := RX2) (by decide) rfl (Nat.le_of_ble_eq_true rfl) ?_
  intro pp ee ss mm below meth cc0 ls X hr hlk hin hnm hR hS hl
  have hl : lv_has ls 2 [(0, .ref m), (1, .int (nI e))] := hl
  have hm : G m = some (MOc (nI (σ.1 0)) (σ.2 12 0) (nI (σ.1 1)) (nI (σ.1 2)) th B) := hM.1
  refine lv_aload_n X.hx X.hb dX2_charge_0 rfl (lv_at hl 0 rfl) ?_
  refine g_get X hR hm rfl in_X2 19 (by decide) q1314 (fun _ h => h) rfl dX2_charge_1 ?_
  refine lv_iload_n X.hx X.hb dX2_charge_4 rfl (lv_at hl 1 rfl) ?_
  refine g_iald (v := fs e) X hR h15 (vp_in_nI (show e < 366 by omega) (by decide)) (by rw [nI_clamp (by omega)]) dX2_charge_5 ?_
  refine lv_sipush (v := 365) X.hx X.hb dX2_charge_6 (by decide) ?_
  refine lv_idiv X.hx X.hb dX2_charge_9 (by decide) ?_
  exact g_iret X hr hlk hR hS (⟨rfl, rfl⟩) (by (try dsimp only [RM]); omega) (by (try dsimp only [RM]); omega) dX2_charge_10

set_option maxHeartbeats 4000000 in
theorem m_segments (l : Launch) (Γ : GP) (G : GH) {m : Nat} {σ : MS} {th : Int32} {B : Nat → Nat} (hW : WF σ) (hM : MP Γ G m σ th B) {p kn : Int32} : MetG l yX2_segments (ws_ yX2_segments cX2_segments 6 (some .int)) (RM 6 0 0) Γ G [.ref m, .int p, .int kn] (fun v G1 => MR Γ G G1 m σ σ B (kV σ p 0 0 kn) (nI (nS σ p kn)) v) 0 0 := by
  refine gMet (own := RX2) (by decide) rfl (Nat.le_of_ble_eq_true rfl) ?_
  intro pp ee ss mm below meth cc0 ls X hr hlk hin hnm hR hS hl
  have hl : lv_has ls 6 [(0, .ref m), (1, .int p), (2, .int kn)] := hl
  have hm : G m = some (MOc (nI (σ.1 0)) (σ.2 12 0) (nI (σ.1 1)) (nI (σ.1 2)) th B) := hM.1
  refine lv_iconst (v := 0) X.hx X.hb dX2_segments_0 (by decide) ?_
  refine lv_istore_n (lv' := [(3, .int 0), (0, .ref m), (1, .int p), (2, .int kn)]) X.hx X.hb dX2_segments_1 rfl hl (by decide) rfl (fun ls hl => ?_)
  refine lv_aload_n X.hx X.hb dX2_segments_2 rfl (lv_at hl 1 rfl) ?_
  refine lv_iload_n X.hx X.hb dX2_segments_3 rfl (lv_at hl 2 rfl) ?_
  refine lv_iconst (v := 0) X.hx X.hb dX2_segments_4 (by decide) ?_
  refine lv_iconst (v := 0) X.hx X.hb dX2_segments_5 (by decide) ?_
  refine lv_iload_n X.hx X.hb dX2_segments_6 rfl (lv_at hl 3 rfl) ?_
  refine gcV X hl.1 hR hS 4 [.int p, .int 0, .int 0, .int kn] [] (m_looks l Γ G hW hM) hm rfl q1437 q1439 qs28 q40 q1440 rfl rfl ⟨rfl, by decide +kernel, by decide +kernel, by decide +kernel⟩ ⟨by (try dsimp only [RM]); omega, by (try dsimp only [RM]); omega⟩ rfl rfl (Nat.le_of_ble_eq_true rfl) dX2_segments_7 ⟨by (try dsimp only [RM]); omega, by (try dsimp only [RM]); omega⟩ (fun v761 G762 H locs hq758 hR759 hS760 => ?_)
  obtain ⟨hlk9, hgl⟩ := hq758
  rcases hlk9 with ⟨hk0, rfl, hML, hLV⟩ | ⟨hk0, rfl, hML⟩
  · have hpk : ¬ bdP (nI (σ.1 0)) p ∧ ¬ bdP 3 0 ∧ ¬ bad 0 364 0 ∧ ¬ bad 0 (σ.2 12 0) kn := kV_ok hk0
    obtain ⟨fv, fc, fr, fs, h12, h13, h14, h15, hV, hD9⟩ := id hLV
    have hm : G762 m = some (MOc (nI (σ.1 0)) (σ.2 12 0) (nI (σ.1 1)) (nI (σ.1 2)) 0 B) := hML.1
    refine lv_istore (lv' := [(4, .int 1), (3, .int 0), (0, .ref m), (1, .int p), (2, .int kn)]) X.hx X.hb dX2_segments_10 hl (by decide) rfl (fun ls hl => ?_)
    refine lv_iconst (v := 0) X.hx X.hb dX2_segments_12 (by decide) ?_
    refine lv_istore (lv' := [(5, .int 0), (4, .int 1), (3, .int 0), (0, .ref m), (1, .int p), (2, .int kn)]) X.hx X.hb dX2_segments_13 hl (by decide) rfl (fun ls hl => ?_)
    have loop : ∀ (n j : Nat) (H : Heap) (locs : List Loc) (ls : Array Slot), j ≤ 365 → 365 - j < n → Rep Γ G762 H → va_S (gA Γ) ss.heap H locs → lv_has ls 6 [(0, .ref m), (1, .int p), (2, .int kn), (3, .int (nI (sn (rtA σ p.toNatClampNeg kn) j))), (4, .int 1), (5, .int (nI j))] → W pp l ee (RM 6 0 0) ss mm (List.toArray [.ref m, .int p, .int kn]) below meth cc0 H locs (0 + 0) (0 + 0) (MQ below (Qg Γ (fun v G1 => MR Γ G G1 m σ σ B (kV σ p 0 0 kn) (nI (nS σ p kn)) v)) (List.toArray [.ref m, .int p, .int kn]) ss 0 0 (gA Γ)) (F0 mm 15 ls []) := by
      intro n
      induction n with
      | zero => intro j H locs ls h1 h2; omega
      | succ n ih =>
        intro j H locs ls h1 h2 hR hS hl
        by_cases hj : j < 365
        · refine lv_iload X.hx X.hb dX2_segments_15 (lv_at hl 4 rfl) ?_
          refine lv_if_eq (tgt := 51) X.hx X.hb dX2_segments_17 (by decide) (fun c17 => ?_) (fun c17 => ?_)
          · exact absurd c17 (by decide)
          · refine lv_iload X.hx X.hb dX2_segments_20 (lv_at hl 5 rfl) ?_
            refine lv_sipush (v := 365) X.hx X.hb dX2_segments_22 (by decide) ?_
            refine lv_icmp_ge (tgt := 51) X.hx X.hb dX2_segments_25 (by decide) (fun c25 => ?_) (fun c25 => ?_)
            · exact absurd c25 (Int32.not_le.mpr (nI_lt hj (by decide)))
            · refine lv_iload_n X.hx X.hb dX2_segments_28 rfl (lv_at hl 3 rfl) ?_
              refine lv_aload_n X.hx X.hb dX2_segments_29 rfl (lv_at hl 0 rfl) ?_
              refine lv_iload X.hx X.hb dX2_segments_30 (lv_at hl 5 rfl) ?_
              refine gcV X hl.1 hR hS 1 [.int (nI j)] [.int (nI (sn (rtA σ p.toNatClampNeg kn) j))] (m_begins l Γ G762 hW hML h14 (fun d hd => (hD9.1 d hd).2) hj) hm rfl q1464 q1466 qs31 q40 q1467 rfl rfl ⟨rfl, by decide +kernel, by decide +kernel, by decide +kernel⟩ ⟨by (try dsimp only [RM]); omega, by (try dsimp only [RM]); omega⟩ rfl rfl (Nat.le_of_ble_eq_true rfl) dX2_segments_32 ⟨by (try dsimp only [RM]); omega, by (try dsimp only [RM]); omega⟩ (fun v766 G767 H locs hq763 hR764 hS765 => ?_)
              obtain ⟨rfl, rfl⟩ := hq763
              by_cases hb : bgn (rtA σ p.toNatClampNeg kn) j
              · rw [if_pos hb]
                refine lv_if_eq (tgt := 42) X.hx X.hb dX2_segments_35 (by decide) (fun c35 => ?_) (fun c35 => ?_)
                · exact absurd c35 (by decide)
                · refine lv_iconst (v := 1) X.hx X.hb dX2_segments_38 (by decide) ?_
                  refine lv_goto (tgt := 43) X.hx X.hb dX2_segments_39 (by decide) ?_
                  refine lv_iadd X.hx X.hb dX2_segments_43 ?_
                  refine lv_topi (fun x768 hx768 => ?_)
                  obtain rfl : x768 = nI (sn (rtA σ p.toNatClampNeg kn) (j + 1)) := hx768.trans (by rw [sn_y hb]; exact nI_1 _)
                  refine lv_istore_n (lv' := [(3, .int (nI (sn (rtA σ p.toNatClampNeg kn) (j + 1)))), (0, .ref m), (1, .int p), (2, .int kn), (4, .int 1), (5, .int (nI j))]) X.hx X.hb dX2_segments_44 rfl hl (by decide) rfl (fun ls hl => ?_)
                  obtain ⟨x769, hx769⟩ : ∃ y : Int32, y = nI j + 1 := ⟨_, rfl⟩
                  refine lv_iinc (v := x769) (lv' := [(5, .int x769), (3, .int (nI (sn (rtA σ p.toNatClampNeg kn) (j + 1)))), (0, .ref m), (1, .int p), (2, .int kn), (4, .int 1)]) X.hx X.hb dX2_segments_45 hl (k := 5) rfl (by rw [hx769]; rfl) (by decide) rfl (fun ls hl => ?_)
                  refine lv_goto (tgt := 15) X.hx X.hb dX2_segments_48 (by decide) ?_
                  rw [hx769, nI_1] at hl
                  exact ih (j + 1) _ _ _ (by omega) (by omega) hR764 hS765 (lv_sub hl [2, 3, 4, 1, 5, 0] rfl)
              · rw [if_neg hb]
                refine lv_if_eq (tgt := 42) X.hx X.hb dX2_segments_35 (by decide) (fun c35 => ?_) (fun c35 => ?_)
                · refine lv_iconst (v := 0) X.hx X.hb dX2_segments_42 (by decide) ?_
                  refine lv_iadd X.hx X.hb dX2_segments_43 ?_
                  refine lv_topi (fun x770 hx770 => ?_)
                  obtain rfl : x770 = nI (sn (rtA σ p.toNatClampNeg kn) (j + 1)) := hx770.trans (by rw [sn_n hb, Int32.add_zero])
                  refine lv_istore_n (lv' := [(3, .int (nI (sn (rtA σ p.toNatClampNeg kn) (j + 1)))), (0, .ref m), (1, .int p), (2, .int kn), (4, .int 1), (5, .int (nI j))]) X.hx X.hb dX2_segments_44 rfl hl (by decide) rfl (fun ls hl => ?_)
                  obtain ⟨x771, hx771⟩ : ∃ y : Int32, y = nI j + 1 := ⟨_, rfl⟩
                  refine lv_iinc (v := x771) (lv' := [(5, .int x771), (3, .int (nI (sn (rtA σ p.toNatClampNeg kn) (j + 1)))), (0, .ref m), (1, .int p), (2, .int kn), (4, .int 1)]) X.hx X.hb dX2_segments_45 hl (k := 5) rfl (by rw [hx771]; rfl) (by decide) rfl (fun ls hl => ?_)
                  refine lv_goto (tgt := 15) X.hx X.hb dX2_segments_48 (by decide) ?_
                  rw [hx771, nI_1] at hl
                  exact ih (j + 1) _ _ _ (by omega) (by omega) hR764 hS765 (lv_sub hl [2, 3, 4, 1, 5, 0] rfl)
                · exact absurd (by decide) c35
        · have hne : j = 365 := by omega
          subst hne
          refine lv_iload X.hx X.hb dX2_segments_15 (lv_at hl 4 rfl) ?_
          refine lv_if_eq (tgt := 51) X.hx X.hb dX2_segments_17 (by decide) (fun c17 => ?_) (fun c17 => ?_)
          · exact absurd c17 (by decide)
          · refine lv_iload X.hx X.hb dX2_segments_20 (lv_at hl 5 rfl) ?_
            refine lv_sipush (v := 365) X.hx X.hb dX2_segments_22 (by decide) ?_
            refine lv_icmp_ge (tgt := 51) X.hx X.hb dX2_segments_25 (by decide) (fun c25 => ?_) (fun c25 => ?_)
            · refine lv_iload_n X.hx X.hb dX2_segments_51 rfl (lv_at hl 3 rfl) ?_
              exact g_iret X hr hlk hR hS (⟨Or.inl ⟨hk0, rfl, hML⟩, hgl⟩) (by (try dsimp only [RM]); omega) (by (try dsimp only [RM]); omega) dX2_segments_52
            · exact absurd (Int32.le_refl _) c25
    exact loop 366 0 _ _ _ (by omega) (by omega) hR759 hS760 (lv_sub hl [3, 4, 5, 2, 1, 0] rfl)
  · have hm : G762 m = some (MOc (nI (σ.1 0)) (σ.2 12 0) (nI (σ.1 1)) (nI (σ.1 2)) (kV σ p 0 0 kn) B) := hML.1
    refine lv_istore (lv' := [(4, .int 0), (3, .int 0), (0, .ref m), (1, .int p), (2, .int kn)]) X.hx X.hb dX2_segments_10 hl (by decide) rfl (fun ls hl => ?_)
    refine lv_iconst (v := 0) X.hx X.hb dX2_segments_12 (by decide) ?_
    refine lv_istore (lv' := [(5, .int 0), (4, .int 0), (3, .int 0), (0, .ref m), (1, .int p), (2, .int kn)]) X.hx X.hb dX2_segments_13 hl (by decide) rfl (fun ls hl => ?_)
    refine lv_iload X.hx X.hb dX2_segments_15 (lv_at hl 1 rfl) ?_
    refine lv_if_eq (tgt := 51) X.hx X.hb dX2_segments_17 (by decide) (fun c17 => ?_) (fun c17 => ?_)
    · refine lv_iload_n X.hx X.hb dX2_segments_51 rfl (lv_at hl 2 rfl) ?_
      exact g_iret X hr hlk hR759 hS760 (⟨Or.inr ⟨hk0, ⟨_, rfl⟩, hML⟩, hgl⟩) (by (try dsimp only [RM]); omega) (by (try dsimp only [RM]); omega) dX2_segments_52
    · exact absurd (by decide) c17

set_option maxHeartbeats 4000000 in
theorem m_all (l : Launch) (Γ : GP) (G : GH) {m : Nat} {σ : MS} {th : Int32} {B : Nat → Nat} (hW : WF σ) (hM : MP Γ G m σ th B) {p kn : Int32} : MetG l yX2_all (ws_ yX2_all cX2_all 3 (some .int)) (RM 6 0 0) Γ G [.ref m, .int p, .int kn] (fun v G1 => MR Γ G G1 m σ σ B (kV σ p 0 0 kn) (SUM (rtA σ p.toNatClampNeg kn) 365 / 365) v) 0 0 := by
  refine gMet (own := RX2) (by decide) rfl (Nat.le_of_ble_eq_true rfl) ?_
  intro pp ee ss mm below meth cc0 ls X hr hlk hin hnm hR hS hl
  have hl : lv_has ls 3 [(0, .ref m), (1, .int p), (2, .int kn)] := hl
  have hm : G m = some (MOc (nI (σ.1 0)) (σ.2 12 0) (nI (σ.1 1)) (nI (σ.1 2)) th B) := hM.1
  refine lv_aload_n X.hx X.hb dX2_all_0 rfl (lv_at hl 0 rfl) ?_
  refine lv_iload_n X.hx X.hb dX2_all_1 rfl (lv_at hl 1 rfl) ?_
  refine lv_iconst (v := 0) X.hx X.hb dX2_all_2 (by decide) ?_
  refine lv_iconst (v := 0) X.hx X.hb dX2_all_3 (by decide) ?_
  refine lv_iload_n X.hx X.hb dX2_all_4 rfl (lv_at hl 2 rfl) ?_
  refine gcV X hl.1 hR hS 4 [.int p, .int 0, .int 0, .int kn] [] (m_looks l Γ G hW hM) hm rfl q1437 q1439 qs28 q40 q1440 rfl rfl ⟨rfl, by decide +kernel, by decide +kernel, by decide +kernel⟩ ⟨by (try dsimp only [RM]); omega, by (try dsimp only [RM]); omega⟩ rfl rfl (Nat.le_of_ble_eq_true rfl) dX2_all_5 ⟨by (try dsimp only [RM]); omega, by (try dsimp only [RM]); omega⟩ (fun v775 G776 H locs hq772 hR773 hS774 => ?_)
  obtain ⟨hlk9, hgl⟩ := hq772
  rcases hlk9 with ⟨hk0, rfl, hML, hLV⟩ | ⟨hk0, rfl, hML⟩
  · have hpk : ¬ bdP (nI (σ.1 0)) p ∧ ¬ bdP 3 0 ∧ ¬ bad 0 364 0 ∧ ¬ bad 0 (σ.2 12 0) kn := kV_ok hk0
    obtain ⟨fv, fc, fr, fs, h12, h13, h14, h15, hV, hD9⟩ := id hLV
    have hm : G776 m = some (MOc (nI (σ.1 0)) (σ.2 12 0) (nI (σ.1 1)) (nI (σ.1 2)) 0 B) := hML.1
    refine lv_if_eq (tgt := 21) X.hx X.hb dX2_all_8 (by decide) (fun c8 => ?_) (fun c8 => ?_)
    · exact absurd c8 (by decide)
    · refine lv_aload_n X.hx X.hb dX2_all_11 rfl (lv_at hl 0 rfl) ?_
      refine lv_sipush (v := 365) X.hx X.hb dX2_all_12 (by decide) ?_
      have hch := m_charge l Γ G776 hW hML h15 (e := 365) (Nat.le_refl _)
      rw [hD9.2 365 (Nat.le_refl _)] at hch
      refine gcV X hl.1 hR773 hS774 1 [.int 365] [] (hch) hm rfl q1480 q1482 qs33 q40 q1483 rfl rfl ⟨rfl, by decide +kernel, by decide +kernel, by decide +kernel⟩ ⟨by (try dsimp only [RM]); omega, by (try dsimp only [RM]); omega⟩ rfl rfl (Nat.le_of_ble_eq_true rfl) dX2_all_15 ⟨by (try dsimp only [RM]); omega, by (try dsimp only [RM]); omega⟩ (fun v780 G781 H locs hq777 hR778 hS779 => ?_)
      obtain ⟨rfl, rfl⟩ := hq777
      refine lv_goto (tgt := 22) X.hx X.hb dX2_all_18 (by decide) ?_
      exact g_iret X hr hlk hR778 hS779 (⟨Or.inl ⟨hk0, rfl, hML⟩, hgl⟩) (by (try dsimp only [RM]); omega) (by (try dsimp only [RM]); omega) dX2_all_22
  · have hm : G776 m = some (MOc (nI (σ.1 0)) (σ.2 12 0) (nI (σ.1 1)) (nI (σ.1 2)) (kV σ p 0 0 kn) B) := hML.1
    refine lv_if_eq (tgt := 21) X.hx X.hb dX2_all_8 (by decide) (fun c8 => ?_) (fun c8 => ?_)
    · refine lv_iconst (v := 0) X.hx X.hb dX2_all_21 (by decide) ?_
      exact g_iret X hr hlk hR773 hS774 (⟨Or.inr ⟨hk0, ⟨_, rfl⟩, hML⟩, hgl⟩) (by (try dsimp only [RM]); omega) (by (try dsimp only [RM]); omega) dX2_all_22
    · exact absurd (by decide) c8

set_option maxHeartbeats 4000000 in
theorem m_premium (l : Launch) (Γ : GP) (G : GH) {m : Nat} {σ : MS} {th : Int32} {B : Nat → Nat} (hW : WF σ) (hM : MP Γ G m σ th B) {p kn : Int32} : MetG l yX2_premium (ws_ yX2_premium cX2_premium 3 (some .int)) (RM 7 0 0) Γ G [.ref m, .int p, .int kn] (fun v G1 => MR Γ G G1 m σ σ B (kV σ p 0 0 kn) (SUM (rtA σ p.toNatClampNeg kn) 365 / 365) v) 0 0 := by
  refine gMet (own := RX2) (by decide) rfl (Nat.le_of_ble_eq_true rfl) ?_
  intro pp ee ss mm below meth cc0 ls X hr hlk hin hnm hR hS hl
  have hl : lv_has ls 3 [(0, .ref m), (1, .int p), (2, .int kn)] := hl
  have hm : G m = some (MOc (nI (σ.1 0)) (σ.2 12 0) (nI (σ.1 1)) (nI (σ.1 2)) th B) := hM.1
  refine lv_aload_n X.hx X.hb dX2_premium_0 rfl (lv_at hl 0 rfl) ?_
  refine lv_iload_n X.hx X.hb dX2_premium_1 rfl (lv_at hl 1 rfl) ?_
  refine lv_iload_n X.hx X.hb dX2_premium_2 rfl (lv_at hl 2 rfl) ?_
  refine gcV X hl.1 hR hS 2 [.int p, .int kn] [] (m_all l Γ G hW hM) hm rfl q1488 q1490 qs34 q40 q1491 rfl rfl ⟨rfl, by decide +kernel, by decide +kernel, by decide +kernel⟩ ⟨by (try dsimp only [RM]); omega, by (try dsimp only [RM]); omega⟩ rfl rfl (Nat.le_of_ble_eq_true rfl) dX2_premium_3 ⟨by (try dsimp only [RM]); omega, by (try dsimp only [RM]); omega⟩ (fun v785 G786 H locs hq782 hR783 hS784 => ?_)
  obtain ⟨u9, rfl⟩ := mr_int hq782
  exact g_iret X hr hlk hR783 hS784 hq782 (by (try dsimp only [RM]); omega) (by (try dsimp only [RM]); omega) dX2_premium_6

set_option maxHeartbeats 4000000 in
theorem m_premByDays (l : Launch) (Γ : GP) (G : GH) {m : Nat} {σ : MS} {th : Int32} {B : Nat → Nat} (hW : WF σ) (hM : MP Γ G m σ th B) {p kn : Int32} : MetG l yX2_premiumByDays (ws_ yX2_premiumByDays cX2_premiumByDays 3 (some .int)) (RM 7 0 0) Γ G [.ref m, .int p, .int kn] (fun v G1 => MR Γ G G1 m σ σ B (kV σ p 0 0 kn) (SUM (rtA σ p.toNatClampNeg kn) 365 / 365) v) 0 0 := by
  refine gMet (own := RX2) (by decide) rfl (Nat.le_of_ble_eq_true rfl) ?_
  intro pp ee ss mm below meth cc0 ls X hr hlk hin hnm hR hS hl
  have hl : lv_has ls 3 [(0, .ref m), (1, .int p), (2, .int kn)] := hl
  have hm : G m = some (MOc (nI (σ.1 0)) (σ.2 12 0) (nI (σ.1 1)) (nI (σ.1 2)) th B) := hM.1
  refine lv_aload_n X.hx X.hb dX2_premiumByDays_0 rfl (lv_at hl 0 rfl) ?_
  refine lv_iload_n X.hx X.hb dX2_premiumByDays_1 rfl (lv_at hl 1 rfl) ?_
  refine lv_iload_n X.hx X.hb dX2_premiumByDays_2 rfl (lv_at hl 2 rfl) ?_
  refine gcV X hl.1 hR hS 2 [.int p, .int kn] [] (m_all l Γ G hW hM) hm rfl q1488 q1490 qs34 q40 q1491 rfl rfl ⟨rfl, by decide +kernel, by decide +kernel, by decide +kernel⟩ ⟨by (try dsimp only [RM]); omega, by (try dsimp only [RM]); omega⟩ rfl rfl (Nat.le_of_ble_eq_true rfl) dX2_premiumByDays_3 ⟨by (try dsimp only [RM]); omega, by (try dsimp only [RM]); omega⟩ (fun v790 G791 H locs hq787 hR788 hS789 => ?_)
  obtain ⟨u9, rfl⟩ := mr_int hq787
  exact g_iret X hr hlk hR788 hS789 hq787 (by (try dsimp only [RM]); omega) (by (try dsimp only [RM]); omega) dX2_premiumByDays_6

set_option maxHeartbeats 4000000 in
theorem m_bill (l : Launch) (Γ : GP) (G : GH) {m : Nat} {σ : MS} {th : Int32} {B : Nat → Nat} (hW : WF σ) (hM : MP Γ G m σ th B) {p : Int32} : MetG l yX2_bill (ws_ yX2_bill cX2_bill 4 (some .int)) (RM 7 0 0) Γ G [.ref m, .int p] (fun v G1 => MR Γ G G1 m σ (tauB σ p.toNatClampNeg (SUM (rtA σ p.toNatClampNeg (σ.2 12 0)) 365 / 365)) B (kP σ p) (SUM (rtA σ p.toNatClampNeg (σ.2 12 0)) 365 / 365 - σ.2 1 p.toNatClampNeg) v) 0 0 := by
  refine gMet (own := RX2) (by decide) rfl (Nat.le_of_ble_eq_true rfl) ?_
  intro pp ee ss mm below meth cc0 ls X hr hlk hin hnm hR hS hl
  have hl : lv_has ls 4 [(0, .ref m), (1, .int p)] := hl
  have hm : G m = some (MOc (nI (σ.1 0)) (σ.2 12 0) (nI (σ.1 1)) (nI (σ.1 2)) th B) := hM.1
  refine lv_aload_n X.hx X.hb dX2_bill_0 rfl (lv_at hl 0 rfl) ?_
  refine lv_iload_n X.hx X.hb dX2_bill_1 rfl (lv_at hl 1 rfl) ?_
  refine lv_aload_n X.hx X.hb dX2_bill_2 rfl (lv_at hl 0 rfl) ?_
  refine g_get X hR hm rfl in_X2 3 (by decide) q1298 (fun _ h => h) rfl dX2_bill_3 ?_
  refine gcV X hl.1 hR hS 2 [.int p, .int (σ.2 12 0)] [] (m_all l Γ G hW hM) hm rfl q1488 q1490 qs34 q40 q1491 rfl rfl ⟨rfl, by decide +kernel, by decide +kernel, by decide +kernel⟩ ⟨by (try dsimp only [RM]); omega, by (try dsimp only [RM]); omega⟩ rfl rfl (Nat.le_of_ble_eq_true rfl) dX2_bill_6 ⟨by (try dsimp only [RM]); omega, by (try dsimp only [RM]); omega⟩ (fun v795 G796 H locs hq792 hR793 hS794 => ?_)
  obtain ⟨hmr, hga⟩ := hq792
  have htd : ¬ bad 0 (σ.2 12 0) (σ.2 12 0) := nbad (Int32.not_lt.mpr (Int32.le_iff_toInt_le.mpr hW.2.2.2.1.1)) (Int32.le_refl _)
  rcases hmr with ⟨hk0, rfl, hMA⟩ | ⟨hk0, ⟨u9, rfl⟩, hMA⟩
  · have hpk := kV_ok hk0
    obtain ⟨i, hi, rfl⟩ := plc (Nat.lt_of_le_of_lt hW.1 (by decide)) (fun h9 => hpk.1 (Or.inl h9)) (Classical.not_not.mp (fun h9 => hpk.1 (Or.inr h9)))
    have hn4 := hW.1
    have hic : (nI i).toNatClampNeg = i := nI_clamp (by omega)
    have hm : G796 m = some (MOc (nI (σ.1 0)) (σ.2 12 0) (nI (σ.1 1)) (nI (σ.1 2)) 0 B) := hMA.1
    have hr1 : G796 (B 1) = some ((31, 1), .inl (Γ.2 1, 4, .inl (σ.2 1))) := hMA.2.1 1 (by decide)
    refine lv_istore_n (lv' := [(2, .int (SUM (rtA σ (nI i).toNatClampNeg (σ.2 12 0)) 365 / 365)), (0, .ref m), (1, .int (nI i))]) X.hx X.hb dX2_bill_9 rfl hl (by decide) rfl (fun ls hl => ?_)
    refine lv_aload_n X.hx X.hb dX2_bill_10 rfl (lv_at hl 1 rfl) ?_
    refine g_get X hR793 hm rfl in_X2 20 (by decide) q1315 (fun _ h => h) rfl dX2_bill_11 ?_
    refine lv_if_le (tgt := 19) X.hx X.hb dX2_bill_14 (by decide) (fun c14 => ?_) (fun c14 => ?_)
    · refine lv_iload_n X.hx X.hb dX2_bill_19 rfl (lv_at hl 0 rfl) ?_
      refine lv_aload_n X.hx X.hb dX2_bill_20 rfl (lv_at hl 1 rfl) ?_
      refine g_get X hR793 hm rfl in_X2 2 (by decide) q1297 (fun _ h => h) rfl dX2_bill_21 ?_
      refine lv_iload_n X.hx X.hb dX2_bill_24 rfl (lv_at hl 2 rfl) ?_
      refine g_iald (v := σ.2 1 i) X hR793 hr1 (vp_in_nI (show i < 4 by omega) (by decide)) (by rw [nI_clamp (by omega)]) dX2_bill_25 ?_
      refine lv_isub X.hx X.hb dX2_bill_26 ?_
      refine lv_istore_n (lv' := [(3, .int ((SUM (rtA σ (nI i).toNatClampNeg (σ.2 12 0)) 365 / 365) - (σ.2 1 i))), (2, .int (SUM (rtA σ (nI i).toNatClampNeg (σ.2 12 0)) 365 / 365)), (0, .ref m), (1, .int (nI i))]) X.hx X.hb dX2_bill_27 rfl hl (by decide) rfl (fun ls hl => ?_)
      refine lv_aload_n X.hx X.hb dX2_bill_28 rfl (lv_at hl 2 rfl) ?_
      refine g_get X hR793 hm rfl in_X2 2 (by decide) q1297 (fun _ h => h) rfl dX2_bill_29 ?_
      refine lv_iload_n X.hx X.hb dX2_bill_32 rfl (lv_at hl 3 rfl) ?_
      refine lv_iload_n X.hx X.hb dX2_bill_33 rfl (lv_at hl 1 rfl) ?_
      refine g_iast X hR793 hS794 hr1 (Nat.le_of_ble_eq_true rfl) (vp_in_nI (show i < 4 by omega) (by decide)) dX2_bill_34 (fun H locs hR797 hS798 => ?_)
      obtain ⟨G799, hG799⟩ : ∃ z : GH, z = gu G796 (B 1) ((31, 1), .inl (Γ.2 1, 4, .inl (upd (σ.2 1) ((nI i).toNatClampNeg) (SUM (rtA σ (nI i).toNatClampNeg (σ.2 12 0)) 365 / 365)))) := ⟨_, rfl⟩
      have hR797 : Rep Γ G799 H := by rw [hG799]; exact hR797
      have f800 : G799 m = some ((30, 0), .inr (1, [.int (nI (σ.1 0)), .ref (B 0), .ref (B 1), .int (σ.2 12 0), .int (nI (σ.1 1)), .ref (B 2), .ref (B 3), .ref (B 4), .int (nI (σ.1 2)), .ref (B 5), .ref (B 6), .ref (B 7), .ref (B 8), .ref (B 9), .ref (B 10), .ref (B 11), .ref (B 12), .ref (B 13), .ref (B 14), .ref (B 15), .int 0])) := by rw [hG799]; exact gu_t hm hr1 (tne rfl)
      have f801 : G799 (B 1) = some ((31, 1), .inl (Γ.2 1, 4, .inl (upd (σ.2 1) ((nI i).toNatClampNeg) (SUM (rtA σ (nI i).toNatClampNeg (σ.2 12 0)) 365 / 365)))) := by rw [hG799]; exact gu_s _ _ _
      have hM802 := hMA.row (G1 := G799) (r := 1) (g := va_up (σ.2 1) i (SUM (rtA σ (nI i).toNatClampNeg (σ.2 12 0)) 365 / 365)) (by decide) (by rw [hG799, updn (show i < 2 ^ 31 by omega)]; rfl)
      refine lv_iload_n X.hx X.hb dX2_bill_35 rfl (lv_at hl 0 rfl) ?_
      exact g_iret X hr hlk hR797 hS798 (⟨Or.inl ⟨by rw [kP, if_neg hpk.1], by rw [hic], by rw [hic] at hM802 ⊢; exact hM802.to (tauB σ i (SUM (rtA σ i (σ.2 12 0)) 365 / 365)) rfl rfl rfl rfl (fun r hr => by rcases c12 hr with rfl | rfl | rfl | rfl | rfl | rfl | rfl | rfl | rfl | rfl | rfl | rfl <;> rfl)⟩, (gK.tr hga (gK.pt hG799 hr1 (by show 30 ≤ 31 ∧ 31 < 40; decide)))⟩) (by (try dsimp only [RM]); omega) (by (try dsimp only [RM]); omega) dX2_bill_36
    · exact absurd (by decide) c14
  · have hbp : bdP (nI (σ.1 0)) p := Classical.not_not.mp (fun h9 => hk0 (by rw [kV, if_neg (or_no h9 c03), if_neg (or_no c0d htd)]))
    have hkv : kV σ p 0 0 (σ.2 12 0) = 1 := by rw [kV, if_pos (Or.inl hbp)]
    rw [hkv] at hMA
    have hm : G796 m = some (MOc (nI (σ.1 0)) (σ.2 12 0) (nI (σ.1 1)) (nI (σ.1 2)) 1 B) := hMA.1
    have hr1 : G796 (B 1) = some ((31, 1), .inl (Γ.2 1, 4, .inl (σ.2 1))) := hMA.2.1 1 (by decide)
    refine lv_istore_n (lv' := [(2, .int u9), (0, .ref m), (1, .int p)]) X.hx X.hb dX2_bill_9 rfl hl (by decide) rfl (fun ls hl => ?_)
    refine lv_aload_n X.hx X.hb dX2_bill_10 rfl (lv_at hl 1 rfl) ?_
    refine g_get X hR793 hm rfl in_X2 20 (by decide) q1315 (fun _ h => h) rfl dX2_bill_11 ?_
    refine lv_if_le (tgt := 19) X.hx X.hb dX2_bill_14 (by decide) (fun c14 => ?_) (fun c14 => ?_)
    · exact absurd c14 (by decide)
    · refine lv_iconst (v := 0) X.hx X.hb dX2_bill_17 (by decide) ?_
      exact g_iret X hr hlk hR793 hS794 (⟨Or.inr ⟨by rw [kP, if_pos hbp]; decide, ⟨_, rfl⟩, by rw [kP, if_pos hbp]; exact hMA⟩, hga⟩) (by (try dsimp only [RM]); omega) (by (try dsimp only [RM]); omega) dX2_bill_18

