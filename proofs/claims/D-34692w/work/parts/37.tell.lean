set_option maxRecDepth 100000
/-! the component: changes told; its making -/
theorem kv_new {fr : Int32} {n : Nat} (hf : rg fr 0 364) (hn : n ≤ 60) : (100 * fr + nI n).toInt = 100 * fr.toInt + n := by
  obtain ⟨h8, h9⟩ := hf
  have e1 : (nI n).toInt = n := nI_toInt (by omega)
  have e2 : (100 : Int32).toInt = 100 := rfl
  rw [Int32.toInt_add, Int32.toInt_mul, e1, e2]
  rw [Int.bmod_eq_of_le (by rw [Int.bmod_eq_of_le (by omega) (by omega)]; omega) (by rw [Int.bmod_eq_of_le (by omega) (by omega)]; omega), Int.bmod_eq_of_le (by omega) (by omega)]
theorem kvk_new {σ : MS} {p kd wh fr nu : Int32} : kvk (tauT σ p kd wh fr nu) (σ.1 2) = 100 * fr + nI (σ.1 2) := by
  show 100 * va_up (σ.2 8) (σ.1 2) fr (σ.1 2) + nI (σ.1 2) = 100 * fr + nI (σ.1 2)
  rw [va_up_self]
theorem tT_ne {i a j : Nat} {S : Nat → Prop} (h3 : a ≠ 4) (h4 : a ≠ 11) : ¬ tT i S (a, j) := by
  rintro (h | ⟨k, -, h⟩)
  · exact h3 (congrArg Prod.fst h)
  · exact h4 (congrArg Prod.fst h)
theorem tT_tx {i : Nat} {S : Nat → Prop} {t : Nat × Nat} (h : tT i S t) : t.1 < 30 := by
  rcases h with h | ⟨k, -, h⟩ <;> rw [show t = _ from h] <;> simp

set_option maxHeartbeats 4000000 in
theorem c_tell (l : Launch) (Γ : GP) (G : GH) (hst : l.stackTraces = false) {x : Nat} {σ : MS} {A : Nat → Nat → Nat} (hW : WF σ) (hX : XP Γ G x σ A) (hC : CN Γ G) {i ef : Nat} {kd wh fr nu : Int32} (hi : i < σ.1 0) (hEF : EF Γ G ef (σ.1 2) kd wh nu) : MetX l yX1_tell (ws_ yX1_tell cX1_tell 5 (some .int)) (RM 9 20 1000) Γ G [.ref x, .ref (A 2 i), .int fr, .ref ef] (fun v G1 => ¬ bad 0 364 fr ∧ nI (σ.1 2) < 60 ∧ v = some (.int (nI (σ.1 2))) ∧ (∃ B, XP Γ G1 x (tauT σ (nI i) kd wh fr nu) B) ∧ gK TX G G1) (fun E G1 => ((E = EIA ∧ bad 0 364 fr) ∨ (E = EIS ∧ ¬ bad 0 364 fr ∧ ¬ nI (σ.1 2) < 60)) ∧ XP Γ G1 x σ A ∧ gK TX G G1) 20 1000 := by
  refine gMetX (own := RX1) (by decide) rfl (Nat.le_of_ble_eq_true rfl) ?_
  intro pp ee ss mm below meth cc0 ls X hr hlk hin hnm hxt hR hS hl
  have hl : lv_has ls 5 [(0, .ref x), (1, .ref (A 2 i)), (2, .int fr), (3, .ref ef)] := hl
  have hX9 := hX
  obtain ⟨⟨rf, hx, hrf⟩, ⟨c0, c1, c2, hcap, hA0, hA1, hA2⟩, hXp, hXc, hXt⟩ := hX9
  have hn60 := hW.2.2.1
  have hn4 := hW.1
  obtain ⟨mo1, ea1, g1, hal1, -⟩ := id hA1
  refine lv_iload_n X.hx X.hb dX1_tell_0 rfl (lv_at hl 2 rfl) ?_
  refine lv_iconst (v := 0) X.hx X.hb dX1_tell_1 (by decide) ?_
  refine lv_sipush (v := 364) X.hx X.hb dX1_tell_2 (by decide) ?_
  refine gxS X hl.1 hR hS 3 [.int fr, .int 0, .int 364] [] (c_needNumber l Γ G hst) q162 q163 q36 q164 rfl rfl ⟨by decide +kernel, by decide +kernel, by decide +kernel⟩ ⟨by (try dsimp only [RM]); omega, by (try dsimp only [RM]); omega⟩ rfl rfl (Nat.le_of_ble_eq_true rfl) dX1_tell_5 ⟨by (try dsimp only [RM]); omega, by (try dsimp only [RM]); omega⟩ (fun E626 ce q9 G9 H locs hq9 hR9 hS9 hce hcv hcl => ?_) (fun v624 G625 H locs hq621 hR622 hS623 => ?_)
  · obtain ⟨rfl, hbd, rfl⟩ := hq9
    exact g_out X hlk hxt hR9 hS9 hce hcv hcl (⟨Or.inl ⟨rfl, hbd⟩, hX, gK.rf⟩) (by (try dsimp only [RM]); omega) (by (try dsimp only [RM]); omega)
  · obtain ⟨rfl, hr0, hr1, rfl⟩ := hq621
    refine lv_aload_n X.hx X.hb dX1_tell_8 rfl (lv_at hl 0 rfl) ?_
    refine g_get X hR622 hx rfl in_X1 1 (by decide) q119 (fun _ h => h) rfl dX1_tell_9 ?_
    refine gcF X hl.1 hR622 hS623 0 [] [] (c_sizeA l Γ G hA1) hal1 rfl kf1 q144 q148 q150 q39 q152 rfl rfl ⟨by decide +kernel, by decide +kernel, by decide +kernel⟩ ⟨by (try dsimp only [RM]); omega, by (try dsimp only [RM]); omega⟩ rfl rfl (Nat.le_of_ble_eq_true rfl) dX1_tell_12 ⟨by (try dsimp only [RM]); omega, by (try dsimp only [RM]); omega⟩ (fun v630 G631 H locs hq627 hR628 hS629 => ?_)
    obtain ⟨rfl, rfl⟩ := hq627
    refine lv_bipush (v := 60) X.hx X.hb dX1_tell_17 (by decide) ?_
    refine lv_icmp_ge (tgt := 26) X.hx X.hb dX1_tell_19 (by decide) (fun c19 => ?_) (fun c19 => ?_)
    · refine lv_iconst (v := 0) X.hx X.hb dX1_tell_26 (by decide) ?_
      refine gxS X hl.1 hR628 hS629 1 [.int 0] [] (c_needState l Γ G hst) q230 q231 q36 q232 rfl rfl ⟨by decide +kernel, by decide +kernel, by decide +kernel⟩ ⟨by (try dsimp only [RM]); omega, by (try dsimp only [RM]); omega⟩ rfl rfl (Nat.le_of_ble_eq_true rfl) dX1_tell_27 ⟨by (try dsimp only [RM]); omega, by (try dsimp only [RM]); omega⟩ (fun E637 ce q9 G9 H locs hq9 hR9 hS9 hce hcv hcl => ?_) (fun v635 G636 H locs hq632 hR633 hS634 => ?_)
      · obtain ⟨rfl, hbd, rfl⟩ := hq9
        exact g_out X hlk hxt hR9 hS9 hce hcv hcl (⟨Or.inr ⟨rfl, nbad hr0 hr1, Int32.not_lt.mpr c19⟩, hX, gK.rf⟩) (by (try dsimp only [RM]); omega) (by (try dsimp only [RM]); omega)
      · obtain ⟨rfl, hns, rfl⟩ := hq632
        exact absurd rfl hns
    · refine lv_iconst (v := 1) X.hx X.hb dX1_tell_22 (by decide) ?_
      refine lv_goto (tgt := 27) X.hx X.hb dX1_tell_23 (by decide) ?_
      refine gxS X hl.1 hR628 hS629 1 [.int 1] [] (c_needState l Γ G hst) q230 q231 q36 q232 rfl rfl ⟨by decide +kernel, by decide +kernel, by decide +kernel⟩ ⟨by (try dsimp only [RM]); omega, by (try dsimp only [RM]); omega⟩ rfl rfl (Nat.le_of_ble_eq_true rfl) dX1_tell_27 ⟨by (try dsimp only [RM]); omega, by (try dsimp only [RM]); omega⟩ (fun E643 ce q9 G9 H locs hq9 hR9 hS9 hce hcv hcl => ?_) (fun v641 G642 H locs hq638 hR639 hS640 => ?_)
      · obtain ⟨rfl, hbd, rfl⟩ := hq9
        exact g_out X hlk hxt hR9 hS9 hce hcv hcl (absurd hbd (by decide)) (by (try dsimp only [RM]); omega) (by (try dsimp only [RM]); omega)
      · obtain ⟨rfl, hns, rfl⟩ := hq638
        refine g_new (ci := 4) X hR639 hS640 (10, σ.1 2) (C := RX5) (T := TX5) (N := 6) rfl in_X5 tyX5 tyX5_ok q500 q501 q60 (fs := [.int 0, .null, .int 0, .int 0, .null, .int 0]) (fun j hj => by rcases (show j = 0 ∨ j = 1 ∨ j = 2 ∨ j = 3 ∨ j = 4 ∨ j = 5 by omega) with rfl | rfl | rfl | rfl | rfl | rfl <;> rfl) (by (try dsimp only [RM]); omega) (by (try dsimp only [RM]); omega) dX1_tell_30 (fun q644 H hq646 hR645 hS647 => ?_)
        obtain ⟨G648, hG648⟩ : ∃ z : GH, z = gu G q644 ((10, σ.1 2), .inr (4, [.int 0, .null, .int 0, .int 0, .null, .int 0])) := ⟨_, rfl⟩
        have hR645 : Rep Γ G648 H := by rw [hG648]; exact hR645
        have f649 : G648 x = some ((0, 0), .inr (0, [.ref (A 0 0), .ref (A 0 1), .ref (A 0 2), .int (σ.2 12 0), .ref (A 1 0)])) := by rw [hG648]; exact gu_f hx hq646
        have f650 : G648 (A 0 1) = some ((1, 1), .inr (6, [.int mo1, .ref ea1, .int (nI (σ.1 2))])) := by rw [hG648]; exact gu_f hal1 hq646
        have f651 : G648 q644 = some ((10, σ.1 2), .inr (4, [.int 0, .null, .int 0, .int 0, .null, .int 0])) := by rw [hG648]; exact gu_s _ _ _
        refine lv_dup X.hx X.hb dX1_tell_33 rfl ?_
        refine lv_aload_n X.hx X.hb dX1_tell_34 rfl (lv_at hl 0 rfl) ?_
        refine g_get X hR645 f649 rfl in_X1 1 (by decide) q119 (fun _ h => h) rfl dX1_tell_35 ?_
        have hgq : gK (fun _ => False) G G648 := gK.nw hG648 hq646
        have hX1 := hX.kn hgq
        obtain ⟨⟨_, -⟩, ⟨_, _, _, -, -, hB1, -⟩, -⟩ := id hX1
        refine gcF X hl.1 hR645 hS647 0 [] [.ref q644, .ref q644] (c_sizeA l Γ G648 hB1) f650 rfl kf1 q144 q148 q150 q39 q152 rfl rfl ⟨by decide +kernel, by decide +kernel, by decide +kernel⟩ ⟨by (try dsimp only [RM]); omega, by (try dsimp only [RM]); omega⟩ rfl rfl (Nat.le_of_ble_eq_true rfl) dX1_tell_38 ⟨by (try dsimp only [RM]); omega, by (try dsimp only [RM]); omega⟩ (fun v655 G656 H locs hq652 hR653 hS654 => ?_)
        obtain ⟨rfl, rfl⟩ := hq652
        refine lv_aload_n X.hx X.hb dX1_tell_43 rfl (lv_at hl 1 rfl) ?_
        refine lv_iload_n X.hx X.hb dX1_tell_44 rfl (lv_at hl 2 rfl) ?_
        refine lv_aload_n X.hx X.hb dX1_tell_45 rfl (lv_at hl 0 rfl) ?_
        refine g_get X hR653 f649 rfl in_X1 3 (by decide) q121 (fun _ h => h) rfl dX1_tell_46 ?_
        refine lv_aload_n X.hx X.hb dX1_tell_49 rfl (lv_at hl 3 rfl) ?_
        refine gcI X hl.1 hR653 hS654 5 [.int (nI (σ.1 2)), .ref (A 2 i), .int fr, .int (σ.2 12 0), .ref ef] [.ref q644] (c_X5i l Γ G648 f651) q502 q503 q60 q504 rfl rfl rfl ⟨by decide +kernel, by decide +kernel, by decide +kernel⟩ ⟨by (try dsimp only [RM]); omega, by (try dsimp only [RM]); omega⟩ rfl rfl (Nat.le_of_ble_eq_true rfl) dX1_tell_50 ⟨by (try dsimp only [RM]); omega, by (try dsimp only [RM]); omega⟩ (fun v660 G661 H locs hq657 hR658 hS659 => ?_)
        obtain ⟨rfl, hGc⟩ := hq657
        have hgc : gK (fun t => t = (10, σ.1 2)) _ G661 := gK.pt hGc f651 rfl
        have nej : ∀ a i : Nat, (a ≠ 10 ∨ i < σ.1 2) → ¬ ((a, i) : Nat × Nat) = (10, σ.1 2) := fun a i h e => h.elim (fun h => h (congrArg Prod.fst e)) (fun h => by have := congrArg Prod.snd e; dsimp only at this; omega)
        have hX2 := hX1.kp hgc (nej _ _ (Or.inl (by decide))) (nej _ _ (Or.inl (by decide))) (fun i _ => nej _ _ (Or.inl (by decide))) (fun i _ => nej _ _ (Or.inl (by decide))) (nej _ _ (Or.inl (by decide))) (fun i hi => ⟨nej _ _ (Or.inl (by decide)), nej _ _ (Or.inl (by decide)), nej _ _ (Or.inl (by decide))⟩) (fun k hk => ⟨nej _ _ (Or.inr hk), nej _ _ (Or.inl (by decide)), nej _ _ (Or.inl (by decide))⟩) (fun t ht => by rw [show t = _ from ht]; exact ⟨by simp, by simp⟩) (fun j hj => nej _ _ (Or.inl (by decide)))
        have hcb : G661 q644 = some ((10, σ.1 2), .inr (4, [.int (nI (σ.1 2)), .ref (A 2 i), .int fr, .int (σ.2 12 0), .ref ef, .int 2147483647])) := by rw [hGc]; exact gu_s _ _ _
        obtain ⟨⟨_, hx, -⟩, ⟨d0, d1, d2, hdc, hB0, hB1, hB2⟩, hXp2, hXc2, -⟩ := id hX2
        obtain ⟨mo9, ea9, g9, hal9, -⟩ := id hB1
        have hC2 := (hC.keep hgq (fun _ h => h.elim)).keep hgc (fun t ht => by rw [show t = _ from ht]; show 10 < 50; decide)
        have hEF2 := (hEF.keep hgq id).keep hgc (nej _ _ (Or.inl (by decide)))
        refine lv_astore (lv' := [(4, .ref q644), (0, .ref x), (1, .ref (A 2 i)), (2, .int fr), (3, .ref ef)]) X.hx X.hb dX1_tell_53 hl (by decide) rfl (fun ls hl => ?_)
        refine lv_aload_n X.hx X.hb dX1_tell_55 rfl (lv_at hl 1 rfl) ?_
        refine g_get X hR658 hx rfl in_X1 1 (by decide) q119 (fun _ h => h) rfl dX1_tell_56 ?_
        refine lv_aload X.hx X.hb dX1_tell_59 (lv_at hl 0 rfl) ?_
        obtain ⟨hcc1, hcc2⟩ := hB1.cap2
        obtain ⟨hz1, hz2, hz3, hz4⟩ := aS_bd hcc1 hcc2
        have hadd := c_add l Γ G661 hB1 (by omega) (fun j hj y hy => by cases hy; exact ⟨_, 4, _, _, (hXc2 j hj).1, rfl, kq1519⟩) hC2.q5 hcb (ci := 4) rfl kq1519 (tne rfl)
        refine gcF X hl.1 hR658 hS659 1 [.ref q644] [] (hadd) hal9 rfl kf2 q305 q308 q310 q39 q312 rfl rfl ⟨by decide +kernel, by decide +kernel, by decide +kernel⟩ ⟨by (try dsimp only [RM]); omega, by (try dsimp only [RM]); omega⟩ rfl rfl (Nat.le_of_ble_eq_true rfl) dX1_tell_61 ⟨by (try dsimp only [RM]); omega, by (try dsimp only [RM]); omega⟩ (fun v665 G666 H locs hq662 hR663 hS664 => ?_)
        obtain ⟨rfl, hga, hAL9⟩ := hq662
        have hcb3 := hga _ _ hcb (tA_ne1 (by decide) (by decide))
        obtain ⟨hp2, vw, hTM2, hvw2⟩ := hXp2 i hi
        have hp3 := hga _ _ hp2 (tA_ne1 (by decide) (by decide))
        have hTM3 := hTM2.keep hga (tA_ne1 (by decide) (by decide)) (fun k _ => tA_ne1 (by decide) (by decide)) tA_b
        have hC3 := hC2.keep hga tA_lt
        refine lv_pop X.hx X.hb dX1_tell_66 rfl ?_
        refine lv_aload_n X.hx X.hb dX1_tell_67 rfl (lv_at hl 2 rfl) ?_
        refine g_getN X hR663 hp3 rfl in_X3 2 (by decide) kq296 (fun _ h => h) rfl dX1_tell_68 ?_
        refine lv_bipush (v := 100) X.hx X.hb dX1_tell_71 (by decide) ?_
        refine lv_iload_n X.hx X.hb dX1_tell_73 rfl (lv_at hl 3 rfl) ?_
        refine lv_imul X.hx X.hb dX1_tell_74 ?_
        refine lv_aload X.hx X.hb dX1_tell_75 (lv_at hl 0 rfl) ?_
        refine g_getN X hR663 hcb3 rfl in_X5 0 (by decide) kq508 (fun _ h => h) rfl dX1_tell_77 ?_
        refine lv_iadd X.hx X.hb dX1_tell_80 ?_
        refine gcS X hl.1 hR663 hS664 1 [.int ((100 * fr) + (nI (σ.1 2)))] [.ref (A 3 i)] (c_valueOf (k := 1000) l Γ G666 hC3) q532 q533 q62 q534 rfl rfl ⟨by decide +kernel, by decide +kernel, by decide +kernel⟩ ⟨by (try dsimp only [RM]); omega, by (try dsimp only [RM]); omega⟩ rfl rfl (Nat.le_of_ble_eq_true rfl) dX1_tell_81 ⟨by (try dsimp only [RM]); omega, by (try dsimp only [RM]); omega⟩ (fun v670 G671 H locs hq667 hR668 hS669 => ?_)
        have hvo := hq667
        have hgo := VO.gk (S := fun _ => False) hvo
        obtain ⟨kb, rfl, -, hor⟩ := hvo
        have hkb := VO.ibk hor
        have hcb4 := hgo _ _ hcb3 id
        have hTM4 := hTM3.keep hgo id (fun _ _ => id) (fun _ h => h.elim)
        have hTMc : TM G671 (A 3 i) i vw (Sp σ i) (A 5) (va_up (A 6) (σ.1 2) kb) (va_up (A 4) (σ.1 2) q644) (kvk (tauT σ (nI i) kd wh fr nu)) := hTM4.cong (fun _ _ => rfl) (fun k hS => va_up_ne _ _ (by have := hS.1; omega)) (fun k hS => va_up_ne _ _ (by have := hS.1; omega)) (fun k hS => kvk_add hS.1)
        have hfr := nb_rg (nbad hr0 hr1)
        have hkv := kv_new hfr hn60
        have hput := c_put (n := σ.1 2) l Γ G671 hTMc (fun h => Nat.lt_irrefl _ h.1) (by rw [va_up_self, kvk_new]; exact hkb) (by rw [kvk_new, hkv]; have := hfr.1; have e0 : (0 : Int32).toInt = 0 := rfl; omega) (fun k hS h9 => by
          have h5 := kv_int hW hS.1
          rw [kvk_add hS.1, kvk_new] at h9
          have h6 := congrArg Int32.toInt h9
          rw [h5, hkv] at h6
          have h7 := hS.1
          omega)
        rw [show va_up (A 6) (σ.1 2) kb (σ.1 2) = kb from va_up_self _ _ _, show va_up (A 4) (σ.1 2) q644 (σ.1 2) = q644 from va_up_self _ _ _] at hput
        obtain ⟨_, _, _, _, _, _, root9, sz9, mo8, -, -, hM9, -, -⟩ := id hTMc
        refine lv_aload X.hx X.hb dX1_tell_84 (lv_at hl 0 rfl) ?_
        refine gcV X hl.1 hR668 hS669 2 [.ref kb, .ref q644] [] (hput) hM9 rfl q552 q553 q554 q48 q555 rfl rfl ⟨rfl, by decide +kernel, by decide +kernel, by decide +kernel⟩ ⟨by (try dsimp only [RM]); omega, by (try dsimp only [RM]); omega⟩ rfl rfl (Nat.le_of_ble_eq_true rfl) dX1_tell_86 ⟨by (try dsimp only [RM]); omega, by (try dsimp only [RM]); omega⟩ (fun v675 G676 H locs hq672 hR673 hS674 => ?_)
        obtain ⟨rfl, q5, hq5, hgt, hTMn⟩ := hq672
        have hcb5 := hgt _ _ hcb4 (tT_ne (by decide) (by decide))
        have hgl : gK (tTl σ i) _ G676 := gK.tr (gK.mono hga (fun t h => Or.inl h)) (gK.tr (gK.mono hgo (fun _ h => h.elim)) (gK.mono hgt (fun t h => Or.inr h)))
        have hALf := (hAL9.keep hgo id id id).keep hgt (tT_ne (by decide) (by decide)) (tT_ne (by decide) (by decide)) (tT_ne (by decide) (by decide))
        have hEFf := hEF2.keep hgl (tTl_ne (by decide) (by decide) (by decide) (by decide))
        have hXf := XP.addc (kd := kd) (wh := wh) (fr := fr) (nu := nu) hW hX2 hi hgl hALf (by omega) hTMn (fun v hv => hgl _ _ (hvw2 v hv) (tTl_ne (by decide) (by decide) (by decide) (by decide))) hcb5 hEFf
        have hgf : gK TX G G676 := gK.tr (gK.mono hgq (fun _ h => h.elim)) (gK.tr (gK.mono hgc (fun t ht => by rw [show t = _ from ht]; show 10 < 30; decide)) (gK.tr (TX_tA hga) (gK.tr (gK.mono hgo (fun _ h => h.elim)) (gK.mono hgt (fun t h => tT_tx h)))))
        refine lv_pop X.hx X.hb dX1_tell_89 rfl ?_
        refine lv_aload X.hx X.hb dX1_tell_90 (lv_at hl 0 rfl) ?_
        refine g_getN X hR673 hcb5 rfl in_X5 0 (by decide) kq508 (fun _ h => h) rfl dX1_tell_92 ?_
        refine vx_ret ?_
        exact g_iret X hr hlk hR673 hS674 (⟨nbad hr0 hr1, Int32.not_le.mp c19, rfl, ⟨_, hXf⟩, hgf⟩) (by (try dsimp only [RM]); omega) (by (try dsimp only [RM]); omega) dX1_tell_95

set_option maxHeartbeats 4000000 in
theorem c_change (l : Launch) (Γ : GP) (G : GH) (hst : l.stackTraces = false) {x : Nat} {σ : MS} {A : Nat → Nat → Nat} (hW : WF σ) (hX : XP Γ G x σ A) {p f fr v : Int32} (hC : CN Γ G) : MetX l yX1_change (ws_ yX1_change cX1_change 6 (some .int)) (RM 12 4000 12000) Γ G [.ref x, .int p, .int f, .int fr, .int v] (fun u G1 => kT σ p f fr 0 20 v = 0 ∧ u = some (.int (nI (σ.1 2))) ∧ (∃ B, XP Γ G1 x (tauT σ p 0 f fr v) B) ∧ gK TX G G1) (fun E G1 => ((E = EIO ∧ kT σ p f fr 0 20 v = 1) ∨ (E = EIA ∧ kT σ p f fr 0 20 v = 2) ∨ (E = EIS ∧ kT σ p f fr 0 20 v = 3)) ∧ XP Γ G1 x σ A ∧ gK TX G G1) 4000 12000 := by
  refine gMetX (own := RX1) (by decide) rfl (Nat.le_of_ble_eq_true rfl) ?_
  intro pp ee ss mm below meth cc0 ls X hr hlk hin hnm hxt hR hS hl
  have hl : lv_has ls 6 [(0, .ref x), (1, .int p), (2, .int f), (3, .int fr), (4, .int v)] := hl
  have hX9 := hX
  obtain ⟨⟨rf, hx, hrf⟩, ⟨c0, c1, c2, hcap, hA0, hA1, hA2⟩, hXp, hXc, hXt⟩ := hX9
  refine lv_aload_n X.hx X.hb dX1_change_0 rfl (lv_at hl 0 rfl) ?_
  refine lv_iload_n X.hx X.hb dX1_change_1 rfl (lv_at hl 1 rfl) ?_
  refine gxV X hl.1 hR hS 1 [.int p] [] (c_policyAt l Γ G hst hW hX) hx rfl q471 q473 qs4 q36 q474 rfl rfl ⟨rfl, by decide +kernel, by decide +kernel, by decide +kernel⟩ ⟨by (try dsimp only [RM]); omega, by (try dsimp only [RM]); omega⟩ rfl rfl (Nat.le_of_ble_eq_true rfl) dX1_change_2 ⟨by (try dsimp only [RM]); omega, by (try dsimp only [RM]); omega⟩ (fun E682 ce q9 G9 H locs hq9 hR9 hS9 hce hcv hcl => ?_) (fun v680 G681 H locs hq677 hR678 hS679 => ?_)
  · obtain ⟨rfl, hbd, rfl⟩ := hq9
    exact g_out X hlk hxt hR9 hS9 hce hcv hcl (⟨Or.inl ⟨rfl, by rw [kT, if_pos (Or.inl hbd)]⟩, hX, gK.rf⟩) (by (try dsimp only [RM]); omega) (by (try dsimp only [RM]); omega)
  · obtain ⟨i, hi, rfl, rfl, rfl⟩ := hq677
    have hi31 : i < 2 ^ 31 := Nat.lt_of_lt_of_le hi (Nat.le_trans hW.1 (by decide))
    have hnp : ¬ bdP (nI (σ.1 0)) (nI i) := nbdP (nI_pos hi31) (nI_lt hi (Nat.lt_of_le_of_lt hW.1 (by decide)))
    have hic := nI_clamp hi31
    have hpol := (hX.2.2.1 i hi).1
    refine lv_astore (lv' := [(5, .ref (A 2 i)), (0, .ref x), (1, .int (nI i)), (2, .int f), (3, .int fr), (4, .int v)]) X.hx X.hb dX1_change_5 hl (by decide) rfl (fun ls hl => ?_)
    refine lv_iload_n X.hx X.hb dX1_change_7 rfl (lv_at hl 3 rfl) ?_
    refine lv_iconst (v := 3) X.hx X.hb dX1_change_8 (by decide) ?_
    refine gxS X hl.1 hR678 hS679 2 [.int f, .int 3] [] (c_needPlace l Γ G hst) q420 q421 q36 q422 rfl rfl ⟨by decide +kernel, by decide +kernel, by decide +kernel⟩ ⟨by (try dsimp only [RM]); omega, by (try dsimp only [RM]); omega⟩ rfl rfl (Nat.le_of_ble_eq_true rfl) dX1_change_9 ⟨by (try dsimp only [RM]); omega, by (try dsimp only [RM]); omega⟩ (fun E688 ce q9 G9 H locs hq9 hR9 hS9 hce hcv hcl => ?_) (fun v686 G687 H locs hq683 hR684 hS685 => ?_)
    · obtain ⟨rfl, hbd, rfl⟩ := hq9
      exact g_out X hlk hxt hR9 hS9 hce hcv hcl (⟨Or.inl ⟨rfl, by rw [kT, if_pos (Or.inr hbd)]⟩, hX, gK.rf⟩) (by (try dsimp only [RM]); omega) (by (try dsimp only [RM]); omega)
    · obtain ⟨rfl, hf0, hf1, rfl⟩ := hq683
      refine lv_iload X.hx X.hb dX1_change_12 (lv_at hl 5 rfl) ?_
      refine lv_iconst (v := 0) X.hx X.hb dX1_change_14 (by decide) ?_
      refine lv_bipush (v := 20) X.hx X.hb dX1_change_15 (by decide) ?_
      refine gxS X hl.1 hR684 hS685 3 [.int v, .int 0, .int 20] [] (c_needNumber l Γ G hst) q162 q163 q36 q164 rfl rfl ⟨by decide +kernel, by decide +kernel, by decide +kernel⟩ ⟨by (try dsimp only [RM]); omega, by (try dsimp only [RM]); omega⟩ rfl rfl (Nat.le_of_ble_eq_true rfl) dX1_change_17 ⟨by (try dsimp only [RM]); omega, by (try dsimp only [RM]); omega⟩ (fun E694 ce q9 G9 H locs hq9 hR9 hS9 hce hcv hcl => ?_) (fun v692 G693 H locs hq689 hR690 hS691 => ?_)
      · obtain ⟨rfl, hbd, rfl⟩ := hq9
        exact g_out X hlk hxt hR9 hS9 hce hcv hcl (⟨Or.inr (Or.inl ⟨rfl, by rw [kT, if_neg (or_no hnp (nbdP hf0 hf1)), if_pos (Or.inl hbd)]⟩), hX, gK.rf⟩) (by (try dsimp only [RM]); omega) (by (try dsimp only [RM]); omega)
      · obtain ⟨rfl, hv0, hv1, rfl⟩ := hq689
        refine lv_aload_n X.hx X.hb dX1_change_20 rfl (lv_at hl 1 rfl) ?_
        refine lv_aload X.hx X.hb dX1_change_21 (lv_at hl 0 rfl) ?_
        refine lv_iload_n X.hx X.hb dX1_change_23 rfl (lv_at hl 4 rfl) ?_
        refine lv_iload_n X.hx X.hb dX1_change_24 rfl (lv_at hl 3 rfl) ?_
        refine lv_iload X.hx X.hb dX1_change_25 (lv_at hl 5 rfl) ?_
        refine g_lmk X hl.1 hR690 hS691 (12, σ.1 2) hnm X.lk.1 rfl rfl lm_ty1 (by simp [Value.category]; show _ ≤ 4000 + 64 * 12; omega) (by (try dsimp only [RM]); omega) (by (try dsimp only [RM]); omega) dX1_change_27 (fun q695 H hq696 hR697 hS698 => ?_)
        obtain ⟨G699, hG700⟩ : ∃ z : GH, z = gu G q695 ((12, σ.1 2), .inl (Γ.2 11, 2, .inl (fun j => if j = 0 then f else v))) := ⟨_, rfl⟩
        have hR697 : Rep Γ G699 H := by rw [hG700]; exact hR697
        have hgq : gK (fun _ => False) G G699 := gK.nw hG700 hq696
        have hX1 := hX.kn hgq
        have hC1 := hC.keep hgq (fun _ h => h.elim)
        have hEF : EF Γ G699 q695 (σ.1 2) 0 f v := Or.inl ⟨rfl, _, by rw [hG700]; exact gu_s _ _ _, rfl, rfl⟩
        obtain ⟨⟨_, hx, -⟩, -⟩ := id hX1
        refine gxV X hl.1 hR697 hS698 3 [.ref (A 2 i), .int fr, .ref q695] [] (c_tell l Γ G699 hst hW hX1 hC1 hi hEF) hx rfl q496 q498 qs5 q36 q499 rfl rfl ⟨rfl, by decide +kernel, by decide +kernel, by decide +kernel⟩ ⟨by (try dsimp only [RM]); omega, by (try dsimp only [RM]); omega⟩ rfl rfl (Nat.le_of_ble_eq_true rfl) dX1_change_32 ⟨by (try dsimp only [RM]); omega, by (try dsimp only [RM]); omega⟩ (fun E706 ce q9 G9 H locs hq9 hR9 hS9 hce hcv hcl => ?_) (fun v704 G705 H locs hq701 hR702 hS703 => ?_)
        · obtain ⟨hE, hX5, hg5⟩ := hq9
          exact g_out X hlk hxt hR9 hS9 hce hcv hcl (⟨hE.elim (fun h => Or.inr (Or.inl ⟨h.1, by rw [kT, if_neg (or_no hnp (nbdP hf0 hf1)), if_pos (Or.inr h.2)]⟩)) (fun h => Or.inr (Or.inr ⟨h.1, by rw [kT, if_neg (or_no hnp (nbdP hf0 hf1)), if_neg (or_no (nbad hv0 hv1) h.2.1), if_pos h.2.2]⟩)), hX5, gK.tr (gK.mono hgq (fun _ h => h.elim)) hg5⟩) (by (try dsimp only [RM]); omega) (by (try dsimp only [RM]); omega)
        · obtain ⟨hb5, hc5, rfl, hXf, hgf⟩ := hq701
          refine vx_ret ?_
          exact g_iret X hr hlk hR702 hS703 (⟨by rw [kT, if_neg (or_no hnp (nbdP hf0 hf1)), if_neg (or_no (nbad hv0 hv1) hb5), if_neg (fun h9 => h9 hc5)], rfl, hXf, gK.tr (gK.mono hgq (fun _ h => h.elim)) hgf⟩) (by (try dsimp only [RM]); omega) (by (try dsimp only [RM]); omega) dX1_change_35

set_option maxHeartbeats 4000000 in
theorem c_addn (l : Launch) (Γ : GP) (G : GH) (hst : l.stackTraces = false) {x : Nat} {σ : MS} {A : Nat → Nat → Nat} (hW : WF σ) (hX : XP Γ G x σ A) {p f fr v : Int32} (hC : CN Γ G) : MetX l yX1_add (ws_ yX1_add cX1_add 6 (some .int)) (RM 12 4000 12000) Γ G [.ref x, .int p, .int f, .int fr, .int v] (fun u G1 => kT σ p f fr (-20) 20 v = 0 ∧ u = some (.int (nI (σ.1 2))) ∧ (∃ B, XP Γ G1 x (tauT σ p 1 f fr v) B) ∧ gK TX G G1) (fun E G1 => ((E = EIO ∧ kT σ p f fr (-20) 20 v = 1) ∨ (E = EIA ∧ kT σ p f fr (-20) 20 v = 2) ∨ (E = EIS ∧ kT σ p f fr (-20) 20 v = 3)) ∧ XP Γ G1 x σ A ∧ gK TX G G1) 4000 12000 := by
  refine gMetX (own := RX1) (by decide) rfl (Nat.le_of_ble_eq_true rfl) ?_
  intro pp ee ss mm below meth cc0 ls X hr hlk hin hnm hxt hR hS hl
  have hl : lv_has ls 6 [(0, .ref x), (1, .int p), (2, .int f), (3, .int fr), (4, .int v)] := hl
  have hX9 := hX
  obtain ⟨⟨rf, hx, hrf⟩, ⟨c0, c1, c2, hcap, hA0, hA1, hA2⟩, hXp, hXc, hXt⟩ := hX9
  refine lv_aload_n X.hx X.hb dX1_add_0 rfl (lv_at hl 0 rfl) ?_
  refine lv_iload_n X.hx X.hb dX1_add_1 rfl (lv_at hl 1 rfl) ?_
  refine gxV X hl.1 hR hS 1 [.int p] [] (c_policyAt l Γ G hst hW hX) hx rfl q471 q473 qs4 q36 q474 rfl rfl ⟨rfl, by decide +kernel, by decide +kernel, by decide +kernel⟩ ⟨by (try dsimp only [RM]); omega, by (try dsimp only [RM]); omega⟩ rfl rfl (Nat.le_of_ble_eq_true rfl) dX1_add_2 ⟨by (try dsimp only [RM]); omega, by (try dsimp only [RM]); omega⟩ (fun E712 ce q9 G9 H locs hq9 hR9 hS9 hce hcv hcl => ?_) (fun v710 G711 H locs hq707 hR708 hS709 => ?_)
  · obtain ⟨rfl, hbd, rfl⟩ := hq9
    exact g_out X hlk hxt hR9 hS9 hce hcv hcl (⟨Or.inl ⟨rfl, by rw [kT, if_pos (Or.inl hbd)]⟩, hX, gK.rf⟩) (by (try dsimp only [RM]); omega) (by (try dsimp only [RM]); omega)
  · obtain ⟨i, hi, rfl, rfl, rfl⟩ := hq707
    have hi31 : i < 2 ^ 31 := Nat.lt_of_lt_of_le hi (Nat.le_trans hW.1 (by decide))
    have hnp : ¬ bdP (nI (σ.1 0)) (nI i) := nbdP (nI_pos hi31) (nI_lt hi (Nat.lt_of_le_of_lt hW.1 (by decide)))
    have hic := nI_clamp hi31
    have hpol := (hX.2.2.1 i hi).1
    refine lv_astore (lv' := [(5, .ref (A 2 i)), (0, .ref x), (1, .int (nI i)), (2, .int f), (3, .int fr), (4, .int v)]) X.hx X.hb dX1_add_5 hl (by decide) rfl (fun ls hl => ?_)
    refine lv_iload_n X.hx X.hb dX1_add_7 rfl (lv_at hl 3 rfl) ?_
    refine lv_iconst (v := 3) X.hx X.hb dX1_add_8 (by decide) ?_
    refine gxS X hl.1 hR708 hS709 2 [.int f, .int 3] [] (c_needPlace l Γ G hst) q420 q421 q36 q422 rfl rfl ⟨by decide +kernel, by decide +kernel, by decide +kernel⟩ ⟨by (try dsimp only [RM]); omega, by (try dsimp only [RM]); omega⟩ rfl rfl (Nat.le_of_ble_eq_true rfl) dX1_add_9 ⟨by (try dsimp only [RM]); omega, by (try dsimp only [RM]); omega⟩ (fun E718 ce q9 G9 H locs hq9 hR9 hS9 hce hcv hcl => ?_) (fun v716 G717 H locs hq713 hR714 hS715 => ?_)
    · obtain ⟨rfl, hbd, rfl⟩ := hq9
      exact g_out X hlk hxt hR9 hS9 hce hcv hcl (⟨Or.inl ⟨rfl, by rw [kT, if_pos (Or.inr hbd)]⟩, hX, gK.rf⟩) (by (try dsimp only [RM]); omega) (by (try dsimp only [RM]); omega)
    · obtain ⟨rfl, hf0, hf1, rfl⟩ := hq713
      refine lv_iload X.hx X.hb dX1_add_12 (lv_at hl 5 rfl) ?_
      refine lv_bipush (v := (-20)) X.hx X.hb dX1_add_14 (by decide) ?_
      refine lv_bipush (v := 20) X.hx X.hb dX1_add_16 (by decide) ?_
      refine gxS X hl.1 hR714 hS715 3 [.int v, .int (-20), .int 20] [] (c_needNumber l Γ G hst) q162 q163 q36 q164 rfl rfl ⟨by decide +kernel, by decide +kernel, by decide +kernel⟩ ⟨by (try dsimp only [RM]); omega, by (try dsimp only [RM]); omega⟩ rfl rfl (Nat.le_of_ble_eq_true rfl) dX1_add_18 ⟨by (try dsimp only [RM]); omega, by (try dsimp only [RM]); omega⟩ (fun E724 ce q9 G9 H locs hq9 hR9 hS9 hce hcv hcl => ?_) (fun v722 G723 H locs hq719 hR720 hS721 => ?_)
      · obtain ⟨rfl, hbd, rfl⟩ := hq9
        exact g_out X hlk hxt hR9 hS9 hce hcv hcl (⟨Or.inr (Or.inl ⟨rfl, by rw [kT, if_neg (or_no hnp (nbdP hf0 hf1)), if_pos (Or.inl hbd)]⟩), hX, gK.rf⟩) (by (try dsimp only [RM]); omega) (by (try dsimp only [RM]); omega)
      · obtain ⟨rfl, hv0, hv1, rfl⟩ := hq719
        refine lv_aload_n X.hx X.hb dX1_add_21 rfl (lv_at hl 1 rfl) ?_
        refine lv_aload X.hx X.hb dX1_add_22 (lv_at hl 0 rfl) ?_
        refine lv_iload_n X.hx X.hb dX1_add_24 rfl (lv_at hl 4 rfl) ?_
        refine lv_iload_n X.hx X.hb dX1_add_25 rfl (lv_at hl 3 rfl) ?_
        refine lv_iload X.hx X.hb dX1_add_26 (lv_at hl 5 rfl) ?_
        refine g_lmk X hl.1 hR720 hS721 (12, σ.1 2) hnm X.lk.2.1 rfl rfl lm_ty2 (by simp [Value.category]; show _ ≤ 4000 + 64 * 12; omega) (by (try dsimp only [RM]); omega) (by (try dsimp only [RM]); omega) dX1_add_28 (fun q725 H hq726 hR727 hS728 => ?_)
        obtain ⟨G729, hG730⟩ : ∃ z : GH, z = gu G q725 ((12, σ.1 2), .inl (Γ.2 12, 2, .inl (fun j => if j = 0 then f else v))) := ⟨_, rfl⟩
        have hR727 : Rep Γ G729 H := by rw [hG730]; exact hR727
        have hgq : gK (fun _ => False) G G729 := gK.nw hG730 hq726
        have hX1 := hX.kn hgq
        have hC1 := hC.keep hgq (fun _ h => h.elim)
        have hEF : EF Γ G729 q725 (σ.1 2) 1 f v := Or.inr (Or.inl ⟨rfl, _, by rw [hG730]; exact gu_s _ _ _, rfl, rfl⟩)
        obtain ⟨⟨_, hx, -⟩, -⟩ := id hX1
        refine gxV X hl.1 hR727 hS728 3 [.ref (A 2 i), .int fr, .ref q725] [] (c_tell l Γ G729 hst hW hX1 hC1 hi hEF) hx rfl q496 q498 qs5 q36 q499 rfl rfl ⟨rfl, by decide +kernel, by decide +kernel, by decide +kernel⟩ ⟨by (try dsimp only [RM]); omega, by (try dsimp only [RM]); omega⟩ rfl rfl (Nat.le_of_ble_eq_true rfl) dX1_add_33 ⟨by (try dsimp only [RM]); omega, by (try dsimp only [RM]); omega⟩ (fun E736 ce q9 G9 H locs hq9 hR9 hS9 hce hcv hcl => ?_) (fun v734 G735 H locs hq731 hR732 hS733 => ?_)
        · obtain ⟨hE, hX5, hg5⟩ := hq9
          exact g_out X hlk hxt hR9 hS9 hce hcv hcl (⟨hE.elim (fun h => Or.inr (Or.inl ⟨h.1, by rw [kT, if_neg (or_no hnp (nbdP hf0 hf1)), if_pos (Or.inr h.2)]⟩)) (fun h => Or.inr (Or.inr ⟨h.1, by rw [kT, if_neg (or_no hnp (nbdP hf0 hf1)), if_neg (or_no (nbad hv0 hv1) h.2.1), if_pos h.2.2]⟩)), hX5, gK.tr (gK.mono hgq (fun _ h => h.elim)) hg5⟩) (by (try dsimp only [RM]); omega) (by (try dsimp only [RM]); omega)
        · obtain ⟨hb5, hc5, rfl, hXf, hgf⟩ := hq731
          refine vx_ret ?_
          exact g_iret X hr hlk hR732 hS733 (⟨by rw [kT, if_neg (or_no hnp (nbdP hf0 hf1)), if_neg (or_no (nbad hv0 hv1) hb5), if_neg (fun h9 => h9 hc5)], rfl, hXf, gK.tr (gK.mono hgq (fun _ h => h.elim)) hgf⟩) (by (try dsimp only [RM]); omega) (by (try dsimp only [RM]); omega) dX1_add_36

set_option maxHeartbeats 4000000 in
theorem c_cancel (l : Launch) (Γ : GP) (G : GH) (hst : l.stackTraces = false) {x : Nat} {σ : MS} {A : Nat → Nat → Nat} (hW : WF σ) (hX : XP Γ G x σ A) {p fr : Int32} (hC : CN Γ G) : MetX l yX1_cancel (ws_ yX1_cancel cX1_cancel 3 (some .int)) (RM 12 4000 12000) Γ G [.ref x, .int p, .int fr] (fun u G1 => kT σ p 0 fr 0 0 0 = 0 ∧ u = some (.int (nI (σ.1 2))) ∧ (∃ B, XP Γ G1 x (tauT σ p 2 0 fr 0) B) ∧ gK TX G G1) (fun E G1 => ((E = EIO ∧ kT σ p 0 fr 0 0 0 = 1) ∨ (E = EIA ∧ kT σ p 0 fr 0 0 0 = 2) ∨ (E = EIS ∧ kT σ p 0 fr 0 0 0 = 3)) ∧ XP Γ G1 x σ A ∧ gK TX G G1) 4000 12000 := by
  refine gMetX (own := RX1) (by decide) rfl (Nat.le_of_ble_eq_true rfl) ?_
  intro pp ee ss mm below meth cc0 ls X hr hlk hin hnm hxt hR hS hl
  have hl : lv_has ls 3 [(0, .ref x), (1, .int p), (2, .int fr)] := hl
  have hX9 := hX
  obtain ⟨⟨rf, hx, hrf⟩, ⟨c0, c1, c2, hcap, hA0, hA1, hA2⟩, hXp, hXc, hXt⟩ := hX9
  refine lv_aload_n X.hx X.hb dX1_cancel_0 rfl (lv_at hl 0 rfl) ?_
  refine lv_aload_n X.hx X.hb dX1_cancel_1 rfl (lv_at hl 0 rfl) ?_
  refine lv_iload_n X.hx X.hb dX1_cancel_2 rfl (lv_at hl 1 rfl) ?_
  refine gxV X hl.1 hR hS 1 [.int p] [.ref x] (c_policyAt l Γ G hst hW hX) hx rfl q471 q473 qs4 q36 q474 rfl rfl ⟨rfl, by decide +kernel, by decide +kernel, by decide +kernel⟩ ⟨by (try dsimp only [RM]); omega, by (try dsimp only [RM]); omega⟩ rfl rfl (Nat.le_of_ble_eq_true rfl) dX1_cancel_3 ⟨by (try dsimp only [RM]); omega, by (try dsimp only [RM]); omega⟩ (fun E742 ce q9 G9 H locs hq9 hR9 hS9 hce hcv hcl => ?_) (fun v740 G741 H locs hq737 hR738 hS739 => ?_)
  · obtain ⟨rfl, hbd, rfl⟩ := hq9
    exact g_out X hlk hxt hR9 hS9 hce hcv hcl (⟨Or.inl ⟨rfl, by rw [kT, if_pos (Or.inl hbd)]⟩, hX, gK.rf⟩) (by (try dsimp only [RM]); omega) (by (try dsimp only [RM]); omega)
  · obtain ⟨i, hi, rfl, rfl, rfl⟩ := hq737
    have hi31 : i < 2 ^ 31 := Nat.lt_of_lt_of_le hi (Nat.le_trans hW.1 (by decide))
    have hnp : ¬ bdP (nI (σ.1 0)) (nI i) := nbdP (nI_pos hi31) (nI_lt hi (Nat.lt_of_le_of_lt hW.1 (by decide)))
    have hic := nI_clamp hi31
    have hpol := (hX.2.2.1 i hi).1
    refine lv_iload_n X.hx X.hb dX1_cancel_6 rfl (lv_at hl 2 rfl) ?_
    refine g_lcst X hl.1 hnm X.lk.2.2.1 (by simp [Value.category]; show _ ≤ 4000 + 64 * 12; omega) dX1_cancel_7 ?_
    have hEF : EF Γ G (Γ.2 15) (σ.1 2) 2 0 0 := Or.inr (Or.inr (Or.inl ⟨rfl, rfl⟩))
    refine gxV X hl.1 hR738 hS739 3 [.ref (A 2 i), .int fr, .ref (Γ.2 15)] [] (c_tell l Γ G hst hW hX hC hi hEF) hx rfl q496 q498 qs5 q36 q499 rfl rfl ⟨rfl, by decide +kernel, by decide +kernel, by decide +kernel⟩ ⟨by (try dsimp only [RM]); omega, by (try dsimp only [RM]); omega⟩ rfl rfl (Nat.le_of_ble_eq_true rfl) dX1_cancel_12 ⟨by (try dsimp only [RM]); omega, by (try dsimp only [RM]); omega⟩ (fun E748 ce q9 G9 H locs hq9 hR9 hS9 hce hcv hcl => ?_) (fun v746 G747 H locs hq743 hR744 hS745 => ?_)
    · obtain ⟨hE, hX5, hg5⟩ := hq9
      exact g_out X hlk hxt hR9 hS9 hce hcv hcl (⟨hE.elim (fun h => Or.inr (Or.inl ⟨h.1, by rw [kT, if_neg (or_no hnp c03), if_pos (Or.inr h.2)]⟩)) (fun h => Or.inr (Or.inr ⟨h.1, by rw [kT, if_neg (or_no hnp c03), if_neg (or_no c00 h.2.1), if_pos h.2.2]⟩)), hX5, hg5⟩) (by (try dsimp only [RM]); omega) (by (try dsimp only [RM]); omega)
    · obtain ⟨hb5, hc5, rfl, hXf, hgf⟩ := hq743
      refine vx_ret ?_
      exact g_iret X hr hlk hR744 hS745 (⟨by rw [kT, if_neg (or_no hnp c03), if_neg (or_no c00 hb5), if_neg (fun h9 => h9 hc5)], rfl, hXf, hgf⟩) (by (try dsimp only [RM]); omega) (by (try dsimp only [RM]); omega) dX1_cancel_15

set_option maxHeartbeats 4000000 in
theorem c_reinstate (l : Launch) (Γ : GP) (G : GH) (hst : l.stackTraces = false) {x : Nat} {σ : MS} {A : Nat → Nat → Nat} (hW : WF σ) (hX : XP Γ G x σ A) {p fr : Int32} (hC : CN Γ G) : MetX l yX1_reinstate (ws_ yX1_reinstate cX1_reinstate 3 (some .int)) (RM 12 4000 12000) Γ G [.ref x, .int p, .int fr] (fun u G1 => kT σ p 0 fr 0 0 0 = 0 ∧ u = some (.int (nI (σ.1 2))) ∧ (∃ B, XP Γ G1 x (tauT σ p 3 0 fr 0) B) ∧ gK TX G G1) (fun E G1 => ((E = EIO ∧ kT σ p 0 fr 0 0 0 = 1) ∨ (E = EIA ∧ kT σ p 0 fr 0 0 0 = 2) ∨ (E = EIS ∧ kT σ p 0 fr 0 0 0 = 3)) ∧ XP Γ G1 x σ A ∧ gK TX G G1) 4000 12000 := by
  refine gMetX (own := RX1) (by decide) rfl (Nat.le_of_ble_eq_true rfl) ?_
  intro pp ee ss mm below meth cc0 ls X hr hlk hin hnm hxt hR hS hl
  have hl : lv_has ls 3 [(0, .ref x), (1, .int p), (2, .int fr)] := hl
  have hX9 := hX
  obtain ⟨⟨rf, hx, hrf⟩, ⟨c0, c1, c2, hcap, hA0, hA1, hA2⟩, hXp, hXc, hXt⟩ := hX9
  refine lv_aload_n X.hx X.hb dX1_reinstate_0 rfl (lv_at hl 0 rfl) ?_
  refine lv_aload_n X.hx X.hb dX1_reinstate_1 rfl (lv_at hl 0 rfl) ?_
  refine lv_iload_n X.hx X.hb dX1_reinstate_2 rfl (lv_at hl 1 rfl) ?_
  refine gxV X hl.1 hR hS 1 [.int p] [.ref x] (c_policyAt l Γ G hst hW hX) hx rfl q471 q473 qs4 q36 q474 rfl rfl ⟨rfl, by decide +kernel, by decide +kernel, by decide +kernel⟩ ⟨by (try dsimp only [RM]); omega, by (try dsimp only [RM]); omega⟩ rfl rfl (Nat.le_of_ble_eq_true rfl) dX1_reinstate_3 ⟨by (try dsimp only [RM]); omega, by (try dsimp only [RM]); omega⟩ (fun E754 ce q9 G9 H locs hq9 hR9 hS9 hce hcv hcl => ?_) (fun v752 G753 H locs hq749 hR750 hS751 => ?_)
  · obtain ⟨rfl, hbd, rfl⟩ := hq9
    exact g_out X hlk hxt hR9 hS9 hce hcv hcl (⟨Or.inl ⟨rfl, by rw [kT, if_pos (Or.inl hbd)]⟩, hX, gK.rf⟩) (by (try dsimp only [RM]); omega) (by (try dsimp only [RM]); omega)
  · obtain ⟨i, hi, rfl, rfl, rfl⟩ := hq749
    have hi31 : i < 2 ^ 31 := Nat.lt_of_lt_of_le hi (Nat.le_trans hW.1 (by decide))
    have hnp : ¬ bdP (nI (σ.1 0)) (nI i) := nbdP (nI_pos hi31) (nI_lt hi (Nat.lt_of_le_of_lt hW.1 (by decide)))
    have hic := nI_clamp hi31
    have hpol := (hX.2.2.1 i hi).1
    refine lv_iload_n X.hx X.hb dX1_reinstate_6 rfl (lv_at hl 2 rfl) ?_
    refine g_lcst X hl.1 hnm X.lk.2.2.2.1 (by simp [Value.category]; show _ ≤ 4000 + 64 * 12; omega) dX1_reinstate_7 ?_
    have hEF : EF Γ G (Γ.2 16) (σ.1 2) 3 0 0 := Or.inr (Or.inr (Or.inr ⟨rfl, rfl⟩))
    refine gxV X hl.1 hR750 hS751 3 [.ref (A 2 i), .int fr, .ref (Γ.2 16)] [] (c_tell l Γ G hst hW hX hC hi hEF) hx rfl q496 q498 qs5 q36 q499 rfl rfl ⟨rfl, by decide +kernel, by decide +kernel, by decide +kernel⟩ ⟨by (try dsimp only [RM]); omega, by (try dsimp only [RM]); omega⟩ rfl rfl (Nat.le_of_ble_eq_true rfl) dX1_reinstate_12 ⟨by (try dsimp only [RM]); omega, by (try dsimp only [RM]); omega⟩ (fun E760 ce q9 G9 H locs hq9 hR9 hS9 hce hcv hcl => ?_) (fun v758 G759 H locs hq755 hR756 hS757 => ?_)
    · obtain ⟨hE, hX5, hg5⟩ := hq9
      exact g_out X hlk hxt hR9 hS9 hce hcv hcl (⟨hE.elim (fun h => Or.inr (Or.inl ⟨h.1, by rw [kT, if_neg (or_no hnp c03), if_pos (Or.inr h.2)]⟩)) (fun h => Or.inr (Or.inr ⟨h.1, by rw [kT, if_neg (or_no hnp c03), if_neg (or_no c00 h.2.1), if_pos h.2.2]⟩)), hX5, hg5⟩) (by (try dsimp only [RM]); omega) (by (try dsimp only [RM]); omega)
    · obtain ⟨hb5, hc5, rfl, hXf, hgf⟩ := hq755
      refine vx_ret ?_
      exact g_iret X hr hlk hR756 hS757 (⟨by rw [kT, if_neg (or_no hnp c03), if_neg (or_no c00 hb5), if_neg (fun h9 => h9 hc5)], rfl, hXf, hgf⟩) (by (try dsimp only [RM]); omega) (by (try dsimp only [RM]); omega) dX1_reinstate_15

set_option maxHeartbeats 4000000 in
theorem c_binit (l : Launch) (Γ : GP) (G : GH) {x : Nat} (hx : G x = some ((0, 0), .inr (0, [.null, .null, .null, .int 0, .null]))) (hC : CN Γ G) : MetG l yX1_init (ws_ yX1_init cX1_init 1 none) (RM 6 4 374) Γ G [.ref x] (fun u G1 => u = none ∧ (∃ A, XP Γ G1 x (fun _ => 0, fun _ _ => 0) A) ∧ gK TX G G1) 4 374 := by
  refine gMet (own := RX1) (by decide) rfl (Nat.le_of_ble_eq_true rfl) ?_
  intro pp ee ss mm below meth cc0 ls X hr hlk hin hnm hR hS hl
  have hl : lv_has ls 1 [(0, .ref x)] := hl
  refine lv_aload_n X.hx X.hb dX1_init_0 rfl (lv_at hl 0 rfl) ?_
  refine W.objInit X.hx X.hb X.hown (X.hts _ q86) (X.hts _ q87) (X.hts _ q88) rfl (by rw [X.hml]; exact hl.1) rfl dX1_init_1 (Nat.le_of_ble_eq_true rfl) (Nat.le_of_ble_eq_true rfl) ?_
  refine W.eq (g2 := F0 mm 4 ls []) rfl ?_
  refine lv_aload_n X.hx X.hb dX1_init_4 rfl (lv_at hl 0 rfl) ?_
  refine g_new (ci := 6) X hR hS (1, 0) (C := RJ2) (T := TJ2) (N := 3) rfl in_J2 tyJ2 tyJ2_ok q89 q90 q39 (fs := [.int 0, .null, .int 0]) (fun j hj => by rcases (show j = 0 ∨ j = 1 ∨ j = 2 by omega) with rfl | rfl | rfl <;> rfl) (by (try dsimp only [RM]); omega) (by (try dsimp only [RM]); omega) dX1_init_5 (fun q761 H hq763 hR762 hS764 => ?_)
  obtain ⟨G765, hG765⟩ : ∃ z : GH, z = gu G q761 ((1, 0), .inr (6, [.int 0, .null, .int 0])) := ⟨_, rfl⟩
  have hR762 : Rep Γ G765 H := by rw [hG765]; exact hR762
  have f766 : G765 x = some ((0, 0), .inr (0, [.null, .null, .null, .int 0, .null])) := by rw [hG765]; exact gu_f hx hq763
  have f767 : G765 q761 = some ((1, 0), .inr (6, [.int 0, .null, .int 0])) := by rw [hG765]; exact gu_s _ _ _
  refine lv_dup X.hx X.hb dX1_init_8 rfl ?_
  refine gcI X hl.1 hR762 hS764 0 [] [.ref q761, .ref x] (c_ALi (e0 := none) l Γ G765 f767) q91 q92 q39 q93 rfl rfl rfl ⟨by decide +kernel, by decide +kernel, by decide +kernel⟩ ⟨by (try dsimp only [RM]); omega, by (try dsimp only [RM]); omega⟩ rfl rfl (Nat.le_of_ble_eq_true rfl) dX1_init_9 ⟨by (try dsimp only [RM]); omega, by (try dsimp only [RM]); omega⟩ (fun v772 G773 H locs hq769 hR770 hS771 => ?_)
  obtain ⟨rfl, hG768⟩ := hq769
  have f774 : G773 x = some ((0, 0), .inr (0, [.null, .null, .null, .int 0, .null])) := by rw [hG768]; exact (gu_n (fne hx hq763)).trans f766
  have f775 : G773 q761 = some ((1, 0), .inr (6, [.int 0, .ref (Γ.2 5), .int 0])) := by rw [hG768]; exact gu_s _ _ _
  refine g_putF X hR770 hS771 f774 (Nat.le_of_ble_eq_true rfl) rfl in_X1 tyX1 tyX1_ok nmX1 0 (by decide) q118 (fun _ h => h) rfl hin rfl rfl rfl (Nat.le_of_ble_eq_true rfl) dX1_init_12 (fun H locs hR776 hS777 => ?_)
  obtain ⟨G778, hG778⟩ : ∃ z : GH, z = gu G773 x ((0, 0), .inr (0, [.ref q761, .null, .null, .int 0, .null])) := ⟨_, rfl⟩
  have hR776 : Rep Γ G778 H := by rw [hG778]; exact hR776
  have f779 : G778 q761 = some ((1, 0), .inr (6, [.int 0, .ref (Γ.2 5), .int 0])) := by rw [hG778]; exact (gu_n (Ne.symm (fne hx hq763))).trans f775
  have f780 : G778 x = some ((0, 0), .inr (0, [.ref q761, .null, .null, .int 0, .null])) := by rw [hG778]; exact gu_s _ _ _
  refine lv_aload_n X.hx X.hb dX1_init_15 rfl (lv_at hl 0 rfl) ?_
  refine g_new (ci := 6) X hR776 hS777 (1, 1) (C := RJ2) (T := TJ2) (N := 3) rfl in_J2 tyJ2 tyJ2_ok q89 q90 q39 (fs := [.int 0, .null, .int 0]) (fun j hj => by rcases (show j = 0 ∨ j = 1 ∨ j = 2 by omega) with rfl | rfl | rfl <;> rfl) (by (try dsimp only [RM]); omega) (by (try dsimp only [RM]); omega) dX1_init_16 (fun q781 H hq783 hR782 hS784 => ?_)
  obtain ⟨G785, hG785⟩ : ∃ z : GH, z = gu G778 q781 ((1, 1), .inr (6, [.int 0, .null, .int 0])) := ⟨_, rfl⟩
  have hR782 : Rep Γ G785 H := by rw [hG785]; exact hR782
  have f786 : G785 q761 = some ((1, 0), .inr (6, [.int 0, .ref (Γ.2 5), .int 0])) := by rw [hG785]; exact gu_f f779 hq783
  have f787 : G785 x = some ((0, 0), .inr (0, [.ref q761, .null, .null, .int 0, .null])) := by rw [hG785]; exact gu_f f780 hq783
  have f788 : G785 q781 = some ((1, 1), .inr (6, [.int 0, .null, .int 0])) := by rw [hG785]; exact gu_s _ _ _
  refine lv_dup X.hx X.hb dX1_init_19 rfl ?_
  refine gcI X hl.1 hR782 hS784 0 [] [.ref q781, .ref x] (c_ALi (e0 := none) l Γ G785 f788) q91 q92 q39 q93 rfl rfl rfl ⟨by decide +kernel, by decide +kernel, by decide +kernel⟩ ⟨by (try dsimp only [RM]); omega, by (try dsimp only [RM]); omega⟩ rfl rfl (Nat.le_of_ble_eq_true rfl) dX1_init_20 ⟨by (try dsimp only [RM]); omega, by (try dsimp only [RM]); omega⟩ (fun v793 G794 H locs hq790 hR791 hS792 => ?_)
  obtain ⟨rfl, hG789⟩ := hq790
  have f795 : G794 q761 = some ((1, 0), .inr (6, [.int 0, .ref (Γ.2 5), .int 0])) := by rw [hG789]; exact (gu_n (fne f779 hq783)).trans f786
  have f796 : G794 x = some ((0, 0), .inr (0, [.ref q761, .null, .null, .int 0, .null])) := by rw [hG789]; exact (gu_n (fne f780 hq783)).trans f787
  have f797 : G794 q781 = some ((1, 1), .inr (6, [.int 0, .ref (Γ.2 5), .int 0])) := by rw [hG789]; exact gu_s _ _ _
  refine g_putF X hR791 hS792 f796 (Nat.le_of_ble_eq_true rfl) rfl in_X1 tyX1 tyX1_ok nmX1 1 (by decide) q119 (fun _ h => h) rfl hin rfl rfl rfl (Nat.le_of_ble_eq_true rfl) dX1_init_23 (fun H locs hR798 hS799 => ?_)
  obtain ⟨G800, hG800⟩ : ∃ z : GH, z = gu G794 x ((0, 0), .inr (0, [.ref q761, .ref q781, .null, .int 0, .null])) := ⟨_, rfl⟩
  have hR798 : Rep Γ G800 H := by rw [hG800]; exact hR798
  have f801 : G800 q761 = some ((1, 0), .inr (6, [.int 0, .ref (Γ.2 5), .int 0])) := by rw [hG800]; exact (gu_n (Ne.symm (fne hx hq763))).trans f795
  have f802 : G800 q781 = some ((1, 1), .inr (6, [.int 0, .ref (Γ.2 5), .int 0])) := by rw [hG800]; exact (gu_n (Ne.symm (fne f780 hq783))).trans f797
  have f803 : G800 x = some ((0, 0), .inr (0, [.ref q761, .ref q781, .null, .int 0, .null])) := by rw [hG800]; exact gu_s _ _ _
  refine lv_aload_n X.hx X.hb dX1_init_26 rfl (lv_at hl 0 rfl) ?_
  refine g_new (ci := 6) X hR798 hS799 (1, 2) (C := RJ2) (T := TJ2) (N := 3) rfl in_J2 tyJ2 tyJ2_ok q89 q90 q39 (fs := [.int 0, .null, .int 0]) (fun j hj => by rcases (show j = 0 ∨ j = 1 ∨ j = 2 by omega) with rfl | rfl | rfl <;> rfl) (by (try dsimp only [RM]); omega) (by (try dsimp only [RM]); omega) dX1_init_27 (fun q804 H hq806 hR805 hS807 => ?_)
  obtain ⟨G808, hG808⟩ : ∃ z : GH, z = gu G800 q804 ((1, 2), .inr (6, [.int 0, .null, .int 0])) := ⟨_, rfl⟩
  have hR805 : Rep Γ G808 H := by rw [hG808]; exact hR805
  have f809 : G808 q761 = some ((1, 0), .inr (6, [.int 0, .ref (Γ.2 5), .int 0])) := by rw [hG808]; exact gu_f f801 hq806
  have f810 : G808 q781 = some ((1, 1), .inr (6, [.int 0, .ref (Γ.2 5), .int 0])) := by rw [hG808]; exact gu_f f802 hq806
  have f811 : G808 x = some ((0, 0), .inr (0, [.ref q761, .ref q781, .null, .int 0, .null])) := by rw [hG808]; exact gu_f f803 hq806
  have f812 : G808 q804 = some ((1, 2), .inr (6, [.int 0, .null, .int 0])) := by rw [hG808]; exact gu_s _ _ _
  refine lv_dup X.hx X.hb dX1_init_30 rfl ?_
  refine gcI X hl.1 hR805 hS807 0 [] [.ref q804, .ref x] (c_ALi (e0 := none) l Γ G808 f812) q91 q92 q39 q93 rfl rfl rfl ⟨by decide +kernel, by decide +kernel, by decide +kernel⟩ ⟨by (try dsimp only [RM]); omega, by (try dsimp only [RM]); omega⟩ rfl rfl (Nat.le_of_ble_eq_true rfl) dX1_init_31 ⟨by (try dsimp only [RM]); omega, by (try dsimp only [RM]); omega⟩ (fun v817 G818 H locs hq814 hR815 hS816 => ?_)
  obtain ⟨rfl, hG813⟩ := hq814
  have f819 : G818 q761 = some ((1, 0), .inr (6, [.int 0, .ref (Γ.2 5), .int 0])) := by rw [hG813]; exact (gu_n (fne f801 hq806)).trans f809
  have f820 : G818 q781 = some ((1, 1), .inr (6, [.int 0, .ref (Γ.2 5), .int 0])) := by rw [hG813]; exact (gu_n (fne f802 hq806)).trans f810
  have f821 : G818 x = some ((0, 0), .inr (0, [.ref q761, .ref q781, .null, .int 0, .null])) := by rw [hG813]; exact (gu_n (fne f803 hq806)).trans f811
  have f822 : G818 q804 = some ((1, 2), .inr (6, [.int 0, .ref (Γ.2 5), .int 0])) := by rw [hG813]; exact gu_s _ _ _
  refine g_putF X hR815 hS816 f821 (Nat.le_of_ble_eq_true rfl) rfl in_X1 tyX1 tyX1_ok nmX1 2 (by decide) q120 (fun _ h => h) rfl hin rfl rfl rfl (Nat.le_of_ble_eq_true rfl) dX1_init_34 (fun H locs hR823 hS824 => ?_)
  obtain ⟨G825, hG825⟩ : ∃ z : GH, z = gu G818 x ((0, 0), .inr (0, [.ref q761, .ref q781, .ref q804, .int 0, .null])) := ⟨_, rfl⟩
  have hR823 : Rep Γ G825 H := by rw [hG825]; exact hR823
  have f826 : G825 q761 = some ((1, 0), .inr (6, [.int 0, .ref (Γ.2 5), .int 0])) := by rw [hG825]; exact (gu_n (Ne.symm (fne hx hq763))).trans f819
  have f827 : G825 q781 = some ((1, 1), .inr (6, [.int 0, .ref (Γ.2 5), .int 0])) := by rw [hG825]; exact (gu_n (Ne.symm (fne f780 hq783))).trans f820
  have f828 : G825 q804 = some ((1, 2), .inr (6, [.int 0, .ref (Γ.2 5), .int 0])) := by rw [hG825]; exact (gu_n (Ne.symm (fne f803 hq806))).trans f822
  have f829 : G825 x = some ((0, 0), .inr (0, [.ref q761, .ref q781, .ref q804, .int 0, .null])) := by rw [hG825]; exact gu_s _ _ _
  refine lv_aload_n X.hx X.hb dX1_init_37 rfl (lv_at hl 0 rfl) ?_
  refine lv_sipush (v := 365) X.hx X.hb dX1_init_38 (by decide) ?_
  refine g_newa (atype := .int) (ty := .int) (N := 365) (a0 := (365, .inl (fun _ => 0))) X hR823 hS824 (15, 0) 0 q134 rfl rfl (fun _ h => h) (fun _ => rfl) (by decide) (by decide) (by decide) (by (try dsimp only [RM]); omega) (by (try dsimp only [RM]); omega) dX1_init_41 (fun q830 H hq832 hR831 hS833 => ?_)
  obtain ⟨G834, hG834⟩ : ∃ z : GH, z = gu G825 q830 ((15, 0), .inl (Γ.2 1, 365, .inl (fun _ => 0))) := ⟨_, rfl⟩
  have hR831 : Rep Γ G834 H := by rw [hG834]; exact hR831
  have f835 : G834 q761 = some ((1, 0), .inr (6, [.int 0, .ref (Γ.2 5), .int 0])) := by rw [hG834]; exact gu_f f826 hq832
  have f836 : G834 q781 = some ((1, 1), .inr (6, [.int 0, .ref (Γ.2 5), .int 0])) := by rw [hG834]; exact gu_f f827 hq832
  have f837 : G834 q804 = some ((1, 2), .inr (6, [.int 0, .ref (Γ.2 5), .int 0])) := by rw [hG834]; exact gu_f f828 hq832
  have f838 : G834 x = some ((0, 0), .inr (0, [.ref q761, .ref q781, .ref q804, .int 0, .null])) := by rw [hG834]; exact gu_f f829 hq832
  have f839 : G834 q830 = some ((15, 0), .inl (Γ.2 1, 365, .inl (fun _ => 0))) := by rw [hG834]; exact gu_s _ _ _
  refine g_putF X hR831 hS833 f838 (Nat.le_of_ble_eq_true rfl) rfl in_X1 tyX1 tyX1_ok nmX1 4 (by decide) q122 (fun _ h => h) rfl hin rfl rfl rfl (Nat.le_of_ble_eq_true rfl) dX1_init_43 (fun H locs hR840 hS841 => ?_)
  obtain ⟨G842, hG842⟩ : ∃ z : GH, z = gu G834 x ((0, 0), .inr (0, [.ref q761, .ref q781, .ref q804, .int 0, .ref q830])) := ⟨_, rfl⟩
  have hR840 : Rep Γ G842 H := by rw [hG842]; exact hR840
  have f843 : G842 q761 = some ((1, 0), .inr (6, [.int 0, .ref (Γ.2 5), .int 0])) := by rw [hG842]; exact (gu_n (Ne.symm (fne hx hq763))).trans f835
  have f844 : G842 q781 = some ((1, 1), .inr (6, [.int 0, .ref (Γ.2 5), .int 0])) := by rw [hG842]; exact (gu_n (Ne.symm (fne f780 hq783))).trans f836
  have f845 : G842 q804 = some ((1, 2), .inr (6, [.int 0, .ref (Γ.2 5), .int 0])) := by rw [hG842]; exact (gu_n (Ne.symm (fne f803 hq806))).trans f837
  have f846 : G842 q830 = some ((15, 0), .inl (Γ.2 1, 365, .inl (fun _ => 0))) := by rw [hG842]; exact (gu_n (Ne.symm (fne f829 hq832))).trans f839
  have f847 : G842 x = some ((0, 0), .inr (0, [.ref q761, .ref q781, .ref q804, .int 0, .ref q830])) := by rw [hG842]; exact gu_s _ _ _
  have hgk : gK TX G G842 := (gK.tr (gK.tr (gK.tr (gK.tr (gK.tr (gK.tr (gK.tr (gK.tr (gK.tr (gK.tr (gK.nw hG765 hq763) (gK.pt hG768 f767 (by show 1 < 30; decide))) (gK.pt hG778 f774 (by show 0 < 30; decide))) (gK.nw hG785 hq783)) (gK.pt hG789 f788 (by show 1 < 30; decide))) (gK.pt hG800 f796 (by show 0 < 30; decide))) (gK.nw hG808 hq806)) (gK.pt hG813 f812 (by show 1 < 30; decide))) (gK.pt hG825 f821 (by show 0 < 30; decide))) (gK.nw hG834 hq832)) (gK.pt hG842 f838 (by show 0 < 30; decide)))
  have hCf := hC.keep hgk (fun t ht => Nat.lt_of_lt_of_le ht (by decide))
  have hXf : XP Γ G842 x (fun _ => 0, fun _ _ => 0) (fun a i => if a = 0 then (if i = 0 then q761 else if i = 1 then q781 else q804) else q830) := ⟨⟨_, f847, f846⟩, ⟨0, 0, 0, ⟨by decide, by decide, by decide⟩, AL.mk0 hCf f843, AL.mk0 hCf f844, AL.mk0 hCf f845⟩, fun i hi => absurd hi (Nat.not_lt_zero i), fun i hi => absurd hi (Nat.not_lt_zero i), fun i hi => absurd hi (Nat.not_lt_zero i)⟩
  exact g_vret X hr hlk hR840 hS841 (⟨rfl, ⟨_, hXf⟩, hgk⟩) (by (try dsimp only [RM]); omega) (by (try dsimp only [RM]); omega) dX1_init_46

