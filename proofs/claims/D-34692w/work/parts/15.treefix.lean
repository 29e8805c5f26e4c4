set_option maxRecDepth 100000
/-! java.util.TreeMap: the repair after an insertion -/
theorem TI_up {A B : Int} {S : Nat → Prop} {key lo hi : Nat → Int} {L R P : Nat → Option Nat} {root : Option Nat} {x w : Nat} (h : TI A B S key lo hi L R P root) (hx : S x) (hw : P x = some w) :
    S w ∧ w ≠ x ∧ hi x - lo x < hi w - lo w ∧ (L w = some x ∨ R w = some x) := by
  obtain ⟨ha, hb, hc, hd, he, hf, hg, hi1, hj, hk⟩ := h
  obtain ⟨hSw, h1⟩ := hi1 x w hx hw
  have haw := ha w hSw
  have hlt : hi x - lo x < hi w - lo w := by
    rcases h1 with h1 | h1
    · have h2 := hc w x hSw h1; omega
    · have h2 := hd w x hSw h1; omega
  exact ⟨hSw, fun e => by subst e; omega, hlt, h1⟩
theorem TI_LR {A B : Int} {S : Nat → Prop} {key lo hi : Nat → Int} {L R P : Nat → Option Nat} {root : Option Nat} {x w : Nat} (h : TI A B S key lo hi L R P root) (hx : S x) (h1 : L x = some w) : ¬ R x = some w := by
  intro h2
  have a1 := h.2.2.1 x w hx h1
  have a2 := h.2.2.2.1 x w hx h2
  have := h.1 x hx
  omega
theorem TI_rp {A B : Int} {S : Nat → Prop} {key lo hi : Nat → Int} {L R P : Nat → Option Nat} {root : Option Nat} (h : TI A B S key lo hi L R P root) : ∀ r, root = some r → P r = none := fun r hr => (h.2.2.2.2.2.2.2.2.1 r hr).2.1
theorem fix_A2 {L R P R2 L2 P2 : Nat → Option Nat} {root root2 : Option Nat} {g t z : Nat} {C : Nat → Int32} (hrot : Rot R L P R2 L2 P2 root root2 g t) (hroot : ∀ r, root = some r → P r = none) (hz : P z = some t) (zg : z ≠ g) (zt : z ≠ t) (tg : t ≠ g) (hRt : ¬ R t = some z) (hB : ∀ r, root = some r → r ≠ z → r ≠ t → C r = 1) :
    (∃ w, P2 z = some w ∧ va_up (va_up C t 1) g 0 w = 1) ∧ ∀ r, root2 = some r → r ≠ z → va_up (va_up C t 1) g 0 r = 1 := by
  obtain ⟨-, -, -, -, -, -, h7, h8, h9, h10, h11, h12⟩ := hrot
  have ht : va_up (va_up C t 1) g 0 t = 1 := by rw [va_up_ne _ _ tg]; exact va_up_self _ _ _
  refine ⟨⟨t, (h10 z zg zt hRt).trans hz, ht⟩, fun r hr hrz => ?_⟩
  by_cases e : r = t
  · rw [e]; exact ht
  · cases hP : P g with
    | none => rw [h11 hP] at hr; cases hr; exact absurd rfl e
    | some q =>
      rw [h12 q hP] at hr
      have hne : r ≠ g := fun e => by rw [e] at hr; rw [hroot g hr] at hP; cases hP
      rw [va_up_ne _ _ hne, va_up_ne _ _ e]
      exact hB r hr hrz e

set_option maxHeartbeats 4000000 in
theorem c_fix (l : Launch) (Γ : GP) (G : GH) {S : Nat → Prop} {N K V : Nat → Nat} {L R P : Nat → Option Nat} {C : Nat → Int32} (hT : TH G S N K V L R P C) {A B : Int} {key lo hi : Nat → Int} {root : Option Nat} (hI : TI A B S key lo hi L R P root) {a p : Nat} {vw : Option Nat} {sz mo : Int32} (hM : G a = some (TMc p vw (root.map N) sz mo)) {x0 : Nat} (hx : S x0) (hB : ∀ r, root = some r → r ≠ x0 → C r = 1) : MetG l yJ9_fixAfterInsertion (ws_ yJ9_fixAfterInsertion cJ9_fixAfterInsertion 3 none) (RM 2 0 0) Γ G [.ref a, .ref (N x0)] (fun v G1 => v = none ∧ gK (tT p S) G G1 ∧ ∃ L1 R1 P1 C1 lo1 hi1 root1, TH G1 S N K V L1 R1 P1 C1 ∧ TI A B S key lo1 hi1 L1 R1 P1 root1 ∧ G1 a = some (TMc p vw (root1.map N) sz mo) ∧ ∀ r, root1 = some r → C1 r = 1) 0 0 := by
  refine gMet (own := RJ9) (by decide) rfl (Nat.le_of_ble_eq_true rfl) ?_
  intro pp ee ss mm below meth cc0 ls X hr hlk hin hnm hR hS hl
  have hl : lv_has ls 3 [(0, .ref a), (1, .ref (N x0))] := hl
  refine lv_aload_n X.hx X.hb dJ9_fixAfterInsertion_0 rfl (lv_at hl 1 rfl) ?_
  refine lv_iconst (v := 0) X.hx X.hb dJ9_fixAfterInsertion_1 (by decide) ?_
  refine g_put X hR hS (hT.1 x0 hx) (Nat.le_of_ble_eq_true rfl) rfl in_J21 tyJ21 tyJ21_ok nmJ21 5 (by decide) q625 (fun _ h => h) rfl rfl rfl (Nat.le_of_ble_eq_true rfl) dJ9_fixAfterInsertion_2 (fun H locs hR705 hS706 => ?_)
  obtain ⟨G707, hG707⟩ : ∃ z : GH, z = gu G (N x0) ((11, x0), .inr (8, [.ref (K x0), .ref (V x0), va_rf ((L x0).map N), va_rf ((R x0).map N), va_rf ((P x0).map N), .int 0])) := ⟨_, rfl⟩
  have hR705 : Rep Γ G707 H := by rw [hG707]; exact hR705
  obtain ⟨C708, eC708⟩ : ∃ z, z = va_up C x0 0 := ⟨_, rfl⟩
  have hT709 := TH.putC hT hx (y := 0) hG707 (by decide)
  rw [← eC708] at hT709
  have f710 : G707 a = some ((4, p), .inr (7, [.null, va_rf vw, .null, va_rf (root.map N), .int sz, .int mo, .null, .null, .null])) := by rw [hG707]; exact gu_t hM (hT.1 x0 hx) (tne rfl)
  have k711 : C708 x0 = 0 := by rw [eC708]; exact va_up_self _ _ _
  have loop : ∀ (n : Nat) (L R P : Nat → Option Nat) (C : Nat → Int32) (lo hi : Nat → Int) (root : Option Nat) (x : Nat) (G1 : GH) (H : Heap) (locs : List Loc) (ls : Array Slot), TH G1 S N K V L R P C → TI A B S key lo hi L R P root → S x → G1 a = some (TMc p vw (root.map N) sz mo) → (∀ r, root = some r → r ≠ x → C r = 1) → gK (tT p S) G G1 → (((∃ w, P x = some w ∧ C w = 1) ∧ (1 : Int) ≤ n) ∨ (B - A) - (hi x - lo x) + 1 < (n : Int)) → Rep Γ G1 H → va_S (gA Γ) ss.heap H locs → (ls.size = 3 ∧ lv_has ls 3 [(0, .ref a), (1, .ref (N x))]) → W pp l ee (RM 2 0 0) ss mm (List.toArray [.ref a, .ref (N x0)]) below meth cc0 H locs 0 0 (MQ below (Qg Γ (fun v G1 => v = none ∧ gK (tT p S) G G1 ∧ ∃ L1 R1 P1 C1 lo1 hi1 root1, TH G1 S N K V L1 R1 P1 C1 ∧ TI A B S key lo1 hi1 L1 R1 P1 root1 ∧ G1 a = some (TMc p vw (root1.map N) sz mo) ∧ ∀ r, root1 = some r → C1 r = 1)) (List.toArray [.ref a, .ref (N x0)]) ss 0 0 (gA Γ)) (F0 mm 5 ls []) := by
    intro n
    induction n with
    | zero =>
      intro L R P C lo hi root x G1 H locs ls hT hI hx hM hB hgk hn hR hS hl
      have := hI.1 x hx
      exfalso; rcases hn with hn | hn
      · have := hn.2; omega
      · omega
    | succ n ih =>
      intro L R P C lo hi root x G1 H locs ls hT hI hx hM hB hgk hn hR hS hl
      have hl := hl.2
      refine lv_aload_n X.hx X.hb dJ9_fixAfterInsertion_5 rfl (lv_at hl 1 rfl) ?_
      refine lv_ifnull X.hx X.hb dJ9_fixAfterInsertion_6 ?_
      by_cases hrx : root = some x
      · refine lv_aload_n X.hx X.hb dJ9_fixAfterInsertion_9 rfl (lv_at hl 1 rfl) ?_
        refine lv_aload_n X.hx X.hb dJ9_fixAfterInsertion_10 rfl (lv_at hl 0 rfl) ?_
        refine g_get X hR hM rfl in_J9 3 (by decide) q264 (fun _ h => h) rfl dJ9_fixAfterInsertion_11 ?_
        refine lv_acmp_eq (rx := some (N x)) (ry := root.map N) (tgt := 258) X.hx X.hb dJ9_fixAfterInsertion_14 (by decide) (fun c14 => ?_) (fun c14 => ?_)
        · obtain ⟨r0, hr0⟩ : ∃ r0, root = some r0 := by
            cases hr9 : root with
            | none => exact absurd hx (hI.2.2.2.2.2.2.2.2.2 hr9 x)
            | some r0 => exact ⟨r0, rfl⟩
          have hSr0 := (hI.2.2.2.2.2.2.2.2.1 r0 hr0).1
          refine lv_aload_n X.hx X.hb dJ9_fixAfterInsertion_258 rfl (lv_at hl 0 rfl) ?_
          refine g_get (v := .ref (N r0)) X hR hM rfl in_J9 3 (by decide) q264 (fun _ h => h) (by rw [hr0]; rfl) dJ9_fixAfterInsertion_259 ?_
          refine lv_iconst (v := 1) X.hx X.hb dJ9_fixAfterInsertion_262 (by decide) ?_
          refine g_put X hR hS (hT.1 r0 hSr0) (Nat.le_of_ble_eq_true rfl) rfl in_J21 tyJ21 tyJ21_ok nmJ21 5 (by decide) q625 (fun _ h => h) rfl rfl rfl (Nat.le_of_ble_eq_true rfl) dJ9_fixAfterInsertion_263 (fun H locs hR712 hS713 => ?_)
          obtain ⟨G714, hG714⟩ : ∃ z : GH, z = gu G1 (N r0) ((11, r0), .inr (8, [.ref (K r0), .ref (V r0), va_rf ((L r0).map N), va_rf ((R r0).map N), va_rf ((P r0).map N), .int 1])) := ⟨_, rfl⟩
          have hR712 : Rep Γ G714 H := by rw [hG714]; exact hR712
          obtain ⟨C715, eC715⟩ : ∃ z, z = va_up C r0 1 := ⟨_, rfl⟩
          have hT716 := TH.putC hT hSr0 (y := 1) hG714 (by decide)
          rw [← eC715] at hT716
          have f717 : G714 a = some ((4, p), .inr (7, [.null, va_rf vw, .null, va_rf (root.map N), .int sz, .int mo, .null, .null, .null])) := by rw [hG714]; exact gu_t hM (hT.1 r0 hSr0) (tne rfl)
          have k718 : C715 r0 = 1 := by rw [eC715]; exact va_up_self _ _ _
          exact g_vret X hr hlk hR712 hS713 (⟨rfl, (gK.tr hgk (gK.pt hG714 (hT.1 r0 hSr0) (Or.inr ⟨r0, hSr0, rfl⟩))), L, R, P, _, lo, hi, root, hT716, hI, f717, fun r hr9 => by cases hr0.symm.trans hr9; rw [eC715]; exact va_up_self _ _ _⟩) (by (try dsimp only [RM]); omega) (by (try dsimp only [RM]); omega) dJ9_fixAfterInsertion_266
        · exact absurd (by rw [hrx]; rfl) c14
      · obtain ⟨w, hPx⟩ : ∃ w, P x = some w := by
          cases hP : P x with
          | none => exact absurd (hI.2.2.2.2.2.2.1 x hx hP) hrx
          | some w => exact ⟨w, rfl⟩
        obtain ⟨hw, hwx, hwm, hwc⟩ := TI_up hI hx hPx
        rcases hT.2 w hw with hCw | hCw
        · obtain ⟨g, hPw⟩ : ∃ g, P w = some g := by
            cases hP : P w with
            | none => have h9 := hB w (hI.2.2.2.2.2.2.1 w hw hP) hwx; rw [hCw] at h9; cases h9
            | some w => exact ⟨w, rfl⟩
          obtain ⟨hg, hgw, hgm, hgc⟩ := TI_up hI hw hPw
          have hgx : g ≠ x := fun e => by subst e; omega
          have hn1 : (B - A) - (hi x - lo x) + 1 < (n : Int) + 1 := by
            rcases hn with hn | hn
            · obtain ⟨⟨w9, e9, c9⟩, -⟩ := hn; rw [hPx] at e9; cases e9; rw [hCw] at c9; cases c9
            · push_cast at hn; omega
          have hx9 := hI.1 x hx
          have hg9 := hI.1 g hg
          by_cases hLg : L g = some w
          · rcases hy : R g with _ | y
            · by_cases hs : R w = some x
              · refine lv_aload_n X.hx X.hb dJ9_fixAfterInsertion_9 rfl (lv_at hl 1 rfl) ?_
                refine lv_aload_n X.hx X.hb dJ9_fixAfterInsertion_10 rfl (lv_at hl 0 rfl) ?_
                refine g_get X hR hM rfl in_J9 3 (by decide) q264 (fun _ h => h) rfl dJ9_fixAfterInsertion_11 ?_
                refine lv_acmp_eq (rx := some (N x)) (ry := root.map N) (tgt := 258) X.hx X.hb dJ9_fixAfterInsertion_14 (by decide) (fun c14 => ?_) (fun c14 => ?_)
                · exact absurd (hT.inj (fun y hy => (hI.2.2.2.2.2.2.2.2.1 y hy).1) hx c14.symm) hrx
                · refine lv_aload_n X.hx X.hb dJ9_fixAfterInsertion_17 rfl (lv_at hl 1 rfl) ?_
                  refine g_get (v := .ref (N w)) X hR (hT.1 x hx) rfl in_J21 4 (by decide) q623 (fun _ h => h) (knv (N := N) (o := P x) (v := some w) hPx) dJ9_fixAfterInsertion_18 ?_
                  refine g_get (v := .int 0) X hR (hT.1 w hw) rfl in_J21 5 (by decide) q625 (fun _ h => h) (congrArg (fun z => some (Value.int z)) hCw) dJ9_fixAfterInsertion_21 ?_
                  refine lv_if_ne (tgt := 258) X.hx X.hb dJ9_fixAfterInsertion_24 (by decide) (fun c24 => ?_) (fun c24 => ?_)
                  · exact absurd rfl c24
                  · refine lv_aload_n X.hx X.hb dJ9_fixAfterInsertion_27 rfl (lv_at hl 1 rfl) ?_
                    refine gcS X hl.1 hR hS 1 [.ref (N x)] [] (c_parentOfK l Γ G1 hT hx hPx) q650 q651 q48 q652 rfl rfl ⟨by decide +kernel, by decide +kernel, by decide +kernel⟩ ⟨by (try dsimp only [RM]); omega, by (try dsimp only [RM]); omega⟩ rfl rfl (Nat.le_of_ble_eq_true rfl) dJ9_fixAfterInsertion_28 ⟨by (try dsimp only [RM]); omega, by (try dsimp only [RM]); omega⟩ (fun v722 G723 H locs hq719 hR720 hS721 => ?_)
                    obtain ⟨rfl, rfl⟩ := hq719
                    refine lv_aload_n X.hx X.hb dJ9_fixAfterInsertion_31 rfl (lv_at hl 1 rfl) ?_
                    refine gcS X hl.1 hR720 hS721 1 [.ref (N x)] [.ref (N w)] (c_parentOfK l Γ G1 hT hx hPx) q650 q651 q48 q652 rfl rfl ⟨by decide +kernel, by decide +kernel, by decide +kernel⟩ ⟨by (try dsimp only [RM]); omega, by (try dsimp only [RM]); omega⟩ rfl rfl (Nat.le_of_ble_eq_true rfl) dJ9_fixAfterInsertion_32 ⟨by (try dsimp only [RM]); omega, by (try dsimp only [RM]); omega⟩ (fun v727 G728 H locs hq724 hR725 hS726 => ?_)
                    obtain ⟨rfl, rfl⟩ := hq724
                    refine gcS X hl.1 hR725 hS726 1 [.ref (N w)] [.ref (N w)] (c_parentOfK l Γ G1 hT hw hPw) q650 q651 q48 q652 rfl rfl ⟨by decide +kernel, by decide +kernel, by decide +kernel⟩ ⟨by (try dsimp only [RM]); omega, by (try dsimp only [RM]); omega⟩ rfl rfl (Nat.le_of_ble_eq_true rfl) dJ9_fixAfterInsertion_35 ⟨by (try dsimp only [RM]); omega, by (try dsimp only [RM]); omega⟩ (fun v732 G733 H locs hq729 hR730 hS731 => ?_)
                    obtain ⟨rfl, rfl⟩ := hq729
                    refine gcS X hl.1 hR730 hS731 1 [.ref (N g)] [.ref (N w)] (c_leftOfK l Γ G1 hT hg hLg) q653 q654 q48 q655 rfl rfl ⟨by decide +kernel, by decide +kernel, by decide +kernel⟩ ⟨by (try dsimp only [RM]); omega, by (try dsimp only [RM]); omega⟩ rfl rfl (Nat.le_of_ble_eq_true rfl) dJ9_fixAfterInsertion_38 ⟨by (try dsimp only [RM]); omega, by (try dsimp only [RM]); omega⟩ (fun v737 G738 H locs hq734 hR735 hS736 => ?_)
                    obtain ⟨rfl, rfl⟩ := hq734
                    refine lv_acmp_ne (rx := some (N w)) (ry := some (N w)) (tgt := 151) X.hx X.hb dJ9_fixAfterInsertion_41 (by decide) (fun c41 => ?_) (fun c41 => ?_)
                    · exact absurd rfl c41
                    · refine lv_aload_n X.hx X.hb dJ9_fixAfterInsertion_44 rfl (lv_at hl 1 rfl) ?_
                      refine gcS X hl.1 hR735 hS736 1 [.ref (N x)] [] (c_parentOfK l Γ G1 hT hx hPx) q650 q651 q48 q652 rfl rfl ⟨by decide +kernel, by decide +kernel, by decide +kernel⟩ ⟨by (try dsimp only [RM]); omega, by (try dsimp only [RM]); omega⟩ rfl rfl (Nat.le_of_ble_eq_true rfl) dJ9_fixAfterInsertion_45 ⟨by (try dsimp only [RM]); omega, by (try dsimp only [RM]); omega⟩ (fun v742 G743 H locs hq739 hR740 hS741 => ?_)
                      obtain ⟨rfl, rfl⟩ := hq739
                      refine gcS X hl.1 hR740 hS741 1 [.ref (N w)] [] (c_parentOfK l Γ G1 hT hw hPw) q650 q651 q48 q652 rfl rfl ⟨by decide +kernel, by decide +kernel, by decide +kernel⟩ ⟨by (try dsimp only [RM]); omega, by (try dsimp only [RM]); omega⟩ rfl rfl (Nat.le_of_ble_eq_true rfl) dJ9_fixAfterInsertion_48 ⟨by (try dsimp only [RM]); omega, by (try dsimp only [RM]); omega⟩ (fun v747 G748 H locs hq744 hR745 hS746 => ?_)
                      obtain ⟨rfl, rfl⟩ := hq744
                      refine gcS X hl.1 hR745 hS746 1 [.ref (N g)] [] (c_rightOfKN l Γ G1 hT hg hy) q656 q657 q48 q658 rfl rfl ⟨by decide +kernel, by decide +kernel, by decide +kernel⟩ ⟨by (try dsimp only [RM]); omega, by (try dsimp only [RM]); omega⟩ rfl rfl (Nat.le_of_ble_eq_true rfl) dJ9_fixAfterInsertion_51 ⟨by (try dsimp only [RM]); omega, by (try dsimp only [RM]); omega⟩ (fun v752 G753 H locs hq749 hR750 hS751 => ?_)
                      obtain ⟨rfl, rfl⟩ := hq749
                      refine lv_astore_nN (lv' := [(2, .null), (0, .ref a), (1, .ref (N x))]) X.hx X.hb dJ9_fixAfterInsertion_54 rfl hl (by decide) rfl (fun ls hl => ?_)
                      refine lv_aload_nN X.hx X.hb dJ9_fixAfterInsertion_55 rfl (lv_at hl 0 rfl) ?_
                      refine gcS X hl.1 hR750 hS751 1 [.null] [] (c_colorOfN l Γ G1) q659 q660 q48 q661 rfl rfl ⟨by decide +kernel, by decide +kernel, by decide +kernel⟩ ⟨by (try dsimp only [RM]); omega, by (try dsimp only [RM]); omega⟩ rfl rfl (Nat.le_of_ble_eq_true rfl) dJ9_fixAfterInsertion_56 ⟨by (try dsimp only [RM]); omega, by (try dsimp only [RM]); omega⟩ (fun v757 G758 H locs hq754 hR755 hS756 => ?_)
                      obtain ⟨rfl, rfl⟩ := hq754
                      refine lv_if_ne (tgt := 97) X.hx X.hb dJ9_fixAfterInsertion_59 (by decide) (fun c59 => ?_) (fun c59 => ?_)
                      · refine lv_aload_n X.hx X.hb dJ9_fixAfterInsertion_97 rfl (lv_at hl 2 rfl) ?_
                        refine lv_aload_n X.hx X.hb dJ9_fixAfterInsertion_98 rfl (lv_at hl 2 rfl) ?_
                        refine gcS X hl.1 hR755 hS756 1 [.ref (N x)] [.ref (N x)] (c_parentOfK l Γ G1 hT hx hPx) q650 q651 q48 q652 rfl rfl ⟨by decide +kernel, by decide +kernel, by decide +kernel⟩ ⟨by (try dsimp only [RM]); omega, by (try dsimp only [RM]); omega⟩ rfl rfl (Nat.le_of_ble_eq_true rfl) dJ9_fixAfterInsertion_99 ⟨by (try dsimp only [RM]); omega, by (try dsimp only [RM]); omega⟩ (fun v762 G763 H locs hq759 hR760 hS761 => ?_)
                        obtain ⟨rfl, rfl⟩ := hq759
                        refine gcS X hl.1 hR760 hS761 1 [.ref (N w)] [.ref (N x)] (c_rightOfK l Γ G1 hT hw hs) q656 q657 q48 q658 rfl rfl ⟨by decide +kernel, by decide +kernel, by decide +kernel⟩ ⟨by (try dsimp only [RM]); omega, by (try dsimp only [RM]); omega⟩ rfl rfl (Nat.le_of_ble_eq_true rfl) dJ9_fixAfterInsertion_102 ⟨by (try dsimp only [RM]); omega, by (try dsimp only [RM]); omega⟩ (fun v767 G768 H locs hq764 hR765 hS766 => ?_)
                        obtain ⟨rfl, rfl⟩ := hq764
                        refine lv_acmp_ne (rx := some (N x)) (ry := some (N x)) (tgt := 118) X.hx X.hb dJ9_fixAfterInsertion_105 (by decide) (fun c105 => ?_) (fun c105 => ?_)
                        · exact absurd rfl c105
                        · refine lv_aload_n X.hx X.hb dJ9_fixAfterInsertion_108 rfl (lv_at hl 2 rfl) ?_
                          refine gcS X hl.1 hR765 hS766 1 [.ref (N x)] [] (c_parentOfK l Γ G1 hT hx hPx) q650 q651 q48 q652 rfl rfl ⟨by decide +kernel, by decide +kernel, by decide +kernel⟩ ⟨by (try dsimp only [RM]); omega, by (try dsimp only [RM]); omega⟩ rfl rfl (Nat.le_of_ble_eq_true rfl) dJ9_fixAfterInsertion_109 ⟨by (try dsimp only [RM]); omega, by (try dsimp only [RM]); omega⟩ (fun v772 G773 H locs hq769 hR770 hS771 => ?_)
                          obtain ⟨rfl, rfl⟩ := hq769
                          refine lv_astore_n (lv' := [(1, .ref (N w)), (2, .null), (0, .ref a)]) X.hx X.hb dJ9_fixAfterInsertion_112 rfl hl (by decide) rfl (fun ls hl => ?_)
                          refine lv_aload_n X.hx X.hb dJ9_fixAfterInsertion_113 rfl (lv_at hl 2 rfl) ?_
                          refine lv_aload_n X.hx X.hb dJ9_fixAfterInsertion_114 rfl (lv_at hl 0 rfl) ?_
                          refine gcV X hl.1 hR770 hS771 1 [.ref (N w)] [] (c_rotL l Γ G1 hT hI hM hw hs) hM rfl q665 q667 qs10 q48 q668 rfl rfl ⟨rfl, by decide +kernel, by decide +kernel, by decide +kernel⟩ ⟨by (try dsimp only [RM]); omega, by (try dsimp only [RM]); omega⟩ rfl rfl (Nat.le_of_ble_eq_true rfl) dJ9_fixAfterInsertion_115 ⟨by (try dsimp only [RM]); omega, by (try dsimp only [RM]); omega⟩ (fun v786 G787 H locs hq783 hR784 hS785 => ?_)
                          obtain ⟨rfl, hk774, L776, R777, P778, root779, hT775, f780, hrot781⟩ := hq783
                          have hI782 := hrot781.TI_L hI hw hs
                          have a1 : P778 w = some x := hrot781.2.2.2.2.2.2.1
                          have a2 : P778 x = some g := hrot781.2.2.2.2.2.2.2.1.trans hPw
                          have a3 : L776 g = some x := hrot781.2.1 g hgx hPw hLg
                          have a4 : root779 = root := hrot781.2.2.2.2.2.2.2.2.2.2.2 g hPw
                          have a5 : L776 x = some w := hrot781.1
                          refine lv_aload_n X.hx X.hb dJ9_fixAfterInsertion_118 rfl (lv_at hl 0 rfl) ?_
                          refine gcS X hl.1 hR784 hS785 1 [.ref (N w)] [] (c_parentOfK l Γ G787 hT775 hw a1) q650 q651 q48 q652 rfl rfl ⟨by decide +kernel, by decide +kernel, by decide +kernel⟩ ⟨by (try dsimp only [RM]); omega, by (try dsimp only [RM]); omega⟩ rfl rfl (Nat.le_of_ble_eq_true rfl) dJ9_fixAfterInsertion_119 ⟨by (try dsimp only [RM]); omega, by (try dsimp only [RM]); omega⟩ (fun v791 G792 H locs hq788 hR789 hS790 => ?_)
                          obtain ⟨rfl, rfl⟩ := hq788
                          refine lv_iconst (v := 1) X.hx X.hb dJ9_fixAfterInsertion_122 (by decide) ?_
                          refine gcS X hl.1 hR789 hS790 2 [.ref (N x), .int 1] [] (c_setColorS1 l Γ G787 hT775 hx) q662 q663 q48 q664 rfl rfl ⟨by decide +kernel, by decide +kernel, by decide +kernel⟩ ⟨by (try dsimp only [RM]); omega, by (try dsimp only [RM]); omega⟩ rfl rfl (Nat.le_of_ble_eq_true rfl) dJ9_fixAfterInsertion_123 ⟨by (try dsimp only [RM]); omega, by (try dsimp only [RM]); omega⟩ (fun v798 G799 H locs hq795 hR796 hS797 => ?_)
                          obtain ⟨rfl, hk793, hT794⟩ := hq795
                          have f800 : G799 a = some ((4, p), .inr (7, [.null, va_rf vw, .null, va_rf (root779.map N), .int sz, .int mo, .null, .null, .null])) := hk793 _ _ f780 (fun h9 => by obtain ⟨k9, -, e9⟩ := h9; cases e9)
                          refine lv_aload_n X.hx X.hb dJ9_fixAfterInsertion_126 rfl (lv_at hl 0 rfl) ?_
                          refine gcS X hl.1 hR796 hS797 1 [.ref (N w)] [] (c_parentOfK l Γ G799 hT794 hw a1) q650 q651 q48 q652 rfl rfl ⟨by decide +kernel, by decide +kernel, by decide +kernel⟩ ⟨by (try dsimp only [RM]); omega, by (try dsimp only [RM]); omega⟩ rfl rfl (Nat.le_of_ble_eq_true rfl) dJ9_fixAfterInsertion_127 ⟨by (try dsimp only [RM]); omega, by (try dsimp only [RM]); omega⟩ (fun v804 G805 H locs hq801 hR802 hS803 => ?_)
                          obtain ⟨rfl, rfl⟩ := hq801
                          refine gcS X hl.1 hR802 hS803 1 [.ref (N x)] [] (c_parentOfK l Γ G799 hT794 hx a2) q650 q651 q48 q652 rfl rfl ⟨by decide +kernel, by decide +kernel, by decide +kernel⟩ ⟨by (try dsimp only [RM]); omega, by (try dsimp only [RM]); omega⟩ rfl rfl (Nat.le_of_ble_eq_true rfl) dJ9_fixAfterInsertion_130 ⟨by (try dsimp only [RM]); omega, by (try dsimp only [RM]); omega⟩ (fun v809 G810 H locs hq806 hR807 hS808 => ?_)
                          obtain ⟨rfl, rfl⟩ := hq806
                          refine lv_iconst (v := 0) X.hx X.hb dJ9_fixAfterInsertion_133 (by decide) ?_
                          refine gcS X hl.1 hR807 hS808 2 [.ref (N g), .int 0] [] (c_setColorS0 l Γ G799 hT794 hg) q662 q663 q48 q664 rfl rfl ⟨by decide +kernel, by decide +kernel, by decide +kernel⟩ ⟨by (try dsimp only [RM]); omega, by (try dsimp only [RM]); omega⟩ rfl rfl (Nat.le_of_ble_eq_true rfl) dJ9_fixAfterInsertion_134 ⟨by (try dsimp only [RM]); omega, by (try dsimp only [RM]); omega⟩ (fun v816 G817 H locs hq813 hR814 hS815 => ?_)
                          obtain ⟨rfl, hk811, hT812⟩ := hq813
                          have f818 : G817 a = some ((4, p), .inr (7, [.null, va_rf vw, .null, va_rf (root779.map N), .int sz, .int mo, .null, .null, .null])) := hk811 _ _ f800 (fun h9 => by obtain ⟨k9, -, e9⟩ := h9; cases e9)
                          refine lv_aload_n X.hx X.hb dJ9_fixAfterInsertion_137 rfl (lv_at hl 2 rfl) ?_
                          refine lv_aload_n X.hx X.hb dJ9_fixAfterInsertion_138 rfl (lv_at hl 0 rfl) ?_
                          refine gcS X hl.1 hR814 hS815 1 [.ref (N w)] [.ref a] (c_parentOfK l Γ G817 hT812 hw a1) q650 q651 q48 q652 rfl rfl ⟨by decide +kernel, by decide +kernel, by decide +kernel⟩ ⟨by (try dsimp only [RM]); omega, by (try dsimp only [RM]); omega⟩ rfl rfl (Nat.le_of_ble_eq_true rfl) dJ9_fixAfterInsertion_139 ⟨by (try dsimp only [RM]); omega, by (try dsimp only [RM]); omega⟩ (fun v822 G823 H locs hq819 hR820 hS821 => ?_)
                          obtain ⟨rfl, rfl⟩ := hq819
                          refine gcS X hl.1 hR820 hS821 1 [.ref (N x)] [.ref a] (c_parentOfK l Γ G817 hT812 hx a2) q650 q651 q48 q652 rfl rfl ⟨by decide +kernel, by decide +kernel, by decide +kernel⟩ ⟨by (try dsimp only [RM]); omega, by (try dsimp only [RM]); omega⟩ rfl rfl (Nat.le_of_ble_eq_true rfl) dJ9_fixAfterInsertion_142 ⟨by (try dsimp only [RM]); omega, by (try dsimp only [RM]); omega⟩ (fun v827 G828 H locs hq824 hR825 hS826 => ?_)
                          obtain ⟨rfl, rfl⟩ := hq824
                          refine gcV X hl.1 hR825 hS826 1 [.ref (N g)] [] (c_rotR l Γ G817 hT812 hI782 f818 hg a3) f818 rfl q669 q671 qs11 q48 q672 rfl rfl ⟨rfl, by decide +kernel, by decide +kernel, by decide +kernel⟩ ⟨by (try dsimp only [RM]); omega, by (try dsimp only [RM]); omega⟩ rfl rfl (Nat.le_of_ble_eq_true rfl) dJ9_fixAfterInsertion_145 ⟨by (try dsimp only [RM]); omega, by (try dsimp only [RM]); omega⟩ (fun v841 G842 H locs hq838 hR839 hS840 => ?_)
                          obtain ⟨rfl, hk829, L831, R832, P833, root834, hT830, f835, hrot836⟩ := hq838
                          have hI837 := hrot836.TI_R hI782 hg a3
                          refine lv_goto (tgt := 5) X.hx X.hb dJ9_fixAfterInsertion_148 (by decide) ?_
                          have b0 : ∀ r, root779 = some r → r ≠ w → r ≠ x → C r = 1 := fun r h1 h2 h3 => hB r (a4 ▸ h1) h3
                          obtain ⟨b1, b2⟩ := fix_A2 (z := w) (C := C) hrot836 (TI_rp hI782) a1 (Ne.symm hgw) hwx (Ne.symm hgx) (TI_LR hI782 hx a5) b0
                          exact ih L831 R832 P833 _ _ _ root834 w _ _ _ _ hT830 hI837 hw f835 b2 (gK.tr (gK.tr (gK.tr (gK.tr hgk hk774) (hk793.mono fun _ h => Or.inr h)) (hk811.mono fun _ h => Or.inr h)) hk829) (Or.inl ⟨b1, by omega⟩) hR839 hS840 ⟨hl.1, lv_sub hl [2, 0] rfl⟩
                      · exact absurd c59 (by decide)
              · refine lv_aload_n X.hx X.hb dJ9_fixAfterInsertion_9 rfl (lv_at hl 1 rfl) ?_
                refine lv_aload_n X.hx X.hb dJ9_fixAfterInsertion_10 rfl (lv_at hl 0 rfl) ?_
                refine g_get X hR hM rfl in_J9 3 (by decide) q264 (fun _ h => h) rfl dJ9_fixAfterInsertion_11 ?_
                refine lv_acmp_eq (rx := some (N x)) (ry := root.map N) (tgt := 258) X.hx X.hb dJ9_fixAfterInsertion_14 (by decide) (fun c14 => ?_) (fun c14 => ?_)
                · exact absurd (hT.inj (fun y hy => (hI.2.2.2.2.2.2.2.2.1 y hy).1) hx c14.symm) hrx
                · refine lv_aload_n X.hx X.hb dJ9_fixAfterInsertion_17 rfl (lv_at hl 1 rfl) ?_
                  refine g_get (v := .ref (N w)) X hR (hT.1 x hx) rfl in_J21 4 (by decide) q623 (fun _ h => h) (knv (N := N) (o := P x) (v := some w) hPx) dJ9_fixAfterInsertion_18 ?_
                  refine g_get (v := .int 0) X hR (hT.1 w hw) rfl in_J21 5 (by decide) q625 (fun _ h => h) (congrArg (fun z => some (Value.int z)) hCw) dJ9_fixAfterInsertion_21 ?_
                  refine lv_if_ne (tgt := 258) X.hx X.hb dJ9_fixAfterInsertion_24 (by decide) (fun c24 => ?_) (fun c24 => ?_)
                  · exact absurd rfl c24
                  · refine lv_aload_n X.hx X.hb dJ9_fixAfterInsertion_27 rfl (lv_at hl 1 rfl) ?_
                    refine gcS X hl.1 hR hS 1 [.ref (N x)] [] (c_parentOfK l Γ G1 hT hx hPx) q650 q651 q48 q652 rfl rfl ⟨by decide +kernel, by decide +kernel, by decide +kernel⟩ ⟨by (try dsimp only [RM]); omega, by (try dsimp only [RM]); omega⟩ rfl rfl (Nat.le_of_ble_eq_true rfl) dJ9_fixAfterInsertion_28 ⟨by (try dsimp only [RM]); omega, by (try dsimp only [RM]); omega⟩ (fun v846 G847 H locs hq843 hR844 hS845 => ?_)
                    obtain ⟨rfl, rfl⟩ := hq843
                    refine lv_aload_n X.hx X.hb dJ9_fixAfterInsertion_31 rfl (lv_at hl 1 rfl) ?_
                    refine gcS X hl.1 hR844 hS845 1 [.ref (N x)] [.ref (N w)] (c_parentOfK l Γ G1 hT hx hPx) q650 q651 q48 q652 rfl rfl ⟨by decide +kernel, by decide +kernel, by decide +kernel⟩ ⟨by (try dsimp only [RM]); omega, by (try dsimp only [RM]); omega⟩ rfl rfl (Nat.le_of_ble_eq_true rfl) dJ9_fixAfterInsertion_32 ⟨by (try dsimp only [RM]); omega, by (try dsimp only [RM]); omega⟩ (fun v851 G852 H locs hq848 hR849 hS850 => ?_)
                    obtain ⟨rfl, rfl⟩ := hq848
                    refine gcS X hl.1 hR849 hS850 1 [.ref (N w)] [.ref (N w)] (c_parentOfK l Γ G1 hT hw hPw) q650 q651 q48 q652 rfl rfl ⟨by decide +kernel, by decide +kernel, by decide +kernel⟩ ⟨by (try dsimp only [RM]); omega, by (try dsimp only [RM]); omega⟩ rfl rfl (Nat.le_of_ble_eq_true rfl) dJ9_fixAfterInsertion_35 ⟨by (try dsimp only [RM]); omega, by (try dsimp only [RM]); omega⟩ (fun v856 G857 H locs hq853 hR854 hS855 => ?_)
                    obtain ⟨rfl, rfl⟩ := hq853
                    refine gcS X hl.1 hR854 hS855 1 [.ref (N g)] [.ref (N w)] (c_leftOfK l Γ G1 hT hg hLg) q653 q654 q48 q655 rfl rfl ⟨by decide +kernel, by decide +kernel, by decide +kernel⟩ ⟨by (try dsimp only [RM]); omega, by (try dsimp only [RM]); omega⟩ rfl rfl (Nat.le_of_ble_eq_true rfl) dJ9_fixAfterInsertion_38 ⟨by (try dsimp only [RM]); omega, by (try dsimp only [RM]); omega⟩ (fun v861 G862 H locs hq858 hR859 hS860 => ?_)
                    obtain ⟨rfl, rfl⟩ := hq858
                    refine lv_acmp_ne (rx := some (N w)) (ry := some (N w)) (tgt := 151) X.hx X.hb dJ9_fixAfterInsertion_41 (by decide) (fun c41 => ?_) (fun c41 => ?_)
                    · exact absurd rfl c41
                    · refine lv_aload_n X.hx X.hb dJ9_fixAfterInsertion_44 rfl (lv_at hl 1 rfl) ?_
                      refine gcS X hl.1 hR859 hS860 1 [.ref (N x)] [] (c_parentOfK l Γ G1 hT hx hPx) q650 q651 q48 q652 rfl rfl ⟨by decide +kernel, by decide +kernel, by decide +kernel⟩ ⟨by (try dsimp only [RM]); omega, by (try dsimp only [RM]); omega⟩ rfl rfl (Nat.le_of_ble_eq_true rfl) dJ9_fixAfterInsertion_45 ⟨by (try dsimp only [RM]); omega, by (try dsimp only [RM]); omega⟩ (fun v866 G867 H locs hq863 hR864 hS865 => ?_)
                      obtain ⟨rfl, rfl⟩ := hq863
                      refine gcS X hl.1 hR864 hS865 1 [.ref (N w)] [] (c_parentOfK l Γ G1 hT hw hPw) q650 q651 q48 q652 rfl rfl ⟨by decide +kernel, by decide +kernel, by decide +kernel⟩ ⟨by (try dsimp only [RM]); omega, by (try dsimp only [RM]); omega⟩ rfl rfl (Nat.le_of_ble_eq_true rfl) dJ9_fixAfterInsertion_48 ⟨by (try dsimp only [RM]); omega, by (try dsimp only [RM]); omega⟩ (fun v871 G872 H locs hq868 hR869 hS870 => ?_)
                      obtain ⟨rfl, rfl⟩ := hq868
                      refine gcS X hl.1 hR869 hS870 1 [.ref (N g)] [] (c_rightOfKN l Γ G1 hT hg hy) q656 q657 q48 q658 rfl rfl ⟨by decide +kernel, by decide +kernel, by decide +kernel⟩ ⟨by (try dsimp only [RM]); omega, by (try dsimp only [RM]); omega⟩ rfl rfl (Nat.le_of_ble_eq_true rfl) dJ9_fixAfterInsertion_51 ⟨by (try dsimp only [RM]); omega, by (try dsimp only [RM]); omega⟩ (fun v876 G877 H locs hq873 hR874 hS875 => ?_)
                      obtain ⟨rfl, rfl⟩ := hq873
                      refine lv_astore_nN (lv' := [(2, .null), (0, .ref a), (1, .ref (N x))]) X.hx X.hb dJ9_fixAfterInsertion_54 rfl hl (by decide) rfl (fun ls hl => ?_)
                      refine lv_aload_nN X.hx X.hb dJ9_fixAfterInsertion_55 rfl (lv_at hl 0 rfl) ?_
                      refine gcS X hl.1 hR874 hS875 1 [.null] [] (c_colorOfN l Γ G1) q659 q660 q48 q661 rfl rfl ⟨by decide +kernel, by decide +kernel, by decide +kernel⟩ ⟨by (try dsimp only [RM]); omega, by (try dsimp only [RM]); omega⟩ rfl rfl (Nat.le_of_ble_eq_true rfl) dJ9_fixAfterInsertion_56 ⟨by (try dsimp only [RM]); omega, by (try dsimp only [RM]); omega⟩ (fun v881 G882 H locs hq878 hR879 hS880 => ?_)
                      obtain ⟨rfl, rfl⟩ := hq878
                      refine lv_if_ne (tgt := 97) X.hx X.hb dJ9_fixAfterInsertion_59 (by decide) (fun c59 => ?_) (fun c59 => ?_)
                      · refine lv_aload_n X.hx X.hb dJ9_fixAfterInsertion_97 rfl (lv_at hl 2 rfl) ?_
                        refine lv_aload_n X.hx X.hb dJ9_fixAfterInsertion_98 rfl (lv_at hl 2 rfl) ?_
                        refine gcS X hl.1 hR879 hS880 1 [.ref (N x)] [.ref (N x)] (c_parentOfK l Γ G1 hT hx hPx) q650 q651 q48 q652 rfl rfl ⟨by decide +kernel, by decide +kernel, by decide +kernel⟩ ⟨by (try dsimp only [RM]); omega, by (try dsimp only [RM]); omega⟩ rfl rfl (Nat.le_of_ble_eq_true rfl) dJ9_fixAfterInsertion_99 ⟨by (try dsimp only [RM]); omega, by (try dsimp only [RM]); omega⟩ (fun v886 G887 H locs hq883 hR884 hS885 => ?_)
                        obtain ⟨rfl, rfl⟩ := hq883
                        refine gcS X hl.1 hR884 hS885 1 [.ref (N w)] [.ref (N x)] (c_rightOfS l Γ G1 hT hw) q656 q657 q48 q658 rfl rfl ⟨by decide +kernel, by decide +kernel, by decide +kernel⟩ ⟨by (try dsimp only [RM]); omega, by (try dsimp only [RM]); omega⟩ rfl rfl (Nat.le_of_ble_eq_true rfl) dJ9_fixAfterInsertion_102 ⟨by (try dsimp only [RM]); omega, by (try dsimp only [RM]); omega⟩ (fun v891 G892 H locs hq888 hR889 hS890 => ?_)
                        obtain ⟨rfl, rfl⟩ := hq888
                        refine lv_acmp_ne (rx := some (N x)) (ry := (R w).map N) (tgt := 118) X.hx X.hb dJ9_fixAfterInsertion_105 (by decide) (fun c105 => ?_) (fun c105 => ?_)
                        · refine lv_aload_n X.hx X.hb dJ9_fixAfterInsertion_118 rfl (lv_at hl 2 rfl) ?_
                          refine gcS X hl.1 hR889 hS890 1 [.ref (N x)] [] (c_parentOfK l Γ G1 hT hx hPx) q650 q651 q48 q652 rfl rfl ⟨by decide +kernel, by decide +kernel, by decide +kernel⟩ ⟨by (try dsimp only [RM]); omega, by (try dsimp only [RM]); omega⟩ rfl rfl (Nat.le_of_ble_eq_true rfl) dJ9_fixAfterInsertion_119 ⟨by (try dsimp only [RM]); omega, by (try dsimp only [RM]); omega⟩ (fun v896 G897 H locs hq893 hR894 hS895 => ?_)
                          obtain ⟨rfl, rfl⟩ := hq893
                          refine lv_iconst (v := 1) X.hx X.hb dJ9_fixAfterInsertion_122 (by decide) ?_
                          refine gcS X hl.1 hR894 hS895 2 [.ref (N w), .int 1] [] (c_setColorS1 l Γ G1 hT hw) q662 q663 q48 q664 rfl rfl ⟨by decide +kernel, by decide +kernel, by decide +kernel⟩ ⟨by (try dsimp only [RM]); omega, by (try dsimp only [RM]); omega⟩ rfl rfl (Nat.le_of_ble_eq_true rfl) dJ9_fixAfterInsertion_123 ⟨by (try dsimp only [RM]); omega, by (try dsimp only [RM]); omega⟩ (fun v903 G904 H locs hq900 hR901 hS902 => ?_)
                          obtain ⟨rfl, hk898, hT899⟩ := hq900
                          have f905 : G904 a = some ((4, p), .inr (7, [.null, va_rf vw, .null, va_rf (root.map N), .int sz, .int mo, .null, .null, .null])) := hk898 _ _ hM (fun h9 => by obtain ⟨k9, -, e9⟩ := h9; cases e9)
                          refine lv_aload_n X.hx X.hb dJ9_fixAfterInsertion_126 rfl (lv_at hl 2 rfl) ?_
                          refine gcS X hl.1 hR901 hS902 1 [.ref (N x)] [] (c_parentOfK l Γ G904 hT899 hx hPx) q650 q651 q48 q652 rfl rfl ⟨by decide +kernel, by decide +kernel, by decide +kernel⟩ ⟨by (try dsimp only [RM]); omega, by (try dsimp only [RM]); omega⟩ rfl rfl (Nat.le_of_ble_eq_true rfl) dJ9_fixAfterInsertion_127 ⟨by (try dsimp only [RM]); omega, by (try dsimp only [RM]); omega⟩ (fun v909 G910 H locs hq906 hR907 hS908 => ?_)
                          obtain ⟨rfl, rfl⟩ := hq906
                          refine gcS X hl.1 hR907 hS908 1 [.ref (N w)] [] (c_parentOfK l Γ G904 hT899 hw hPw) q650 q651 q48 q652 rfl rfl ⟨by decide +kernel, by decide +kernel, by decide +kernel⟩ ⟨by (try dsimp only [RM]); omega, by (try dsimp only [RM]); omega⟩ rfl rfl (Nat.le_of_ble_eq_true rfl) dJ9_fixAfterInsertion_130 ⟨by (try dsimp only [RM]); omega, by (try dsimp only [RM]); omega⟩ (fun v914 G915 H locs hq911 hR912 hS913 => ?_)
                          obtain ⟨rfl, rfl⟩ := hq911
                          refine lv_iconst (v := 0) X.hx X.hb dJ9_fixAfterInsertion_133 (by decide) ?_
                          refine gcS X hl.1 hR912 hS913 2 [.ref (N g), .int 0] [] (c_setColorS0 l Γ G904 hT899 hg) q662 q663 q48 q664 rfl rfl ⟨by decide +kernel, by decide +kernel, by decide +kernel⟩ ⟨by (try dsimp only [RM]); omega, by (try dsimp only [RM]); omega⟩ rfl rfl (Nat.le_of_ble_eq_true rfl) dJ9_fixAfterInsertion_134 ⟨by (try dsimp only [RM]); omega, by (try dsimp only [RM]); omega⟩ (fun v921 G922 H locs hq918 hR919 hS920 => ?_)
                          obtain ⟨rfl, hk916, hT917⟩ := hq918
                          have f923 : G922 a = some ((4, p), .inr (7, [.null, va_rf vw, .null, va_rf (root.map N), .int sz, .int mo, .null, .null, .null])) := hk916 _ _ f905 (fun h9 => by obtain ⟨k9, -, e9⟩ := h9; cases e9)
                          refine lv_aload_n X.hx X.hb dJ9_fixAfterInsertion_137 rfl (lv_at hl 1 rfl) ?_
                          refine lv_aload_n X.hx X.hb dJ9_fixAfterInsertion_138 rfl (lv_at hl 2 rfl) ?_
                          refine gcS X hl.1 hR919 hS920 1 [.ref (N x)] [.ref a] (c_parentOfK l Γ G922 hT917 hx hPx) q650 q651 q48 q652 rfl rfl ⟨by decide +kernel, by decide +kernel, by decide +kernel⟩ ⟨by (try dsimp only [RM]); omega, by (try dsimp only [RM]); omega⟩ rfl rfl (Nat.le_of_ble_eq_true rfl) dJ9_fixAfterInsertion_139 ⟨by (try dsimp only [RM]); omega, by (try dsimp only [RM]); omega⟩ (fun v927 G928 H locs hq924 hR925 hS926 => ?_)
                          obtain ⟨rfl, rfl⟩ := hq924
                          refine gcS X hl.1 hR925 hS926 1 [.ref (N w)] [.ref a] (c_parentOfK l Γ G922 hT917 hw hPw) q650 q651 q48 q652 rfl rfl ⟨by decide +kernel, by decide +kernel, by decide +kernel⟩ ⟨by (try dsimp only [RM]); omega, by (try dsimp only [RM]); omega⟩ rfl rfl (Nat.le_of_ble_eq_true rfl) dJ9_fixAfterInsertion_142 ⟨by (try dsimp only [RM]); omega, by (try dsimp only [RM]); omega⟩ (fun v932 G933 H locs hq929 hR930 hS931 => ?_)
                          obtain ⟨rfl, rfl⟩ := hq929
                          refine gcV X hl.1 hR930 hS931 1 [.ref (N g)] [] (c_rotR l Γ G922 hT917 hI f923 hg hLg) f923 rfl q669 q671 qs11 q48 q672 rfl rfl ⟨rfl, by decide +kernel, by decide +kernel, by decide +kernel⟩ ⟨by (try dsimp only [RM]); omega, by (try dsimp only [RM]); omega⟩ rfl rfl (Nat.le_of_ble_eq_true rfl) dJ9_fixAfterInsertion_145 ⟨by (try dsimp only [RM]); omega, by (try dsimp only [RM]); omega⟩ (fun v946 G947 H locs hq943 hR944 hS945 => ?_)
                          obtain ⟨rfl, hk934, L936, R937, P938, root939, hT935, f940, hrot941⟩ := hq943
                          have hI942 := hrot941.TI_R hI hg hLg
                          refine lv_goto (tgt := 5) X.hx X.hb dJ9_fixAfterInsertion_148 (by decide) ?_
                          have b0 : ∀ r, root = some r → r ≠ x → r ≠ w → C r = 1 := fun r h1 h2 h3 => hB r (h1) h2
                          obtain ⟨b1, b2⟩ := fix_A2 (z := x) (C := C) hrot941 (TI_rp hI) hPx (Ne.symm hgx) (Ne.symm hwx) (Ne.symm hgw) hs b0
                          exact ih L936 R937 P938 _ _ _ root939 x _ _ _ _ hT935 hI942 hx f940 b2 (gK.tr (gK.tr (gK.tr hgk (hk898.mono fun _ h => Or.inr h)) (hk916.mono fun _ h => Or.inr h)) hk934) (Or.inl ⟨b1, by omega⟩) hR944 hS945 ⟨hl.1, lv_sub hl [1, 2] rfl⟩
                        · exact absurd (hT.inj (fun y hy => (hI.2.2.2.1 w y hw hy).1) hx c105.symm) hs
                      · exact absurd c59 (by decide)
            · have hSy : S y := (hI.2.2.2.1 g y hg hy).1
              rcases hT.2 y hSy with hCy | hCy
              · refine lv_aload_n X.hx X.hb dJ9_fixAfterInsertion_9 rfl (lv_at hl 1 rfl) ?_
                refine lv_aload_n X.hx X.hb dJ9_fixAfterInsertion_10 rfl (lv_at hl 0 rfl) ?_
                refine g_get X hR hM rfl in_J9 3 (by decide) q264 (fun _ h => h) rfl dJ9_fixAfterInsertion_11 ?_
                refine lv_acmp_eq (rx := some (N x)) (ry := root.map N) (tgt := 258) X.hx X.hb dJ9_fixAfterInsertion_14 (by decide) (fun c14 => ?_) (fun c14 => ?_)
                · exact absurd (hT.inj (fun y hy => (hI.2.2.2.2.2.2.2.2.1 y hy).1) hx c14.symm) hrx
                · refine lv_aload_n X.hx X.hb dJ9_fixAfterInsertion_17 rfl (lv_at hl 1 rfl) ?_
                  refine g_get (v := .ref (N w)) X hR (hT.1 x hx) rfl in_J21 4 (by decide) q623 (fun _ h => h) (knv (N := N) (o := P x) (v := some w) hPx) dJ9_fixAfterInsertion_18 ?_
                  refine g_get (v := .int 0) X hR (hT.1 w hw) rfl in_J21 5 (by decide) q625 (fun _ h => h) (congrArg (fun z => some (Value.int z)) hCw) dJ9_fixAfterInsertion_21 ?_
                  refine lv_if_ne (tgt := 258) X.hx X.hb dJ9_fixAfterInsertion_24 (by decide) (fun c24 => ?_) (fun c24 => ?_)
                  · exact absurd rfl c24
                  · refine lv_aload_n X.hx X.hb dJ9_fixAfterInsertion_27 rfl (lv_at hl 1 rfl) ?_
                    refine gcS X hl.1 hR hS 1 [.ref (N x)] [] (c_parentOfK l Γ G1 hT hx hPx) q650 q651 q48 q652 rfl rfl ⟨by decide +kernel, by decide +kernel, by decide +kernel⟩ ⟨by (try dsimp only [RM]); omega, by (try dsimp only [RM]); omega⟩ rfl rfl (Nat.le_of_ble_eq_true rfl) dJ9_fixAfterInsertion_28 ⟨by (try dsimp only [RM]); omega, by (try dsimp only [RM]); omega⟩ (fun v951 G952 H locs hq948 hR949 hS950 => ?_)
                    obtain ⟨rfl, rfl⟩ := hq948
                    refine lv_aload_n X.hx X.hb dJ9_fixAfterInsertion_31 rfl (lv_at hl 1 rfl) ?_
                    refine gcS X hl.1 hR949 hS950 1 [.ref (N x)] [.ref (N w)] (c_parentOfK l Γ G1 hT hx hPx) q650 q651 q48 q652 rfl rfl ⟨by decide +kernel, by decide +kernel, by decide +kernel⟩ ⟨by (try dsimp only [RM]); omega, by (try dsimp only [RM]); omega⟩ rfl rfl (Nat.le_of_ble_eq_true rfl) dJ9_fixAfterInsertion_32 ⟨by (try dsimp only [RM]); omega, by (try dsimp only [RM]); omega⟩ (fun v956 G957 H locs hq953 hR954 hS955 => ?_)
                    obtain ⟨rfl, rfl⟩ := hq953
                    refine gcS X hl.1 hR954 hS955 1 [.ref (N w)] [.ref (N w)] (c_parentOfK l Γ G1 hT hw hPw) q650 q651 q48 q652 rfl rfl ⟨by decide +kernel, by decide +kernel, by decide +kernel⟩ ⟨by (try dsimp only [RM]); omega, by (try dsimp only [RM]); omega⟩ rfl rfl (Nat.le_of_ble_eq_true rfl) dJ9_fixAfterInsertion_35 ⟨by (try dsimp only [RM]); omega, by (try dsimp only [RM]); omega⟩ (fun v961 G962 H locs hq958 hR959 hS960 => ?_)
                    obtain ⟨rfl, rfl⟩ := hq958
                    refine gcS X hl.1 hR959 hS960 1 [.ref (N g)] [.ref (N w)] (c_leftOfK l Γ G1 hT hg hLg) q653 q654 q48 q655 rfl rfl ⟨by decide +kernel, by decide +kernel, by decide +kernel⟩ ⟨by (try dsimp only [RM]); omega, by (try dsimp only [RM]); omega⟩ rfl rfl (Nat.le_of_ble_eq_true rfl) dJ9_fixAfterInsertion_38 ⟨by (try dsimp only [RM]); omega, by (try dsimp only [RM]); omega⟩ (fun v966 G967 H locs hq963 hR964 hS965 => ?_)
                    obtain ⟨rfl, rfl⟩ := hq963
                    refine lv_acmp_ne (rx := some (N w)) (ry := some (N w)) (tgt := 151) X.hx X.hb dJ9_fixAfterInsertion_41 (by decide) (fun c41 => ?_) (fun c41 => ?_)
                    · exact absurd rfl c41
                    · refine lv_aload_n X.hx X.hb dJ9_fixAfterInsertion_44 rfl (lv_at hl 1 rfl) ?_
                      refine gcS X hl.1 hR964 hS965 1 [.ref (N x)] [] (c_parentOfK l Γ G1 hT hx hPx) q650 q651 q48 q652 rfl rfl ⟨by decide +kernel, by decide +kernel, by decide +kernel⟩ ⟨by (try dsimp only [RM]); omega, by (try dsimp only [RM]); omega⟩ rfl rfl (Nat.le_of_ble_eq_true rfl) dJ9_fixAfterInsertion_45 ⟨by (try dsimp only [RM]); omega, by (try dsimp only [RM]); omega⟩ (fun v971 G972 H locs hq968 hR969 hS970 => ?_)
                      obtain ⟨rfl, rfl⟩ := hq968
                      refine gcS X hl.1 hR969 hS970 1 [.ref (N w)] [] (c_parentOfK l Γ G1 hT hw hPw) q650 q651 q48 q652 rfl rfl ⟨by decide +kernel, by decide +kernel, by decide +kernel⟩ ⟨by (try dsimp only [RM]); omega, by (try dsimp only [RM]); omega⟩ rfl rfl (Nat.le_of_ble_eq_true rfl) dJ9_fixAfterInsertion_48 ⟨by (try dsimp only [RM]); omega, by (try dsimp only [RM]); omega⟩ (fun v976 G977 H locs hq973 hR974 hS975 => ?_)
                      obtain ⟨rfl, rfl⟩ := hq973
                      refine gcS X hl.1 hR974 hS975 1 [.ref (N g)] [] (c_rightOfK l Γ G1 hT hg hy) q656 q657 q48 q658 rfl rfl ⟨by decide +kernel, by decide +kernel, by decide +kernel⟩ ⟨by (try dsimp only [RM]); omega, by (try dsimp only [RM]); omega⟩ rfl rfl (Nat.le_of_ble_eq_true rfl) dJ9_fixAfterInsertion_51 ⟨by (try dsimp only [RM]); omega, by (try dsimp only [RM]); omega⟩ (fun v981 G982 H locs hq978 hR979 hS980 => ?_)
                      obtain ⟨rfl, rfl⟩ := hq978
                      refine lv_astore_n (lv' := [(2, .ref (N y)), (0, .ref a), (1, .ref (N x))]) X.hx X.hb dJ9_fixAfterInsertion_54 rfl hl (by decide) rfl (fun ls hl => ?_)
                      refine lv_aload_n X.hx X.hb dJ9_fixAfterInsertion_55 rfl (lv_at hl 0 rfl) ?_
                      refine gcS X hl.1 hR979 hS980 1 [.ref (N y)] [] (c_colorOfK l Γ G1 hT hSy hCy) q659 q660 q48 q661 rfl rfl ⟨by decide +kernel, by decide +kernel, by decide +kernel⟩ ⟨by (try dsimp only [RM]); omega, by (try dsimp only [RM]); omega⟩ rfl rfl (Nat.le_of_ble_eq_true rfl) dJ9_fixAfterInsertion_56 ⟨by (try dsimp only [RM]); omega, by (try dsimp only [RM]); omega⟩ (fun v986 G987 H locs hq983 hR984 hS985 => ?_)
                      obtain ⟨rfl, rfl⟩ := hq983
                      refine lv_if_ne (tgt := 97) X.hx X.hb dJ9_fixAfterInsertion_59 (by decide) (fun c59 => ?_) (fun c59 => ?_)
                      · exact absurd rfl c59
                      · refine lv_aload_n X.hx X.hb dJ9_fixAfterInsertion_62 rfl (lv_at hl 2 rfl) ?_
                        refine gcS X hl.1 hR984 hS985 1 [.ref (N x)] [] (c_parentOfK l Γ G1 hT hx hPx) q650 q651 q48 q652 rfl rfl ⟨by decide +kernel, by decide +kernel, by decide +kernel⟩ ⟨by (try dsimp only [RM]); omega, by (try dsimp only [RM]); omega⟩ rfl rfl (Nat.le_of_ble_eq_true rfl) dJ9_fixAfterInsertion_63 ⟨by (try dsimp only [RM]); omega, by (try dsimp only [RM]); omega⟩ (fun v991 G992 H locs hq988 hR989 hS990 => ?_)
                        obtain ⟨rfl, rfl⟩ := hq988
                        refine lv_iconst (v := 1) X.hx X.hb dJ9_fixAfterInsertion_66 (by decide) ?_
                        refine gcS X hl.1 hR989 hS990 2 [.ref (N w), .int 1] [] (c_setColorS1 l Γ G1 hT hw) q662 q663 q48 q664 rfl rfl ⟨by decide +kernel, by decide +kernel, by decide +kernel⟩ ⟨by (try dsimp only [RM]); omega, by (try dsimp only [RM]); omega⟩ rfl rfl (Nat.le_of_ble_eq_true rfl) dJ9_fixAfterInsertion_67 ⟨by (try dsimp only [RM]); omega, by (try dsimp only [RM]); omega⟩ (fun v998 G999 H locs hq995 hR996 hS997 => ?_)
                        obtain ⟨rfl, hk993, hT994⟩ := hq995
                        have f1000 : G999 a = some ((4, p), .inr (7, [.null, va_rf vw, .null, va_rf (root.map N), .int sz, .int mo, .null, .null, .null])) := hk993 _ _ hM (fun h9 => by obtain ⟨k9, -, e9⟩ := h9; cases e9)
                        refine lv_aload_n X.hx X.hb dJ9_fixAfterInsertion_70 rfl (lv_at hl 0 rfl) ?_
                        refine lv_iconst (v := 1) X.hx X.hb dJ9_fixAfterInsertion_71 (by decide) ?_
                        refine gcS X hl.1 hR996 hS997 2 [.ref (N y), .int 1] [] (c_setColorS1 l Γ G999 hT994 hSy) q662 q663 q48 q664 rfl rfl ⟨by decide +kernel, by decide +kernel, by decide +kernel⟩ ⟨by (try dsimp only [RM]); omega, by (try dsimp only [RM]); omega⟩ rfl rfl (Nat.le_of_ble_eq_true rfl) dJ9_fixAfterInsertion_72 ⟨by (try dsimp only [RM]); omega, by (try dsimp only [RM]); omega⟩ (fun v1006 G1007 H locs hq1003 hR1004 hS1005 => ?_)
                        obtain ⟨rfl, hk1001, hT1002⟩ := hq1003
                        have f1008 : G1007 a = some ((4, p), .inr (7, [.null, va_rf vw, .null, va_rf (root.map N), .int sz, .int mo, .null, .null, .null])) := hk1001 _ _ f1000 (fun h9 => by obtain ⟨k9, -, e9⟩ := h9; cases e9)
                        refine lv_aload_n X.hx X.hb dJ9_fixAfterInsertion_75 rfl (lv_at hl 2 rfl) ?_
                        refine gcS X hl.1 hR1004 hS1005 1 [.ref (N x)] [] (c_parentOfK l Γ G1007 hT1002 hx hPx) q650 q651 q48 q652 rfl rfl ⟨by decide +kernel, by decide +kernel, by decide +kernel⟩ ⟨by (try dsimp only [RM]); omega, by (try dsimp only [RM]); omega⟩ rfl rfl (Nat.le_of_ble_eq_true rfl) dJ9_fixAfterInsertion_76 ⟨by (try dsimp only [RM]); omega, by (try dsimp only [RM]); omega⟩ (fun v1012 G1013 H locs hq1009 hR1010 hS1011 => ?_)
                        obtain ⟨rfl, rfl⟩ := hq1009
                        refine gcS X hl.1 hR1010 hS1011 1 [.ref (N w)] [] (c_parentOfK l Γ G1007 hT1002 hw hPw) q650 q651 q48 q652 rfl rfl ⟨by decide +kernel, by decide +kernel, by decide +kernel⟩ ⟨by (try dsimp only [RM]); omega, by (try dsimp only [RM]); omega⟩ rfl rfl (Nat.le_of_ble_eq_true rfl) dJ9_fixAfterInsertion_79 ⟨by (try dsimp only [RM]); omega, by (try dsimp only [RM]); omega⟩ (fun v1017 G1018 H locs hq1014 hR1015 hS1016 => ?_)
                        obtain ⟨rfl, rfl⟩ := hq1014
                        refine lv_iconst (v := 0) X.hx X.hb dJ9_fixAfterInsertion_82 (by decide) ?_
                        refine gcS X hl.1 hR1015 hS1016 2 [.ref (N g), .int 0] [] (c_setColorS0 l Γ G1007 hT1002 hg) q662 q663 q48 q664 rfl rfl ⟨by decide +kernel, by decide +kernel, by decide +kernel⟩ ⟨by (try dsimp only [RM]); omega, by (try dsimp only [RM]); omega⟩ rfl rfl (Nat.le_of_ble_eq_true rfl) dJ9_fixAfterInsertion_83 ⟨by (try dsimp only [RM]); omega, by (try dsimp only [RM]); omega⟩ (fun v1024 G1025 H locs hq1021 hR1022 hS1023 => ?_)
                        obtain ⟨rfl, hk1019, hT1020⟩ := hq1021
                        have f1026 : G1025 a = some ((4, p), .inr (7, [.null, va_rf vw, .null, va_rf (root.map N), .int sz, .int mo, .null, .null, .null])) := hk1019 _ _ f1008 (fun h9 => by obtain ⟨k9, -, e9⟩ := h9; cases e9)
                        refine lv_aload_n X.hx X.hb dJ9_fixAfterInsertion_86 rfl (lv_at hl 2 rfl) ?_
                        refine gcS X hl.1 hR1022 hS1023 1 [.ref (N x)] [] (c_parentOfK l Γ G1025 hT1020 hx hPx) q650 q651 q48 q652 rfl rfl ⟨by decide +kernel, by decide +kernel, by decide +kernel⟩ ⟨by (try dsimp only [RM]); omega, by (try dsimp only [RM]); omega⟩ rfl rfl (Nat.le_of_ble_eq_true rfl) dJ9_fixAfterInsertion_87 ⟨by (try dsimp only [RM]); omega, by (try dsimp only [RM]); omega⟩ (fun v1030 G1031 H locs hq1027 hR1028 hS1029 => ?_)
                        obtain ⟨rfl, rfl⟩ := hq1027
                        refine gcS X hl.1 hR1028 hS1029 1 [.ref (N w)] [] (c_parentOfK l Γ G1025 hT1020 hw hPw) q650 q651 q48 q652 rfl rfl ⟨by decide +kernel, by decide +kernel, by decide +kernel⟩ ⟨by (try dsimp only [RM]); omega, by (try dsimp only [RM]); omega⟩ rfl rfl (Nat.le_of_ble_eq_true rfl) dJ9_fixAfterInsertion_90 ⟨by (try dsimp only [RM]); omega, by (try dsimp only [RM]); omega⟩ (fun v1035 G1036 H locs hq1032 hR1033 hS1034 => ?_)
                        obtain ⟨rfl, rfl⟩ := hq1032
                        refine lv_astore_n (lv' := [(1, .ref (N g)), (2, .ref (N y)), (0, .ref a)]) X.hx X.hb dJ9_fixAfterInsertion_93 rfl hl (by decide) rfl (fun ls hl => ?_)
                        refine lv_goto (tgt := 148) X.hx X.hb dJ9_fixAfterInsertion_94 (by decide) ?_
                        refine lv_goto (tgt := 5) X.hx X.hb dJ9_fixAfterInsertion_148 (by decide) ?_
                        refine ih L R P _ _ _ root g _ _ _ _ hT1020 hI hg f1026 ?_ (gK.tr (gK.tr (gK.tr hgk (hk993.mono fun _ h => Or.inr h)) (hk1001.mono fun _ h => Or.inr h)) (hk1019.mono fun _ h => Or.inr h)) (Or.inr (by omega)) hR1033 hS1034 ⟨hl.1, lv_sub hl [2, 0] rfl⟩
                        intro r hr0 hrg
                        have hrx1 : r ≠ x := fun e => by rw [e] at hr0; exact hrx hr0
                        have h8 := hB r hr0 hrx1
                        rw [va_up_ne _ _ hrg]
                        unfold va_up
                        split
                        · rfl
                        · split
                          · rfl
                          · exact h8
              · by_cases hs : R w = some x
                · refine lv_aload_n X.hx X.hb dJ9_fixAfterInsertion_9 rfl (lv_at hl 1 rfl) ?_
                  refine lv_aload_n X.hx X.hb dJ9_fixAfterInsertion_10 rfl (lv_at hl 0 rfl) ?_
                  refine g_get X hR hM rfl in_J9 3 (by decide) q264 (fun _ h => h) rfl dJ9_fixAfterInsertion_11 ?_
                  refine lv_acmp_eq (rx := some (N x)) (ry := root.map N) (tgt := 258) X.hx X.hb dJ9_fixAfterInsertion_14 (by decide) (fun c14 => ?_) (fun c14 => ?_)
                  · exact absurd (hT.inj (fun y hy => (hI.2.2.2.2.2.2.2.2.1 y hy).1) hx c14.symm) hrx
                  · refine lv_aload_n X.hx X.hb dJ9_fixAfterInsertion_17 rfl (lv_at hl 1 rfl) ?_
                    refine g_get (v := .ref (N w)) X hR (hT.1 x hx) rfl in_J21 4 (by decide) q623 (fun _ h => h) (knv (N := N) (o := P x) (v := some w) hPx) dJ9_fixAfterInsertion_18 ?_
                    refine g_get (v := .int 0) X hR (hT.1 w hw) rfl in_J21 5 (by decide) q625 (fun _ h => h) (congrArg (fun z => some (Value.int z)) hCw) dJ9_fixAfterInsertion_21 ?_
                    refine lv_if_ne (tgt := 258) X.hx X.hb dJ9_fixAfterInsertion_24 (by decide) (fun c24 => ?_) (fun c24 => ?_)
                    · exact absurd rfl c24
                    · refine lv_aload_n X.hx X.hb dJ9_fixAfterInsertion_27 rfl (lv_at hl 1 rfl) ?_
                      refine gcS X hl.1 hR hS 1 [.ref (N x)] [] (c_parentOfK l Γ G1 hT hx hPx) q650 q651 q48 q652 rfl rfl ⟨by decide +kernel, by decide +kernel, by decide +kernel⟩ ⟨by (try dsimp only [RM]); omega, by (try dsimp only [RM]); omega⟩ rfl rfl (Nat.le_of_ble_eq_true rfl) dJ9_fixAfterInsertion_28 ⟨by (try dsimp only [RM]); omega, by (try dsimp only [RM]); omega⟩ (fun v1040 G1041 H locs hq1037 hR1038 hS1039 => ?_)
                      obtain ⟨rfl, rfl⟩ := hq1037
                      refine lv_aload_n X.hx X.hb dJ9_fixAfterInsertion_31 rfl (lv_at hl 1 rfl) ?_
                      refine gcS X hl.1 hR1038 hS1039 1 [.ref (N x)] [.ref (N w)] (c_parentOfK l Γ G1 hT hx hPx) q650 q651 q48 q652 rfl rfl ⟨by decide +kernel, by decide +kernel, by decide +kernel⟩ ⟨by (try dsimp only [RM]); omega, by (try dsimp only [RM]); omega⟩ rfl rfl (Nat.le_of_ble_eq_true rfl) dJ9_fixAfterInsertion_32 ⟨by (try dsimp only [RM]); omega, by (try dsimp only [RM]); omega⟩ (fun v1045 G1046 H locs hq1042 hR1043 hS1044 => ?_)
                      obtain ⟨rfl, rfl⟩ := hq1042
                      refine gcS X hl.1 hR1043 hS1044 1 [.ref (N w)] [.ref (N w)] (c_parentOfK l Γ G1 hT hw hPw) q650 q651 q48 q652 rfl rfl ⟨by decide +kernel, by decide +kernel, by decide +kernel⟩ ⟨by (try dsimp only [RM]); omega, by (try dsimp only [RM]); omega⟩ rfl rfl (Nat.le_of_ble_eq_true rfl) dJ9_fixAfterInsertion_35 ⟨by (try dsimp only [RM]); omega, by (try dsimp only [RM]); omega⟩ (fun v1050 G1051 H locs hq1047 hR1048 hS1049 => ?_)
                      obtain ⟨rfl, rfl⟩ := hq1047
                      refine gcS X hl.1 hR1048 hS1049 1 [.ref (N g)] [.ref (N w)] (c_leftOfK l Γ G1 hT hg hLg) q653 q654 q48 q655 rfl rfl ⟨by decide +kernel, by decide +kernel, by decide +kernel⟩ ⟨by (try dsimp only [RM]); omega, by (try dsimp only [RM]); omega⟩ rfl rfl (Nat.le_of_ble_eq_true rfl) dJ9_fixAfterInsertion_38 ⟨by (try dsimp only [RM]); omega, by (try dsimp only [RM]); omega⟩ (fun v1055 G1056 H locs hq1052 hR1053 hS1054 => ?_)
                      obtain ⟨rfl, rfl⟩ := hq1052
                      refine lv_acmp_ne (rx := some (N w)) (ry := some (N w)) (tgt := 151) X.hx X.hb dJ9_fixAfterInsertion_41 (by decide) (fun c41 => ?_) (fun c41 => ?_)
                      · exact absurd rfl c41
                      · refine lv_aload_n X.hx X.hb dJ9_fixAfterInsertion_44 rfl (lv_at hl 1 rfl) ?_
                        refine gcS X hl.1 hR1053 hS1054 1 [.ref (N x)] [] (c_parentOfK l Γ G1 hT hx hPx) q650 q651 q48 q652 rfl rfl ⟨by decide +kernel, by decide +kernel, by decide +kernel⟩ ⟨by (try dsimp only [RM]); omega, by (try dsimp only [RM]); omega⟩ rfl rfl (Nat.le_of_ble_eq_true rfl) dJ9_fixAfterInsertion_45 ⟨by (try dsimp only [RM]); omega, by (try dsimp only [RM]); omega⟩ (fun v1060 G1061 H locs hq1057 hR1058 hS1059 => ?_)
                        obtain ⟨rfl, rfl⟩ := hq1057
                        refine gcS X hl.1 hR1058 hS1059 1 [.ref (N w)] [] (c_parentOfK l Γ G1 hT hw hPw) q650 q651 q48 q652 rfl rfl ⟨by decide +kernel, by decide +kernel, by decide +kernel⟩ ⟨by (try dsimp only [RM]); omega, by (try dsimp only [RM]); omega⟩ rfl rfl (Nat.le_of_ble_eq_true rfl) dJ9_fixAfterInsertion_48 ⟨by (try dsimp only [RM]); omega, by (try dsimp only [RM]); omega⟩ (fun v1065 G1066 H locs hq1062 hR1063 hS1064 => ?_)
                        obtain ⟨rfl, rfl⟩ := hq1062
                        refine gcS X hl.1 hR1063 hS1064 1 [.ref (N g)] [] (c_rightOfK l Γ G1 hT hg hy) q656 q657 q48 q658 rfl rfl ⟨by decide +kernel, by decide +kernel, by decide +kernel⟩ ⟨by (try dsimp only [RM]); omega, by (try dsimp only [RM]); omega⟩ rfl rfl (Nat.le_of_ble_eq_true rfl) dJ9_fixAfterInsertion_51 ⟨by (try dsimp only [RM]); omega, by (try dsimp only [RM]); omega⟩ (fun v1070 G1071 H locs hq1067 hR1068 hS1069 => ?_)
                        obtain ⟨rfl, rfl⟩ := hq1067
                        refine lv_astore_n (lv' := [(2, .ref (N y)), (0, .ref a), (1, .ref (N x))]) X.hx X.hb dJ9_fixAfterInsertion_54 rfl hl (by decide) rfl (fun ls hl => ?_)
                        refine lv_aload_n X.hx X.hb dJ9_fixAfterInsertion_55 rfl (lv_at hl 0 rfl) ?_
                        refine gcS X hl.1 hR1068 hS1069 1 [.ref (N y)] [] (c_colorOfK l Γ G1 hT hSy hCy) q659 q660 q48 q661 rfl rfl ⟨by decide +kernel, by decide +kernel, by decide +kernel⟩ ⟨by (try dsimp only [RM]); omega, by (try dsimp only [RM]); omega⟩ rfl rfl (Nat.le_of_ble_eq_true rfl) dJ9_fixAfterInsertion_56 ⟨by (try dsimp only [RM]); omega, by (try dsimp only [RM]); omega⟩ (fun v1075 G1076 H locs hq1072 hR1073 hS1074 => ?_)
                        obtain ⟨rfl, rfl⟩ := hq1072
                        refine lv_if_ne (tgt := 97) X.hx X.hb dJ9_fixAfterInsertion_59 (by decide) (fun c59 => ?_) (fun c59 => ?_)
                        · refine lv_aload_n X.hx X.hb dJ9_fixAfterInsertion_97 rfl (lv_at hl 2 rfl) ?_
                          refine lv_aload_n X.hx X.hb dJ9_fixAfterInsertion_98 rfl (lv_at hl 2 rfl) ?_
                          refine gcS X hl.1 hR1073 hS1074 1 [.ref (N x)] [.ref (N x)] (c_parentOfK l Γ G1 hT hx hPx) q650 q651 q48 q652 rfl rfl ⟨by decide +kernel, by decide +kernel, by decide +kernel⟩ ⟨by (try dsimp only [RM]); omega, by (try dsimp only [RM]); omega⟩ rfl rfl (Nat.le_of_ble_eq_true rfl) dJ9_fixAfterInsertion_99 ⟨by (try dsimp only [RM]); omega, by (try dsimp only [RM]); omega⟩ (fun v1080 G1081 H locs hq1077 hR1078 hS1079 => ?_)
                          obtain ⟨rfl, rfl⟩ := hq1077
                          refine gcS X hl.1 hR1078 hS1079 1 [.ref (N w)] [.ref (N x)] (c_rightOfK l Γ G1 hT hw hs) q656 q657 q48 q658 rfl rfl ⟨by decide +kernel, by decide +kernel, by decide +kernel⟩ ⟨by (try dsimp only [RM]); omega, by (try dsimp only [RM]); omega⟩ rfl rfl (Nat.le_of_ble_eq_true rfl) dJ9_fixAfterInsertion_102 ⟨by (try dsimp only [RM]); omega, by (try dsimp only [RM]); omega⟩ (fun v1085 G1086 H locs hq1082 hR1083 hS1084 => ?_)
                          obtain ⟨rfl, rfl⟩ := hq1082
                          refine lv_acmp_ne (rx := some (N x)) (ry := some (N x)) (tgt := 118) X.hx X.hb dJ9_fixAfterInsertion_105 (by decide) (fun c105 => ?_) (fun c105 => ?_)
                          · exact absurd rfl c105
                          · refine lv_aload_n X.hx X.hb dJ9_fixAfterInsertion_108 rfl (lv_at hl 2 rfl) ?_
                            refine gcS X hl.1 hR1083 hS1084 1 [.ref (N x)] [] (c_parentOfK l Γ G1 hT hx hPx) q650 q651 q48 q652 rfl rfl ⟨by decide +kernel, by decide +kernel, by decide +kernel⟩ ⟨by (try dsimp only [RM]); omega, by (try dsimp only [RM]); omega⟩ rfl rfl (Nat.le_of_ble_eq_true rfl) dJ9_fixAfterInsertion_109 ⟨by (try dsimp only [RM]); omega, by (try dsimp only [RM]); omega⟩ (fun v1090 G1091 H locs hq1087 hR1088 hS1089 => ?_)
                            obtain ⟨rfl, rfl⟩ := hq1087
                            refine lv_astore_n (lv' := [(1, .ref (N w)), (2, .ref (N y)), (0, .ref a)]) X.hx X.hb dJ9_fixAfterInsertion_112 rfl hl (by decide) rfl (fun ls hl => ?_)
                            refine lv_aload_n X.hx X.hb dJ9_fixAfterInsertion_113 rfl (lv_at hl 2 rfl) ?_
                            refine lv_aload_n X.hx X.hb dJ9_fixAfterInsertion_114 rfl (lv_at hl 0 rfl) ?_
                            refine gcV X hl.1 hR1088 hS1089 1 [.ref (N w)] [] (c_rotL l Γ G1 hT hI hM hw hs) hM rfl q665 q667 qs10 q48 q668 rfl rfl ⟨rfl, by decide +kernel, by decide +kernel, by decide +kernel⟩ ⟨by (try dsimp only [RM]); omega, by (try dsimp only [RM]); omega⟩ rfl rfl (Nat.le_of_ble_eq_true rfl) dJ9_fixAfterInsertion_115 ⟨by (try dsimp only [RM]); omega, by (try dsimp only [RM]); omega⟩ (fun v1104 G1105 H locs hq1101 hR1102 hS1103 => ?_)
                            obtain ⟨rfl, hk1092, L1094, R1095, P1096, root1097, hT1093, f1098, hrot1099⟩ := hq1101
                            have hI1100 := hrot1099.TI_L hI hw hs
                            have a1 : P1096 w = some x := hrot1099.2.2.2.2.2.2.1
                            have a2 : P1096 x = some g := hrot1099.2.2.2.2.2.2.2.1.trans hPw
                            have a3 : L1094 g = some x := hrot1099.2.1 g hgx hPw hLg
                            have a4 : root1097 = root := hrot1099.2.2.2.2.2.2.2.2.2.2.2 g hPw
                            have a5 : L1094 x = some w := hrot1099.1
                            refine lv_aload_n X.hx X.hb dJ9_fixAfterInsertion_118 rfl (lv_at hl 0 rfl) ?_
                            refine gcS X hl.1 hR1102 hS1103 1 [.ref (N w)] [] (c_parentOfK l Γ G1105 hT1093 hw a1) q650 q651 q48 q652 rfl rfl ⟨by decide +kernel, by decide +kernel, by decide +kernel⟩ ⟨by (try dsimp only [RM]); omega, by (try dsimp only [RM]); omega⟩ rfl rfl (Nat.le_of_ble_eq_true rfl) dJ9_fixAfterInsertion_119 ⟨by (try dsimp only [RM]); omega, by (try dsimp only [RM]); omega⟩ (fun v1109 G1110 H locs hq1106 hR1107 hS1108 => ?_)
                            obtain ⟨rfl, rfl⟩ := hq1106
                            refine lv_iconst (v := 1) X.hx X.hb dJ9_fixAfterInsertion_122 (by decide) ?_
                            refine gcS X hl.1 hR1107 hS1108 2 [.ref (N x), .int 1] [] (c_setColorS1 l Γ G1105 hT1093 hx) q662 q663 q48 q664 rfl rfl ⟨by decide +kernel, by decide +kernel, by decide +kernel⟩ ⟨by (try dsimp only [RM]); omega, by (try dsimp only [RM]); omega⟩ rfl rfl (Nat.le_of_ble_eq_true rfl) dJ9_fixAfterInsertion_123 ⟨by (try dsimp only [RM]); omega, by (try dsimp only [RM]); omega⟩ (fun v1116 G1117 H locs hq1113 hR1114 hS1115 => ?_)
                            obtain ⟨rfl, hk1111, hT1112⟩ := hq1113
                            have f1118 : G1117 a = some ((4, p), .inr (7, [.null, va_rf vw, .null, va_rf (root1097.map N), .int sz, .int mo, .null, .null, .null])) := hk1111 _ _ f1098 (fun h9 => by obtain ⟨k9, -, e9⟩ := h9; cases e9)
                            refine lv_aload_n X.hx X.hb dJ9_fixAfterInsertion_126 rfl (lv_at hl 0 rfl) ?_
                            refine gcS X hl.1 hR1114 hS1115 1 [.ref (N w)] [] (c_parentOfK l Γ G1117 hT1112 hw a1) q650 q651 q48 q652 rfl rfl ⟨by decide +kernel, by decide +kernel, by decide +kernel⟩ ⟨by (try dsimp only [RM]); omega, by (try dsimp only [RM]); omega⟩ rfl rfl (Nat.le_of_ble_eq_true rfl) dJ9_fixAfterInsertion_127 ⟨by (try dsimp only [RM]); omega, by (try dsimp only [RM]); omega⟩ (fun v1122 G1123 H locs hq1119 hR1120 hS1121 => ?_)
                            obtain ⟨rfl, rfl⟩ := hq1119
                            refine gcS X hl.1 hR1120 hS1121 1 [.ref (N x)] [] (c_parentOfK l Γ G1117 hT1112 hx a2) q650 q651 q48 q652 rfl rfl ⟨by decide +kernel, by decide +kernel, by decide +kernel⟩ ⟨by (try dsimp only [RM]); omega, by (try dsimp only [RM]); omega⟩ rfl rfl (Nat.le_of_ble_eq_true rfl) dJ9_fixAfterInsertion_130 ⟨by (try dsimp only [RM]); omega, by (try dsimp only [RM]); omega⟩ (fun v1127 G1128 H locs hq1124 hR1125 hS1126 => ?_)
                            obtain ⟨rfl, rfl⟩ := hq1124
                            refine lv_iconst (v := 0) X.hx X.hb dJ9_fixAfterInsertion_133 (by decide) ?_
                            refine gcS X hl.1 hR1125 hS1126 2 [.ref (N g), .int 0] [] (c_setColorS0 l Γ G1117 hT1112 hg) q662 q663 q48 q664 rfl rfl ⟨by decide +kernel, by decide +kernel, by decide +kernel⟩ ⟨by (try dsimp only [RM]); omega, by (try dsimp only [RM]); omega⟩ rfl rfl (Nat.le_of_ble_eq_true rfl) dJ9_fixAfterInsertion_134 ⟨by (try dsimp only [RM]); omega, by (try dsimp only [RM]); omega⟩ (fun v1134 G1135 H locs hq1131 hR1132 hS1133 => ?_)
                            obtain ⟨rfl, hk1129, hT1130⟩ := hq1131
                            have f1136 : G1135 a = some ((4, p), .inr (7, [.null, va_rf vw, .null, va_rf (root1097.map N), .int sz, .int mo, .null, .null, .null])) := hk1129 _ _ f1118 (fun h9 => by obtain ⟨k9, -, e9⟩ := h9; cases e9)
                            refine lv_aload_n X.hx X.hb dJ9_fixAfterInsertion_137 rfl (lv_at hl 2 rfl) ?_
                            refine lv_aload_n X.hx X.hb dJ9_fixAfterInsertion_138 rfl (lv_at hl 0 rfl) ?_
                            refine gcS X hl.1 hR1132 hS1133 1 [.ref (N w)] [.ref a] (c_parentOfK l Γ G1135 hT1130 hw a1) q650 q651 q48 q652 rfl rfl ⟨by decide +kernel, by decide +kernel, by decide +kernel⟩ ⟨by (try dsimp only [RM]); omega, by (try dsimp only [RM]); omega⟩ rfl rfl (Nat.le_of_ble_eq_true rfl) dJ9_fixAfterInsertion_139 ⟨by (try dsimp only [RM]); omega, by (try dsimp only [RM]); omega⟩ (fun v1140 G1141 H locs hq1137 hR1138 hS1139 => ?_)
                            obtain ⟨rfl, rfl⟩ := hq1137
                            refine gcS X hl.1 hR1138 hS1139 1 [.ref (N x)] [.ref a] (c_parentOfK l Γ G1135 hT1130 hx a2) q650 q651 q48 q652 rfl rfl ⟨by decide +kernel, by decide +kernel, by decide +kernel⟩ ⟨by (try dsimp only [RM]); omega, by (try dsimp only [RM]); omega⟩ rfl rfl (Nat.le_of_ble_eq_true rfl) dJ9_fixAfterInsertion_142 ⟨by (try dsimp only [RM]); omega, by (try dsimp only [RM]); omega⟩ (fun v1145 G1146 H locs hq1142 hR1143 hS1144 => ?_)
                            obtain ⟨rfl, rfl⟩ := hq1142
                            refine gcV X hl.1 hR1143 hS1144 1 [.ref (N g)] [] (c_rotR l Γ G1135 hT1130 hI1100 f1136 hg a3) f1136 rfl q669 q671 qs11 q48 q672 rfl rfl ⟨rfl, by decide +kernel, by decide +kernel, by decide +kernel⟩ ⟨by (try dsimp only [RM]); omega, by (try dsimp only [RM]); omega⟩ rfl rfl (Nat.le_of_ble_eq_true rfl) dJ9_fixAfterInsertion_145 ⟨by (try dsimp only [RM]); omega, by (try dsimp only [RM]); omega⟩ (fun v1159 G1160 H locs hq1156 hR1157 hS1158 => ?_)
                            obtain ⟨rfl, hk1147, L1149, R1150, P1151, root1152, hT1148, f1153, hrot1154⟩ := hq1156
                            have hI1155 := hrot1154.TI_R hI1100 hg a3
                            refine lv_goto (tgt := 5) X.hx X.hb dJ9_fixAfterInsertion_148 (by decide) ?_
                            have b0 : ∀ r, root1097 = some r → r ≠ w → r ≠ x → C r = 1 := fun r h1 h2 h3 => hB r (a4 ▸ h1) h3
                            obtain ⟨b1, b2⟩ := fix_A2 (z := w) (C := C) hrot1154 (TI_rp hI1100) a1 (Ne.symm hgw) hwx (Ne.symm hgx) (TI_LR hI1100 hx a5) b0
                            exact ih L1149 R1150 P1151 _ _ _ root1152 w _ _ _ _ hT1148 hI1155 hw f1153 b2 (gK.tr (gK.tr (gK.tr (gK.tr hgk hk1092) (hk1111.mono fun _ h => Or.inr h)) (hk1129.mono fun _ h => Or.inr h)) hk1147) (Or.inl ⟨b1, by omega⟩) hR1157 hS1158 ⟨hl.1, lv_sub hl [2, 0] rfl⟩
                        · exact absurd c59 (by decide)
                · refine lv_aload_n X.hx X.hb dJ9_fixAfterInsertion_9 rfl (lv_at hl 1 rfl) ?_
                  refine lv_aload_n X.hx X.hb dJ9_fixAfterInsertion_10 rfl (lv_at hl 0 rfl) ?_
                  refine g_get X hR hM rfl in_J9 3 (by decide) q264 (fun _ h => h) rfl dJ9_fixAfterInsertion_11 ?_
                  refine lv_acmp_eq (rx := some (N x)) (ry := root.map N) (tgt := 258) X.hx X.hb dJ9_fixAfterInsertion_14 (by decide) (fun c14 => ?_) (fun c14 => ?_)
                  · exact absurd (hT.inj (fun y hy => (hI.2.2.2.2.2.2.2.2.1 y hy).1) hx c14.symm) hrx
                  · refine lv_aload_n X.hx X.hb dJ9_fixAfterInsertion_17 rfl (lv_at hl 1 rfl) ?_
                    refine g_get (v := .ref (N w)) X hR (hT.1 x hx) rfl in_J21 4 (by decide) q623 (fun _ h => h) (knv (N := N) (o := P x) (v := some w) hPx) dJ9_fixAfterInsertion_18 ?_
                    refine g_get (v := .int 0) X hR (hT.1 w hw) rfl in_J21 5 (by decide) q625 (fun _ h => h) (congrArg (fun z => some (Value.int z)) hCw) dJ9_fixAfterInsertion_21 ?_
                    refine lv_if_ne (tgt := 258) X.hx X.hb dJ9_fixAfterInsertion_24 (by decide) (fun c24 => ?_) (fun c24 => ?_)
                    · exact absurd rfl c24
                    · refine lv_aload_n X.hx X.hb dJ9_fixAfterInsertion_27 rfl (lv_at hl 1 rfl) ?_
                      refine gcS X hl.1 hR hS 1 [.ref (N x)] [] (c_parentOfK l Γ G1 hT hx hPx) q650 q651 q48 q652 rfl rfl ⟨by decide +kernel, by decide +kernel, by decide +kernel⟩ ⟨by (try dsimp only [RM]); omega, by (try dsimp only [RM]); omega⟩ rfl rfl (Nat.le_of_ble_eq_true rfl) dJ9_fixAfterInsertion_28 ⟨by (try dsimp only [RM]); omega, by (try dsimp only [RM]); omega⟩ (fun v1164 G1165 H locs hq1161 hR1162 hS1163 => ?_)
                      obtain ⟨rfl, rfl⟩ := hq1161
                      refine lv_aload_n X.hx X.hb dJ9_fixAfterInsertion_31 rfl (lv_at hl 1 rfl) ?_
                      refine gcS X hl.1 hR1162 hS1163 1 [.ref (N x)] [.ref (N w)] (c_parentOfK l Γ G1 hT hx hPx) q650 q651 q48 q652 rfl rfl ⟨by decide +kernel, by decide +kernel, by decide +kernel⟩ ⟨by (try dsimp only [RM]); omega, by (try dsimp only [RM]); omega⟩ rfl rfl (Nat.le_of_ble_eq_true rfl) dJ9_fixAfterInsertion_32 ⟨by (try dsimp only [RM]); omega, by (try dsimp only [RM]); omega⟩ (fun v1169 G1170 H locs hq1166 hR1167 hS1168 => ?_)
                      obtain ⟨rfl, rfl⟩ := hq1166
                      refine gcS X hl.1 hR1167 hS1168 1 [.ref (N w)] [.ref (N w)] (c_parentOfK l Γ G1 hT hw hPw) q650 q651 q48 q652 rfl rfl ⟨by decide +kernel, by decide +kernel, by decide +kernel⟩ ⟨by (try dsimp only [RM]); omega, by (try dsimp only [RM]); omega⟩ rfl rfl (Nat.le_of_ble_eq_true rfl) dJ9_fixAfterInsertion_35 ⟨by (try dsimp only [RM]); omega, by (try dsimp only [RM]); omega⟩ (fun v1174 G1175 H locs hq1171 hR1172 hS1173 => ?_)
                      obtain ⟨rfl, rfl⟩ := hq1171
                      refine gcS X hl.1 hR1172 hS1173 1 [.ref (N g)] [.ref (N w)] (c_leftOfK l Γ G1 hT hg hLg) q653 q654 q48 q655 rfl rfl ⟨by decide +kernel, by decide +kernel, by decide +kernel⟩ ⟨by (try dsimp only [RM]); omega, by (try dsimp only [RM]); omega⟩ rfl rfl (Nat.le_of_ble_eq_true rfl) dJ9_fixAfterInsertion_38 ⟨by (try dsimp only [RM]); omega, by (try dsimp only [RM]); omega⟩ (fun v1179 G1180 H locs hq1176 hR1177 hS1178 => ?_)
                      obtain ⟨rfl, rfl⟩ := hq1176
                      refine lv_acmp_ne (rx := some (N w)) (ry := some (N w)) (tgt := 151) X.hx X.hb dJ9_fixAfterInsertion_41 (by decide) (fun c41 => ?_) (fun c41 => ?_)
                      · exact absurd rfl c41
                      · refine lv_aload_n X.hx X.hb dJ9_fixAfterInsertion_44 rfl (lv_at hl 1 rfl) ?_
                        refine gcS X hl.1 hR1177 hS1178 1 [.ref (N x)] [] (c_parentOfK l Γ G1 hT hx hPx) q650 q651 q48 q652 rfl rfl ⟨by decide +kernel, by decide +kernel, by decide +kernel⟩ ⟨by (try dsimp only [RM]); omega, by (try dsimp only [RM]); omega⟩ rfl rfl (Nat.le_of_ble_eq_true rfl) dJ9_fixAfterInsertion_45 ⟨by (try dsimp only [RM]); omega, by (try dsimp only [RM]); omega⟩ (fun v1184 G1185 H locs hq1181 hR1182 hS1183 => ?_)
                        obtain ⟨rfl, rfl⟩ := hq1181
                        refine gcS X hl.1 hR1182 hS1183 1 [.ref (N w)] [] (c_parentOfK l Γ G1 hT hw hPw) q650 q651 q48 q652 rfl rfl ⟨by decide +kernel, by decide +kernel, by decide +kernel⟩ ⟨by (try dsimp only [RM]); omega, by (try dsimp only [RM]); omega⟩ rfl rfl (Nat.le_of_ble_eq_true rfl) dJ9_fixAfterInsertion_48 ⟨by (try dsimp only [RM]); omega, by (try dsimp only [RM]); omega⟩ (fun v1189 G1190 H locs hq1186 hR1187 hS1188 => ?_)
                        obtain ⟨rfl, rfl⟩ := hq1186
                        refine gcS X hl.1 hR1187 hS1188 1 [.ref (N g)] [] (c_rightOfK l Γ G1 hT hg hy) q656 q657 q48 q658 rfl rfl ⟨by decide +kernel, by decide +kernel, by decide +kernel⟩ ⟨by (try dsimp only [RM]); omega, by (try dsimp only [RM]); omega⟩ rfl rfl (Nat.le_of_ble_eq_true rfl) dJ9_fixAfterInsertion_51 ⟨by (try dsimp only [RM]); omega, by (try dsimp only [RM]); omega⟩ (fun v1194 G1195 H locs hq1191 hR1192 hS1193 => ?_)
                        obtain ⟨rfl, rfl⟩ := hq1191
                        refine lv_astore_n (lv' := [(2, .ref (N y)), (0, .ref a), (1, .ref (N x))]) X.hx X.hb dJ9_fixAfterInsertion_54 rfl hl (by decide) rfl (fun ls hl => ?_)
                        refine lv_aload_n X.hx X.hb dJ9_fixAfterInsertion_55 rfl (lv_at hl 0 rfl) ?_
                        refine gcS X hl.1 hR1192 hS1193 1 [.ref (N y)] [] (c_colorOfK l Γ G1 hT hSy hCy) q659 q660 q48 q661 rfl rfl ⟨by decide +kernel, by decide +kernel, by decide +kernel⟩ ⟨by (try dsimp only [RM]); omega, by (try dsimp only [RM]); omega⟩ rfl rfl (Nat.le_of_ble_eq_true rfl) dJ9_fixAfterInsertion_56 ⟨by (try dsimp only [RM]); omega, by (try dsimp only [RM]); omega⟩ (fun v1199 G1200 H locs hq1196 hR1197 hS1198 => ?_)
                        obtain ⟨rfl, rfl⟩ := hq1196
                        refine lv_if_ne (tgt := 97) X.hx X.hb dJ9_fixAfterInsertion_59 (by decide) (fun c59 => ?_) (fun c59 => ?_)
                        · refine lv_aload_n X.hx X.hb dJ9_fixAfterInsertion_97 rfl (lv_at hl 2 rfl) ?_
                          refine lv_aload_n X.hx X.hb dJ9_fixAfterInsertion_98 rfl (lv_at hl 2 rfl) ?_
                          refine gcS X hl.1 hR1197 hS1198 1 [.ref (N x)] [.ref (N x)] (c_parentOfK l Γ G1 hT hx hPx) q650 q651 q48 q652 rfl rfl ⟨by decide +kernel, by decide +kernel, by decide +kernel⟩ ⟨by (try dsimp only [RM]); omega, by (try dsimp only [RM]); omega⟩ rfl rfl (Nat.le_of_ble_eq_true rfl) dJ9_fixAfterInsertion_99 ⟨by (try dsimp only [RM]); omega, by (try dsimp only [RM]); omega⟩ (fun v1204 G1205 H locs hq1201 hR1202 hS1203 => ?_)
                          obtain ⟨rfl, rfl⟩ := hq1201
                          refine gcS X hl.1 hR1202 hS1203 1 [.ref (N w)] [.ref (N x)] (c_rightOfS l Γ G1 hT hw) q656 q657 q48 q658 rfl rfl ⟨by decide +kernel, by decide +kernel, by decide +kernel⟩ ⟨by (try dsimp only [RM]); omega, by (try dsimp only [RM]); omega⟩ rfl rfl (Nat.le_of_ble_eq_true rfl) dJ9_fixAfterInsertion_102 ⟨by (try dsimp only [RM]); omega, by (try dsimp only [RM]); omega⟩ (fun v1209 G1210 H locs hq1206 hR1207 hS1208 => ?_)
                          obtain ⟨rfl, rfl⟩ := hq1206
                          refine lv_acmp_ne (rx := some (N x)) (ry := (R w).map N) (tgt := 118) X.hx X.hb dJ9_fixAfterInsertion_105 (by decide) (fun c105 => ?_) (fun c105 => ?_)
                          · refine lv_aload_n X.hx X.hb dJ9_fixAfterInsertion_118 rfl (lv_at hl 2 rfl) ?_
                            refine gcS X hl.1 hR1207 hS1208 1 [.ref (N x)] [] (c_parentOfK l Γ G1 hT hx hPx) q650 q651 q48 q652 rfl rfl ⟨by decide +kernel, by decide +kernel, by decide +kernel⟩ ⟨by (try dsimp only [RM]); omega, by (try dsimp only [RM]); omega⟩ rfl rfl (Nat.le_of_ble_eq_true rfl) dJ9_fixAfterInsertion_119 ⟨by (try dsimp only [RM]); omega, by (try dsimp only [RM]); omega⟩ (fun v1214 G1215 H locs hq1211 hR1212 hS1213 => ?_)
                            obtain ⟨rfl, rfl⟩ := hq1211
                            refine lv_iconst (v := 1) X.hx X.hb dJ9_fixAfterInsertion_122 (by decide) ?_
                            refine gcS X hl.1 hR1212 hS1213 2 [.ref (N w), .int 1] [] (c_setColorS1 l Γ G1 hT hw) q662 q663 q48 q664 rfl rfl ⟨by decide +kernel, by decide +kernel, by decide +kernel⟩ ⟨by (try dsimp only [RM]); omega, by (try dsimp only [RM]); omega⟩ rfl rfl (Nat.le_of_ble_eq_true rfl) dJ9_fixAfterInsertion_123 ⟨by (try dsimp only [RM]); omega, by (try dsimp only [RM]); omega⟩ (fun v1221 G1222 H locs hq1218 hR1219 hS1220 => ?_)
                            obtain ⟨rfl, hk1216, hT1217⟩ := hq1218
                            have f1223 : G1222 a = some ((4, p), .inr (7, [.null, va_rf vw, .null, va_rf (root.map N), .int sz, .int mo, .null, .null, .null])) := hk1216 _ _ hM (fun h9 => by obtain ⟨k9, -, e9⟩ := h9; cases e9)
                            refine lv_aload_n X.hx X.hb dJ9_fixAfterInsertion_126 rfl (lv_at hl 2 rfl) ?_
                            refine gcS X hl.1 hR1219 hS1220 1 [.ref (N x)] [] (c_parentOfK l Γ G1222 hT1217 hx hPx) q650 q651 q48 q652 rfl rfl ⟨by decide +kernel, by decide +kernel, by decide +kernel⟩ ⟨by (try dsimp only [RM]); omega, by (try dsimp only [RM]); omega⟩ rfl rfl (Nat.le_of_ble_eq_true rfl) dJ9_fixAfterInsertion_127 ⟨by (try dsimp only [RM]); omega, by (try dsimp only [RM]); omega⟩ (fun v1227 G1228 H locs hq1224 hR1225 hS1226 => ?_)
                            obtain ⟨rfl, rfl⟩ := hq1224
                            refine gcS X hl.1 hR1225 hS1226 1 [.ref (N w)] [] (c_parentOfK l Γ G1222 hT1217 hw hPw) q650 q651 q48 q652 rfl rfl ⟨by decide +kernel, by decide +kernel, by decide +kernel⟩ ⟨by (try dsimp only [RM]); omega, by (try dsimp only [RM]); omega⟩ rfl rfl (Nat.le_of_ble_eq_true rfl) dJ9_fixAfterInsertion_130 ⟨by (try dsimp only [RM]); omega, by (try dsimp only [RM]); omega⟩ (fun v1232 G1233 H locs hq1229 hR1230 hS1231 => ?_)
                            obtain ⟨rfl, rfl⟩ := hq1229
                            refine lv_iconst (v := 0) X.hx X.hb dJ9_fixAfterInsertion_133 (by decide) ?_
                            refine gcS X hl.1 hR1230 hS1231 2 [.ref (N g), .int 0] [] (c_setColorS0 l Γ G1222 hT1217 hg) q662 q663 q48 q664 rfl rfl ⟨by decide +kernel, by decide +kernel, by decide +kernel⟩ ⟨by (try dsimp only [RM]); omega, by (try dsimp only [RM]); omega⟩ rfl rfl (Nat.le_of_ble_eq_true rfl) dJ9_fixAfterInsertion_134 ⟨by (try dsimp only [RM]); omega, by (try dsimp only [RM]); omega⟩ (fun v1239 G1240 H locs hq1236 hR1237 hS1238 => ?_)
                            obtain ⟨rfl, hk1234, hT1235⟩ := hq1236
                            have f1241 : G1240 a = some ((4, p), .inr (7, [.null, va_rf vw, .null, va_rf (root.map N), .int sz, .int mo, .null, .null, .null])) := hk1234 _ _ f1223 (fun h9 => by obtain ⟨k9, -, e9⟩ := h9; cases e9)
                            refine lv_aload_n X.hx X.hb dJ9_fixAfterInsertion_137 rfl (lv_at hl 1 rfl) ?_
                            refine lv_aload_n X.hx X.hb dJ9_fixAfterInsertion_138 rfl (lv_at hl 2 rfl) ?_
                            refine gcS X hl.1 hR1237 hS1238 1 [.ref (N x)] [.ref a] (c_parentOfK l Γ G1240 hT1235 hx hPx) q650 q651 q48 q652 rfl rfl ⟨by decide +kernel, by decide +kernel, by decide +kernel⟩ ⟨by (try dsimp only [RM]); omega, by (try dsimp only [RM]); omega⟩ rfl rfl (Nat.le_of_ble_eq_true rfl) dJ9_fixAfterInsertion_139 ⟨by (try dsimp only [RM]); omega, by (try dsimp only [RM]); omega⟩ (fun v1245 G1246 H locs hq1242 hR1243 hS1244 => ?_)
                            obtain ⟨rfl, rfl⟩ := hq1242
                            refine gcS X hl.1 hR1243 hS1244 1 [.ref (N w)] [.ref a] (c_parentOfK l Γ G1240 hT1235 hw hPw) q650 q651 q48 q652 rfl rfl ⟨by decide +kernel, by decide +kernel, by decide +kernel⟩ ⟨by (try dsimp only [RM]); omega, by (try dsimp only [RM]); omega⟩ rfl rfl (Nat.le_of_ble_eq_true rfl) dJ9_fixAfterInsertion_142 ⟨by (try dsimp only [RM]); omega, by (try dsimp only [RM]); omega⟩ (fun v1250 G1251 H locs hq1247 hR1248 hS1249 => ?_)
                            obtain ⟨rfl, rfl⟩ := hq1247
                            refine gcV X hl.1 hR1248 hS1249 1 [.ref (N g)] [] (c_rotR l Γ G1240 hT1235 hI f1241 hg hLg) f1241 rfl q669 q671 qs11 q48 q672 rfl rfl ⟨rfl, by decide +kernel, by decide +kernel, by decide +kernel⟩ ⟨by (try dsimp only [RM]); omega, by (try dsimp only [RM]); omega⟩ rfl rfl (Nat.le_of_ble_eq_true rfl) dJ9_fixAfterInsertion_145 ⟨by (try dsimp only [RM]); omega, by (try dsimp only [RM]); omega⟩ (fun v1264 G1265 H locs hq1261 hR1262 hS1263 => ?_)
                            obtain ⟨rfl, hk1252, L1254, R1255, P1256, root1257, hT1253, f1258, hrot1259⟩ := hq1261
                            have hI1260 := hrot1259.TI_R hI hg hLg
                            refine lv_goto (tgt := 5) X.hx X.hb dJ9_fixAfterInsertion_148 (by decide) ?_
                            have b0 : ∀ r, root = some r → r ≠ x → r ≠ w → C r = 1 := fun r h1 h2 h3 => hB r (h1) h2
                            obtain ⟨b1, b2⟩ := fix_A2 (z := x) (C := C) hrot1259 (TI_rp hI) hPx (Ne.symm hgx) (Ne.symm hwx) (Ne.symm hgw) hs b0
                            exact ih L1254 R1255 P1256 _ _ _ root1257 x _ _ _ _ hT1253 hI1260 hx f1258 b2 (gK.tr (gK.tr (gK.tr hgk (hk1216.mono fun _ h => Or.inr h)) (hk1234.mono fun _ h => Or.inr h)) hk1252) (Or.inl ⟨b1, by omega⟩) hR1262 hS1263 ⟨hl.1, lv_sub hl [1, 2] rfl⟩
                          · exact absurd (hT.inj (fun y hy => (hI.2.2.2.1 w y hw hy).1) hx c105.symm) hs
                        · exact absurd c59 (by decide)
          · have hRg : R g = some w := hgc.resolve_left hLg
            rcases hy : L g with _ | y
            · by_cases hs : L w = some x
              · refine lv_aload_n X.hx X.hb dJ9_fixAfterInsertion_9 rfl (lv_at hl 1 rfl) ?_
                refine lv_aload_n X.hx X.hb dJ9_fixAfterInsertion_10 rfl (lv_at hl 0 rfl) ?_
                refine g_get X hR hM rfl in_J9 3 (by decide) q264 (fun _ h => h) rfl dJ9_fixAfterInsertion_11 ?_
                refine lv_acmp_eq (rx := some (N x)) (ry := root.map N) (tgt := 258) X.hx X.hb dJ9_fixAfterInsertion_14 (by decide) (fun c14 => ?_) (fun c14 => ?_)
                · exact absurd (hT.inj (fun y hy => (hI.2.2.2.2.2.2.2.2.1 y hy).1) hx c14.symm) hrx
                · refine lv_aload_n X.hx X.hb dJ9_fixAfterInsertion_17 rfl (lv_at hl 1 rfl) ?_
                  refine g_get (v := .ref (N w)) X hR (hT.1 x hx) rfl in_J21 4 (by decide) q623 (fun _ h => h) (knv (N := N) (o := P x) (v := some w) hPx) dJ9_fixAfterInsertion_18 ?_
                  refine g_get (v := .int 0) X hR (hT.1 w hw) rfl in_J21 5 (by decide) q625 (fun _ h => h) (congrArg (fun z => some (Value.int z)) hCw) dJ9_fixAfterInsertion_21 ?_
                  refine lv_if_ne (tgt := 258) X.hx X.hb dJ9_fixAfterInsertion_24 (by decide) (fun c24 => ?_) (fun c24 => ?_)
                  · exact absurd rfl c24
                  · refine lv_aload_n X.hx X.hb dJ9_fixAfterInsertion_27 rfl (lv_at hl 1 rfl) ?_
                    refine gcS X hl.1 hR hS 1 [.ref (N x)] [] (c_parentOfK l Γ G1 hT hx hPx) q650 q651 q48 q652 rfl rfl ⟨by decide +kernel, by decide +kernel, by decide +kernel⟩ ⟨by (try dsimp only [RM]); omega, by (try dsimp only [RM]); omega⟩ rfl rfl (Nat.le_of_ble_eq_true rfl) dJ9_fixAfterInsertion_28 ⟨by (try dsimp only [RM]); omega, by (try dsimp only [RM]); omega⟩ (fun v1269 G1270 H locs hq1266 hR1267 hS1268 => ?_)
                    obtain ⟨rfl, rfl⟩ := hq1266
                    refine lv_aload_n X.hx X.hb dJ9_fixAfterInsertion_31 rfl (lv_at hl 1 rfl) ?_
                    refine gcS X hl.1 hR1267 hS1268 1 [.ref (N x)] [.ref (N w)] (c_parentOfK l Γ G1 hT hx hPx) q650 q651 q48 q652 rfl rfl ⟨by decide +kernel, by decide +kernel, by decide +kernel⟩ ⟨by (try dsimp only [RM]); omega, by (try dsimp only [RM]); omega⟩ rfl rfl (Nat.le_of_ble_eq_true rfl) dJ9_fixAfterInsertion_32 ⟨by (try dsimp only [RM]); omega, by (try dsimp only [RM]); omega⟩ (fun v1274 G1275 H locs hq1271 hR1272 hS1273 => ?_)
                    obtain ⟨rfl, rfl⟩ := hq1271
                    refine gcS X hl.1 hR1272 hS1273 1 [.ref (N w)] [.ref (N w)] (c_parentOfK l Γ G1 hT hw hPw) q650 q651 q48 q652 rfl rfl ⟨by decide +kernel, by decide +kernel, by decide +kernel⟩ ⟨by (try dsimp only [RM]); omega, by (try dsimp only [RM]); omega⟩ rfl rfl (Nat.le_of_ble_eq_true rfl) dJ9_fixAfterInsertion_35 ⟨by (try dsimp only [RM]); omega, by (try dsimp only [RM]); omega⟩ (fun v1279 G1280 H locs hq1276 hR1277 hS1278 => ?_)
                    obtain ⟨rfl, rfl⟩ := hq1276
                    refine gcS X hl.1 hR1277 hS1278 1 [.ref (N g)] [.ref (N w)] (c_leftOfKN l Γ G1 hT hg hy) q653 q654 q48 q655 rfl rfl ⟨by decide +kernel, by decide +kernel, by decide +kernel⟩ ⟨by (try dsimp only [RM]); omega, by (try dsimp only [RM]); omega⟩ rfl rfl (Nat.le_of_ble_eq_true rfl) dJ9_fixAfterInsertion_38 ⟨by (try dsimp only [RM]); omega, by (try dsimp only [RM]); omega⟩ (fun v1284 G1285 H locs hq1281 hR1282 hS1283 => ?_)
                    obtain ⟨rfl, rfl⟩ := hq1281
                    refine lv_acmp_ne (rx := some (N w)) (ry := none) (tgt := 151) X.hx X.hb dJ9_fixAfterInsertion_41 (by decide) (fun c41 => ?_) (fun c41 => ?_)
                    · refine lv_aload_n X.hx X.hb dJ9_fixAfterInsertion_151 rfl (lv_at hl 1 rfl) ?_
                      refine gcS X hl.1 hR1282 hS1283 1 [.ref (N x)] [] (c_parentOfK l Γ G1 hT hx hPx) q650 q651 q48 q652 rfl rfl ⟨by decide +kernel, by decide +kernel, by decide +kernel⟩ ⟨by (try dsimp only [RM]); omega, by (try dsimp only [RM]); omega⟩ rfl rfl (Nat.le_of_ble_eq_true rfl) dJ9_fixAfterInsertion_152 ⟨by (try dsimp only [RM]); omega, by (try dsimp only [RM]); omega⟩ (fun v1289 G1290 H locs hq1286 hR1287 hS1288 => ?_)
                      obtain ⟨rfl, rfl⟩ := hq1286
                      refine gcS X hl.1 hR1287 hS1288 1 [.ref (N w)] [] (c_parentOfK l Γ G1 hT hw hPw) q650 q651 q48 q652 rfl rfl ⟨by decide +kernel, by decide +kernel, by decide +kernel⟩ ⟨by (try dsimp only [RM]); omega, by (try dsimp only [RM]); omega⟩ rfl rfl (Nat.le_of_ble_eq_true rfl) dJ9_fixAfterInsertion_155 ⟨by (try dsimp only [RM]); omega, by (try dsimp only [RM]); omega⟩ (fun v1294 G1295 H locs hq1291 hR1292 hS1293 => ?_)
                      obtain ⟨rfl, rfl⟩ := hq1291
                      refine gcS X hl.1 hR1292 hS1293 1 [.ref (N g)] [] (c_leftOfKN l Γ G1 hT hg hy) q653 q654 q48 q655 rfl rfl ⟨by decide +kernel, by decide +kernel, by decide +kernel⟩ ⟨by (try dsimp only [RM]); omega, by (try dsimp only [RM]); omega⟩ rfl rfl (Nat.le_of_ble_eq_true rfl) dJ9_fixAfterInsertion_158 ⟨by (try dsimp only [RM]); omega, by (try dsimp only [RM]); omega⟩ (fun v1299 G1300 H locs hq1296 hR1297 hS1298 => ?_)
                      obtain ⟨rfl, rfl⟩ := hq1296
                      refine lv_astore_nN (lv' := [(2, .null), (0, .ref a), (1, .ref (N x))]) X.hx X.hb dJ9_fixAfterInsertion_161 rfl hl (by decide) rfl (fun ls hl => ?_)
                      refine lv_aload_nN X.hx X.hb dJ9_fixAfterInsertion_162 rfl (lv_at hl 0 rfl) ?_
                      refine gcS X hl.1 hR1297 hS1298 1 [.null] [] (c_colorOfN l Γ G1) q659 q660 q48 q661 rfl rfl ⟨by decide +kernel, by decide +kernel, by decide +kernel⟩ ⟨by (try dsimp only [RM]); omega, by (try dsimp only [RM]); omega⟩ rfl rfl (Nat.le_of_ble_eq_true rfl) dJ9_fixAfterInsertion_163 ⟨by (try dsimp only [RM]); omega, by (try dsimp only [RM]); omega⟩ (fun v1304 G1305 H locs hq1301 hR1302 hS1303 => ?_)
                      obtain ⟨rfl, rfl⟩ := hq1301
                      refine lv_if_ne (tgt := 204) X.hx X.hb dJ9_fixAfterInsertion_166 (by decide) (fun c166 => ?_) (fun c166 => ?_)
                      · refine lv_aload_n X.hx X.hb dJ9_fixAfterInsertion_204 rfl (lv_at hl 2 rfl) ?_
                        refine lv_aload_n X.hx X.hb dJ9_fixAfterInsertion_205 rfl (lv_at hl 2 rfl) ?_
                        refine gcS X hl.1 hR1302 hS1303 1 [.ref (N x)] [.ref (N x)] (c_parentOfK l Γ G1 hT hx hPx) q650 q651 q48 q652 rfl rfl ⟨by decide +kernel, by decide +kernel, by decide +kernel⟩ ⟨by (try dsimp only [RM]); omega, by (try dsimp only [RM]); omega⟩ rfl rfl (Nat.le_of_ble_eq_true rfl) dJ9_fixAfterInsertion_206 ⟨by (try dsimp only [RM]); omega, by (try dsimp only [RM]); omega⟩ (fun v1309 G1310 H locs hq1306 hR1307 hS1308 => ?_)
                        obtain ⟨rfl, rfl⟩ := hq1306
                        refine gcS X hl.1 hR1307 hS1308 1 [.ref (N w)] [.ref (N x)] (c_leftOfK l Γ G1 hT hw hs) q653 q654 q48 q655 rfl rfl ⟨by decide +kernel, by decide +kernel, by decide +kernel⟩ ⟨by (try dsimp only [RM]); omega, by (try dsimp only [RM]); omega⟩ rfl rfl (Nat.le_of_ble_eq_true rfl) dJ9_fixAfterInsertion_209 ⟨by (try dsimp only [RM]); omega, by (try dsimp only [RM]); omega⟩ (fun v1314 G1315 H locs hq1311 hR1312 hS1313 => ?_)
                        obtain ⟨rfl, rfl⟩ := hq1311
                        refine lv_acmp_ne (rx := some (N x)) (ry := some (N x)) (tgt := 225) X.hx X.hb dJ9_fixAfterInsertion_212 (by decide) (fun c212 => ?_) (fun c212 => ?_)
                        · exact absurd rfl c212
                        · refine lv_aload_n X.hx X.hb dJ9_fixAfterInsertion_215 rfl (lv_at hl 2 rfl) ?_
                          refine gcS X hl.1 hR1312 hS1313 1 [.ref (N x)] [] (c_parentOfK l Γ G1 hT hx hPx) q650 q651 q48 q652 rfl rfl ⟨by decide +kernel, by decide +kernel, by decide +kernel⟩ ⟨by (try dsimp only [RM]); omega, by (try dsimp only [RM]); omega⟩ rfl rfl (Nat.le_of_ble_eq_true rfl) dJ9_fixAfterInsertion_216 ⟨by (try dsimp only [RM]); omega, by (try dsimp only [RM]); omega⟩ (fun v1319 G1320 H locs hq1316 hR1317 hS1318 => ?_)
                          obtain ⟨rfl, rfl⟩ := hq1316
                          refine lv_astore_n (lv' := [(1, .ref (N w)), (2, .null), (0, .ref a)]) X.hx X.hb dJ9_fixAfterInsertion_219 rfl hl (by decide) rfl (fun ls hl => ?_)
                          refine lv_aload_n X.hx X.hb dJ9_fixAfterInsertion_220 rfl (lv_at hl 2 rfl) ?_
                          refine lv_aload_n X.hx X.hb dJ9_fixAfterInsertion_221 rfl (lv_at hl 0 rfl) ?_
                          refine gcV X hl.1 hR1317 hS1318 1 [.ref (N w)] [] (c_rotR l Γ G1 hT hI hM hw hs) hM rfl q669 q671 qs11 q48 q672 rfl rfl ⟨rfl, by decide +kernel, by decide +kernel, by decide +kernel⟩ ⟨by (try dsimp only [RM]); omega, by (try dsimp only [RM]); omega⟩ rfl rfl (Nat.le_of_ble_eq_true rfl) dJ9_fixAfterInsertion_222 ⟨by (try dsimp only [RM]); omega, by (try dsimp only [RM]); omega⟩ (fun v1333 G1334 H locs hq1330 hR1331 hS1332 => ?_)
                          obtain ⟨rfl, hk1321, L1323, R1324, P1325, root1326, hT1322, f1327, hrot1328⟩ := hq1330
                          have hI1329 := hrot1328.TI_R hI hw hs
                          have a1 : P1325 w = some x := hrot1328.2.2.2.2.2.2.1
                          have a2 : P1325 x = some g := hrot1328.2.2.2.2.2.2.2.1.trans hPw
                          have a3 : R1324 g = some x := hrot1328.2.1 g hgx hPw hRg
                          have a4 : root1326 = root := hrot1328.2.2.2.2.2.2.2.2.2.2.2 g hPw
                          have a5 : R1324 x = some w := hrot1328.1
                          refine lv_aload_n X.hx X.hb dJ9_fixAfterInsertion_225 rfl (lv_at hl 0 rfl) ?_
                          refine gcS X hl.1 hR1331 hS1332 1 [.ref (N w)] [] (c_parentOfK l Γ G1334 hT1322 hw a1) q650 q651 q48 q652 rfl rfl ⟨by decide +kernel, by decide +kernel, by decide +kernel⟩ ⟨by (try dsimp only [RM]); omega, by (try dsimp only [RM]); omega⟩ rfl rfl (Nat.le_of_ble_eq_true rfl) dJ9_fixAfterInsertion_226 ⟨by (try dsimp only [RM]); omega, by (try dsimp only [RM]); omega⟩ (fun v1338 G1339 H locs hq1335 hR1336 hS1337 => ?_)
                          obtain ⟨rfl, rfl⟩ := hq1335
                          refine lv_iconst (v := 1) X.hx X.hb dJ9_fixAfterInsertion_229 (by decide) ?_
                          refine gcS X hl.1 hR1336 hS1337 2 [.ref (N x), .int 1] [] (c_setColorS1 l Γ G1334 hT1322 hx) q662 q663 q48 q664 rfl rfl ⟨by decide +kernel, by decide +kernel, by decide +kernel⟩ ⟨by (try dsimp only [RM]); omega, by (try dsimp only [RM]); omega⟩ rfl rfl (Nat.le_of_ble_eq_true rfl) dJ9_fixAfterInsertion_230 ⟨by (try dsimp only [RM]); omega, by (try dsimp only [RM]); omega⟩ (fun v1345 G1346 H locs hq1342 hR1343 hS1344 => ?_)
                          obtain ⟨rfl, hk1340, hT1341⟩ := hq1342
                          have f1347 : G1346 a = some ((4, p), .inr (7, [.null, va_rf vw, .null, va_rf (root1326.map N), .int sz, .int mo, .null, .null, .null])) := hk1340 _ _ f1327 (fun h9 => by obtain ⟨k9, -, e9⟩ := h9; cases e9)
                          refine lv_aload_n X.hx X.hb dJ9_fixAfterInsertion_233 rfl (lv_at hl 0 rfl) ?_
                          refine gcS X hl.1 hR1343 hS1344 1 [.ref (N w)] [] (c_parentOfK l Γ G1346 hT1341 hw a1) q650 q651 q48 q652 rfl rfl ⟨by decide +kernel, by decide +kernel, by decide +kernel⟩ ⟨by (try dsimp only [RM]); omega, by (try dsimp only [RM]); omega⟩ rfl rfl (Nat.le_of_ble_eq_true rfl) dJ9_fixAfterInsertion_234 ⟨by (try dsimp only [RM]); omega, by (try dsimp only [RM]); omega⟩ (fun v1351 G1352 H locs hq1348 hR1349 hS1350 => ?_)
                          obtain ⟨rfl, rfl⟩ := hq1348
                          refine gcS X hl.1 hR1349 hS1350 1 [.ref (N x)] [] (c_parentOfK l Γ G1346 hT1341 hx a2) q650 q651 q48 q652 rfl rfl ⟨by decide +kernel, by decide +kernel, by decide +kernel⟩ ⟨by (try dsimp only [RM]); omega, by (try dsimp only [RM]); omega⟩ rfl rfl (Nat.le_of_ble_eq_true rfl) dJ9_fixAfterInsertion_237 ⟨by (try dsimp only [RM]); omega, by (try dsimp only [RM]); omega⟩ (fun v1356 G1357 H locs hq1353 hR1354 hS1355 => ?_)
                          obtain ⟨rfl, rfl⟩ := hq1353
                          refine lv_iconst (v := 0) X.hx X.hb dJ9_fixAfterInsertion_240 (by decide) ?_
                          refine gcS X hl.1 hR1354 hS1355 2 [.ref (N g), .int 0] [] (c_setColorS0 l Γ G1346 hT1341 hg) q662 q663 q48 q664 rfl rfl ⟨by decide +kernel, by decide +kernel, by decide +kernel⟩ ⟨by (try dsimp only [RM]); omega, by (try dsimp only [RM]); omega⟩ rfl rfl (Nat.le_of_ble_eq_true rfl) dJ9_fixAfterInsertion_241 ⟨by (try dsimp only [RM]); omega, by (try dsimp only [RM]); omega⟩ (fun v1363 G1364 H locs hq1360 hR1361 hS1362 => ?_)
                          obtain ⟨rfl, hk1358, hT1359⟩ := hq1360
                          have f1365 : G1364 a = some ((4, p), .inr (7, [.null, va_rf vw, .null, va_rf (root1326.map N), .int sz, .int mo, .null, .null, .null])) := hk1358 _ _ f1347 (fun h9 => by obtain ⟨k9, -, e9⟩ := h9; cases e9)
                          refine lv_aload_n X.hx X.hb dJ9_fixAfterInsertion_244 rfl (lv_at hl 2 rfl) ?_
                          refine lv_aload_n X.hx X.hb dJ9_fixAfterInsertion_245 rfl (lv_at hl 0 rfl) ?_
                          refine gcS X hl.1 hR1361 hS1362 1 [.ref (N w)] [.ref a] (c_parentOfK l Γ G1364 hT1359 hw a1) q650 q651 q48 q652 rfl rfl ⟨by decide +kernel, by decide +kernel, by decide +kernel⟩ ⟨by (try dsimp only [RM]); omega, by (try dsimp only [RM]); omega⟩ rfl rfl (Nat.le_of_ble_eq_true rfl) dJ9_fixAfterInsertion_246 ⟨by (try dsimp only [RM]); omega, by (try dsimp only [RM]); omega⟩ (fun v1369 G1370 H locs hq1366 hR1367 hS1368 => ?_)
                          obtain ⟨rfl, rfl⟩ := hq1366
                          refine gcS X hl.1 hR1367 hS1368 1 [.ref (N x)] [.ref a] (c_parentOfK l Γ G1364 hT1359 hx a2) q650 q651 q48 q652 rfl rfl ⟨by decide +kernel, by decide +kernel, by decide +kernel⟩ ⟨by (try dsimp only [RM]); omega, by (try dsimp only [RM]); omega⟩ rfl rfl (Nat.le_of_ble_eq_true rfl) dJ9_fixAfterInsertion_249 ⟨by (try dsimp only [RM]); omega, by (try dsimp only [RM]); omega⟩ (fun v1374 G1375 H locs hq1371 hR1372 hS1373 => ?_)
                          obtain ⟨rfl, rfl⟩ := hq1371
                          refine gcV X hl.1 hR1372 hS1373 1 [.ref (N g)] [] (c_rotL l Γ G1364 hT1359 hI1329 f1365 hg a3) f1365 rfl q665 q667 qs10 q48 q668 rfl rfl ⟨rfl, by decide +kernel, by decide +kernel, by decide +kernel⟩ ⟨by (try dsimp only [RM]); omega, by (try dsimp only [RM]); omega⟩ rfl rfl (Nat.le_of_ble_eq_true rfl) dJ9_fixAfterInsertion_252 ⟨by (try dsimp only [RM]); omega, by (try dsimp only [RM]); omega⟩ (fun v1388 G1389 H locs hq1385 hR1386 hS1387 => ?_)
                          obtain ⟨rfl, hk1376, L1378, R1379, P1380, root1381, hT1377, f1382, hrot1383⟩ := hq1385
                          have hI1384 := hrot1383.TI_L hI1329 hg a3
                          refine lv_goto (tgt := 5) X.hx X.hb dJ9_fixAfterInsertion_255 (by decide) ?_
                          have b0 : ∀ r, root1326 = some r → r ≠ w → r ≠ x → C r = 1 := fun r h1 h2 h3 => hB r (a4 ▸ h1) h3
                          obtain ⟨b1, b2⟩ := fix_A2 (z := w) (C := C) hrot1383 (TI_rp hI1329) a1 (Ne.symm hgw) hwx (Ne.symm hgx) (TI_LR (TI_mirror hI1329) hx a5) b0
                          exact ih L1378 R1379 P1380 _ _ _ root1381 w _ _ _ _ hT1377 hI1384 hw f1382 b2 (gK.tr (gK.tr (gK.tr (gK.tr hgk hk1321) (hk1340.mono fun _ h => Or.inr h)) (hk1358.mono fun _ h => Or.inr h)) hk1376) (Or.inl ⟨b1, by omega⟩) hR1386 hS1387 ⟨hl.1, lv_sub hl [2, 0] rfl⟩
                      · exact absurd c166 (by decide)
                    · exact absurd (hT.inj (o := L g) (fun y hy => (hI.2.2.1 g y hg hy).1) hw ((congrArg (Option.map N) hy).trans c41.symm)) hLg
              · refine lv_aload_n X.hx X.hb dJ9_fixAfterInsertion_9 rfl (lv_at hl 1 rfl) ?_
                refine lv_aload_n X.hx X.hb dJ9_fixAfterInsertion_10 rfl (lv_at hl 0 rfl) ?_
                refine g_get X hR hM rfl in_J9 3 (by decide) q264 (fun _ h => h) rfl dJ9_fixAfterInsertion_11 ?_
                refine lv_acmp_eq (rx := some (N x)) (ry := root.map N) (tgt := 258) X.hx X.hb dJ9_fixAfterInsertion_14 (by decide) (fun c14 => ?_) (fun c14 => ?_)
                · exact absurd (hT.inj (fun y hy => (hI.2.2.2.2.2.2.2.2.1 y hy).1) hx c14.symm) hrx
                · refine lv_aload_n X.hx X.hb dJ9_fixAfterInsertion_17 rfl (lv_at hl 1 rfl) ?_
                  refine g_get (v := .ref (N w)) X hR (hT.1 x hx) rfl in_J21 4 (by decide) q623 (fun _ h => h) (knv (N := N) (o := P x) (v := some w) hPx) dJ9_fixAfterInsertion_18 ?_
                  refine g_get (v := .int 0) X hR (hT.1 w hw) rfl in_J21 5 (by decide) q625 (fun _ h => h) (congrArg (fun z => some (Value.int z)) hCw) dJ9_fixAfterInsertion_21 ?_
                  refine lv_if_ne (tgt := 258) X.hx X.hb dJ9_fixAfterInsertion_24 (by decide) (fun c24 => ?_) (fun c24 => ?_)
                  · exact absurd rfl c24
                  · refine lv_aload_n X.hx X.hb dJ9_fixAfterInsertion_27 rfl (lv_at hl 1 rfl) ?_
                    refine gcS X hl.1 hR hS 1 [.ref (N x)] [] (c_parentOfK l Γ G1 hT hx hPx) q650 q651 q48 q652 rfl rfl ⟨by decide +kernel, by decide +kernel, by decide +kernel⟩ ⟨by (try dsimp only [RM]); omega, by (try dsimp only [RM]); omega⟩ rfl rfl (Nat.le_of_ble_eq_true rfl) dJ9_fixAfterInsertion_28 ⟨by (try dsimp only [RM]); omega, by (try dsimp only [RM]); omega⟩ (fun v1393 G1394 H locs hq1390 hR1391 hS1392 => ?_)
                    obtain ⟨rfl, rfl⟩ := hq1390
                    refine lv_aload_n X.hx X.hb dJ9_fixAfterInsertion_31 rfl (lv_at hl 1 rfl) ?_
                    refine gcS X hl.1 hR1391 hS1392 1 [.ref (N x)] [.ref (N w)] (c_parentOfK l Γ G1 hT hx hPx) q650 q651 q48 q652 rfl rfl ⟨by decide +kernel, by decide +kernel, by decide +kernel⟩ ⟨by (try dsimp only [RM]); omega, by (try dsimp only [RM]); omega⟩ rfl rfl (Nat.le_of_ble_eq_true rfl) dJ9_fixAfterInsertion_32 ⟨by (try dsimp only [RM]); omega, by (try dsimp only [RM]); omega⟩ (fun v1398 G1399 H locs hq1395 hR1396 hS1397 => ?_)
                    obtain ⟨rfl, rfl⟩ := hq1395
                    refine gcS X hl.1 hR1396 hS1397 1 [.ref (N w)] [.ref (N w)] (c_parentOfK l Γ G1 hT hw hPw) q650 q651 q48 q652 rfl rfl ⟨by decide +kernel, by decide +kernel, by decide +kernel⟩ ⟨by (try dsimp only [RM]); omega, by (try dsimp only [RM]); omega⟩ rfl rfl (Nat.le_of_ble_eq_true rfl) dJ9_fixAfterInsertion_35 ⟨by (try dsimp only [RM]); omega, by (try dsimp only [RM]); omega⟩ (fun v1403 G1404 H locs hq1400 hR1401 hS1402 => ?_)
                    obtain ⟨rfl, rfl⟩ := hq1400
                    refine gcS X hl.1 hR1401 hS1402 1 [.ref (N g)] [.ref (N w)] (c_leftOfKN l Γ G1 hT hg hy) q653 q654 q48 q655 rfl rfl ⟨by decide +kernel, by decide +kernel, by decide +kernel⟩ ⟨by (try dsimp only [RM]); omega, by (try dsimp only [RM]); omega⟩ rfl rfl (Nat.le_of_ble_eq_true rfl) dJ9_fixAfterInsertion_38 ⟨by (try dsimp only [RM]); omega, by (try dsimp only [RM]); omega⟩ (fun v1408 G1409 H locs hq1405 hR1406 hS1407 => ?_)
                    obtain ⟨rfl, rfl⟩ := hq1405
                    refine lv_acmp_ne (rx := some (N w)) (ry := none) (tgt := 151) X.hx X.hb dJ9_fixAfterInsertion_41 (by decide) (fun c41 => ?_) (fun c41 => ?_)
                    · refine lv_aload_n X.hx X.hb dJ9_fixAfterInsertion_151 rfl (lv_at hl 1 rfl) ?_
                      refine gcS X hl.1 hR1406 hS1407 1 [.ref (N x)] [] (c_parentOfK l Γ G1 hT hx hPx) q650 q651 q48 q652 rfl rfl ⟨by decide +kernel, by decide +kernel, by decide +kernel⟩ ⟨by (try dsimp only [RM]); omega, by (try dsimp only [RM]); omega⟩ rfl rfl (Nat.le_of_ble_eq_true rfl) dJ9_fixAfterInsertion_152 ⟨by (try dsimp only [RM]); omega, by (try dsimp only [RM]); omega⟩ (fun v1413 G1414 H locs hq1410 hR1411 hS1412 => ?_)
                      obtain ⟨rfl, rfl⟩ := hq1410
                      refine gcS X hl.1 hR1411 hS1412 1 [.ref (N w)] [] (c_parentOfK l Γ G1 hT hw hPw) q650 q651 q48 q652 rfl rfl ⟨by decide +kernel, by decide +kernel, by decide +kernel⟩ ⟨by (try dsimp only [RM]); omega, by (try dsimp only [RM]); omega⟩ rfl rfl (Nat.le_of_ble_eq_true rfl) dJ9_fixAfterInsertion_155 ⟨by (try dsimp only [RM]); omega, by (try dsimp only [RM]); omega⟩ (fun v1418 G1419 H locs hq1415 hR1416 hS1417 => ?_)
                      obtain ⟨rfl, rfl⟩ := hq1415
                      refine gcS X hl.1 hR1416 hS1417 1 [.ref (N g)] [] (c_leftOfKN l Γ G1 hT hg hy) q653 q654 q48 q655 rfl rfl ⟨by decide +kernel, by decide +kernel, by decide +kernel⟩ ⟨by (try dsimp only [RM]); omega, by (try dsimp only [RM]); omega⟩ rfl rfl (Nat.le_of_ble_eq_true rfl) dJ9_fixAfterInsertion_158 ⟨by (try dsimp only [RM]); omega, by (try dsimp only [RM]); omega⟩ (fun v1423 G1424 H locs hq1420 hR1421 hS1422 => ?_)
                      obtain ⟨rfl, rfl⟩ := hq1420
                      refine lv_astore_nN (lv' := [(2, .null), (0, .ref a), (1, .ref (N x))]) X.hx X.hb dJ9_fixAfterInsertion_161 rfl hl (by decide) rfl (fun ls hl => ?_)
                      refine lv_aload_nN X.hx X.hb dJ9_fixAfterInsertion_162 rfl (lv_at hl 0 rfl) ?_
                      refine gcS X hl.1 hR1421 hS1422 1 [.null] [] (c_colorOfN l Γ G1) q659 q660 q48 q661 rfl rfl ⟨by decide +kernel, by decide +kernel, by decide +kernel⟩ ⟨by (try dsimp only [RM]); omega, by (try dsimp only [RM]); omega⟩ rfl rfl (Nat.le_of_ble_eq_true rfl) dJ9_fixAfterInsertion_163 ⟨by (try dsimp only [RM]); omega, by (try dsimp only [RM]); omega⟩ (fun v1428 G1429 H locs hq1425 hR1426 hS1427 => ?_)
                      obtain ⟨rfl, rfl⟩ := hq1425
                      refine lv_if_ne (tgt := 204) X.hx X.hb dJ9_fixAfterInsertion_166 (by decide) (fun c166 => ?_) (fun c166 => ?_)
                      · refine lv_aload_n X.hx X.hb dJ9_fixAfterInsertion_204 rfl (lv_at hl 2 rfl) ?_
                        refine lv_aload_n X.hx X.hb dJ9_fixAfterInsertion_205 rfl (lv_at hl 2 rfl) ?_
                        refine gcS X hl.1 hR1426 hS1427 1 [.ref (N x)] [.ref (N x)] (c_parentOfK l Γ G1 hT hx hPx) q650 q651 q48 q652 rfl rfl ⟨by decide +kernel, by decide +kernel, by decide +kernel⟩ ⟨by (try dsimp only [RM]); omega, by (try dsimp only [RM]); omega⟩ rfl rfl (Nat.le_of_ble_eq_true rfl) dJ9_fixAfterInsertion_206 ⟨by (try dsimp only [RM]); omega, by (try dsimp only [RM]); omega⟩ (fun v1433 G1434 H locs hq1430 hR1431 hS1432 => ?_)
                        obtain ⟨rfl, rfl⟩ := hq1430
                        refine gcS X hl.1 hR1431 hS1432 1 [.ref (N w)] [.ref (N x)] (c_leftOfS l Γ G1 hT hw) q653 q654 q48 q655 rfl rfl ⟨by decide +kernel, by decide +kernel, by decide +kernel⟩ ⟨by (try dsimp only [RM]); omega, by (try dsimp only [RM]); omega⟩ rfl rfl (Nat.le_of_ble_eq_true rfl) dJ9_fixAfterInsertion_209 ⟨by (try dsimp only [RM]); omega, by (try dsimp only [RM]); omega⟩ (fun v1438 G1439 H locs hq1435 hR1436 hS1437 => ?_)
                        obtain ⟨rfl, rfl⟩ := hq1435
                        refine lv_acmp_ne (rx := some (N x)) (ry := (L w).map N) (tgt := 225) X.hx X.hb dJ9_fixAfterInsertion_212 (by decide) (fun c212 => ?_) (fun c212 => ?_)
                        · refine lv_aload_n X.hx X.hb dJ9_fixAfterInsertion_225 rfl (lv_at hl 2 rfl) ?_
                          refine gcS X hl.1 hR1436 hS1437 1 [.ref (N x)] [] (c_parentOfK l Γ G1 hT hx hPx) q650 q651 q48 q652 rfl rfl ⟨by decide +kernel, by decide +kernel, by decide +kernel⟩ ⟨by (try dsimp only [RM]); omega, by (try dsimp only [RM]); omega⟩ rfl rfl (Nat.le_of_ble_eq_true rfl) dJ9_fixAfterInsertion_226 ⟨by (try dsimp only [RM]); omega, by (try dsimp only [RM]); omega⟩ (fun v1443 G1444 H locs hq1440 hR1441 hS1442 => ?_)
                          obtain ⟨rfl, rfl⟩ := hq1440
                          refine lv_iconst (v := 1) X.hx X.hb dJ9_fixAfterInsertion_229 (by decide) ?_
                          refine gcS X hl.1 hR1441 hS1442 2 [.ref (N w), .int 1] [] (c_setColorS1 l Γ G1 hT hw) q662 q663 q48 q664 rfl rfl ⟨by decide +kernel, by decide +kernel, by decide +kernel⟩ ⟨by (try dsimp only [RM]); omega, by (try dsimp only [RM]); omega⟩ rfl rfl (Nat.le_of_ble_eq_true rfl) dJ9_fixAfterInsertion_230 ⟨by (try dsimp only [RM]); omega, by (try dsimp only [RM]); omega⟩ (fun v1450 G1451 H locs hq1447 hR1448 hS1449 => ?_)
                          obtain ⟨rfl, hk1445, hT1446⟩ := hq1447
                          have f1452 : G1451 a = some ((4, p), .inr (7, [.null, va_rf vw, .null, va_rf (root.map N), .int sz, .int mo, .null, .null, .null])) := hk1445 _ _ hM (fun h9 => by obtain ⟨k9, -, e9⟩ := h9; cases e9)
                          refine lv_aload_n X.hx X.hb dJ9_fixAfterInsertion_233 rfl (lv_at hl 2 rfl) ?_
                          refine gcS X hl.1 hR1448 hS1449 1 [.ref (N x)] [] (c_parentOfK l Γ G1451 hT1446 hx hPx) q650 q651 q48 q652 rfl rfl ⟨by decide +kernel, by decide +kernel, by decide +kernel⟩ ⟨by (try dsimp only [RM]); omega, by (try dsimp only [RM]); omega⟩ rfl rfl (Nat.le_of_ble_eq_true rfl) dJ9_fixAfterInsertion_234 ⟨by (try dsimp only [RM]); omega, by (try dsimp only [RM]); omega⟩ (fun v1456 G1457 H locs hq1453 hR1454 hS1455 => ?_)
                          obtain ⟨rfl, rfl⟩ := hq1453
                          refine gcS X hl.1 hR1454 hS1455 1 [.ref (N w)] [] (c_parentOfK l Γ G1451 hT1446 hw hPw) q650 q651 q48 q652 rfl rfl ⟨by decide +kernel, by decide +kernel, by decide +kernel⟩ ⟨by (try dsimp only [RM]); omega, by (try dsimp only [RM]); omega⟩ rfl rfl (Nat.le_of_ble_eq_true rfl) dJ9_fixAfterInsertion_237 ⟨by (try dsimp only [RM]); omega, by (try dsimp only [RM]); omega⟩ (fun v1461 G1462 H locs hq1458 hR1459 hS1460 => ?_)
                          obtain ⟨rfl, rfl⟩ := hq1458
                          refine lv_iconst (v := 0) X.hx X.hb dJ9_fixAfterInsertion_240 (by decide) ?_
                          refine gcS X hl.1 hR1459 hS1460 2 [.ref (N g), .int 0] [] (c_setColorS0 l Γ G1451 hT1446 hg) q662 q663 q48 q664 rfl rfl ⟨by decide +kernel, by decide +kernel, by decide +kernel⟩ ⟨by (try dsimp only [RM]); omega, by (try dsimp only [RM]); omega⟩ rfl rfl (Nat.le_of_ble_eq_true rfl) dJ9_fixAfterInsertion_241 ⟨by (try dsimp only [RM]); omega, by (try dsimp only [RM]); omega⟩ (fun v1468 G1469 H locs hq1465 hR1466 hS1467 => ?_)
                          obtain ⟨rfl, hk1463, hT1464⟩ := hq1465
                          have f1470 : G1469 a = some ((4, p), .inr (7, [.null, va_rf vw, .null, va_rf (root.map N), .int sz, .int mo, .null, .null, .null])) := hk1463 _ _ f1452 (fun h9 => by obtain ⟨k9, -, e9⟩ := h9; cases e9)
                          refine lv_aload_n X.hx X.hb dJ9_fixAfterInsertion_244 rfl (lv_at hl 1 rfl) ?_
                          refine lv_aload_n X.hx X.hb dJ9_fixAfterInsertion_245 rfl (lv_at hl 2 rfl) ?_
                          refine gcS X hl.1 hR1466 hS1467 1 [.ref (N x)] [.ref a] (c_parentOfK l Γ G1469 hT1464 hx hPx) q650 q651 q48 q652 rfl rfl ⟨by decide +kernel, by decide +kernel, by decide +kernel⟩ ⟨by (try dsimp only [RM]); omega, by (try dsimp only [RM]); omega⟩ rfl rfl (Nat.le_of_ble_eq_true rfl) dJ9_fixAfterInsertion_246 ⟨by (try dsimp only [RM]); omega, by (try dsimp only [RM]); omega⟩ (fun v1474 G1475 H locs hq1471 hR1472 hS1473 => ?_)
                          obtain ⟨rfl, rfl⟩ := hq1471
                          refine gcS X hl.1 hR1472 hS1473 1 [.ref (N w)] [.ref a] (c_parentOfK l Γ G1469 hT1464 hw hPw) q650 q651 q48 q652 rfl rfl ⟨by decide +kernel, by decide +kernel, by decide +kernel⟩ ⟨by (try dsimp only [RM]); omega, by (try dsimp only [RM]); omega⟩ rfl rfl (Nat.le_of_ble_eq_true rfl) dJ9_fixAfterInsertion_249 ⟨by (try dsimp only [RM]); omega, by (try dsimp only [RM]); omega⟩ (fun v1479 G1480 H locs hq1476 hR1477 hS1478 => ?_)
                          obtain ⟨rfl, rfl⟩ := hq1476
                          refine gcV X hl.1 hR1477 hS1478 1 [.ref (N g)] [] (c_rotL l Γ G1469 hT1464 hI f1470 hg hRg) f1470 rfl q665 q667 qs10 q48 q668 rfl rfl ⟨rfl, by decide +kernel, by decide +kernel, by decide +kernel⟩ ⟨by (try dsimp only [RM]); omega, by (try dsimp only [RM]); omega⟩ rfl rfl (Nat.le_of_ble_eq_true rfl) dJ9_fixAfterInsertion_252 ⟨by (try dsimp only [RM]); omega, by (try dsimp only [RM]); omega⟩ (fun v1493 G1494 H locs hq1490 hR1491 hS1492 => ?_)
                          obtain ⟨rfl, hk1481, L1483, R1484, P1485, root1486, hT1482, f1487, hrot1488⟩ := hq1490
                          have hI1489 := hrot1488.TI_L hI hg hRg
                          refine lv_goto (tgt := 5) X.hx X.hb dJ9_fixAfterInsertion_255 (by decide) ?_
                          have b0 : ∀ r, root = some r → r ≠ x → r ≠ w → C r = 1 := fun r h1 h2 h3 => hB r (h1) h2
                          obtain ⟨b1, b2⟩ := fix_A2 (z := x) (C := C) hrot1488 (TI_rp hI) hPx (Ne.symm hgx) (Ne.symm hwx) (Ne.symm hgw) hs b0
                          exact ih L1483 R1484 P1485 _ _ _ root1486 x _ _ _ _ hT1482 hI1489 hx f1487 b2 (gK.tr (gK.tr (gK.tr hgk (hk1445.mono fun _ h => Or.inr h)) (hk1463.mono fun _ h => Or.inr h)) hk1481) (Or.inl ⟨b1, by omega⟩) hR1491 hS1492 ⟨hl.1, lv_sub hl [1, 2] rfl⟩
                        · exact absurd (hT.inj (fun y hy => (hI.2.2.1 w y hw hy).1) hx c212.symm) hs
                      · exact absurd c166 (by decide)
                    · exact absurd (hT.inj (o := L g) (fun y hy => (hI.2.2.1 g y hg hy).1) hw ((congrArg (Option.map N) hy).trans c41.symm)) hLg
            · have hSy : S y := (hI.2.2.1 g y hg hy).1
              rcases hT.2 y hSy with hCy | hCy
              · refine lv_aload_n X.hx X.hb dJ9_fixAfterInsertion_9 rfl (lv_at hl 1 rfl) ?_
                refine lv_aload_n X.hx X.hb dJ9_fixAfterInsertion_10 rfl (lv_at hl 0 rfl) ?_
                refine g_get X hR hM rfl in_J9 3 (by decide) q264 (fun _ h => h) rfl dJ9_fixAfterInsertion_11 ?_
                refine lv_acmp_eq (rx := some (N x)) (ry := root.map N) (tgt := 258) X.hx X.hb dJ9_fixAfterInsertion_14 (by decide) (fun c14 => ?_) (fun c14 => ?_)
                · exact absurd (hT.inj (fun y hy => (hI.2.2.2.2.2.2.2.2.1 y hy).1) hx c14.symm) hrx
                · refine lv_aload_n X.hx X.hb dJ9_fixAfterInsertion_17 rfl (lv_at hl 1 rfl) ?_
                  refine g_get (v := .ref (N w)) X hR (hT.1 x hx) rfl in_J21 4 (by decide) q623 (fun _ h => h) (knv (N := N) (o := P x) (v := some w) hPx) dJ9_fixAfterInsertion_18 ?_
                  refine g_get (v := .int 0) X hR (hT.1 w hw) rfl in_J21 5 (by decide) q625 (fun _ h => h) (congrArg (fun z => some (Value.int z)) hCw) dJ9_fixAfterInsertion_21 ?_
                  refine lv_if_ne (tgt := 258) X.hx X.hb dJ9_fixAfterInsertion_24 (by decide) (fun c24 => ?_) (fun c24 => ?_)
                  · exact absurd rfl c24
                  · refine lv_aload_n X.hx X.hb dJ9_fixAfterInsertion_27 rfl (lv_at hl 1 rfl) ?_
                    refine gcS X hl.1 hR hS 1 [.ref (N x)] [] (c_parentOfK l Γ G1 hT hx hPx) q650 q651 q48 q652 rfl rfl ⟨by decide +kernel, by decide +kernel, by decide +kernel⟩ ⟨by (try dsimp only [RM]); omega, by (try dsimp only [RM]); omega⟩ rfl rfl (Nat.le_of_ble_eq_true rfl) dJ9_fixAfterInsertion_28 ⟨by (try dsimp only [RM]); omega, by (try dsimp only [RM]); omega⟩ (fun v1498 G1499 H locs hq1495 hR1496 hS1497 => ?_)
                    obtain ⟨rfl, rfl⟩ := hq1495
                    refine lv_aload_n X.hx X.hb dJ9_fixAfterInsertion_31 rfl (lv_at hl 1 rfl) ?_
                    refine gcS X hl.1 hR1496 hS1497 1 [.ref (N x)] [.ref (N w)] (c_parentOfK l Γ G1 hT hx hPx) q650 q651 q48 q652 rfl rfl ⟨by decide +kernel, by decide +kernel, by decide +kernel⟩ ⟨by (try dsimp only [RM]); omega, by (try dsimp only [RM]); omega⟩ rfl rfl (Nat.le_of_ble_eq_true rfl) dJ9_fixAfterInsertion_32 ⟨by (try dsimp only [RM]); omega, by (try dsimp only [RM]); omega⟩ (fun v1503 G1504 H locs hq1500 hR1501 hS1502 => ?_)
                    obtain ⟨rfl, rfl⟩ := hq1500
                    refine gcS X hl.1 hR1501 hS1502 1 [.ref (N w)] [.ref (N w)] (c_parentOfK l Γ G1 hT hw hPw) q650 q651 q48 q652 rfl rfl ⟨by decide +kernel, by decide +kernel, by decide +kernel⟩ ⟨by (try dsimp only [RM]); omega, by (try dsimp only [RM]); omega⟩ rfl rfl (Nat.le_of_ble_eq_true rfl) dJ9_fixAfterInsertion_35 ⟨by (try dsimp only [RM]); omega, by (try dsimp only [RM]); omega⟩ (fun v1508 G1509 H locs hq1505 hR1506 hS1507 => ?_)
                    obtain ⟨rfl, rfl⟩ := hq1505
                    refine gcS X hl.1 hR1506 hS1507 1 [.ref (N g)] [.ref (N w)] (c_leftOfK l Γ G1 hT hg hy) q653 q654 q48 q655 rfl rfl ⟨by decide +kernel, by decide +kernel, by decide +kernel⟩ ⟨by (try dsimp only [RM]); omega, by (try dsimp only [RM]); omega⟩ rfl rfl (Nat.le_of_ble_eq_true rfl) dJ9_fixAfterInsertion_38 ⟨by (try dsimp only [RM]); omega, by (try dsimp only [RM]); omega⟩ (fun v1513 G1514 H locs hq1510 hR1511 hS1512 => ?_)
                    obtain ⟨rfl, rfl⟩ := hq1510
                    refine lv_acmp_ne (rx := some (N w)) (ry := some (N y)) (tgt := 151) X.hx X.hb dJ9_fixAfterInsertion_41 (by decide) (fun c41 => ?_) (fun c41 => ?_)
                    · refine lv_aload_n X.hx X.hb dJ9_fixAfterInsertion_151 rfl (lv_at hl 1 rfl) ?_
                      refine gcS X hl.1 hR1511 hS1512 1 [.ref (N x)] [] (c_parentOfK l Γ G1 hT hx hPx) q650 q651 q48 q652 rfl rfl ⟨by decide +kernel, by decide +kernel, by decide +kernel⟩ ⟨by (try dsimp only [RM]); omega, by (try dsimp only [RM]); omega⟩ rfl rfl (Nat.le_of_ble_eq_true rfl) dJ9_fixAfterInsertion_152 ⟨by (try dsimp only [RM]); omega, by (try dsimp only [RM]); omega⟩ (fun v1518 G1519 H locs hq1515 hR1516 hS1517 => ?_)
                      obtain ⟨rfl, rfl⟩ := hq1515
                      refine gcS X hl.1 hR1516 hS1517 1 [.ref (N w)] [] (c_parentOfK l Γ G1 hT hw hPw) q650 q651 q48 q652 rfl rfl ⟨by decide +kernel, by decide +kernel, by decide +kernel⟩ ⟨by (try dsimp only [RM]); omega, by (try dsimp only [RM]); omega⟩ rfl rfl (Nat.le_of_ble_eq_true rfl) dJ9_fixAfterInsertion_155 ⟨by (try dsimp only [RM]); omega, by (try dsimp only [RM]); omega⟩ (fun v1523 G1524 H locs hq1520 hR1521 hS1522 => ?_)
                      obtain ⟨rfl, rfl⟩ := hq1520
                      refine gcS X hl.1 hR1521 hS1522 1 [.ref (N g)] [] (c_leftOfK l Γ G1 hT hg hy) q653 q654 q48 q655 rfl rfl ⟨by decide +kernel, by decide +kernel, by decide +kernel⟩ ⟨by (try dsimp only [RM]); omega, by (try dsimp only [RM]); omega⟩ rfl rfl (Nat.le_of_ble_eq_true rfl) dJ9_fixAfterInsertion_158 ⟨by (try dsimp only [RM]); omega, by (try dsimp only [RM]); omega⟩ (fun v1528 G1529 H locs hq1525 hR1526 hS1527 => ?_)
                      obtain ⟨rfl, rfl⟩ := hq1525
                      refine lv_astore_n (lv' := [(2, .ref (N y)), (0, .ref a), (1, .ref (N x))]) X.hx X.hb dJ9_fixAfterInsertion_161 rfl hl (by decide) rfl (fun ls hl => ?_)
                      refine lv_aload_n X.hx X.hb dJ9_fixAfterInsertion_162 rfl (lv_at hl 0 rfl) ?_
                      refine gcS X hl.1 hR1526 hS1527 1 [.ref (N y)] [] (c_colorOfK l Γ G1 hT hSy hCy) q659 q660 q48 q661 rfl rfl ⟨by decide +kernel, by decide +kernel, by decide +kernel⟩ ⟨by (try dsimp only [RM]); omega, by (try dsimp only [RM]); omega⟩ rfl rfl (Nat.le_of_ble_eq_true rfl) dJ9_fixAfterInsertion_163 ⟨by (try dsimp only [RM]); omega, by (try dsimp only [RM]); omega⟩ (fun v1533 G1534 H locs hq1530 hR1531 hS1532 => ?_)
                      obtain ⟨rfl, rfl⟩ := hq1530
                      refine lv_if_ne (tgt := 204) X.hx X.hb dJ9_fixAfterInsertion_166 (by decide) (fun c166 => ?_) (fun c166 => ?_)
                      · exact absurd rfl c166
                      · refine lv_aload_n X.hx X.hb dJ9_fixAfterInsertion_169 rfl (lv_at hl 2 rfl) ?_
                        refine gcS X hl.1 hR1531 hS1532 1 [.ref (N x)] [] (c_parentOfK l Γ G1 hT hx hPx) q650 q651 q48 q652 rfl rfl ⟨by decide +kernel, by decide +kernel, by decide +kernel⟩ ⟨by (try dsimp only [RM]); omega, by (try dsimp only [RM]); omega⟩ rfl rfl (Nat.le_of_ble_eq_true rfl) dJ9_fixAfterInsertion_170 ⟨by (try dsimp only [RM]); omega, by (try dsimp only [RM]); omega⟩ (fun v1538 G1539 H locs hq1535 hR1536 hS1537 => ?_)
                        obtain ⟨rfl, rfl⟩ := hq1535
                        refine lv_iconst (v := 1) X.hx X.hb dJ9_fixAfterInsertion_173 (by decide) ?_
                        refine gcS X hl.1 hR1536 hS1537 2 [.ref (N w), .int 1] [] (c_setColorS1 l Γ G1 hT hw) q662 q663 q48 q664 rfl rfl ⟨by decide +kernel, by decide +kernel, by decide +kernel⟩ ⟨by (try dsimp only [RM]); omega, by (try dsimp only [RM]); omega⟩ rfl rfl (Nat.le_of_ble_eq_true rfl) dJ9_fixAfterInsertion_174 ⟨by (try dsimp only [RM]); omega, by (try dsimp only [RM]); omega⟩ (fun v1545 G1546 H locs hq1542 hR1543 hS1544 => ?_)
                        obtain ⟨rfl, hk1540, hT1541⟩ := hq1542
                        have f1547 : G1546 a = some ((4, p), .inr (7, [.null, va_rf vw, .null, va_rf (root.map N), .int sz, .int mo, .null, .null, .null])) := hk1540 _ _ hM (fun h9 => by obtain ⟨k9, -, e9⟩ := h9; cases e9)
                        refine lv_aload_n X.hx X.hb dJ9_fixAfterInsertion_177 rfl (lv_at hl 0 rfl) ?_
                        refine lv_iconst (v := 1) X.hx X.hb dJ9_fixAfterInsertion_178 (by decide) ?_
                        refine gcS X hl.1 hR1543 hS1544 2 [.ref (N y), .int 1] [] (c_setColorS1 l Γ G1546 hT1541 hSy) q662 q663 q48 q664 rfl rfl ⟨by decide +kernel, by decide +kernel, by decide +kernel⟩ ⟨by (try dsimp only [RM]); omega, by (try dsimp only [RM]); omega⟩ rfl rfl (Nat.le_of_ble_eq_true rfl) dJ9_fixAfterInsertion_179 ⟨by (try dsimp only [RM]); omega, by (try dsimp only [RM]); omega⟩ (fun v1553 G1554 H locs hq1550 hR1551 hS1552 => ?_)
                        obtain ⟨rfl, hk1548, hT1549⟩ := hq1550
                        have f1555 : G1554 a = some ((4, p), .inr (7, [.null, va_rf vw, .null, va_rf (root.map N), .int sz, .int mo, .null, .null, .null])) := hk1548 _ _ f1547 (fun h9 => by obtain ⟨k9, -, e9⟩ := h9; cases e9)
                        refine lv_aload_n X.hx X.hb dJ9_fixAfterInsertion_182 rfl (lv_at hl 2 rfl) ?_
                        refine gcS X hl.1 hR1551 hS1552 1 [.ref (N x)] [] (c_parentOfK l Γ G1554 hT1549 hx hPx) q650 q651 q48 q652 rfl rfl ⟨by decide +kernel, by decide +kernel, by decide +kernel⟩ ⟨by (try dsimp only [RM]); omega, by (try dsimp only [RM]); omega⟩ rfl rfl (Nat.le_of_ble_eq_true rfl) dJ9_fixAfterInsertion_183 ⟨by (try dsimp only [RM]); omega, by (try dsimp only [RM]); omega⟩ (fun v1559 G1560 H locs hq1556 hR1557 hS1558 => ?_)
                        obtain ⟨rfl, rfl⟩ := hq1556
                        refine gcS X hl.1 hR1557 hS1558 1 [.ref (N w)] [] (c_parentOfK l Γ G1554 hT1549 hw hPw) q650 q651 q48 q652 rfl rfl ⟨by decide +kernel, by decide +kernel, by decide +kernel⟩ ⟨by (try dsimp only [RM]); omega, by (try dsimp only [RM]); omega⟩ rfl rfl (Nat.le_of_ble_eq_true rfl) dJ9_fixAfterInsertion_186 ⟨by (try dsimp only [RM]); omega, by (try dsimp only [RM]); omega⟩ (fun v1564 G1565 H locs hq1561 hR1562 hS1563 => ?_)
                        obtain ⟨rfl, rfl⟩ := hq1561
                        refine lv_iconst (v := 0) X.hx X.hb dJ9_fixAfterInsertion_189 (by decide) ?_
                        refine gcS X hl.1 hR1562 hS1563 2 [.ref (N g), .int 0] [] (c_setColorS0 l Γ G1554 hT1549 hg) q662 q663 q48 q664 rfl rfl ⟨by decide +kernel, by decide +kernel, by decide +kernel⟩ ⟨by (try dsimp only [RM]); omega, by (try dsimp only [RM]); omega⟩ rfl rfl (Nat.le_of_ble_eq_true rfl) dJ9_fixAfterInsertion_190 ⟨by (try dsimp only [RM]); omega, by (try dsimp only [RM]); omega⟩ (fun v1571 G1572 H locs hq1568 hR1569 hS1570 => ?_)
                        obtain ⟨rfl, hk1566, hT1567⟩ := hq1568
                        have f1573 : G1572 a = some ((4, p), .inr (7, [.null, va_rf vw, .null, va_rf (root.map N), .int sz, .int mo, .null, .null, .null])) := hk1566 _ _ f1555 (fun h9 => by obtain ⟨k9, -, e9⟩ := h9; cases e9)
                        refine lv_aload_n X.hx X.hb dJ9_fixAfterInsertion_193 rfl (lv_at hl 2 rfl) ?_
                        refine gcS X hl.1 hR1569 hS1570 1 [.ref (N x)] [] (c_parentOfK l Γ G1572 hT1567 hx hPx) q650 q651 q48 q652 rfl rfl ⟨by decide +kernel, by decide +kernel, by decide +kernel⟩ ⟨by (try dsimp only [RM]); omega, by (try dsimp only [RM]); omega⟩ rfl rfl (Nat.le_of_ble_eq_true rfl) dJ9_fixAfterInsertion_194 ⟨by (try dsimp only [RM]); omega, by (try dsimp only [RM]); omega⟩ (fun v1577 G1578 H locs hq1574 hR1575 hS1576 => ?_)
                        obtain ⟨rfl, rfl⟩ := hq1574
                        refine gcS X hl.1 hR1575 hS1576 1 [.ref (N w)] [] (c_parentOfK l Γ G1572 hT1567 hw hPw) q650 q651 q48 q652 rfl rfl ⟨by decide +kernel, by decide +kernel, by decide +kernel⟩ ⟨by (try dsimp only [RM]); omega, by (try dsimp only [RM]); omega⟩ rfl rfl (Nat.le_of_ble_eq_true rfl) dJ9_fixAfterInsertion_197 ⟨by (try dsimp only [RM]); omega, by (try dsimp only [RM]); omega⟩ (fun v1582 G1583 H locs hq1579 hR1580 hS1581 => ?_)
                        obtain ⟨rfl, rfl⟩ := hq1579
                        refine lv_astore_n (lv' := [(1, .ref (N g)), (2, .ref (N y)), (0, .ref a)]) X.hx X.hb dJ9_fixAfterInsertion_200 rfl hl (by decide) rfl (fun ls hl => ?_)
                        refine lv_goto (tgt := 255) X.hx X.hb dJ9_fixAfterInsertion_201 (by decide) ?_
                        refine lv_goto (tgt := 5) X.hx X.hb dJ9_fixAfterInsertion_255 (by decide) ?_
                        refine ih L R P _ _ _ root g _ _ _ _ hT1567 hI hg f1573 ?_ (gK.tr (gK.tr (gK.tr hgk (hk1540.mono fun _ h => Or.inr h)) (hk1548.mono fun _ h => Or.inr h)) (hk1566.mono fun _ h => Or.inr h)) (Or.inr (by omega)) hR1580 hS1581 ⟨hl.1, lv_sub hl [2, 0] rfl⟩
                        intro r hr0 hrg
                        have hrx1 : r ≠ x := fun e => by rw [e] at hr0; exact hrx hr0
                        have h8 := hB r hr0 hrx1
                        rw [va_up_ne _ _ hrg]
                        unfold va_up
                        split
                        · rfl
                        · split
                          · rfl
                          · exact h8
                    · exact absurd (hT.inj (o := L g) (fun y hy => (hI.2.2.1 g y hg hy).1) hw ((congrArg (Option.map N) hy).trans c41.symm)) hLg
              · by_cases hs : L w = some x
                · refine lv_aload_n X.hx X.hb dJ9_fixAfterInsertion_9 rfl (lv_at hl 1 rfl) ?_
                  refine lv_aload_n X.hx X.hb dJ9_fixAfterInsertion_10 rfl (lv_at hl 0 rfl) ?_
                  refine g_get X hR hM rfl in_J9 3 (by decide) q264 (fun _ h => h) rfl dJ9_fixAfterInsertion_11 ?_
                  refine lv_acmp_eq (rx := some (N x)) (ry := root.map N) (tgt := 258) X.hx X.hb dJ9_fixAfterInsertion_14 (by decide) (fun c14 => ?_) (fun c14 => ?_)
                  · exact absurd (hT.inj (fun y hy => (hI.2.2.2.2.2.2.2.2.1 y hy).1) hx c14.symm) hrx
                  · refine lv_aload_n X.hx X.hb dJ9_fixAfterInsertion_17 rfl (lv_at hl 1 rfl) ?_
                    refine g_get (v := .ref (N w)) X hR (hT.1 x hx) rfl in_J21 4 (by decide) q623 (fun _ h => h) (knv (N := N) (o := P x) (v := some w) hPx) dJ9_fixAfterInsertion_18 ?_
                    refine g_get (v := .int 0) X hR (hT.1 w hw) rfl in_J21 5 (by decide) q625 (fun _ h => h) (congrArg (fun z => some (Value.int z)) hCw) dJ9_fixAfterInsertion_21 ?_
                    refine lv_if_ne (tgt := 258) X.hx X.hb dJ9_fixAfterInsertion_24 (by decide) (fun c24 => ?_) (fun c24 => ?_)
                    · exact absurd rfl c24
                    · refine lv_aload_n X.hx X.hb dJ9_fixAfterInsertion_27 rfl (lv_at hl 1 rfl) ?_
                      refine gcS X hl.1 hR hS 1 [.ref (N x)] [] (c_parentOfK l Γ G1 hT hx hPx) q650 q651 q48 q652 rfl rfl ⟨by decide +kernel, by decide +kernel, by decide +kernel⟩ ⟨by (try dsimp only [RM]); omega, by (try dsimp only [RM]); omega⟩ rfl rfl (Nat.le_of_ble_eq_true rfl) dJ9_fixAfterInsertion_28 ⟨by (try dsimp only [RM]); omega, by (try dsimp only [RM]); omega⟩ (fun v1587 G1588 H locs hq1584 hR1585 hS1586 => ?_)
                      obtain ⟨rfl, rfl⟩ := hq1584
                      refine lv_aload_n X.hx X.hb dJ9_fixAfterInsertion_31 rfl (lv_at hl 1 rfl) ?_
                      refine gcS X hl.1 hR1585 hS1586 1 [.ref (N x)] [.ref (N w)] (c_parentOfK l Γ G1 hT hx hPx) q650 q651 q48 q652 rfl rfl ⟨by decide +kernel, by decide +kernel, by decide +kernel⟩ ⟨by (try dsimp only [RM]); omega, by (try dsimp only [RM]); omega⟩ rfl rfl (Nat.le_of_ble_eq_true rfl) dJ9_fixAfterInsertion_32 ⟨by (try dsimp only [RM]); omega, by (try dsimp only [RM]); omega⟩ (fun v1592 G1593 H locs hq1589 hR1590 hS1591 => ?_)
                      obtain ⟨rfl, rfl⟩ := hq1589
                      refine gcS X hl.1 hR1590 hS1591 1 [.ref (N w)] [.ref (N w)] (c_parentOfK l Γ G1 hT hw hPw) q650 q651 q48 q652 rfl rfl ⟨by decide +kernel, by decide +kernel, by decide +kernel⟩ ⟨by (try dsimp only [RM]); omega, by (try dsimp only [RM]); omega⟩ rfl rfl (Nat.le_of_ble_eq_true rfl) dJ9_fixAfterInsertion_35 ⟨by (try dsimp only [RM]); omega, by (try dsimp only [RM]); omega⟩ (fun v1597 G1598 H locs hq1594 hR1595 hS1596 => ?_)
                      obtain ⟨rfl, rfl⟩ := hq1594
                      refine gcS X hl.1 hR1595 hS1596 1 [.ref (N g)] [.ref (N w)] (c_leftOfK l Γ G1 hT hg hy) q653 q654 q48 q655 rfl rfl ⟨by decide +kernel, by decide +kernel, by decide +kernel⟩ ⟨by (try dsimp only [RM]); omega, by (try dsimp only [RM]); omega⟩ rfl rfl (Nat.le_of_ble_eq_true rfl) dJ9_fixAfterInsertion_38 ⟨by (try dsimp only [RM]); omega, by (try dsimp only [RM]); omega⟩ (fun v1602 G1603 H locs hq1599 hR1600 hS1601 => ?_)
                      obtain ⟨rfl, rfl⟩ := hq1599
                      refine lv_acmp_ne (rx := some (N w)) (ry := some (N y)) (tgt := 151) X.hx X.hb dJ9_fixAfterInsertion_41 (by decide) (fun c41 => ?_) (fun c41 => ?_)
                      · refine lv_aload_n X.hx X.hb dJ9_fixAfterInsertion_151 rfl (lv_at hl 1 rfl) ?_
                        refine gcS X hl.1 hR1600 hS1601 1 [.ref (N x)] [] (c_parentOfK l Γ G1 hT hx hPx) q650 q651 q48 q652 rfl rfl ⟨by decide +kernel, by decide +kernel, by decide +kernel⟩ ⟨by (try dsimp only [RM]); omega, by (try dsimp only [RM]); omega⟩ rfl rfl (Nat.le_of_ble_eq_true rfl) dJ9_fixAfterInsertion_152 ⟨by (try dsimp only [RM]); omega, by (try dsimp only [RM]); omega⟩ (fun v1607 G1608 H locs hq1604 hR1605 hS1606 => ?_)
                        obtain ⟨rfl, rfl⟩ := hq1604
                        refine gcS X hl.1 hR1605 hS1606 1 [.ref (N w)] [] (c_parentOfK l Γ G1 hT hw hPw) q650 q651 q48 q652 rfl rfl ⟨by decide +kernel, by decide +kernel, by decide +kernel⟩ ⟨by (try dsimp only [RM]); omega, by (try dsimp only [RM]); omega⟩ rfl rfl (Nat.le_of_ble_eq_true rfl) dJ9_fixAfterInsertion_155 ⟨by (try dsimp only [RM]); omega, by (try dsimp only [RM]); omega⟩ (fun v1612 G1613 H locs hq1609 hR1610 hS1611 => ?_)
                        obtain ⟨rfl, rfl⟩ := hq1609
                        refine gcS X hl.1 hR1610 hS1611 1 [.ref (N g)] [] (c_leftOfK l Γ G1 hT hg hy) q653 q654 q48 q655 rfl rfl ⟨by decide +kernel, by decide +kernel, by decide +kernel⟩ ⟨by (try dsimp only [RM]); omega, by (try dsimp only [RM]); omega⟩ rfl rfl (Nat.le_of_ble_eq_true rfl) dJ9_fixAfterInsertion_158 ⟨by (try dsimp only [RM]); omega, by (try dsimp only [RM]); omega⟩ (fun v1617 G1618 H locs hq1614 hR1615 hS1616 => ?_)
                        obtain ⟨rfl, rfl⟩ := hq1614
                        refine lv_astore_n (lv' := [(2, .ref (N y)), (0, .ref a), (1, .ref (N x))]) X.hx X.hb dJ9_fixAfterInsertion_161 rfl hl (by decide) rfl (fun ls hl => ?_)
                        refine lv_aload_n X.hx X.hb dJ9_fixAfterInsertion_162 rfl (lv_at hl 0 rfl) ?_
                        refine gcS X hl.1 hR1615 hS1616 1 [.ref (N y)] [] (c_colorOfK l Γ G1 hT hSy hCy) q659 q660 q48 q661 rfl rfl ⟨by decide +kernel, by decide +kernel, by decide +kernel⟩ ⟨by (try dsimp only [RM]); omega, by (try dsimp only [RM]); omega⟩ rfl rfl (Nat.le_of_ble_eq_true rfl) dJ9_fixAfterInsertion_163 ⟨by (try dsimp only [RM]); omega, by (try dsimp only [RM]); omega⟩ (fun v1622 G1623 H locs hq1619 hR1620 hS1621 => ?_)
                        obtain ⟨rfl, rfl⟩ := hq1619
                        refine lv_if_ne (tgt := 204) X.hx X.hb dJ9_fixAfterInsertion_166 (by decide) (fun c166 => ?_) (fun c166 => ?_)
                        · refine lv_aload_n X.hx X.hb dJ9_fixAfterInsertion_204 rfl (lv_at hl 2 rfl) ?_
                          refine lv_aload_n X.hx X.hb dJ9_fixAfterInsertion_205 rfl (lv_at hl 2 rfl) ?_
                          refine gcS X hl.1 hR1620 hS1621 1 [.ref (N x)] [.ref (N x)] (c_parentOfK l Γ G1 hT hx hPx) q650 q651 q48 q652 rfl rfl ⟨by decide +kernel, by decide +kernel, by decide +kernel⟩ ⟨by (try dsimp only [RM]); omega, by (try dsimp only [RM]); omega⟩ rfl rfl (Nat.le_of_ble_eq_true rfl) dJ9_fixAfterInsertion_206 ⟨by (try dsimp only [RM]); omega, by (try dsimp only [RM]); omega⟩ (fun v1627 G1628 H locs hq1624 hR1625 hS1626 => ?_)
                          obtain ⟨rfl, rfl⟩ := hq1624
                          refine gcS X hl.1 hR1625 hS1626 1 [.ref (N w)] [.ref (N x)] (c_leftOfK l Γ G1 hT hw hs) q653 q654 q48 q655 rfl rfl ⟨by decide +kernel, by decide +kernel, by decide +kernel⟩ ⟨by (try dsimp only [RM]); omega, by (try dsimp only [RM]); omega⟩ rfl rfl (Nat.le_of_ble_eq_true rfl) dJ9_fixAfterInsertion_209 ⟨by (try dsimp only [RM]); omega, by (try dsimp only [RM]); omega⟩ (fun v1632 G1633 H locs hq1629 hR1630 hS1631 => ?_)
                          obtain ⟨rfl, rfl⟩ := hq1629
                          refine lv_acmp_ne (rx := some (N x)) (ry := some (N x)) (tgt := 225) X.hx X.hb dJ9_fixAfterInsertion_212 (by decide) (fun c212 => ?_) (fun c212 => ?_)
                          · exact absurd rfl c212
                          · refine lv_aload_n X.hx X.hb dJ9_fixAfterInsertion_215 rfl (lv_at hl 2 rfl) ?_
                            refine gcS X hl.1 hR1630 hS1631 1 [.ref (N x)] [] (c_parentOfK l Γ G1 hT hx hPx) q650 q651 q48 q652 rfl rfl ⟨by decide +kernel, by decide +kernel, by decide +kernel⟩ ⟨by (try dsimp only [RM]); omega, by (try dsimp only [RM]); omega⟩ rfl rfl (Nat.le_of_ble_eq_true rfl) dJ9_fixAfterInsertion_216 ⟨by (try dsimp only [RM]); omega, by (try dsimp only [RM]); omega⟩ (fun v1637 G1638 H locs hq1634 hR1635 hS1636 => ?_)
                            obtain ⟨rfl, rfl⟩ := hq1634
                            refine lv_astore_n (lv' := [(1, .ref (N w)), (2, .ref (N y)), (0, .ref a)]) X.hx X.hb dJ9_fixAfterInsertion_219 rfl hl (by decide) rfl (fun ls hl => ?_)
                            refine lv_aload_n X.hx X.hb dJ9_fixAfterInsertion_220 rfl (lv_at hl 2 rfl) ?_
                            refine lv_aload_n X.hx X.hb dJ9_fixAfterInsertion_221 rfl (lv_at hl 0 rfl) ?_
                            refine gcV X hl.1 hR1635 hS1636 1 [.ref (N w)] [] (c_rotR l Γ G1 hT hI hM hw hs) hM rfl q669 q671 qs11 q48 q672 rfl rfl ⟨rfl, by decide +kernel, by decide +kernel, by decide +kernel⟩ ⟨by (try dsimp only [RM]); omega, by (try dsimp only [RM]); omega⟩ rfl rfl (Nat.le_of_ble_eq_true rfl) dJ9_fixAfterInsertion_222 ⟨by (try dsimp only [RM]); omega, by (try dsimp only [RM]); omega⟩ (fun v1651 G1652 H locs hq1648 hR1649 hS1650 => ?_)
                            obtain ⟨rfl, hk1639, L1641, R1642, P1643, root1644, hT1640, f1645, hrot1646⟩ := hq1648
                            have hI1647 := hrot1646.TI_R hI hw hs
                            have a1 : P1643 w = some x := hrot1646.2.2.2.2.2.2.1
                            have a2 : P1643 x = some g := hrot1646.2.2.2.2.2.2.2.1.trans hPw
                            have a3 : R1642 g = some x := hrot1646.2.1 g hgx hPw hRg
                            have a4 : root1644 = root := hrot1646.2.2.2.2.2.2.2.2.2.2.2 g hPw
                            have a5 : R1642 x = some w := hrot1646.1
                            refine lv_aload_n X.hx X.hb dJ9_fixAfterInsertion_225 rfl (lv_at hl 0 rfl) ?_
                            refine gcS X hl.1 hR1649 hS1650 1 [.ref (N w)] [] (c_parentOfK l Γ G1652 hT1640 hw a1) q650 q651 q48 q652 rfl rfl ⟨by decide +kernel, by decide +kernel, by decide +kernel⟩ ⟨by (try dsimp only [RM]); omega, by (try dsimp only [RM]); omega⟩ rfl rfl (Nat.le_of_ble_eq_true rfl) dJ9_fixAfterInsertion_226 ⟨by (try dsimp only [RM]); omega, by (try dsimp only [RM]); omega⟩ (fun v1656 G1657 H locs hq1653 hR1654 hS1655 => ?_)
                            obtain ⟨rfl, rfl⟩ := hq1653
                            refine lv_iconst (v := 1) X.hx X.hb dJ9_fixAfterInsertion_229 (by decide) ?_
                            refine gcS X hl.1 hR1654 hS1655 2 [.ref (N x), .int 1] [] (c_setColorS1 l Γ G1652 hT1640 hx) q662 q663 q48 q664 rfl rfl ⟨by decide +kernel, by decide +kernel, by decide +kernel⟩ ⟨by (try dsimp only [RM]); omega, by (try dsimp only [RM]); omega⟩ rfl rfl (Nat.le_of_ble_eq_true rfl) dJ9_fixAfterInsertion_230 ⟨by (try dsimp only [RM]); omega, by (try dsimp only [RM]); omega⟩ (fun v1663 G1664 H locs hq1660 hR1661 hS1662 => ?_)
                            obtain ⟨rfl, hk1658, hT1659⟩ := hq1660
                            have f1665 : G1664 a = some ((4, p), .inr (7, [.null, va_rf vw, .null, va_rf (root1644.map N), .int sz, .int mo, .null, .null, .null])) := hk1658 _ _ f1645 (fun h9 => by obtain ⟨k9, -, e9⟩ := h9; cases e9)
                            refine lv_aload_n X.hx X.hb dJ9_fixAfterInsertion_233 rfl (lv_at hl 0 rfl) ?_
                            refine gcS X hl.1 hR1661 hS1662 1 [.ref (N w)] [] (c_parentOfK l Γ G1664 hT1659 hw a1) q650 q651 q48 q652 rfl rfl ⟨by decide +kernel, by decide +kernel, by decide +kernel⟩ ⟨by (try dsimp only [RM]); omega, by (try dsimp only [RM]); omega⟩ rfl rfl (Nat.le_of_ble_eq_true rfl) dJ9_fixAfterInsertion_234 ⟨by (try dsimp only [RM]); omega, by (try dsimp only [RM]); omega⟩ (fun v1669 G1670 H locs hq1666 hR1667 hS1668 => ?_)
                            obtain ⟨rfl, rfl⟩ := hq1666
                            refine gcS X hl.1 hR1667 hS1668 1 [.ref (N x)] [] (c_parentOfK l Γ G1664 hT1659 hx a2) q650 q651 q48 q652 rfl rfl ⟨by decide +kernel, by decide +kernel, by decide +kernel⟩ ⟨by (try dsimp only [RM]); omega, by (try dsimp only [RM]); omega⟩ rfl rfl (Nat.le_of_ble_eq_true rfl) dJ9_fixAfterInsertion_237 ⟨by (try dsimp only [RM]); omega, by (try dsimp only [RM]); omega⟩ (fun v1674 G1675 H locs hq1671 hR1672 hS1673 => ?_)
                            obtain ⟨rfl, rfl⟩ := hq1671
                            refine lv_iconst (v := 0) X.hx X.hb dJ9_fixAfterInsertion_240 (by decide) ?_
                            refine gcS X hl.1 hR1672 hS1673 2 [.ref (N g), .int 0] [] (c_setColorS0 l Γ G1664 hT1659 hg) q662 q663 q48 q664 rfl rfl ⟨by decide +kernel, by decide +kernel, by decide +kernel⟩ ⟨by (try dsimp only [RM]); omega, by (try dsimp only [RM]); omega⟩ rfl rfl (Nat.le_of_ble_eq_true rfl) dJ9_fixAfterInsertion_241 ⟨by (try dsimp only [RM]); omega, by (try dsimp only [RM]); omega⟩ (fun v1681 G1682 H locs hq1678 hR1679 hS1680 => ?_)
                            obtain ⟨rfl, hk1676, hT1677⟩ := hq1678
                            have f1683 : G1682 a = some ((4, p), .inr (7, [.null, va_rf vw, .null, va_rf (root1644.map N), .int sz, .int mo, .null, .null, .null])) := hk1676 _ _ f1665 (fun h9 => by obtain ⟨k9, -, e9⟩ := h9; cases e9)
                            refine lv_aload_n X.hx X.hb dJ9_fixAfterInsertion_244 rfl (lv_at hl 2 rfl) ?_
                            refine lv_aload_n X.hx X.hb dJ9_fixAfterInsertion_245 rfl (lv_at hl 0 rfl) ?_
                            refine gcS X hl.1 hR1679 hS1680 1 [.ref (N w)] [.ref a] (c_parentOfK l Γ G1682 hT1677 hw a1) q650 q651 q48 q652 rfl rfl ⟨by decide +kernel, by decide +kernel, by decide +kernel⟩ ⟨by (try dsimp only [RM]); omega, by (try dsimp only [RM]); omega⟩ rfl rfl (Nat.le_of_ble_eq_true rfl) dJ9_fixAfterInsertion_246 ⟨by (try dsimp only [RM]); omega, by (try dsimp only [RM]); omega⟩ (fun v1687 G1688 H locs hq1684 hR1685 hS1686 => ?_)
                            obtain ⟨rfl, rfl⟩ := hq1684
                            refine gcS X hl.1 hR1685 hS1686 1 [.ref (N x)] [.ref a] (c_parentOfK l Γ G1682 hT1677 hx a2) q650 q651 q48 q652 rfl rfl ⟨by decide +kernel, by decide +kernel, by decide +kernel⟩ ⟨by (try dsimp only [RM]); omega, by (try dsimp only [RM]); omega⟩ rfl rfl (Nat.le_of_ble_eq_true rfl) dJ9_fixAfterInsertion_249 ⟨by (try dsimp only [RM]); omega, by (try dsimp only [RM]); omega⟩ (fun v1692 G1693 H locs hq1689 hR1690 hS1691 => ?_)
                            obtain ⟨rfl, rfl⟩ := hq1689
                            refine gcV X hl.1 hR1690 hS1691 1 [.ref (N g)] [] (c_rotL l Γ G1682 hT1677 hI1647 f1683 hg a3) f1683 rfl q665 q667 qs10 q48 q668 rfl rfl ⟨rfl, by decide +kernel, by decide +kernel, by decide +kernel⟩ ⟨by (try dsimp only [RM]); omega, by (try dsimp only [RM]); omega⟩ rfl rfl (Nat.le_of_ble_eq_true rfl) dJ9_fixAfterInsertion_252 ⟨by (try dsimp only [RM]); omega, by (try dsimp only [RM]); omega⟩ (fun v1706 G1707 H locs hq1703 hR1704 hS1705 => ?_)
                            obtain ⟨rfl, hk1694, L1696, R1697, P1698, root1699, hT1695, f1700, hrot1701⟩ := hq1703
                            have hI1702 := hrot1701.TI_L hI1647 hg a3
                            refine lv_goto (tgt := 5) X.hx X.hb dJ9_fixAfterInsertion_255 (by decide) ?_
                            have b0 : ∀ r, root1644 = some r → r ≠ w → r ≠ x → C r = 1 := fun r h1 h2 h3 => hB r (a4 ▸ h1) h3
                            obtain ⟨b1, b2⟩ := fix_A2 (z := w) (C := C) hrot1701 (TI_rp hI1647) a1 (Ne.symm hgw) hwx (Ne.symm hgx) (TI_LR (TI_mirror hI1647) hx a5) b0
                            exact ih L1696 R1697 P1698 _ _ _ root1699 w _ _ _ _ hT1695 hI1702 hw f1700 b2 (gK.tr (gK.tr (gK.tr (gK.tr hgk hk1639) (hk1658.mono fun _ h => Or.inr h)) (hk1676.mono fun _ h => Or.inr h)) hk1694) (Or.inl ⟨b1, by omega⟩) hR1704 hS1705 ⟨hl.1, lv_sub hl [2, 0] rfl⟩
                        · exact absurd c166 (by decide)
                      · exact absurd (hT.inj (o := L g) (fun y hy => (hI.2.2.1 g y hg hy).1) hw ((congrArg (Option.map N) hy).trans c41.symm)) hLg
                · refine lv_aload_n X.hx X.hb dJ9_fixAfterInsertion_9 rfl (lv_at hl 1 rfl) ?_
                  refine lv_aload_n X.hx X.hb dJ9_fixAfterInsertion_10 rfl (lv_at hl 0 rfl) ?_
                  refine g_get X hR hM rfl in_J9 3 (by decide) q264 (fun _ h => h) rfl dJ9_fixAfterInsertion_11 ?_
                  refine lv_acmp_eq (rx := some (N x)) (ry := root.map N) (tgt := 258) X.hx X.hb dJ9_fixAfterInsertion_14 (by decide) (fun c14 => ?_) (fun c14 => ?_)
                  · exact absurd (hT.inj (fun y hy => (hI.2.2.2.2.2.2.2.2.1 y hy).1) hx c14.symm) hrx
                  · refine lv_aload_n X.hx X.hb dJ9_fixAfterInsertion_17 rfl (lv_at hl 1 rfl) ?_
                    refine g_get (v := .ref (N w)) X hR (hT.1 x hx) rfl in_J21 4 (by decide) q623 (fun _ h => h) (knv (N := N) (o := P x) (v := some w) hPx) dJ9_fixAfterInsertion_18 ?_
                    refine g_get (v := .int 0) X hR (hT.1 w hw) rfl in_J21 5 (by decide) q625 (fun _ h => h) (congrArg (fun z => some (Value.int z)) hCw) dJ9_fixAfterInsertion_21 ?_
                    refine lv_if_ne (tgt := 258) X.hx X.hb dJ9_fixAfterInsertion_24 (by decide) (fun c24 => ?_) (fun c24 => ?_)
                    · exact absurd rfl c24
                    · refine lv_aload_n X.hx X.hb dJ9_fixAfterInsertion_27 rfl (lv_at hl 1 rfl) ?_
                      refine gcS X hl.1 hR hS 1 [.ref (N x)] [] (c_parentOfK l Γ G1 hT hx hPx) q650 q651 q48 q652 rfl rfl ⟨by decide +kernel, by decide +kernel, by decide +kernel⟩ ⟨by (try dsimp only [RM]); omega, by (try dsimp only [RM]); omega⟩ rfl rfl (Nat.le_of_ble_eq_true rfl) dJ9_fixAfterInsertion_28 ⟨by (try dsimp only [RM]); omega, by (try dsimp only [RM]); omega⟩ (fun v1711 G1712 H locs hq1708 hR1709 hS1710 => ?_)
                      obtain ⟨rfl, rfl⟩ := hq1708
                      refine lv_aload_n X.hx X.hb dJ9_fixAfterInsertion_31 rfl (lv_at hl 1 rfl) ?_
                      refine gcS X hl.1 hR1709 hS1710 1 [.ref (N x)] [.ref (N w)] (c_parentOfK l Γ G1 hT hx hPx) q650 q651 q48 q652 rfl rfl ⟨by decide +kernel, by decide +kernel, by decide +kernel⟩ ⟨by (try dsimp only [RM]); omega, by (try dsimp only [RM]); omega⟩ rfl rfl (Nat.le_of_ble_eq_true rfl) dJ9_fixAfterInsertion_32 ⟨by (try dsimp only [RM]); omega, by (try dsimp only [RM]); omega⟩ (fun v1716 G1717 H locs hq1713 hR1714 hS1715 => ?_)
                      obtain ⟨rfl, rfl⟩ := hq1713
                      refine gcS X hl.1 hR1714 hS1715 1 [.ref (N w)] [.ref (N w)] (c_parentOfK l Γ G1 hT hw hPw) q650 q651 q48 q652 rfl rfl ⟨by decide +kernel, by decide +kernel, by decide +kernel⟩ ⟨by (try dsimp only [RM]); omega, by (try dsimp only [RM]); omega⟩ rfl rfl (Nat.le_of_ble_eq_true rfl) dJ9_fixAfterInsertion_35 ⟨by (try dsimp only [RM]); omega, by (try dsimp only [RM]); omega⟩ (fun v1721 G1722 H locs hq1718 hR1719 hS1720 => ?_)
                      obtain ⟨rfl, rfl⟩ := hq1718
                      refine gcS X hl.1 hR1719 hS1720 1 [.ref (N g)] [.ref (N w)] (c_leftOfK l Γ G1 hT hg hy) q653 q654 q48 q655 rfl rfl ⟨by decide +kernel, by decide +kernel, by decide +kernel⟩ ⟨by (try dsimp only [RM]); omega, by (try dsimp only [RM]); omega⟩ rfl rfl (Nat.le_of_ble_eq_true rfl) dJ9_fixAfterInsertion_38 ⟨by (try dsimp only [RM]); omega, by (try dsimp only [RM]); omega⟩ (fun v1726 G1727 H locs hq1723 hR1724 hS1725 => ?_)
                      obtain ⟨rfl, rfl⟩ := hq1723
                      refine lv_acmp_ne (rx := some (N w)) (ry := some (N y)) (tgt := 151) X.hx X.hb dJ9_fixAfterInsertion_41 (by decide) (fun c41 => ?_) (fun c41 => ?_)
                      · refine lv_aload_n X.hx X.hb dJ9_fixAfterInsertion_151 rfl (lv_at hl 1 rfl) ?_
                        refine gcS X hl.1 hR1724 hS1725 1 [.ref (N x)] [] (c_parentOfK l Γ G1 hT hx hPx) q650 q651 q48 q652 rfl rfl ⟨by decide +kernel, by decide +kernel, by decide +kernel⟩ ⟨by (try dsimp only [RM]); omega, by (try dsimp only [RM]); omega⟩ rfl rfl (Nat.le_of_ble_eq_true rfl) dJ9_fixAfterInsertion_152 ⟨by (try dsimp only [RM]); omega, by (try dsimp only [RM]); omega⟩ (fun v1731 G1732 H locs hq1728 hR1729 hS1730 => ?_)
                        obtain ⟨rfl, rfl⟩ := hq1728
                        refine gcS X hl.1 hR1729 hS1730 1 [.ref (N w)] [] (c_parentOfK l Γ G1 hT hw hPw) q650 q651 q48 q652 rfl rfl ⟨by decide +kernel, by decide +kernel, by decide +kernel⟩ ⟨by (try dsimp only [RM]); omega, by (try dsimp only [RM]); omega⟩ rfl rfl (Nat.le_of_ble_eq_true rfl) dJ9_fixAfterInsertion_155 ⟨by (try dsimp only [RM]); omega, by (try dsimp only [RM]); omega⟩ (fun v1736 G1737 H locs hq1733 hR1734 hS1735 => ?_)
                        obtain ⟨rfl, rfl⟩ := hq1733
                        refine gcS X hl.1 hR1734 hS1735 1 [.ref (N g)] [] (c_leftOfK l Γ G1 hT hg hy) q653 q654 q48 q655 rfl rfl ⟨by decide +kernel, by decide +kernel, by decide +kernel⟩ ⟨by (try dsimp only [RM]); omega, by (try dsimp only [RM]); omega⟩ rfl rfl (Nat.le_of_ble_eq_true rfl) dJ9_fixAfterInsertion_158 ⟨by (try dsimp only [RM]); omega, by (try dsimp only [RM]); omega⟩ (fun v1741 G1742 H locs hq1738 hR1739 hS1740 => ?_)
                        obtain ⟨rfl, rfl⟩ := hq1738
                        refine lv_astore_n (lv' := [(2, .ref (N y)), (0, .ref a), (1, .ref (N x))]) X.hx X.hb dJ9_fixAfterInsertion_161 rfl hl (by decide) rfl (fun ls hl => ?_)
                        refine lv_aload_n X.hx X.hb dJ9_fixAfterInsertion_162 rfl (lv_at hl 0 rfl) ?_
                        refine gcS X hl.1 hR1739 hS1740 1 [.ref (N y)] [] (c_colorOfK l Γ G1 hT hSy hCy) q659 q660 q48 q661 rfl rfl ⟨by decide +kernel, by decide +kernel, by decide +kernel⟩ ⟨by (try dsimp only [RM]); omega, by (try dsimp only [RM]); omega⟩ rfl rfl (Nat.le_of_ble_eq_true rfl) dJ9_fixAfterInsertion_163 ⟨by (try dsimp only [RM]); omega, by (try dsimp only [RM]); omega⟩ (fun v1746 G1747 H locs hq1743 hR1744 hS1745 => ?_)
                        obtain ⟨rfl, rfl⟩ := hq1743
                        refine lv_if_ne (tgt := 204) X.hx X.hb dJ9_fixAfterInsertion_166 (by decide) (fun c166 => ?_) (fun c166 => ?_)
                        · refine lv_aload_n X.hx X.hb dJ9_fixAfterInsertion_204 rfl (lv_at hl 2 rfl) ?_
                          refine lv_aload_n X.hx X.hb dJ9_fixAfterInsertion_205 rfl (lv_at hl 2 rfl) ?_
                          refine gcS X hl.1 hR1744 hS1745 1 [.ref (N x)] [.ref (N x)] (c_parentOfK l Γ G1 hT hx hPx) q650 q651 q48 q652 rfl rfl ⟨by decide +kernel, by decide +kernel, by decide +kernel⟩ ⟨by (try dsimp only [RM]); omega, by (try dsimp only [RM]); omega⟩ rfl rfl (Nat.le_of_ble_eq_true rfl) dJ9_fixAfterInsertion_206 ⟨by (try dsimp only [RM]); omega, by (try dsimp only [RM]); omega⟩ (fun v1751 G1752 H locs hq1748 hR1749 hS1750 => ?_)
                          obtain ⟨rfl, rfl⟩ := hq1748
                          refine gcS X hl.1 hR1749 hS1750 1 [.ref (N w)] [.ref (N x)] (c_leftOfS l Γ G1 hT hw) q653 q654 q48 q655 rfl rfl ⟨by decide +kernel, by decide +kernel, by decide +kernel⟩ ⟨by (try dsimp only [RM]); omega, by (try dsimp only [RM]); omega⟩ rfl rfl (Nat.le_of_ble_eq_true rfl) dJ9_fixAfterInsertion_209 ⟨by (try dsimp only [RM]); omega, by (try dsimp only [RM]); omega⟩ (fun v1756 G1757 H locs hq1753 hR1754 hS1755 => ?_)
                          obtain ⟨rfl, rfl⟩ := hq1753
                          refine lv_acmp_ne (rx := some (N x)) (ry := (L w).map N) (tgt := 225) X.hx X.hb dJ9_fixAfterInsertion_212 (by decide) (fun c212 => ?_) (fun c212 => ?_)
                          · refine lv_aload_n X.hx X.hb dJ9_fixAfterInsertion_225 rfl (lv_at hl 2 rfl) ?_
                            refine gcS X hl.1 hR1754 hS1755 1 [.ref (N x)] [] (c_parentOfK l Γ G1 hT hx hPx) q650 q651 q48 q652 rfl rfl ⟨by decide +kernel, by decide +kernel, by decide +kernel⟩ ⟨by (try dsimp only [RM]); omega, by (try dsimp only [RM]); omega⟩ rfl rfl (Nat.le_of_ble_eq_true rfl) dJ9_fixAfterInsertion_226 ⟨by (try dsimp only [RM]); omega, by (try dsimp only [RM]); omega⟩ (fun v1761 G1762 H locs hq1758 hR1759 hS1760 => ?_)
                            obtain ⟨rfl, rfl⟩ := hq1758
                            refine lv_iconst (v := 1) X.hx X.hb dJ9_fixAfterInsertion_229 (by decide) ?_
                            refine gcS X hl.1 hR1759 hS1760 2 [.ref (N w), .int 1] [] (c_setColorS1 l Γ G1 hT hw) q662 q663 q48 q664 rfl rfl ⟨by decide +kernel, by decide +kernel, by decide +kernel⟩ ⟨by (try dsimp only [RM]); omega, by (try dsimp only [RM]); omega⟩ rfl rfl (Nat.le_of_ble_eq_true rfl) dJ9_fixAfterInsertion_230 ⟨by (try dsimp only [RM]); omega, by (try dsimp only [RM]); omega⟩ (fun v1768 G1769 H locs hq1765 hR1766 hS1767 => ?_)
                            obtain ⟨rfl, hk1763, hT1764⟩ := hq1765
                            have f1770 : G1769 a = some ((4, p), .inr (7, [.null, va_rf vw, .null, va_rf (root.map N), .int sz, .int mo, .null, .null, .null])) := hk1763 _ _ hM (fun h9 => by obtain ⟨k9, -, e9⟩ := h9; cases e9)
                            refine lv_aload_n X.hx X.hb dJ9_fixAfterInsertion_233 rfl (lv_at hl 2 rfl) ?_
                            refine gcS X hl.1 hR1766 hS1767 1 [.ref (N x)] [] (c_parentOfK l Γ G1769 hT1764 hx hPx) q650 q651 q48 q652 rfl rfl ⟨by decide +kernel, by decide +kernel, by decide +kernel⟩ ⟨by (try dsimp only [RM]); omega, by (try dsimp only [RM]); omega⟩ rfl rfl (Nat.le_of_ble_eq_true rfl) dJ9_fixAfterInsertion_234 ⟨by (try dsimp only [RM]); omega, by (try dsimp only [RM]); omega⟩ (fun v1774 G1775 H locs hq1771 hR1772 hS1773 => ?_)
                            obtain ⟨rfl, rfl⟩ := hq1771
                            refine gcS X hl.1 hR1772 hS1773 1 [.ref (N w)] [] (c_parentOfK l Γ G1769 hT1764 hw hPw) q650 q651 q48 q652 rfl rfl ⟨by decide +kernel, by decide +kernel, by decide +kernel⟩ ⟨by (try dsimp only [RM]); omega, by (try dsimp only [RM]); omega⟩ rfl rfl (Nat.le_of_ble_eq_true rfl) dJ9_fixAfterInsertion_237 ⟨by (try dsimp only [RM]); omega, by (try dsimp only [RM]); omega⟩ (fun v1779 G1780 H locs hq1776 hR1777 hS1778 => ?_)
                            obtain ⟨rfl, rfl⟩ := hq1776
                            refine lv_iconst (v := 0) X.hx X.hb dJ9_fixAfterInsertion_240 (by decide) ?_
                            refine gcS X hl.1 hR1777 hS1778 2 [.ref (N g), .int 0] [] (c_setColorS0 l Γ G1769 hT1764 hg) q662 q663 q48 q664 rfl rfl ⟨by decide +kernel, by decide +kernel, by decide +kernel⟩ ⟨by (try dsimp only [RM]); omega, by (try dsimp only [RM]); omega⟩ rfl rfl (Nat.le_of_ble_eq_true rfl) dJ9_fixAfterInsertion_241 ⟨by (try dsimp only [RM]); omega, by (try dsimp only [RM]); omega⟩ (fun v1786 G1787 H locs hq1783 hR1784 hS1785 => ?_)
                            obtain ⟨rfl, hk1781, hT1782⟩ := hq1783
                            have f1788 : G1787 a = some ((4, p), .inr (7, [.null, va_rf vw, .null, va_rf (root.map N), .int sz, .int mo, .null, .null, .null])) := hk1781 _ _ f1770 (fun h9 => by obtain ⟨k9, -, e9⟩ := h9; cases e9)
                            refine lv_aload_n X.hx X.hb dJ9_fixAfterInsertion_244 rfl (lv_at hl 1 rfl) ?_
                            refine lv_aload_n X.hx X.hb dJ9_fixAfterInsertion_245 rfl (lv_at hl 2 rfl) ?_
                            refine gcS X hl.1 hR1784 hS1785 1 [.ref (N x)] [.ref a] (c_parentOfK l Γ G1787 hT1782 hx hPx) q650 q651 q48 q652 rfl rfl ⟨by decide +kernel, by decide +kernel, by decide +kernel⟩ ⟨by (try dsimp only [RM]); omega, by (try dsimp only [RM]); omega⟩ rfl rfl (Nat.le_of_ble_eq_true rfl) dJ9_fixAfterInsertion_246 ⟨by (try dsimp only [RM]); omega, by (try dsimp only [RM]); omega⟩ (fun v1792 G1793 H locs hq1789 hR1790 hS1791 => ?_)
                            obtain ⟨rfl, rfl⟩ := hq1789
                            refine gcS X hl.1 hR1790 hS1791 1 [.ref (N w)] [.ref a] (c_parentOfK l Γ G1787 hT1782 hw hPw) q650 q651 q48 q652 rfl rfl ⟨by decide +kernel, by decide +kernel, by decide +kernel⟩ ⟨by (try dsimp only [RM]); omega, by (try dsimp only [RM]); omega⟩ rfl rfl (Nat.le_of_ble_eq_true rfl) dJ9_fixAfterInsertion_249 ⟨by (try dsimp only [RM]); omega, by (try dsimp only [RM]); omega⟩ (fun v1797 G1798 H locs hq1794 hR1795 hS1796 => ?_)
                            obtain ⟨rfl, rfl⟩ := hq1794
                            refine gcV X hl.1 hR1795 hS1796 1 [.ref (N g)] [] (c_rotL l Γ G1787 hT1782 hI f1788 hg hRg) f1788 rfl q665 q667 qs10 q48 q668 rfl rfl ⟨rfl, by decide +kernel, by decide +kernel, by decide +kernel⟩ ⟨by (try dsimp only [RM]); omega, by (try dsimp only [RM]); omega⟩ rfl rfl (Nat.le_of_ble_eq_true rfl) dJ9_fixAfterInsertion_252 ⟨by (try dsimp only [RM]); omega, by (try dsimp only [RM]); omega⟩ (fun v1811 G1812 H locs hq1808 hR1809 hS1810 => ?_)
                            obtain ⟨rfl, hk1799, L1801, R1802, P1803, root1804, hT1800, f1805, hrot1806⟩ := hq1808
                            have hI1807 := hrot1806.TI_L hI hg hRg
                            refine lv_goto (tgt := 5) X.hx X.hb dJ9_fixAfterInsertion_255 (by decide) ?_
                            have b0 : ∀ r, root = some r → r ≠ x → r ≠ w → C r = 1 := fun r h1 h2 h3 => hB r (h1) h2
                            obtain ⟨b1, b2⟩ := fix_A2 (z := x) (C := C) hrot1806 (TI_rp hI) hPx (Ne.symm hgx) (Ne.symm hwx) (Ne.symm hgw) hs b0
                            exact ih L1801 R1802 P1803 _ _ _ root1804 x _ _ _ _ hT1800 hI1807 hx f1805 b2 (gK.tr (gK.tr (gK.tr hgk (hk1763.mono fun _ h => Or.inr h)) (hk1781.mono fun _ h => Or.inr h)) hk1799) (Or.inl ⟨b1, by omega⟩) hR1809 hS1810 ⟨hl.1, lv_sub hl [1, 2] rfl⟩
                          · exact absurd (hT.inj (fun y hy => (hI.2.2.1 w y hw hy).1) hx c212.symm) hs
                        · exact absurd c166 (by decide)
                      · exact absurd (hT.inj (o := L g) (fun y hy => (hI.2.2.1 g y hg hy).1) hw ((congrArg (Option.map N) hy).trans c41.symm)) hLg
        · refine lv_aload_n X.hx X.hb dJ9_fixAfterInsertion_9 rfl (lv_at hl 1 rfl) ?_
          refine lv_aload_n X.hx X.hb dJ9_fixAfterInsertion_10 rfl (lv_at hl 0 rfl) ?_
          refine g_get X hR hM rfl in_J9 3 (by decide) q264 (fun _ h => h) rfl dJ9_fixAfterInsertion_11 ?_
          refine lv_acmp_eq (rx := some (N x)) (ry := root.map N) (tgt := 258) X.hx X.hb dJ9_fixAfterInsertion_14 (by decide) (fun c14 => ?_) (fun c14 => ?_)
          · exact absurd (hT.inj (fun y hy => (hI.2.2.2.2.2.2.2.2.1 y hy).1) hx c14.symm) hrx
          · refine lv_aload_n X.hx X.hb dJ9_fixAfterInsertion_17 rfl (lv_at hl 1 rfl) ?_
            refine g_get (v := .ref (N w)) X hR (hT.1 x hx) rfl in_J21 4 (by decide) q623 (fun _ h => h) (knv (N := N) (o := P x) (v := some w) hPx) dJ9_fixAfterInsertion_18 ?_
            refine g_get (v := .int 1) X hR (hT.1 w hw) rfl in_J21 5 (by decide) q625 (fun _ h => h) (congrArg (fun z => some (Value.int z)) hCw) dJ9_fixAfterInsertion_21 ?_
            refine lv_if_ne (tgt := 258) X.hx X.hb dJ9_fixAfterInsertion_24 (by decide) (fun c24 => ?_) (fun c24 => ?_)
            · obtain ⟨r0, hr0⟩ : ∃ r0, root = some r0 := by
                cases hr9 : root with
                | none => exact absurd hx (hI.2.2.2.2.2.2.2.2.2 hr9 x)
                | some r0 => exact ⟨r0, rfl⟩
              have hSr0 := (hI.2.2.2.2.2.2.2.2.1 r0 hr0).1
              refine lv_aload_n X.hx X.hb dJ9_fixAfterInsertion_258 rfl (lv_at hl 0 rfl) ?_
              refine g_get (v := .ref (N r0)) X hR hM rfl in_J9 3 (by decide) q264 (fun _ h => h) (by rw [hr0]; rfl) dJ9_fixAfterInsertion_259 ?_
              refine lv_iconst (v := 1) X.hx X.hb dJ9_fixAfterInsertion_262 (by decide) ?_
              refine g_put X hR hS (hT.1 r0 hSr0) (Nat.le_of_ble_eq_true rfl) rfl in_J21 tyJ21 tyJ21_ok nmJ21 5 (by decide) q625 (fun _ h => h) rfl rfl rfl (Nat.le_of_ble_eq_true rfl) dJ9_fixAfterInsertion_263 (fun H locs hR1813 hS1814 => ?_)
              obtain ⟨G1815, hG1815⟩ : ∃ z : GH, z = gu G1 (N r0) ((11, r0), .inr (8, [.ref (K r0), .ref (V r0), va_rf ((L r0).map N), va_rf ((R r0).map N), va_rf ((P r0).map N), .int 1])) := ⟨_, rfl⟩
              have hR1813 : Rep Γ G1815 H := by rw [hG1815]; exact hR1813
              obtain ⟨C1816, eC1816⟩ : ∃ z, z = va_up C r0 1 := ⟨_, rfl⟩
              have hT1817 := TH.putC hT hSr0 (y := 1) hG1815 (by decide)
              rw [← eC1816] at hT1817
              have f1818 : G1815 a = some ((4, p), .inr (7, [.null, va_rf vw, .null, va_rf (root.map N), .int sz, .int mo, .null, .null, .null])) := by rw [hG1815]; exact gu_t hM (hT.1 r0 hSr0) (tne rfl)
              have k1819 : C1816 r0 = 1 := by rw [eC1816]; exact va_up_self _ _ _
              exact g_vret X hr hlk hR1813 hS1814 (⟨rfl, (gK.tr hgk (gK.pt hG1815 (hT.1 r0 hSr0) (Or.inr ⟨r0, hSr0, rfl⟩))), L, R, P, _, lo, hi, root, hT1817, hI, f1818, fun r hr9 => by cases hr0.symm.trans hr9; rw [eC1816]; exact va_up_self _ _ _⟩) (by (try dsimp only [RM]); omega) (by (try dsimp only [RM]); omega) dJ9_fixAfterInsertion_266
            · exact absurd c24 (by decide)
  refine loop ((B - A) - (hi x0 - lo x0) + 2).toNat L R P _ lo hi root x0 _ _ _ _ hT709 hI hx f710 ?_ (gK.pt hG707 (hT.1 x0 hx) (Or.inr ⟨x0, hx, rfl⟩)) (Or.inr ?_) hR705 hS706 ⟨hl.1, lv_sub hl [0, 1] rfl⟩
  · intro r hr0 hne; rw [eC708, va_up_ne _ _ hne]; exact hB r hr0 hne
  · have := hI.1 x0 hx; omega
