set_option maxRecDepth 100000
/-! the component: effects laid, versions made -/
section LAY
variable {p : Program} {l : Launch} {e : Env} {R : Room} {s : State} {m : MethodId} {args : Array Value} {below : List Frame} {meth : Method} {c : Code} {H : Heap} {locs : List Loc} {cells slots : Nat} {Q : State → Prop}
variable {cc : ByteArray} {pc nL : Nat} {ls : Array Slot} {rest st0 : List Value} {Γ : GP} {G : GH} {own : String} {a : Nat} {t : Nat × Nat} {post : GPost} {px : String → GH → Prop} {mc ms : Nat}
theorem in3 {x : Int32} (h : rg x 0 2) : vp_in x 3 := by
  have e0 : (0 : Int32).toInt = 0 := rfl
  obtain ⟨h1, h2⟩ := h
  rintro (h | h)
  · have := Int32.lt_iff_toInt_lt.mp h; omega
  · have : x.toNatClampNeg = x.toInt.toNat := rfl
    omega
theorem g_lay (X : Cx p s m args c Γ cc nL own) (hls : ls.size = nL) (hR : Rep Γ G H) (hS : va_S (gA Γ) s.heap H locs) (hC : CN Γ G) {e0 k v index count : Nat} {kind which number : Int32} {w : VW} (hEF : EF Γ G e0 k kind which number) (hw : rg which 0 2) (hVP : VP Γ G v w)
    (h1 : Cond.methodLink own index EFL ∈ lw_all) (hRm : 4 ≤ R.frames ∧ 4300 ≤ R.locals) (hW : (rest.map fun v => v.category).sum ≤ 8) (hdg : decode cc pc = .ok (.invokeinterface index count, 5)) (hf : cells ≤ R.cells ∧ slots ≤ R.slots)
    (kk : ∀ (G1 : GH) (H1 : Heap) (locs1 : List Loc), VP Γ G1 v (apk kind which number w) → gK (fun t => t = (27, 0) ∨ t = (28, 0)) G G1 → Rep Γ G1 H1 → va_S (gA Γ) s.heap H1 locs1 → W p l e R s m args below meth c H1 locs1 cells slots Q (F0 m (pc + 5) ls rest)) : W p l e R s m args below meth c H locs cells slots Q (F0 m pc ls (.ref v :: .ref e0 :: rest)) := by
  have hr1 : (RM 1 0 0).frames + 2 ≤ R.frames ∧ 100 + (RM 1 0 0).locals ≤ R.locals := ⟨by show 1 + 2 ≤ _; omega, by show 100 + (4000 + 64 * 1) ≤ _; omega⟩
  have hr2 : (RM 2 0 0).frames + 2 ≤ R.frames ∧ 100 + (RM 2 0 0).locals ≤ R.locals := ⟨by show 2 + 2 ≤ _; omega, by show 100 + (4000 + 64 * 2) ≤ _; omega⟩
  rcases hEF with ⟨rfl, f, hb, rfl, rfl⟩ | ⟨rfl, f, hb, rfl, rfl⟩ | ⟨rfl, rfl⟩ | ⟨rfl, rfl⟩
  · exact g_go5 (lm_run1 X hls hR hS hb (c_lchange l Γ G hVP (in3 hw)) (fun _ _ h => h.1) h1 rfl rfl hr1 hW hdg hf) hS (fun v9 G1 H1 locs1 hq hR1 hS1 => by obtain ⟨rfl, h2, h3⟩ := hq; exact kk G1 H1 locs1 h2 h3 hR1 hS1)
  · exact g_go5 (lm_run2 X hls hR hS hb (c_ladd l Γ G hVP (in3 hw)) (fun _ _ h => h.1) h1 rfl rfl hr2 hW hdg hf) hS (fun v9 G1 H1 locs1 hq hR1 hS1 => by obtain ⟨rfl, h2, h3⟩ := hq; exact kk G1 H1 locs1 h2 h3 hR1 hS1)
  · exact g_go5 (lm_run3 X hls hR hS hC.2.2.1 (c_lcancel l Γ G (x := which) (y := number) hVP) (fun _ _ h => h.1) h1 rfl rfl hr1 hW hdg hf) hS (fun v9 G1 H1 locs1 hq hR1 hS1 => by obtain ⟨rfl, h2, h3⟩ := hq; exact kk G1 H1 locs1 h2 h3 hR1 hS1)
  · exact g_go5 (lm_run4 X hls hR hS hC.2.2.2 (c_lreinstate l Γ G (x := which) (y := number) hVP) (fun _ _ h => h.1) h1 rfl rfl hr1 hW hdg hf) hS (fun v9 G1 H1 locs1 hq hR1 hS1 => by obtain ⟨rfl, h2, h3⟩ := hq; exact kk G1 H1 locs1 h2 h3 hR1 hS1)
end LAY

theorem CE_zero {S : Nat → Prop} {kv : Nat → Int32} {o : Option Nat} (c : CE S kv (-1) o) (h : ∀ k, S k → 0 ≤ (kv k).toInt) : CE S kv ((0 : Nat) : Int) o := by
  refine ⟨fun m e => ?_, fun e k hk => ?_⟩
  · obtain ⟨c1, c2, c3⟩ := c.1 m e
    exact ⟨c1, by have := h m c1; omega, fun k hk h1 => c3 k hk (by omega)⟩
  · have := c.2 e k hk
    have := h k hk
    omega
theorem kv_nn {σ : MS} (hW : WF σ) {k : Nat} (hk : k < σ.1 2) : 0 ≤ (kvk σ k).toInt := by
  have h1 := kv_int hW hk
  obtain ⟨-, -, -, ⟨h8, h9⟩, -⟩ := hW.2.2.2.2.2.2 k hk
  omega
theorem TR_of {n : Nat} {t : Nat × Nat} (h : 20 ≤ n ∧ n < 30) (e : t = (n, 0)) : TR t := by subst e; exact h
theorem VO.ibk {G G1 : GH} {k : Nat} {v : Int32} {a : Nat} (h : (G = G1 ∧ ∃ j, G a = some ((50, j), .inr (9, [.int v]))) ∨ (G a = none ∧ G1 = gu G a ((13, k), .inr (9, [.int v])))) : IBk G1 a v := by
  rcases h with ⟨rfl, j, h⟩ | ⟨h1, h2⟩
  · exact ⟨(50, j), h, (by show 50 ≠ 4; decide), (by show 50 ≠ 11; decide), Or.inr rfl⟩
  · exact ⟨(13, k), by rw [h2]; exact gu_s _ _ _, (by show 13 ≠ 4; decide), (by show 13 ≠ 11; decide), Or.inl rfl⟩
theorem CN.kp {Γ : GP} {G G1 : GH} (h : CN Γ G) (hk : gK TR G G1) : CN Γ G1 := h.keep hk (fun t ht => Nat.lt_of_lt_of_le ht.2 (by decide))
/-- the walk over a head map: where it stands -/
def IQo (S : Nat → Prop) (kv : Nat → Int32) (κ h : Int) (o : Option Nat) : Prop := (o = none → ∀ k, S k → κ ≤ (kv k).toInt → h ≤ (kv k).toInt) ∧ ∀ m, o = some m → S m ∧ κ ≤ (kv m).toInt ∧ (∀ k, S k → κ ≤ (kv k).toInt → (kv k).toInt < h → (kv m).toInt ≤ (kv k).toInt) ∧ (h ≤ (kv m).toInt → ∀ k, S k → h ≤ (kv k).toInt → (kv m).toInt ≤ (kv k).toInt)
theorem IQo.ofSh {S : Nat → Prop} {kv : Nat → Int32} {κ h : Int} {o : Option Nat} (c : CE (Sh S kv h) kv κ o) : IQo S kv κ h o := by
  refine ⟨fun e k hk h1 => ?_, fun m e => ?_⟩
  · rcases Int.lt_or_le (kv k).toInt h with h2 | h2
    · have := c.2 e k ⟨hk, h2⟩; omega
    · exact h2
  · obtain ⟨c1, c2, c3⟩ := c.1 m e
    exact ⟨c1.1, c2, fun k hk h1 h2 => c3 k ⟨hk, h2⟩ h1, fun h9 => by have := c1.2; omega⟩
theorem IQo.of {S : Nat → Prop} {kv : Nat → Int32} {κ h : Int} {o : Option Nat} (c : CE S kv κ o) (hh : κ ≤ h) : IQo S kv κ h o := by
  refine ⟨fun e k hk h1 => ?_, fun m e => ?_⟩
  · have := c.2 e k hk; omega
  · obtain ⟨c1, c2, c3⟩ := c.1 m e
    exact ⟨c1, c2, fun k hk h1 _ => c3 k hk h1, fun _ k hk h1 => c3 k hk (by omega)⟩

set_option maxHeartbeats 4000000 in
theorem c_version (l : Launch) (Γ : GP) (G : GH) {x i : Nat} {σ : MS} {A : Nat → Nat → Nat} (hC : CN Γ G) (hW : WF σ) (hX : XP Γ G x σ A) (hi : i < σ.1 0) {d kn : Int32} (hd : rg d 0 364) (hkn : kn.toInt < 2147483647) : MetG l yX1_version (ws_ yX1_version cX1_version 7 (some (.object "Backdater$Version"))) (RM 10 8 30) Γ G [.ref x, .ref (A 2 i), .int d, .int kn] (fun v G1 => ∃ q, v = some (.ref q) ∧ VP Γ G1 q (Fk σ i kn (100 * (d.toInt.toNat + 1))) ∧ gK TR G G1) 8 30 := by
  refine gMet (own := RX1) (by decide) rfl (Nat.le_of_ble_eq_true rfl) ?_
  intro pp ee ss mm below meth cc0 ls X hr hlk hin hnm hR hS hl
  have hl : lv_has ls 7 [(0, .ref x), (1, .ref (A 2 i)), (2, .int d), (3, .int kn)] := hl
  have hpol := (hX.2.2.1 i hi).1
  have hκ : (100 * (d + 1) : Int32).toInt = 100 * (d.toInt + 1) := by
    obtain ⟨d1, d2⟩ := hd
    have e1 : (1 : Int32).toInt = 1 := rfl
    have e2 : (100 : Int32).toInt = 100 := rfl
    rw [Int32.toInt_mul, Int32.toInt_add, e1, e2, Int.bmod_eq_of_le (n := d.toInt + 1) (by omega) (by omega), Int.bmod_eq_of_le (by omega) (by omega)]
  obtain ⟨d1, d2⟩ := hd
  refine g_new (ci := 5) X hR hS (27, 0) (C := RX6) (T := TX6) (N := 2) rfl in_X6 tyX6 tyX6_ok q740 q741 q65 (fs := [.null, .int 0]) (fun j hj => by rcases (show j = 0 ∨ j = 1 by omega) with rfl | rfl <;> rfl) (by (try dsimp only [RM]); omega) (by (try dsimp only [RM]); omega) dX1_version_0 (fun q2090 H hq2092 hR2091 hS2093 => ?_)
  obtain ⟨G2094, hG2094⟩ : ∃ z : GH, z = gu G q2090 ((27, 0), .inr (5, [.null, .int 0])) := ⟨_, rfl⟩
  have hR2091 : Rep Γ G2094 H := by rw [hG2094]; exact hR2091
  have f2095 : G2094 (A 2 i) = some ((3, i), .inr (2, [.int (σ.2 0 i), .int (σ.2 1 i), .ref (A 3 i)])) := by rw [hG2094]; exact gu_f hpol hq2092
  have f2096 : G2094 q2090 = some ((27, 0), .inr (5, [.null, .int 0])) := by rw [hG2094]; exact gu_s _ _ _
  refine lv_dup X.hx X.hb dX1_version_3 rfl ?_
  refine gcIN X hl.1 hR2091 hS2093 0 [] [.ref q2090] (c_X6i l Γ G2094 f2096) kq742 q743 q65 q744 rfl rfl rfl ⟨by decide +kernel, by decide +kernel, by decide +kernel⟩ ⟨by (try dsimp only [RM]); omega, by (try dsimp only [RM]); omega⟩ rfl rfl (Nat.le_of_ble_eq_true rfl) dX1_version_4 ⟨by (try dsimp only [RM]); omega, by (try dsimp only [RM]); omega⟩ (fun v2100 G2101 H locs hq2097 hR2098 hS2099 => ?_)
  obtain ⟨rfl, hVP0, hgv⟩ := hq2097
  have f2102 : G2101 (A 2 i) = some ((3, i), .inr (2, [.int (σ.2 0 i), .int (σ.2 1 i), .ref (A 3 i)])) := hgv _ _ f2095 (fun h9 => by rcases h9 with h9 | h9 <;> cases h9)
  refine lv_astore (lv' := [(4, .ref q2090), (0, .ref x), (1, .ref (A 2 i)), (2, .int d), (3, .int kn)]) X.hx X.hb dX1_version_7 hl (by decide) rfl (fun ls hl => ?_)
  refine lv_aload_n X.hx X.hb dX1_version_9 rfl (lv_at hl 2 rfl) ?_
  refine g_getN X hR2098 f2102 rfl in_X3 2 (by decide) kq296 (fun _ h => h) rfl dX1_version_10 ?_
  refine lv_bipush (v := 100) X.hx X.hb dX1_version_13 (by decide) ?_
  refine lv_iload_n X.hx X.hb dX1_version_15 rfl (lv_at hl 3 rfl) ?_
  refine lv_iconst (v := 1) X.hx X.hb dX1_version_16 (by decide) ?_
  refine lv_iadd X.hx X.hb dX1_version_17 ?_
  refine lv_imul X.hx X.hb dX1_version_18 ?_
  have hC1 := hC.kp ((gK.tr (gK.nw hG2094 hq2092) (hgv.mono (fun t h => by rcases h with h | h <;> exact TR_of ⟨by decide, by decide⟩ h))))
  refine gcS X hl.1 hR2098 hS2099 1 [.int (100 * (d + 1))] [.ref (A 3 i)] (c_valueOf (k := 1000) l Γ G2101 hC1) q532 q533 q62 q534 rfl rfl ⟨by decide +kernel, by decide +kernel, by decide +kernel⟩ ⟨by (try dsimp only [RM]); omega, by (try dsimp only [RM]); omega⟩ rfl rfl (Nat.le_of_ble_eq_true rfl) dX1_version_19 ⟨by (try dsimp only [RM]); omega, by (try dsimp only [RM]); omega⟩ (fun v2106 G2107 H locs hq2103 hR2104 hS2105 => ?_)
  have hvo := hq2103
  have hgo := VO.gk (S := TR) hvo
  have hVP1 := hVP0.keep (VO.gk (S := fun _ => False) hvo) id id
  obtain ⟨ka, rfl, -, hor⟩ := hvo
  have hka0 := VO.ibk hor
  obtain ⟨vw1, hTM1, hvw1⟩ := ((hX.keep ((gK.tr (gK.tr (gK.nw hG2094 hq2092) (hgv.mono (fun t h => by rcases h with h | h <;> exact TR_of ⟨by decide, by decide⟩ h))) hgo))).2.2.1 i hi).2
  have hTM91 := hTM1
  obtain ⟨_, _, _, _, _, _, root1, sz1, mo1, -, -, hM1, -, -⟩ := hTM91
  obtain ⟨tk, hkb, hk4, hk11, hk13⟩ := hka0
  have hka0 : IBk G2107 ka _ := ⟨tk, hkb, hk4, hk11, hk13⟩
  refine gcV X hl.1 hR2104 hS2105 1 [.ref ka] [] (c_head l Γ G2107 hM1 hkb (by omega)) hM1 rfl q755 q756 q757 q48 q758 rfl rfl ⟨rfl, by decide +kernel, by decide +kernel, by decide +kernel⟩ ⟨by (try dsimp only [RM]); omega, by (try dsimp only [RM]); omega⟩ rfl rfl (Nat.le_of_ble_eq_true rfl) dX1_version_22 ⟨by (try dsimp only [RM]); omega, by (try dsimp only [RM]); omega⟩ (fun v2111 G2112 H locs hq2108 hR2109 hS2110 => ?_)
  obtain ⟨sm, rfl, hqs, hGs⟩ := hq2108
  have hsm : G2112 sm = some (SMc (A 3 i) ka none none) := by rw [hGs]; exact gu_s _ _ _
  refine gcF X hl.1 hR2109 hS2110 0 [] [] (c_svals l Γ G2112 hsm) hsm rfl kf8 q813 q833 q835 q47 q837 rfl rfl ⟨by decide +kernel, by decide +kernel, by decide +kernel⟩ ⟨by (try dsimp only [RM]); omega, by (try dsimp only [RM]); omega⟩ rfl rfl (Nat.le_of_ble_eq_true rfl) dX1_version_25 ⟨by (try dsimp only [RM]); omega, by (try dsimp only [RM]); omega⟩ (fun v2116 G2117 H locs hq2113 hR2114 hS2115 => ?_)
  obtain ⟨m2, rfl, hm2, hsm2, hgs⟩ := hq2113
  obtain ⟨vw2, hTM2, hvw2⟩ := ((hX.keep ((gK.tr (gK.tr (gK.tr (gK.tr (gK.nw hG2094 hq2092) (hgv.mono (fun t h => by rcases h with h | h <;> exact TR_of ⟨by decide, by decide⟩ h))) hgo) (gK.nw hGs hqs)) (hgs.mono (fun t h => by rcases h with h | h <;> exact TR_of ⟨by decide, by decide⟩ h))))).2.2.1 i hi).2
  have hTM92 := hTM2
  obtain ⟨_, _, _, _, _, _, root2, sz2, mo2, -, -, hM2, -, -⟩ := hTM92
  have hgq := gK.tr (S := TR) (gK.nw hGs hqs) (hgs.mono (fun t h => by rcases h with h | h <;> exact TR_of ⟨by decide, by decide⟩ h))
  have hka2 := hka0.kp hgq (fun t h => ⟨fun e => absurd h.1 (by omega), fun e => absurd h.2 (by omega)⟩)
  refine gcF X hl.1 hR2114 hS2115 0 [] [] (c_siter l Γ G2117 hsm2 hTM2 hka2 (by rw [hκ]; omega) hm2) hm2 rfl kf10 q850 q854 q856 q69 q858 rfl rfl ⟨by decide +kernel, by decide +kernel, by decide +kernel⟩ ⟨by (try dsimp only [RM]); omega, by (try dsimp only [RM]); omega⟩ rfl rfl (Nat.le_of_ble_eq_true rfl) dX1_version_30 ⟨by (try dsimp only [RM]); omega, by (try dsimp only [RM]); omega⟩ (fun v2121 G2122 H locs hq2118 hR2119 hS2120 => ?_)
  obtain ⟨it, rfl, hgi, o, hco, hSI⟩ := hq2118
  have hVP4 := ((hVP1.keep (gK.nw (S := fun _ => False) hGs hqs) id id).keep hgs (fun h9 => by rcases h9 with h9 | h9 <;> cases h9) (fun h9 => by rcases h9 with h9 | h9 <;> cases h9)).keep hgi (fun h9 => by rcases h9 with h9 | h9 | h9 | h9 <;> cases h9) (fun h9 => by rcases h9 with h9 | h9 | h9 | h9 <;> cases h9)
  refine lv_astore (lv' := [(5, .ref it), (4, .ref q2090), (0, .ref x), (1, .ref (A 2 i)), (2, .int d), (3, .int kn)]) X.hx X.hb dX1_version_35 hl (by decide) rfl (fun ls hl => ?_)
  have loop : ∀ (n κ : Nat) (o : Option Nat) (G1 : GH) (H : Heap) (locs : List Loc) (ls : Array Slot), IQo (Sp σ i) (kvk σ) κ (100 * (d + 1) : Int32).toInt o → κ ≤ 100 * (d.toInt.toNat + 1) → 100 * (d.toInt.toNat + 1) - κ < n → SI Γ G1 it (A 3 i) i (Sp σ i) (A 5) (A 6) (kvk σ) (100 * (d + 1) : Int32).toInt o → VP Γ G1 q2090 (Fk σ i kn κ) → gK TR G G1 → Rep Γ G1 H → va_S (gA Γ) ss.heap H locs → lv_has ls 7 [(0, .ref x), (1, .ref (A 2 i)), (2, .int d), (3, .int kn), (4, .ref q2090), (5, .ref it)] → W pp l ee (RM 10 8 30) ss mm (List.toArray [.ref x, .ref (A 2 i), .int d, .int kn]) below meth cc0 H locs 8 30 (MQ below (Qg Γ (fun v G1 => ∃ q, v = some (.ref q) ∧ VP Γ G1 q (Fk σ i kn (100 * (d.toInt.toNat + 1))) ∧ gK TR G G1)) (List.toArray [.ref x, .ref (A 2 i), .int d, .int kn]) ss 8 30 (gA Γ)) (F0 mm 37 ls []) := by
    intro n
    induction n with
    | zero => intro κ o G1 H locs ls hIQ hκ1 hn; omega
    | succ n ih =>
      intro κ o G1 H locs ls hIQ hκ1 hn hSI hVP hgk hR hS hl
      have hXc := hX.keep hgk
      obtain ⟨vw, hTM, -⟩ := (hXc.2.2.1 i hi).2
      have hSI0 := hSI
      obtain ⟨si, sm, m2, ka, lr, vw0, rt, es, vs, f, sz0, mo0, hit, -⟩ := hSI0
      have hinj : ∀ j k, Sp σ i j → Sp σ i k → kvk σ j = kvk σ k → j = k := fun j k a b c => hTM.inj a b c
      rcases o with _ | m
      · have hF : Fk σ i kn (100 * (d.toInt.toNat + 1)) = Fk σ i kn κ := by
          have := Fk_gap hW (p := i) (d := kn) (κ := κ) (100 * (d.toInt.toNat + 1) - κ) (fun k hk h1 h2 => by have := hIQ.1 rfl k hk h1; omega)
          rwa [show κ + (100 * (d.toInt.toNat + 1) - κ) = 100 * (d.toInt.toNat + 1) by omega] at this
        refine lv_aload X.hx X.hb dX1_version_37 (lv_at hl 5 rfl) ?_
        refine gcF X hl.1 hR hS 0 [] [] (c_shas_none l Γ G1 hTM hSI) hit rfl kf11 q1058 q1062 q1064 q70 q1066 rfl rfl ⟨by decide +kernel, by decide +kernel, by decide +kernel⟩ ⟨by (try dsimp only [RM]); omega, by (try dsimp only [RM]); omega⟩ rfl rfl (Nat.le_of_ble_eq_true rfl) dX1_version_39 ⟨by (try dsimp only [RM]); omega, by (try dsimp only [RM]); omega⟩ (fun v2126 G2127 H locs hq2123 hR2124 hS2125 => ?_)
        obtain ⟨rfl, rfl⟩ := hq2123
        refine lv_if_eq (tgt := 83) X.hx X.hb dX1_version_44 (by decide) (fun c44 => ?_) (fun c44 => ?_)
        · refine lv_aload X.hx X.hb dX1_version_83 (lv_at hl 4 rfl) ?_
          exact g_aretS X hr (Or.inl ⟨_, rfl⟩) hlk hR2124 hS2125 (⟨q2090, rfl, by rw [hF]; exact hVP, hgk⟩) (by (try dsimp only [RM]); omega) (by (try dsimp only [RM]); omega) dX1_version_85
        · exact absurd rfl c44
      · obtain ⟨hm, hκm, hmin1, hmin2⟩ := hIQ.2 m rfl
        by_cases hlt : (kvk σ m).toInt < (100 * (d + 1) : Int32).toInt
        · obtain ⟨hc, hef⟩ := hXc.2.2.2.1 m hm.1
          obtain ⟨-, hkd, hwh, hfr, -⟩ := hW.2.2.2.2.2.2 m hm.1
          have hkm := kv_int hW hm.1
          have hF : Fk σ i kn (kvk σ m).toInt.toNat = Fk σ i kn κ := by
            have := Fk_gap hW (p := i) (d := kn) (κ := κ) ((kvk σ m).toInt.toNat - κ) (fun k hk h1 h2 => by have := hmin1 k hk h1 (by omega); omega)
            rwa [show κ + ((kvk σ m).toInt.toNat - κ) = (kvk σ m).toInt.toNat by omega] at this
          have hstep := Fk_step hW (d := kn) hm
          rw [hF] at hstep
          refine lv_aload X.hx X.hb dX1_version_37 (lv_at hl 5 rfl) ?_
          refine gcF X hl.1 hR hS 0 [] [] (c_shas_lo l Γ G1 hTM hm hlt hSI) hit rfl kf11 q1058 q1062 q1064 q70 q1066 rfl rfl ⟨by decide +kernel, by decide +kernel, by decide +kernel⟩ ⟨by (try dsimp only [RM]); omega, by (try dsimp only [RM]); omega⟩ rfl rfl (Nat.le_of_ble_eq_true rfl) dX1_version_39 ⟨by (try dsimp only [RM]); omega, by (try dsimp only [RM]); omega⟩ (fun v2131 G2132 H locs hq2128 hR2129 hS2130 => ?_)
          obtain ⟨rfl, rfl⟩ := hq2128
          refine lv_if_eq (tgt := 83) X.hx X.hb dX1_version_44 (by decide) (fun c44 => ?_) (fun c44 => ?_)
          · exact absurd c44 (by decide)
          · refine lv_aload X.hx X.hb dX1_version_47 (lv_at hl 5 rfl) ?_
            refine gcF X hl.1 hR2129 hS2130 0 [] [] (c_snext l Γ G1 hTM hm hlt hSI) hit rfl kf12 q1091 q1094 q1096 q70 q1098 rfl rfl ⟨by decide +kernel, by decide +kernel, by decide +kernel⟩ ⟨by (try dsimp only [RM]); omega, by (try dsimp only [RM]); omega⟩ rfl rfl (Nat.le_of_ble_eq_true rfl) dX1_version_49 ⟨by (try dsimp only [RM]); omega, by (try dsimp only [RM]); omega⟩ (fun v2136 G2137 H locs hq2133 hR2134 hS2135 => ?_)
            obtain ⟨rfl, o, hce, hSI1, hgn⟩ := hq2133
            have hgt : gK TR G1 G2137 := (hgn.mono (fun t h => by exact TR_of ⟨by decide, by decide⟩ h))
            have hc := hgt _ _ hc (fun h9 => absurd h9.1 (by show ¬ 20 ≤ 10; decide))
            have hVP := hVP.keep hgn (fun h9 => by cases h9) (fun h9 => by cases h9)
            have hef := hef.keep hgt (fun h9 => absurd h9.1 (by show ¬ 20 ≤ 12; decide))
            have hgk := gK.tr hgk hgt
            have hCc := hC.kp hgk
            have hIQ1 : IQo (Sp σ i) (kvk σ) (((kvk σ m).toInt.toNat + 1 : Nat) : Int) (100 * (d + 1) : Int32).toInt o := by rw [show (((kvk σ m).toInt.toNat + 1 : Nat) : Int) = (kvk σ m).toInt + 1 by omega]; exact IQo.of hce (by omega)
            refine g_castS X hR2134 hc rfl q500 dX1_version_54 ?_
            refine lv_astore (lv' := [(6, .ref (A 4 m)), (0, .ref x), (1, .ref (A 2 i)), (2, .int d), (3, .int kn), (4, .ref q2090), (5, .ref it)]) X.hx X.hb dX1_version_57 hl (by decide) rfl (fun ls hl => ?_)
            refine lv_aload X.hx X.hb dX1_version_59 (lv_at hl 0 rfl) ?_
            refine lv_iload_n X.hx X.hb dX1_version_61 rfl (lv_at hl 4 rfl) ?_
            refine gcV X hl.1 hR2134 hS2135 1 [.int kn] [] (c_X5k l Γ G2137 hc) hc rfl q721 q722 q723 q60 q724 rfl rfl ⟨rfl, by decide +kernel, by decide +kernel, by decide +kernel⟩ ⟨by (try dsimp only [RM]); omega, by (try dsimp only [RM]); omega⟩ rfl rfl (Nat.le_of_ble_eq_true rfl) dX1_version_62 ⟨by (try dsimp only [RM]); omega, by (try dsimp only [RM]); omega⟩ (fun v2141 G2142 H locs hq2138 hR2139 hS2140 => ?_)
            obtain ⟨rfl, rfl⟩ := hq2138
            by_cases hkq : σ.2 10 m ≤ kn ∧ kn < tbk σ m
            · rw [if_pos hkq]
              refine lv_if_eq (tgt := 80) X.hx X.hb dX1_version_65 (by decide) (fun c65 => ?_) (fun c65 => ?_)
              · exact absurd c65 (by decide)
              · refine lv_aload X.hx X.hb dX1_version_68 (lv_at hl 0 rfl) ?_
                refine g_getN X hR2139 hc rfl in_X5 4 (by decide) kq516 (fun _ h => h) rfl dX1_version_70 ?_
                refine lv_aload X.hx X.hb dX1_version_73 (lv_at hl 5 rfl) ?_
                refine g_lay X hl.1 hR2139 hS2140 hCc hef hwh hVP q1164 ⟨by show 4 ≤ 10; decide, by show 4300 ≤ 4000 + 64 * 10; decide⟩ (Nat.le_of_ble_eq_true rfl) dX1_version_75 ⟨by (try dsimp only [RM]); omega, by (try dsimp only [RM]); omega⟩ (fun G2143 H locs hVPn hgl hR2144 hS2145 => ?_)
                have hgl2 : gK TR _ G2143 := (hgl.mono (fun t h => by rcases h with h | h <;> exact TR_of ⟨by decide, by decide⟩ h))
                refine lv_goto (tgt := 37) X.hx X.hb dX1_version_80 (by decide) ?_
                rw [if_pos ((knw_tb hkn).mpr hkq)] at hstep
                rw [← hstep] at hVPn
                exact ih _ o _ _ _ _ hIQ1 (by omega) (by omega) (hSI1.keep hgl (fun h9 => by rcases h9 with h9 | h9 <;> cases h9) (fun h9 => by rcases h9 with h9 | h9 <;> cases h9) (fun h9 => by rcases h9 with h9 | h9 <;> cases h9) (fun h9 => by rcases h9 with h9 | h9 <;> cases h9)) hVPn (gK.tr hgk hgl2) hR2144 hS2145 (lv_sub hl [1, 2, 3, 4, 5, 6] rfl)
            · rw [if_neg hkq]
              refine lv_if_eq (tgt := 80) X.hx X.hb dX1_version_65 (by decide) (fun c65 => ?_) (fun c65 => ?_)
              · refine lv_goto (tgt := 37) X.hx X.hb dX1_version_80 (by decide) ?_
                rw [if_neg (fun h9 => hkq ((knw_tb hkn).mp h9))] at hstep
                rw [← hstep] at hVP
                exact ih _ o _ _ _ _ hIQ1 (by omega) (by omega) hSI1 hVP hgk hR2139 hS2140 (lv_sub hl [1, 2, 3, 4, 5, 6] rfl)
              · exact absurd rfl c65
        · have hF : Fk σ i kn (100 * (d.toInt.toNat + 1)) = Fk σ i kn κ := by
            have := Fk_gap hW (p := i) (d := kn) (κ := κ) (100 * (d.toInt.toNat + 1) - κ) (fun k hk h1 h2 => by have := hmin1 k hk h1 (by omega); omega)
            rwa [show κ + (100 * (d.toInt.toNat + 1) - κ) = 100 * (d.toInt.toNat + 1) by omega] at this
          refine lv_aload X.hx X.hb dX1_version_37 (lv_at hl 5 rfl) ?_
          refine gcF X hl.1 hR hS 0 [] [] (c_shas_hi l Γ G1 hTM hm (by omega) (hmin2 (by omega)) hSI) hit rfl kf11 q1058 q1062 q1064 q70 q1066 rfl rfl ⟨by decide +kernel, by decide +kernel, by decide +kernel⟩ ⟨by (try dsimp only [RM]); omega, by (try dsimp only [RM]); omega⟩ rfl rfl (Nat.le_of_ble_eq_true rfl) dX1_version_39 ⟨by (try dsimp only [RM]); omega, by (try dsimp only [RM]); omega⟩ (fun v2149 G2150 H locs hq2146 hR2147 hS2148 => ?_)
          obtain ⟨rfl, rfl⟩ := hq2146
          refine lv_if_eq (tgt := 83) X.hx X.hb dX1_version_44 (by decide) (fun c44 => ?_) (fun c44 => ?_)
          · refine lv_aload X.hx X.hb dX1_version_83 (lv_at hl 4 rfl) ?_
            exact g_aretS X hr (Or.inl ⟨_, rfl⟩) hlk hR2147 hS2148 (⟨q2090, rfl, by rw [hF]; exact hVP, hgk⟩) (by (try dsimp only [RM]); omega) (by (try dsimp only [RM]); omega) dX1_version_85
          · exact absurd rfl c44
  exact loop (100 * (d.toInt.toNat + 1) + 1) 0 o _ _ _ _ (IQo.ofSh (CE_zero hco (fun k hk => kv_nn hW hk.1.1))) (by omega) (by omega) hSI hVP4 ((gK.tr (gK.tr (gK.tr (gK.tr (gK.tr (gK.nw hG2094 hq2092) (hgv.mono (fun t h => by rcases h with h | h <;> exact TR_of ⟨by decide, by decide⟩ h))) hgo) (gK.nw hGs hqs)) (hgs.mono (fun t h => by rcases h with h | h <;> exact TR_of ⟨by decide, by decide⟩ h))) (hgi.mono (fun t h => by rcases h with h | h | h | h <;> exact TR_of ⟨by decide, by decide⟩ h)))) hR2119 hS2120 (lv_sub hl [2, 3, 4, 5, 1, 0] rfl)

