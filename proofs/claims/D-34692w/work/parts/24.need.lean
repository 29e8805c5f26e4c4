set_option maxRecDepth 100000
/-! the component: throwing, and its small parts -/
section TH0
variable {p : Program} {l : Launch} {e : Env} {R : Room} {s : State} {m : MethodId} {args : Array Value} {below : List Frame} {meth : Method} {c : Code} {H : Heap} {locs : List Loc} {cells slots : Nat} {Q : State → Prop}
variable {cc : ByteArray} {pc nL : Nat} {ls : Array Slot} {rest st0 : List Value} {Γ : GP} {G : GH} {own : String} {a : Nat} {t : Nat × Nat} {post : GPost} {px : String → GH → Prop} {mc ms : Nat}
def nm3 : List String := ["java/lang/RuntimeException", "java/lang/Exception"]
theorem g_throw0 (X : Cx p s m args c Γ cc nL own) (hst : l.stackTraces = false) (hls : ls.size = nL) (hR : Rep Γ G H) (hS : va_S (gA Γ) s.heap H locs) {cls : String} {ik ic : Nat} (hcls : Bundle.fit cls = true) (hk : Cond.classLink own ik cls ∈ lw_all) (hini : Cond.initialized cls ∈ lw_all)
    (hat : (vx_at0 own ic cls nm3).all (fun w => decide (w ∈ lw_all) || (decide (w ∈ NW) && w.onTables)) = true) (hgood : (Cond.classLink own ik cls :: Cond.initialized cls :: vx_at0 own ic cls nm3).all vx_ot = true)
    (d0 : decode cc pc = .ok (.new ik, 3)) (d3 : decode cc (pc + 3) = .ok (.dup, 1)) (d4 : decode cc (pc + 4) = .ok (.invokespecial ic, 3)) (d7 : decode cc (pc + 7) = .ok (.athrow, 1)) (hxt : ∀ x ∈ c.exceptionTable.toList, False)
    (hRf : 6 ≤ R.frames) (hRl : (rest.map fun v => v.category).sum + 81 ≤ R.locals) (hRc : cells + 1 ≤ R.cells) (hRs : slots + 6 ≤ R.slots) (hlk : meth.locks = false) (hp : px cls G) (hc : cells + 1 ≤ mc) (hs : slots + 6 ≤ ms) :
    W p l e R s m args below meth c H locs cells slots (vx_MQ below (Qg Γ post) (XCg Γ px) args s mc ms (gA Γ)) (F0 m pc ls rest) := by
  refine vx_throw0 (A := gA Γ) (names := nm3) X.hx X.hb hst X.hown hcls (by decide) (X.hts _ hk) (X.hts _ hini) ?_ ?_ X.hZ.2.2.2.2.2.2.1 X.hZ.2.2.2.2.2.2.2 hS (by rw [X.hml]; exact hls) d0 d3 d4 d7 (fun x hx => (hxt x hx).elim) hRf hRl hRc hRs hlk ?_ hS.2.2 hc hs
  · intro w hw
    have h1 := List.all_eq_true.mp hat w hw
    simp only [Bool.or_eq_true, Bool.and_eq_true, decide_eq_true_eq] at h1
    rcases h1 with h1 | h1
    · exact X.hts w h1
    · exact va_any h1.2 (X.nw h1.1)
  · exact fun w hw => List.all_eq_true.mp hgood w hw
  · intro t hA h1 h2
    refine ⟨⟨G, hp, fun a x hx => ⟨(hR a x hx).1.kept (h2 a (hR.lt hx)), (hR a x hx).2⟩⟩, ⟨Nat.le_trans hS.1 h1, fun q g1 g2 => ?_⟩⟩
    rw [h2 q (Nat.lt_of_lt_of_le g1 hS.1)]
    exact hS.2.1 q g1 g2

theorem ex_IAE1 : (vx_at0 "Backdater" 33 "java/lang/IllegalArgumentException" nm3).all (fun w => decide (w ∈ lw_all) || (decide (w ∈ NW) && w.onTables)) = true := by decide +kernel
theorem ex_IAE2 : (Cond.classLink "Backdater" 31 "java/lang/IllegalArgumentException" :: Cond.initialized "java/lang/IllegalArgumentException" :: vx_at0 "Backdater" 33 "java/lang/IllegalArgumentException" nm3).all vx_ot = true := by decide +kernel
theorem ex_ISE1 : (vx_at0 "Backdater" 36 "java/lang/IllegalStateException" nm3).all (fun w => decide (w ∈ lw_all) || (decide (w ∈ NW) && w.onTables)) = true := by decide +kernel
theorem ex_ISE2 : (Cond.classLink "Backdater" 34 "java/lang/IllegalStateException" :: Cond.initialized "java/lang/IllegalStateException" :: vx_at0 "Backdater" 36 "java/lang/IllegalStateException" nm3).all vx_ot = true := by decide +kernel
theorem ex_IOE1 : (vx_at0 "Backdater" 30 "java/lang/IndexOutOfBoundsException" nm3).all (fun w => decide (w ∈ lw_all) || (decide (w ∈ NW) && w.onTables)) = true := by decide +kernel
theorem ex_IOE2 : (Cond.classLink "Backdater" 28 "java/lang/IndexOutOfBoundsException" :: Cond.initialized "java/lang/IndexOutOfBoundsException" :: vx_at0 "Backdater" 30 "java/lang/IndexOutOfBoundsException" nm3).all vx_ot = true := by decide +kernel
end TH0
set_option maxHeartbeats 4000000 in
theorem c_needPlace (l : Launch) (Γ : GP) (G : GH) (hst : l.stackTraces = false) {x y : Int32} : MetX l yX1_needPlace (ws_ yX1_needPlace cX1_needPlace 2 none) (RM 6 1 6) Γ G [.int x, .int y] (fun v G1 => v = none ∧ ¬ x < 0 ∧ x < y ∧ G = G1) (fun E G1 => E = "java/lang/IndexOutOfBoundsException" ∧ (x < 0 ∨ ¬ x < y) ∧ G = G1) 1 6 := by
  refine gMetX (own := RX1) (by decide) rfl (Nat.le_of_ble_eq_true rfl) ?_
  intro pp ee ss mm below meth cc0 ls X hr hlk hin hnm hxt hR hS hl
  have hl : lv_has ls 2 [(0, .int x), (1, .int y)] := hl
  refine lv_iload_n X.hx X.hb dX1_needPlace_0 rfl (lv_at hl 0 rfl) ?_
  refine lv_if_lt (tgt := 9) X.hx X.hb dX1_needPlace_1 (by decide) (fun c1 => ?_) (fun c1 => ?_)
  · exact g_throw0 X hst hl.1 hR hS (by decide) q423 q53 ex_IOE1 ex_IOE2 dX1_needPlace_9 dX1_needPlace_12 dX1_needPlace_13 dX1_needPlace_16 hxt (by (try dsimp only [RM]); omega) (by simp only [List.map, List.sum_cons, List.sum_nil, Value.category, RM]; omega) (by (try dsimp only [RM]); omega) (by (try dsimp only [RM]); omega) hlk (⟨rfl, Or.inl c1, rfl⟩) (by (try dsimp only [RM]); omega) (by (try dsimp only [RM]); omega)
  · refine lv_iload_n X.hx X.hb dX1_needPlace_4 rfl (lv_at hl 0 rfl) ?_
    refine lv_iload_n X.hx X.hb dX1_needPlace_5 rfl (lv_at hl 1 rfl) ?_
    refine lv_icmp_lt (tgt := 17) X.hx X.hb dX1_needPlace_6 (by decide) (fun c6 => ?_) (fun c6 => ?_)
    · refine vx_ret ?_
      exact g_vret X hr hlk hR hS (⟨rfl, c1, c6, rfl⟩) (by (try dsimp only [RM]); omega) (by (try dsimp only [RM]); omega) dX1_needPlace_17
    · exact g_throw0 X hst hl.1 hR hS (by decide) q423 q53 ex_IOE1 ex_IOE2 dX1_needPlace_9 dX1_needPlace_12 dX1_needPlace_13 dX1_needPlace_16 hxt (by (try dsimp only [RM]); omega) (by simp only [List.map, List.sum_cons, List.sum_nil, Value.category, RM]; omega) (by (try dsimp only [RM]); omega) (by (try dsimp only [RM]); omega) hlk (⟨rfl, Or.inr c6, rfl⟩) (by (try dsimp only [RM]); omega) (by (try dsimp only [RM]); omega)

set_option maxHeartbeats 4000000 in
theorem c_needNumber (l : Launch) (Γ : GP) (G : GH) (hst : l.stackTraces = false) {x y z : Int32} : MetX l yX1_needNumber (ws_ yX1_needNumber cX1_needNumber 3 none) (RM 6 1 6) Γ G [.int x, .int y, .int z] (fun v G1 => v = none ∧ ¬ x < y ∧ x ≤ z ∧ G = G1) (fun E G1 => E = "java/lang/IllegalArgumentException" ∧ (x < y ∨ ¬ x ≤ z) ∧ G = G1) 1 6 := by
  refine gMetX (own := RX1) (by decide) rfl (Nat.le_of_ble_eq_true rfl) ?_
  intro pp ee ss mm below meth cc0 ls X hr hlk hin hnm hxt hR hS hl
  have hl : lv_has ls 3 [(0, .int x), (1, .int y), (2, .int z)] := hl
  refine lv_iload_n X.hx X.hb dX1_needNumber_0 rfl (lv_at hl 0 rfl) ?_
  refine lv_iload_n X.hx X.hb dX1_needNumber_1 rfl (lv_at hl 1 rfl) ?_
  refine lv_icmp_lt (tgt := 10) X.hx X.hb dX1_needNumber_2 (by decide) (fun c2 => ?_) (fun c2 => ?_)
  · exact g_throw0 X hst hl.1 hR hS (by decide) q165 q44 ex_IAE1 ex_IAE2 dX1_needNumber_10 dX1_needNumber_13 dX1_needNumber_14 dX1_needNumber_17 hxt (by (try dsimp only [RM]); omega) (by simp only [List.map, List.sum_cons, List.sum_nil, Value.category, RM]; omega) (by (try dsimp only [RM]); omega) (by (try dsimp only [RM]); omega) hlk (⟨rfl, Or.inl c2, rfl⟩) (by (try dsimp only [RM]); omega) (by (try dsimp only [RM]); omega)
  · refine lv_iload_n X.hx X.hb dX1_needNumber_5 rfl (lv_at hl 0 rfl) ?_
    refine lv_iload_n X.hx X.hb dX1_needNumber_6 rfl (lv_at hl 2 rfl) ?_
    refine lv_icmp_le (tgt := 18) X.hx X.hb dX1_needNumber_7 (by decide) (fun c7 => ?_) (fun c7 => ?_)
    · refine vx_ret ?_
      exact g_vret X hr hlk hR hS (⟨rfl, c2, c7, rfl⟩) (by (try dsimp only [RM]); omega) (by (try dsimp only [RM]); omega) dX1_needNumber_18
    · exact g_throw0 X hst hl.1 hR hS (by decide) q165 q44 ex_IAE1 ex_IAE2 dX1_needNumber_10 dX1_needNumber_13 dX1_needNumber_14 dX1_needNumber_17 hxt (by (try dsimp only [RM]); omega) (by simp only [List.map, List.sum_cons, List.sum_nil, Value.category, RM]; omega) (by (try dsimp only [RM]); omega) (by (try dsimp only [RM]); omega) hlk (⟨rfl, Or.inr c7, rfl⟩) (by (try dsimp only [RM]); omega) (by (try dsimp only [RM]); omega)

set_option maxHeartbeats 4000000 in
theorem c_needState (l : Launch) (Γ : GP) (G : GH) (hst : l.stackTraces = false) {x : Int32} : MetX l yX1_needState (ws_ yX1_needState cX1_needState 1 none) (RM 6 1 6) Γ G [.int x] (fun v G1 => v = none ∧ x ≠ 0 ∧ G = G1) (fun E G1 => E = "java/lang/IllegalStateException" ∧ x = 0 ∧ G = G1) 1 6 := by
  refine gMetX (own := RX1) (by decide) rfl (Nat.le_of_ble_eq_true rfl) ?_
  intro pp ee ss mm below meth cc0 ls X hr hlk hin hnm hxt hR hS hl
  have hl : lv_has ls 1 [(0, .int x)] := hl
  refine lv_iload_n X.hx X.hb dX1_needState_0 rfl (lv_at hl 0 rfl) ?_
  refine lv_if_ne (tgt := 12) X.hx X.hb dX1_needState_1 (by decide) (fun c1 => ?_) (fun c1 => ?_)
  · refine vx_ret ?_
    exact g_vret X hr hlk hR hS (⟨rfl, c1, rfl⟩) (by (try dsimp only [RM]); omega) (by (try dsimp only [RM]); omega) dX1_needState_12
  · exact g_throw0 X hst hl.1 hR hS (by decide) q233 q45 ex_ISE1 ex_ISE2 dX1_needState_4 dX1_needState_7 dX1_needState_8 dX1_needState_11 hxt (by (try dsimp only [RM]); omega) (by simp only [List.map, List.sum_cons, List.sum_nil, Value.category, RM]; omega) (by (try dsimp only [RM]); omega) (by (try dsimp only [RM]); omega) hlk (⟨rfl, c1, rfl⟩) (by (try dsimp only [RM]); omega) (by (try dsimp only [RM]); omega)

