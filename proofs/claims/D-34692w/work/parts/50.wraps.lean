set_option maxRecDepth 100000
/-! the law: what it calls, with its handlers -/
section GXW
variable {p : Program} {l : Launch} {e : Env} {R : Room} {s : State} {m : MethodId} {args : Array Value} {below : List Frame} {meth : Method} {c : Code} {H : Heap} {locs : List Loc} {cells slots : Nat} {Q : State → Prop}
variable {cc : ByteArray} {pc nL : Nat} {ls : Array Slot} {rest st0 : List Value} {Γ : GP} {G : GH} {own : String} {a : Nat} {t : Nat × Nat} {post : GPost} {px : String → GH → Prop} {mc ms : Nat}
variable {y : MethodName} {bytes : ByteArray} {maxL n index ci : Nat} {ret : Option FieldType} {rm : Room} {C : String} {b : Nat}
theorem gxWS (X : Cx p s m args c Γ cc nL own) (hls : ls.size = nL) (hR : Rep Γ G H) (hS : va_S (gA Γ) s.heap H locs) (nA : Nat) (As rest : List Value) {hh : List (Nat × Nat × Nat × Nat)} (hM : MetX l y (wsW_ y bytes maxL ret hh) rm Γ G As post px mc ms)
    (h1 : Cond.methodLink own index y ∈ lw_all) (h2 : Cond.static y ∈ lw_all) (h3 : Cond.initialized y.cls ∈ lw_all) (h5 : Cond.codeWith y bytes maxL ret hh ∈ lw_all) (hrc : rm.cells = mc) (hrs : rm.slots = ms)
    (hd : y.cls ≠ "java/lang/invoke/MethodHandle" ∧ y.cls ≠ "java/lang/invoke/VarHandle" ∧ (parseMethodDescriptor y.desc).map (fun d => d.parameters.length) = some nA) (hRm : rm.frames + 1 ≤ R.frames ∧ 8 + (maxL + 11) + rm.locals ≤ R.locals) (hnA : As.length = nA) (hst : st0 = As.reverse ++ rest) (hW : (rest.map fun v => v.category).sum ≤ 8) (hdg : decode cc pc = .ok (.invokestatic index, 3)) (hf : cells + mc ≤ R.cells ∧ slots + ms ≤ R.slots)
    (kx : ∀ (E : String) (ce : Cell) (q9 : Addr) (G1 : GH) (H1 : Heap) (locs1 : List Loc), px E G1 → Rep Γ G1 H1 → va_S (gA Γ) s.heap H1 locs1 → H1[q9]? = some ce → ce.vm = .none → s.vm.findClass E = some ce.cls → vx_W p l e R s m args below meth c H1 locs1 (cells + mc) (slots + ms) Q (F0 m pc ls rest) q9)
    (kk : ∀ (v : Option Value) (G1 : GH) (H1 : Heap) (locs1 : List Loc), post v G1 → Rep Γ G1 H1 → va_S (gA Γ) s.heap H1 locs1 → W p l e R s m args below meth c H1 locs1 (cells + mc) (slots + ms) Q (F0 m (pc + 3) ls (v.toList ++ rest))) : W p l e R s m args below meth c H locs cells slots Q (F0 m pc ls st0) :=
  g_goX (vx_runSX (As := As) (rest := rest) X.fix hM (vx_cwSW nA X.hts (lw_SW h1 h2 h3 h5) rfl hrc hrs hd hRm) ⟨Pg_blind, Pg_at X.hN hS hR⟩ rfl hnA hls hst (lv_room hW) hdg hf) hS kx kk
/-- a throw is caught here -/
theorem g_catch (X : Cx p s m args c Γ cc nL own) (pre : List ExceptionTableEntry) (x : ExceptionTableEntry) (suf : List ExceptionTableEntry) (hsplit : c.exceptionTable.toList = pre ++ x :: suf) {E : String} {ce : Cell} {q : Addr}
    (hpass : ∀ z ∈ pre, covers z pc = false ∨ (z.catchType ≠ 0 ∧ ∃ nm : String, Cond.classLink own z.catchType nm ∈ lw_all ∧ (E, nm) ∈ NCL)) (hx : covers x pc = true) (h0 : x.catchType ≠ 0)
    (hlink : Cond.classLink own x.catchType E ∈ lw_all) (hcast : Cond.castable E E ∈ NW) (hcell : H[q]? = some ce) (hv : ce.vm = .none) (hcl : s.vm.findClass E = some ce.cls)
    (kk : W p l e R s m args below meth c H locs cells slots Q (F0 m x.handlerPc ls [.ref q])) : vx_W p l e R s m args below meth c H locs cells slots Q (F0 m pc ls rest) q := by
  refine vx_catch X.hown pre x suf hsplit (fun z hz => ?_) hx h0 (X.hts _ hlink) (va_Nw.use rfl (X.nw hcast)) hcell hv hcl kk
  rcases hpass z hz with h | ⟨h1, nm, h2, h3⟩
  · exact Or.inl h
  · exact Or.inr ⟨h1, nm, X.hts _ h2, X.nc h3⟩
end GXW
def TXo (t : Nat × Nat) : Prop := t.1 < 30 ∨ t = (40, 0)
/-- how a call of the component ends, and what it left in the law's long -/
def CR (Γ : GP) (G G1 : GH) (x o : Nat) (σ τ : MS) (k val : Int32) (v : Option Value) : Prop := (((k = 0 ∧ v = some (.int 0) ∧ (∃ B, XP Γ G1 x τ B) ∧ ∃ fL : Nat → Int64, G1 o = some ((40, 0), .inl (Γ.2 3, 1, .inr (.inl fL))) ∧ fL 0 = val.toInt64) ∨ (k ≠ 0 ∧ v = some (.int k) ∧ (∃ B, XP Γ G1 x σ B) ∧ ∃ fL : Nat → Int64, G1 o = some ((40, 0), .inl (Γ.2 3, 1, .inr (.inl fL)))))) ∧ gK TXo G G1
theorem XP.out {Γ : GP} {G G1 : GH} {x : Nat} {σ : MS} {A : Nat → Nat → Nat} (h : XP Γ G x σ A) (hk : gK (fun t => t = (40, 0)) G G1) : XP Γ G1 x σ A := by
  have n0 : ∀ a j : Nat, a ≠ 40 → ¬ ((a, j) : Nat × Nat) = (40, 0) := fun a j b h => b (congrArg Prod.fst h)
  exact h.kp hk (n0 _ _ (by decide)) (n0 _ _ (by decide)) (fun _ _ => n0 _ _ (by decide)) (fun _ _ => n0 _ _ (by decide)) (n0 _ _ (by decide)) (fun _ _ => ⟨n0 _ _ (by decide), n0 _ _ (by decide), n0 _ _ (by decide)⟩) (fun _ _ => ⟨n0 _ _ (by decide), n0 _ _ (by decide), n0 _ _ (by decide)⟩) (fun t ht => by rw [show t = _ from ht]; exact ⟨by simp, by simp⟩) (fun _ _ => n0 _ _ (by decide))
theorem TXo_x {G G1 : GH} (h : gK TX G G1) : gK TXo G G1 := h.mono (fun t h => Or.inl h)
theorem TXo_o {G G1 : GH} (h : gK (fun t => t = (40, 0)) G G1) : gK TXo G G1 := h.mono (fun t h => Or.inr h)

set_option maxHeartbeats 4000000 in
theorem w_open (l : Launch) (Γ : GP) (G : GH) (hst : l.stackTraces = false) {x : Nat} {σ : MS} {A : Nat → Nat → Nat} (hW : WF σ) (hX : XP Γ G x σ A) (hC : CN Γ G) {o : Nat} {fL : Nat → Int64} (ho : G o = some ((40, 0), .inl (Γ.2 3, 1, .inr (.inl fL)))) {b : Int32} : MetX l yX0_open (wsW_ yX0_open cX0_open 4 (some .int) [(0, 9, 12, 13), (0, 9, 15, 15)]) (RM 13 4000 12000) Γ G [.ref x, .int b, .ref o] (fun v G1 => CR Γ G G1 x o σ (tauO σ b) (k0 σ b) (nI (σ.1 0)) v) (fun _ _ => False) 4000 12000 := by
  refine gMetH (own := RX0) (by decide) rfl (Nat.le_of_ble_eq_true rfl) ?_
  intro pp ee ss mm below meth cc0 ls X hr hlk hxt hR hS hl
  have hl : lv_has ls 4 [(0, .ref x), (1, .int b), (2, .ref o)] := hl
  obtain ⟨⟨rf, hx, -⟩, -⟩ := id hX
  refine lv_aload_n X.hx X.hb dX0_open_0 rfl (lv_at hl 2 rfl) ?_
  refine lv_iconst (v := 0) X.hx X.hb dX0_open_1 (by decide) ?_
  refine lv_aload_n X.hx X.hb dX0_open_2 rfl (lv_at hl 0 rfl) ?_
  refine lv_iload_n X.hx X.hb dX0_open_3 rfl (lv_at hl 1 rfl) ?_
  refine gxV X hl.1 hR hS 1 [.int b] [.int 0, .ref o] (c_open l Γ G hst hW hX hC) hx rfl q158 q159 q160 q36 q161 rfl rfl ⟨rfl, by decide +kernel, by decide +kernel, by decide +kernel⟩ ⟨by (try dsimp only [RM]); omega, by (try dsimp only [RM]); omega⟩ rfl rfl (Nat.le_of_ble_eq_true rfl) dX0_open_4 ⟨by (try dsimp only [RM]); omega, by (try dsimp only [RM]); omega⟩ (fun E364 ce q9 G9 H locs hq9 hR9 hS9 hce hcv hcl => ?_) (fun v362 G363 H locs hq359 hR360 hS361 => ?_)
  · obtain ⟨hE, hX9, hg9⟩ := hq9
    rcases hE with ⟨rfl, hk9⟩ | ⟨rfl, hk9⟩
    · refine g_catch X [] ⟨0, 9, 12, 13⟩ [⟨0, 9, 15, 15⟩] hxt (fun z hz => absurd hz List.not_mem_nil) rfl (by decide) q156 kq167 hce hcv hcl ?_
      refine lv_astore_n (lv' := [(3, .ref q9), (0, .ref x), (1, .int b), (2, .ref o)]) X.hx X.hb dX0_open_12 rfl hl (by decide) rfl (fun ls hl => ?_)
      refine lv_iconst (v := 1) X.hx X.hb dX0_open_13 (by decide) ?_
      refine vx_ret ?_
      exact g_iret X hr hlk hR9 hS9 (⟨Or.inr ⟨by rw [hk9]; decide, by rw [hk9], ⟨_, hX9⟩, fL, hg9 _ _ ho (by show ¬ 40 < 30; decide)⟩, TXo_x hg9⟩) (by (try dsimp only [RM]); omega) (by (try dsimp only [RM]); omega) dX0_open_14
    · refine g_catch X [⟨0, 9, 12, 13⟩] ⟨0, 9, 15, 15⟩ [] hxt (fun z hz => by obtain rfl : z = (⟨0, 9, 12, 13⟩ : ExceptionTableEntry) := List.mem_singleton.mp hz; exact Or.inr ⟨by decide, _, q156, kn2⟩) rfl (by decide) q157 kq235 hce hcv hcl ?_
      refine lv_astore_n (lv' := [(3, .ref q9), (0, .ref x), (1, .int b), (2, .ref o)]) X.hx X.hb dX0_open_15 rfl hl (by decide) rfl (fun ls hl => ?_)
      refine lv_iconst (v := 2) X.hx X.hb dX0_open_16 (by decide) ?_
      refine vx_ret ?_
      exact g_iret X hr hlk hR9 hS9 (⟨Or.inr ⟨by rw [hk9]; decide, by rw [hk9], ⟨_, hX9⟩, fL, hg9 _ _ ho (by show ¬ 40 < 30; decide)⟩, TXo_x hg9⟩) (by (try dsimp only [RM]); omega) (by (try dsimp only [RM]); omega) dX0_open_17
  · obtain ⟨hk0, rfl, hX1, hgf⟩ := hq359
    have ho1 := hgf _ _ ho (by show ¬ 40 < 30; decide)
    obtain ⟨B9, hX1⟩ := hX1
    refine lv_i2l X.hx X.hb dX0_open_7 rfl ?_
    refine g_last X hR360 hS361 ho1 (Nat.le_of_ble_eq_true rfl) (vp_in_nI (n := 0) (by decide) (by decide)) dX0_open_8 (fun H locs hR365 hS366 => ?_)
    obtain ⟨G367, hG367⟩ : ∃ z : GH, z = gu G363 o ((40, 0), .inl (Γ.2 3, 1, .inr (.inl (vp_updL fL ((0 : Int32).toNatClampNeg) ((nI (σ.1 0)).toInt64))))) := ⟨_, rfl⟩
    have hR365 : Rep Γ G367 H := by rw [hG367]; exact hR365
    have f368 : G367 o = some ((40, 0), .inl (Γ.2 3, 1, .inr (.inl (vp_updL fL ((0 : Int32).toNatClampNeg) ((nI (σ.1 0)).toInt64))))) := by rw [hG367]; exact gu_s _ _ _
    refine lv_goto (tgt := 18) X.hx X.hb dX0_open_9 (by decide) ?_
    refine lv_iconst (v := 0) X.hx X.hb dX0_open_18 (by decide) ?_
    refine vx_ret ?_
    exact g_iret X hr hlk hR365 hS366 (⟨Or.inl ⟨hk0, rfl, ⟨_, hX1.out (gK.pt hG367 ho1 rfl)⟩, _, f368, rfl⟩, gK.tr (TXo_x hgf) (TXo_o (gK.pt hG367 ho1 rfl))⟩) (by (try dsimp only [RM]); omega) (by (try dsimp only [RM]); omega) dX0_open_19

set_option maxHeartbeats 4000000 in
theorem w_setWeight (l : Launch) (Γ : GP) (G : GH) (hst : l.stackTraces = false) {x : Nat} {σ : MS} {A : Nat → Nat → Nat} (hW : WF σ) (hX : XP Γ G x σ A) (hC : CN Γ G) {o : Nat} {fL : Nat → Int64} (ho : G o = some ((40, 0), .inl (Γ.2 3, 1, .inr (.inl fL)))) {f w fr : Int32} : MetX l yX0_setWeight (wsW_ yX0_setWeight cX0_setWeight 6 (some .int) [(0, 12, 15, 21), (0, 12, 19, 13), (0, 12, 23, 15)]) (RM 13 4000 12000) Γ G [.ref x, .int f, .int w, .int fr, .ref o] (fun v G1 => CR Γ G G1 x o σ (tauW σ f w fr) (k1 σ f w fr) (nI (σ.1 1 + 1)) v) (fun _ _ => False) 4000 12000 := by
  refine gMetH (own := RX0) (by decide) rfl (Nat.le_of_ble_eq_true rfl) ?_
  intro pp ee ss mm below meth cc0 ls X hr hlk hxt hR hS hl
  have hl : lv_has ls 6 [(0, .ref x), (1, .int f), (2, .int w), (3, .int fr), (4, .ref o)] := hl
  obtain ⟨⟨rf, hx, -⟩, -⟩ := id hX
  refine lv_aload X.hx X.hb dX0_setWeight_0 (lv_at hl 4 rfl) ?_
  refine lv_iconst (v := 0) X.hx X.hb dX0_setWeight_2 (by decide) ?_
  refine lv_aload_n X.hx X.hb dX0_setWeight_3 rfl (lv_at hl 0 rfl) ?_
  refine lv_iload_n X.hx X.hb dX0_setWeight_4 rfl (lv_at hl 1 rfl) ?_
  refine lv_iload_n X.hx X.hb dX0_setWeight_5 rfl (lv_at hl 2 rfl) ?_
  refine lv_iload_n X.hx X.hb dX0_setWeight_6 rfl (lv_at hl 3 rfl) ?_
  refine gxV X hl.1 hR hS 3 [.int f, .int w, .int fr] [.int 0, .ref o] (c_setWeight l Γ G hst hW hX hC) hx rfl q416 q417 q418 q36 q419 rfl rfl ⟨rfl, by decide +kernel, by decide +kernel, by decide +kernel⟩ ⟨by (try dsimp only [RM]); omega, by (try dsimp only [RM]); omega⟩ rfl rfl (Nat.le_of_ble_eq_true rfl) dX0_setWeight_7 ⟨by (try dsimp only [RM]); omega, by (try dsimp only [RM]); omega⟩ (fun E374 ce q9 G9 H locs hq9 hR9 hS9 hce hcv hcl => ?_) (fun v372 G373 H locs hq369 hR370 hS371 => ?_)
  · obtain ⟨hE, hX9, hg9⟩ := hq9
    rcases hE with ⟨rfl, hk9⟩ | ⟨rfl, hk9⟩ | ⟨rfl, hk9⟩
    · refine g_catch X [] ⟨0, 12, 15, 21⟩ [⟨0, 12, 19, 13⟩, ⟨0, 12, 23, 15⟩] hxt (fun z hz => absurd hz List.not_mem_nil) rfl (by decide) q383 kq425 hce hcv hcl ?_
      refine lv_astore (lv' := [(5, .ref q9), (0, .ref x), (1, .int f), (2, .int w), (3, .int fr), (4, .ref o)]) X.hx X.hb dX0_setWeight_15 hl (by decide) rfl (fun ls hl => ?_)
      refine lv_iconst (v := 1) X.hx X.hb dX0_setWeight_17 (by decide) ?_
      refine vx_ret ?_
      exact g_iret X hr hlk hR9 hS9 (⟨Or.inr ⟨by rw [hk9]; decide, by rw [hk9], ⟨_, hX9⟩, fL, hg9 _ _ ho (by show ¬ 40 < 30; decide)⟩, TXo_x hg9⟩) (by (try dsimp only [RM]); omega) (by (try dsimp only [RM]); omega) dX0_setWeight_18
    · refine g_catch X [⟨0, 12, 15, 21⟩] ⟨0, 12, 19, 13⟩ [⟨0, 12, 23, 15⟩] hxt (fun z hz => by obtain rfl : z = (⟨0, 12, 15, 21⟩ : ExceptionTableEntry) := List.mem_singleton.mp hz; exact Or.inr ⟨by decide, _, q383, kn1⟩) rfl (by decide) q156 kq167 hce hcv hcl ?_
      refine lv_astore (lv' := [(5, .ref q9), (0, .ref x), (1, .int f), (2, .int w), (3, .int fr), (4, .ref o)]) X.hx X.hb dX0_setWeight_19 hl (by decide) rfl (fun ls hl => ?_)
      refine lv_iconst (v := 2) X.hx X.hb dX0_setWeight_21 (by decide) ?_
      refine vx_ret ?_
      exact g_iret X hr hlk hR9 hS9 (⟨Or.inr ⟨by rw [hk9]; decide, by rw [hk9], ⟨_, hX9⟩, fL, hg9 _ _ ho (by show ¬ 40 < 30; decide)⟩, TXo_x hg9⟩) (by (try dsimp only [RM]); omega) (by (try dsimp only [RM]); omega) dX0_setWeight_22
    · refine g_catch X [⟨0, 12, 15, 21⟩, ⟨0, 12, 19, 13⟩] ⟨0, 12, 23, 15⟩ [] hxt (fun z hz => by rcases List.mem_cons.mp hz with h | h; (subst h; exact Or.inr ⟨by decide, _, q383, kn3⟩); (obtain rfl : z = (⟨0, 12, 19, 13⟩ : ExceptionTableEntry) := List.mem_singleton.mp h; exact Or.inr ⟨by decide, _, q156, kn2⟩)) rfl (by decide) q157 kq235 hce hcv hcl ?_
      refine lv_astore (lv' := [(5, .ref q9), (0, .ref x), (1, .int f), (2, .int w), (3, .int fr), (4, .ref o)]) X.hx X.hb dX0_setWeight_23 hl (by decide) rfl (fun ls hl => ?_)
      refine lv_iconst (v := 3) X.hx X.hb dX0_setWeight_25 (by decide) ?_
      refine vx_ret ?_
      exact g_iret X hr hlk hR9 hS9 (⟨Or.inr ⟨by rw [hk9]; decide, by rw [hk9], ⟨_, hX9⟩, fL, hg9 _ _ ho (by show ¬ 40 < 30; decide)⟩, TXo_x hg9⟩) (by (try dsimp only [RM]); omega) (by (try dsimp only [RM]); omega) dX0_setWeight_26
  · obtain ⟨hk0, rfl, hX1, hgf⟩ := hq369
    have ho1 := hgf _ _ ho (by show ¬ 40 < 30; decide)
    obtain ⟨B9, hX1⟩ := hX1
    refine lv_i2l X.hx X.hb dX0_setWeight_10 rfl ?_
    refine g_last X hR370 hS371 ho1 (Nat.le_of_ble_eq_true rfl) (vp_in_nI (n := 0) (by decide) (by decide)) dX0_setWeight_11 (fun H locs hR375 hS376 => ?_)
    obtain ⟨G377, hG377⟩ : ∃ z : GH, z = gu G373 o ((40, 0), .inl (Γ.2 3, 1, .inr (.inl (vp_updL fL ((0 : Int32).toNatClampNeg) ((nI (σ.1 1 + 1)).toInt64))))) := ⟨_, rfl⟩
    have hR375 : Rep Γ G377 H := by rw [hG377]; exact hR375
    have f378 : G377 o = some ((40, 0), .inl (Γ.2 3, 1, .inr (.inl (vp_updL fL ((0 : Int32).toNatClampNeg) ((nI (σ.1 1 + 1)).toInt64))))) := by rw [hG377]; exact gu_s _ _ _
    refine lv_goto (tgt := 27) X.hx X.hb dX0_setWeight_12 (by decide) ?_
    refine lv_iconst (v := 0) X.hx X.hb dX0_setWeight_27 (by decide) ?_
    refine vx_ret ?_
    exact g_iret X hr hlk hR375 hS376 (⟨Or.inl ⟨hk0, rfl, ⟨_, hX1.out (gK.pt hG377 ho1 rfl)⟩, _, f378, rfl⟩, gK.tr (TXo_x hgf) (TXo_o (gK.pt hG377 ho1 rfl))⟩) (by (try dsimp only [RM]); omega) (by (try dsimp only [RM]); omega) dX0_setWeight_28

set_option maxHeartbeats 4000000 in
theorem w_pass (l : Launch) (Γ : GP) (G : GH) (hst : l.stackTraces = false) {x : Nat} {σ : MS} {A : Nat → Nat → Nat} (hW : WF σ) (hX : XP Γ G x σ A) (hC : CN Γ G) {o : Nat} {fL : Nat → Int64} (ho : G o = some ((40, 0), .inl (Γ.2 3, 1, .inr (.inl fL)))) {d : Int32} : MetX l yX0_pass (wsW_ yX0_pass cX0_pass 4 (some .int) [(0, 9, 12, 13)]) (RM 13 4000 12000) Γ G [.ref x, .int d, .ref o] (fun v G1 => CR Γ G G1 x o σ (tauP σ d) (k2 d) (σ.2 12 0 + d) v) (fun _ _ => False) 4000 12000 := by
  refine gMetH (own := RX0) (by decide) rfl (Nat.le_of_ble_eq_true rfl) ?_
  intro pp ee ss mm below meth cc0 ls X hr hlk hxt hR hS hl
  have hl : lv_has ls 4 [(0, .ref x), (1, .int d), (2, .ref o)] := hl
  obtain ⟨⟨rf, hx, -⟩, -⟩ := id hX
  refine lv_aload_n X.hx X.hb dX0_pass_0 rfl (lv_at hl 2 rfl) ?_
  refine lv_iconst (v := 0) X.hx X.hb dX0_pass_1 (by decide) ?_
  refine lv_aload_n X.hx X.hb dX0_pass_2 rfl (lv_at hl 0 rfl) ?_
  refine lv_iload_n X.hx X.hb dX0_pass_3 rfl (lv_at hl 1 rfl) ?_
  refine gxV X hl.1 hR hS 1 [.int d] [.int 0, .ref o] (c_pass l Γ G hst hW hX) hx rfl q460 q461 q462 q36 q463 rfl rfl ⟨rfl, by decide +kernel, by decide +kernel, by decide +kernel⟩ ⟨by (try dsimp only [RM]); omega, by (try dsimp only [RM]); omega⟩ rfl rfl (Nat.le_of_ble_eq_true rfl) dX0_pass_4 ⟨by (try dsimp only [RM]); omega, by (try dsimp only [RM]); omega⟩ (fun E384 ce q9 G9 H locs hq9 hR9 hS9 hce hcv hcl => ?_) (fun v382 G383 H locs hq379 hR380 hS381 => ?_)
  · obtain ⟨hE, hX9, hg9⟩ := hq9
    obtain ⟨rfl, hk9⟩ := hE
    refine g_catch X [] ⟨0, 9, 12, 13⟩ [] hxt (fun z hz => absurd hz List.not_mem_nil) rfl (by decide) q156 kq167 hce hcv hcl ?_
    refine lv_astore_n (lv' := [(3, .ref q9), (0, .ref x), (1, .int d), (2, .ref o)]) X.hx X.hb dX0_pass_12 rfl hl (by decide) rfl (fun ls hl => ?_)
    refine lv_iconst (v := 1) X.hx X.hb dX0_pass_13 (by decide) ?_
    refine vx_ret ?_
    exact g_iret X hr hlk hR9 hS9 (⟨Or.inr ⟨by rw [hk9]; decide, by rw [hk9], ⟨_, hX9⟩, fL, hg9 _ _ ho (by show ¬ 40 < 30; decide)⟩, TXo_x hg9⟩) (by (try dsimp only [RM]); omega) (by (try dsimp only [RM]); omega) dX0_pass_14
  · obtain ⟨hk0, rfl, hX1, hgf⟩ := hq379
    have ho1 := hgf _ _ ho (by show ¬ 40 < 30; decide)
    refine lv_i2l X.hx X.hb dX0_pass_7 rfl ?_
    refine g_last X hR380 hS381 ho1 (Nat.le_of_ble_eq_true rfl) (vp_in_nI (n := 0) (by decide) (by decide)) dX0_pass_8 (fun H locs hR385 hS386 => ?_)
    obtain ⟨G387, hG387⟩ : ∃ z : GH, z = gu G383 o ((40, 0), .inl (Γ.2 3, 1, .inr (.inl (vp_updL fL ((0 : Int32).toNatClampNeg) ((σ.2 12 0 + d).toInt64))))) := ⟨_, rfl⟩
    have hR385 : Rep Γ G387 H := by rw [hG387]; exact hR385
    have f388 : G387 o = some ((40, 0), .inl (Γ.2 3, 1, .inr (.inl (vp_updL fL ((0 : Int32).toNatClampNeg) ((σ.2 12 0 + d).toInt64))))) := by rw [hG387]; exact gu_s _ _ _
    refine lv_goto (tgt := 15) X.hx X.hb dX0_pass_9 (by decide) ?_
    refine lv_iconst (v := 0) X.hx X.hb dX0_pass_15 (by decide) ?_
    refine vx_ret ?_
    exact g_iret X hr hlk hR385 hS386 (⟨Or.inl ⟨hk0, rfl, ⟨_, hX1.out (gK.pt hG387 ho1 rfl)⟩, _, f388, rfl⟩, gK.tr (TXo_x hgf) (TXo_o (gK.pt hG387 ho1 rfl))⟩) (by (try dsimp only [RM]); omega) (by (try dsimp only [RM]); omega) dX0_pass_16

set_option maxHeartbeats 4000000 in
theorem w_change (l : Launch) (Γ : GP) (G : GH) (hst : l.stackTraces = false) {x : Nat} {σ : MS} {A : Nat → Nat → Nat} (hW : WF σ) (hX : XP Γ G x σ A) (hC : CN Γ G) {o : Nat} {fL : Nat → Int64} (ho : G o = some ((40, 0), .inl (Γ.2 3, 1, .inr (.inl fL)))) {p f fr vv : Int32} : MetX l yX0_change (wsW_ yX0_change cX0_change 7 (some .int) [(0, 14, 17, 21), (0, 14, 21, 13), (0, 14, 25, 15)]) (RM 13 4000 12000) Γ G [.ref x, .int p, .int f, .int fr, .int vv, .ref o] (fun v G1 => CR Γ G G1 x o σ (tauT σ p 0 f fr vv) (kT σ p f fr 0 20 vv) (nI (σ.1 2)) v) (fun _ _ => False) 4000 12000 := by
  refine gMetH (own := RX0) (by decide) rfl (Nat.le_of_ble_eq_true rfl) ?_
  intro pp ee ss mm below meth cc0 ls X hr hlk hxt hR hS hl
  have hl : lv_has ls 7 [(0, .ref x), (1, .int p), (2, .int f), (3, .int fr), (4, .int vv), (5, .ref o)] := hl
  obtain ⟨⟨rf, hx, -⟩, -⟩ := id hX
  refine lv_aload X.hx X.hb dX0_change_0 (lv_at hl 5 rfl) ?_
  refine lv_iconst (v := 0) X.hx X.hb dX0_change_2 (by decide) ?_
  refine lv_aload_n X.hx X.hb dX0_change_3 rfl (lv_at hl 0 rfl) ?_
  refine lv_iload_n X.hx X.hb dX0_change_4 rfl (lv_at hl 1 rfl) ?_
  refine lv_iload_n X.hx X.hb dX0_change_5 rfl (lv_at hl 2 rfl) ?_
  refine lv_iload_n X.hx X.hb dX0_change_6 rfl (lv_at hl 3 rfl) ?_
  refine lv_iload X.hx X.hb dX0_change_7 (lv_at hl 4 rfl) ?_
  refine gxV X hl.1 hR hS 4 [.int p, .int f, .int fr, .int vv] [.int 0, .ref o] (c_change l Γ G hst hW hX hC) hx rfl q467 q468 q469 q36 q470 rfl rfl ⟨rfl, by decide +kernel, by decide +kernel, by decide +kernel⟩ ⟨by (try dsimp only [RM]); omega, by (try dsimp only [RM]); omega⟩ rfl rfl (Nat.le_of_ble_eq_true rfl) dX0_change_9 ⟨by (try dsimp only [RM]); omega, by (try dsimp only [RM]); omega⟩ (fun E394 ce q9 G9 H locs hq9 hR9 hS9 hce hcv hcl => ?_) (fun v392 G393 H locs hq389 hR390 hS391 => ?_)
  · obtain ⟨hE, hX9, hg9⟩ := hq9
    rcases hE with ⟨rfl, hk9⟩ | ⟨rfl, hk9⟩ | ⟨rfl, hk9⟩
    · refine g_catch X [] ⟨0, 14, 17, 21⟩ [⟨0, 14, 21, 13⟩, ⟨0, 14, 25, 15⟩] hxt (fun z hz => absurd hz List.not_mem_nil) rfl (by decide) q383 kq425 hce hcv hcl ?_
      refine lv_astore (lv' := [(6, .ref q9), (0, .ref x), (1, .int p), (2, .int f), (3, .int fr), (4, .int vv), (5, .ref o)]) X.hx X.hb dX0_change_17 hl (by decide) rfl (fun ls hl => ?_)
      refine lv_iconst (v := 1) X.hx X.hb dX0_change_19 (by decide) ?_
      refine vx_ret ?_
      exact g_iret X hr hlk hR9 hS9 (⟨Or.inr ⟨by rw [hk9]; decide, by rw [hk9], ⟨_, hX9⟩, fL, hg9 _ _ ho (by show ¬ 40 < 30; decide)⟩, TXo_x hg9⟩) (by (try dsimp only [RM]); omega) (by (try dsimp only [RM]); omega) dX0_change_20
    · refine g_catch X [⟨0, 14, 17, 21⟩] ⟨0, 14, 21, 13⟩ [⟨0, 14, 25, 15⟩] hxt (fun z hz => by obtain rfl : z = (⟨0, 14, 17, 21⟩ : ExceptionTableEntry) := List.mem_singleton.mp hz; exact Or.inr ⟨by decide, _, q383, kn1⟩) rfl (by decide) q156 kq167 hce hcv hcl ?_
      refine lv_astore (lv' := [(6, .ref q9), (0, .ref x), (1, .int p), (2, .int f), (3, .int fr), (4, .int vv), (5, .ref o)]) X.hx X.hb dX0_change_21 hl (by decide) rfl (fun ls hl => ?_)
      refine lv_iconst (v := 2) X.hx X.hb dX0_change_23 (by decide) ?_
      refine vx_ret ?_
      exact g_iret X hr hlk hR9 hS9 (⟨Or.inr ⟨by rw [hk9]; decide, by rw [hk9], ⟨_, hX9⟩, fL, hg9 _ _ ho (by show ¬ 40 < 30; decide)⟩, TXo_x hg9⟩) (by (try dsimp only [RM]); omega) (by (try dsimp only [RM]); omega) dX0_change_24
    · refine g_catch X [⟨0, 14, 17, 21⟩, ⟨0, 14, 21, 13⟩] ⟨0, 14, 25, 15⟩ [] hxt (fun z hz => by rcases List.mem_cons.mp hz with h | h; (subst h; exact Or.inr ⟨by decide, _, q383, kn3⟩); (obtain rfl : z = (⟨0, 14, 21, 13⟩ : ExceptionTableEntry) := List.mem_singleton.mp h; exact Or.inr ⟨by decide, _, q156, kn2⟩)) rfl (by decide) q157 kq235 hce hcv hcl ?_
      refine lv_astore (lv' := [(6, .ref q9), (0, .ref x), (1, .int p), (2, .int f), (3, .int fr), (4, .int vv), (5, .ref o)]) X.hx X.hb dX0_change_25 hl (by decide) rfl (fun ls hl => ?_)
      refine lv_iconst (v := 3) X.hx X.hb dX0_change_27 (by decide) ?_
      refine vx_ret ?_
      exact g_iret X hr hlk hR9 hS9 (⟨Or.inr ⟨by rw [hk9]; decide, by rw [hk9], ⟨_, hX9⟩, fL, hg9 _ _ ho (by show ¬ 40 < 30; decide)⟩, TXo_x hg9⟩) (by (try dsimp only [RM]); omega) (by (try dsimp only [RM]); omega) dX0_change_28
  · obtain ⟨hk0, rfl, hX1, hgf⟩ := hq389
    have ho1 := hgf _ _ ho (by show ¬ 40 < 30; decide)
    obtain ⟨B9, hX1⟩ := hX1
    refine lv_i2l X.hx X.hb dX0_change_12 rfl ?_
    refine g_last X hR390 hS391 ho1 (Nat.le_of_ble_eq_true rfl) (vp_in_nI (n := 0) (by decide) (by decide)) dX0_change_13 (fun H locs hR395 hS396 => ?_)
    obtain ⟨G397, hG397⟩ : ∃ z : GH, z = gu G393 o ((40, 0), .inl (Γ.2 3, 1, .inr (.inl (vp_updL fL ((0 : Int32).toNatClampNeg) ((nI (σ.1 2)).toInt64))))) := ⟨_, rfl⟩
    have hR395 : Rep Γ G397 H := by rw [hG397]; exact hR395
    have f398 : G397 o = some ((40, 0), .inl (Γ.2 3, 1, .inr (.inl (vp_updL fL ((0 : Int32).toNatClampNeg) ((nI (σ.1 2)).toInt64))))) := by rw [hG397]; exact gu_s _ _ _
    refine lv_goto (tgt := 29) X.hx X.hb dX0_change_14 (by decide) ?_
    refine lv_iconst (v := 0) X.hx X.hb dX0_change_29 (by decide) ?_
    refine vx_ret ?_
    exact g_iret X hr hlk hR395 hS396 (⟨Or.inl ⟨hk0, rfl, ⟨_, hX1.out (gK.pt hG397 ho1 rfl)⟩, _, f398, rfl⟩, gK.tr (TXo_x hgf) (TXo_o (gK.pt hG397 ho1 rfl))⟩) (by (try dsimp only [RM]); omega) (by (try dsimp only [RM]); omega) dX0_change_30

set_option maxHeartbeats 4000000 in
theorem w_add (l : Launch) (Γ : GP) (G : GH) (hst : l.stackTraces = false) {x : Nat} {σ : MS} {A : Nat → Nat → Nat} (hW : WF σ) (hX : XP Γ G x σ A) (hC : CN Γ G) {o : Nat} {fL : Nat → Int64} (ho : G o = some ((40, 0), .inl (Γ.2 3, 1, .inr (.inl fL)))) {p f fr vv : Int32} : MetX l yX0_add (wsW_ yX0_add cX0_add 7 (some .int) [(0, 14, 17, 21), (0, 14, 21, 13), (0, 14, 25, 15)]) (RM 13 4000 12000) Γ G [.ref x, .int p, .int f, .int fr, .int vv, .ref o] (fun v G1 => CR Γ G G1 x o σ (tauT σ p 1 f fr vv) (kT σ p f fr (-20) 20 vv) (nI (σ.1 2)) v) (fun _ _ => False) 4000 12000 := by
  refine gMetH (own := RX0) (by decide) rfl (Nat.le_of_ble_eq_true rfl) ?_
  intro pp ee ss mm below meth cc0 ls X hr hlk hxt hR hS hl
  have hl : lv_has ls 7 [(0, .ref x), (1, .int p), (2, .int f), (3, .int fr), (4, .int vv), (5, .ref o)] := hl
  obtain ⟨⟨rf, hx, -⟩, -⟩ := id hX
  refine lv_aload X.hx X.hb dX0_add_0 (lv_at hl 5 rfl) ?_
  refine lv_iconst (v := 0) X.hx X.hb dX0_add_2 (by decide) ?_
  refine lv_aload_n X.hx X.hb dX0_add_3 rfl (lv_at hl 0 rfl) ?_
  refine lv_iload_n X.hx X.hb dX0_add_4 rfl (lv_at hl 1 rfl) ?_
  refine lv_iload_n X.hx X.hb dX0_add_5 rfl (lv_at hl 2 rfl) ?_
  refine lv_iload_n X.hx X.hb dX0_add_6 rfl (lv_at hl 3 rfl) ?_
  refine lv_iload X.hx X.hb dX0_add_7 (lv_at hl 4 rfl) ?_
  refine gxV X hl.1 hR hS 4 [.int p, .int f, .int fr, .int vv] [.int 0, .ref o] (c_addn l Γ G hst hW hX hC) hx rfl q676 q677 q678 q36 q679 rfl rfl ⟨rfl, by decide +kernel, by decide +kernel, by decide +kernel⟩ ⟨by (try dsimp only [RM]); omega, by (try dsimp only [RM]); omega⟩ rfl rfl (Nat.le_of_ble_eq_true rfl) dX0_add_9 ⟨by (try dsimp only [RM]); omega, by (try dsimp only [RM]); omega⟩ (fun E404 ce q9 G9 H locs hq9 hR9 hS9 hce hcv hcl => ?_) (fun v402 G403 H locs hq399 hR400 hS401 => ?_)
  · obtain ⟨hE, hX9, hg9⟩ := hq9
    rcases hE with ⟨rfl, hk9⟩ | ⟨rfl, hk9⟩ | ⟨rfl, hk9⟩
    · refine g_catch X [] ⟨0, 14, 17, 21⟩ [⟨0, 14, 21, 13⟩, ⟨0, 14, 25, 15⟩] hxt (fun z hz => absurd hz List.not_mem_nil) rfl (by decide) q383 kq425 hce hcv hcl ?_
      refine lv_astore (lv' := [(6, .ref q9), (0, .ref x), (1, .int p), (2, .int f), (3, .int fr), (4, .int vv), (5, .ref o)]) X.hx X.hb dX0_add_17 hl (by decide) rfl (fun ls hl => ?_)
      refine lv_iconst (v := 1) X.hx X.hb dX0_add_19 (by decide) ?_
      refine vx_ret ?_
      exact g_iret X hr hlk hR9 hS9 (⟨Or.inr ⟨by rw [hk9]; decide, by rw [hk9], ⟨_, hX9⟩, fL, hg9 _ _ ho (by show ¬ 40 < 30; decide)⟩, TXo_x hg9⟩) (by (try dsimp only [RM]); omega) (by (try dsimp only [RM]); omega) dX0_add_20
    · refine g_catch X [⟨0, 14, 17, 21⟩] ⟨0, 14, 21, 13⟩ [⟨0, 14, 25, 15⟩] hxt (fun z hz => by obtain rfl : z = (⟨0, 14, 17, 21⟩ : ExceptionTableEntry) := List.mem_singleton.mp hz; exact Or.inr ⟨by decide, _, q383, kn1⟩) rfl (by decide) q156 kq167 hce hcv hcl ?_
      refine lv_astore (lv' := [(6, .ref q9), (0, .ref x), (1, .int p), (2, .int f), (3, .int fr), (4, .int vv), (5, .ref o)]) X.hx X.hb dX0_add_21 hl (by decide) rfl (fun ls hl => ?_)
      refine lv_iconst (v := 2) X.hx X.hb dX0_add_23 (by decide) ?_
      refine vx_ret ?_
      exact g_iret X hr hlk hR9 hS9 (⟨Or.inr ⟨by rw [hk9]; decide, by rw [hk9], ⟨_, hX9⟩, fL, hg9 _ _ ho (by show ¬ 40 < 30; decide)⟩, TXo_x hg9⟩) (by (try dsimp only [RM]); omega) (by (try dsimp only [RM]); omega) dX0_add_24
    · refine g_catch X [⟨0, 14, 17, 21⟩, ⟨0, 14, 21, 13⟩] ⟨0, 14, 25, 15⟩ [] hxt (fun z hz => by rcases List.mem_cons.mp hz with h | h; (subst h; exact Or.inr ⟨by decide, _, q383, kn3⟩); (obtain rfl : z = (⟨0, 14, 21, 13⟩ : ExceptionTableEntry) := List.mem_singleton.mp h; exact Or.inr ⟨by decide, _, q156, kn2⟩)) rfl (by decide) q157 kq235 hce hcv hcl ?_
      refine lv_astore (lv' := [(6, .ref q9), (0, .ref x), (1, .int p), (2, .int f), (3, .int fr), (4, .int vv), (5, .ref o)]) X.hx X.hb dX0_add_25 hl (by decide) rfl (fun ls hl => ?_)
      refine lv_iconst (v := 3) X.hx X.hb dX0_add_27 (by decide) ?_
      refine vx_ret ?_
      exact g_iret X hr hlk hR9 hS9 (⟨Or.inr ⟨by rw [hk9]; decide, by rw [hk9], ⟨_, hX9⟩, fL, hg9 _ _ ho (by show ¬ 40 < 30; decide)⟩, TXo_x hg9⟩) (by (try dsimp only [RM]); omega) (by (try dsimp only [RM]); omega) dX0_add_28
  · obtain ⟨hk0, rfl, hX1, hgf⟩ := hq399
    have ho1 := hgf _ _ ho (by show ¬ 40 < 30; decide)
    obtain ⟨B9, hX1⟩ := hX1
    refine lv_i2l X.hx X.hb dX0_add_12 rfl ?_
    refine g_last X hR400 hS401 ho1 (Nat.le_of_ble_eq_true rfl) (vp_in_nI (n := 0) (by decide) (by decide)) dX0_add_13 (fun H locs hR405 hS406 => ?_)
    obtain ⟨G407, hG407⟩ : ∃ z : GH, z = gu G403 o ((40, 0), .inl (Γ.2 3, 1, .inr (.inl (vp_updL fL ((0 : Int32).toNatClampNeg) ((nI (σ.1 2)).toInt64))))) := ⟨_, rfl⟩
    have hR405 : Rep Γ G407 H := by rw [hG407]; exact hR405
    have f408 : G407 o = some ((40, 0), .inl (Γ.2 3, 1, .inr (.inl (vp_updL fL ((0 : Int32).toNatClampNeg) ((nI (σ.1 2)).toInt64))))) := by rw [hG407]; exact gu_s _ _ _
    refine lv_goto (tgt := 29) X.hx X.hb dX0_add_14 (by decide) ?_
    refine lv_iconst (v := 0) X.hx X.hb dX0_add_29 (by decide) ?_
    refine vx_ret ?_
    exact g_iret X hr hlk hR405 hS406 (⟨Or.inl ⟨hk0, rfl, ⟨_, hX1.out (gK.pt hG407 ho1 rfl)⟩, _, f408, rfl⟩, gK.tr (TXo_x hgf) (TXo_o (gK.pt hG407 ho1 rfl))⟩) (by (try dsimp only [RM]); omega) (by (try dsimp only [RM]); omega) dX0_add_30

set_option maxHeartbeats 4000000 in
theorem w_cancel (l : Launch) (Γ : GP) (G : GH) (hst : l.stackTraces = false) {x : Nat} {σ : MS} {A : Nat → Nat → Nat} (hW : WF σ) (hX : XP Γ G x σ A) (hC : CN Γ G) {o : Nat} {fL : Nat → Int64} (ho : G o = some ((40, 0), .inl (Γ.2 3, 1, .inr (.inl fL)))) {p fr : Int32} : MetX l yX0_cancel (wsW_ yX0_cancel cX0_cancel 5 (some .int) [(0, 10, 13, 21), (0, 10, 17, 13), (0, 10, 21, 15)]) (RM 13 4000 12000) Γ G [.ref x, .int p, .int fr, .ref o] (fun v G1 => CR Γ G G1 x o σ (tauT σ p 2 0 fr 0) (kT σ p 0 fr 0 0 0) (nI (σ.1 2)) v) (fun _ _ => False) 4000 12000 := by
  refine gMetH (own := RX0) (by decide) rfl (Nat.le_of_ble_eq_true rfl) ?_
  intro pp ee ss mm below meth cc0 ls X hr hlk hxt hR hS hl
  have hl : lv_has ls 5 [(0, .ref x), (1, .int p), (2, .int fr), (3, .ref o)] := hl
  obtain ⟨⟨rf, hx, -⟩, -⟩ := id hX
  refine lv_aload_n X.hx X.hb dX0_cancel_0 rfl (lv_at hl 3 rfl) ?_
  refine lv_iconst (v := 0) X.hx X.hb dX0_cancel_1 (by decide) ?_
  refine lv_aload_n X.hx X.hb dX0_cancel_2 rfl (lv_at hl 0 rfl) ?_
  refine lv_iload_n X.hx X.hb dX0_cancel_3 rfl (lv_at hl 1 rfl) ?_
  refine lv_iload_n X.hx X.hb dX0_cancel_4 rfl (lv_at hl 2 rfl) ?_
  refine gxV X hl.1 hR hS 2 [.int p, .int fr] [.int 0, .ref o] (c_cancel l Γ G hst hW hX hC) hx rfl q687 q688 q689 q36 q690 rfl rfl ⟨rfl, by decide +kernel, by decide +kernel, by decide +kernel⟩ ⟨by (try dsimp only [RM]); omega, by (try dsimp only [RM]); omega⟩ rfl rfl (Nat.le_of_ble_eq_true rfl) dX0_cancel_5 ⟨by (try dsimp only [RM]); omega, by (try dsimp only [RM]); omega⟩ (fun E414 ce q9 G9 H locs hq9 hR9 hS9 hce hcv hcl => ?_) (fun v412 G413 H locs hq409 hR410 hS411 => ?_)
  · obtain ⟨hE, hX9, hg9⟩ := hq9
    rcases hE with ⟨rfl, hk9⟩ | ⟨rfl, hk9⟩ | ⟨rfl, hk9⟩
    · refine g_catch X [] ⟨0, 10, 13, 21⟩ [⟨0, 10, 17, 13⟩, ⟨0, 10, 21, 15⟩] hxt (fun z hz => absurd hz List.not_mem_nil) rfl (by decide) q383 kq425 hce hcv hcl ?_
      refine lv_astore (lv' := [(4, .ref q9), (0, .ref x), (1, .int p), (2, .int fr), (3, .ref o)]) X.hx X.hb dX0_cancel_13 hl (by decide) rfl (fun ls hl => ?_)
      refine lv_iconst (v := 1) X.hx X.hb dX0_cancel_15 (by decide) ?_
      refine vx_ret ?_
      exact g_iret X hr hlk hR9 hS9 (⟨Or.inr ⟨by rw [hk9]; decide, by rw [hk9], ⟨_, hX9⟩, fL, hg9 _ _ ho (by show ¬ 40 < 30; decide)⟩, TXo_x hg9⟩) (by (try dsimp only [RM]); omega) (by (try dsimp only [RM]); omega) dX0_cancel_16
    · refine g_catch X [⟨0, 10, 13, 21⟩] ⟨0, 10, 17, 13⟩ [⟨0, 10, 21, 15⟩] hxt (fun z hz => by obtain rfl : z = (⟨0, 10, 13, 21⟩ : ExceptionTableEntry) := List.mem_singleton.mp hz; exact Or.inr ⟨by decide, _, q383, kn1⟩) rfl (by decide) q156 kq167 hce hcv hcl ?_
      refine lv_astore (lv' := [(4, .ref q9), (0, .ref x), (1, .int p), (2, .int fr), (3, .ref o)]) X.hx X.hb dX0_cancel_17 hl (by decide) rfl (fun ls hl => ?_)
      refine lv_iconst (v := 2) X.hx X.hb dX0_cancel_19 (by decide) ?_
      refine vx_ret ?_
      exact g_iret X hr hlk hR9 hS9 (⟨Or.inr ⟨by rw [hk9]; decide, by rw [hk9], ⟨_, hX9⟩, fL, hg9 _ _ ho (by show ¬ 40 < 30; decide)⟩, TXo_x hg9⟩) (by (try dsimp only [RM]); omega) (by (try dsimp only [RM]); omega) dX0_cancel_20
    · refine g_catch X [⟨0, 10, 13, 21⟩, ⟨0, 10, 17, 13⟩] ⟨0, 10, 21, 15⟩ [] hxt (fun z hz => by rcases List.mem_cons.mp hz with h | h; (subst h; exact Or.inr ⟨by decide, _, q383, kn3⟩); (obtain rfl : z = (⟨0, 10, 17, 13⟩ : ExceptionTableEntry) := List.mem_singleton.mp h; exact Or.inr ⟨by decide, _, q156, kn2⟩)) rfl (by decide) q157 kq235 hce hcv hcl ?_
      refine lv_astore (lv' := [(4, .ref q9), (0, .ref x), (1, .int p), (2, .int fr), (3, .ref o)]) X.hx X.hb dX0_cancel_21 hl (by decide) rfl (fun ls hl => ?_)
      refine lv_iconst (v := 3) X.hx X.hb dX0_cancel_23 (by decide) ?_
      refine vx_ret ?_
      exact g_iret X hr hlk hR9 hS9 (⟨Or.inr ⟨by rw [hk9]; decide, by rw [hk9], ⟨_, hX9⟩, fL, hg9 _ _ ho (by show ¬ 40 < 30; decide)⟩, TXo_x hg9⟩) (by (try dsimp only [RM]); omega) (by (try dsimp only [RM]); omega) dX0_cancel_24
  · obtain ⟨hk0, rfl, hX1, hgf⟩ := hq409
    have ho1 := hgf _ _ ho (by show ¬ 40 < 30; decide)
    obtain ⟨B9, hX1⟩ := hX1
    refine lv_i2l X.hx X.hb dX0_cancel_8 rfl ?_
    refine g_last X hR410 hS411 ho1 (Nat.le_of_ble_eq_true rfl) (vp_in_nI (n := 0) (by decide) (by decide)) dX0_cancel_9 (fun H locs hR415 hS416 => ?_)
    obtain ⟨G417, hG417⟩ : ∃ z : GH, z = gu G413 o ((40, 0), .inl (Γ.2 3, 1, .inr (.inl (vp_updL fL ((0 : Int32).toNatClampNeg) ((nI (σ.1 2)).toInt64))))) := ⟨_, rfl⟩
    have hR415 : Rep Γ G417 H := by rw [hG417]; exact hR415
    have f418 : G417 o = some ((40, 0), .inl (Γ.2 3, 1, .inr (.inl (vp_updL fL ((0 : Int32).toNatClampNeg) ((nI (σ.1 2)).toInt64))))) := by rw [hG417]; exact gu_s _ _ _
    refine lv_goto (tgt := 25) X.hx X.hb dX0_cancel_10 (by decide) ?_
    refine lv_iconst (v := 0) X.hx X.hb dX0_cancel_25 (by decide) ?_
    refine vx_ret ?_
    exact g_iret X hr hlk hR415 hS416 (⟨Or.inl ⟨hk0, rfl, ⟨_, hX1.out (gK.pt hG417 ho1 rfl)⟩, _, f418, rfl⟩, gK.tr (TXo_x hgf) (TXo_o (gK.pt hG417 ho1 rfl))⟩) (by (try dsimp only [RM]); omega) (by (try dsimp only [RM]); omega) dX0_cancel_26

set_option maxHeartbeats 4000000 in
theorem w_reinstate (l : Launch) (Γ : GP) (G : GH) (hst : l.stackTraces = false) {x : Nat} {σ : MS} {A : Nat → Nat → Nat} (hW : WF σ) (hX : XP Γ G x σ A) (hC : CN Γ G) {o : Nat} {fL : Nat → Int64} (ho : G o = some ((40, 0), .inl (Γ.2 3, 1, .inr (.inl fL)))) {p fr : Int32} : MetX l yX0_reinstate (wsW_ yX0_reinstate cX0_reinstate 5 (some .int) [(0, 10, 13, 21), (0, 10, 17, 13), (0, 10, 21, 15)]) (RM 13 4000 12000) Γ G [.ref x, .int p, .int fr, .ref o] (fun v G1 => CR Γ G G1 x o σ (tauT σ p 3 0 fr 0) (kT σ p 0 fr 0 0 0) (nI (σ.1 2)) v) (fun _ _ => False) 4000 12000 := by
  refine gMetH (own := RX0) (by decide) rfl (Nat.le_of_ble_eq_true rfl) ?_
  intro pp ee ss mm below meth cc0 ls X hr hlk hxt hR hS hl
  have hl : lv_has ls 5 [(0, .ref x), (1, .int p), (2, .int fr), (3, .ref o)] := hl
  obtain ⟨⟨rf, hx, -⟩, -⟩ := id hX
  refine lv_aload_n X.hx X.hb dX0_reinstate_0 rfl (lv_at hl 3 rfl) ?_
  refine lv_iconst (v := 0) X.hx X.hb dX0_reinstate_1 (by decide) ?_
  refine lv_aload_n X.hx X.hb dX0_reinstate_2 rfl (lv_at hl 0 rfl) ?_
  refine lv_iload_n X.hx X.hb dX0_reinstate_3 rfl (lv_at hl 1 rfl) ?_
  refine lv_iload_n X.hx X.hb dX0_reinstate_4 rfl (lv_at hl 2 rfl) ?_
  refine gxV X hl.1 hR hS 2 [.int p, .int fr] [.int 0, .ref o] (c_reinstate l Γ G hst hW hX hC) hx rfl q696 q697 q698 q36 q699 rfl rfl ⟨rfl, by decide +kernel, by decide +kernel, by decide +kernel⟩ ⟨by (try dsimp only [RM]); omega, by (try dsimp only [RM]); omega⟩ rfl rfl (Nat.le_of_ble_eq_true rfl) dX0_reinstate_5 ⟨by (try dsimp only [RM]); omega, by (try dsimp only [RM]); omega⟩ (fun E424 ce q9 G9 H locs hq9 hR9 hS9 hce hcv hcl => ?_) (fun v422 G423 H locs hq419 hR420 hS421 => ?_)
  · obtain ⟨hE, hX9, hg9⟩ := hq9
    rcases hE with ⟨rfl, hk9⟩ | ⟨rfl, hk9⟩ | ⟨rfl, hk9⟩
    · refine g_catch X [] ⟨0, 10, 13, 21⟩ [⟨0, 10, 17, 13⟩, ⟨0, 10, 21, 15⟩] hxt (fun z hz => absurd hz List.not_mem_nil) rfl (by decide) q383 kq425 hce hcv hcl ?_
      refine lv_astore (lv' := [(4, .ref q9), (0, .ref x), (1, .int p), (2, .int fr), (3, .ref o)]) X.hx X.hb dX0_reinstate_13 hl (by decide) rfl (fun ls hl => ?_)
      refine lv_iconst (v := 1) X.hx X.hb dX0_reinstate_15 (by decide) ?_
      refine vx_ret ?_
      exact g_iret X hr hlk hR9 hS9 (⟨Or.inr ⟨by rw [hk9]; decide, by rw [hk9], ⟨_, hX9⟩, fL, hg9 _ _ ho (by show ¬ 40 < 30; decide)⟩, TXo_x hg9⟩) (by (try dsimp only [RM]); omega) (by (try dsimp only [RM]); omega) dX0_reinstate_16
    · refine g_catch X [⟨0, 10, 13, 21⟩] ⟨0, 10, 17, 13⟩ [⟨0, 10, 21, 15⟩] hxt (fun z hz => by obtain rfl : z = (⟨0, 10, 13, 21⟩ : ExceptionTableEntry) := List.mem_singleton.mp hz; exact Or.inr ⟨by decide, _, q383, kn1⟩) rfl (by decide) q156 kq167 hce hcv hcl ?_
      refine lv_astore (lv' := [(4, .ref q9), (0, .ref x), (1, .int p), (2, .int fr), (3, .ref o)]) X.hx X.hb dX0_reinstate_17 hl (by decide) rfl (fun ls hl => ?_)
      refine lv_iconst (v := 2) X.hx X.hb dX0_reinstate_19 (by decide) ?_
      refine vx_ret ?_
      exact g_iret X hr hlk hR9 hS9 (⟨Or.inr ⟨by rw [hk9]; decide, by rw [hk9], ⟨_, hX9⟩, fL, hg9 _ _ ho (by show ¬ 40 < 30; decide)⟩, TXo_x hg9⟩) (by (try dsimp only [RM]); omega) (by (try dsimp only [RM]); omega) dX0_reinstate_20
    · refine g_catch X [⟨0, 10, 13, 21⟩, ⟨0, 10, 17, 13⟩] ⟨0, 10, 21, 15⟩ [] hxt (fun z hz => by rcases List.mem_cons.mp hz with h | h; (subst h; exact Or.inr ⟨by decide, _, q383, kn3⟩); (obtain rfl : z = (⟨0, 10, 17, 13⟩ : ExceptionTableEntry) := List.mem_singleton.mp h; exact Or.inr ⟨by decide, _, q156, kn2⟩)) rfl (by decide) q157 kq235 hce hcv hcl ?_
      refine lv_astore (lv' := [(4, .ref q9), (0, .ref x), (1, .int p), (2, .int fr), (3, .ref o)]) X.hx X.hb dX0_reinstate_21 hl (by decide) rfl (fun ls hl => ?_)
      refine lv_iconst (v := 3) X.hx X.hb dX0_reinstate_23 (by decide) ?_
      refine vx_ret ?_
      exact g_iret X hr hlk hR9 hS9 (⟨Or.inr ⟨by rw [hk9]; decide, by rw [hk9], ⟨_, hX9⟩, fL, hg9 _ _ ho (by show ¬ 40 < 30; decide)⟩, TXo_x hg9⟩) (by (try dsimp only [RM]); omega) (by (try dsimp only [RM]); omega) dX0_reinstate_24
  · obtain ⟨hk0, rfl, hX1, hgf⟩ := hq419
    have ho1 := hgf _ _ ho (by show ¬ 40 < 30; decide)
    obtain ⟨B9, hX1⟩ := hX1
    refine lv_i2l X.hx X.hb dX0_reinstate_8 rfl ?_
    refine g_last X hR420 hS421 ho1 (Nat.le_of_ble_eq_true rfl) (vp_in_nI (n := 0) (by decide) (by decide)) dX0_reinstate_9 (fun H locs hR425 hS426 => ?_)
    obtain ⟨G427, hG427⟩ : ∃ z : GH, z = gu G423 o ((40, 0), .inl (Γ.2 3, 1, .inr (.inl (vp_updL fL ((0 : Int32).toNatClampNeg) ((nI (σ.1 2)).toInt64))))) := ⟨_, rfl⟩
    have hR425 : Rep Γ G427 H := by rw [hG427]; exact hR425
    have f428 : G427 o = some ((40, 0), .inl (Γ.2 3, 1, .inr (.inl (vp_updL fL ((0 : Int32).toNatClampNeg) ((nI (σ.1 2)).toInt64))))) := by rw [hG427]; exact gu_s _ _ _
    refine lv_goto (tgt := 25) X.hx X.hb dX0_reinstate_10 (by decide) ?_
    refine lv_iconst (v := 0) X.hx X.hb dX0_reinstate_25 (by decide) ?_
    refine vx_ret ?_
    exact g_iret X hr hlk hR425 hS426 (⟨Or.inl ⟨hk0, rfl, ⟨_, hX1.out (gK.pt hG427 ho1 rfl)⟩, _, f428, rfl⟩, gK.tr (TXo_x hgf) (TXo_o (gK.pt hG427 ho1 rfl))⟩) (by (try dsimp only [RM]); omega) (by (try dsimp only [RM]); omega) dX0_reinstate_26

set_option maxHeartbeats 4000000 in
theorem w_takeBack (l : Launch) (Γ : GP) (G : GH) (hst : l.stackTraces = false) {x : Nat} {σ : MS} {A : Nat → Nat → Nat} (hW : WF σ) (hX : XP Γ G x σ A) (hC : CN Γ G) {o : Nat} {fL : Nat → Int64} (ho : G o = some ((40, 0), .inl (Γ.2 3, 1, .inr (.inl fL)))) {c : Int32} : MetX l yX0_takeBack (wsW_ yX0_takeBack cX0_takeBack 4 (some .int) [(0, 9, 12, 21), (0, 9, 15, 15)]) (RM 13 4000 12000) Γ G [.ref x, .int c, .ref o] (fun v G1 => CR Γ G G1 x o σ (tauK σ c.toNatClampNeg) (k8 σ c) (σ.2 10 c.toNatClampNeg) v) (fun _ _ => False) 4000 12000 := by
  refine gMetH (own := RX0) (by decide) rfl (Nat.le_of_ble_eq_true rfl) ?_
  intro pp ee ss mm below meth cc0 ls X hr hlk hxt hR hS hl
  have hl : lv_has ls 4 [(0, .ref x), (1, .int c), (2, .ref o)] := hl
  obtain ⟨⟨rf, hx, -⟩, -⟩ := id hX
  refine lv_aload_n X.hx X.hb dX0_takeBack_0 rfl (lv_at hl 2 rfl) ?_
  refine lv_iconst (v := 0) X.hx X.hb dX0_takeBack_1 (by decide) ?_
  refine lv_aload_n X.hx X.hb dX0_takeBack_2 rfl (lv_at hl 0 rfl) ?_
  refine lv_iload_n X.hx X.hb dX0_takeBack_3 rfl (lv_at hl 1 rfl) ?_
  refine gxV X hl.1 hR hS 1 [.int c] [.int 0, .ref o] (c_takeBack l Γ G hst hW hX) hx rfl q705 q706 q707 q36 q708 rfl rfl ⟨rfl, by decide +kernel, by decide +kernel, by decide +kernel⟩ ⟨by (try dsimp only [RM]); omega, by (try dsimp only [RM]); omega⟩ rfl rfl (Nat.le_of_ble_eq_true rfl) dX0_takeBack_4 ⟨by (try dsimp only [RM]); omega, by (try dsimp only [RM]); omega⟩ (fun E434 ce q9 G9 H locs hq9 hR9 hS9 hce hcv hcl => ?_) (fun v432 G433 H locs hq429 hR430 hS431 => ?_)
  · obtain ⟨hE, hX9, hg9⟩ := hq9
    rcases hE with ⟨rfl, hk9⟩ | ⟨rfl, hk9⟩
    · refine g_catch X [] ⟨0, 9, 12, 21⟩ [⟨0, 9, 15, 15⟩] hxt (fun z hz => absurd hz List.not_mem_nil) rfl (by decide) q383 kq425 hce hcv hcl ?_
      refine lv_astore_n (lv' := [(3, .ref q9), (0, .ref x), (1, .int c), (2, .ref o)]) X.hx X.hb dX0_takeBack_12 rfl hl (by decide) rfl (fun ls hl => ?_)
      refine lv_iconst (v := 1) X.hx X.hb dX0_takeBack_13 (by decide) ?_
      refine vx_ret ?_
      exact g_iret X hr hlk hR9 hS9 (⟨Or.inr ⟨by rw [hk9]; decide, by rw [hk9], ⟨_, hX9⟩, fL, hg9 _ _ ho (by show ¬ 40 < 30; decide)⟩, TXo_x hg9⟩) (by (try dsimp only [RM]); omega) (by (try dsimp only [RM]); omega) dX0_takeBack_14
    · refine g_catch X [⟨0, 9, 12, 21⟩] ⟨0, 9, 15, 15⟩ [] hxt (fun z hz => by obtain rfl : z = (⟨0, 9, 12, 21⟩ : ExceptionTableEntry) := List.mem_singleton.mp hz; exact Or.inr ⟨by decide, _, q383, kn3⟩) rfl (by decide) q157 kq235 hce hcv hcl ?_
      refine lv_astore_n (lv' := [(3, .ref q9), (0, .ref x), (1, .int c), (2, .ref o)]) X.hx X.hb dX0_takeBack_15 rfl hl (by decide) rfl (fun ls hl => ?_)
      refine lv_iconst (v := 2) X.hx X.hb dX0_takeBack_16 (by decide) ?_
      refine vx_ret ?_
      exact g_iret X hr hlk hR9 hS9 (⟨Or.inr ⟨by rw [hk9]; decide, by rw [hk9], ⟨_, hX9⟩, fL, hg9 _ _ ho (by show ¬ 40 < 30; decide)⟩, TXo_x hg9⟩) (by (try dsimp only [RM]); omega) (by (try dsimp only [RM]); omega) dX0_takeBack_17
  · obtain ⟨hk0, rfl, hX1, hgf⟩ := hq429
    have ho1 := hgf _ _ ho (by show ¬ 40 < 30; decide)
    refine lv_i2l X.hx X.hb dX0_takeBack_7 rfl ?_
    refine g_last X hR430 hS431 ho1 (Nat.le_of_ble_eq_true rfl) (vp_in_nI (n := 0) (by decide) (by decide)) dX0_takeBack_8 (fun H locs hR435 hS436 => ?_)
    obtain ⟨G437, hG437⟩ : ∃ z : GH, z = gu G433 o ((40, 0), .inl (Γ.2 3, 1, .inr (.inl (vp_updL fL ((0 : Int32).toNatClampNeg) ((σ.2 10 c.toNatClampNeg).toInt64))))) := ⟨_, rfl⟩
    have hR435 : Rep Γ G437 H := by rw [hG437]; exact hR435
    have f438 : G437 o = some ((40, 0), .inl (Γ.2 3, 1, .inr (.inl (vp_updL fL ((0 : Int32).toNatClampNeg) ((σ.2 10 c.toNatClampNeg).toInt64))))) := by rw [hG437]; exact gu_s _ _ _
    refine lv_goto (tgt := 18) X.hx X.hb dX0_takeBack_9 (by decide) ?_
    refine lv_iconst (v := 0) X.hx X.hb dX0_takeBack_18 (by decide) ?_
    refine vx_ret ?_
    exact g_iret X hr hlk hR435 hS436 (⟨Or.inl ⟨hk0, rfl, ⟨_, hX1.out (gK.pt hG437 ho1 rfl)⟩, _, f438, rfl⟩, gK.tr (TXo_x hgf) (TXo_o (gK.pt hG437 ho1 rfl))⟩) (by (try dsimp only [RM]); omega) (by (try dsimp only [RM]); omega) dX0_takeBack_19

set_option maxHeartbeats 4000000 in
theorem w_laidAnew (l : Launch) (Γ : GP) (G : GH) (hst : l.stackTraces = false) {x : Nat} {σ : MS} {A : Nat → Nat → Nat} (hW : WF σ) (hX : XP Γ G x σ A) (hC : CN Γ G) {o : Nat} {fL : Nat → Int64} (ho : G o = some ((40, 0), .inl (Γ.2 3, 1, .inr (.inl fL)))) {c : Int32} : MetX l yX0_laidAnew (wsW_ yX0_laidAnew cX0_laidAnew 4 (some .int) [(0, 9, 12, 21)]) (RM 13 4000 12000) Γ G [.ref x, .int c, .ref o] (fun v G1 => CR Γ G G1 x o σ σ (kC σ c) (LN σ c.toNatClampNeg c.toNatClampNeg) v) (fun _ _ => False) 4000 12000 := by
  refine gMetH (own := RX0) (by decide) rfl (Nat.le_of_ble_eq_true rfl) ?_
  intro pp ee ss mm below meth cc0 ls X hr hlk hxt hR hS hl
  have hl : lv_has ls 4 [(0, .ref x), (1, .int c), (2, .ref o)] := hl
  obtain ⟨⟨rf, hx, -⟩, -⟩ := id hX
  refine lv_aload_n X.hx X.hb dX0_laidAnew_0 rfl (lv_at hl 2 rfl) ?_
  refine lv_iconst (v := 0) X.hx X.hb dX0_laidAnew_1 (by decide) ?_
  refine lv_aload_n X.hx X.hb dX0_laidAnew_2 rfl (lv_at hl 0 rfl) ?_
  refine lv_iload_n X.hx X.hb dX0_laidAnew_3 rfl (lv_at hl 1 rfl) ?_
  refine gxV X hl.1 hR hS 1 [.int c] [.int 0, .ref o] (c_laidAnew l Γ G hst hW hX) hx rfl q717 q718 q719 q36 q720 rfl rfl ⟨rfl, by decide +kernel, by decide +kernel, by decide +kernel⟩ ⟨by (try dsimp only [RM]); omega, by (try dsimp only [RM]); omega⟩ rfl rfl (Nat.le_of_ble_eq_true rfl) dX0_laidAnew_4 ⟨by (try dsimp only [RM]); omega, by (try dsimp only [RM]); omega⟩ (fun E444 ce q9 G9 H locs hq9 hR9 hS9 hce hcv hcl => ?_) (fun v442 G443 H locs hq439 hR440 hS441 => ?_)
  · obtain ⟨hE, hX9, hg9⟩ := hq9
    obtain ⟨rfl, hk9⟩ := hE
    refine g_catch X [] ⟨0, 9, 12, 21⟩ [] hxt (fun z hz => absurd hz List.not_mem_nil) rfl (by decide) q383 kq425 hce hcv hcl ?_
    refine lv_astore_n (lv' := [(3, .ref q9), (0, .ref x), (1, .int c), (2, .ref o)]) X.hx X.hb dX0_laidAnew_12 rfl hl (by decide) rfl (fun ls hl => ?_)
    refine lv_iconst (v := 1) X.hx X.hb dX0_laidAnew_13 (by decide) ?_
    refine vx_ret ?_
    exact g_iret X hr hlk hR9 hS9 (⟨Or.inr ⟨by rw [hk9]; decide, by rw [hk9], ⟨_, hX9⟩, fL, hg9 _ _ ho (by show ¬ 40 < 30; decide)⟩, TXo_x hg9⟩) (by (try dsimp only [RM]); omega) (by (try dsimp only [RM]); omega) dX0_laidAnew_14
  · obtain ⟨hk0, rfl, hX1, hgf⟩ := hq439
    have ho1 := hgf _ _ ho (by show ¬ 40 < 30; decide)
    refine lv_i2l X.hx X.hb dX0_laidAnew_7 rfl ?_
    refine g_last X hR440 hS441 ho1 (Nat.le_of_ble_eq_true rfl) (vp_in_nI (n := 0) (by decide) (by decide)) dX0_laidAnew_8 (fun H locs hR445 hS446 => ?_)
    obtain ⟨G447, hG447⟩ : ∃ z : GH, z = gu G443 o ((40, 0), .inl (Γ.2 3, 1, .inr (.inl (vp_updL fL ((0 : Int32).toNatClampNeg) ((LN σ c.toNatClampNeg c.toNatClampNeg).toInt64))))) := ⟨_, rfl⟩
    have hR445 : Rep Γ G447 H := by rw [hG447]; exact hR445
    have f448 : G447 o = some ((40, 0), .inl (Γ.2 3, 1, .inr (.inl (vp_updL fL ((0 : Int32).toNatClampNeg) ((LN σ c.toNatClampNeg c.toNatClampNeg).toInt64))))) := by rw [hG447]; exact gu_s _ _ _
    refine lv_goto (tgt := 15) X.hx X.hb dX0_laidAnew_9 (by decide) ?_
    refine lv_iconst (v := 0) X.hx X.hb dX0_laidAnew_15 (by decide) ?_
    refine vx_ret ?_
    exact g_iret X hr hlk hR445 hS446 (⟨Or.inl ⟨hk0, rfl, ⟨_, hX1.out (gK.pt hG447 ho1 rfl)⟩, _, f448, rfl⟩, gK.tr (TXo_x hgf) (TXo_o (gK.pt hG447 ho1 rfl))⟩) (by (try dsimp only [RM]); omega) (by (try dsimp only [RM]); omega) dX0_laidAnew_16

set_option maxHeartbeats 4000000 in
theorem w_value (l : Launch) (Γ : GP) (G : GH) (hst : l.stackTraces = false) {x : Nat} {σ : MS} {A : Nat → Nat → Nat} (hW : WF σ) (hX : XP Γ G x σ A) (hC : CN Γ G) {o : Nat} {fL : Nat → Int64} (ho : G o = some ((40, 0), .inl (Γ.2 3, 1, .inr (.inl fL)))) {p f d kn : Int32} : MetX l yX0_value (wsW_ yX0_value cX0_value 7 (some .int) [(0, 14, 17, 21), (0, 14, 21, 13)]) (RM 13 4000 12000) Γ G [.ref x, .int p, .int f, .int d, .int kn, .ref o] (fun v G1 => CR Γ G G1 x o σ σ (kV σ p f d kn) ((Fk σ p.toNatClampNeg kn (100 * (d.toInt.toNat + 1))).1 f.toNatClampNeg) v) (fun _ _ => False) 4000 12000 := by
  refine gMetH (own := RX0) (by decide) rfl (Nat.le_of_ble_eq_true rfl) ?_
  intro pp ee ss mm below meth cc0 ls X hr hlk hxt hR hS hl
  have hl : lv_has ls 7 [(0, .ref x), (1, .int p), (2, .int f), (3, .int d), (4, .int kn), (5, .ref o)] := hl
  obtain ⟨⟨rf, hx, -⟩, -⟩ := id hX
  refine lv_aload X.hx X.hb dX0_value_0 (lv_at hl 5 rfl) ?_
  refine lv_iconst (v := 0) X.hx X.hb dX0_value_2 (by decide) ?_
  refine lv_aload_n X.hx X.hb dX0_value_3 rfl (lv_at hl 0 rfl) ?_
  refine lv_iload_n X.hx X.hb dX0_value_4 rfl (lv_at hl 1 rfl) ?_
  refine lv_iload_n X.hx X.hb dX0_value_5 rfl (lv_at hl 2 rfl) ?_
  refine lv_iload_n X.hx X.hb dX0_value_6 rfl (lv_at hl 3 rfl) ?_
  refine lv_iload X.hx X.hb dX0_value_7 (lv_at hl 4 rfl) ?_
  refine gxV X hl.1 hR hS 4 [.int p, .int f, .int d, .int kn] [.int 0, .ref o] (c_value l Γ G hst hW hX hC) hx rfl q728 q729 q730 q36 q731 rfl rfl ⟨rfl, by decide +kernel, by decide +kernel, by decide +kernel⟩ ⟨by (try dsimp only [RM]); omega, by (try dsimp only [RM]); omega⟩ rfl rfl (Nat.le_of_ble_eq_true rfl) dX0_value_9 ⟨by (try dsimp only [RM]); omega, by (try dsimp only [RM]); omega⟩ (fun E454 ce q9 G9 H locs hq9 hR9 hS9 hce hcv hcl => ?_) (fun v452 G453 H locs hq449 hR450 hS451 => ?_)
  · obtain ⟨hE, hX9, hg9⟩ := hq9
    rcases hE with ⟨rfl, hk9⟩ | ⟨rfl, hk9⟩
    · refine g_catch X [] ⟨0, 14, 17, 21⟩ [⟨0, 14, 21, 13⟩] hxt (fun z hz => absurd hz List.not_mem_nil) rfl (by decide) q383 kq425 hce hcv hcl ?_
      refine lv_astore (lv' := [(6, .ref q9), (0, .ref x), (1, .int p), (2, .int f), (3, .int d), (4, .int kn), (5, .ref o)]) X.hx X.hb dX0_value_17 hl (by decide) rfl (fun ls hl => ?_)
      refine lv_iconst (v := 1) X.hx X.hb dX0_value_19 (by decide) ?_
      refine vx_ret ?_
      exact g_iret X hr hlk hR9 hS9 (⟨Or.inr ⟨by rw [hk9]; decide, by rw [hk9], ⟨_, hX9⟩, fL, hg9 _ _ ho (by show ¬ 40 < 30; decide)⟩, TXo_x hg9⟩) (by (try dsimp only [RM]); omega) (by (try dsimp only [RM]); omega) dX0_value_20
    · refine g_catch X [⟨0, 14, 17, 21⟩] ⟨0, 14, 21, 13⟩ [] hxt (fun z hz => by obtain rfl : z = (⟨0, 14, 17, 21⟩ : ExceptionTableEntry) := List.mem_singleton.mp hz; exact Or.inr ⟨by decide, _, q383, kn1⟩) rfl (by decide) q156 kq167 hce hcv hcl ?_
      refine lv_astore (lv' := [(6, .ref q9), (0, .ref x), (1, .int p), (2, .int f), (3, .int d), (4, .int kn), (5, .ref o)]) X.hx X.hb dX0_value_21 hl (by decide) rfl (fun ls hl => ?_)
      refine lv_iconst (v := 2) X.hx X.hb dX0_value_23 (by decide) ?_
      refine vx_ret ?_
      exact g_iret X hr hlk hR9 hS9 (⟨Or.inr ⟨by rw [hk9]; decide, by rw [hk9], ⟨_, hX9⟩, fL, hg9 _ _ ho (by show ¬ 40 < 30; decide)⟩, TXo_x hg9⟩) (by (try dsimp only [RM]); omega) (by (try dsimp only [RM]); omega) dX0_value_24
  · obtain ⟨hk0, rfl, hX1, hgf⟩ := hq449
    have ho1 := hgf _ _ ho (by show ¬ 40 < 30; decide)
    refine lv_i2l X.hx X.hb dX0_value_12 rfl ?_
    refine g_last X hR450 hS451 ho1 (Nat.le_of_ble_eq_true rfl) (vp_in_nI (n := 0) (by decide) (by decide)) dX0_value_13 (fun H locs hR455 hS456 => ?_)
    obtain ⟨G457, hG457⟩ : ∃ z : GH, z = gu G453 o ((40, 0), .inl (Γ.2 3, 1, .inr (.inl (vp_updL fL ((0 : Int32).toNatClampNeg) (((Fk σ p.toNatClampNeg kn (100 * (d.toInt.toNat + 1))).1 f.toNatClampNeg).toInt64))))) := ⟨_, rfl⟩
    have hR455 : Rep Γ G457 H := by rw [hG457]; exact hR455
    have f458 : G457 o = some ((40, 0), .inl (Γ.2 3, 1, .inr (.inl (vp_updL fL ((0 : Int32).toNatClampNeg) (((Fk σ p.toNatClampNeg kn (100 * (d.toInt.toNat + 1))).1 f.toNatClampNeg).toInt64))))) := by rw [hG457]; exact gu_s _ _ _
    refine lv_goto (tgt := 25) X.hx X.hb dX0_value_14 (by decide) ?_
    refine lv_iconst (v := 0) X.hx X.hb dX0_value_25 (by decide) ?_
    refine vx_ret ?_
    exact g_iret X hr hlk hR455 hS456 (⟨Or.inl ⟨hk0, rfl, ⟨_, hX1.out (gK.pt hG457 ho1 rfl)⟩, _, f458, rfl⟩, gK.tr (TXo_x hgf) (TXo_o (gK.pt hG457 ho1 rfl))⟩) (by (try dsimp only [RM]); omega) (by (try dsimp only [RM]); omega) dX0_value_26

set_option maxHeartbeats 4000000 in
theorem w_isCovered (l : Launch) (Γ : GP) (G : GH) (hst : l.stackTraces = false) {x : Nat} {σ : MS} {A : Nat → Nat → Nat} (hW : WF σ) (hX : XP Γ G x σ A) (hC : CN Γ G) {o : Nat} {fL : Nat → Int64} (ho : G o = some ((40, 0), .inl (Γ.2 3, 1, .inr (.inl fL)))) {p d kn : Int32} : MetX l yX0_isCovered (wsW_ yX0_isCovered cX0_isCovered 6 (some .int) [(0, 19, 22, 21), (0, 19, 26, 13)]) (RM 13 4000 12000) Γ G [.ref x, .int p, .int d, .int kn, .ref o] (fun v G1 => CR Γ G G1 x o σ σ (kV σ p 0 d kn) ((Fk σ p.toNatClampNeg kn (100 * (d.toInt.toNat + 1))).2) v) (fun _ _ => False) 4000 12000 := by
  refine gMetH (own := RX0) (by decide) rfl (Nat.le_of_ble_eq_true rfl) ?_
  intro pp ee ss mm below meth cc0 ls X hr hlk hxt hR hS hl
  have hl : lv_has ls 6 [(0, .ref x), (1, .int p), (2, .int d), (3, .int kn), (4, .ref o)] := hl
  obtain ⟨⟨rf, hx, -⟩, -⟩ := id hX
  refine lv_aload X.hx X.hb dX0_isCovered_0 (lv_at hl 4 rfl) ?_
  refine lv_iconst (v := 0) X.hx X.hb dX0_isCovered_2 (by decide) ?_
  refine lv_aload_n X.hx X.hb dX0_isCovered_3 rfl (lv_at hl 0 rfl) ?_
  refine lv_iload_n X.hx X.hb dX0_isCovered_4 rfl (lv_at hl 1 rfl) ?_
  refine lv_iload_n X.hx X.hb dX0_isCovered_5 rfl (lv_at hl 2 rfl) ?_
  refine lv_iload_n X.hx X.hb dX0_isCovered_6 rfl (lv_at hl 3 rfl) ?_
  refine gxV X hl.1 hR hS 3 [.int p, .int d, .int kn] [.int 0, .ref o] (c_isCovered l Γ G hst hW hX hC) hx rfl q1170 q1171 q1172 q36 q1173 rfl rfl ⟨rfl, by decide +kernel, by decide +kernel, by decide +kernel⟩ ⟨by (try dsimp only [RM]); omega, by (try dsimp only [RM]); omega⟩ rfl rfl (Nat.le_of_ble_eq_true rfl) dX0_isCovered_7 ⟨by (try dsimp only [RM]); omega, by (try dsimp only [RM]); omega⟩ (fun E464 ce q9 G9 H locs hq9 hR9 hS9 hce hcv hcl => ?_) (fun v462 G463 H locs hq459 hR460 hS461 => ?_)
  · obtain ⟨hE, hX9, hg9⟩ := hq9
    rcases hE with ⟨rfl, hk9⟩ | ⟨rfl, hk9⟩
    · refine g_catch X [] ⟨0, 19, 22, 21⟩ [⟨0, 19, 26, 13⟩] hxt (fun z hz => absurd hz List.not_mem_nil) rfl (by decide) q383 kq425 hce hcv hcl ?_
      refine lv_astore (lv' := [(5, .ref q9), (0, .ref x), (1, .int p), (2, .int d), (3, .int kn), (4, .ref o)]) X.hx X.hb dX0_isCovered_22 hl (by decide) rfl (fun ls hl => ?_)
      refine lv_iconst (v := 1) X.hx X.hb dX0_isCovered_24 (by decide) ?_
      refine vx_ret ?_
      exact g_iret X hr hlk hR9 hS9 (⟨Or.inr ⟨by rw [hk9]; decide, by rw [hk9], ⟨_, hX9⟩, fL, hg9 _ _ ho (by show ¬ 40 < 30; decide)⟩, TXo_x hg9⟩) (by (try dsimp only [RM]); omega) (by (try dsimp only [RM]); omega) dX0_isCovered_25
    · refine g_catch X [⟨0, 19, 22, 21⟩] ⟨0, 19, 26, 13⟩ [] hxt (fun z hz => by obtain rfl : z = (⟨0, 19, 22, 21⟩ : ExceptionTableEntry) := List.mem_singleton.mp hz; exact Or.inr ⟨by decide, _, q383, kn1⟩) rfl (by decide) q156 kq167 hce hcv hcl ?_
      refine lv_astore (lv' := [(5, .ref q9), (0, .ref x), (1, .int p), (2, .int d), (3, .int kn), (4, .ref o)]) X.hx X.hb dX0_isCovered_26 hl (by decide) rfl (fun ls hl => ?_)
      refine lv_iconst (v := 2) X.hx X.hb dX0_isCovered_28 (by decide) ?_
      refine vx_ret ?_
      exact g_iret X hr hlk hR9 hS9 (⟨Or.inr ⟨by rw [hk9]; decide, by rw [hk9], ⟨_, hX9⟩, fL, hg9 _ _ ho (by show ¬ 40 < 30; decide)⟩, TXo_x hg9⟩) (by (try dsimp only [RM]); omega) (by (try dsimp only [RM]); omega) dX0_isCovered_29
  · obtain ⟨hk0, rfl, hX1, hgf⟩ := hq459
    have ho1 := hgf _ _ ho (by show ¬ 40 < 30; decide)
    have hbv := Fk_on (σ := σ) (i := p.toNatClampNeg) (kn := kn) (100 * (d.toInt.toNat + 1))
    refine lv_if_eq (tgt := 17) X.hx X.hb dX0_isCovered_10 (by decide) (fun c10 => ?_) (fun c10 => ?_)
    · refine lv_lconst (v := 0) X.hx X.hb dX0_isCovered_17 rfl ?_
      refine g_last X hR460 hS461 ho1 (Nat.le_of_ble_eq_true rfl) (vp_in_nI (n := 0) (by decide) (by decide)) dX0_isCovered_18 (fun H locs hR465 hS466 => ?_)
      obtain ⟨G467, hG467⟩ : ∃ z : GH, z = gu G463 o ((40, 0), .inl (Γ.2 3, 1, .inr (.inl (vp_updL fL ((0 : Int32).toNatClampNeg) 0)))) := ⟨_, rfl⟩
      have hR465 : Rep Γ G467 H := by rw [hG467]; exact hR465
      have f468 : G467 o = some ((40, 0), .inl (Γ.2 3, 1, .inr (.inl (vp_updL fL ((0 : Int32).toNatClampNeg) 0)))) := by rw [hG467]; exact gu_s _ _ _
      refine lv_goto (tgt := 30) X.hx X.hb dX0_isCovered_19 (by decide) ?_
      refine lv_iconst (v := 0) X.hx X.hb dX0_isCovered_30 (by decide) ?_
      refine vx_ret ?_
      exact g_iret X hr hlk hR465 hS466 (⟨Or.inl ⟨hk0, rfl, ⟨_, hX1.out (gK.pt hG467 ho1 rfl)⟩, _, f468, by rw [c10]; rfl⟩, gK.tr (TXo_x hgf) (TXo_o (gK.pt hG467 ho1 rfl))⟩) (by (try dsimp only [RM]); omega) (by (try dsimp only [RM]); omega) dX0_isCovered_31
    · refine lv_lconst (v := 1) X.hx X.hb dX0_isCovered_13 rfl ?_
      refine lv_goto (tgt := 18) X.hx X.hb dX0_isCovered_14 (by decide) ?_
      refine g_last X hR460 hS461 ho1 (Nat.le_of_ble_eq_true rfl) (vp_in_nI (n := 0) (by decide) (by decide)) dX0_isCovered_18 (fun H locs hR469 hS470 => ?_)
      obtain ⟨G471, hG471⟩ : ∃ z : GH, z = gu G463 o ((40, 0), .inl (Γ.2 3, 1, .inr (.inl (vp_updL fL ((0 : Int32).toNatClampNeg) 1)))) := ⟨_, rfl⟩
      have hR469 : Rep Γ G471 H := by rw [hG471]; exact hR469
      have f472 : G471 o = some ((40, 0), .inl (Γ.2 3, 1, .inr (.inl (vp_updL fL ((0 : Int32).toNatClampNeg) 1)))) := by rw [hG471]; exact gu_s _ _ _
      refine lv_goto (tgt := 30) X.hx X.hb dX0_isCovered_19 (by decide) ?_
      refine lv_iconst (v := 0) X.hx X.hb dX0_isCovered_30 (by decide) ?_
      refine vx_ret ?_
      exact g_iret X hr hlk hR469 hS470 (⟨Or.inl ⟨hk0, rfl, ⟨_, hX1.out (gK.pt hG471 ho1 rfl)⟩, _, f472, by rw [hbv.resolve_left c10]; rfl⟩, gK.tr (TXo_x hgf) (TXo_o (gK.pt hG471 ho1 rfl))⟩) (by (try dsimp only [RM]); omega) (by (try dsimp only [RM]); omega) dX0_isCovered_31

set_option maxHeartbeats 4000000 in
theorem w_rate (l : Launch) (Γ : GP) (G : GH) (hst : l.stackTraces = false) {x : Nat} {σ : MS} {A : Nat → Nat → Nat} (hW : WF σ) (hX : XP Γ G x σ A) (hC : CN Γ G) {o : Nat} {fL : Nat → Int64} (ho : G o = some ((40, 0), .inl (Γ.2 3, 1, .inr (.inl fL)))) {p d kn : Int32} : MetX l yX0_rate (wsW_ yX0_rate cX0_rate 6 (some .int) [(0, 12, 15, 21), (0, 12, 19, 13)]) (RM 13 4000 12000) Γ G [.ref x, .int p, .int d, .int kn, .ref o] (fun v G1 => CR Γ G G1 x o σ σ (kV σ p 0 d kn) (rtw σ p.toNatClampNeg d (Fk σ p.toNatClampNeg kn (100 * (d.toInt.toNat + 1)))) v) (fun _ _ => False) 4000 12000 := by
  refine gMetH (own := RX0) (by decide) rfl (Nat.le_of_ble_eq_true rfl) ?_
  intro pp ee ss mm below meth cc0 ls X hr hlk hxt hR hS hl
  have hl : lv_has ls 6 [(0, .ref x), (1, .int p), (2, .int d), (3, .int kn), (4, .ref o)] := hl
  obtain ⟨⟨rf, hx, -⟩, -⟩ := id hX
  refine lv_aload X.hx X.hb dX0_rate_0 (lv_at hl 4 rfl) ?_
  refine lv_iconst (v := 0) X.hx X.hb dX0_rate_2 (by decide) ?_
  refine lv_aload_n X.hx X.hb dX0_rate_3 rfl (lv_at hl 0 rfl) ?_
  refine lv_iload_n X.hx X.hb dX0_rate_4 rfl (lv_at hl 1 rfl) ?_
  refine lv_iload_n X.hx X.hb dX0_rate_5 rfl (lv_at hl 2 rfl) ?_
  refine lv_iload_n X.hx X.hb dX0_rate_6 rfl (lv_at hl 3 rfl) ?_
  refine gxV X hl.1 hR hS 3 [.int p, .int d, .int kn] [.int 0, .ref o] (c_rate l Γ G hst hW hX hC) hx rfl q1177 q1178 q1179 q36 q1180 rfl rfl ⟨rfl, by decide +kernel, by decide +kernel, by decide +kernel⟩ ⟨by (try dsimp only [RM]); omega, by (try dsimp only [RM]); omega⟩ rfl rfl (Nat.le_of_ble_eq_true rfl) dX0_rate_7 ⟨by (try dsimp only [RM]); omega, by (try dsimp only [RM]); omega⟩ (fun E478 ce q9 G9 H locs hq9 hR9 hS9 hce hcv hcl => ?_) (fun v476 G477 H locs hq473 hR474 hS475 => ?_)
  · obtain ⟨hE, hX9, hg9⟩ := hq9
    rcases hE with ⟨rfl, hk9⟩ | ⟨rfl, hk9⟩
    · refine g_catch X [] ⟨0, 12, 15, 21⟩ [⟨0, 12, 19, 13⟩] hxt (fun z hz => absurd hz List.not_mem_nil) rfl (by decide) q383 kq425 hce hcv hcl ?_
      refine lv_astore (lv' := [(5, .ref q9), (0, .ref x), (1, .int p), (2, .int d), (3, .int kn), (4, .ref o)]) X.hx X.hb dX0_rate_15 hl (by decide) rfl (fun ls hl => ?_)
      refine lv_iconst (v := 1) X.hx X.hb dX0_rate_17 (by decide) ?_
      refine vx_ret ?_
      exact g_iret X hr hlk hR9 hS9 (⟨Or.inr ⟨by rw [hk9]; decide, by rw [hk9], ⟨_, hX9⟩, fL, hg9 _ _ ho (by show ¬ 40 < 30; decide)⟩, TXo_x hg9⟩) (by (try dsimp only [RM]); omega) (by (try dsimp only [RM]); omega) dX0_rate_18
    · refine g_catch X [⟨0, 12, 15, 21⟩] ⟨0, 12, 19, 13⟩ [] hxt (fun z hz => by obtain rfl : z = (⟨0, 12, 15, 21⟩ : ExceptionTableEntry) := List.mem_singleton.mp hz; exact Or.inr ⟨by decide, _, q383, kn1⟩) rfl (by decide) q156 kq167 hce hcv hcl ?_
      refine lv_astore (lv' := [(5, .ref q9), (0, .ref x), (1, .int p), (2, .int d), (3, .int kn), (4, .ref o)]) X.hx X.hb dX0_rate_19 hl (by decide) rfl (fun ls hl => ?_)
      refine lv_iconst (v := 2) X.hx X.hb dX0_rate_21 (by decide) ?_
      refine vx_ret ?_
      exact g_iret X hr hlk hR9 hS9 (⟨Or.inr ⟨by rw [hk9]; decide, by rw [hk9], ⟨_, hX9⟩, fL, hg9 _ _ ho (by show ¬ 40 < 30; decide)⟩, TXo_x hg9⟩) (by (try dsimp only [RM]); omega) (by (try dsimp only [RM]); omega) dX0_rate_22
  · obtain ⟨hk0, rfl, hX1, hgf⟩ := hq473
    have ho1 := hgf _ _ ho (by show ¬ 40 < 30; decide)
    refine lv_i2l X.hx X.hb dX0_rate_10 rfl ?_
    refine g_last X hR474 hS475 ho1 (Nat.le_of_ble_eq_true rfl) (vp_in_nI (n := 0) (by decide) (by decide)) dX0_rate_11 (fun H locs hR479 hS480 => ?_)
    obtain ⟨G481, hG481⟩ : ∃ z : GH, z = gu G477 o ((40, 0), .inl (Γ.2 3, 1, .inr (.inl (vp_updL fL ((0 : Int32).toNatClampNeg) ((rtw σ p.toNatClampNeg d (Fk σ p.toNatClampNeg kn (100 * (d.toInt.toNat + 1)))).toInt64))))) := ⟨_, rfl⟩
    have hR479 : Rep Γ G481 H := by rw [hG481]; exact hR479
    have f482 : G481 o = some ((40, 0), .inl (Γ.2 3, 1, .inr (.inl (vp_updL fL ((0 : Int32).toNatClampNeg) ((rtw σ p.toNatClampNeg d (Fk σ p.toNatClampNeg kn (100 * (d.toInt.toNat + 1)))).toInt64))))) := by rw [hG481]; exact gu_s _ _ _
    refine lv_goto (tgt := 23) X.hx X.hb dX0_rate_12 (by decide) ?_
    refine lv_iconst (v := 0) X.hx X.hb dX0_rate_23 (by decide) ?_
    refine vx_ret ?_
    exact g_iret X hr hlk hR479 hS480 (⟨Or.inl ⟨hk0, rfl, ⟨_, hX1.out (gK.pt hG481 ho1 rfl)⟩, _, f482, rfl⟩, gK.tr (TXo_x hgf) (TXo_o (gK.pt hG481 ho1 rfl))⟩) (by (try dsimp only [RM]); omega) (by (try dsimp only [RM]); omega) dX0_rate_24

set_option maxHeartbeats 4000000 in
theorem w_segments (l : Launch) (Γ : GP) (G : GH) (hst : l.stackTraces = false) {x : Nat} {σ : MS} {A : Nat → Nat → Nat} (hW : WF σ) (hX : XP Γ G x σ A) (hC : CN Γ G) {o : Nat} {fL : Nat → Int64} (ho : G o = some ((40, 0), .inl (Γ.2 3, 1, .inr (.inl fL)))) {p kn : Int32} : MetX l yX0_segments (wsW_ yX0_segments cX0_segments 5 (some .int) [(0, 10, 13, 21), (0, 10, 17, 13)]) (RM 13 4000 12000) Γ G [.ref x, .int p, .int kn, .ref o] (fun v G1 => CR Γ G G1 x o σ σ (kV σ p 0 0 kn) (nI (nS σ p kn)) v) (fun _ _ => False) 4000 12000 := by
  refine gMetH (own := RX0) (by decide) rfl (Nat.le_of_ble_eq_true rfl) ?_
  intro pp ee ss mm below meth cc0 ls X hr hlk hxt hR hS hl
  have hl : lv_has ls 5 [(0, .ref x), (1, .int p), (2, .int kn), (3, .ref o)] := hl
  obtain ⟨⟨rf, hx, -⟩, -⟩ := id hX
  refine lv_aload_n X.hx X.hb dX0_segments_0 rfl (lv_at hl 3 rfl) ?_
  refine lv_iconst (v := 0) X.hx X.hb dX0_segments_1 (by decide) ?_
  refine lv_aload_n X.hx X.hb dX0_segments_2 rfl (lv_at hl 0 rfl) ?_
  refine lv_iload_n X.hx X.hb dX0_segments_3 rfl (lv_at hl 1 rfl) ?_
  refine lv_iload_n X.hx X.hb dX0_segments_4 rfl (lv_at hl 2 rfl) ?_
  refine gxV X hl.1 hR hS 2 [.int p, .int kn] [.int 0, .ref o] (c_segments l Γ G hst hW hX hC) hx rfl q1204 q1205 q1206 q36 q1207 rfl rfl ⟨rfl, by decide +kernel, by decide +kernel, by decide +kernel⟩ ⟨by (try dsimp only [RM]); omega, by (try dsimp only [RM]); omega⟩ rfl rfl (Nat.le_of_ble_eq_true rfl) dX0_segments_5 ⟨by (try dsimp only [RM]); omega, by (try dsimp only [RM]); omega⟩ (fun E488 ce q9 G9 H locs hq9 hR9 hS9 hce hcv hcl => ?_) (fun v486 G487 H locs hq483 hR484 hS485 => ?_)
  · obtain ⟨hE, hX9, hg9⟩ := hq9
    rcases hE with ⟨rfl, hk9⟩ | ⟨rfl, hk9⟩
    · refine g_catch X [] ⟨0, 10, 13, 21⟩ [⟨0, 10, 17, 13⟩] hxt (fun z hz => absurd hz List.not_mem_nil) rfl (by decide) q383 kq425 hce hcv hcl ?_
      refine lv_astore (lv' := [(4, .ref q9), (0, .ref x), (1, .int p), (2, .int kn), (3, .ref o)]) X.hx X.hb dX0_segments_13 hl (by decide) rfl (fun ls hl => ?_)
      refine lv_iconst (v := 1) X.hx X.hb dX0_segments_15 (by decide) ?_
      refine vx_ret ?_
      exact g_iret X hr hlk hR9 hS9 (⟨Or.inr ⟨by rw [hk9]; decide, by rw [hk9], ⟨_, hX9⟩, fL, hg9 _ _ ho (by show ¬ 40 < 30; decide)⟩, TXo_x hg9⟩) (by (try dsimp only [RM]); omega) (by (try dsimp only [RM]); omega) dX0_segments_16
    · refine g_catch X [⟨0, 10, 13, 21⟩] ⟨0, 10, 17, 13⟩ [] hxt (fun z hz => by obtain rfl : z = (⟨0, 10, 13, 21⟩ : ExceptionTableEntry) := List.mem_singleton.mp hz; exact Or.inr ⟨by decide, _, q383, kn1⟩) rfl (by decide) q156 kq167 hce hcv hcl ?_
      refine lv_astore (lv' := [(4, .ref q9), (0, .ref x), (1, .int p), (2, .int kn), (3, .ref o)]) X.hx X.hb dX0_segments_17 hl (by decide) rfl (fun ls hl => ?_)
      refine lv_iconst (v := 2) X.hx X.hb dX0_segments_19 (by decide) ?_
      refine vx_ret ?_
      exact g_iret X hr hlk hR9 hS9 (⟨Or.inr ⟨by rw [hk9]; decide, by rw [hk9], ⟨_, hX9⟩, fL, hg9 _ _ ho (by show ¬ 40 < 30; decide)⟩, TXo_x hg9⟩) (by (try dsimp only [RM]); omega) (by (try dsimp only [RM]); omega) dX0_segments_20
  · obtain ⟨hk0, rfl, hX1, hgf⟩ := hq483
    have ho1 := hgf _ _ ho (by show ¬ 40 < 30; decide)
    refine lv_i2l X.hx X.hb dX0_segments_8 rfl ?_
    refine g_last X hR484 hS485 ho1 (Nat.le_of_ble_eq_true rfl) (vp_in_nI (n := 0) (by decide) (by decide)) dX0_segments_9 (fun H locs hR489 hS490 => ?_)
    obtain ⟨G491, hG491⟩ : ∃ z : GH, z = gu G487 o ((40, 0), .inl (Γ.2 3, 1, .inr (.inl (vp_updL fL ((0 : Int32).toNatClampNeg) ((nI (nS σ p kn)).toInt64))))) := ⟨_, rfl⟩
    have hR489 : Rep Γ G491 H := by rw [hG491]; exact hR489
    have f492 : G491 o = some ((40, 0), .inl (Γ.2 3, 1, .inr (.inl (vp_updL fL ((0 : Int32).toNatClampNeg) ((nI (nS σ p kn)).toInt64))))) := by rw [hG491]; exact gu_s _ _ _
    refine lv_goto (tgt := 21) X.hx X.hb dX0_segments_10 (by decide) ?_
    refine lv_iconst (v := 0) X.hx X.hb dX0_segments_21 (by decide) ?_
    refine vx_ret ?_
    exact g_iret X hr hlk hR489 hS490 (⟨Or.inl ⟨hk0, rfl, ⟨_, hX1.out (gK.pt hG491 ho1 rfl)⟩, _, f492, rfl⟩, gK.tr (TXo_x hgf) (TXo_o (gK.pt hG491 ho1 rfl))⟩) (by (try dsimp only [RM]); omega) (by (try dsimp only [RM]); omega) dX0_segments_22

set_option maxHeartbeats 4000000 in
theorem w_segmentStart (l : Launch) (Γ : GP) (G : GH) (hst : l.stackTraces = false) {x : Nat} {σ : MS} {A : Nat → Nat → Nat} (hW : WF σ) (hX : XP Γ G x σ A) (hC : CN Γ G) {o : Nat} {fL : Nat → Int64} (ho : G o = some ((40, 0), .inl (Γ.2 3, 1, .inr (.inl fL)))) {p sg kn : Int32} : MetX l yX0_segmentStart (wsW_ yX0_segmentStart cX0_segmentStart 6 (some .int) [(0, 12, 15, 13), (0, 12, 19, 21)]) (RM 13 4000 12000) Γ G [.ref x, .int p, .int sg, .int kn, .ref o] (fun v G1 => CR Γ G G1 x o σ σ (kS σ p sg kn) (nI (sdy (rtA σ p.toNatClampNeg kn) sg.toNatClampNeg 365)) v) (fun _ _ => False) 4000 12000 := by
  refine gMetH (own := RX0) (by decide) rfl (Nat.le_of_ble_eq_true rfl) ?_
  intro pp ee ss mm below meth cc0 ls X hr hlk hxt hR hS hl
  have hl : lv_has ls 6 [(0, .ref x), (1, .int p), (2, .int sg), (3, .int kn), (4, .ref o)] := hl
  obtain ⟨⟨rf, hx, -⟩, -⟩ := id hX
  refine lv_aload X.hx X.hb dX0_segmentStart_0 (lv_at hl 4 rfl) ?_
  refine lv_iconst (v := 0) X.hx X.hb dX0_segmentStart_2 (by decide) ?_
  refine lv_aload_n X.hx X.hb dX0_segmentStart_3 rfl (lv_at hl 0 rfl) ?_
  refine lv_iload_n X.hx X.hb dX0_segmentStart_4 rfl (lv_at hl 1 rfl) ?_
  refine lv_iload_n X.hx X.hb dX0_segmentStart_5 rfl (lv_at hl 2 rfl) ?_
  refine lv_iload_n X.hx X.hb dX0_segmentStart_6 rfl (lv_at hl 3 rfl) ?_
  refine gxV X hl.1 hR hS 3 [.int p, .int sg, .int kn] [.int 0, .ref o] (c_segStart l Γ G hst hW hX hC) hx rfl q1224 q1225 q1226 q36 q1227 rfl rfl ⟨rfl, by decide +kernel, by decide +kernel, by decide +kernel⟩ ⟨by (try dsimp only [RM]); omega, by (try dsimp only [RM]); omega⟩ rfl rfl (Nat.le_of_ble_eq_true rfl) dX0_segmentStart_7 ⟨by (try dsimp only [RM]); omega, by (try dsimp only [RM]); omega⟩ (fun E498 ce q9 G9 H locs hq9 hR9 hS9 hce hcv hcl => ?_) (fun v496 G497 H locs hq493 hR494 hS495 => ?_)
  · obtain ⟨hE, hX9, hg9⟩ := hq9
    rcases hE with ⟨rfl, hk9⟩ | ⟨rfl, hk9⟩
    · refine g_catch X [] ⟨0, 12, 15, 13⟩ [⟨0, 12, 19, 21⟩] hxt (fun z hz => absurd hz List.not_mem_nil) rfl (by decide) q156 kq167 hce hcv hcl ?_
      refine lv_astore (lv' := [(5, .ref q9), (0, .ref x), (1, .int p), (2, .int sg), (3, .int kn), (4, .ref o)]) X.hx X.hb dX0_segmentStart_15 hl (by decide) rfl (fun ls hl => ?_)
      refine lv_iconst (v := 1) X.hx X.hb dX0_segmentStart_17 (by decide) ?_
      refine vx_ret ?_
      exact g_iret X hr hlk hR9 hS9 (⟨Or.inr ⟨by rw [hk9]; decide, by rw [hk9], ⟨_, hX9⟩, fL, hg9 _ _ ho (by show ¬ 40 < 30; decide)⟩, TXo_x hg9⟩) (by (try dsimp only [RM]); omega) (by (try dsimp only [RM]); omega) dX0_segmentStart_18
    · refine g_catch X [⟨0, 12, 15, 13⟩] ⟨0, 12, 19, 21⟩ [] hxt (fun z hz => by obtain rfl : z = (⟨0, 12, 15, 13⟩ : ExceptionTableEntry) := List.mem_singleton.mp hz; exact Or.inr ⟨by decide, _, q156, kn4⟩) rfl (by decide) q383 kq425 hce hcv hcl ?_
      refine lv_astore (lv' := [(5, .ref q9), (0, .ref x), (1, .int p), (2, .int sg), (3, .int kn), (4, .ref o)]) X.hx X.hb dX0_segmentStart_19 hl (by decide) rfl (fun ls hl => ?_)
      refine lv_iconst (v := 2) X.hx X.hb dX0_segmentStart_21 (by decide) ?_
      refine vx_ret ?_
      exact g_iret X hr hlk hR9 hS9 (⟨Or.inr ⟨by rw [hk9]; decide, by rw [hk9], ⟨_, hX9⟩, fL, hg9 _ _ ho (by show ¬ 40 < 30; decide)⟩, TXo_x hg9⟩) (by (try dsimp only [RM]); omega) (by (try dsimp only [RM]); omega) dX0_segmentStart_22
  · obtain ⟨hk0, rfl, hX1, hgf⟩ := hq493
    have ho1 := hgf _ _ ho (by show ¬ 40 < 30; decide)
    refine lv_i2l X.hx X.hb dX0_segmentStart_10 rfl ?_
    refine g_last X hR494 hS495 ho1 (Nat.le_of_ble_eq_true rfl) (vp_in_nI (n := 0) (by decide) (by decide)) dX0_segmentStart_11 (fun H locs hR499 hS500 => ?_)
    obtain ⟨G501, hG501⟩ : ∃ z : GH, z = gu G497 o ((40, 0), .inl (Γ.2 3, 1, .inr (.inl (vp_updL fL ((0 : Int32).toNatClampNeg) ((nI (sdy (rtA σ p.toNatClampNeg kn) sg.toNatClampNeg 365)).toInt64))))) := ⟨_, rfl⟩
    have hR499 : Rep Γ G501 H := by rw [hG501]; exact hR499
    have f502 : G501 o = some ((40, 0), .inl (Γ.2 3, 1, .inr (.inl (vp_updL fL ((0 : Int32).toNatClampNeg) ((nI (sdy (rtA σ p.toNatClampNeg kn) sg.toNatClampNeg 365)).toInt64))))) := by rw [hG501]; exact gu_s _ _ _
    refine lv_goto (tgt := 23) X.hx X.hb dX0_segmentStart_12 (by decide) ?_
    refine lv_iconst (v := 0) X.hx X.hb dX0_segmentStart_23 (by decide) ?_
    refine vx_ret ?_
    exact g_iret X hr hlk hR499 hS500 (⟨Or.inl ⟨hk0, rfl, ⟨_, hX1.out (gK.pt hG501 ho1 rfl)⟩, _, f502, rfl⟩, gK.tr (TXo_x hgf) (TXo_o (gK.pt hG501 ho1 rfl))⟩) (by (try dsimp only [RM]); omega) (by (try dsimp only [RM]); omega) dX0_segmentStart_24

set_option maxHeartbeats 4000000 in
theorem w_segmentPremium (l : Launch) (Γ : GP) (G : GH) (hst : l.stackTraces = false) {x : Nat} {σ : MS} {A : Nat → Nat → Nat} (hW : WF σ) (hX : XP Γ G x σ A) (hC : CN Γ G) {o : Nat} {fL : Nat → Int64} (ho : G o = some ((40, 0), .inl (Γ.2 3, 1, .inr (.inl fL)))) {p sg kn : Int32} : MetX l yX0_segmentPremium (wsW_ yX0_segmentPremium cX0_segmentPremium 6 (some .int) [(0, 12, 15, 13), (0, 12, 19, 21)]) (RM 13 4000 12000) Γ G [.ref x, .int p, .int sg, .int kn, .ref o] (fun v G1 => ∃ u, (kS σ p sg kn = 0 → PSg (rtA σ p.toNatClampNeg kn) (sdy (rtA σ p.toNatClampNeg kn) sg.toNatClampNeg 365) u) ∧ CR Γ G G1 x o σ σ (kS σ p sg kn) u v) (fun _ _ => False) 4000 12000 := by
  refine gMetH (own := RX0) (by decide) rfl (Nat.le_of_ble_eq_true rfl) ?_
  intro pp ee ss mm below meth cc0 ls X hr hlk hxt hR hS hl
  have hl : lv_has ls 6 [(0, .ref x), (1, .int p), (2, .int sg), (3, .int kn), (4, .ref o)] := hl
  obtain ⟨⟨rf, hx, -⟩, -⟩ := id hX
  refine lv_aload X.hx X.hb dX0_segmentPremium_0 (lv_at hl 4 rfl) ?_
  refine lv_iconst (v := 0) X.hx X.hb dX0_segmentPremium_2 (by decide) ?_
  refine lv_aload_n X.hx X.hb dX0_segmentPremium_3 rfl (lv_at hl 0 rfl) ?_
  refine lv_iload_n X.hx X.hb dX0_segmentPremium_4 rfl (lv_at hl 1 rfl) ?_
  refine lv_iload_n X.hx X.hb dX0_segmentPremium_5 rfl (lv_at hl 2 rfl) ?_
  refine lv_iload_n X.hx X.hb dX0_segmentPremium_6 rfl (lv_at hl 3 rfl) ?_
  refine gxV X hl.1 hR hS 3 [.int p, .int sg, .int kn] [.int 0, .ref o] (c_segPrem l Γ G hst hW hX hC) hx rfl q1240 q1241 q1242 q36 q1243 rfl rfl ⟨rfl, by decide +kernel, by decide +kernel, by decide +kernel⟩ ⟨by (try dsimp only [RM]); omega, by (try dsimp only [RM]); omega⟩ rfl rfl (Nat.le_of_ble_eq_true rfl) dX0_segmentPremium_7 ⟨by (try dsimp only [RM]); omega, by (try dsimp only [RM]); omega⟩ (fun E508 ce q9 G9 H locs hq9 hR9 hS9 hce hcv hcl => ?_) (fun v506 G507 H locs hq503 hR504 hS505 => ?_)
  · obtain ⟨hE, hX9, hg9⟩ := hq9
    rcases hE with ⟨rfl, hk9⟩ | ⟨rfl, hk9⟩
    · refine g_catch X [] ⟨0, 12, 15, 13⟩ [⟨0, 12, 19, 21⟩] hxt (fun z hz => absurd hz List.not_mem_nil) rfl (by decide) q156 kq167 hce hcv hcl ?_
      refine lv_astore (lv' := [(5, .ref q9), (0, .ref x), (1, .int p), (2, .int sg), (3, .int kn), (4, .ref o)]) X.hx X.hb dX0_segmentPremium_15 hl (by decide) rfl (fun ls hl => ?_)
      refine lv_iconst (v := 1) X.hx X.hb dX0_segmentPremium_17 (by decide) ?_
      refine vx_ret ?_
      exact g_iret X hr hlk hR9 hS9 (⟨0, fun h => absurd (h.symm.trans hk9) (by decide), ⟨Or.inr ⟨by rw [hk9]; decide, by rw [hk9], ⟨_, hX9⟩, fL, hg9 _ _ ho (by show ¬ 40 < 30; decide)⟩, TXo_x hg9⟩⟩) (by (try dsimp only [RM]); omega) (by (try dsimp only [RM]); omega) dX0_segmentPremium_18
    · refine g_catch X [⟨0, 12, 15, 13⟩] ⟨0, 12, 19, 21⟩ [] hxt (fun z hz => by obtain rfl : z = (⟨0, 12, 15, 13⟩ : ExceptionTableEntry) := List.mem_singleton.mp hz; exact Or.inr ⟨by decide, _, q156, kn4⟩) rfl (by decide) q383 kq425 hce hcv hcl ?_
      refine lv_astore (lv' := [(5, .ref q9), (0, .ref x), (1, .int p), (2, .int sg), (3, .int kn), (4, .ref o)]) X.hx X.hb dX0_segmentPremium_19 hl (by decide) rfl (fun ls hl => ?_)
      refine lv_iconst (v := 2) X.hx X.hb dX0_segmentPremium_21 (by decide) ?_
      refine vx_ret ?_
      exact g_iret X hr hlk hR9 hS9 (⟨0, fun h => absurd (h.symm.trans hk9) (by decide), ⟨Or.inr ⟨by rw [hk9]; decide, by rw [hk9], ⟨_, hX9⟩, fL, hg9 _ _ ho (by show ¬ 40 < 30; decide)⟩, TXo_x hg9⟩⟩) (by (try dsimp only [RM]); omega) (by (try dsimp only [RM]); omega) dX0_segmentPremium_22
  · obtain ⟨hk0, ⟨u9, rfl, hps⟩, hX1, hgf⟩ := hq503
    have ho1 := hgf _ _ ho (by show ¬ 40 < 30; decide)
    refine lv_i2l X.hx X.hb dX0_segmentPremium_10 rfl ?_
    refine g_last X hR504 hS505 ho1 (Nat.le_of_ble_eq_true rfl) (vp_in_nI (n := 0) (by decide) (by decide)) dX0_segmentPremium_11 (fun H locs hR509 hS510 => ?_)
    obtain ⟨G511, hG511⟩ : ∃ z : GH, z = gu G507 o ((40, 0), .inl (Γ.2 3, 1, .inr (.inl (vp_updL fL ((0 : Int32).toNatClampNeg) u9.toInt64)))) := ⟨_, rfl⟩
    have hR509 : Rep Γ G511 H := by rw [hG511]; exact hR509
    have f512 : G511 o = some ((40, 0), .inl (Γ.2 3, 1, .inr (.inl (vp_updL fL ((0 : Int32).toNatClampNeg) u9.toInt64)))) := by rw [hG511]; exact gu_s _ _ _
    refine lv_goto (tgt := 23) X.hx X.hb dX0_segmentPremium_12 (by decide) ?_
    refine lv_iconst (v := 0) X.hx X.hb dX0_segmentPremium_23 (by decide) ?_
    refine vx_ret ?_
    exact g_iret X hr hlk hR509 hS510 (⟨u9, fun _ => hps, ⟨Or.inl ⟨hk0, rfl, ⟨_, hX1.out (gK.pt hG511 ho1 rfl)⟩, _, f512, rfl⟩, gK.tr (TXo_x hgf) (TXo_o (gK.pt hG511 ho1 rfl))⟩⟩) (by (try dsimp only [RM]); omega) (by (try dsimp only [RM]); omega) dX0_segmentPremium_24

set_option maxHeartbeats 4000000 in
theorem w_premium (l : Launch) (Γ : GP) (G : GH) (hst : l.stackTraces = false) {x : Nat} {σ : MS} {A : Nat → Nat → Nat} (hW : WF σ) (hX : XP Γ G x σ A) (hC : CN Γ G) {o : Nat} {fL : Nat → Int64} (ho : G o = some ((40, 0), .inl (Γ.2 3, 1, .inr (.inl fL)))) {p kn : Int32} : MetX l yX0_premium (wsW_ yX0_premium cX0_premium 5 (some .int) [(0, 10, 13, 21), (0, 10, 17, 13)]) (RM 13 4000 12000) Γ G [.ref x, .int p, .int kn, .ref o] (fun v G1 => CR Γ G G1 x o σ σ (kV σ p 0 0 kn) (SUM (rtA σ p.toNatClampNeg kn) 365 / 365) v) (fun _ _ => False) 4000 12000 := by
  refine gMetH (own := RX0) (by decide) rfl (Nat.le_of_ble_eq_true rfl) ?_
  intro pp ee ss mm below meth cc0 ls X hr hlk hxt hR hS hl
  have hl : lv_has ls 5 [(0, .ref x), (1, .int p), (2, .int kn), (3, .ref o)] := hl
  obtain ⟨⟨rf, hx, -⟩, -⟩ := id hX
  refine lv_aload_n X.hx X.hb dX0_premium_0 rfl (lv_at hl 3 rfl) ?_
  refine lv_iconst (v := 0) X.hx X.hb dX0_premium_1 (by decide) ?_
  refine lv_aload_n X.hx X.hb dX0_premium_2 rfl (lv_at hl 0 rfl) ?_
  refine lv_iload_n X.hx X.hb dX0_premium_3 rfl (lv_at hl 1 rfl) ?_
  refine lv_iload_n X.hx X.hb dX0_premium_4 rfl (lv_at hl 2 rfl) ?_
  refine gxV X hl.1 hR hS 2 [.int p, .int kn] [.int 0, .ref o] (c_premium l Γ G hst hW hX hC) hx rfl q1255 q1256 q1257 q36 q1258 rfl rfl ⟨rfl, by decide +kernel, by decide +kernel, by decide +kernel⟩ ⟨by (try dsimp only [RM]); omega, by (try dsimp only [RM]); omega⟩ rfl rfl (Nat.le_of_ble_eq_true rfl) dX0_premium_5 ⟨by (try dsimp only [RM]); omega, by (try dsimp only [RM]); omega⟩ (fun E518 ce q9 G9 H locs hq9 hR9 hS9 hce hcv hcl => ?_) (fun v516 G517 H locs hq513 hR514 hS515 => ?_)
  · obtain ⟨hE, hX9, hg9⟩ := hq9
    rcases hE with ⟨rfl, hk9⟩ | ⟨rfl, hk9⟩
    · refine g_catch X [] ⟨0, 10, 13, 21⟩ [⟨0, 10, 17, 13⟩] hxt (fun z hz => absurd hz List.not_mem_nil) rfl (by decide) q383 kq425 hce hcv hcl ?_
      refine lv_astore (lv' := [(4, .ref q9), (0, .ref x), (1, .int p), (2, .int kn), (3, .ref o)]) X.hx X.hb dX0_premium_13 hl (by decide) rfl (fun ls hl => ?_)
      refine lv_iconst (v := 1) X.hx X.hb dX0_premium_15 (by decide) ?_
      refine vx_ret ?_
      exact g_iret X hr hlk hR9 hS9 (⟨Or.inr ⟨by rw [hk9]; decide, by rw [hk9], ⟨_, hX9⟩, fL, hg9 _ _ ho (by show ¬ 40 < 30; decide)⟩, TXo_x hg9⟩) (by (try dsimp only [RM]); omega) (by (try dsimp only [RM]); omega) dX0_premium_16
    · refine g_catch X [⟨0, 10, 13, 21⟩] ⟨0, 10, 17, 13⟩ [] hxt (fun z hz => by obtain rfl : z = (⟨0, 10, 13, 21⟩ : ExceptionTableEntry) := List.mem_singleton.mp hz; exact Or.inr ⟨by decide, _, q383, kn1⟩) rfl (by decide) q156 kq167 hce hcv hcl ?_
      refine lv_astore (lv' := [(4, .ref q9), (0, .ref x), (1, .int p), (2, .int kn), (3, .ref o)]) X.hx X.hb dX0_premium_17 hl (by decide) rfl (fun ls hl => ?_)
      refine lv_iconst (v := 2) X.hx X.hb dX0_premium_19 (by decide) ?_
      refine vx_ret ?_
      exact g_iret X hr hlk hR9 hS9 (⟨Or.inr ⟨by rw [hk9]; decide, by rw [hk9], ⟨_, hX9⟩, fL, hg9 _ _ ho (by show ¬ 40 < 30; decide)⟩, TXo_x hg9⟩) (by (try dsimp only [RM]); omega) (by (try dsimp only [RM]); omega) dX0_premium_20
  · obtain ⟨hk0, rfl, hX1, hgf⟩ := hq513
    have ho1 := hgf _ _ ho (by show ¬ 40 < 30; decide)
    refine lv_i2l X.hx X.hb dX0_premium_8 rfl ?_
    refine g_last X hR514 hS515 ho1 (Nat.le_of_ble_eq_true rfl) (vp_in_nI (n := 0) (by decide) (by decide)) dX0_premium_9 (fun H locs hR519 hS520 => ?_)
    obtain ⟨G521, hG521⟩ : ∃ z : GH, z = gu G517 o ((40, 0), .inl (Γ.2 3, 1, .inr (.inl (vp_updL fL ((0 : Int32).toNatClampNeg) ((SUM (rtA σ p.toNatClampNeg kn) 365 / 365).toInt64))))) := ⟨_, rfl⟩
    have hR519 : Rep Γ G521 H := by rw [hG521]; exact hR519
    have f522 : G521 o = some ((40, 0), .inl (Γ.2 3, 1, .inr (.inl (vp_updL fL ((0 : Int32).toNatClampNeg) ((SUM (rtA σ p.toNatClampNeg kn) 365 / 365).toInt64))))) := by rw [hG521]; exact gu_s _ _ _
    refine lv_goto (tgt := 21) X.hx X.hb dX0_premium_10 (by decide) ?_
    refine lv_iconst (v := 0) X.hx X.hb dX0_premium_21 (by decide) ?_
    refine vx_ret ?_
    exact g_iret X hr hlk hR519 hS520 (⟨Or.inl ⟨hk0, rfl, ⟨_, hX1.out (gK.pt hG521 ho1 rfl)⟩, _, f522, rfl⟩, gK.tr (TXo_x hgf) (TXo_o (gK.pt hG521 ho1 rfl))⟩) (by (try dsimp only [RM]); omega) (by (try dsimp only [RM]); omega) dX0_premium_22

set_option maxHeartbeats 4000000 in
theorem w_premiumByDays (l : Launch) (Γ : GP) (G : GH) (hst : l.stackTraces = false) {x : Nat} {σ : MS} {A : Nat → Nat → Nat} (hW : WF σ) (hX : XP Γ G x σ A) (hC : CN Γ G) {o : Nat} {fL : Nat → Int64} (ho : G o = some ((40, 0), .inl (Γ.2 3, 1, .inr (.inl fL)))) {p kn : Int32} : MetX l yX0_premiumByDays (wsW_ yX0_premiumByDays cX0_premiumByDays 5 (some .int) [(0, 10, 13, 21), (0, 10, 17, 13)]) (RM 13 4000 12000) Γ G [.ref x, .int p, .int kn, .ref o] (fun v G1 => CR Γ G G1 x o σ σ (kV σ p 0 0 kn) (SUM (rtA σ p.toNatClampNeg kn) 365 / 365) v) (fun _ _ => False) 4000 12000 := by
  refine gMetH (own := RX0) (by decide) rfl (Nat.le_of_ble_eq_true rfl) ?_
  intro pp ee ss mm below meth cc0 ls X hr hlk hxt hR hS hl
  have hl : lv_has ls 5 [(0, .ref x), (1, .int p), (2, .int kn), (3, .ref o)] := hl
  obtain ⟨⟨rf, hx, -⟩, -⟩ := id hX
  refine lv_aload_n X.hx X.hb dX0_premiumByDays_0 rfl (lv_at hl 3 rfl) ?_
  refine lv_iconst (v := 0) X.hx X.hb dX0_premiumByDays_1 (by decide) ?_
  refine lv_aload_n X.hx X.hb dX0_premiumByDays_2 rfl (lv_at hl 0 rfl) ?_
  refine lv_iload_n X.hx X.hb dX0_premiumByDays_3 rfl (lv_at hl 1 rfl) ?_
  refine lv_iload_n X.hx X.hb dX0_premiumByDays_4 rfl (lv_at hl 2 rfl) ?_
  refine gxV X hl.1 hR hS 2 [.int p, .int kn] [.int 0, .ref o] (c_premByDays l Γ G hst hW hX hC) hx rfl q1271 q1272 q1273 q36 q1274 rfl rfl ⟨rfl, by decide +kernel, by decide +kernel, by decide +kernel⟩ ⟨by (try dsimp only [RM]); omega, by (try dsimp only [RM]); omega⟩ rfl rfl (Nat.le_of_ble_eq_true rfl) dX0_premiumByDays_5 ⟨by (try dsimp only [RM]); omega, by (try dsimp only [RM]); omega⟩ (fun E528 ce q9 G9 H locs hq9 hR9 hS9 hce hcv hcl => ?_) (fun v526 G527 H locs hq523 hR524 hS525 => ?_)
  · obtain ⟨hE, hX9, hg9⟩ := hq9
    rcases hE with ⟨rfl, hk9⟩ | ⟨rfl, hk9⟩
    · refine g_catch X [] ⟨0, 10, 13, 21⟩ [⟨0, 10, 17, 13⟩] hxt (fun z hz => absurd hz List.not_mem_nil) rfl (by decide) q383 kq425 hce hcv hcl ?_
      refine lv_astore (lv' := [(4, .ref q9), (0, .ref x), (1, .int p), (2, .int kn), (3, .ref o)]) X.hx X.hb dX0_premiumByDays_13 hl (by decide) rfl (fun ls hl => ?_)
      refine lv_iconst (v := 1) X.hx X.hb dX0_premiumByDays_15 (by decide) ?_
      refine vx_ret ?_
      exact g_iret X hr hlk hR9 hS9 (⟨Or.inr ⟨by rw [hk9]; decide, by rw [hk9], ⟨_, hX9⟩, fL, hg9 _ _ ho (by show ¬ 40 < 30; decide)⟩, TXo_x hg9⟩) (by (try dsimp only [RM]); omega) (by (try dsimp only [RM]); omega) dX0_premiumByDays_16
    · refine g_catch X [⟨0, 10, 13, 21⟩] ⟨0, 10, 17, 13⟩ [] hxt (fun z hz => by obtain rfl : z = (⟨0, 10, 13, 21⟩ : ExceptionTableEntry) := List.mem_singleton.mp hz; exact Or.inr ⟨by decide, _, q383, kn1⟩) rfl (by decide) q156 kq167 hce hcv hcl ?_
      refine lv_astore (lv' := [(4, .ref q9), (0, .ref x), (1, .int p), (2, .int kn), (3, .ref o)]) X.hx X.hb dX0_premiumByDays_17 hl (by decide) rfl (fun ls hl => ?_)
      refine lv_iconst (v := 2) X.hx X.hb dX0_premiumByDays_19 (by decide) ?_
      refine vx_ret ?_
      exact g_iret X hr hlk hR9 hS9 (⟨Or.inr ⟨by rw [hk9]; decide, by rw [hk9], ⟨_, hX9⟩, fL, hg9 _ _ ho (by show ¬ 40 < 30; decide)⟩, TXo_x hg9⟩) (by (try dsimp only [RM]); omega) (by (try dsimp only [RM]); omega) dX0_premiumByDays_20
  · obtain ⟨hk0, rfl, hX1, hgf⟩ := hq523
    have ho1 := hgf _ _ ho (by show ¬ 40 < 30; decide)
    refine lv_i2l X.hx X.hb dX0_premiumByDays_8 rfl ?_
    refine g_last X hR524 hS525 ho1 (Nat.le_of_ble_eq_true rfl) (vp_in_nI (n := 0) (by decide) (by decide)) dX0_premiumByDays_9 (fun H locs hR529 hS530 => ?_)
    obtain ⟨G531, hG531⟩ : ∃ z : GH, z = gu G527 o ((40, 0), .inl (Γ.2 3, 1, .inr (.inl (vp_updL fL ((0 : Int32).toNatClampNeg) ((SUM (rtA σ p.toNatClampNeg kn) 365 / 365).toInt64))))) := ⟨_, rfl⟩
    have hR529 : Rep Γ G531 H := by rw [hG531]; exact hR529
    have f532 : G531 o = some ((40, 0), .inl (Γ.2 3, 1, .inr (.inl (vp_updL fL ((0 : Int32).toNatClampNeg) ((SUM (rtA σ p.toNatClampNeg kn) 365 / 365).toInt64))))) := by rw [hG531]; exact gu_s _ _ _
    refine lv_goto (tgt := 21) X.hx X.hb dX0_premiumByDays_10 (by decide) ?_
    refine lv_iconst (v := 0) X.hx X.hb dX0_premiumByDays_21 (by decide) ?_
    refine vx_ret ?_
    exact g_iret X hr hlk hR529 hS530 (⟨Or.inl ⟨hk0, rfl, ⟨_, hX1.out (gK.pt hG531 ho1 rfl)⟩, _, f532, rfl⟩, gK.tr (TXo_x hgf) (TXo_o (gK.pt hG531 ho1 rfl))⟩) (by (try dsimp only [RM]); omega) (by (try dsimp only [RM]); omega) dX0_premiumByDays_22

set_option maxHeartbeats 4000000 in
theorem w_bill (l : Launch) (Γ : GP) (G : GH) (hst : l.stackTraces = false) {x : Nat} {σ : MS} {A : Nat → Nat → Nat} (hW : WF σ) (hX : XP Γ G x σ A) (hC : CN Γ G) {o : Nat} {fL : Nat → Int64} (ho : G o = some ((40, 0), .inl (Γ.2 3, 1, .inr (.inl fL)))) {p : Int32} : MetX l yX0_bill (wsW_ yX0_bill cX0_bill 4 (some .int) [(0, 9, 12, 21)]) (RM 13 4000 12000) Γ G [.ref x, .int p, .ref o] (fun v G1 => CR Γ G G1 x o σ (tauB σ p.toNatClampNeg (SUM (rtA σ p.toNatClampNeg (σ.2 12 0)) 365 / 365)) (kP σ p) (SUM (rtA σ p.toNatClampNeg (σ.2 12 0)) 365 / 365 - σ.2 1 p.toNatClampNeg) v) (fun _ _ => False) 4000 12000 := by
  refine gMetH (own := RX0) (by decide) rfl (Nat.le_of_ble_eq_true rfl) ?_
  intro pp ee ss mm below meth cc0 ls X hr hlk hxt hR hS hl
  have hl : lv_has ls 4 [(0, .ref x), (1, .int p), (2, .ref o)] := hl
  obtain ⟨⟨rf, hx, -⟩, -⟩ := id hX
  refine lv_aload_n X.hx X.hb dX0_bill_0 rfl (lv_at hl 2 rfl) ?_
  refine lv_iconst (v := 0) X.hx X.hb dX0_bill_1 (by decide) ?_
  refine lv_aload_n X.hx X.hb dX0_bill_2 rfl (lv_at hl 0 rfl) ?_
  refine lv_iload_n X.hx X.hb dX0_bill_3 rfl (lv_at hl 1 rfl) ?_
  refine gxV X hl.1 hR hS 1 [.int p] [.int 0, .ref o] (c_bill l Γ G hst hW hX hC) hx rfl q1278 q1279 q1280 q36 q1281 rfl rfl ⟨rfl, by decide +kernel, by decide +kernel, by decide +kernel⟩ ⟨by (try dsimp only [RM]); omega, by (try dsimp only [RM]); omega⟩ rfl rfl (Nat.le_of_ble_eq_true rfl) dX0_bill_4 ⟨by (try dsimp only [RM]); omega, by (try dsimp only [RM]); omega⟩ (fun E538 ce q9 G9 H locs hq9 hR9 hS9 hce hcv hcl => ?_) (fun v536 G537 H locs hq533 hR534 hS535 => ?_)
  · obtain ⟨hE, hX9, hg9⟩ := hq9
    obtain ⟨rfl, hk9⟩ := hE
    refine g_catch X [] ⟨0, 9, 12, 21⟩ [] hxt (fun z hz => absurd hz List.not_mem_nil) rfl (by decide) q383 kq425 hce hcv hcl ?_
    refine lv_astore_n (lv' := [(3, .ref q9), (0, .ref x), (1, .int p), (2, .ref o)]) X.hx X.hb dX0_bill_12 rfl hl (by decide) rfl (fun ls hl => ?_)
    refine lv_iconst (v := 1) X.hx X.hb dX0_bill_13 (by decide) ?_
    refine vx_ret ?_
    exact g_iret X hr hlk hR9 hS9 (⟨Or.inr ⟨by rw [hk9]; decide, by rw [hk9], ⟨_, hX9⟩, fL, hg9 _ _ ho (by show ¬ 40 < 30; decide)⟩, TXo_x hg9⟩) (by (try dsimp only [RM]); omega) (by (try dsimp only [RM]); omega) dX0_bill_14
  · obtain ⟨hk0, rfl, hX1, hgf⟩ := hq533
    have ho1 := hgf _ _ ho (by show ¬ 40 < 30; decide)
    refine lv_i2l X.hx X.hb dX0_bill_7 rfl ?_
    refine g_last X hR534 hS535 ho1 (Nat.le_of_ble_eq_true rfl) (vp_in_nI (n := 0) (by decide) (by decide)) dX0_bill_8 (fun H locs hR539 hS540 => ?_)
    obtain ⟨G541, hG541⟩ : ∃ z : GH, z = gu G537 o ((40, 0), .inl (Γ.2 3, 1, .inr (.inl (vp_updL fL ((0 : Int32).toNatClampNeg) ((SUM (rtA σ p.toNatClampNeg (σ.2 12 0)) 365 / 365 - σ.2 1 p.toNatClampNeg).toInt64))))) := ⟨_, rfl⟩
    have hR539 : Rep Γ G541 H := by rw [hG541]; exact hR539
    have f542 : G541 o = some ((40, 0), .inl (Γ.2 3, 1, .inr (.inl (vp_updL fL ((0 : Int32).toNatClampNeg) ((SUM (rtA σ p.toNatClampNeg (σ.2 12 0)) 365 / 365 - σ.2 1 p.toNatClampNeg).toInt64))))) := by rw [hG541]; exact gu_s _ _ _
    refine lv_goto (tgt := 15) X.hx X.hb dX0_bill_9 (by decide) ?_
    refine lv_iconst (v := 0) X.hx X.hb dX0_bill_15 (by decide) ?_
    refine vx_ret ?_
    exact g_iret X hr hlk hR539 hS540 (⟨Or.inl ⟨hk0, rfl, ⟨_, hX1.out (gK.pt hG541 ho1 rfl)⟩, _, f542, rfl⟩, gK.tr (TXo_x hgf) (TXo_o (gK.pt hG541 ho1 rfl))⟩) (by (try dsimp only [RM]); omega) (by (try dsimp only [RM]); omega) dX0_bill_16

set_option maxHeartbeats 4000000 in
theorem w_billed (l : Launch) (Γ : GP) (G : GH) (hst : l.stackTraces = false) {x : Nat} {σ : MS} {A : Nat → Nat → Nat} (hW : WF σ) (hX : XP Γ G x σ A) (hC : CN Γ G) {o : Nat} {fL : Nat → Int64} (ho : G o = some ((40, 0), .inl (Γ.2 3, 1, .inr (.inl fL)))) {p : Int32} : MetX l yX0_billed (wsW_ yX0_billed cX0_billed 4 (some .int) [(0, 9, 12, 21)]) (RM 13 4000 12000) Γ G [.ref x, .int p, .ref o] (fun v G1 => CR Γ G G1 x o σ σ (kP σ p) (σ.2 1 p.toNatClampNeg) v) (fun _ _ => False) 4000 12000 := by
  refine gMetH (own := RX0) (by decide) rfl (Nat.le_of_ble_eq_true rfl) ?_
  intro pp ee ss mm below meth cc0 ls X hr hlk hxt hR hS hl
  have hl : lv_has ls 4 [(0, .ref x), (1, .int p), (2, .ref o)] := hl
  obtain ⟨⟨rf, hx, -⟩, -⟩ := id hX
  refine lv_aload_n X.hx X.hb dX0_billed_0 rfl (lv_at hl 2 rfl) ?_
  refine lv_iconst (v := 0) X.hx X.hb dX0_billed_1 (by decide) ?_
  refine lv_aload_n X.hx X.hb dX0_billed_2 rfl (lv_at hl 0 rfl) ?_
  refine lv_iload_n X.hx X.hb dX0_billed_3 rfl (lv_at hl 1 rfl) ?_
  refine gxV X hl.1 hR hS 1 [.int p] [.int 0, .ref o] (c_billed l Γ G hst hW hX) hx rfl q1285 q1286 q1287 q36 q1288 rfl rfl ⟨rfl, by decide +kernel, by decide +kernel, by decide +kernel⟩ ⟨by (try dsimp only [RM]); omega, by (try dsimp only [RM]); omega⟩ rfl rfl (Nat.le_of_ble_eq_true rfl) dX0_billed_4 ⟨by (try dsimp only [RM]); omega, by (try dsimp only [RM]); omega⟩ (fun E548 ce q9 G9 H locs hq9 hR9 hS9 hce hcv hcl => ?_) (fun v546 G547 H locs hq543 hR544 hS545 => ?_)
  · obtain ⟨hE, hX9, hg9⟩ := hq9
    obtain ⟨rfl, hk9⟩ := hE
    refine g_catch X [] ⟨0, 9, 12, 21⟩ [] hxt (fun z hz => absurd hz List.not_mem_nil) rfl (by decide) q383 kq425 hce hcv hcl ?_
    refine lv_astore_n (lv' := [(3, .ref q9), (0, .ref x), (1, .int p), (2, .ref o)]) X.hx X.hb dX0_billed_12 rfl hl (by decide) rfl (fun ls hl => ?_)
    refine lv_iconst (v := 1) X.hx X.hb dX0_billed_13 (by decide) ?_
    refine vx_ret ?_
    exact g_iret X hr hlk hR9 hS9 (⟨Or.inr ⟨by rw [hk9]; decide, by rw [hk9], ⟨_, hX9⟩, fL, hg9 _ _ ho (by show ¬ 40 < 30; decide)⟩, TXo_x hg9⟩) (by (try dsimp only [RM]); omega) (by (try dsimp only [RM]); omega) dX0_billed_14
  · obtain ⟨hk0, rfl, hX1, hgf⟩ := hq543
    have ho1 := hgf _ _ ho (by show ¬ 40 < 30; decide)
    refine lv_i2l X.hx X.hb dX0_billed_7 rfl ?_
    refine g_last X hR544 hS545 ho1 (Nat.le_of_ble_eq_true rfl) (vp_in_nI (n := 0) (by decide) (by decide)) dX0_billed_8 (fun H locs hR549 hS550 => ?_)
    obtain ⟨G551, hG551⟩ : ∃ z : GH, z = gu G547 o ((40, 0), .inl (Γ.2 3, 1, .inr (.inl (vp_updL fL ((0 : Int32).toNatClampNeg) ((σ.2 1 p.toNatClampNeg).toInt64))))) := ⟨_, rfl⟩
    have hR549 : Rep Γ G551 H := by rw [hG551]; exact hR549
    have f552 : G551 o = some ((40, 0), .inl (Γ.2 3, 1, .inr (.inl (vp_updL fL ((0 : Int32).toNatClampNeg) ((σ.2 1 p.toNatClampNeg).toInt64))))) := by rw [hG551]; exact gu_s _ _ _
    refine lv_goto (tgt := 15) X.hx X.hb dX0_billed_9 (by decide) ?_
    refine lv_iconst (v := 0) X.hx X.hb dX0_billed_15 (by decide) ?_
    refine vx_ret ?_
    exact g_iret X hr hlk hR549 hS550 (⟨Or.inl ⟨hk0, rfl, ⟨_, hX1.out (gK.pt hG551 ho1 rfl)⟩, _, f552, rfl⟩, gK.tr (TXo_x hgf) (TXo_o (gK.pt hG551 ho1 rfl))⟩) (by (try dsimp only [RM]); omega) (by (try dsimp only [RM]); omega) dX0_billed_16

