set_option maxRecDepth 100000
/-! lambda objects: rows -/
section LM
variable {p : Program} {l : Launch} {e : Env} {R : Room} {s : State} {m : MethodId} {args : Array Value} {below : List Frame} {meth : Method} {c : Code} {H : Heap} {locs : List Loc} {cells slots : Nat} {Q : State → Prop}
variable {cc : ByteArray} {pc nL : Nat} {ls : Array Slot} {rest st0 : List Value} {Γ : GP} {G : GH} {own : String} {a : Nat} {t : Nat × Nat} {post : GPost} {px : String → GH → Prop} {mc ms : Nat}
theorem lm_O {vm : Vm} (h : (Cond.instantiable "java/lang/Object" 0).before args s = true) (hA : s.vm.Alike vm) : ∀ o ok, vm.findClass "java/lang/Object" = some o → vm.classes[o]? = some ok → ok.instanceTypes = #[] := by
  intro o ok h1 h2
  obtain ⟨cO, kO, hfO, hkO, -, -, -, hsz⟩ := Cond.instantiable_spec h
  rw [hA.findClass] at h1
  cases hfO.symm.trans h1
  obtain ⟨k', hk', he⟩ := hA.2.2 _ _ hkO
  cases hk'.symm.trans h2
  rw [he]
  exact Array.eq_empty_of_size_eq_zero hsz
theorem lmi15 {α : Type} {x : Array Nat} {f : Nat → Nat → Nat → Option α} {r : α} (h : Lambda.shapeOf?.match_15 (fun _ => Option α) x f (fun _ => none) = some r) : ∃ u v w, f u v w = some r := by
  obtain ⟨L⟩ := x
  match L, h with
  | [u, v, w], h => exact ⟨u, v, w, h⟩
  | [], h => cases h
  | [_], h => cases h
  | [_, _], h => cases h
  | _ :: _ :: _ :: _ :: _, h => cases h
theorem lmi9 {α : Type} {x : Option CpInfo} {f : Nat → Option α} {r : α} (h : Lambda.shapeOf?.match_9 (fun _ => Option α) x f (fun _ => none) = some r) : ∃ y, f y = some r := by
  split at h
  · exact ⟨_, h⟩
  · cases h
theorem lmi12 {α : Type} {x : Option CpInfo} {f : Nat → Nat → Option α} {r : α} (h : Lambda.shapeOf?.match_12 (fun _ => Option α) x f (fun _ => none) = some r) : ∃ y z, f y z = some r := by
  split at h
  · exact ⟨_, _, h⟩
  · cases h
theorem lmi6 {α : Type} {x : Option FieldType} {f : String → Option α} {r : α} (h : Lambda.shapeOf?.match_6 (fun _ => Option α) x f (fun _ => none) = some r) : ∃ y, f y = some r := by
  split at h
  · exact ⟨_, h⟩
  · cases h
theorem lmi17 {α : Type} {x : Option CpInfo} {f : Nat → Option α} {r : α} (h : Lambda.shapeOf?.match_17 (fun _ => Option α) x f (fun _ => none) = some r) : ∃ y, f y = some r := by
  split at h
  · exact ⟨_, h⟩
  · cases h
theorem lmi19 {α : Type} {x : Option CpInfo} {f : Nat → Nat → Option α} {r : α} (h : Lambda.shapeOf?.match_19 (fun _ => Option α) x f (fun _ => none) = some r) : ∃ b nt, x = some (.invokeDynamic b nt) ∧ f b nt = some r := by
  split at h
  · exact ⟨_, _, rfl, h⟩
  · cases h
theorem lm_site {cf : ClassFile} {index : Nat} {σ : Lambda.Shape} (h : Lambda.shapeOf? cf index = some σ) :
    ∃ (b nt : Nat) (name desc : String) (site : MethodDescriptor), cf.constantPool[index]? = some (.invokeDynamic b nt) ∧ cf.constantPool.nameAndType? nt = some (name, desc) ∧ parseMethodDescriptor desc = some site ∧ site.parameters = σ.captured := by
  unfold Lambda.shapeOf? at h
  obtain ⟨b, nt, hc, h⟩ := lmi19 h
  obtain ⟨entries, -, h⟩ := Option.bind_eq_some_iff.mp h
  obtain ⟨bm, -, h⟩ := Option.bind_eq_some_iff.mp h
  obtain ⟨r9, h⟩ := lmi17 h
  obtain ⟨_, -, h⟩ := Option.bind_eq_some_iff.mp h
  obtain ⟨_, _, _, h⟩ := lmi15 h
  obtain ⟨_, h⟩ := lmi9 h
  obtain ⟨_, _, h⟩ := lmi12 h
  obtain ⟨_, h⟩ := lmi9 h
  obtain ⟨⟨name, desc⟩, hnt, h⟩ := Option.bind_eq_some_iff.mp h
  obtain ⟨site, hsite, h⟩ := Option.bind_eq_some_iff.mp h
  obtain ⟨_, h⟩ := lmi6 h
  obtain ⟨_, -, h⟩ := Option.bind_eq_some_iff.mp h
  obtain ⟨_, -, h⟩ := Option.bind_eq_some_iff.mp h
  obtain ⟨_, -, h⟩ := Option.bind_eq_some_iff.mp h
  obtain ⟨_, -, h⟩ := Option.bind_eq_some_iff.mp h
  obtain ⟨_, -, h⟩ := Option.bind_eq_some_iff.mp h
  obtain ⟨_, -, h⟩ := Option.bind_eq_some_iff.mp h
  cases h
  exact ⟨b, nt, name, desc, site, hc, hnt, hsite, rfl⟩
/-- a lambda object of two ints is made -/
theorem g_lmk (X : Cx p s m args c Γ cc nL own) (hls : ls.size = nL) (hR : Rep Γ G H) (hS : va_S (gA Γ) s.heap H locs) (t : Nat × Nat) {x : MethodName} {index : Nat} {σ : Lambda.Shape} {cL : ClassId} (hnm : s.methodNamed? x = some m) (hL : LK x pc index σ cL none s) (hx : x.cls = "Backdater") (hcap : σ.captured = [.int, .int])
    (hO : ∀ vm : Vm, ∀ d : ClassId, ∀ dk : Class, vm.classes[d]? = some dk → dk.name = "Backdater" → Lambda.isMade { classPath := fun _ => none } vm d σ cL = true → (∀ o ok, vm.findClass "java/lang/Object" = some o → vm.classes[o]? = some ok → ok.instanceTypes = #[]) → ∃ k, vm.classes[cL]? = some k ∧ k.instanceTypes = #[.int, .int] ∧ k.kind = .ordinary) {x0 x1 : Int32} (hw : (rest.map fun v => v.category).sum + 3074 ≤ R.locals) (hcells : cells + 1 ≤ R.cells) (hslots : slots + 2 ≤ R.slots) (hdg : decode cc pc = .ok (.invokedynamic index, 5))
    (kk : ∀ (q : Nat) (H1 : Heap), G q = none → Rep Γ (gu G q (t, .inl (cL, 2, .inl (fun j => if j = 0 then x0 else x1)))) H1 → va_S (gA Γ) s.heap H1 locs → W p l e R s m args below meth c H1 locs (cells + 1) (slots + 2) Q (F0 m (pc + 5) ls (.ref q :: rest))) : W p l e R s m args below meth c H locs cells slots Q (F0 m pc ls (.int x1 :: .int x0 :: rest)) := by
  intro T hT XX
  obtain ⟨m', k, cf, i0, p0, lk, hm', hk, hcf, hsh, hfind, hmade, hcall, hl⟩ := hL
  cases hnm.symm.trans hm'
  obtain rfl : lk = .makes cL := by
    rcases hl with ⟨a9, -, h⟩ | ⟨h, -⟩
    · cases h
    · exact h
  obtain ⟨bsm, nt, name9, desc, site, hc, hnt, hsite, hpar⟩ := lm_site hsh
  obtain ⟨kx, hkx, hnx⟩ := className_of_methodNamed hnm
  cases hk.symm.trans hkx
  obtain ⟨kK, hkK, hty, hkind⟩ := hO s.vm _ _ hk (hnx.trans hx) hmade (lm_O (X.hts _ q1545) (Vm.Alike.refl _))
  have hse : ((kK.instanceTypes.toList.zip [Value.int x0, Value.int x1]).map fun (t, z) => narrow t z) = [.int x0, .int x1] := by rw [hty]; rfl
  obtain ⟨X1, st1⟩ := XX.lambdaMakes X.hx (g := F0 m pc ls (.int x1 :: .int x0 :: rest)) rfl (by rw [X.hml]; exact hls) (by rw [X.hb]; exact hdg) (vals := [.int x0, .int x1]) (rest := rest) hk hfind hcf hc hnt (parseLong_of_parse hsite) (by rw [hpar, hcap]; rfl) rfl hkK
    (by rw [XX.admits.platform]; show 2 * 0 + (1 + (1 + (rest.map fun v => v.category).sum)) + 3072 ≤ R.locals; omega) hcells (by rw [hse]; exact hslots)
    (fun i v hv => by
      rw [hse] at hv
      match i, hv with
      | 0, hv => simp at hv; subst hv; simp [State.fitsSlot, State.slotType?, hkK, hkind, hty, fits]
      | 1, hv => simp at hv; subst hv; simp [State.fitsSlot, State.slotType?, hkK, hkind, hty, fits]
      | i + 2, hv => simp at hv)
  rw [hse] at X1 st1
  have hcellE : ({ cls := cL, slots := [Value.int x0, Value.int x1].toArray, vm := .none } : Cell) = vp_cell cL (2, .inl (fun j => if j = 0 then x0 else x1)) := by
    rw [vp_cell_i]
    simp [arrV]
    rfl
  rw [hcellE] at X1 st1
  obtain ⟨t2, a1, b1⟩ := kk T.heap.size (T.heap.push (vp_cell cL (2, .inl (fun j => if j = 0 then x0 else x1)))) (by rw [hT]; exact hR.none)
    (by
      rw [hT]
      exact hR.push (x := (t, .inl (cL, 2, .inl (fun j => if j = 0 then x0 else x1)))) (by show (H.push _)[H.size]? = some _; exact Array.getElem?_push_size) (fun q hq => by rw [Array.getElem?_push, if_neg (Nat.ne_of_lt hq)]) (X.base hS))
    (by
      rw [hT]
      refine ⟨by rw [Array.size_push]; exact Nat.le_trans hS.1 (by omega), fun x h1 h2 => ?_, hS.2.2⟩
      rw [Array.getElem?_push, if_neg (Nat.ne_of_lt (Nat.lt_of_lt_of_le h1 hS.1))]
      exact hS.2.1 x h1 h2)
    _ rfl X1
  exact ⟨t2, st1 t2 a1, b1⟩
/-- the one object of a lambda that captures nothing -/
theorem g_lcst (X : Cx p s m args c Γ cc nL own) (hls : ls.size = nL) {x : MethodName} {index : Nat} {σ : Lambda.Shape} {cL : ClassId} {o : Nat} (hnm : s.methodNamed? x = some m) (hL : LK x pc index σ cL (some o) s)
    (hw : (rest.map fun v => v.category).sum + 3072 ≤ R.locals) (hdg : decode cc pc = .ok (.invokedynamic index, 5))
    (kk : W p l e R s m args below meth c H locs cells slots Q (F0 m (pc + 5) ls (.ref o :: rest))) : W p l e R s m args below meth c H locs cells slots Q (F0 m pc ls rest) := by
  intro T hT XX
  obtain ⟨m', k, cf, i0, p0, lk, hm', hk, hcf, hsh, hfind, hmade, hcall, hl⟩ := hL
  cases hnm.symm.trans hm'
  obtain rfl : lk = .constant o := by
    rcases hl with ⟨a9, h, h9⟩ | ⟨-, h⟩
    · cases h9; exact h
    · cases h
  obtain ⟨t2, a1, b1⟩ := kk T hT XX
  exact ⟨t2, XX.lambdaConstant X.hx (g := F0 m pc ls rest) rfl (by rw [X.hml]; exact hls) (by rw [X.hb]; exact hdg) hk hfind (by rw [XX.admits.platform]; show 2 * 0 + (rest.map fun v => v.category).sum + 3072 ≤ R.locals; omega) a1, b1⟩

theorem lm_ty1 {cL : ClassId} : ∀ vm : Vm, ∀ d : ClassId, ∀ dk : Class, vm.classes[d]? = some dk → dk.name = "Backdater" → Lambda.isMade { classPath := fun _ => none } vm d σ1 cL = true → (∀ o ok, vm.findClass "java/lang/Object" = some o → vm.classes[o]? = some ok → ok.instanceTypes = #[]) → ∃ k, vm.classes[cL]? = some k ∧ k.instanceTypes = #[.int, .int] ∧ k.kind = .ordinary := by
  intro vm d dk h1 h2 h3 h4
  obtain ⟨kK, tk, file, methk, ck, toy, iface, tt, found, hkK, hkn, hfile, hpool, hmk, hck, hbytes, hml, hlk, hfl, hret, htoy, htk, hitf, hlook, hready, hclsR, hty, hflds, hif, hfnd, hsel, hkind⟩ := lm_made lm1_a lm1_b lm1_c lm1_d lm1_e rfl rfl lm1_f lm1_g h1 h2 h3 h4
  exact ⟨kK, hkK, by rw [hty, lm1_j], hkind⟩
theorem lm_ty2 {cL : ClassId} : ∀ vm : Vm, ∀ d : ClassId, ∀ dk : Class, vm.classes[d]? = some dk → dk.name = "Backdater" → Lambda.isMade { classPath := fun _ => none } vm d σ2 cL = true → (∀ o ok, vm.findClass "java/lang/Object" = some o → vm.classes[o]? = some ok → ok.instanceTypes = #[]) → ∃ k, vm.classes[cL]? = some k ∧ k.instanceTypes = #[.int, .int] ∧ k.kind = .ordinary := by
  intro vm d dk h1 h2 h3 h4
  obtain ⟨kK, tk, file, methk, ck, toy, iface, tt, found, hkK, hkn, hfile, hpool, hmk, hck, hbytes, hml, hlk, hfl, hret, htoy, htk, hitf, hlook, hready, hclsR, hty, hflds, hif, hfnd, hsel, hkind⟩ := lm_made lm2_a lm2_b lm2_c lm2_d lm2_e rfl rfl lm2_f lm2_g h1 h2 h3 h4
  exact ⟨kK, hkK, by rw [hty, lm2_j], hkind⟩
set_option maxHeartbeats 4000000 in
theorem lm_run1 (X : Cx p s m args c Γ cc nL own) (hls : ls.size = nL) (hR : Rep Γ G H) (hS : va_S (gA Γ) s.heap H locs) {b ver index count : Nat} {f : Nat → Int32} (hb : G b = some (t, .inl (Γ.2 11, 2, .inl f))) {rm : Room} (hM : MetG l yX1_lambda_change_0 (ws_ yX1_lambda_change_0 cX1_lambda_change_0 3 none) rm Γ G [.int (f 0), .int (f 1), .ref ver] post mc ms) (hp0 : ∀ v G1, post v G1 → v = none) (h1 : Cond.methodLink own index EFL ∈ lw_all)
    (hrc : rm.cells = mc) (hrs : rm.slots = ms) (hRm : rm.frames + 2 ≤ R.frames ∧ 100 + rm.locals ≤ R.locals) (hW : (rest.map fun v => v.category).sum ≤ 8) (hdg : decode cc pc = .ok (.invokeinterface index count, 5)) (hf : cells + mc ≤ R.cells ∧ slots + ms ≤ R.slots) :
    va_Run5 p l e R s m args below meth c H locs cells slots mc ms (F0 m pc ls (.ref ver :: .ref b :: rest)) rest (Qg Γ post (List.toArray [.int (f 0), .int (f 1), .ref ver])) (gA Γ) := by
  intro T hT XX
  have hEF : EFW s := X.lk.2.2.2.2
  obtain ⟨mA, k, cf, i0, p0, lk, hmA, hkA, hcf, hsh, hfind, hmade, hcall, -⟩ := X.lk.1
  obtain ⟨kx, hkx, hnx⟩ := className_of_methodNamed hmA
  cases hkA.symm.trans hkx
  obtain ⟨r0, r, hn, hrm, hstR, hsigR⟩ := Cond.declares_spec hEF.1
  obtain ⟨cLi, kL, r1, hcL, hkL, hiL, hfoundL, hn1⟩ := Cond.interfaceMethod_spec hEF.2
  cases hn.symm.trans hn1
  have hr0cls : r0.cls = cLi := Option.some.inj ((findClass_of_methodNamed hn).symm.trans hcL)
  obtain ⟨hnameR, hdescR⟩ := name_of_methodNamed hn hrm
  obtain ⟨kK, tk, file, methk, ck, toy, iface, tt, found, hkK, hkn, hfile, hpool, hmk, hck, hbytes, hml, hlk, hfl, hret, htoy, htk, hitf, hlook, hready, hclsR, hty, hflds, hif, hfnd, hsel, -⟩ := lm_made lm1_a lm1_b lm1_c lm1_d lm1_e rfl rfl lm1_f lm1_g hkA hnx hmade (lm_O (X.hts _ q1545) (Vm.Alike.refl _))
  have hfr : found = r0 := by
    have hif' : s.vm.findClass "Backdater$Effect" = some iface := hif
    cases hcL.symm.trans hif'
    simp only [State.methodFound?, hcL, Option.bind_eq_bind, Option.bind_some, hkL, hiL] at hfoundL
    have h9 : ((methodIn cLi "lay" "(LBackdater$Version;)V" true none).ask { classPath := fun _ => none } s.vm).1 = .ok found := hfnd
    rw [h9] at hfoundL
    exact Option.some.inj hfoundL
  subst hfr
  have hcell : T.heap[b]? = some (vp_cell (Γ.2 11) (2, .inl f)) := by rw [hT]; exact (hR b _ hb).1
  obtain ⟨i2, hi2, hasg, hway⟩ := State.lambdaCallable_spec hcall
  have hi2' : s.vm.findClass "Backdater$Effect" = some i2 := hi2
  cases hcL.symm.trans hi2'
  have hselP : selectMethod e.platform s.vm (Γ.2 11) found = .method ⟨Γ.2 11, 1⟩ := by rw [Launch.admits_selectMethod XX.admits]; exact hsel
  obtain ⟨vm₁, X₁, hstep₁⟩ := XX.invokeinterface X.hx X.hown (X.hts _ h1) hn hrm hstR (by rw [hr0cls]; exact hkL) hiL (by decide) (a := b) (cell := vp_cell (Γ.2 11) (2, .inl f)) (kcell := kK) hcell
    (fun z h => by cases h) hkK (by rw [hr0cls]; exact hasg) hselP hmk (by rw [hnameR, hdescR]; exact hway) (by rw [hfl]; decide) (by simp [Method.isAbstract, hfl, hasFlag, Acc.abstract]) (g := F0 m pc ls (.ref ver :: .ref b :: rest)) rfl (argsL := [.ref ver]) (rest := rest)
    (by have := hsigR; have h9 : parseMethodDescriptor "(LBackdater$Version;)V" = some r.sig := hsigR; rw [show parseMethodDescriptor "(LBackdater$Version;)V" = some ⟨[.object "Backdater$Version"], none⟩ from by decide +kernel] at h9; have h8 := Option.some.inj h9; rw [← h8]; rfl) rfl (by rw [X.hb]; exact hdg)
  have hA : s.vm.Alike vm₁ := X₁.warmed.alike
  obtain ⟨kA', hkA', heA⟩ := hA.2.2 _ _ hkA
  have hmade' : Lambda.isMade { classPath := fun _ => none } vm₁ mA.cls σ1 (Γ.2 11) = true := Lambda.isMade_warmer X₁.warmed hmade
  obtain ⟨kK', tk', file', methk', ck', toy', iface', tt', found', hkK', hkn', hfile', hpool', hmk', hck', hbytes', hml', hlk', hfl', hret', htoy', htk', hitf', hlook', hready', hclsR', hty', hflds', hif', hfnd', hsel', -⟩ := lm_made lm1_a lm1_b lm1_c lm1_d lm1_e rfl rfl lm1_f lm1_g hkA' (by rw [heA]; exact hnx) hmade' (lm_O (X.hts _ q1545) hA)
  have hplain : (T.setVm vm₁).plainMethod ⟨Γ.2 11, 1⟩ := State.plainMethod.of_name (fun k' hk' => by cases hkK'.symm.trans hk'; rw [hkn']; decide)
  obtain ⟨mk2, hnamed⟩ := Cond.code_named (X.hts _ q495)
  obtain ⟨methM, cM, hmethM, -, -, -, -, -, -, hsigM⟩ := Cond.code_spec hnamed (X.hts _ q495)
  have hstatic : methM.isStatic = true := Cond.static_spec hnamed hmethM (X.hts _ q494)
  obtain ⟨kP, hkP, hnP⟩ := className_of_methodNamed hnamed
  have hinitP : kP.init = .initialized := Cond.initialized_spec (findClass_of_methodNamed hnamed) hkP (X.hts _ q36)
  have hnamed₁ : (T.setVm vm₁).methodNamed? yX1_lambda_change_0 = some mk2 := X₁.named hnamed
  obtain ⟨kP', hkP', heP⟩ := hA.2.2 _ _ hkP
  have hmethM' : vm₁.method? mk2 = some methM := by rw [hA.method?]; exact hmethM
  have hpolyP : ∀ z, signaturePolymorphic kP' z = false := signaturePolymorphic_of_name (by rw [heP]; show kP.name ≠ _ ∧ kP.name ≠ _; rw [hnP]; decide)
  have htoy2 : toy' = mk2.cls := by
    have h9 := findClass_of_methodNamed hnamed₁
    have h8 : vm₁.findClass "Backdater" = some mk2.cls := h9
    exact Option.some.inj (htoy'.symm.trans h8)
  subst htoy2
  cases hkP'.symm.trans htk'
  have htt : tt' = mk2 := by
    have h9 := hnamed₁
    simp only [State.methodNamed?, State.vm_setVm, Option.bind_eq_bind, Option.bind_eq_some_iff, Option.pure_def, Option.some.injEq] at h9
    obtain ⟨c9, hc9, k9, hk9, i9, hi9, e9⟩ := h9
    have hc9' : c9 = mk2.cls := by rw [← e9]
    subst hc9'
    cases hkP'.symm.trans hk9
    have h7 := lm_ask (lm_own { classPath := fun _ => none } hkP' hitf' hpolyP hi9)
    rw [hitf'] at hlook'
    have h6 := hlook'.symm.trans h7
    cases h6
    exact e9
  subst htt
  obtain ⟨Y₀, hin⟩ := X₁.into (g := F0 m pc ls rest) rfl (by rw [X.hml]; exact hls) (by rw [X.hb]; exact hdg) #[.ref b, .ref ver] (R' := { frames := rm.frames + 1, cells := mc, slots := ms, locals := 30 + rm.locals }) hmk' hck' hlk' hplain (by show rm.frames + 1 + 1 ≤ _; omega)
    (by rw [hml']; show 2 * 0 + (rest.map fun v => v.category).sum + (2 + 11) + (30 + rm.locals) ≤ R.locals; omega) hf.1 hf.2
  generalize hU : ((T.setVm vm₁).setTop (F0 m pc ls rest)).pushFrame (.java (entryFrame ⟨Γ.2 11, 1⟩ #[.ref b, .ref ver] ck'.maxLocals)) = U at Y₀ hin
  have hvmU : U.vm = vm₁ := by rw [← hU]; rfl
  have hheapU : U.heap = H := by rw [← hU]; exact hT
  have hKb : Back l { frames := rm.frames + 1, cells := mc, slots := ms, locals := 30 + rm.locals } p e (.java (F0 m pc ls rest) :: below) ((T.setVm vm₁).calling (F0 m pc ls rest) ⟨Γ.2 11, 1⟩ #[.ref b, .ref ver]) #[.ref b, .ref ver] yX1_lambda_change_0 3 8 (PreOf { frames := rm.frames + 1, cells := mc, slots := ms, locals := 30 + rm.locals } mc ms (Pg Γ G [.int (f 0), .int (f 1), .ref ver])) (PostOf (Qg Γ post) mc ms (gA Γ)) :=
    back_of (bytes := cX1_lambda_change_0) (maxL := 3) (ret := none) hM Pg_blind hrc hrs (by show rm.frames + 1 ≤ rm.frames + 1; omega) (by show 8 + (3 + 11) + rm.locals ≤ 30 + rm.locals; omega) (fun w hw a' U' hW' => pay_in X.hts (lw_meth q495) w hw a' U' (State.WarmedH.trans X₁.warmed hW')) List.mem_cons_self
      (fun a' U' hW' => word_at (State.WarmedH.trans X₁.warmed hW') (Or.inl (by first | rfl | simp [Cond.onTables, Cond.keeps, Cond.steady])) (X.hts _ q36))
  obtain ⟨v, B, Y₁, hpost, hsteps⟩ := hKb ⟨Γ.2 11, 1⟩ methk' ck' ⟨U, [], 0, 0⟩ { method := ⟨Γ.2 11, 1⟩, pc := 9, locals := #[.val (.ref b), .val (.ref ver)], stack := [], locked := none } (.invokestatic 26) tt' (List.toArray [.int (f 0), .int (f 1), .ref ver]) Y₀ rfl (by rw [hml']; rfl) (by rw [hbytes']; exact cod2_9) (by show 2 * 0 + 0 ≤ 8; omega)
    (by have h9 : (T.setVm vm₁).methodNamed? yX1_lambda_change_0 = some tt' := hnamed₁; rw [← hU]; exact h9) ⟨by show 0 + mc ≤ mc; omega, by show 0 + ms ≤ ms; omega, Pg_at X.hN hS hR U hheapU (by rw [hvmU]; exact X₁.warmed)⟩
  obtain ⟨g', mk', tS, L, e1, e2, hq, hl1, hLf, hc1, hs1⟩ := hpost
  obtain ⟨U', lB, cB, sB⟩ := B
  dsimp only [Pt.U, Pt.locs, Pt.cells, Pt.slots] at Y₁ e1 e2 hq hl1 hc1 hs1 hsteps
  have hv0 : v = none := by
    obtain ⟨⟨v9, G9, h9, hp9, -⟩, -⟩ := hq
    cases h9
    exact hp0 _ _ hp9
  subst hv0
  obtain ⟨fs, hleave, -, hended, hWe, hsame⟩ := Y₁.leave (v := none) (fun _ => rfl) hlk'
  obtain ⟨T', X', hW', -, ht⟩ := X₁.outOf (g := F0 m pc ls rest) rfl (by rw [X.hb]; exact hdg) hended hWe hsame
  have hTh : T'.heap = tS.heap := by
    have h9 := congrArg State.heap ht
    exact h9.symm.trans e1
  have hTv : T'.vm = tS.vm := by
    have h9 := congrArg State.vm ht
    exact h9.symm.trans e2
  rw [hl1, hc1, hs1, List.nil_append, Nat.zero_add, Nat.zero_add] at X'
  refine ⟨none, U.calling g' mk' (List.toArray [.int (f 0), .int (f 1), .ref ver]), tS, T', L, hheapU, X', hLf, hTh, hTv, hq, fun target h => ?_⟩
  refine hstep₁ target fun acts => ?_
  refine Steps.trans ?_ h
  show Steps p.tables e below (doInvoke e ((T.setVm vm₁).setTop (F0 m pc ls rest)) acts ⟨Γ.2 11, 1⟩ #[.ref b, .ref ver]).1 (T'.setTop { F0 m pc ls rest with pc := pc + 5, stack := (none : Option Value).toList ++ rest })
  rw [hin acts]
  rw [show (T'.setTop { F0 m pc ls rest with pc := pc + 5, stack := (none : Option Value).toList ++ rest }) = U'.setFrames fs from ht.symm]
  refine Steps.weaken (mid := [.java (F0 m pc ls rest)]) ?_
  have hloc : entryFrame ⟨Γ.2 11, 1⟩ #[.ref b, .ref ver] ck'.maxLocals = { method := ⟨Γ.2 11, 1⟩, pc := 0, locals := #[.val (.ref b), .val (.ref ver)], stack := [], locked := none } := by rw [hml']; rfl
  rw [hloc]
  have hs : U.topJava?.isSome := Y₀.here.top
  obtain ⟨bq, hmem⟩ := memberRef_ask' (e := e) (vm := vm₁) (d := Γ.2 11) (index := 26) hkK' hfile' (Or.inl (by rw [hpool']; exact lm1_f.1)) (by rw [hpool']; exact lm1_f.2.2)
  have href : plainRef U e (Γ.2 11) 26 := ⟨22, _, _, bq, _, _, by rw [hvmU]; exact hmem, by rw [hvmU]; exact hclsR', by rw [hvmU]; exact hkP', by simp [hpolyP]⟩
  obtain ⟨f0, hf0, hp0'⟩ := Option.map_eq_some_iff.mp lm1_h.2.2.2
  simp only [Prod.mk.injEq] at hp0'
  obtain ⟨f1, hf1, hp1'⟩ := Option.map_eq_some_iff.mp lm1_i.2.2.2
  simp only [Prod.mk.injEq] at hp1'
  have hrd0 := hflds' 16 15 0 _ _ f0 lm1_h.1 lm1_h.2.1 lm1_h.2.2.1 hf0
  have hrd1 := hflds' 18 17 1 _ _ f1 lm1_i.1 lm1_i.2.1 lm1_i.2.2.1 hf1
  have hcellU : U.heap[b]? = some (vp_cell (Γ.2 11) (2, .inl f)) := by rw [hheapU, ← hT]; exact hcell
  have hs0 : (vp_cell (Γ.2 11) (2, .inl f)).slots[f0.slot]? = some (.int (f 0)) := by rw [hp0'.2, vp_cell_i]; exact arrV_read _ _ (by omega)
  have hs1' : (vp_cell (Γ.2 11) (2, .inl f)).slots[f1.slot]? = some (.int (f 1)) := by rw [hp1'.2, vp_cell_i]; exact arrV_read _ _ (by omega)
  jvm_step Y₀.here [X.hx, hbytes', cod2_0, Value.isRef]
  jvm_step Y₀.here [X.hx, hbytes', cod2_1, getfield.wp_ready (e := e) (s := U) (c := Γ.2 11) (field := f0) (a := b) (rest := []) (cell := vp_cell (Γ.2 11) (2, .inl f)) (v := .int (f 0))
    (f := { method := ⟨Γ.2 11, 1⟩, pc := 1, locals := #[.val (.ref b), .val (.ref ver)], stack := [.ref b], locked := none }) hs (by rw [hvmU]; exact hrd0) hp0'.1 rfl hcellU (fun h => by cases h) hs0]
  jvm_step Y₀.here [X.hx, hbytes', cod2_4, Value.isRef]
  jvm_step Y₀.here [X.hx, hbytes', cod2_5, getfield.wp_ready (e := e) (s := U) (c := Γ.2 11) (field := f1) (a := b) (rest := [.int (f 0)]) (cell := vp_cell (Γ.2 11) (2, .inl f)) (v := .int (f 1))
    (f := { method := ⟨Γ.2 11, 1⟩, pc := 5, locals := #[.val (.ref b), .val (.ref ver)], stack := [.ref b, .int (f 0)], locked := none }) hs (by rw [hvmU]; exact hrd1) hp1'.1 rfl hcellU (fun h => by cases h) hs1']
  jvm_step Y₀.here [X.hx, hbytes', cod2_8, Value.isRef]
  jvm_step Y₀.here [X.hx, hbytes', cod2_9, invokestatic.wp_ready (e := e) (s := U) (m := tt') (k := tk') (meth := methM) (args := [.int (f 0), .int (f 1), .ref ver]) (rest := [])
    (f := { method := ⟨Γ.2 11, 1⟩, pc := 9, locals := #[.val (.ref b), .val (.ref ver)], stack := [.ref ver, .int (f 1), .int (f 0)], locked := none }) hs href (by rw [hvmU]; exact hready') (by rw [hvmU]; exact hkP') (by rw [hvmU]; exact hmethM') (hpolyP _) hstatic (by rw [heP]; exact hinitP) (by have h9 : parseMethodDescriptor "(IILBackdater$Version;)V" = some methM.sig := hsigM; rw [show parseMethodDescriptor "(IILBackdater$Version;)V" = some ⟨[.int, .int, .object "Backdater$Version"], none⟩ from by decide +kernel] at h9; have h8 := Option.some.inj h9; rw [← h8]; rfl) rfl]
  intro acts'
  rw [doInvoke_state]
  refine hsteps.trans ?_
  show Steps p.tables e (.java (F0 m pc ls rest) :: below) (U'.setTop { method := ⟨Γ.2 11, 1⟩, pc := 12, locals := #[.val (.ref b), .val (.ref ver)], stack := [], locked := none }) _
  jvm_step Y₁.here [Y₁.here.top, X.hx, hbytes', cod2_12, Y₁.method', hret']
  intro acts''
  rw [hleave { method := ⟨Γ.2 11, 1⟩, pc := 12, locals := #[.val (.ref b), .val (.ref ver)], stack := [], locked := none } acts'' rfl rfl rfl]
  exact Steps.refl _

set_option maxHeartbeats 4000000 in
theorem lm_run2 (X : Cx p s m args c Γ cc nL own) (hls : ls.size = nL) (hR : Rep Γ G H) (hS : va_S (gA Γ) s.heap H locs) {b ver index count : Nat} {f : Nat → Int32} (hb : G b = some (t, .inl (Γ.2 12, 2, .inl f))) {rm : Room} (hM : MetG l yX1_lambda_add_1 (ws_ yX1_lambda_add_1 cX1_lambda_add_1 3 none) rm Γ G [.int (f 0), .int (f 1), .ref ver] post mc ms) (hp0 : ∀ v G1, post v G1 → v = none) (h1 : Cond.methodLink own index EFL ∈ lw_all)
    (hrc : rm.cells = mc) (hrs : rm.slots = ms) (hRm : rm.frames + 2 ≤ R.frames ∧ 100 + rm.locals ≤ R.locals) (hW : (rest.map fun v => v.category).sum ≤ 8) (hdg : decode cc pc = .ok (.invokeinterface index count, 5)) (hf : cells + mc ≤ R.cells ∧ slots + ms ≤ R.slots) :
    va_Run5 p l e R s m args below meth c H locs cells slots mc ms (F0 m pc ls (.ref ver :: .ref b :: rest)) rest (Qg Γ post (List.toArray [.int (f 0), .int (f 1), .ref ver])) (gA Γ) := by
  intro T hT XX
  have hEF : EFW s := X.lk.2.2.2.2
  obtain ⟨mA, k, cf, i0, p0, lk, hmA, hkA, hcf, hsh, hfind, hmade, hcall, -⟩ := X.lk.2.1
  obtain ⟨kx, hkx, hnx⟩ := className_of_methodNamed hmA
  cases hkA.symm.trans hkx
  obtain ⟨r0, r, hn, hrm, hstR, hsigR⟩ := Cond.declares_spec hEF.1
  obtain ⟨cLi, kL, r1, hcL, hkL, hiL, hfoundL, hn1⟩ := Cond.interfaceMethod_spec hEF.2
  cases hn.symm.trans hn1
  have hr0cls : r0.cls = cLi := Option.some.inj ((findClass_of_methodNamed hn).symm.trans hcL)
  obtain ⟨hnameR, hdescR⟩ := name_of_methodNamed hn hrm
  obtain ⟨kK, tk, file, methk, ck, toy, iface, tt, found, hkK, hkn, hfile, hpool, hmk, hck, hbytes, hml, hlk, hfl, hret, htoy, htk, hitf, hlook, hready, hclsR, hty, hflds, hif, hfnd, hsel, -⟩ := lm_made lm2_a lm2_b lm2_c lm2_d lm2_e rfl rfl lm2_f lm2_g hkA hnx hmade (lm_O (X.hts _ q1545) (Vm.Alike.refl _))
  have hfr : found = r0 := by
    have hif' : s.vm.findClass "Backdater$Effect" = some iface := hif
    cases hcL.symm.trans hif'
    simp only [State.methodFound?, hcL, Option.bind_eq_bind, Option.bind_some, hkL, hiL] at hfoundL
    have h9 : ((methodIn cLi "lay" "(LBackdater$Version;)V" true none).ask { classPath := fun _ => none } s.vm).1 = .ok found := hfnd
    rw [h9] at hfoundL
    exact Option.some.inj hfoundL
  subst hfr
  have hcell : T.heap[b]? = some (vp_cell (Γ.2 12) (2, .inl f)) := by rw [hT]; exact (hR b _ hb).1
  obtain ⟨i2, hi2, hasg, hway⟩ := State.lambdaCallable_spec hcall
  have hi2' : s.vm.findClass "Backdater$Effect" = some i2 := hi2
  cases hcL.symm.trans hi2'
  have hselP : selectMethod e.platform s.vm (Γ.2 12) found = .method ⟨Γ.2 12, 1⟩ := by rw [Launch.admits_selectMethod XX.admits]; exact hsel
  obtain ⟨vm₁, X₁, hstep₁⟩ := XX.invokeinterface X.hx X.hown (X.hts _ h1) hn hrm hstR (by rw [hr0cls]; exact hkL) hiL (by decide) (a := b) (cell := vp_cell (Γ.2 12) (2, .inl f)) (kcell := kK) hcell
    (fun z h => by cases h) hkK (by rw [hr0cls]; exact hasg) hselP hmk (by rw [hnameR, hdescR]; exact hway) (by rw [hfl]; decide) (by simp [Method.isAbstract, hfl, hasFlag, Acc.abstract]) (g := F0 m pc ls (.ref ver :: .ref b :: rest)) rfl (argsL := [.ref ver]) (rest := rest)
    (by have := hsigR; have h9 : parseMethodDescriptor "(LBackdater$Version;)V" = some r.sig := hsigR; rw [show parseMethodDescriptor "(LBackdater$Version;)V" = some ⟨[.object "Backdater$Version"], none⟩ from by decide +kernel] at h9; have h8 := Option.some.inj h9; rw [← h8]; rfl) rfl (by rw [X.hb]; exact hdg)
  have hA : s.vm.Alike vm₁ := X₁.warmed.alike
  obtain ⟨kA', hkA', heA⟩ := hA.2.2 _ _ hkA
  have hmade' : Lambda.isMade { classPath := fun _ => none } vm₁ mA.cls σ2 (Γ.2 12) = true := Lambda.isMade_warmer X₁.warmed hmade
  obtain ⟨kK', tk', file', methk', ck', toy', iface', tt', found', hkK', hkn', hfile', hpool', hmk', hck', hbytes', hml', hlk', hfl', hret', htoy', htk', hitf', hlook', hready', hclsR', hty', hflds', hif', hfnd', hsel', -⟩ := lm_made lm2_a lm2_b lm2_c lm2_d lm2_e rfl rfl lm2_f lm2_g hkA' (by rw [heA]; exact hnx) hmade' (lm_O (X.hts _ q1545) hA)
  have hplain : (T.setVm vm₁).plainMethod ⟨Γ.2 12, 1⟩ := State.plainMethod.of_name (fun k' hk' => by cases hkK'.symm.trans hk'; rw [hkn']; decide)
  obtain ⟨mk2, hnamed⟩ := Cond.code_named (X.hts _ q681)
  obtain ⟨methM, cM, hmethM, -, -, -, -, -, -, hsigM⟩ := Cond.code_spec hnamed (X.hts _ q681)
  have hstatic : methM.isStatic = true := Cond.static_spec hnamed hmethM (X.hts _ q680)
  obtain ⟨kP, hkP, hnP⟩ := className_of_methodNamed hnamed
  have hinitP : kP.init = .initialized := Cond.initialized_spec (findClass_of_methodNamed hnamed) hkP (X.hts _ q36)
  have hnamed₁ : (T.setVm vm₁).methodNamed? yX1_lambda_add_1 = some mk2 := X₁.named hnamed
  obtain ⟨kP', hkP', heP⟩ := hA.2.2 _ _ hkP
  have hmethM' : vm₁.method? mk2 = some methM := by rw [hA.method?]; exact hmethM
  have hpolyP : ∀ z, signaturePolymorphic kP' z = false := signaturePolymorphic_of_name (by rw [heP]; show kP.name ≠ _ ∧ kP.name ≠ _; rw [hnP]; decide)
  have htoy2 : toy' = mk2.cls := by
    have h9 := findClass_of_methodNamed hnamed₁
    have h8 : vm₁.findClass "Backdater" = some mk2.cls := h9
    exact Option.some.inj (htoy'.symm.trans h8)
  subst htoy2
  cases hkP'.symm.trans htk'
  have htt : tt' = mk2 := by
    have h9 := hnamed₁
    simp only [State.methodNamed?, State.vm_setVm, Option.bind_eq_bind, Option.bind_eq_some_iff, Option.pure_def, Option.some.injEq] at h9
    obtain ⟨c9, hc9, k9, hk9, i9, hi9, e9⟩ := h9
    have hc9' : c9 = mk2.cls := by rw [← e9]
    subst hc9'
    cases hkP'.symm.trans hk9
    have h7 := lm_ask (lm_own { classPath := fun _ => none } hkP' hitf' hpolyP hi9)
    rw [hitf'] at hlook'
    have h6 := hlook'.symm.trans h7
    cases h6
    exact e9
  subst htt
  obtain ⟨Y₀, hin⟩ := X₁.into (g := F0 m pc ls rest) rfl (by rw [X.hml]; exact hls) (by rw [X.hb]; exact hdg) #[.ref b, .ref ver] (R' := { frames := rm.frames + 1, cells := mc, slots := ms, locals := 30 + rm.locals }) hmk' hck' hlk' hplain (by show rm.frames + 1 + 1 ≤ _; omega)
    (by rw [hml']; show 2 * 0 + (rest.map fun v => v.category).sum + (2 + 11) + (30 + rm.locals) ≤ R.locals; omega) hf.1 hf.2
  generalize hU : ((T.setVm vm₁).setTop (F0 m pc ls rest)).pushFrame (.java (entryFrame ⟨Γ.2 12, 1⟩ #[.ref b, .ref ver] ck'.maxLocals)) = U at Y₀ hin
  have hvmU : U.vm = vm₁ := by rw [← hU]; rfl
  have hheapU : U.heap = H := by rw [← hU]; exact hT
  have hKb : Back l { frames := rm.frames + 1, cells := mc, slots := ms, locals := 30 + rm.locals } p e (.java (F0 m pc ls rest) :: below) ((T.setVm vm₁).calling (F0 m pc ls rest) ⟨Γ.2 12, 1⟩ #[.ref b, .ref ver]) #[.ref b, .ref ver] yX1_lambda_add_1 3 8 (PreOf { frames := rm.frames + 1, cells := mc, slots := ms, locals := 30 + rm.locals } mc ms (Pg Γ G [.int (f 0), .int (f 1), .ref ver])) (PostOf (Qg Γ post) mc ms (gA Γ)) :=
    back_of (bytes := cX1_lambda_add_1) (maxL := 3) (ret := none) hM Pg_blind hrc hrs (by show rm.frames + 1 ≤ rm.frames + 1; omega) (by show 8 + (3 + 11) + rm.locals ≤ 30 + rm.locals; omega) (fun w hw a' U' hW' => pay_in X.hts (lw_meth q681) w hw a' U' (State.WarmedH.trans X₁.warmed hW')) List.mem_cons_self
      (fun a' U' hW' => word_at (State.WarmedH.trans X₁.warmed hW') (Or.inl (by first | rfl | simp [Cond.onTables, Cond.keeps, Cond.steady])) (X.hts _ q36))
  obtain ⟨v, B, Y₁, hpost, hsteps⟩ := hKb ⟨Γ.2 12, 1⟩ methk' ck' ⟨U, [], 0, 0⟩ { method := ⟨Γ.2 12, 1⟩, pc := 9, locals := #[.val (.ref b), .val (.ref ver)], stack := [], locked := none } (.invokestatic 26) tt' (List.toArray [.int (f 0), .int (f 1), .ref ver]) Y₀ rfl (by rw [hml']; rfl) (by rw [hbytes']; exact cod2_9) (by show 2 * 0 + 0 ≤ 8; omega)
    (by have h9 : (T.setVm vm₁).methodNamed? yX1_lambda_add_1 = some tt' := hnamed₁; rw [← hU]; exact h9) ⟨by show 0 + mc ≤ mc; omega, by show 0 + ms ≤ ms; omega, Pg_at X.hN hS hR U hheapU (by rw [hvmU]; exact X₁.warmed)⟩
  obtain ⟨g', mk', tS, L, e1, e2, hq, hl1, hLf, hc1, hs1⟩ := hpost
  obtain ⟨U', lB, cB, sB⟩ := B
  dsimp only [Pt.U, Pt.locs, Pt.cells, Pt.slots] at Y₁ e1 e2 hq hl1 hc1 hs1 hsteps
  have hv0 : v = none := by
    obtain ⟨⟨v9, G9, h9, hp9, -⟩, -⟩ := hq
    cases h9
    exact hp0 _ _ hp9
  subst hv0
  obtain ⟨fs, hleave, -, hended, hWe, hsame⟩ := Y₁.leave (v := none) (fun _ => rfl) hlk'
  obtain ⟨T', X', hW', -, ht⟩ := X₁.outOf (g := F0 m pc ls rest) rfl (by rw [X.hb]; exact hdg) hended hWe hsame
  have hTh : T'.heap = tS.heap := by
    have h9 := congrArg State.heap ht
    exact h9.symm.trans e1
  have hTv : T'.vm = tS.vm := by
    have h9 := congrArg State.vm ht
    exact h9.symm.trans e2
  rw [hl1, hc1, hs1, List.nil_append, Nat.zero_add, Nat.zero_add] at X'
  refine ⟨none, U.calling g' mk' (List.toArray [.int (f 0), .int (f 1), .ref ver]), tS, T', L, hheapU, X', hLf, hTh, hTv, hq, fun target h => ?_⟩
  refine hstep₁ target fun acts => ?_
  refine Steps.trans ?_ h
  show Steps p.tables e below (doInvoke e ((T.setVm vm₁).setTop (F0 m pc ls rest)) acts ⟨Γ.2 12, 1⟩ #[.ref b, .ref ver]).1 (T'.setTop { F0 m pc ls rest with pc := pc + 5, stack := (none : Option Value).toList ++ rest })
  rw [hin acts]
  rw [show (T'.setTop { F0 m pc ls rest with pc := pc + 5, stack := (none : Option Value).toList ++ rest }) = U'.setFrames fs from ht.symm]
  refine Steps.weaken (mid := [.java (F0 m pc ls rest)]) ?_
  have hloc : entryFrame ⟨Γ.2 12, 1⟩ #[.ref b, .ref ver] ck'.maxLocals = { method := ⟨Γ.2 12, 1⟩, pc := 0, locals := #[.val (.ref b), .val (.ref ver)], stack := [], locked := none } := by rw [hml']; rfl
  rw [hloc]
  have hs : U.topJava?.isSome := Y₀.here.top
  obtain ⟨bq, hmem⟩ := memberRef_ask' (e := e) (vm := vm₁) (d := Γ.2 12) (index := 26) hkK' hfile' (Or.inl (by rw [hpool']; exact lm2_f.1)) (by rw [hpool']; exact lm2_f.2.2)
  have href : plainRef U e (Γ.2 12) 26 := ⟨22, _, _, bq, _, _, by rw [hvmU]; exact hmem, by rw [hvmU]; exact hclsR', by rw [hvmU]; exact hkP', by simp [hpolyP]⟩
  obtain ⟨f0, hf0, hp0'⟩ := Option.map_eq_some_iff.mp lm2_h.2.2.2
  simp only [Prod.mk.injEq] at hp0'
  obtain ⟨f1, hf1, hp1'⟩ := Option.map_eq_some_iff.mp lm2_i.2.2.2
  simp only [Prod.mk.injEq] at hp1'
  have hrd0 := hflds' 16 15 0 _ _ f0 lm2_h.1 lm2_h.2.1 lm2_h.2.2.1 hf0
  have hrd1 := hflds' 18 17 1 _ _ f1 lm2_i.1 lm2_i.2.1 lm2_i.2.2.1 hf1
  have hcellU : U.heap[b]? = some (vp_cell (Γ.2 12) (2, .inl f)) := by rw [hheapU, ← hT]; exact hcell
  have hs0 : (vp_cell (Γ.2 12) (2, .inl f)).slots[f0.slot]? = some (.int (f 0)) := by rw [hp0'.2, vp_cell_i]; exact arrV_read _ _ (by omega)
  have hs1' : (vp_cell (Γ.2 12) (2, .inl f)).slots[f1.slot]? = some (.int (f 1)) := by rw [hp1'.2, vp_cell_i]; exact arrV_read _ _ (by omega)
  jvm_step Y₀.here [X.hx, hbytes', cod2_0, Value.isRef]
  jvm_step Y₀.here [X.hx, hbytes', cod2_1, getfield.wp_ready (e := e) (s := U) (c := Γ.2 12) (field := f0) (a := b) (rest := []) (cell := vp_cell (Γ.2 12) (2, .inl f)) (v := .int (f 0))
    (f := { method := ⟨Γ.2 12, 1⟩, pc := 1, locals := #[.val (.ref b), .val (.ref ver)], stack := [.ref b], locked := none }) hs (by rw [hvmU]; exact hrd0) hp0'.1 rfl hcellU (fun h => by cases h) hs0]
  jvm_step Y₀.here [X.hx, hbytes', cod2_4, Value.isRef]
  jvm_step Y₀.here [X.hx, hbytes', cod2_5, getfield.wp_ready (e := e) (s := U) (c := Γ.2 12) (field := f1) (a := b) (rest := [.int (f 0)]) (cell := vp_cell (Γ.2 12) (2, .inl f)) (v := .int (f 1))
    (f := { method := ⟨Γ.2 12, 1⟩, pc := 5, locals := #[.val (.ref b), .val (.ref ver)], stack := [.ref b, .int (f 0)], locked := none }) hs (by rw [hvmU]; exact hrd1) hp1'.1 rfl hcellU (fun h => by cases h) hs1']
  jvm_step Y₀.here [X.hx, hbytes', cod2_8, Value.isRef]
  jvm_step Y₀.here [X.hx, hbytes', cod2_9, invokestatic.wp_ready (e := e) (s := U) (m := tt') (k := tk') (meth := methM) (args := [.int (f 0), .int (f 1), .ref ver]) (rest := [])
    (f := { method := ⟨Γ.2 12, 1⟩, pc := 9, locals := #[.val (.ref b), .val (.ref ver)], stack := [.ref ver, .int (f 1), .int (f 0)], locked := none }) hs href (by rw [hvmU]; exact hready') (by rw [hvmU]; exact hkP') (by rw [hvmU]; exact hmethM') (hpolyP _) hstatic (by rw [heP]; exact hinitP) (by have h9 : parseMethodDescriptor "(IILBackdater$Version;)V" = some methM.sig := hsigM; rw [show parseMethodDescriptor "(IILBackdater$Version;)V" = some ⟨[.int, .int, .object "Backdater$Version"], none⟩ from by decide +kernel] at h9; have h8 := Option.some.inj h9; rw [← h8]; rfl) rfl]
  intro acts'
  rw [doInvoke_state]
  refine hsteps.trans ?_
  show Steps p.tables e (.java (F0 m pc ls rest) :: below) (U'.setTop { method := ⟨Γ.2 12, 1⟩, pc := 12, locals := #[.val (.ref b), .val (.ref ver)], stack := [], locked := none }) _
  jvm_step Y₁.here [Y₁.here.top, X.hx, hbytes', cod2_12, Y₁.method', hret']
  intro acts''
  rw [hleave { method := ⟨Γ.2 12, 1⟩, pc := 12, locals := #[.val (.ref b), .val (.ref ver)], stack := [], locked := none } acts'' rfl rfl rfl]
  exact Steps.refl _

set_option maxHeartbeats 4000000 in
theorem lm_run3 (X : Cx p s m args c Γ cc nL own) (hls : ls.size = nL) (hR : Rep Γ G H) (hS : va_S (gA Γ) s.heap H locs) {b ver index count : Nat} (hb : G b = some (t, .inl (Γ.2 13, 0, .inl (fun _ => 0)))) {rm : Room} (hM : MetG l yX1_lambda_cancel_2 (ws_ yX1_lambda_cancel_2 cX1_lambda_cancel_2 1 none) rm Γ G [.ref ver] post mc ms) (hp0 : ∀ v G1, post v G1 → v = none) (h1 : Cond.methodLink own index EFL ∈ lw_all)
    (hrc : rm.cells = mc) (hrs : rm.slots = ms) (hRm : rm.frames + 2 ≤ R.frames ∧ 100 + rm.locals ≤ R.locals) (hW : (rest.map fun v => v.category).sum ≤ 8) (hdg : decode cc pc = .ok (.invokeinterface index count, 5)) (hf : cells + mc ≤ R.cells ∧ slots + ms ≤ R.slots) :
    va_Run5 p l e R s m args below meth c H locs cells slots mc ms (F0 m pc ls (.ref ver :: .ref b :: rest)) rest (Qg Γ post (List.toArray [.ref ver])) (gA Γ) := by
  intro T hT XX
  have hEF : EFW s := X.lk.2.2.2.2
  obtain ⟨mA, k, cf, i0, p0, lk, hmA, hkA, hcf, hsh, hfind, hmade, hcall, -⟩ := X.lk.2.2.1
  obtain ⟨kx, hkx, hnx⟩ := className_of_methodNamed hmA
  cases hkA.symm.trans hkx
  obtain ⟨r0, r, hn, hrm, hstR, hsigR⟩ := Cond.declares_spec hEF.1
  obtain ⟨cLi, kL, r1, hcL, hkL, hiL, hfoundL, hn1⟩ := Cond.interfaceMethod_spec hEF.2
  cases hn.symm.trans hn1
  have hr0cls : r0.cls = cLi := Option.some.inj ((findClass_of_methodNamed hn).symm.trans hcL)
  obtain ⟨hnameR, hdescR⟩ := name_of_methodNamed hn hrm
  obtain ⟨kK, tk, file, methk, ck, toy, iface, tt, found, hkK, hkn, hfile, hpool, hmk, hck, hbytes, hml, hlk, hfl, hret, htoy, htk, hitf, hlook, hready, hclsR, hty, hflds, hif, hfnd, hsel, -⟩ := lm_made lm3_a lm3_b lm3_c lm3_d lm3_e rfl rfl lm3_f lm3_g hkA hnx hmade (lm_O (X.hts _ q1545) (Vm.Alike.refl _))
  have hfr : found = r0 := by
    have hif' : s.vm.findClass "Backdater$Effect" = some iface := hif
    cases hcL.symm.trans hif'
    simp only [State.methodFound?, hcL, Option.bind_eq_bind, Option.bind_some, hkL, hiL] at hfoundL
    have h9 : ((methodIn cLi "lay" "(LBackdater$Version;)V" true none).ask { classPath := fun _ => none } s.vm).1 = .ok found := hfnd
    rw [h9] at hfoundL
    exact Option.some.inj hfoundL
  subst hfr
  have hcell : T.heap[b]? = some (vp_cell (Γ.2 13) (0, .inl (fun _ => 0))) := by rw [hT]; exact (hR b _ hb).1
  obtain ⟨i2, hi2, hasg, hway⟩ := State.lambdaCallable_spec hcall
  have hi2' : s.vm.findClass "Backdater$Effect" = some i2 := hi2
  cases hcL.symm.trans hi2'
  have hselP : selectMethod e.platform s.vm (Γ.2 13) found = .method ⟨Γ.2 13, 1⟩ := by rw [Launch.admits_selectMethod XX.admits]; exact hsel
  obtain ⟨vm₁, X₁, hstep₁⟩ := XX.invokeinterface X.hx X.hown (X.hts _ h1) hn hrm hstR (by rw [hr0cls]; exact hkL) hiL (by decide) (a := b) (cell := vp_cell (Γ.2 13) (0, .inl (fun _ => 0))) (kcell := kK) hcell
    (fun z h => by cases h) hkK (by rw [hr0cls]; exact hasg) hselP hmk (by rw [hnameR, hdescR]; exact hway) (by rw [hfl]; decide) (by simp [Method.isAbstract, hfl, hasFlag, Acc.abstract]) (g := F0 m pc ls (.ref ver :: .ref b :: rest)) rfl (argsL := [.ref ver]) (rest := rest)
    (by have := hsigR; have h9 : parseMethodDescriptor "(LBackdater$Version;)V" = some r.sig := hsigR; rw [show parseMethodDescriptor "(LBackdater$Version;)V" = some ⟨[.object "Backdater$Version"], none⟩ from by decide +kernel] at h9; have h8 := Option.some.inj h9; rw [← h8]; rfl) rfl (by rw [X.hb]; exact hdg)
  have hA : s.vm.Alike vm₁ := X₁.warmed.alike
  obtain ⟨kA', hkA', heA⟩ := hA.2.2 _ _ hkA
  have hmade' : Lambda.isMade { classPath := fun _ => none } vm₁ mA.cls σ3 (Γ.2 13) = true := Lambda.isMade_warmer X₁.warmed hmade
  obtain ⟨kK', tk', file', methk', ck', toy', iface', tt', found', hkK', hkn', hfile', hpool', hmk', hck', hbytes', hml', hlk', hfl', hret', htoy', htk', hitf', hlook', hready', hclsR', hty', hflds', hif', hfnd', hsel', -⟩ := lm_made lm3_a lm3_b lm3_c lm3_d lm3_e rfl rfl lm3_f lm3_g hkA' (by rw [heA]; exact hnx) hmade' (lm_O (X.hts _ q1545) hA)
  have hplain : (T.setVm vm₁).plainMethod ⟨Γ.2 13, 1⟩ := State.plainMethod.of_name (fun k' hk' => by cases hkK'.symm.trans hk'; rw [hkn']; decide)
  obtain ⟨mk2, hnamed⟩ := Cond.code_named (X.hts _ q692)
  obtain ⟨methM, cM, hmethM, -, -, -, -, -, -, hsigM⟩ := Cond.code_spec hnamed (X.hts _ q692)
  have hstatic : methM.isStatic = true := Cond.static_spec hnamed hmethM (X.hts _ q691)
  obtain ⟨kP, hkP, hnP⟩ := className_of_methodNamed hnamed
  have hinitP : kP.init = .initialized := Cond.initialized_spec (findClass_of_methodNamed hnamed) hkP (X.hts _ q36)
  have hnamed₁ : (T.setVm vm₁).methodNamed? yX1_lambda_cancel_2 = some mk2 := X₁.named hnamed
  obtain ⟨kP', hkP', heP⟩ := hA.2.2 _ _ hkP
  have hmethM' : vm₁.method? mk2 = some methM := by rw [hA.method?]; exact hmethM
  have hpolyP : ∀ z, signaturePolymorphic kP' z = false := signaturePolymorphic_of_name (by rw [heP]; show kP.name ≠ _ ∧ kP.name ≠ _; rw [hnP]; decide)
  have htoy2 : toy' = mk2.cls := by
    have h9 := findClass_of_methodNamed hnamed₁
    have h8 : vm₁.findClass "Backdater" = some mk2.cls := h9
    exact Option.some.inj (htoy'.symm.trans h8)
  subst htoy2
  cases hkP'.symm.trans htk'
  have htt : tt' = mk2 := by
    have h9 := hnamed₁
    simp only [State.methodNamed?, State.vm_setVm, Option.bind_eq_bind, Option.bind_eq_some_iff, Option.pure_def, Option.some.injEq] at h9
    obtain ⟨c9, hc9, k9, hk9, i9, hi9, e9⟩ := h9
    have hc9' : c9 = mk2.cls := by rw [← e9]
    subst hc9'
    cases hkP'.symm.trans hk9
    have h7 := lm_ask (lm_own { classPath := fun _ => none } hkP' hitf' hpolyP hi9)
    rw [hitf'] at hlook'
    have h6 := hlook'.symm.trans h7
    cases h6
    exact e9
  subst htt
  obtain ⟨Y₀, hin⟩ := X₁.into (g := F0 m pc ls rest) rfl (by rw [X.hml]; exact hls) (by rw [X.hb]; exact hdg) #[.ref b, .ref ver] (R' := { frames := rm.frames + 1, cells := mc, slots := ms, locals := 30 + rm.locals }) hmk' hck' hlk' hplain (by show rm.frames + 1 + 1 ≤ _; omega)
    (by rw [hml']; show 2 * 0 + (rest.map fun v => v.category).sum + (2 + 11) + (30 + rm.locals) ≤ R.locals; omega) hf.1 hf.2
  generalize hU : ((T.setVm vm₁).setTop (F0 m pc ls rest)).pushFrame (.java (entryFrame ⟨Γ.2 13, 1⟩ #[.ref b, .ref ver] ck'.maxLocals)) = U at Y₀ hin
  have hvmU : U.vm = vm₁ := by rw [← hU]; rfl
  have hheapU : U.heap = H := by rw [← hU]; exact hT
  have hKb : Back l { frames := rm.frames + 1, cells := mc, slots := ms, locals := 30 + rm.locals } p e (.java (F0 m pc ls rest) :: below) ((T.setVm vm₁).calling (F0 m pc ls rest) ⟨Γ.2 13, 1⟩ #[.ref b, .ref ver]) #[.ref b, .ref ver] yX1_lambda_cancel_2 3 8 (PreOf { frames := rm.frames + 1, cells := mc, slots := ms, locals := 30 + rm.locals } mc ms (Pg Γ G [.ref ver])) (PostOf (Qg Γ post) mc ms (gA Γ)) :=
    back_of (bytes := cX1_lambda_cancel_2) (maxL := 1) (ret := none) hM Pg_blind hrc hrs (by show rm.frames + 1 ≤ rm.frames + 1; omega) (by show 8 + (1 + 11) + rm.locals ≤ 30 + rm.locals; omega) (fun w hw a' U' hW' => pay_in X.hts (lw_meth q692) w hw a' U' (State.WarmedH.trans X₁.warmed hW')) List.mem_cons_self
      (fun a' U' hW' => word_at (State.WarmedH.trans X₁.warmed hW') (Or.inl (by first | rfl | simp [Cond.onTables, Cond.keeps, Cond.steady])) (X.hts _ q36))
  obtain ⟨v, B, Y₁, hpost, hsteps⟩ := hKb ⟨Γ.2 13, 1⟩ methk' ck' ⟨U, [], 0, 0⟩ { method := ⟨Γ.2 13, 1⟩, pc := 1, locals := #[.val (.ref b), .val (.ref ver)], stack := [], locked := none } (.invokestatic 17) tt' (List.toArray [.ref ver]) Y₀ rfl (by rw [hml']; rfl) (by rw [hbytes']; exact cod0_1) (by show 2 * 0 + 0 ≤ 8; omega)
    (by have h9 : (T.setVm vm₁).methodNamed? yX1_lambda_cancel_2 = some tt' := hnamed₁; rw [← hU]; exact h9) ⟨by show 0 + mc ≤ mc; omega, by show 0 + ms ≤ ms; omega, Pg_at X.hN hS hR U hheapU (by rw [hvmU]; exact X₁.warmed)⟩
  obtain ⟨g', mk', tS, L, e1, e2, hq, hl1, hLf, hc1, hs1⟩ := hpost
  obtain ⟨U', lB, cB, sB⟩ := B
  dsimp only [Pt.U, Pt.locs, Pt.cells, Pt.slots] at Y₁ e1 e2 hq hl1 hc1 hs1 hsteps
  have hv0 : v = none := by
    obtain ⟨⟨v9, G9, h9, hp9, -⟩, -⟩ := hq
    cases h9
    exact hp0 _ _ hp9
  subst hv0
  obtain ⟨fs, hleave, -, hended, hWe, hsame⟩ := Y₁.leave (v := none) (fun _ => rfl) hlk'
  obtain ⟨T', X', hW', -, ht⟩ := X₁.outOf (g := F0 m pc ls rest) rfl (by rw [X.hb]; exact hdg) hended hWe hsame
  have hTh : T'.heap = tS.heap := by
    have h9 := congrArg State.heap ht
    exact h9.symm.trans e1
  have hTv : T'.vm = tS.vm := by
    have h9 := congrArg State.vm ht
    exact h9.symm.trans e2
  rw [hl1, hc1, hs1, List.nil_append, Nat.zero_add, Nat.zero_add] at X'
  refine ⟨none, U.calling g' mk' (List.toArray [.ref ver]), tS, T', L, hheapU, X', hLf, hTh, hTv, hq, fun target h => ?_⟩
  refine hstep₁ target fun acts => ?_
  refine Steps.trans ?_ h
  show Steps p.tables e below (doInvoke e ((T.setVm vm₁).setTop (F0 m pc ls rest)) acts ⟨Γ.2 13, 1⟩ #[.ref b, .ref ver]).1 (T'.setTop { F0 m pc ls rest with pc := pc + 5, stack := (none : Option Value).toList ++ rest })
  rw [hin acts]
  rw [show (T'.setTop { F0 m pc ls rest with pc := pc + 5, stack := (none : Option Value).toList ++ rest }) = U'.setFrames fs from ht.symm]
  refine Steps.weaken (mid := [.java (F0 m pc ls rest)]) ?_
  have hloc : entryFrame ⟨Γ.2 13, 1⟩ #[.ref b, .ref ver] ck'.maxLocals = { method := ⟨Γ.2 13, 1⟩, pc := 0, locals := #[.val (.ref b), .val (.ref ver)], stack := [], locked := none } := by rw [hml']; rfl
  rw [hloc]
  have hs : U.topJava?.isSome := Y₀.here.top
  obtain ⟨bq, hmem⟩ := memberRef_ask' (e := e) (vm := vm₁) (d := Γ.2 13) (index := 17) hkK' hfile' (Or.inl (by rw [hpool']; exact lm3_f.1)) (by rw [hpool']; exact lm3_f.2.2)
  have href : plainRef U e (Γ.2 13) 17 := ⟨14, _, _, bq, _, _, by rw [hvmU]; exact hmem, by rw [hvmU]; exact hclsR', by rw [hvmU]; exact hkP', by simp [hpolyP]⟩
  jvm_step Y₀.here [X.hx, hbytes', cod0_0, Value.isRef]
  jvm_step Y₀.here [X.hx, hbytes', cod0_1, invokestatic.wp_ready (e := e) (s := U) (m := tt') (k := tk') (meth := methM) (args := [.ref ver]) (rest := [])
    (f := { method := ⟨Γ.2 13, 1⟩, pc := 1, locals := #[.val (.ref b), .val (.ref ver)], stack := [.ref ver], locked := none }) hs href (by rw [hvmU]; exact hready') (by rw [hvmU]; exact hkP') (by rw [hvmU]; exact hmethM') (hpolyP _) hstatic (by rw [heP]; exact hinitP) (by have h9 : parseMethodDescriptor "(LBackdater$Version;)V" = some methM.sig := hsigM; rw [show parseMethodDescriptor "(LBackdater$Version;)V" = some ⟨[.object "Backdater$Version"], none⟩ from by decide +kernel] at h9; have h8 := Option.some.inj h9; rw [← h8]; rfl) rfl]
  intro acts'
  rw [doInvoke_state]
  refine hsteps.trans ?_
  show Steps p.tables e (.java (F0 m pc ls rest) :: below) (U'.setTop { method := ⟨Γ.2 13, 1⟩, pc := 4, locals := #[.val (.ref b), .val (.ref ver)], stack := [], locked := none }) _
  jvm_step Y₁.here [Y₁.here.top, X.hx, hbytes', cod0_4, Y₁.method', hret']
  intro acts''
  rw [hleave { method := ⟨Γ.2 13, 1⟩, pc := 4, locals := #[.val (.ref b), .val (.ref ver)], stack := [], locked := none } acts'' rfl rfl rfl]
  exact Steps.refl _

set_option maxHeartbeats 4000000 in
theorem lm_run4 (X : Cx p s m args c Γ cc nL own) (hls : ls.size = nL) (hR : Rep Γ G H) (hS : va_S (gA Γ) s.heap H locs) {b ver index count : Nat} (hb : G b = some (t, .inl (Γ.2 14, 0, .inl (fun _ => 0)))) {rm : Room} (hM : MetG l yX1_lambda_reinstate_3 (ws_ yX1_lambda_reinstate_3 cX1_lambda_reinstate_3 1 none) rm Γ G [.ref ver] post mc ms) (hp0 : ∀ v G1, post v G1 → v = none) (h1 : Cond.methodLink own index EFL ∈ lw_all)
    (hrc : rm.cells = mc) (hrs : rm.slots = ms) (hRm : rm.frames + 2 ≤ R.frames ∧ 100 + rm.locals ≤ R.locals) (hW : (rest.map fun v => v.category).sum ≤ 8) (hdg : decode cc pc = .ok (.invokeinterface index count, 5)) (hf : cells + mc ≤ R.cells ∧ slots + ms ≤ R.slots) :
    va_Run5 p l e R s m args below meth c H locs cells slots mc ms (F0 m pc ls (.ref ver :: .ref b :: rest)) rest (Qg Γ post (List.toArray [.ref ver])) (gA Γ) := by
  intro T hT XX
  have hEF : EFW s := X.lk.2.2.2.2
  obtain ⟨mA, k, cf, i0, p0, lk, hmA, hkA, hcf, hsh, hfind, hmade, hcall, -⟩ := X.lk.2.2.2.1
  obtain ⟨kx, hkx, hnx⟩ := className_of_methodNamed hmA
  cases hkA.symm.trans hkx
  obtain ⟨r0, r, hn, hrm, hstR, hsigR⟩ := Cond.declares_spec hEF.1
  obtain ⟨cLi, kL, r1, hcL, hkL, hiL, hfoundL, hn1⟩ := Cond.interfaceMethod_spec hEF.2
  cases hn.symm.trans hn1
  have hr0cls : r0.cls = cLi := Option.some.inj ((findClass_of_methodNamed hn).symm.trans hcL)
  obtain ⟨hnameR, hdescR⟩ := name_of_methodNamed hn hrm
  obtain ⟨kK, tk, file, methk, ck, toy, iface, tt, found, hkK, hkn, hfile, hpool, hmk, hck, hbytes, hml, hlk, hfl, hret, htoy, htk, hitf, hlook, hready, hclsR, hty, hflds, hif, hfnd, hsel, -⟩ := lm_made lm4_a lm4_b lm4_c lm4_d lm4_e rfl rfl lm4_f lm4_g hkA hnx hmade (lm_O (X.hts _ q1545) (Vm.Alike.refl _))
  have hfr : found = r0 := by
    have hif' : s.vm.findClass "Backdater$Effect" = some iface := hif
    cases hcL.symm.trans hif'
    simp only [State.methodFound?, hcL, Option.bind_eq_bind, Option.bind_some, hkL, hiL] at hfoundL
    have h9 : ((methodIn cLi "lay" "(LBackdater$Version;)V" true none).ask { classPath := fun _ => none } s.vm).1 = .ok found := hfnd
    rw [h9] at hfoundL
    exact Option.some.inj hfoundL
  subst hfr
  have hcell : T.heap[b]? = some (vp_cell (Γ.2 14) (0, .inl (fun _ => 0))) := by rw [hT]; exact (hR b _ hb).1
  obtain ⟨i2, hi2, hasg, hway⟩ := State.lambdaCallable_spec hcall
  have hi2' : s.vm.findClass "Backdater$Effect" = some i2 := hi2
  cases hcL.symm.trans hi2'
  have hselP : selectMethod e.platform s.vm (Γ.2 14) found = .method ⟨Γ.2 14, 1⟩ := by rw [Launch.admits_selectMethod XX.admits]; exact hsel
  obtain ⟨vm₁, X₁, hstep₁⟩ := XX.invokeinterface X.hx X.hown (X.hts _ h1) hn hrm hstR (by rw [hr0cls]; exact hkL) hiL (by decide) (a := b) (cell := vp_cell (Γ.2 14) (0, .inl (fun _ => 0))) (kcell := kK) hcell
    (fun z h => by cases h) hkK (by rw [hr0cls]; exact hasg) hselP hmk (by rw [hnameR, hdescR]; exact hway) (by rw [hfl]; decide) (by simp [Method.isAbstract, hfl, hasFlag, Acc.abstract]) (g := F0 m pc ls (.ref ver :: .ref b :: rest)) rfl (argsL := [.ref ver]) (rest := rest)
    (by have := hsigR; have h9 : parseMethodDescriptor "(LBackdater$Version;)V" = some r.sig := hsigR; rw [show parseMethodDescriptor "(LBackdater$Version;)V" = some ⟨[.object "Backdater$Version"], none⟩ from by decide +kernel] at h9; have h8 := Option.some.inj h9; rw [← h8]; rfl) rfl (by rw [X.hb]; exact hdg)
  have hA : s.vm.Alike vm₁ := X₁.warmed.alike
  obtain ⟨kA', hkA', heA⟩ := hA.2.2 _ _ hkA
  have hmade' : Lambda.isMade { classPath := fun _ => none } vm₁ mA.cls σ4 (Γ.2 14) = true := Lambda.isMade_warmer X₁.warmed hmade
  obtain ⟨kK', tk', file', methk', ck', toy', iface', tt', found', hkK', hkn', hfile', hpool', hmk', hck', hbytes', hml', hlk', hfl', hret', htoy', htk', hitf', hlook', hready', hclsR', hty', hflds', hif', hfnd', hsel', -⟩ := lm_made lm4_a lm4_b lm4_c lm4_d lm4_e rfl rfl lm4_f lm4_g hkA' (by rw [heA]; exact hnx) hmade' (lm_O (X.hts _ q1545) hA)
  have hplain : (T.setVm vm₁).plainMethod ⟨Γ.2 14, 1⟩ := State.plainMethod.of_name (fun k' hk' => by cases hkK'.symm.trans hk'; rw [hkn']; decide)
  obtain ⟨mk2, hnamed⟩ := Cond.code_named (X.hts _ q701)
  obtain ⟨methM, cM, hmethM, -, -, -, -, -, -, hsigM⟩ := Cond.code_spec hnamed (X.hts _ q701)
  have hstatic : methM.isStatic = true := Cond.static_spec hnamed hmethM (X.hts _ q700)
  obtain ⟨kP, hkP, hnP⟩ := className_of_methodNamed hnamed
  have hinitP : kP.init = .initialized := Cond.initialized_spec (findClass_of_methodNamed hnamed) hkP (X.hts _ q36)
  have hnamed₁ : (T.setVm vm₁).methodNamed? yX1_lambda_reinstate_3 = some mk2 := X₁.named hnamed
  obtain ⟨kP', hkP', heP⟩ := hA.2.2 _ _ hkP
  have hmethM' : vm₁.method? mk2 = some methM := by rw [hA.method?]; exact hmethM
  have hpolyP : ∀ z, signaturePolymorphic kP' z = false := signaturePolymorphic_of_name (by rw [heP]; show kP.name ≠ _ ∧ kP.name ≠ _; rw [hnP]; decide)
  have htoy2 : toy' = mk2.cls := by
    have h9 := findClass_of_methodNamed hnamed₁
    have h8 : vm₁.findClass "Backdater" = some mk2.cls := h9
    exact Option.some.inj (htoy'.symm.trans h8)
  subst htoy2
  cases hkP'.symm.trans htk'
  have htt : tt' = mk2 := by
    have h9 := hnamed₁
    simp only [State.methodNamed?, State.vm_setVm, Option.bind_eq_bind, Option.bind_eq_some_iff, Option.pure_def, Option.some.injEq] at h9
    obtain ⟨c9, hc9, k9, hk9, i9, hi9, e9⟩ := h9
    have hc9' : c9 = mk2.cls := by rw [← e9]
    subst hc9'
    cases hkP'.symm.trans hk9
    have h7 := lm_ask (lm_own { classPath := fun _ => none } hkP' hitf' hpolyP hi9)
    rw [hitf'] at hlook'
    have h6 := hlook'.symm.trans h7
    cases h6
    exact e9
  subst htt
  obtain ⟨Y₀, hin⟩ := X₁.into (g := F0 m pc ls rest) rfl (by rw [X.hml]; exact hls) (by rw [X.hb]; exact hdg) #[.ref b, .ref ver] (R' := { frames := rm.frames + 1, cells := mc, slots := ms, locals := 30 + rm.locals }) hmk' hck' hlk' hplain (by show rm.frames + 1 + 1 ≤ _; omega)
    (by rw [hml']; show 2 * 0 + (rest.map fun v => v.category).sum + (2 + 11) + (30 + rm.locals) ≤ R.locals; omega) hf.1 hf.2
  generalize hU : ((T.setVm vm₁).setTop (F0 m pc ls rest)).pushFrame (.java (entryFrame ⟨Γ.2 14, 1⟩ #[.ref b, .ref ver] ck'.maxLocals)) = U at Y₀ hin
  have hvmU : U.vm = vm₁ := by rw [← hU]; rfl
  have hheapU : U.heap = H := by rw [← hU]; exact hT
  have hKb : Back l { frames := rm.frames + 1, cells := mc, slots := ms, locals := 30 + rm.locals } p e (.java (F0 m pc ls rest) :: below) ((T.setVm vm₁).calling (F0 m pc ls rest) ⟨Γ.2 14, 1⟩ #[.ref b, .ref ver]) #[.ref b, .ref ver] yX1_lambda_reinstate_3 3 8 (PreOf { frames := rm.frames + 1, cells := mc, slots := ms, locals := 30 + rm.locals } mc ms (Pg Γ G [.ref ver])) (PostOf (Qg Γ post) mc ms (gA Γ)) :=
    back_of (bytes := cX1_lambda_reinstate_3) (maxL := 1) (ret := none) hM Pg_blind hrc hrs (by show rm.frames + 1 ≤ rm.frames + 1; omega) (by show 8 + (1 + 11) + rm.locals ≤ 30 + rm.locals; omega) (fun w hw a' U' hW' => pay_in X.hts (lw_meth q701) w hw a' U' (State.WarmedH.trans X₁.warmed hW')) List.mem_cons_self
      (fun a' U' hW' => word_at (State.WarmedH.trans X₁.warmed hW') (Or.inl (by first | rfl | simp [Cond.onTables, Cond.keeps, Cond.steady])) (X.hts _ q36))
  obtain ⟨v, B, Y₁, hpost, hsteps⟩ := hKb ⟨Γ.2 14, 1⟩ methk' ck' ⟨U, [], 0, 0⟩ { method := ⟨Γ.2 14, 1⟩, pc := 1, locals := #[.val (.ref b), .val (.ref ver)], stack := [], locked := none } (.invokestatic 17) tt' (List.toArray [.ref ver]) Y₀ rfl (by rw [hml']; rfl) (by rw [hbytes']; exact cod0_1) (by show 2 * 0 + 0 ≤ 8; omega)
    (by have h9 : (T.setVm vm₁).methodNamed? yX1_lambda_reinstate_3 = some tt' := hnamed₁; rw [← hU]; exact h9) ⟨by show 0 + mc ≤ mc; omega, by show 0 + ms ≤ ms; omega, Pg_at X.hN hS hR U hheapU (by rw [hvmU]; exact X₁.warmed)⟩
  obtain ⟨g', mk', tS, L, e1, e2, hq, hl1, hLf, hc1, hs1⟩ := hpost
  obtain ⟨U', lB, cB, sB⟩ := B
  dsimp only [Pt.U, Pt.locs, Pt.cells, Pt.slots] at Y₁ e1 e2 hq hl1 hc1 hs1 hsteps
  have hv0 : v = none := by
    obtain ⟨⟨v9, G9, h9, hp9, -⟩, -⟩ := hq
    cases h9
    exact hp0 _ _ hp9
  subst hv0
  obtain ⟨fs, hleave, -, hended, hWe, hsame⟩ := Y₁.leave (v := none) (fun _ => rfl) hlk'
  obtain ⟨T', X', hW', -, ht⟩ := X₁.outOf (g := F0 m pc ls rest) rfl (by rw [X.hb]; exact hdg) hended hWe hsame
  have hTh : T'.heap = tS.heap := by
    have h9 := congrArg State.heap ht
    exact h9.symm.trans e1
  have hTv : T'.vm = tS.vm := by
    have h9 := congrArg State.vm ht
    exact h9.symm.trans e2
  rw [hl1, hc1, hs1, List.nil_append, Nat.zero_add, Nat.zero_add] at X'
  refine ⟨none, U.calling g' mk' (List.toArray [.ref ver]), tS, T', L, hheapU, X', hLf, hTh, hTv, hq, fun target h => ?_⟩
  refine hstep₁ target fun acts => ?_
  refine Steps.trans ?_ h
  show Steps p.tables e below (doInvoke e ((T.setVm vm₁).setTop (F0 m pc ls rest)) acts ⟨Γ.2 14, 1⟩ #[.ref b, .ref ver]).1 (T'.setTop { F0 m pc ls rest with pc := pc + 5, stack := (none : Option Value).toList ++ rest })
  rw [hin acts]
  rw [show (T'.setTop { F0 m pc ls rest with pc := pc + 5, stack := (none : Option Value).toList ++ rest }) = U'.setFrames fs from ht.symm]
  refine Steps.weaken (mid := [.java (F0 m pc ls rest)]) ?_
  have hloc : entryFrame ⟨Γ.2 14, 1⟩ #[.ref b, .ref ver] ck'.maxLocals = { method := ⟨Γ.2 14, 1⟩, pc := 0, locals := #[.val (.ref b), .val (.ref ver)], stack := [], locked := none } := by rw [hml']; rfl
  rw [hloc]
  have hs : U.topJava?.isSome := Y₀.here.top
  obtain ⟨bq, hmem⟩ := memberRef_ask' (e := e) (vm := vm₁) (d := Γ.2 14) (index := 17) hkK' hfile' (Or.inl (by rw [hpool']; exact lm4_f.1)) (by rw [hpool']; exact lm4_f.2.2)
  have href : plainRef U e (Γ.2 14) 17 := ⟨14, _, _, bq, _, _, by rw [hvmU]; exact hmem, by rw [hvmU]; exact hclsR', by rw [hvmU]; exact hkP', by simp [hpolyP]⟩
  jvm_step Y₀.here [X.hx, hbytes', cod0_0, Value.isRef]
  jvm_step Y₀.here [X.hx, hbytes', cod0_1, invokestatic.wp_ready (e := e) (s := U) (m := tt') (k := tk') (meth := methM) (args := [.ref ver]) (rest := [])
    (f := { method := ⟨Γ.2 14, 1⟩, pc := 1, locals := #[.val (.ref b), .val (.ref ver)], stack := [.ref ver], locked := none }) hs href (by rw [hvmU]; exact hready') (by rw [hvmU]; exact hkP') (by rw [hvmU]; exact hmethM') (hpolyP _) hstatic (by rw [heP]; exact hinitP) (by have h9 : parseMethodDescriptor "(LBackdater$Version;)V" = some methM.sig := hsigM; rw [show parseMethodDescriptor "(LBackdater$Version;)V" = some ⟨[.object "Backdater$Version"], none⟩ from by decide +kernel] at h9; have h8 := Option.some.inj h9; rw [← h8]; rfl) rfl]
  intro acts'
  rw [doInvoke_state]
  refine hsteps.trans ?_
  show Steps p.tables e (.java (F0 m pc ls rest) :: below) (U'.setTop { method := ⟨Γ.2 14, 1⟩, pc := 4, locals := #[.val (.ref b), .val (.ref ver)], stack := [], locked := none }) _
  jvm_step Y₁.here [Y₁.here.top, X.hx, hbytes', cod0_4, Y₁.method', hret']
  intro acts''
  rw [hleave { method := ⟨Γ.2 14, 1⟩, pc := 4, locals := #[.val (.ref b), .val (.ref ver)], stack := [], locked := none } acts'' rfl rfl rfl]
  exact Steps.refl _

end LM
