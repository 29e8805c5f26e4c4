set_option maxRecDepth 100000
/-! lambda objects: what the tables say of them -/
theorem lm_own {vm : Vm} {c i : Nat} {name desc : String} {ck : Class} (e : Setting) (hc : vm.classes[c]? = some ck) (hitf : ck.isInterface = false) (hpoly : ∀ y, signaturePolymorphic ck y = false) (hi : ck.findMethod name desc = some i) :
    (methodIn c name desc false none).Gives e vm (.ok ⟨c, i⟩) vm := by
  unfold methodIn
  refine (getClass_gives e hc).bind ?_
  have hany : ∀ j : Nat, Option.any (signaturePolymorphic ck) ck.methods[j]? = false := fun j => by cases ck.methods[j]? <;> simp [hpoly]
  have hlook : lookupInSuperclasses vm name desc (vm.classes.size + 1) c = some ⟨c, i⟩ := by simp [lookupInSuperclasses, hc, hi]
  have hor : ∀ (x : MethodId) (y : Option MethodId), (some x <|> y) = some x := fun _ _ => rfl
  simp only [hitf, bne_self_eq_false, Bool.false_eq_true, if_false, hany]
  generalize (List.filter (fun i => Option.any (fun x => x.name == name) ck.methods[i]?) (List.range ck.methods.size)) = L
  rcases L with _ | ⟨j, _ | ⟨j', L⟩⟩ <;>
  · simp only [Option.isSome_none, Option.isNone_none, Bool.false_eq_true, if_false, Bool.and_self, if_true]
    refine VmM.Gives.getVm.bind ?_
    simp only [hlook, hor]
    refine (getEnv_gives e vm).bind ?_
    refine (getClass_gives e hc).bind ?_
    exact (VmM.Gives.mark _).bind (.pure _)
theorem lm_ask {α : Type} {x : VmM α} {e : Setting} {vm vm' : Vm} {r : Except LinkFail α} (h : x.Gives e vm r vm') : (x.ask e vm).1 = r := by
  obtain ⟨ms', h1⟩ := h []
  unfold VmM.ask
  rw [h1]
def lmD (σ : Lambda.Shape) : ClassFile := (σ.file "Backdater").getD { minorVersion := 0, majorVersion := 0, constantPool := #[], accessFlags := 0, thisClass := 0, superClass := 0, interfaces := #[], fields := #[], methods := #[], attributes := #[] }
def lmF (σ : Lambda.Shape) : Method := ((layoutMethods (lmD σ)).bind (·[1]?)).getD default
def lmL (σ : Lambda.Shape) : Array Field × Array FieldType × Array FieldType := (layoutFields (lmD σ) 0).getD (#[], #[], #[])
theorem lm_made {e : Setting} {vm : Vm} {d c : ClassId} {dk : Class} {σ : Lambda.Shape} {code : ByteArray} {iM ci nt u8 : Nat}
    (hF : (σ.file "Backdater").isSome = true) (hM2 : ((layoutMethods (lmD σ)).bind (·[1]?)).isSome = true) (hL2 : (layoutFields (lmD σ) 0).isSome = true)
    (f_code : ((lmF σ).code.map fun c => (c.code.data, c.maxLocals)) = some (code.data, 2)) (f_flags : ((lmF σ).accessFlags, (lmF σ).name, (lmF σ).sig.returnType) = (0x0001, "lay", none))
    (hcls : σ.implClass = "Backdater") (hitf0 : σ.implItf = false)
    (eM : (lmD σ).constantPool[iM]? = some (.methodref ci nt) ∧ (lmD σ).constantPool.className? ci = some "Backdater" ∧ (lmD σ).constantPool.nameAndType? nt = some (σ.implName, σ.implDesc.toString))
    (eC : (lmD σ).constantPool[ci]? = some (.class_ u8) ∧ (lmD σ).constantPool.string? u8 = some "Backdater" ∧ ci ≠ (lmD σ).thisClass)
    (hd : vm.classes[d]? = some dk) (hname : dk.name = "Backdater") (h : Lambda.isMade e vm d σ c = true)
    (hO : ∀ o ok, vm.findClass "java/lang/Object" = some o → vm.classes[o]? = some ok → ok.instanceTypes = #[]) :
    ∃ (k tk : Class) (file : ClassFile) (methk : Method) (ck : Code) (toy iface : ClassId) (t found : MethodId),
      vm.classes[c]? = some k ∧ k.name = "Backdater$$Lambda" ∧ k.cf = some file ∧ file.constantPool = (lmD σ).constantPool ∧
      vm.method? ⟨c, 1⟩ = some methk ∧ methk.code = some ck ∧ ck.code = code ∧ ck.maxLocals = 2 ∧ methk.locks = false ∧ methk.accessFlags = 0x0001 ∧ methk.sig.returnType = none ∧
      vm.findClass "Backdater" = some toy ∧ vm.classes[toy]? = some tk ∧ tk.isInterface = false ∧ ((methodIn toy σ.implName σ.implDesc.toString tk.isInterface none).ask e vm).1 = .ok t ∧
      vm.methodReady c iM t ∧ vm.classReady c ci toy ∧ k.instanceTypes = (lmL σ).2.1 ∧
      (∀ (iF ntF j : Nat) (nmF dsF : String) (f : Field), (lmD σ).constantPool[iF]? = some (.fieldref 2 ntF) → (lmD σ).constantPool.nameAndType? ntF = some (nmF, dsF) → (lmL σ).1.findIdx? (·.name == nmF) = some j → (lmL σ).1[j]? = some f → vm.fieldReady c iF c f) ∧
      vm.findClass σ.iface = some iface ∧ ((methodIn iface σ.name σ.sam.toString true none).ask e vm).1 = .ok found ∧ selectMethod {} vm c found = .method ⟨c, 1⟩ ∧ k.kind = .ordinary := by
  have file_is : σ.file "Backdater" = some (lmD σ) := by
    obtain ⟨x, hx⟩ := Option.isSome_iff_exists.mp hF
    simp [lmD, hx]
  have second_is : ∀ ms, layoutMethods (lmD σ) = some ms → ms[1]? = some (lmF σ) := by
    intro ms hms
    obtain ⟨x, hx⟩ := Option.isSome_iff_exists.mp hM2
    have hf : lmF σ = x := by simp [lmF, hx]
    rw [hms] at hx
    rw [hf]
    exact hx
  have laid_is : layoutFields (lmD σ) 0 = some (lmL σ) := by
    obtain ⟨x, hx⟩ := Option.isSome_iff_exists.mp hL2
    simp [lmL, hx]
  obtain ⟨dk', k, ok, tk, file, cf, object, iface, toy, lay, methods, target, found, hd', hk, hfile, hcf, hobj, hif, hok, hlay, hms, ht, htk, hg, hfound, hrec, -, -, -, hitf, hpool, hmeth, hfields, hit, hres, hsel⟩ := Lambda.isMade_spec h
  cases hd.symm.trans hd'
  rw [hname, file_is] at hcf
  cases hcf
  have hO1 := hO object ok hobj hok
  rw [hO1] at hlay
  rw [show (#[] : Array FieldType).size = 0 from rfl, laid_is] at hlay
  cases hlay
  rw [hcls] at ht
  rw [hitf0] at hitf
  obtain ⟨b, hb, hsame⟩ := hmeth 1 (lmF σ) (second_is methods hms)
  simp only [Lambda.sameMethod, Bool.and_eq_true, decide_eq_true_eq] at hsame
  obtain ⟨⟨hn, -, hsig, hfl⟩, hcode⟩ := hsame
  have fc := f_code
  have ff := f_flags
  simp only [Prod.mk.injEq] at ff
  cases hfc : (lmF σ).code with
  | none => rw [hfc] at fc; cases fc
  | some x =>
    cases hbc : b.code with
    | none => simp [hfc, hbc] at hcode
    | some y =>
      simp only [hfc, hbc, Bool.and_eq_true, decide_eq_true_eq] at hcode
      simp only [hfc, Option.map_some, Option.some.injEq, Prod.mk.injEq] at fc
      refine ⟨k, tk, file, b, y, toy, iface, target, found, hk, by rw [hrec.1, hname]; rfl, hfile, hpool.2.1, by simp [Vm.method?, hk, hb], hbc, ?_, by rw [← hcode.1.1.1.1.2.1]; exact fc.2, ?_, by rw [← hfl]; exact ff.1, by rw [← hsig]; exact ff.2.2, ht, htk, hitf, hg,
        ⟨k, hk, hres iM _ (Lambda.resolvedOf_method eM.1 eM.2.1 ht htk eM.2.2 hg)⟩, ⟨k, hk, hres ci _ (Lambda.resolvedOf_class eC.1 eC.2.2 eC.2.1 ht)⟩, ?_, fun iF ntF j nmF dsF f h1 h2 h3 h4 => ⟨k, j, k, hk, hres iF _ (Lambda.resolvedOf_field h1 h2 h3), hk, hfields j _ h4⟩, hif, hfound, hsel, hrec.2.1⟩
      · rw [← hcode.1.1.1.1.2.2]
        exact ByteArray.ext fc.1
      · simp [Method.locks, Method.isSynchronized, ← hfl, ff.1, hasFlag, Acc.synchronized]
      · rw [hit.1, hO1]; simp
def cod2 : ByteArray := ⟨#[42, 180, 0, 16, 42, 180, 0, 18, 43, 184, 0, 26, 177]⟩
def cod0 : ByteArray := ⟨#[43, 184, 0, 17, 177]⟩
theorem cod2_0 : decode cod2 0 = .ok (.aload_n 0, 1) := by decide +kernel
theorem cod2_1 : decode cod2 1 = .ok (.getfield 16, 3) := by decide +kernel
theorem cod2_4 : decode cod2 4 = .ok (.aload_n 0, 1) := by decide +kernel
theorem cod2_5 : decode cod2 5 = .ok (.getfield 18, 3) := by decide +kernel
theorem cod2_8 : decode cod2 8 = .ok (.aload_n 1, 1) := by decide +kernel
theorem cod2_9 : decode cod2 9 = .ok (.invokestatic 26, 3) := by decide +kernel
theorem cod2_12 : decode cod2 12 = .ok (.return_, 1) := by decide +kernel
theorem cod0_0 : decode cod0 0 = .ok (.aload_n 1, 1) := by decide +kernel
theorem cod0_1 : decode cod0 1 = .ok (.invokestatic 17, 3) := by decide +kernel
theorem cod0_4 : decode cod0 4 = .ok (.return_, 1) := by decide +kernel

theorem lm1_a : (σ1.file "Backdater").isSome = true := by decide +kernel
theorem lm1_b : ((layoutMethods (lmD σ1)).bind (·[1]?)).isSome = true := by decide +kernel
theorem lm1_c : (layoutFields (lmD σ1) 0).isSome = true := by decide +kernel
theorem lm1_d : ((lmF σ1).code.map fun c => (c.code.data, c.maxLocals)) = some (cod2.data, 2) := by decide +kernel
theorem lm1_e : ((lmF σ1).accessFlags, (lmF σ1).name, (lmF σ1).sig.returnType) = (0x0001, "lay", none) := by decide +kernel
theorem lm1_f : (lmD σ1).constantPool[26]? = some (.methodref 22 25) ∧ (lmD σ1).constantPool.className? 22 = some "Backdater" ∧ (lmD σ1).constantPool.nameAndType? 25 = some (σ1.implName, σ1.implDesc.toString) := by decide +kernel
theorem lm1_g : (lmD σ1).constantPool[22]? = some (.class_ 21) ∧ (lmD σ1).constantPool.string? 21 = some "Backdater" ∧ 22 ≠ (lmD σ1).thisClass := by decide +kernel
theorem lm1_h : (lmD σ1).constantPool[16]? = some (.fieldref 2 15) ∧ (lmD σ1).constantPool.nameAndType? 15 = some ("arg$1", "I") ∧ (lmL σ1).1.findIdx? (·.name == "arg$1") = some 0 ∧ ((lmL σ1).1[0]?).map (fun f => (f.isStatic, f.slot)) = some (false, 0) := by decide +kernel
theorem lm1_i : (lmD σ1).constantPool[18]? = some (.fieldref 2 17) ∧ (lmD σ1).constantPool.nameAndType? 17 = some ("arg$2", "I") ∧ (lmL σ1).1.findIdx? (·.name == "arg$2") = some 1 ∧ ((lmL σ1).1[1]?).map (fun f => (f.isStatic, f.slot)) = some (false, 1) := by decide +kernel
theorem lm1_j : (lmL σ1).2.1 = #[.int, .int] := by decide +kernel
theorem lm2_a : (σ2.file "Backdater").isSome = true := by decide +kernel
theorem lm2_b : ((layoutMethods (lmD σ2)).bind (·[1]?)).isSome = true := by decide +kernel
theorem lm2_c : (layoutFields (lmD σ2) 0).isSome = true := by decide +kernel
theorem lm2_d : ((lmF σ2).code.map fun c => (c.code.data, c.maxLocals)) = some (cod2.data, 2) := by decide +kernel
theorem lm2_e : ((lmF σ2).accessFlags, (lmF σ2).name, (lmF σ2).sig.returnType) = (0x0001, "lay", none) := by decide +kernel
theorem lm2_f : (lmD σ2).constantPool[26]? = some (.methodref 22 25) ∧ (lmD σ2).constantPool.className? 22 = some "Backdater" ∧ (lmD σ2).constantPool.nameAndType? 25 = some (σ2.implName, σ2.implDesc.toString) := by decide +kernel
theorem lm2_g : (lmD σ2).constantPool[22]? = some (.class_ 21) ∧ (lmD σ2).constantPool.string? 21 = some "Backdater" ∧ 22 ≠ (lmD σ2).thisClass := by decide +kernel
theorem lm2_h : (lmD σ2).constantPool[16]? = some (.fieldref 2 15) ∧ (lmD σ2).constantPool.nameAndType? 15 = some ("arg$1", "I") ∧ (lmL σ2).1.findIdx? (·.name == "arg$1") = some 0 ∧ ((lmL σ2).1[0]?).map (fun f => (f.isStatic, f.slot)) = some (false, 0) := by decide +kernel
theorem lm2_i : (lmD σ2).constantPool[18]? = some (.fieldref 2 17) ∧ (lmD σ2).constantPool.nameAndType? 17 = some ("arg$2", "I") ∧ (lmL σ2).1.findIdx? (·.name == "arg$2") = some 1 ∧ ((lmL σ2).1[1]?).map (fun f => (f.isStatic, f.slot)) = some (false, 1) := by decide +kernel
theorem lm2_j : (lmL σ2).2.1 = #[.int, .int] := by decide +kernel
theorem lm3_a : (σ3.file "Backdater").isSome = true := by decide +kernel
theorem lm3_b : ((layoutMethods (lmD σ3)).bind (·[1]?)).isSome = true := by decide +kernel
theorem lm3_c : (layoutFields (lmD σ3) 0).isSome = true := by decide +kernel
theorem lm3_d : ((lmF σ3).code.map fun c => (c.code.data, c.maxLocals)) = some (cod0.data, 2) := by decide +kernel
theorem lm3_e : ((lmF σ3).accessFlags, (lmF σ3).name, (lmF σ3).sig.returnType) = (0x0001, "lay", none) := by decide +kernel
theorem lm3_f : (lmD σ3).constantPool[17]? = some (.methodref 14 16) ∧ (lmD σ3).constantPool.className? 14 = some "Backdater" ∧ (lmD σ3).constantPool.nameAndType? 16 = some (σ3.implName, σ3.implDesc.toString) := by decide +kernel
theorem lm3_g : (lmD σ3).constantPool[14]? = some (.class_ 13) ∧ (lmD σ3).constantPool.string? 13 = some "Backdater" ∧ 14 ≠ (lmD σ3).thisClass := by decide +kernel
theorem lm4_a : (σ4.file "Backdater").isSome = true := by decide +kernel
theorem lm4_b : ((layoutMethods (lmD σ4)).bind (·[1]?)).isSome = true := by decide +kernel
theorem lm4_c : (layoutFields (lmD σ4) 0).isSome = true := by decide +kernel
theorem lm4_d : ((lmF σ4).code.map fun c => (c.code.data, c.maxLocals)) = some (cod0.data, 2) := by decide +kernel
theorem lm4_e : ((lmF σ4).accessFlags, (lmF σ4).name, (lmF σ4).sig.returnType) = (0x0001, "lay", none) := by decide +kernel
theorem lm4_f : (lmD σ4).constantPool[17]? = some (.methodref 14 16) ∧ (lmD σ4).constantPool.className? 14 = some "Backdater" ∧ (lmD σ4).constantPool.nameAndType? 16 = some (σ4.implName, σ4.implDesc.toString) := by decide +kernel
theorem lm4_g : (lmD σ4).constantPool[14]? = some (.class_ 13) ∧ (lmD σ4).constantPool.string? 13 = some "Backdater" ∧ 14 ≠ (lmD σ4).thisClass := by decide +kernel
