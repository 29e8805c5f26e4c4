/-! the heap as a ghost map with tags; what a run knows; rows over the map -/
set_option maxRecDepth 100000
def gu (G : GH) (a : Nat) (x : gE) : GH := fun b => if b = a then some x else G b
theorem gu_s (G : GH) (a : Nat) (x : gE) : gu G a x a = some x := by simp [gu]
theorem gu_n {G : GH} {a b : Nat} {x : gE} (h : b ≠ a) : gu G a x b = G b := by simp [gu, h]
theorem g_ne {G : GH} {a b : Nat} {y z : gE} (hb : G b = some y) (ha : G a = some z) (h : y.1 ≠ z.1) : b ≠ a := by
  intro e
  subst e
  cases hb.symm.trans ha
  exact h rfl
theorem fne {G : GH} {a b : Nat} {y : gE} (hb : G b = some y) (ha : G a = none) : b ≠ a := fun e => by subst e; rw [ha] at hb; cases hb
theorem gu_t {G : GH} {a b : Nat} {x y z : gE} (hb : G b = some y) (ha : G a = some z) (h : y.1 ≠ z.1) : gu G a x b = some y := by
  rw [gu_n (g_ne hb ha h)]; exact hb
theorem gu_f {G : GH} {a b : Nat} {x y : gE} (hb : G b = some y) (ha : G a = none) : gu G a x b = some y := by
  rw [gu_n (fun e => by subst e; rw [ha] at hb; cases hb)]; exact hb
theorem gu_ff {G : GH} {a b : Nat} {x : gE} (hb : G b = none) (h : b ≠ a) : gu G a x b = none := by
  rw [gu_n h]; exact hb
/-- what is there stays, but for the tags in S -/
def gK (S : Nat × Nat → Prop) (G G1 : GH) : Prop := ∀ (a : Nat) (x : gE), G a = some x → ¬ S x.1 → G1 a = some x
theorem gK.rf {S : Nat × Nat → Prop} {G : GH} : gK S G G := fun _ _ h _ => h
theorem gK.tr {S : Nat × Nat → Prop} {G G1 G2 : GH} (h1 : gK S G G1) (h2 : gK S G1 G2) : gK S G G2 := fun a x h n => h2 a x (h1 a x h n) n
theorem gK.mono {S S1 : Nat × Nat → Prop} {G G1 : GH} (h : gK S G G1) (hs : ∀ t, S t → S1 t) : gK S1 G G1 := fun a x e n => h a x e (fun z => n (hs _ z))
theorem gK.put {S : Nat × Nat → Prop} {G : GH} {a : Nat} {x z : gE} (ha : G a = some z) (hS : S z.1) : gK S G (gu G a x) := fun b y hb n => gu_t hb ha (fun e => n (by rw [e]; exact hS))
theorem gK.new {S : Nat × Nat → Prop} {G : GH} {a : Nat} {x : gE} (ha : G a = none) : gK S G (gu G a x) := fun _ _ hb _ => gu_f hb ha
theorem gK.pt {S : Nat × Nat → Prop} {G G1 : GH} {a : Nat} {x z : gE} (e : G1 = gu G a x) (ha : G a = some z) (hS : S z.1) : gK S G G1 := by rw [e]; exact gK.put ha hS
theorem gK.nw {S : Nat × Nat → Prop} {G G1 : GH} {a : Nat} {x : gE} (e : G1 = gu G a x) (ha : G a = none) : gK S G G1 := by rw [e]; exact gK.new ha
def gA (Γ : GP) : Nat → Prop := fun q => Γ.2 0 ≤ q
def TYS (Γ : GP) : List (ClassId × FieldType) := [(Γ.2 1, .int), (Γ.2 2, .boolean), (Γ.2 3, .long), (Γ.2 4, .object "java/lang/Object")]
def Rep (Γ : GP) (G : GH) (H : Heap) : Prop := ∀ (a : Nat) (x : gE), G a = some x → va_at Γ.1 CL (a, x.2) H ∧ (x.1.1 < 50 → gA Γ a)
theorem Rep.one {Γ : GP} {G : GH} {H : Heap} (h : Rep Γ G H) {a : Nat} {t : Nat × Nat} {e : va_E} (ha : G a = some (t, e)) : va_P Γ.1 CL [(a, e)] H := by
  intro k q hk
  match k, hk with
  | 0, hk => cases hk; exact (h a (t, e) ha).1
  | k + 1, hk => simp at hk
theorem Rep.lt {Γ : GP} {G : GH} {H : Heap} (h : Rep Γ G H) {a : Nat} {x : gE} (ha : G a = some x) : a < H.size := (h a x ha).1.lt
theorem Rep.none {Γ : GP} {G : GH} {H : Heap} (h : Rep Γ G H) : G H.size = none := by
  cases hx : G H.size with
  | none => rfl
  | some x => exact absurd (h.lt hx) (Nat.lt_irrefl _)
theorem Rep.put {Γ : GP} {G : GH} {H H1 : Heap} (h : Rep Γ G H) {a : Nat} {t : Nat × Nat} {e0 e : va_E} (ha : G a = some (t, e0)) (he : va_at Γ.1 CL (a, e) H1) (oq : ∀ q : Nat, q ≠ a → H1[q]? = H[q]?) : Rep Γ (gu G a (t, e)) H1 := by
  intro b x hb
  by_cases hba : b = a
  · subst hba
    rw [gu_s] at hb
    cases hb
    exact ⟨he, (h b _ ha).2⟩
  · rw [gu_n hba] at hb
    exact ⟨(h b x hb).1.kept (oq b hba), (h b x hb).2⟩
theorem Rep.push {Γ : GP} {G : GH} {H H1 : Heap} (h : Rep Γ G H) {x : gE} (he : va_at Γ.1 CL (H.size, x.2) H1) (oq : ∀ q : Nat, q < H.size → H1[q]? = H[q]?) (hb : gA Γ H.size) : Rep Γ (gu G H.size x) H1 := by
  intro b y hy
  by_cases hba : b = H.size
  · subst hba
    rw [gu_s] at hy
    cases hy
    exact ⟨he, fun _ => hb⟩
  · rw [gu_n hba] at hy
    exact ⟨(h b y hy).1.kept (oq b (h.lt hy)), (h b y hy).2⟩
theorem Rep.sub {Γ : GP} {G G1 : GH} {H : Heap} (h : Rep Γ G H) (hs : ∀ a x, G1 a = some x → G a = some x) : Rep Γ G1 H := fun a x e => h a x (hs a x e)
/-! what a run knows -/
def kwOk : Cond → Bool
  | .castable _ _ => true
  | .declares _ => true
  | .fieldLinkNest _ _ _ _ _ _ => true
  | .methodLinkNest _ _ _ _ => true
  | .arrayOver (.object _) => true
  | _ => false
theorem NW_ok : NW.all kwOk = true := by decide +kernel
theorem kw_warm {u U : State} (hW : u.WarmedH U.vm) : ∀ (w : Cond), kwOk w = true → va_Nw w u → va_Nw w U
  | .castable _ _, _, hZ => va_Nw.warmC hW hZ
  | .declares _, _, hZ => va_Nw.warmD hW hZ
  | .fieldLinkNest _ _ _ _ _ _, _, hZ => va_Nw.warmF hW hZ
  | .methodLinkNest _ _ _ _, _, hZ => va_Nw.warmM hW hZ
  | .arrayOver (.object _), _, hZ => va_AO.moved hW.alike hZ
/-- a lambda's site, linked: its class, or its one object -/
def LK (x : MethodName) (pc index : Nat) (σ : Lambda.Shape) (cL : ClassId) (one : Option Nat) (U : State) : Prop :=
  ∃ (m : MethodId) (k : Class) (cf : ClassFile) (i0 p0 : Nat) (lk : Linked), U.methodNamed? x = some m ∧ U.vm.classes[m.cls]? = some k ∧ k.cf = some cf ∧ Lambda.shapeOf? cf index = some σ ∧
    (k.callSites.find? fun y => y.1 == m.idx && y.2.1 == pc) = some (i0, p0, lk) ∧ Lambda.isMade { classPath := fun _ => none } U.vm m.cls σ cL = true ∧ U.lambdaCallable σ cL = true ∧
    ((∃ a, lk = .constant a ∧ one = some a) ∨ (lk = .makes cL ∧ one = none))
theorem LK.warm {x : MethodName} {pc index : Nat} {σ : Lambda.Shape} {cL : ClassId} {one : Option Nat} {u U : State} (hW : u.WarmedH U.vm) (h : LK x pc index σ cL one u) : LK x pc index σ cL one U := by
  obtain ⟨m, k, cf, i0, p0, lk, hm, hk, hcf, hsh, hfind, hmade, hcall, hl⟩ := h
  obtain ⟨k', hk', he⟩ := hW.alike.2.2 _ _ hk
  have hm' : U.methodNamed? x = some m := by
    have := State.methodNamed?_setVm (s := u) hW.alike x
    rw [hm] at this
    exact this
  have hcall' : U.lambdaCallable σ cL = true := by
    have hA := hW.alike
    simp only [State.lambdaCallable, hA.findClass, hA.assignable, hA.superclasses, hA.declaredIn] at hcall ⊢
    exact hcall
  exact ⟨m, k', cf, i0, p0, lk, hm', hk', by rw [he]; exact hcf, hsh, by rw [he]; exact hfind, Lambda.isMade_warmer hW hmade, hcall', hl⟩
def σ1 : Lambda.Shape := { iface := "Backdater$Effect", name := "lay", sam := ⟨[.object "Backdater$Version"], none⟩, captured := [.int, .int], kind := 6, implClass := "Backdater", implName := "lambda$change$0", implDesc := ⟨[.int, .int, .object "Backdater$Version"], none⟩, implItf := false, inst := ⟨[.object "Backdater$Version"], none⟩ }
def σ2 : Lambda.Shape := { iface := "Backdater$Effect", name := "lay", sam := ⟨[.object "Backdater$Version"], none⟩, captured := [.int, .int], kind := 6, implClass := "Backdater", implName := "lambda$add$1", implDesc := ⟨[.int, .int, .object "Backdater$Version"], none⟩, implItf := false, inst := ⟨[.object "Backdater$Version"], none⟩ }
def σ3 : Lambda.Shape := { iface := "Backdater$Effect", name := "lay", sam := ⟨[.object "Backdater$Version"], none⟩, captured := [], kind := 6, implClass := "Backdater", implName := "lambda$cancel$2", implDesc := ⟨[.object "Backdater$Version"], none⟩, implItf := false, inst := ⟨[.object "Backdater$Version"], none⟩ }
def σ4 : Lambda.Shape := { iface := "Backdater$Effect", name := "lay", sam := ⟨[.object "Backdater$Version"], none⟩, captured := [], kind := 6, implClass := "Backdater", implName := "lambda$reinstate$3", implDesc := ⟨[.object "Backdater$Version"], none⟩, implItf := false, inst := ⟨[.object "Backdater$Version"], none⟩ }
abbrev EFL : MethodName := ⟨"Backdater$Effect", "lay", "(LBackdater$Version;)V"⟩
def EFW (U : State) : Prop := va_Nw (.declares EFL) U ∧ va_Nw (.interfaceMethod "Backdater$Effect" "Backdater$Effect" "lay" "(LBackdater$Version;)V") U
theorem EFW.moved {u U : State} (hvm : u.vm.Alike U.vm) (h : EFW u) : EFW U := by
  obtain ⟨h1, h2⟩ := h
  obtain ⟨r, meth, hn, -⟩ := Cond.declares_spec h1
  have tr : ∀ {c : Cond}, c.onTables = true → c.before #[] (u.setVm U.vm) = true → c.before #[] U = true := by
    intro c hc h
    have e := Cond.onTables_vm (A := #[]) (A' := #[]) (U := u) (U' := U) U.vm c hc
    have hU : U.setVm U.vm = U := rfl
    rw [hU] at e
    rw [← e]
    exact h
  exact ⟨tr rfl (by rw [Cond.declares_setVm hvm]; exact h1), tr rfl (by rw [Cond.interfaceMethod_setVm hvm (r := r) hn (by decide)]; exact h2)⟩
def LKs (Γ : GP) (U : State) : Prop := LK yX1_change 27 101 σ1 (Γ.2 11) none U ∧ LK yX1_add 28 109 σ2 (Γ.2 12) none U ∧ LK yX1_cancel 7 110 σ3 (Γ.2 13) (some (Γ.2 15)) U ∧ LK yX1_reinstate 7 113 σ4 (Γ.2 14) (some (Γ.2 16)) U ∧ EFW U
/-- statics that nobody writes -/
def ZN (Γ : GP) (U : State) (H : Heap) : Prop :=
  va_Z "java/util/ArrayList" "DEFAULTCAPACITY_EMPTY_ELEMENTDATA" "[Ljava/lang/Object;" (.ref (Γ.2 5)) (gA Γ) U H ∧
  va_Z "java/lang/Integer$IntegerCache" "high" "I" (.int 127) (gA Γ) U H ∧
  va_Z "java/lang/Integer$IntegerCache" "cache" "[Ljava/lang/Integer;" (.ref (Γ.2 6)) (gA Γ) U H ∧
  va_T (.object "java/lang/Integer") (Γ.2 6) 256 (fun k => .ref (Γ.2 (1000 + k))) (gA Γ) U H ∧
  va_Z "java/util/TreeMap" "UNBOUNDED" "Ljava/lang/Object;" (.ref (Γ.2 7)) (gA Γ) U H ∧
  va_O "java/lang/Object" (Γ.2 7) (gA Γ) U H ∧
  vx_Zq Bundle.tN "UNASSIGNED_STACK" Bundle.steD (gA Γ) U H ∧ vx_Zq Bundle.tN "SUPPRESSED_SENTINEL" Bundle.listD (gA Γ) U H
theorem ZN.moved {Γ : GP} {u U : State} {H : Heap} (hvm : u.vm.Alike U.vm) (h : ZN Γ u H) : ZN Γ U H := by
  obtain ⟨h1, h2, h3, h4, h5, h6, h7, h8⟩ := h
  exact ⟨va_Z.moved hvm h1, va_Z.moved hvm h2, va_Z.moved hvm h3, va_T.moved hvm h4, va_Z.moved hvm h5, va_O.moved hvm h6, vx_Zq.moved hvm h7, vx_Zq.moved hvm h8⟩
theorem ZN.kept {Γ : GP} {U : State} {H H1 : Heap} (h : ZN Γ U H) (hq : ∀ a : Nat, a < H.size → ¬ gA Γ a → H1[a]? = H[a]?) : ZN Γ U H1 := by
  obtain ⟨h1, h2, h3, h4, h5, h6, h7, h8⟩ := h
  exact ⟨h1.kept hq, h2.kept hq, h3.kept hq, h4.kept hq, h5.kept hq, h6.kept hq, h7.kept hq, h8.kept hq⟩
def KN (Γ : GP) (U : State) (H : Heap) : Prop := va_K Γ.1 CL (TYS Γ) U ∧ (∀ w ∈ NW, va_Nw w U) ∧ (∀ q ∈ FW, va_Fw q.1 q.2.1 q.2.2 U) ∧ (∀ q ∈ NCL, va_Nc q.1 q.2 U) ∧ LKs Γ U ∧ va_Mi "[Ljava/lang/Object;" (Γ.2 8) U ∧ ZN Γ U H ∧ Γ.2 0 ≤ H.size
theorem KN.warm {Γ : GP} {u U : State} {H : Heap} (hW : u.WarmedH U.vm) (h : KN Γ u H) : KN Γ U H := by
  obtain ⟨h1, h2, h3, h4, h5, h6, h7, h8⟩ := h
  exact ⟨va_K.moved hW.alike h1, fun w hw => kw_warm hW w (List.all_eq_true.mp NW_ok w hw) (h2 w hw), fun q hq => va_Fw.moved (FW_mh q hq) hW.alike (h3 q hq), fun q hq => va_Nc.moved hW.alike (h4 q hq),
    ⟨h5.1.warm hW, h5.2.1.warm hW, h5.2.2.1.warm hW, h5.2.2.2.1.warm hW, EFW.moved hW.alike h5.2.2.2.2⟩, va_Mi.moved hW.alike h6, h7.moved hW.alike, h8⟩
theorem KN.kept {Γ : GP} {U : State} {H H1 : Heap} (h : KN Γ U H) (hz : H.size ≤ H1.size) (hq : ∀ a : Nat, a < H.size → ¬ gA Γ a → H1[a]? = H[a]?) : KN Γ U H1 := by
  obtain ⟨h1, h2, h3, h4, h5, h6, h7, h8⟩ := h
  exact ⟨h1, h2, h3, h4, h5, h6, h7.kept hq, Nat.le_trans h8 hz⟩
/-! the shape of the contracts -/
def Pg (Γ : GP) (G : GH) (As : List Value) : Array Value → State → Prop := va_Pc As (fun U => KN Γ U U.heap ∧ Rep Γ G U.heap)
abbrev GPost : Type := Option Value → GH → Prop
def Qg (Γ : GP) (post : GPost) : Array Value → State → Outcome → State → Prop := fun _ st oc t => (∃ (v : Option Value) (G1 : GH), oc = .returned v ∧ post v G1 ∧ Rep Γ G1 t.heap) ∧ va_F (gA Γ) st t
def XCg (Γ : GP) (px : String → GH → Prop) : String → State → State → Prop := fun E st t => (∃ G1 : GH, px E G1 ∧ Rep Γ G1 t.heap) ∧ va_F (gA Γ) st t
def MetG (l : Launch) (y : MethodName) (ws : List Cond) (rm : Room) (Γ : GP) (G : GH) (As : List Value) (post : GPost) (mc ms : Nat) : Prop := Met l y ws rm (Pg Γ G As) (Qg Γ post) mc ms (gA Γ)
def MetX (l : Launch) (y : MethodName) (ws : List Cond) (rm : Room) (Γ : GP) (G : GH) (As : List Value) (post : GPost) (px : String → GH → Prop) (mc ms : Nat) : Prop := vx_Met l y ws rm (Pg Γ G As) (Qg Γ post) (XCg Γ px) mc ms (gA Γ)
theorem Pg_blind {Γ : GP} {G : GH} {As : List Value} : FrameBlind (Pg Γ G As) := fun a U g mk q => ⟨q.1, KN.warm (u := U) (U := U.calling g mk a) (State.WarmedH.refl U) q.2.1, q.2.2⟩
theorem Pg_at {Γ : GP} {G : GH} {As : List Value} {s : State} {H : Heap} {locs : List Loc} (hK : KN Γ s s.heap) (hS : va_S (gA Γ) s.heap H locs) (hR : Rep Γ G H) : ∀ U : State, U.heap = H → s.WarmedH U.vm → Pg Γ G As As.toArray U :=
  fun U hU hW => ⟨rfl, by rw [hU]; exact (hK.warm hW).kept hS.1 hS.2.1, by rw [hU]; exact hR⟩
/-- the room of a method at depth d -/
def RM (d mc ms : Nat) : Room := { frames := d, cells := mc, slots := ms, locals := 4000 + 64 * d }
def Cx (p : Program) (s : State) (m : MethodId) (args : Array Value) (c : Code) (Γ : GP) (cc : ByteArray) (nL : Nat) (own : String) : Prop :=
  p.tables.exec = Jvm.exec ∧ c.code = cc ∧ c.maxLocals = nL ∧ s.vm.findClass own = some m.cls ∧ (∀ w ∈ lw_all, w.before args s = true) ∧ KN Γ s s.heap
theorem Cx.hx {p : Program} {s : State} {m : MethodId} {args : Array Value} {c : Code} {Γ : GP} {cc : ByteArray} {nL : Nat} {own : String} (X : Cx p s m args c Γ cc nL own) : p.tables.exec = Jvm.exec := X.1
theorem Cx.hb {p : Program} {s : State} {m : MethodId} {args : Array Value} {c : Code} {Γ : GP} {cc : ByteArray} {nL : Nat} {own : String} (X : Cx p s m args c Γ cc nL own) : c.code = cc := X.2.1
theorem Cx.hml {p : Program} {s : State} {m : MethodId} {args : Array Value} {c : Code} {Γ : GP} {cc : ByteArray} {nL : Nat} {own : String} (X : Cx p s m args c Γ cc nL own) : c.maxLocals = nL := X.2.2.1
theorem Cx.hown {p : Program} {s : State} {m : MethodId} {args : Array Value} {c : Code} {Γ : GP} {cc : ByteArray} {nL : Nat} {own : String} (X : Cx p s m args c Γ cc nL own) : s.vm.findClass own = some m.cls := X.2.2.2.1
theorem Cx.hts {p : Program} {s : State} {m : MethodId} {args : Array Value} {c : Code} {Γ : GP} {cc : ByteArray} {nL : Nat} {own : String} (X : Cx p s m args c Γ cc nL own) : ∀ w ∈ lw_all, w.before args s = true := X.2.2.2.2.1
theorem Cx.hN {p : Program} {s : State} {m : MethodId} {args : Array Value} {c : Code} {Γ : GP} {cc : ByteArray} {nL : Nat} {own : String} (X : Cx p s m args c Γ cc nL own) : KN Γ s s.heap := X.2.2.2.2.2
theorem Cx.hK {p : Program} {s : State} {m : MethodId} {args : Array Value} {c : Code} {Γ : GP} {cc : ByteArray} {nL : Nat} {own : String} (X : Cx p s m args c Γ cc nL own) : va_K Γ.1 CL (TYS Γ) s := X.2.2.2.2.2.1
theorem Cx.nw {p : Program} {s : State} {m : MethodId} {args : Array Value} {c : Code} {Γ : GP} {cc : ByteArray} {nL : Nat} {own : String} (X : Cx p s m args c Γ cc nL own) {w : Cond} (h : w ∈ NW) : va_Nw w s := X.2.2.2.2.2.2.1 w h
theorem Cx.fw {p : Program} {s : State} {m : MethodId} {args : Array Value} {c : Code} {Γ : GP} {cc : ByteArray} {nL : Nat} {own : String} (X : Cx p s m args c Γ cc nL own) {C : String} {x y : MethodName} (h : (C, x, y) ∈ FW) : va_Fw C x y s := X.2.2.2.2.2.2.2.1 (C, x, y) h
theorem Cx.nc {p : Program} {s : State} {m : MethodId} {args : Array Value} {c : Code} {Γ : GP} {cc : ByteArray} {nL : Nat} {own : String} (X : Cx p s m args c Γ cc nL own) {C T : String} (h : (C, T) ∈ NCL) : va_Nc C T s := X.2.2.2.2.2.2.2.2.1 (C, T) h
theorem Cx.lk {p : Program} {s : State} {m : MethodId} {args : Array Value} {c : Code} {Γ : GP} {cc : ByteArray} {nL : Nat} {own : String} (X : Cx p s m args c Γ cc nL own) : LKs Γ s := X.2.2.2.2.2.2.2.2.2.1
theorem Cx.mi {p : Program} {s : State} {m : MethodId} {args : Array Value} {c : Code} {Γ : GP} {cc : ByteArray} {nL : Nat} {own : String} (X : Cx p s m args c Γ cc nL own) : va_Mi "[Ljava/lang/Object;" (Γ.2 8) s := X.2.2.2.2.2.2.2.2.2.2.1
theorem Cx.hZ {p : Program} {s : State} {m : MethodId} {args : Array Value} {c : Code} {Γ : GP} {cc : ByteArray} {nL : Nat} {own : String} (X : Cx p s m args c Γ cc nL own) : ZN Γ s s.heap := X.2.2.2.2.2.2.2.2.2.2.2.1
theorem Cx.fix {p : Program} {s : State} {m : MethodId} {args : Array Value} {c : Code} {Γ : GP} {cc : ByteArray} {nL : Nat} {own : String} (X : Cx p s m args c Γ cc nL own) : CallFix p m c cc nL s args lw_all own := ⟨X.1, X.2.1, X.2.2.1, X.2.2.2.1, X.2.2.2.2.1⟩
theorem Cx.base {p : Program} {s : State} {m : MethodId} {args : Array Value} {c : Code} {Γ : GP} {cc : ByteArray} {nL : Nat} {own : String} (X : Cx p s m args c Γ cc nL own) {H : Heap} {locs : List Loc} (hS : va_S (gA Γ) s.heap H locs) : gA Γ H.size := Nat.le_trans X.2.2.2.2.2.2.2.2.2.2.2.2 hS.1
/-- a method that returns, from its first instruction -/
theorem gMet {l : Launch} {y : MethodName} {cc : ByteArray} {maxL : Nat} {ret : Option FieldType} {rm : Room} {Γ : GP} {G : GH} {As : List Value} {post : GPost} {mc ms : Nat} {own : String} (hy : plainName y.cls = true) (hyo : y.cls = own) (hn : (lg_sl As).length ≤ maxL)
    (body : ∀ (p : Program) (e : Env) (s : State) (m : MethodId) (below : List Frame) (meth : Method) (c : Code) (ls : Array Slot), Cx p s m As.toArray c Γ cc maxL own → meth.sig.returnType = ret → meth.locks = false → meth.name = y.name → s.methodNamed? y = some m → Rep Γ G s.heap → va_S (gA Γ) s.heap s.heap [] → lv_has ls maxL (lv_args 0 As) →
      W p l e rm s m As.toArray below meth c s.heap [] 0 0 (MQ below (Qg Γ post) As.toArray s mc ms (gA Γ)) (F0 m 0 ls [])) : MetG l y (ws_ y cc maxL ret) rm Γ G As post mc ms := by
  refine Met.ofW (cc := cc) (maxL := maxL) (ret := ret) hy rfl ?_
  intro p e s m args below meth c s₁ B hml hv
  obtain ⟨rfl, hN, hR⟩ := hv
  have hts := atoms_spec (ws := ws_ y cc maxL ret) B.pre
  have hts : ∀ w ∈ lw_all, w.before _ s = true := fun w h => hts w (List.mem_cons_of_mem _ h)
  have hown : s.vm.findClass own = some m.cls := hyo ▸ findClass_of_methodNamed B.named
  have hl := lv_entry As (n := maxL) hn
  rw [lg_entry_eq]
  exact body p e s m below meth c _ ⟨B.exec, B.bytes, hml, hown, hts, hN⟩ B.returns B.notSynchronized (name_of_methodNamed B.named B.method).1 B.named hR va_S.rf hl
/-- .. that may throw -/
theorem gMetX {l : Launch} {y : MethodName} {cc : ByteArray} {maxL : Nat} {ret : Option FieldType} {rm : Room} {Γ : GP} {G : GH} {As : List Value} {post : GPost} {px : String → GH → Prop} {mc ms : Nat} {own : String} (hy : plainName y.cls = true) (hyo : y.cls = own) (hn : (lg_sl As).length ≤ maxL)
    (body : ∀ (p : Program) (e : Env) (s : State) (m : MethodId) (below : List Frame) (meth : Method) (c : Code) (ls : Array Slot), Cx p s m As.toArray c Γ cc maxL own → meth.sig.returnType = ret → meth.locks = false → meth.name = y.name → s.methodNamed? y = some m → (∀ x ∈ c.exceptionTable.toList, False) → Rep Γ G s.heap → va_S (gA Γ) s.heap s.heap [] → lv_has ls maxL (lv_args 0 As) →
      W p l e rm s m As.toArray below meth c s.heap [] 0 0 (vx_MQ below (Qg Γ post) (XCg Γ px) As.toArray s mc ms (gA Γ)) (F0 m 0 ls [])) : MetX l y (ws_ y cc maxL ret) rm Γ G As post px mc ms := by
  refine vx_ofW (cc := cc) (maxL := maxL) (ret := ret) hy rfl ?_
  intro p e s m args below meth c s₁ B hml hxt hv
  obtain ⟨rfl, hN, hR⟩ := hv
  have hts := atoms_spec (ws := ws_ y cc maxL ret) B.pre
  have hts : ∀ w ∈ lw_all, w.before _ s = true := fun w h => hts w (List.mem_cons_of_mem _ h)
  have hown : s.vm.findClass own = some m.cls := hyo ▸ findClass_of_methodNamed B.named
  have hl := lv_entry As (n := maxL) hn
  rw [lg_entry_eq]
  exact body p e s m below meth c _ ⟨B.exec, B.bytes, hml, hown, hts, hN⟩ B.returns B.notSynchronized (name_of_methodNamed B.named B.method).1 B.named hxt hR va_S.rf hl
/-- .. with handlers -/
theorem gMetH {l : Launch} {y : MethodName} {cc : ByteArray} {maxL : Nat} {ret : Option FieldType} {hh : List (Nat × Nat × Nat × Nat)} {rm : Room} {Γ : GP} {G : GH} {As : List Value} {post : GPost} {px : String → GH → Prop} {mc ms : Nat} {own : String} (hy : plainName y.cls = true) (hyo : y.cls = own) (hn : (lg_sl As).length ≤ maxL)
    (body : ∀ (p : Program) (e : Env) (s : State) (m : MethodId) (below : List Frame) (meth : Method) (c : Code) (ls : Array Slot), Cx p s m As.toArray c Γ cc maxL own → meth.sig.returnType = ret → meth.locks = false → c.exceptionTable.toList = tableOf hh → Rep Γ G s.heap → va_S (gA Γ) s.heap s.heap [] → lv_has ls maxL (lv_args 0 As) →
      W p l e rm s m As.toArray below meth c s.heap [] 0 0 (vx_MQ below (Qg Γ post) (XCg Γ px) As.toArray s mc ms (gA Γ)) (F0 m 0 ls [])) : MetX l y (wsW_ y cc maxL ret hh) rm Γ G As post px mc ms := by
  refine vx_ofWH (cc := cc) (maxL := maxL) (ret := ret) (hh := hh) hy rfl ?_
  intro p e s m args below meth c s₁ B hml hv
  obtain ⟨rfl, hN, hR⟩ := hv
  have hts0 := atoms_spec (ws := wsW_ y cc maxL ret hh) B.pre
  have hts : ∀ w ∈ lw_all, w.before _ s = true := fun w h => hts0 w (List.mem_cons_of_mem _ h)
  have hown : s.vm.findClass own = some m.cls := hyo ▸ findClass_of_methodNamed B.named
  have hl := lv_entry As (n := maxL) hn
  rw [lg_entry_eq]
  exact body p e s m below meth c _ ⟨B.exec, B.bytes, hml, hown, hts, hN⟩ B.returns B.notSynchronized (vx_table (x := y) B (hts0 _ List.mem_cons_self)) hR va_S.rf hl
section GR
variable {p : Program} {l : Launch} {e : Env} {R : Room} {s : State} {m : MethodId} {args : Array Value} {below : List Frame} {meth : Method} {c : Code} {H : Heap} {locs : List Loc} {cells slots : Nat} {Q : State → Prop}
variable {cc : ByteArray} {pc nL : Nat} {ls : Array Slot} {rest st0 : List Value} {Γ : GP} {G : GH} {own : String} {a : Nat} {t : Nat × Nat} {post : GPost} {px : String → GH → Prop} {mc ms : Nat}
theorem g_get (X : Cx p s m args c Γ cc nL own) (hR : Rep Γ G H) {ci index : Nat} {fs : List Value} {C ref : String} {T : u_T} {N : Nat} (ha : G a = some (t, .inr (ci, fs))) (hc : CL[ci]? = some (C, T, N)) (hin : ∀ w ∈ u_ws C T N, w ∈ lw_all) (k : Nat) (hk : k < N)
    (hlink : Cond.fieldLink own index ref (T k).2.1 (T k).2.2.1 ∈ lw_all) (hsame : ∀ x, s.fieldFound? (T k).1 (T k).2.1 (T k).2.2.1 = some x → s.fieldFound? ref (T k).2.1 (T k).2.2.1 = some x) {v : Value} (hv : fs[k]? = some v) (hdg : decode cc pc = .ok (.getfield index, 3))
    (kk : W p l e R s m args below meth c H locs cells slots Q (F0 m (pc + 3) ls (v :: rest))) : W p l e R s m args below meth c H locs cells slots Q (F0 m pc ls (.ref a :: rest)) :=
  va_get X.hx X.hb X.hts hin X.hown X.hK (hR.one ha) 0 rfl hc k hk (X.hts _ hlink) hsame hv hdg kk
theorem g_getN (X : Cx p s m args c Γ cc nL own) (hR : Rep Γ G H) {ci index : Nat} {fs : List Value} {C ref host : String} {T : u_T} {N : Nat} (ha : G a = some (t, .inr (ci, fs))) (hc : CL[ci]? = some (C, T, N)) (hin : ∀ w ∈ u_ws C T N, w ∈ lw_all) (k : Nat) (hk : k < N)
    (hlink : Cond.fieldLinkNest own index ref (T k).2.1 (T k).2.2.1 host ∈ NW) (hsame : ∀ x, s.fieldFound? (T k).1 (T k).2.1 (T k).2.2.1 = some x → s.fieldFound? ref (T k).2.1 (T k).2.2.1 = some x) {v : Value} (hv : fs[k]? = some v) (hdg : decode cc pc = .ok (.getfield index, 3))
    (kk : W p l e R s m args below meth c H locs cells slots Q (F0 m (pc + 3) ls (v :: rest))) : W p l e R s m args below meth c H locs cells slots Q (F0 m pc ls (.ref a :: rest)) :=
  va_getN X.hx X.hb X.hts hin X.hown X.hK (hR.one ha) 0 rfl hc k hk (va_Nw.use rfl (X.nw hlink)) hsame hv hdg kk
theorem g_put (X : Cx p s m args c Γ cc nL own) (hR : Rep Γ G H) (hS : va_S (gA Γ) s.heap H locs) {ci index : Nat} {fs : List Value} {C ref : String} {T : u_T} {N : Nat} (ha : G a = some (t, .inr (ci, fs))) (ht : t.1 < 50) (hc : CL[ci]? = some (C, T, N)) (hin : ∀ w ∈ u_ws C T N, w ∈ lw_all)
    (ty0 : Nat → FieldType) (hty : ∀ k, k < N → parseFieldDescriptor (T k).2.2.1 = some (ty0 k)) (hnm : ∀ a, a < N → ∀ b, b < N → a ≠ b → (T a).2.1 ≠ (T b).2.1) (k : Nat) (hk : k < N)
    (hlink : Cond.fieldLink own index ref (T k).2.1 (T k).2.2.1 ∈ lw_all) (hsame : ∀ x, s.fieldFound? (T k).1 (T k).2.1 (T k).2.2.1 = some x → s.fieldFound? ref (T k).2.1 (T k).2.2.1 = some x) (hfin : (T k).2.2.2 = false) {v : Value} (hn : narrow (ty0 k) v = v) (hfit : fits (ty0 k) v = true) (hl : k < fs.length)
    (hdg : decode cc pc = .ok (.putfield index, 3)) (kk : ∀ (H1 : Heap) (locs1 : List Loc), Rep Γ (gu G a (t, .inr (ci, fs.set k v))) H1 → va_S (gA Γ) s.heap H1 locs1 → W p l e R s m args below meth c H1 locs1 cells slots Q (F0 m (pc + 3) ls rest)) : W p l e R s m args below meth c H locs cells slots Q (F0 m pc ls (v :: .ref a :: rest)) := by
  have hap := va_apart (own := own) X.hts hin ty0 hty hnm X.hK hc
  obtain ⟨r, h1, cell, q1, q2, q3, q4⟩ := (hR a _ ha).1
  have hr : r = (C, T, N) := Option.some.inj (h1.symm.trans hc)
  subst hr
  obtain ⟨hSl, hfc, kC, hkC, hkind⟩ := X.hK.1 ci _ hc
  obtain ⟨cf, kf, fi, f, hi, hsl⟩ := hSl k hk
  have hlay := X.hts _ (hin _ (u_in_lay hk))
  unfold u_lay at hlay
  rw [if_neg (by rw [hfin]; decide)] at hlay
  have hst := (u_facts hfc hkC (u_lays X.hts hin hk) hi).1
  have h6 := u_store hfc hkC hkind hlay hi (hty k hk) hn hfit
  refine W.putK X.hx X.hb (f := f) ⟨X.hown, X.hts _ hlink, ⟨_, _, _, hsame _ hi⟩, hst⟩ (by rw [q2]; exact h6) q1 q3 (by rw [hsl]; exact k2_hasslot (q4 k hk)) rfl rfl hdg fun H' e1 e2 e3 => ?_
  rw [hsl] at e1 ⊢
  exact kk H' _ (hR.put ha ⟨_, hc, t_OB.to (V := updV (vp_V fs) k v) ⟨_, e1, q2, q3, t_set q4 hap hk v⟩ (fun j _ => vp_updV_set hl v j)⟩ e3) (hS.put e2 e3 ((hR a _ ha).2 ht))
theorem g_putN (X : Cx p s m args c Γ cc nL own) (hR : Rep Γ G H) (hS : va_S (gA Γ) s.heap H locs) {ci index : Nat} {fs : List Value} {C ref host : String} {T : u_T} {N : Nat} (ha : G a = some (t, .inr (ci, fs))) (ht : t.1 < 50) (hc : CL[ci]? = some (C, T, N)) (hin : ∀ w ∈ u_ws C T N, w ∈ lw_all)
    (ty0 : Nat → FieldType) (hty : ∀ k, k < N → parseFieldDescriptor (T k).2.2.1 = some (ty0 k)) (hnm : ∀ a, a < N → ∀ b, b < N → a ≠ b → (T a).2.1 ≠ (T b).2.1) (k : Nat) (hk : k < N)
    (hlink : Cond.fieldLinkNest own index ref (T k).2.1 (T k).2.2.1 host ∈ NW) (hsame : ∀ x, s.fieldFound? (T k).1 (T k).2.1 (T k).2.2.1 = some x → s.fieldFound? ref (T k).2.1 (T k).2.2.1 = some x) (hfin : (T k).2.2.2 = false) {v : Value} (hn : narrow (ty0 k) v = v) (hfit : fits (ty0 k) v = true) (hl : k < fs.length)
    (hdg : decode cc pc = .ok (.putfield index, 3)) (kk : ∀ (H1 : Heap) (locs1 : List Loc), Rep Γ (gu G a (t, .inr (ci, fs.set k v))) H1 → va_S (gA Γ) s.heap H1 locs1 → W p l e R s m args below meth c H1 locs1 cells slots Q (F0 m (pc + 3) ls rest)) : W p l e R s m args below meth c H locs cells slots Q (F0 m pc ls (v :: .ref a :: rest)) := by
  have hap := va_apart (own := own) X.hts hin ty0 hty hnm X.hK hc
  obtain ⟨r, h1, cell, q1, q2, q3, q4⟩ := (hR a _ ha).1
  have hr : r = (C, T, N) := Option.some.inj (h1.symm.trans hc)
  subst hr
  obtain ⟨hSl, hfc, kC, hkC, hkind⟩ := X.hK.1 ci _ hc
  obtain ⟨cf, kf, fi, f, hi, hsl⟩ := hSl k hk
  have hlay := X.hts _ (hin _ (u_in_lay hk))
  unfold u_lay at hlay
  rw [if_neg (by rw [hfin]; decide)] at hlay
  have hst := (u_facts hfc hkC (u_lays X.hts hin hk) hi).1
  have h6 := u_store hfc hkC hkind hlay hi (hty k hk) hn hfit
  refine va_WputK X.hx X.hb (f := f) X.hown (va_Nw.use rfl (X.nw hlink)) (hsame _ hi) hst (by rw [q2]; exact h6) q1 q3 (by rw [hsl]; exact k2_hasslot (q4 k hk)) rfl rfl hdg fun H' e1 e2 e3 => ?_
  rw [hsl] at e1 ⊢
  exact kk H' _ (hR.put ha ⟨_, hc, t_OB.to (V := updV (vp_V fs) k v) ⟨_, e1, q2, q3, t_set q4 hap hk v⟩ (fun j _ => vp_updV_set hl v j)⟩ e3) (hS.put e2 e3 ((hR a _ ha).2 ht))
/-- a final field, in a constructor -/
theorem g_putF (X : Cx p s m args c Γ cc nL own) (hR : Rep Γ G H) (hS : va_S (gA Γ) s.heap H locs) {ci index : Nat} {fs : List Value} {C ref : String} {T : u_T} {N : Nat} (ha : G a = some (t, .inr (ci, fs))) (ht : t.1 < 50) (hc : CL[ci]? = some (C, T, N)) (hin : ∀ w ∈ u_ws C T N, w ∈ lw_all)
    (ty0 : Nat → FieldType) (hty : ∀ k, k < N → parseFieldDescriptor (T k).2.2.1 = some (ty0 k)) (hnm : ∀ a, a < N → ∀ b, b < N → a ≠ b → (T a).2.1 ≠ (T b).2.1) (k : Nat) (hk : k < N)
    (hlink : Cond.fieldLink own index ref (T k).2.1 (T k).2.2.1 ∈ lw_all) (hsame : ∀ x, s.fieldFound? (T k).1 (T k).2.1 (T k).2.2.1 = some x → s.fieldFound? ref (T k).2.1 (T k).2.2.1 = some x) (hfin : (T k).2.2.2 = true) (hin2 : meth.name = "<init>") (hdecl : (T k).1 = own) {v : Value} (hn : narrow (ty0 k) v = v) (hfit : fits (ty0 k) v = true) (hl : k < fs.length)
    (hdg : decode cc pc = .ok (.putfield index, 3)) (kk : ∀ (H1 : Heap) (locs1 : List Loc), Rep Γ (gu G a (t, .inr (ci, fs.set k v))) H1 → va_S (gA Γ) s.heap H1 locs1 → W p l e R s m args below meth c H1 locs1 cells slots Q (F0 m (pc + 3) ls rest)) : W p l e R s m args below meth c H locs cells slots Q (F0 m pc ls (v :: .ref a :: rest)) := by
  have hap := va_apart (own := own) X.hts hin ty0 hty hnm X.hK hc
  obtain ⟨r, h1, cell, q1, q2, q3, q4⟩ := (hR a _ ha).1
  have hr : r = (C, T, N) := Option.some.inj (h1.symm.trans hc)
  subst hr
  obtain ⟨hSl, hfc, kC, hkC, hkind⟩ := X.hK.1 ci _ hc
  obtain ⟨cf, kf, fi, f, hi, hsl⟩ := hSl k hk
  have hlay := X.hts _ (hin _ (u_in_lay hk))
  unfold u_lay at hlay
  rw [if_pos hfin] at hlay
  have hst := (u_facts hfc hkC (u_lays X.hts hin hk) hi).1
  have hcf : m.cls = cf := by
    obtain ⟨_, _, c', _, _, _, -, -, hf', -, -, -, hown2, -⟩ := Cond.laysFinal_spec hlay
    have e1 : c' = cf := by have := hi.symm.trans hf'; simp at this; exact this.1.symm
    rw [hdecl] at hown2
    rw [← e1]; exact Option.some.inj (X.hown.symm.trans hown2)
  have h6 := u_fits hfc hkC hkind (Or.inr hlay) hi (hty k hk) hn hfit
  refine W.putFinK X.hx X.hb X.hown (X.hts _ hlink) (hsame _ hi) hst hcf hin2 (by rw [q2]; exact h6) q1 q3 (by rw [hsl]; exact k2_hasslot (q4 k hk)) rfl rfl hdg fun H' e1 e2 e3 => ?_
  rw [hsl] at e1 ⊢
  exact kk H' _ (hR.put ha ⟨_, hc, t_OB.to (V := updV (vp_V fs) k v) ⟨_, e1, q2, q3, t_set q4 hap hk v⟩ (fun j _ => vp_updV_set hl v j)⟩ e3) (hS.put e2 e3 ((hR a _ ha).2 ht))
theorem g_new (X : Cx p s m args c Γ cc nL own) (hR : Rep Γ G H) (hS : va_S (gA Γ) s.heap H locs) (t : Nat × Nat) {ci index : Nat} {C : String} {T : u_T} {N : Nat} (hc : CL[ci]? = some (C, T, N)) (hin : ∀ w ∈ u_ws C T N, w ∈ lw_all) (ty : Nat → FieldType) (hty : ∀ k, k < N → parseFieldDescriptor (T k).2.2.1 = some (ty k))
    (hcl : Cond.classLink own index C ∈ lw_all) (hinst : Cond.instantiable C N ∈ lw_all) (hini : Cond.initialized C ∈ lw_all) {fs : List Value} (hfs : ∀ j, j < N → defaultValue (ty j) = vp_V fs j) (hcells : cells + 1 ≤ R.cells) (hslots : slots + N ≤ R.slots) (hdg : decode cc pc = .ok (.new index, 3))
    (kk : ∀ (q : Nat) (H1 : Heap), G q = none → Rep Γ (gu G q (t, .inr (ci, fs))) H1 → va_S (gA Γ) s.heap H1 locs → W p l e R s m args below meth c H1 locs (cells + 1) (slots + N) Q (F0 m (pc + 3) ls (.ref q :: rest))) : W p l e R s m args below meth c H locs cells slots Q (F0 m pc ls rest) := by
  have hKn := X.hK.1 ci _ hc
  refine W.newcK X.hx X.hb X.hown (X.hts _ hcl) (X.hts _ hinst) (X.hts _ hini) rfl hdg hcells hslots hKn.2.1 rfl fun H1 kC hkC e1 z1 o1 => ?_
  exact kk H.size H1 hR.none (hR.push ⟨_, hc, (u_born ty X.hts hin hKn hkC e1 hty).to hfs⟩ o1 (X.base hS)) ⟨Nat.le_trans hS.1 (by omega), fun x h1 h2 => (o1 x (Nat.lt_of_lt_of_le h1 hS.1)).trans (hS.2.1 x h1 h2), hS.2.2⟩
theorem g_newa (X : Cx p s m args c Γ cc nL own) (hR : Rep Γ G H) (hS : va_S (gA Γ) s.heap H locs) (t : Nat × Nat) {atype : ArrayType} (i : Nat) {cA : ClassId} {ty : FieldType} (harr : Cond.arrayClass (newarray.typeOf atype) ∈ lw_all) (hty : newarray.typeOf atype = ty) (hT : (TYS Γ)[i]? = some (cA, ty)) (hnm : ∀ c0 : ClassId, va_RA s c0 ty → s.vm.findClass ("[" ++ (newarray.typeOf atype).toString) = some c0)
    {n : Int32} {N : Nat} {a0 : vp_A} (ha : ∀ cA : ClassId, vp_cell cA a0 = arrV cA N (fun _ => defaultValue ty)) (hn : ¬ n < 0) (hN : n.toNatClampNeg = N) (hbytes : N * componentBytes ty ≤ 536870912) (hcells : cells + 1 ≤ R.cells) (hslots : slots + N ≤ R.slots) (hdg : decode cc pc = .ok (.newarray atype, 2))
    (kk : ∀ (q : Nat) (H1 : Heap), G q = none → Rep Γ (gu G q (t, .inl (cA, a0))) H1 → va_S (gA Γ) s.heap H1 locs → W p l e R s m args below meth c H1 locs (cells + 1) (slots + N) Q (F0 m (pc + 2) ls (.ref q :: rest))) : W p l e R s m args below meth c H locs cells slots Q (F0 m pc ls (.int n :: rest)) := by
  subst hty
  refine va_newaK X.hx X.hb (X.hts _ harr) rfl hdg rfl hn hN hbytes hcells hslots rfl fun H1 cA1 e1 z1 o1 hAr hNm => ?_
  have hcA : cA1 = cA := Option.some.inj (hNm.symm.trans (hnm cA (X.hK.2 i _ hT).2))
  subst hcA
  exact kk H.size H1 hR.none (hR.push (by show H1[H.size]? = some (vp_cell _ _); rw [ha]; exact e1) o1 (X.base hS)) ⟨Nat.le_trans hS.1 (by omega), fun x h1 h2 => (o1 x (Nat.lt_of_lt_of_le h1 hS.1)).trans (hS.2.1 x h1 h2), hS.2.2⟩
theorem g_newq (X : Cx p s m args c Γ cc nL own) (hR : Rep Γ G H) (hS : va_S (gA Γ) s.heap H locs) (t : Nat × Nat) {index : Nat} (hcl : Cond.classLink own index "java/lang/Object" ∈ lw_all)
    {n : Int32} {N : Nat} (hn : ¬ n < 0) (hN : n.toNatClampNeg = N) (hbytes : N * 4 ≤ 536870912) (hcells : cells + 1 ≤ R.cells) (hslots : slots + N ≤ R.slots) (hdg : decode cc pc = .ok (.anewarray index, 3))
    (kk : ∀ (q : Nat) (H1 : Heap), G q = none → Rep Γ (gu G q (t, .inl (Γ.2 4, N, .inr (.inr (.inr (.inr (fun _ => none))))))) H1 → va_S (gA Γ) s.heap H1 locs → W p l e R s m args below meth c H1 locs (cells + 1) (slots + N) Q (F0 m (pc + 3) ls (.ref q :: rest))) : W p l e R s m args below meth c H locs cells slots Q (F0 m pc ls (.int n :: rest)) := by
  subst hN
  refine W.anew X.hx X.hb X.hown (X.hts _ hcl) (va_AO.use (X.nw kq370)) rfl hdg rfl hn hbytes hcells hslots fun cA kA comp f1 f2 f3 f4 => ?_
  have hcA : cA = Γ.2 4 := by
    obtain ⟨-, -, -, -, -, h4⟩ := (X.hK.2 3 _ rfl).2
    exact Option.some.inj (f1.symm.trans h4)
  subst hcA
  generalize hH1 : H.push ({ cls := Γ.2 4, slots := Array.replicate n.toNatClampNeg .null, vm := .none } : Cell) = H1
  have z1 : H1.size = H.size + 1 := by rw [← hH1, Array.size_push]
  have e1 : H1[H.size]? = some (arrV (Γ.2 4) n.toNatClampNeg (fun _ => .null)) := by rw [← hH1, Array.getElem?_push_size, ← arrV_new]
  have o1 : ∀ q : Nat, q < H.size → H1[q]? = H[q]? := fun q hq => by rw [← hH1, Array.getElem?_push, if_neg (Nat.ne_of_lt hq)]
  exact kk H.size H1 hR.none (hR.push (by show H1[H.size]? = some (vp_cell _ _); rw [vp_cell_q]; exact e1) o1 (X.base hS)) ⟨Nat.le_trans hS.1 (by omega), fun x h1 h2 => (o1 x (Nat.lt_of_lt_of_le h1 hS.1)).trans (hS.2.1 x h1 h2), hS.2.2⟩
theorem g_alen (X : Cx p s m args c Γ cc nL own) (hR : Rep Γ G H) (i : Nat) {cA : ClassId} {x : vp_A} {ty : FieldType} (ha : G a = some (t, .inl (cA, x))) (hT : (TYS Γ)[i]? = some (cA, ty)) {v : Int32} (hv : Int32.ofNat x.1 = v) (hdg : decode cc pc = .ok (.arraylength, 1))
    (kk : W p l e R s m args below meth c H locs cells slots Q (F0 m (pc + 1) ls (.int v :: rest))) : W p l e R s m args below meth c H locs cells slots Q (F0 m pc ls (.ref a :: rest)) := va_alen X.hx X.hb X.hK (hR.one ha) 0 i rfl hT hv hdg kk
theorem g_iald (X : Cx p s m args c Γ cc nL own) (hR : Rep Γ G H) {n : Nat} {f : Nat → Int32} (ha : G a = some (t, .inl (Γ.2 1, n, .inl f))) {i : Int32} (hin : vp_in i n) {v : Int32} (hv : f i.toNatClampNeg = v) (hdg : decode cc pc = .ok (.iaload, 1))
    (kk : W p l e R s m args below meth c H locs cells slots Q (F0 m (pc + 1) ls (.int v :: rest))) : W p l e R s m args below meth c H locs cells slots Q (F0 m pc ls (.int i :: .ref a :: rest)) := by
  subst hv
  exact va_iald X.hx X.hb X.hK (hR.one ha) 0 0 rfl rfl hin hdg kk
theorem g_zald (X : Cx p s m args c Γ cc nL own) (hR : Rep Γ G H) {n : Nat} {f : Nat → Int32} (ha : G a = some (t, .inl (Γ.2 2, n, .inl f))) {i : Int32} (hin : vp_in i n) {v : Int32} (hv : f i.toNatClampNeg = v) (hdg : decode cc pc = .ok (.baload, 1))
    (kk : W p l e R s m args below meth c H locs cells slots Q (F0 m (pc + 1) ls (.int v :: rest))) : W p l e R s m args below meth c H locs cells slots Q (F0 m pc ls (.int i :: .ref a :: rest)) := by
  subst hv
  exact va_zald X.hx X.hb X.hK (hR.one ha) 0 1 rfl rfl hin hdg kk
theorem g_lald (X : Cx p s m args c Γ cc nL own) (hR : Rep Γ G H) {n : Nat} {f : Nat → Int64} (ha : G a = some (t, .inl (Γ.2 3, n, .inr (.inl f)))) {i : Int32} (hin : vp_in i n) {v : Int64} (hv : f i.toNatClampNeg = v) (hdg : decode cc pc = .ok (.laload, 1))
    (kk : W p l e R s m args below meth c H locs cells slots Q (F0 m (pc + 1) ls (.long v :: rest))) : W p l e R s m args below meth c H locs cells slots Q (F0 m pc ls (.int i :: .ref a :: rest)) := by
  subst hv
  exact va_lald X.hx X.hb X.hK (hR.one ha) 0 2 rfl rfl hin hdg kk
theorem g_aald (X : Cx p s m args c Γ cc nL own) (hR : Rep Γ G H) {n : Nat} {f : Nat → Option Nat} (ha : G a = some (t, .inl (Γ.2 4, n, .inr (.inr (.inr (.inr f)))))) {i : Int32} (hin : vp_in i n) {v : Value} (hv : va_rf (f i.toNatClampNeg) = v) (hdg : decode cc pc = .ok (.aaload, 1))
    (kk : W p l e R s m args below meth c H locs cells slots Q (F0 m (pc + 1) ls (v :: rest))) : W p l e R s m args below meth c H locs cells slots Q (F0 m pc ls (.int i :: .ref a :: rest)) := by
  subst hv
  exact va_aldq X.hx X.hb X.hK (hR.one ha) 0 3 rfl rfl hin hdg kk
theorem g_iast (X : Cx p s m args c Γ cc nL own) (hR : Rep Γ G H) (hS : va_S (gA Γ) s.heap H locs) {n : Nat} {f : Nat → Int32} (ha : G a = some (t, .inl (Γ.2 1, n, .inl f))) (ht : t.1 < 50) {i x : Int32} (hin : vp_in i n) (hdg : decode cc pc = .ok (.iastore, 1))
    (kk : ∀ (H1 : Heap) (locs1 : List Loc), Rep Γ (gu G a (t, .inl (Γ.2 1, n, .inl (upd f i.toNatClampNeg x)))) H1 → va_S (gA Γ) s.heap H1 locs1 → W p l e R s m args below meth c H1 locs1 cells slots Q (F0 m (pc + 1) ls rest)) : W p l e R s m args below meth c H locs cells slots Q (F0 m pc ls (.int x :: .int i :: .ref a :: rest)) := by
  have hlt : i.toNatClampNeg < n := Nat.not_le.mp fun q => hin (Or.inr q)
  refine W.iast X.hx X.hb (hR a _ ha).1 ((X.hK.2 0 _ rfl).1 n (fun j => .int (f j))) (fun q => by cases q) (by show ¬ (i < 0 ∨ (arrV _ _ _).slots.size ≤ _); rw [arrV_size]; exact hin) rfl rfl hdg fun H1 e z oq => ?_
  refine kk H1 _ (hR.put ha ?_ oq) (hS.put z oq ((hR a _ ha).2 ht))
  show H1[a]? = some (vp_cell _ _)
  rw [e]
  show some (Cell.setSlot (vp_cell _ _) _ _) = _
  rw [vp_cell_i, vp_cell_i, arrV_store]
  congr 2
  funext q
  by_cases hq : q = i.toNatClampNeg
  · subst hq
    simp [updV, upd]
  · simp [updV, upd, hq]
theorem g_zast (X : Cx p s m args c Γ cc nL own) (hR : Rep Γ G H) (hS : va_S (gA Γ) s.heap H locs) {n : Nat} {f : Nat → Int32} (ha : G a = some (t, .inl (Γ.2 2, n, .inl f))) (ht : t.1 < 50) {i x : Int32} (hnar : narrow .boolean (.int x) = .int x) (hin : vp_in i n) (hdg : decode cc pc = .ok (.bastore, 1))
    (kk : ∀ (H1 : Heap) (locs1 : List Loc), Rep Γ (gu G a (t, .inl (Γ.2 2, n, .inl (upd f i.toNatClampNeg x)))) H1 → va_S (gA Γ) s.heap H1 locs1 → W p l e R s m args below meth c H1 locs1 cells slots Q (F0 m (pc + 1) ls rest)) : W p l e R s m args below meth c H locs cells slots Q (F0 m pc ls (.int x :: .int i :: .ref a :: rest)) := by
  have hlt : i.toNatClampNeg < n := Nat.not_le.mp fun q => hin (Or.inr q)
  refine W.zast X.hx X.hb (hR a _ ha).1 ((X.hK.2 1 _ rfl).1 n (fun j => .int (f j))) (fun q => by cases q) (by show ¬ (i < 0 ∨ (arrV _ _ _).slots.size ≤ _); rw [arrV_size]; exact hin) rfl rfl hdg fun H1 e z oq => ?_
  refine kk H1 _ (hR.put ha ?_ oq) (hS.put z oq ((hR a _ ha).2 ht))
  show H1[a]? = some (vp_cell _ _)
  rw [e, hnar]
  show some (Cell.setSlot (vp_cell _ _) _ _) = _
  rw [vp_cell_i, vp_cell_i, arrV_store]
  congr 2
  funext q
  by_cases hq : q = i.toNatClampNeg
  · subst hq
    simp [updV, upd]
  · simp [updV, upd, hq]
theorem g_last (X : Cx p s m args c Γ cc nL own) (hR : Rep Γ G H) (hS : va_S (gA Γ) s.heap H locs) {n : Nat} {f : Nat → Int64} (ha : G a = some (t, .inl (Γ.2 3, n, .inr (.inl f)))) (ht : t.1 < 50) {i : Int32} {x : Int64} (hin : vp_in i n) (hdg : decode cc pc = .ok (.lastore, 1))
    (kk : ∀ (H1 : Heap) (locs1 : List Loc), Rep Γ (gu G a (t, .inl (Γ.2 3, n, .inr (.inl (vp_updL f i.toNatClampNeg x))))) H1 → va_S (gA Γ) s.heap H1 locs1 → W p l e R s m args below meth c H1 locs1 cells slots Q (F0 m (pc + 1) ls rest)) : W p l e R s m args below meth c H locs cells slots Q (F0 m pc ls (.long x :: .int i :: .ref a :: rest)) := by
  have hlt : i.toNatClampNeg < n := Nat.not_le.mp fun q => hin (Or.inr q)
  refine W.last X.hx X.hb (hR a _ ha).1 ((X.hK.2 2 _ rfl).1 n (fun j => .long (f j))) (fun q => by cases q) (by show ¬ (i < 0 ∨ (arrV _ _ _).slots.size ≤ _); rw [arrV_size]; exact hin) rfl rfl hdg fun H1 e z oq => ?_
  refine kk H1 _ (hR.put ha ?_ oq) (hS.put z oq ((hR a _ ha).2 ht))
  show H1[a]? = some (vp_cell _ _)
  rw [e]
  show some (Cell.setSlot (vp_cell _ _) _ _) = _
  rw [vp_cell_l, vp_cell_l, arrV_store]
  congr 2
  funext q
  by_cases hq : q = i.toNatClampNeg
  · subst hq
    simp [updV, vp_updL]
  · simp [updV, vp_updL, hq]
/-- any object of the world goes into an array of Objects -/
theorem g_aast (X : Cx p s m args c Γ cc nL own) (hR : Rep Γ G H) (hS : va_S (gA Γ) s.heap H locs) {n v ci : Nat} {f : Nat → Option Nat} {tv : Nat × Nat} {vs : List Value} {r : vw_C} (ha : G a = some (t, .inl (Γ.2 4, n, .inr (.inr (.inr (.inr f)))))) (ht : t.1 < 50) (hv : G v = some (tv, .inr (ci, vs))) (hc : CL[ci]? = some r) (hca : Cond.castable r.1 "java/lang/Object" ∈ NW) {i : Int32} (hin : vp_in i n) (hdg : decode cc pc = .ok (.aastore, 1))
    (kk : ∀ (H1 : Heap) (locs1 : List Loc), Rep Γ (gu G a (t, .inl (Γ.2 4, n, .inr (.inr (.inr (.inr (va_up f i.toNatClampNeg (some v)))))))) H1 → va_S (gA Γ) s.heap H1 locs1 → W p l e R s m args below meth c H1 locs1 cells slots Q (F0 m (pc + 1) ls rest)) : W p l e R s m args below meth c H locs cells slots Q (F0 m pc ls (.ref v :: .int i :: .ref a :: rest)) := by
  have hlt : i.toNatClampNeg < n := Nat.not_le.mp fun q => hin (Or.inr q)
  have h0 : ¬ i < 0 := fun q => hin (Or.inl q)
  obtain ⟨r', hr', cellV, g1, g2, g3, -⟩ := (hR v _ hv).1
  have hcls := (X.hK.1 ci r hc).2
  obtain ⟨kA, comp, k1, k2, k3, -⟩ := (X.hK.2 3 _ rfl).2
  obtain ⟨kE, hkE, -⟩ := Vm.findClass_spec k3
  obtain ⟨c0, t1, f1, f2, f3⟩ := Cond.castable_spec (va_Nw.use (A := args) rfl (X.nw hca))
  cases hcls.1.symm.trans f1
  cases k3.symm.trans f2
  obtain ⟨kC, hkC, -⟩ := hcls.2
  refine W.aast X.hx X.hb (hR a _ ha).1 (fun q h => by cases h) (fun h => by cases h) k1 k2 rfl hkE ⟨h0, by show _ < (arrV _ _ _).slots.size; rw [arrV_size]; exact hlt⟩ g1 (fun q h => by rw [g3] at h; cases h) (by rw [g2]; exact hkC) (by rw [g2]; exact f3) rfl rfl hdg fun H1 e z oq => ?_
  refine kk H1 _ (hR.put ha ?_ oq) (hS.put z oq ((hR a _ ha).2 ht))
  show H1[a]? = some (vp_cell _ _)
  rw [e]
  show some (Cell.setSlot (vp_cell _ _) _ _) = _
  rw [vp_cell_q, vp_cell_q, arrV_store]
  congr 2
  funext q
  by_cases hq : q = i.toNatClampNeg
  · subst hq
    simp [updV, va_up, va_rf]
  · simp [updV, va_up, hq]
theorem g_recv (X : Cx p s m args c Γ cc nL own) (hR : Rep Γ G H) {ci : Nat} {fs : List Value} {q : vw_C} (ha : G a = some (t, .inr (ci, fs))) (hc : CL[ci]? = some q) : ∃ cell : Cell, H[a]? = some cell ∧ cell.vm.isStatics = false ∧ s.vm.findClass q.1 = some cell.cls := va_recv (q0 := 0) X.hK (hR.one ha) hc rfl
/-- a cast to the object's own class, or up -/
theorem g_castS (X : Cx p s m args c Γ cc nL own) (hR : Rep Γ G H) {ci index : Nat} {fs : List Value} {q : vw_C} (ha : G a = some (t, .inr (ci, fs))) (hc : CL[ci]? = some q) (hlink : Cond.classLink own index q.1 ∈ lw_all) (hdg : decode cc pc = .ok (.checkcast index, 3))
    (k : W p l e R s m args below meth c H locs cells slots Q (F0 m (pc + 3) ls (.ref a :: rest))) : W p l e R s m args below meth c H locs cells slots Q (F0 m pc ls (.ref a :: rest)) :=
  va_castS X.hx X.hb X.hown (X.hts _ hlink) (X.hK.1 ci q hc).2 (g_recv X hR ha hc) hdg k
theorem g_castY (X : Cx p s m args c Γ cc nL own) (hR : Rep Γ G H) {ci index : Nat} {fs : List Value} {q : vw_C} {nm : String} (ha : G a = some (t, .inr (ci, fs))) (hc : CL[ci]? = some q) (hlink : Cond.classLink own index nm ∈ lw_all) (hca : Cond.castable q.1 nm ∈ NW) (hdg : decode cc pc = .ok (.checkcast index, 3))
    (k : W p l e R s m args below meth c H locs cells slots Q (F0 m (pc + 3) ls (.ref a :: rest))) : W p l e R s m args below meth c H locs cells slots Q (F0 m pc ls (.ref a :: rest)) :=
  va_castY X.hx X.hb X.hown (X.hts _ hlink) (X.nw hca) (g_recv X hR ha hc) hdg k
/-! references that may be null -/
theorem g_aload (X : Cx p s m args c Γ cc nL own) {i : Nat} {r : Option Nat} (hdg : decode cc pc = .ok (.aload i, 2)) (hl : ls[i]? = some (.val (va_rf r)))
    (k : W p l e R s m args below meth c H locs cells slots Q (F0 m (pc + 2) ls (va_rf r :: rest))) : W p l e R s m args below meth c H locs cells slots Q (F0 m pc ls rest) := by
  cases r with
  | none => exact lv_aloadN X.hx X.hb hdg hl k
  | some x => exact lv_aload X.hx X.hb hdg hl k
theorem g_aload_n (X : Cx p s m args c Γ cc nL own) {k0 : Fin 4} {i : Nat} {r : Option Nat} (hdg : decode cc pc = .ok (.aload_n k0, 1)) (hi : (k0 : Nat) = i) (hl : ls[i]? = some (.val (va_rf r)))
    (k : W p l e R s m args below meth c H locs cells slots Q (F0 m (pc + 1) ls (va_rf r :: rest))) : W p l e R s m args below meth c H locs cells slots Q (F0 m pc ls rest) := by
  cases r with
  | none => exact lv_aload_nN X.hx X.hb hdg hi hl k
  | some x => exact lv_aload_n X.hx X.hb hdg hi hl k
theorem g_astore (X : Cx p s m args c Γ cc nL own) {i nL1 : Nat} {r : Option Nat} {lv lv' : List (Nat × Value)} (hdg : decode cc pc = .ok (.astore i, 2)) (h : lv_has ls nL1 lv) (hn : i < nL1) (hl : (i, va_rf r) :: lv.filter (fun q => !(q.1 == i) && !(q.1 + 1 == i && q.2.category == 2)) = lv')
    (kk : ∀ ls' : Array Slot, lv_has ls' nL1 lv' → W p l e R s m args below meth c H locs cells slots Q (F0 m (pc + 2) ls' rest)) : W p l e R s m args below meth c H locs cells slots Q (F0 m pc ls (va_rf r :: rest)) := by
  cases r with
  | none => exact lv_astoreN X.hx X.hb hdg h hn hl kk
  | some x => exact lv_astore X.hx X.hb hdg h hn hl kk
theorem g_astore_n (X : Cx p s m args c Γ cc nL own) {k0 : Fin 4} {i nL1 : Nat} {r : Option Nat} {lv lv' : List (Nat × Value)} (hdg : decode cc pc = .ok (.astore_n k0, 1)) (hi : (k0 : Nat) = i) (h : lv_has ls nL1 lv) (hn : i < nL1) (hl : (i, va_rf r) :: lv.filter (fun q => !(q.1 == i) && !(q.1 + 1 == i && q.2.category == 2)) = lv')
    (kk : ∀ ls' : Array Slot, lv_has ls' nL1 lv' → W p l e R s m args below meth c H locs cells slots Q (F0 m (pc + 1) ls' rest)) : W p l e R s m args below meth c H locs cells slots Q (F0 m pc ls (va_rf r :: rest)) := by
  cases r with
  | none => exact lv_astore_nN X.hx X.hb hdg hi h hn hl kk
  | some x => exact lv_astore_n X.hx X.hb hdg hi h hn hl kk
theorem g_ifnull (X : Cx p s m args c Γ cc nL own) {r : Option Nat} {off : Int} {tgt : Nat} (hdg : decode cc pc = .ok (.ifnull off, 3)) (ht : (pc : Int) + off = (tgt : Int)) (kn : r = none → W p l e R s m args below meth c H locs cells slots Q (F0 m tgt ls rest)) (ks : ∀ x, r = some x → W p l e R s m args below meth c H locs cells slots Q (F0 m (pc + 3) ls rest)) : W p l e R s m args below meth c H locs cells slots Q (F0 m pc ls (va_rf r :: rest)) := by
  cases r with
  | none => exact lv_ifnullN X.hx X.hb hdg ht (kn rfl)
  | some x => exact lv_ifnull X.hx X.hb hdg (ks x rfl)
theorem g_ifnonnull (X : Cx p s m args c Γ cc nL own) {r : Option Nat} {off : Int} {tgt : Nat} (hdg : decode cc pc = .ok (.ifnonnull off, 3)) (ht : (pc : Int) + off = (tgt : Int)) (kn : r = none → W p l e R s m args below meth c H locs cells slots Q (F0 m (pc + 3) ls rest)) (ks : ∀ x, r = some x → W p l e R s m args below meth c H locs cells slots Q (F0 m tgt ls rest)) : W p l e R s m args below meth c H locs cells slots Q (F0 m pc ls (va_rf r :: rest)) := by
  cases r with
  | none => exact lv_ifnonnullN X.hx X.hb hdg (kn rfl)
  | some x => exact lv_ifnonnull X.hx X.hb hdg ht (ks x rfl)
/-! ends -/
theorem g_iret (X : Cx p s m args c Γ cc nL own) (hr : meth.sig.returnType = some .int) (hlk : meth.locks = false) (hR : Rep Γ G H) (hS : va_S (gA Γ) s.heap H locs) {v : Int32} (hp : post (some (.int v)) G) (hc : cells ≤ mc) (hs : slots ≤ ms) (hdg : decode cc pc = .ok (.ireturn, 1)) :
    W p l e R s m args below meth c H locs cells slots (MQ below (Qg Γ post) args s mc ms (gA Γ)) (F0 m pc ls [.int v]) :=
  W.widen hc hs (W.iret X.hx X.hb hr (fun t ht hW => ⟨⟨_, G, rfl, hp, by rw [ht]; exact hR⟩, hS.F ht⟩) hS.2.2 hdg hlk)
theorem g_zret (X : Cx p s m args c Γ cc nL own) (hr : meth.sig.returnType = some .boolean) (hlk : meth.locks = false) (hR : Rep Γ G H) (hS : va_S (gA Γ) s.heap H locs) {v : Int32} (hn : narrow .boolean (.int v) = .int v) (hp : post (some (.int v)) G) (hc : cells ≤ mc) (hs : slots ≤ ms) (hdg : decode cc pc = .ok (.ireturn, 1)) :
    W p l e R s m args below meth c H locs cells slots (MQ below (Qg Γ post) args s mc ms (gA Γ)) (F0 m pc ls [.int v]) :=
  W.widen hc hs (W.zret X.hx X.hb hr hn (fun t ht hW => ⟨⟨_, G, rfl, hp, by rw [ht]; exact hR⟩, hS.F ht⟩) hS.2.2 hdg hlk)
theorem g_vret (X : Cx p s m args c Γ cc nL own) (hr : meth.sig.returnType = none) (hlk : meth.locks = false) (hR : Rep Γ G H) (hS : va_S (gA Γ) s.heap H locs) (hp : post none G) (hc : cells ≤ mc) (hs : slots ≤ ms) (hdg : decode cc pc = .ok (.return_, 1)) :
    W p l e R s m args below meth c H locs cells slots (MQ below (Qg Γ post) args s mc ms (gA Γ)) (F0 m pc ls []) :=
  W.widen hc hs (W.vret X.hx X.hb hr (fun t ht hW => ⟨⟨_, G, rfl, hp, by rw [ht]; exact hR⟩, hS.F ht⟩) hS.2.2 hdg hlk)
theorem g_aret (X : Cx p s m args c Γ cc nL own) {rt : FieldType} (hr : meth.sig.returnType = some rt) (hrt : (∃ n, rt = .object n) ∨ ∃ t, rt = .array t) (hlk : meth.locks = false) (hR : Rep Γ G H) (hS : va_S (gA Γ) s.heap H locs) {r : Option Nat} (hp : post (some (va_rf r)) G) (hc : cells ≤ mc) (hs : slots ≤ ms) (hdg : decode cc pc = .ok (.areturn, 1)) :
    W p l e R s m args below meth c H locs cells slots (MQ below (Qg Γ post) args s mc ms (gA Γ)) (F0 m pc ls [va_rf r]) :=
  W.widen hc hs (W.aret X.hx X.hb hr hrt (va_rf_or r) (fun t ht hW => ⟨⟨_, G, rfl, hp, by rw [ht]; exact hR⟩, hS.F ht⟩) hS.2.2 hdg hlk)
theorem g_aretS (X : Cx p s m args c Γ cc nL own) {rt : FieldType} (hr : meth.sig.returnType = some rt) (hrt : (∃ n, rt = .object n) ∨ ∃ t, rt = .array t) (hlk : meth.locks = false) (hR : Rep Γ G H) (hS : va_S (gA Γ) s.heap H locs) {x : Nat} (hp : post (some (.ref x)) G) (hc : cells ≤ mc) (hs : slots ≤ ms) (hdg : decode cc pc = .ok (.areturn, 1)) :
    W p l e R s m args below meth c H locs cells slots (MQ below (Qg Γ post) args s mc ms (gA Γ)) (F0 m pc ls [.ref x]) := g_aret (r := some x) X hr hrt hlk hR hS hp hc hs hdg
/-! calls -/
theorem g_go {ar : Array Value} (hr : va_Run p l e R s m args below meth c H locs cells slots mc ms (F0 m pc ls st0) rest (Qg Γ post ar) (gA Γ)) (hS : va_S (gA Γ) s.heap H locs)
    (kk : ∀ (v : Option Value) (G1 : GH) (H1 : Heap) (locs1 : List Loc), post v G1 → Rep Γ G1 H1 → va_S (gA Γ) s.heap H1 locs1 → W p l e R s m args below meth c H1 locs1 (cells + mc) (slots + ms) Q (F0 m (pc + 3) ls (v.toList ++ rest))) : W p l e R s m args below meth c H locs cells slots Q (F0 m pc ls st0) := by
  intro T hT X
  obtain ⟨v, st₀, t, T', L, h0, X', hL, e1, e2, ⟨⟨v', G1, hv, hp, hR1⟩, hF⟩, st⟩ := hr T hT X
  cases hv
  obtain ⟨k1, k2, k3⟩ := vx_keep h0 e1 hS (fun q _ h => h) (fun q h => h) hL hF
  obtain ⟨t2, a1, b1⟩ := kk v G1 T'.heap (locs ++ L) hp (by rw [e1]; exact hR1) k3 T' rfl X'
  exact ⟨t2, st t2 a1, b1⟩
theorem g_go5 {ar : Array Value} (hr : va_Run5 p l e R s m args below meth c H locs cells slots mc ms (F0 m pc ls st0) rest (Qg Γ post ar) (gA Γ)) (hS : va_S (gA Γ) s.heap H locs)
    (kk : ∀ (v : Option Value) (G1 : GH) (H1 : Heap) (locs1 : List Loc), post v G1 → Rep Γ G1 H1 → va_S (gA Γ) s.heap H1 locs1 → W p l e R s m args below meth c H1 locs1 (cells + mc) (slots + ms) Q (F0 m (pc + 5) ls (v.toList ++ rest))) : W p l e R s m args below meth c H locs cells slots Q (F0 m pc ls st0) := by
  intro T hT X
  obtain ⟨v, st₀, t, T', L, h0, X', hL, e1, e2, ⟨⟨v', G1, hv, hp, hR1⟩, hF⟩, st⟩ := hr T hT X
  cases hv
  obtain ⟨k1, k2, k3⟩ := vx_keep h0 e1 hS (fun q _ h => h) (fun q h => h) hL hF
  obtain ⟨t2, a1, b1⟩ := kk v G1 T'.heap (locs ++ L) hp (by rw [e1]; exact hR1) k3 T' rfl X'
  exact ⟨t2, st t2 a1, b1⟩
theorem g_goX {ar : Array Value} (hr : vx_Run p l e R s m args below meth c H locs cells slots mc ms (F0 m pc ls st0) rest (Qg Γ post ar) (XCg Γ px) (gA Γ)) (hS : va_S (gA Γ) s.heap H locs)
    (kx : ∀ (E : String) (ce : Cell) (q9 : Addr) (G1 : GH) (H1 : Heap) (locs1 : List Loc), px E G1 → Rep Γ G1 H1 → va_S (gA Γ) s.heap H1 locs1 → H1[q9]? = some ce → ce.vm = .none → s.vm.findClass E = some ce.cls → vx_W p l e R s m args below meth c H1 locs1 (cells + mc) (slots + ms) Q (F0 m pc ls rest) q9)
    (kk : ∀ (v : Option Value) (G1 : GH) (H1 : Heap) (locs1 : List Loc), post v G1 → Rep Γ G1 H1 → va_S (gA Γ) s.heap H1 locs1 → W p l e R s m args below meth c H1 locs1 (cells + mc) (slots + ms) Q (F0 m (pc + 3) ls (v.toList ++ rest))) : W p l e R s m args below meth c H locs cells slots Q (F0 m pc ls st0) := by
  intro T hT X
  rcases hr T hT X with ⟨v, st₀, t, T', L, h0, X', hL, e1, e2, ⟨⟨v', G1, hv, hp, hR1⟩, hF⟩, st⟩ | ⟨q, st₀, t, T', L, E, ce, h0, X', hL, e1, e2, ⟨⟨G1, hp, hR1⟩, hF⟩, hce, hcv, hcl, st⟩
  · cases hv
    obtain ⟨k1, k2, k3⟩ := vx_keep h0 e1 hS (fun q _ h => h) (fun q h => h) hL hF
    obtain ⟨t2, a1, b1⟩ := kk v G1 T'.heap (locs ++ L) hp (by rw [e1]; exact hR1) k3 T' rfl X'
    exact ⟨t2, st t2 a1, b1⟩
  · obtain ⟨k1, k2, k3⟩ := vx_keep h0 e1 hS (fun q _ h => h) (fun q h => h) hL hF
    obtain ⟨t2, a1, b1⟩ := kx E ce q G1 T'.heap (locs ++ L) hp (by rw [e1]; exact hR1) k3 (by rw [e1]; exact hce) hcv hcl T' rfl X'
    exact ⟨t2, st.trans a1, b1⟩
/-- a throw goes on to the caller -/
theorem g_out (X : Cx p s m args c Γ cc nL own) (hlk : meth.locks = false) (hxt : ∀ x ∈ c.exceptionTable.toList, False) {E : String} {ce : Cell} {q : Addr} (hR : Rep Γ G H) (hS : va_S (gA Γ) s.heap H locs) (hcell : H[q]? = some ce) (hv : ce.vm = .none) (hcl : s.vm.findClass E = some ce.cls) (hp : px E G) (hc : cells ≤ mc) (hs : slots ≤ ms) :
    vx_W p l e R s m args below meth c H locs cells slots (vx_MQ below (Qg Γ post) (XCg Γ px) args s mc ms (gA Γ)) (F0 m pc ls rest) q :=
  vx_out (fun x hx => (hxt x hx).elim) hlk hcell hv hcl (fun t ht hW => ⟨⟨G, hp, by rw [ht]; exact hR⟩, hS.F ht⟩) hS.2.2 hc hs
variable {y : MethodName} {bytes : ByteArray} {maxL n index ci : Nat} {ret : Option FieldType} {ws ws' : List Cond} {rm : Room} {C : String} {b : Nat} {As fs : List Value} {T : u_T} {N : Nat}
theorem gcV (X : Cx p s m args c Γ cc nL own) (hls : ls.size = nL) (hR : Rep Γ G H) (hS : va_S (gA Γ) s.heap H locs) (nA : Nat) (As rest : List Value) (hM : MetG l y (ws_ y bytes maxL ret) rm Γ G (.ref b :: As) post mc ms) (hb : G b = some (t, .inr (ci, fs))) (hc : CL[ci]? = some (C, T, N))
    (h1 : Cond.methodLink own index y ∈ lw_all) (h2 : Cond.instanceMethod y ∈ lw_all) (h3 : Cond.selects C y y ∈ lw_all) (h4 : Cond.initialized C ∈ lw_all) (h5 : Cond.code y bytes maxL ret ∈ lw_all) (hrc : rm.cells = mc) (hrs : rm.slots = ms)
    (hd : y.cls = C ∧ y.cls ≠ "java/lang/invoke/MethodHandle" ∧ y.cls ≠ "java/lang/invoke/VarHandle" ∧ (parseMethodDescriptor y.desc).map (fun d => d.parameters.length) = some nA) (hRm : rm.frames + 1 ≤ R.frames ∧ 8 + (maxL + 11) + rm.locals ≤ R.locals) (hnA : As.length = nA) (hst : st0 = As.reverse ++ .ref b :: rest) (hW : (rest.map fun v => v.category).sum ≤ 8) (hdg : decode cc pc = .ok (.invokevirtual index, 3)) (hf : cells + mc ≤ R.cells ∧ slots + ms ≤ R.slots)
    (kk : ∀ (v : Option Value) (G1 : GH) (H1 : Heap) (locs1 : List Loc), post v G1 → Rep Γ G1 H1 → va_S (gA Γ) s.heap H1 locs1 → W p l e R s m args below meth c H1 locs1 (cells + mc) (slots + ms) Q (F0 m (pc + 3) ls (v.toList ++ rest))) : W p l e R s m args below meth c H locs cells slots Q (F0 m pc ls st0) :=
  g_go (va_runV (As := As) (rest := rest) X.fix hM (cwV nA X.hts (lw_V h1 h2 h3 h4 h5) rfl hrc hrs hd hRm) ⟨Pg_blind, g_recv X hR hb hc, Pg_at X.hN hS hR⟩ rfl hnA hls hst (lv_room hW) hdg hf) hS kk
theorem gcS (X : Cx p s m args c Γ cc nL own) (hls : ls.size = nL) (hR : Rep Γ G H) (hS : va_S (gA Γ) s.heap H locs) (nA : Nat) (As rest : List Value) (hM : MetG l y (ws_ y bytes maxL ret) rm Γ G As post mc ms)
    (h1 : Cond.methodLink own index y ∈ lw_all) (h2 : Cond.static y ∈ lw_all) (h3 : Cond.initialized y.cls ∈ lw_all) (h5 : Cond.code y bytes maxL ret ∈ lw_all) (hrc : rm.cells = mc) (hrs : rm.slots = ms)
    (hd : y.cls ≠ "java/lang/invoke/MethodHandle" ∧ y.cls ≠ "java/lang/invoke/VarHandle" ∧ (parseMethodDescriptor y.desc).map (fun d => d.parameters.length) = some nA) (hRm : rm.frames + 1 ≤ R.frames ∧ 8 + (maxL + 11) + rm.locals ≤ R.locals) (hnA : As.length = nA) (hst : st0 = As.reverse ++ rest) (hW : (rest.map fun v => v.category).sum ≤ 8) (hdg : decode cc pc = .ok (.invokestatic index, 3)) (hf : cells + mc ≤ R.cells ∧ slots + ms ≤ R.slots)
    (kk : ∀ (v : Option Value) (G1 : GH) (H1 : Heap) (locs1 : List Loc), post v G1 → Rep Γ G1 H1 → va_S (gA Γ) s.heap H1 locs1 → W p l e R s m args below meth c H1 locs1 (cells + mc) (slots + ms) Q (F0 m (pc + 3) ls (v.toList ++ rest))) : W p l e R s m args below meth c H locs cells slots Q (F0 m pc ls st0) :=
  g_go (va_runS (As := As) (rest := rest) X.fix hM (va_cwS nA X.hts (lw_S h1 h2 h3 h5) rfl hrc hrs hd hRm) ⟨Pg_blind, Pg_at X.hN hS hR⟩ rfl hnA hls hst (lv_room hW) hdg hf) hS kk
theorem gcI (X : Cx p s m args c Γ cc nL own) (hls : ls.size = nL) (hR : Rep Γ G H) (hS : va_S (gA Γ) s.heap H locs) (nA : Nat) (As rest : List Value) (hM : MetG l y (ws_ y bytes maxL none) rm Γ G (.ref b :: As) post mc ms)
    (h1 : Cond.methodLink own index y ∈ lw_all) (h2 : Cond.instanceMethod y ∈ lw_all) (h3 : Cond.initialized y.cls ∈ lw_all) (h5 : Cond.code y bytes maxL none ∈ lw_all) (hyi : y.name = "<init>") (hrc : rm.cells = mc) (hrs : rm.slots = ms)
    (hd : y.cls ≠ "java/lang/invoke/MethodHandle" ∧ y.cls ≠ "java/lang/invoke/VarHandle" ∧ (parseMethodDescriptor y.desc).map (fun d => d.parameters.length) = some nA) (hRm : rm.frames + 1 ≤ R.frames ∧ 8 + (maxL + 11) + rm.locals ≤ R.locals) (hnA : As.length = nA) (hst : st0 = As.reverse ++ .ref b :: rest) (hW : (rest.map fun v => v.category).sum ≤ 8) (hdg : decode cc pc = .ok (.invokespecial index, 3)) (hf : cells + mc ≤ R.cells ∧ slots + ms ≤ R.slots)
    (kk : ∀ (v : Option Value) (G1 : GH) (H1 : Heap) (locs1 : List Loc), post v G1 → Rep Γ G1 H1 → va_S (gA Γ) s.heap H1 locs1 → W p l e R s m args below meth c H1 locs1 (cells + mc) (slots + ms) Q (F0 m (pc + 3) ls (v.toList ++ rest))) : W p l e R s m args below meth c H locs cells slots Q (F0 m pc ls st0) :=
  g_go (va_runI (As := As) (rest := rest) X.fix hM ⟨callB_of nA X.hts (lw_meth h5) rfl hrc hrs (X.hts _ h3) (X.hts _ h1) hd hRm, hyi, X.hts _ h2⟩ ⟨Pg_blind, Pg_at X.hN hS hR⟩ rfl hnA hls hst (lv_room hW) hdg hf) hS kk
/-- a private constructor of a nest mate -/
theorem gcIN (X : Cx p s m args c Γ cc nL own) (hls : ls.size = nL) (hR : Rep Γ G H) (hS : va_S (gA Γ) s.heap H locs) (nA : Nat) (As rest : List Value) {host : String} (hM : MetG l y (ws_ y bytes maxL none) rm Γ G (.ref b :: As) post mc ms)
    (h1 : Cond.methodLinkNest own index y host ∈ NW) (h2 : Cond.instanceMethod y ∈ lw_all) (h3 : Cond.initialized y.cls ∈ lw_all) (h5 : Cond.code y bytes maxL none ∈ lw_all) (hyi : y.name = "<init>") (hrc : rm.cells = mc) (hrs : rm.slots = ms)
    (hd : y.cls ≠ "java/lang/invoke/MethodHandle" ∧ y.cls ≠ "java/lang/invoke/VarHandle" ∧ (parseMethodDescriptor y.desc).map (fun d => d.parameters.length) = some nA) (hRm : rm.frames + 1 ≤ R.frames ∧ 8 + (maxL + 11) + rm.locals ≤ R.locals) (hnA : As.length = nA) (hst : st0 = As.reverse ++ .ref b :: rest) (hW : (rest.map fun v => v.category).sum ≤ 8) (hdg : decode cc pc = .ok (.invokespecial index, 3)) (hf : cells + mc ≤ R.cells ∧ slots + ms ≤ R.slots)
    (kk : ∀ (v : Option Value) (G1 : GH) (H1 : Heap) (locs1 : List Loc), post v G1 → Rep Γ G1 H1 → va_S (gA Γ) s.heap H1 locs1 → W p l e R s m args below meth c H1 locs1 (cells + mc) (slots + ms) Q (F0 m (pc + 3) ls (v.toList ++ rest))) : W p l e R s m args below meth c H locs cells slots Q (F0 m pc ls st0) :=
  g_go (va_runIN (As := As) (rest := rest) X.fix hM ⟨va_cnB nA X.hts (lw_meth h5) rfl hrc hrs (X.nw h1) (X.hts _ h3) hd hRm, hyi, X.hts _ h2⟩ ⟨Pg_blind, Pg_at X.hN hS hR⟩ rfl hnA hls hst (lv_room hW) hdg hf) hS kk
/-- by an interface, on an object whose class is known -/
theorem gcF (X : Cx p s m args c Γ cc nL own) (hls : ls.size = nL) (hR : Rep Γ G H) (hS : va_S (gA Γ) s.heap H locs) (nA : Nat) (As rest : List Value) {x : MethodName} {count : Nat} (hM : MetG l y (ws_ y bytes maxL ret) rm Γ G (.ref b :: As) post mc ms) (hb : G b = some (t, .inr (ci, fs))) (hc : CL[ci]? = some (C, T, N))
    (hF : (C, x, y) ∈ FW) (h1 : Cond.methodLink own index x ∈ lw_all) (h2 : Cond.selects C x y ∈ lw_all) (h3 : Cond.instanceMethod y ∈ lw_all) (h4 : Cond.initialized y.cls ∈ lw_all) (h5 : Cond.code y bytes maxL ret ∈ lw_all) (hrc : rm.cells = mc) (hrs : rm.slots = ms)
    (hd : x.cls ≠ "java/lang/invoke/MethodHandle" ∧ x.cls ≠ "java/lang/invoke/VarHandle" ∧ (parseMethodDescriptor x.desc).map (fun d => d.parameters.length) = some nA) (hRm : rm.frames + 1 ≤ R.frames ∧ 8 + (maxL + 11) + rm.locals ≤ R.locals) (hnA : As.length = nA) (hst : st0 = As.reverse ++ .ref b :: rest) (hW : (rest.map fun v => v.category).sum ≤ 8) (hdg : decode cc pc = .ok (.invokeinterface index count, 5)) (hf : cells + mc ≤ R.cells ∧ slots + ms ≤ R.slots)
    (kk : ∀ (v : Option Value) (G1 : GH) (H1 : Heap) (locs1 : List Loc), post v G1 → Rep Γ G1 H1 → va_S (gA Γ) s.heap H1 locs1 → W p l e R s m args below meth c H1 locs1 (cells + mc) (slots + ms) Q (F0 m (pc + 5) ls (v.toList ++ rest))) : W p l e R s m args below meth c H locs cells slots Q (F0 m pc ls st0) := by
  have hT : GoodIn lw_all (va_wsF own index C x y (ws_ y bytes maxL ret)) := by
    refine lw_app ?_ (lw_meth h5)
    intro w hw
    simp only [List.mem_cons, List.not_mem_nil, or_false] at hw
    rcases hw with e | e | e | e
    · rw [e]; exact h1
    · rw [e]; exact h2
    · rw [e]; exact h3
    · rw [e]; exact h4
  exact g_go5 (va_runF (As := As) (rest := rest) (C := C) (X.hK.1 ci _ hc).2 X.fix hM (va_cwF nA X.hts hT rfl hrc hrs (X.fw hF) hd hRm) ⟨Pg_blind, g_recv X hR hb hc, Pg_at X.hN hS hR⟩ rfl hnA hls hst (lv_room hW) hdg hf) hS kk
/-- an inherited method -/
theorem gcU (X : Cx p s m args c Γ cc nL own) (hls : ls.size = nL) (hR : Rep Γ G H) (hS : va_S (gA Γ) s.heap H locs) (nA : Nat) (As rest : List Value) {x : MethodName} {owner : String} (hM : MetG l y (ws_ y bytes maxL ret) rm Γ G (.ref b :: As) post mc ms) (hb : G b = some (t, .inr (ci, fs))) (hc : CL[ci]? = some (C, T, N))
    (h1 : Cond.methodLink own index x ∈ lw_all) (h1s : Cond.sameMethod x.cls owner x.name x.desc ∈ lw_all) (h2 : Cond.selects C x y ∈ lw_all) (h3 : Cond.instanceMethod y ∈ lw_all) (h4 : Cond.initialized y.cls ∈ lw_all) (h5 : Cond.code y bytes maxL ret ∈ lw_all) (hdecl : va_Decl s ⟨owner, x.name, x.desc⟩) (hrc : rm.cells = mc) (hrs : rm.slots = ms)
    (hd : owner ≠ "java/lang/invoke/MethodHandle" ∧ owner ≠ "java/lang/invoke/VarHandle" ∧ (parseMethodDescriptor x.desc).map (fun d => d.parameters.length) = some nA) (hRm : rm.frames + 1 ≤ R.frames ∧ 8 + (maxL + 11) + rm.locals ≤ R.locals) (hnA : As.length = nA) (hst : st0 = As.reverse ++ .ref b :: rest) (hW : (rest.map fun v => v.category).sum ≤ 8) (hdg : decode cc pc = .ok (.invokevirtual index, 3)) (hf : cells + mc ≤ R.cells ∧ slots + ms ≤ R.slots)
    (kk : ∀ (v : Option Value) (G1 : GH) (H1 : Heap) (locs1 : List Loc), post v G1 → Rep Γ G1 H1 → va_S (gA Γ) s.heap H1 locs1 → W p l e R s m args below meth c H1 locs1 (cells + mc) (slots + ms) Q (F0 m (pc + 3) ls (v.toList ++ rest))) : W p l e R s m args below meth c H locs cells slots Q (F0 m pc ls st0) := by
  have hG : GoodIn lw_all (ws_ y bytes maxL ret) := lw_meth h5
  have cw : va_CU R s args own C owner index x y bytes maxL ret (ws_ y bytes maxL ret) rm mc ms nA := by
    refine ⟨⟨hrc, hrs, hRm.1, hRm.2, pay_in X.hts hG, List.mem_cons_self⟩, X.hts _ h5, X.hts _ h4, ⟨hd.1, hd.2.1⟩, fun sig h => ?_, X.hts _ h1, X.hts _ h1s, hdecl, X.hts _ h2, X.hts _ h3⟩
    have h9 := hd.2.2
    rw [h] at h9
    exact (Option.some.inj h9).symm
  exact g_go (va_runU (As := As) (rest := rest) X.fix hM cw ⟨Pg_blind, g_recv X hR hb hc, Pg_at X.hN hS hR⟩ rfl hnA hls hst (lv_room hW) hdg hf) hS kk
/-! calls of methods that may throw -/
theorem gxV (X : Cx p s m args c Γ cc nL own) (hls : ls.size = nL) (hR : Rep Γ G H) (hS : va_S (gA Γ) s.heap H locs) (nA : Nat) (As rest : List Value) (hM : MetX l y (ws_ y bytes maxL ret) rm Γ G (.ref b :: As) post px mc ms) (hb : G b = some (t, .inr (ci, fs))) (hc : CL[ci]? = some (C, T, N))
    (h1 : Cond.methodLink own index y ∈ lw_all) (h2 : Cond.instanceMethod y ∈ lw_all) (h3 : Cond.selects C y y ∈ lw_all) (h4 : Cond.initialized C ∈ lw_all) (h5 : Cond.code y bytes maxL ret ∈ lw_all) (hrc : rm.cells = mc) (hrs : rm.slots = ms)
    (hd : y.cls = C ∧ y.cls ≠ "java/lang/invoke/MethodHandle" ∧ y.cls ≠ "java/lang/invoke/VarHandle" ∧ (parseMethodDescriptor y.desc).map (fun d => d.parameters.length) = some nA) (hRm : rm.frames + 1 ≤ R.frames ∧ 8 + (maxL + 11) + rm.locals ≤ R.locals) (hnA : As.length = nA) (hst : st0 = As.reverse ++ .ref b :: rest) (hW : (rest.map fun v => v.category).sum ≤ 8) (hdg : decode cc pc = .ok (.invokevirtual index, 3)) (hf : cells + mc ≤ R.cells ∧ slots + ms ≤ R.slots)
    (kx : ∀ (E : String) (ce : Cell) (q9 : Addr) (G1 : GH) (H1 : Heap) (locs1 : List Loc), px E G1 → Rep Γ G1 H1 → va_S (gA Γ) s.heap H1 locs1 → H1[q9]? = some ce → ce.vm = .none → s.vm.findClass E = some ce.cls → vx_W p l e R s m args below meth c H1 locs1 (cells + mc) (slots + ms) Q (F0 m pc ls rest) q9)
    (kk : ∀ (v : Option Value) (G1 : GH) (H1 : Heap) (locs1 : List Loc), post v G1 → Rep Γ G1 H1 → va_S (gA Γ) s.heap H1 locs1 → W p l e R s m args below meth c H1 locs1 (cells + mc) (slots + ms) Q (F0 m (pc + 3) ls (v.toList ++ rest))) : W p l e R s m args below meth c H locs cells slots Q (F0 m pc ls st0) :=
  g_goX (vx_runV (As := As) (rest := rest) X.fix hM (cwV nA X.hts (lw_V h1 h2 h3 h4 h5) rfl hrc hrs hd hRm) ⟨Pg_blind, g_recv X hR hb hc, Pg_at X.hN hS hR⟩ rfl hnA hls hst (lv_room hW) hdg hf) hS kx kk
theorem gxS (X : Cx p s m args c Γ cc nL own) (hls : ls.size = nL) (hR : Rep Γ G H) (hS : va_S (gA Γ) s.heap H locs) (nA : Nat) (As rest : List Value) (hM : MetX l y (ws_ y bytes maxL ret) rm Γ G As post px mc ms)
    (h1 : Cond.methodLink own index y ∈ lw_all) (h2 : Cond.static y ∈ lw_all) (h3 : Cond.initialized y.cls ∈ lw_all) (h5 : Cond.code y bytes maxL ret ∈ lw_all) (hrc : rm.cells = mc) (hrs : rm.slots = ms)
    (hd : y.cls ≠ "java/lang/invoke/MethodHandle" ∧ y.cls ≠ "java/lang/invoke/VarHandle" ∧ (parseMethodDescriptor y.desc).map (fun d => d.parameters.length) = some nA) (hRm : rm.frames + 1 ≤ R.frames ∧ 8 + (maxL + 11) + rm.locals ≤ R.locals) (hnA : As.length = nA) (hst : st0 = As.reverse ++ rest) (hW : (rest.map fun v => v.category).sum ≤ 8) (hdg : decode cc pc = .ok (.invokestatic index, 3)) (hf : cells + mc ≤ R.cells ∧ slots + ms ≤ R.slots)
    (kx : ∀ (E : String) (ce : Cell) (q9 : Addr) (G1 : GH) (H1 : Heap) (locs1 : List Loc), px E G1 → Rep Γ G1 H1 → va_S (gA Γ) s.heap H1 locs1 → H1[q9]? = some ce → ce.vm = .none → s.vm.findClass E = some ce.cls → vx_W p l e R s m args below meth c H1 locs1 (cells + mc) (slots + ms) Q (F0 m pc ls rest) q9)
    (kk : ∀ (v : Option Value) (G1 : GH) (H1 : Heap) (locs1 : List Loc), post v G1 → Rep Γ G1 H1 → va_S (gA Γ) s.heap H1 locs1 → W p l e R s m args below meth c H1 locs1 (cells + mc) (slots + ms) Q (F0 m (pc + 3) ls (v.toList ++ rest))) : W p l e R s m args below meth c H locs cells slots Q (F0 m pc ls st0) :=
  g_goX (vx_runS (As := As) (rest := rest) X.fix hM (va_cwS nA X.hts (lw_S h1 h2 h3 h5) rfl hrc hrs hd hRm) ⟨Pg_blind, Pg_at X.hN hS hR⟩ rfl hnA hls hst (lv_room hW) hdg hf) hS kx kk
end GR
theorem tne {i j x y : Nat} (h : (i == j) = false) : ((i, x) : Nat × Nat) ≠ (j, y) := fun e => by
  have h1 : i = j := congrArg Prod.fst e
  subst h1
  simp at h
theorem tne2 {i x y : Nat} (h : x ≠ y) : ((i, x) : Nat × Nat) ≠ (i, y) := fun e => h (congrArg Prod.snd e)
theorem nar_rf (C : String) (r : Option Nat) : narrow (.object C) (va_rf r) = va_rf r := by cases r <;> rfl
theorem fit_rf (C : String) (r : Option Nat) : fits (.object C) (va_rf r) = true := by cases r <;> rfl
theorem nar_rfA (t : FieldType) (r : Option Nat) : narrow (.array t) (va_rf r) = va_rf r := by cases r <;> rfl
theorem fit_rfA (t : FieldType) (r : Option Nat) : fits (.array t) (va_rf r) = true := by cases r <;> rfl
theorem cat_rf (r : Option Nat) : (va_rf r).category = 1 := by cases r <;> rfl
theorem nar_bool {v : Int32} (h : v = 0 ∨ v = 1) : narrow .boolean (.int v) = .int v := by rcases h with h | h <;> subst h <;> rfl
theorem fit_bool {v : Int32} (h : v = 0 ∨ v = 1) : fits .boolean (.int v) = true := by rcases h with h | h <;> subst h <;> rfl
/-- an object of the world that an array of Objects takes -/
def gO (G : GH) (y : Nat) : Prop := ∃ (t : Nat × Nat) (ci : Nat) (vs : List Value) (r : vw_C), G y = some (t, .inr (ci, vs)) ∧ CL[ci]? = some r ∧ Cond.castable r.1 "java/lang/Object" ∈ NW
theorem acw : nativeFrameWords "java/lang/System" "arraycopy" 5 + 11 ≤ 100 := by decide
section GC
variable {p : Program} {l : Launch} {e : Env} {R : Room} {s : State} {m : MethodId} {args : Array Value} {below : List Frame} {meth : Method} {c : Code} {H : Heap} {locs : List Loc} {cells slots : Nat} {Q : State → Prop}
variable {cc : ByteArray} {pc nL : Nat} {ls : Array Slot} {rest st0 : List Value} {Γ : GP} {G : GH} {own : String} {a : Nat} {t : Nat × Nat}
theorem g_copy (X : Cx p s m args c Γ cc nL own) (hls : ls.size = nL) (hR : Rep Γ G H) (hS : va_S (gA Γ) s.heap H locs) {a0 n0 n1 index : Nat} {t0 : Nat × Nat} {f g : Nat → Option Nat} (ha0 : G a0 = some (t0, .inl (Γ.2 4, n0, .inr (.inr (.inr (.inr f)))))) (ha1 : G a = some (t, .inl (Γ.2 4, n1, .inr (.inr (.inr (.inr g)))))) (ht : t.1 < 50)
    (hlink : Cond.methodLink own index arraycopyName ∈ lw_all) (hnat : Cond.native arraycopyName ∈ lw_all) (hstat : Cond.static arraycopyName ∈ lw_all) (hini : Cond.initialized "java/lang/System" ∈ lw_all)
    {sp dp n : Int32} (h1 : ¬ sp < 0) (h2 : ¬ dp < 0) (h3 : ¬ n < 0) (h4 : sp.toNatClampNeg + n.toNatClampNeg ≤ n0) (h5 : dp.toNatClampNeg + n.toNatClampNeg ≤ n1) (hel : ∀ i : Nat, i < n.toNatClampNeg → ∀ y : Nat, f (sp.toNatClampNeg + i) = some y → gO G y)
    (hframes : 1 ≤ R.frames) (hlocals : (rest.map fun v => v.category).sum + 100 ≤ R.locals) (hdg : decode cc pc = .ok (.invokestatic index, 3))
    (kk : ∀ (H1 : Heap) (locs1 : List Loc), Rep Γ (gu G a (t, .inl (Γ.2 4, n1, .inr (.inr (.inr (.inr (va_cpy f g sp.toNatClampNeg dp.toNatClampNeg n.toNatClampNeg))))))) H1 → va_S (gA Γ) s.heap H1 locs1 → W p l e R s m args below meth c H1 locs1 cells slots Q (F0 m (pc + 3) ls rest)) : W p l e R s m args below meth c H locs cells slots Q (F0 m pc ls (.int n :: .int dp :: .ref a :: .int sp :: .ref a0 :: rest)) := by
  have nn : ∀ z : Int32, ¬ z < 0 → z.toInt = (z.toNatClampNeg : Int) := by
    intro z hz
    have hz0 : (0 : Int) ≤ z.toInt := by
      have := Int32.not_lt.mp hz
      simpa using Int32.le_iff_toInt_le.mp this
    show z.toInt = ((z.toInt.toNat : Nat) : Int)
    omega
  intro T hT XX
  have hc0 : H[a0]? = some (vp_cell (Γ.2 4) (n0, .inr (.inr (.inr (.inr f))))) := (hR a0 _ ha0).1
  have hc1 : H[a]? = some (vp_cell (Γ.2 4) (n1, .inr (.inr (.inr (.inr g))))) := (hR a _ ha1).1
  obtain ⟨-, k0, hk0, cm0, hkk0⟩ := (X.hK.2 3 _ rfl).1 n0 (fun j => va_rf (f j))
  obtain ⟨-, k1, hk1, cm1, hkk1⟩ := (X.hK.2 3 _ rfl).1 n1 (fun j => va_rf (g j))
  obtain ⟨vm', X', step⟩ := XX.arraycopy X.hx X.hown (X.hts _ hlink) (X.hts _ hnat) (X.hts _ hstat) (X.hts _ hini) (src := a0) (dst := a) (cs := vp_cell (Γ.2 4) (n0, .inr (.inr (.inr (.inr f))))) (cd := vp_cell (Γ.2 4) (n1, .inr (.inr (.inr (.inr g))))) (srcPos := sp) (destPos := dp) (n := n) (by rw [hT]; exact hc0) (by rw [hT]; exact hc1)
    (fun _ h => by cases h) (fun _ h => by cases h) (fun h => by cases h) (fun h => by cases h) hk0 hk1 hkk0 hkk1 rfl h1 h2 h3
    (by rw [nn sp h1, nn n h3]; show ¬ _ > ((arrV (Γ.2 4) n0 (fun j => va_rf (f j))).slots.size : Int); rw [arrV_size]; omega)
    (by rw [nn dp h2, nn n h3]; show ¬ _ > ((arrV (Γ.2 4) n1 (fun j => va_rf (g j))).slots.size : Int); rw [arrV_size]; omega)
    (fun vm₁ hal i hi => by
      have e : (vp_cell (Γ.2 4) (n0, .inr (.inr (.inr (.inr f))))).slots.getD (sp.toNatClampNeg + i) .null = va_rf (f (sp.toNatClampNeg + i)) := by
        show (arrV (Γ.2 4) n0 (fun j => va_rf (f j))).slots.getD _ _ = _
        rw [Array.getD_eq_getD_getElem?, arrV_read _ _ (by omega)]
        rfl
      rw [e]
      cases hy : f (sp.toNatClampNeg + i) with
      | none => exact ⟨rfl, trivial⟩
      | some y =>
        obtain ⟨ty, ci, vs, r, hG, hc, hca⟩ := hel i hi y hy
        obtain ⟨cellV, g1, g2, g3⟩ := g_recv X hR hG hc
        obtain ⟨kA, comp, r1, r2, r3, -⟩ := (X.hK.2 3 _ rfl).2
        cases hk1.symm.trans r1
        cases hkk1.symm.trans r2
        obtain ⟨kC, hkC, -⟩ := Vm.findClass_spec g3
        obtain ⟨kE, hkE, -⟩ := Vm.findClass_spec r3
        obtain ⟨kC', hkC', -⟩ := hal.2.2 _ _ hkC
        obtain ⟨kE', hkE', -⟩ := hal.2.2 _ _ hkE
        refine ⟨rfl, cellV, (show T.heap[y]? = some cellV by rw [hT]; exact g1), (fun q h => by rw [h] at g2; cases g2), ⟨kC', hkC'⟩, ?_, ?_⟩
        · exact ⟨kE', hkE'⟩
        · show vm₁.assignable _ _ = true
          rw [hal.assignable]
          exact vb_asgC (X.nw hca) _ _ r3 g3)
    (g := F0 m pc ls (.int n :: .int dp :: .ref a :: .int sp :: .ref a0 :: rest)) rfl (by rw [X.hml]; exact hls) (rest := rest) rfl (by rw [X.hb]; exact hdg) hframes (by show 2 * 0 + _ + _ ≤ _; have := acw; omega)
  have e1 : copied (vp_cell (Γ.2 4) (n0, .inr (.inr (.inr (.inr f))))) (vp_cell (Γ.2 4) (n1, .inr (.inr (.inr (.inr g))))) sp dp n = vp_cell (Γ.2 4) (n1, .inr (.inr (.inr (.inr (va_cpy f g sp.toNatClampNeg dp.toNatClampNeg n.toNatClampNeg))))) := by
    rw [vp_cell_q, vp_cell_q, vp_cell_q]
    exact va_copied (fun z => va_rf z) (Γ.2 4) (Γ.2 4) f g h4
  rw [e1] at X' step
  have hl : a < H.size := (Array.getElem?_eq_some_iff.mp hc1).1
  have hheap : ((T.setVm vm').setCell a (vp_cell (Γ.2 4) (n1, .inr (.inr (.inr (.inr (va_cpy f g sp.toNatClampNeg dp.toNatClampNeg n.toNatClampNeg))))))).heap = H.setIfInBounds a (vp_cell (Γ.2 4) (n1, .inr (.inr (.inr (.inr (va_cpy f g sp.toNatClampNeg dp.toNatClampNeg n.toNatClampNeg)))))) := by rw [← hT]; rfl
  have oq : ∀ q : Nat, q ≠ a → (H.setIfInBounds a (vp_cell (Γ.2 4) (n1, .inr (.inr (.inr (.inr (va_cpy f g sp.toNatClampNeg dp.toNatClampNeg n.toNatClampNeg)))))))[q]? = H[q]? := fun q hq => by simp [Array.getElem?_setIfInBounds, Ne.symm hq]
  have hAa : gA Γ a := (hR a _ ha1).2 ht
  obtain ⟨t9, a1, b1⟩ := kk _ _ (hR.put ha1 (show (H.setIfInBounds a _)[a]? = some _ by simp [Array.getElem?_setIfInBounds, hl]) oq) ⟨by simp; exact hS.1, fun q g1 g2 => by
      rw [oq q (fun e => g2 (by rw [e]; exact hAa))]
      exact hS.2.1 q g1 g2, fun q hq => by
      rcases List.mem_append.mp hq with h | h
      · exact hS.2.2 q h
      · obtain ⟨z, -, hz⟩ := List.mem_map.mp h
        rw [← hz]
        exact hAa⟩ _ hheap X'
  exact ⟨t9, step t9 a1, b1⟩
end GC
