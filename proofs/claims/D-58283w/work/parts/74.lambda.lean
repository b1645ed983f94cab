/-! ===== LAMBDAS: the classes that are made for them, their objects, their calls ===== -/
set_option maxRecDepth 100000
abbrev eS0 : Setting := { classPath := fun _ => none }
/-- a lambda's object: what it holds -/
abbrev lm1 (cK : ClassId) (e : Nat) (k : Int) : va_E := .inl (cK, e, .inr (.inr (.inl (fun j : Nat => if j = 0 then 1 else (iI k).toUInt32))))
abbrev lm2 (cK : ClassId) (e : Nat) (k t w : Int) : va_E := .inl (cK, e, .inr (.inr (.inl (fun j : Nat => if j = 0 then 3 else if j = 1 then (iI k).toUInt32 else if j = 2 then (iI t).toUInt32 else (iI w).toUInt32))))
theorem lm_obj {s : State} {args : Array Value} (hw : ∀ w ∈ lw_all, w.before args s = true) : ∀ o ok, s.vm.findClass "java/lang/Object" = some o → s.vm.classes[o]? = some ok → ok.instanceTypes.size = 0 := by
  intro o ok ho hok
  obtain ⟨c, k, h1, h2, -, -, -, h3⟩ := Cond.instantiable_spec (hw _ q1577)
  cases ho.symm.trans h1
  cases hok.symm.trans h2
  exact h3
theorem lm_look {U : State} {y : MethodName} {t : MethodId} (hn : U.methodNamed? y = some t) (hy : y.cls ≠ "java/lang/invoke/MethodHandle" ∧ y.cls ≠ "java/lang/invoke/VarHandle") {cI : ClassId} {kI : Class} (hf : U.vm.findClass y.cls = some cI) (hk : U.vm.classes[cI]? = some kI) :
    ((methodIn cI y.name y.desc kI.isInterface none).ask { classPath := fun _ => none } U.vm).1 = .ok t := by
  have h1 : U.methodFound? y.cls y.name y.desc = some t := State.methodFound?_of_named hn hy
  simp only [State.methodFound?, hf, hk, Option.bind_eq_bind, Option.bind_some] at h1
  cases hq : ((methodIn cI y.name y.desc kI.isInterface none).ask { classPath := fun _ => none } U.vm).1 with
  | ok v => rw [hq] at h1; exact congrArg Except.ok (Option.some.inj h1)
  | error x => rw [hq] at h1; cases h1
theorem lm_getf {p : Program} {l : Launch} {e : Env} {R : Room} {s : State} {m : MethodId} {args : Array Value} {below : List Frame} {meth : Method} {c : Code} {T : State} {locs : List Loc} {cells slots : Nat} (Y : Stand p l e R s m args below meth c T locs cells slots) (hexec : p.tables.exec = Jvm.exec) {g : JFrame} (hg : g.method = m) {index cF a : Nat} {field : Field} {cell : Cell} {v : Value} {rest : List Value}
    (hr : T.vm.fieldReady m.cls index cF field) (hst : field.isStatic = false) (hstack : g.stack = .ref a :: rest) (hcell : T.heap[a]? = some cell) (hknown : cell.vm ≠ .unknown) (hv : cell.slots[field.slot]? = some v) (hdg : decode c.code g.pc = .ok (.getfield index, 3)) {tg : State} (k : Steps p.tables e below (T.setTop { g with pc := g.pc + 3, stack := v :: rest }) tg) : Steps p.tables e below (T.setTop g) tg := by
  subst hg
  jvm_step Y.here [hexec, hdg, getfield.wp_ready (e := e) (s := T) (c := cF) (field := field) (a := a) (rest := rest) (cell := cell) (v := v) (f := g) Y.here.top hr hst hstack hcell hknown hv]
  exact k
theorem lm_arr {α : Type} {x : Array Nat} {f : Nat → Nat → Nat → Option α} {r : α} (h : Lambda.shapeOf?.match_15 (fun _ => Option α) x f (fun _ => none) = some r) : ∃ a0 a1 a2, f a0 a1 a2 = some r := by
  rcases x with ⟨L⟩
  match L, h with
  | [], h => cases h
  | [_], h => cases h
  | [_, _], h => cases h
  | [a, b, c], h => exact ⟨a, b, c, h⟩
  | _ :: _ :: _ :: _ :: _, h => cases h
theorem lm_shape {cf : ClassFile} {index : Nat} {σ : Lambda.Shape} (h : Lambda.shapeOf? cf index = some σ) : ∃ bsm nt name desc sig, cf.constantPool[index]? = some (.invokeDynamic bsm nt) ∧ cf.constantPool.nameAndType? nt = some (name, desc) ∧ parseLongMethodDescriptor desc = some sig ∧ sig.parameters = σ.captured := by
  unfold Lambda.shapeOf? at h
  split at h
  case h_2 => cases h
  rename_i b nt hb
  obtain ⟨en, -, h⟩ := Option.bind_eq_some_iff.mp h
  obtain ⟨bm, -, h⟩ := Option.bind_eq_some_iff.mp h
  split at h
  case h_2 => cases h
  obtain ⟨_, -, h⟩ := Option.bind_eq_some_iff.mp h
  obtain ⟨a0, a1, a2, h⟩ := lm_arr h
  split at h
  case h_2 => cases h
  split at h
  case h_2 => cases h
  split at h
  case h_2 => cases h
  obtain ⟨⟨name, desc⟩, hnt, h⟩ := Option.bind_eq_some_iff.mp h
  obtain ⟨sig, hsig, h⟩ := Option.bind_eq_some_iff.mp h
  refine ⟨b, nt, name, desc, sig, hb, hnt, parseLong_of_parse hsig, ?_⟩
  dsimp only at h
  split at h
  case h_2 => cases h
  obtain ⟨_, -, h⟩ := Option.bind_eq_some_iff.mp h
  obtain ⟨_, -, h⟩ := Option.bind_eq_some_iff.mp h
  obtain ⟨_, -, h⟩ := Option.bind_eq_some_iff.mp h
  obtain ⟨_, -, h⟩ := Option.bind_eq_some_iff.mp h
  obtain ⟨_, -, h⟩ := Option.bind_eq_some_iff.mp h
  obtain ⟨_, -, h⟩ := Option.bind_eq_some_iff.mp h
  cases h
  rfl

abbrev lsh1 : Lambda.Shape := { iface := "EnergyDiscs$Ask", name := "ask", sam := ⟨[], some .int⟩, captured := [.object "EnergyDiscs", .int], kind := 5, implClass := "EnergyDiscs", implName := "lambda$turnsIn$0", implDesc := ⟨[.int], some .int⟩, implItf := false, inst := ⟨[], some .int⟩ }
def lfw1 : ByteArray := ⟨#[0x2a, 0xb4, 0x00, 0x11, 0x2a, 0xb4, 0x00, 0x13, 0xb6, 0x00, 0x1b, 0xac]⟩
theorem lf1_0 : decode lfw1 0 = .ok (.aload_n 0, 1) := by decide +kernel
theorem lf1_1 : decode lfw1 1 = .ok (.getfield 17, 3) := by decide +kernel
theorem lf1_4 : decode lfw1 4 = .ok (.aload_n 0, 1) := by decide +kernel
theorem lf1_5 : decode lfw1 5 = .ok (.getfield 19, 3) := by decide +kernel
theorem lf1_8 : decode lfw1 8 = .ok (.invokevirtual 27, 3) := by decide +kernel
theorem lf1_11 : decode lfw1 11 = .ok (.ireturn, 1) := by decide +kernel
def lD1 : ClassFile := (lsh1.file "EnergyDiscs").getD { minorVersion := 0, majorVersion := 0, constantPool := #[], accessFlags := 0, thisClass := 0, superClass := 0, interfaces := #[], fields := #[], methods := #[], attributes := #[] }
def lfd1 : Method := ((layoutMethods lD1).bind (·[1]?)).getD default
def lly1 : Array Field × Array FieldType × Array FieldType := (layoutFields lD1 0).getD (#[], #[], #[])
theorem lfile1 : lsh1.file "EnergyDiscs" = some lD1 := by
  have h : (lsh1.file "EnergyDiscs").isSome = true := by decide +kernel
  obtain ⟨x, hx⟩ := Option.isSome_iff_exists.mp h
  simp [lD1, hx]
theorem lsec1 : ∀ ms, layoutMethods lD1 = some ms → ms[1]? = some lfd1 := by
  intro ms hms
  have h : ((layoutMethods lD1).bind (·[1]?)).isSome = true := by decide +kernel
  obtain ⟨x, hx⟩ := Option.isSome_iff_exists.mp h
  have hf : lfd1 = x := by simp [lfd1, hx]
  rw [hms] at hx
  rw [hf]
  exact hx
theorem llay1 : layoutFields lD1 0 = some lly1 := by
  have h : (layoutFields lD1 0).isSome = true := by decide +kernel
  obtain ⟨x, hx⟩ := Option.isSome_iff_exists.mp h
  simp [lly1, hx]
theorem lcode1 : (lfd1.code.map fun c => (c.code.data, c.maxLocals)) = some (lfw1.data, 1) := by decide +kernel
theorem lflag1 : (lfd1.accessFlags, lfd1.sig.returnType) = (0x0001, (some .int : Option FieldType)) := by decide +kernel
theorem leM1 : lD1.constantPool[27]? = some (.methodref 23 26) ∧ lD1.constantPool.className? 23 = some "EnergyDiscs" ∧ lD1.constantPool.nameAndType? 26 = some ("lambda$turnsIn$0", "(I)I") := by decide +kernel
theorem leC1 : lD1.constantPool[23]? = some (.class_ 22) ∧ lD1.constantPool.string? 22 = some "EnergyDiscs" ∧ 23 ≠ lD1.thisClass := by decide +kernel
theorem leF1_0 : lD1.constantPool[17]? = some (.fieldref 2 16) ∧ lD1.constantPool.nameAndType? 16 = some ("arg$1", "LEnergyDiscs;") ∧ lly1.1.findIdx? (·.name == "arg$1") = some 0 ∧ (lly1.1[0]?).map (fun f => (f.isStatic, f.slot)) = some (false, 0) := by decide +kernel
theorem leF1_1 : lD1.constantPool[19]? = some (.fieldref 2 18) ∧ lD1.constantPool.nameAndType? 18 = some ("arg$2", "I") ∧ lly1.1.findIdx? (·.name == "arg$2") = some 1 ∧ (lly1.1[1]?).map (fun f => (f.isStatic, f.slot)) = some (false, 1) := by decide +kernel
theorem llty1 : lly1.2.1 = #[.object "EnergyDiscs", .int] := by decide +kernel
theorem lmade1 {vm : Vm} {d c : ClassId} {dk : Class} (hd : vm.classes[d]? = some dk) (hname : dk.name = "EnergyDiscs") (h : Lambda.isMade { classPath := fun _ => none } vm d lsh1 c = true)
    (hO : ∀ o ok, vm.findClass "java/lang/Object" = some o → vm.classes[o]? = some ok → ok.instanceTypes.size = 0) :
    ∃ (k tk : Class) (file : ClassFile) (methk : Method) (ck : Code) (toy iface : ClassId) (t found : MethodId),
      (vm.classes[c]? = some k ∧ k.name = "EnergyDiscs$$Lambda" ∧ k.cf = some file ∧ file.constantPool = lD1.constantPool ∧ k.instanceTypes = #[.object "EnergyDiscs", .int] ∧ k.kind = .ordinary) ∧
      (vm.method? ⟨c, 1⟩ = some methk ∧ methk.code = some ck ∧ ck.code = lfw1 ∧ ck.maxLocals = 1 ∧ methk.locks = false ∧ methk.accessFlags = 0x0001 ∧ methk.sig.returnType = some .int) ∧
      (vm.findClass "EnergyDiscs" = some toy ∧ vm.classes[toy]? = some tk ∧ tk.isInterface = false ∧ ((methodIn toy "lambda$turnsIn$0" "(I)I" tk.isInterface none).ask { classPath := fun _ => none } vm).1 = .ok t ∧ vm.methodReady c 27 t ∧ vm.classReady c 23 toy) ∧
      (vm.findClass "EnergyDiscs$Ask" = some iface ∧ ((methodIn iface "ask" "()I" true none).ask { classPath := fun _ => none } vm).1 = .ok found ∧ selectMethod {} vm c found = .method ⟨c, 1⟩) ∧ (∃ g0 : Field, vm.fieldReady c 17 c g0 ∧ g0.isStatic = false ∧ g0.slot = 0) ∧ (∃ g1 : Field, vm.fieldReady c 19 c g1 ∧ g1.isStatic = false ∧ g1.slot = 1) := by
  obtain ⟨dk', k, ok, tk, file, cf, object, iface, toy, lay, methods, target, found, hd', hk, hfile, hcf, hobj, hif, hok, hlay, hms, ht, htk, hg, hfo, hrec, -, -, -, hitf, hpool, hmeth, hfields, hty, hres, hsel⟩ := Lambda.isMade_spec h
  cases hd.symm.trans hd'
  rw [hname, lfile1] at hcf
  cases hcf
  have hok0 : ok.instanceTypes = #[] := Array.eq_empty_of_size_eq_zero (hO object ok hobj hok)
  rw [hO object ok hobj hok, llay1] at hlay
  cases hlay
  obtain ⟨b, hb, hsame⟩ := hmeth 1 lfd1 (lsec1 methods hms)
  simp only [Lambda.sameMethod, Bool.and_eq_true, decide_eq_true_eq] at hsame
  obtain ⟨⟨hn, -, hsig, hfl⟩, hcode⟩ := hsame
  have fc := lcode1
  have ff := lflag1
  simp only [Prod.mk.injEq] at ff
  obtain ⟨g0, hg0, hp0⟩ := Option.map_eq_some_iff.mp leF1_0.2.2.2
  simp only [Prod.mk.injEq] at hp0
  obtain ⟨g1, hg1, hp1⟩ := Option.map_eq_some_iff.mp leF1_1.2.2.2
  simp only [Prod.mk.injEq] at hp1
  cases hfc : lfd1.code with
  | none => rw [hfc] at fc; cases fc
  | some x =>
    cases hbc : b.code with
    | none => simp [hfc, hbc] at hcode
    | some y =>
      simp only [hfc, hbc, Bool.and_eq_true, decide_eq_true_eq] at hcode
      simp only [hfc, Option.map_some, Option.some.injEq, Prod.mk.injEq] at fc
      have e1 : y.code = lfw1 := by
        rw [← hcode.1.1.1.1.2.2]
        exact ByteArray.ext fc.1
      have e2 : y.maxLocals = 1 := by rw [← hcode.1.1.1.1.2.1]; exact fc.2
      have e3 : b.locks = false := by simp [Method.locks, Method.isSynchronized, ← hfl, ff.1, hasFlag, Acc.synchronized]
      have e4 : k.instanceTypes = #[.object "EnergyDiscs", .int] := by rw [hty.1, hok0, llty1]; rfl
      have e5 : vm.methodReady c 27 target := ⟨k, hk, hres 27 _ (Lambda.resolvedOf_method leM1.1 leM1.2.1 ht htk leM1.2.2 hg)⟩
      have e6 : vm.classReady c 23 toy := ⟨k, hk, hres 23 _ (Lambda.resolvedOf_class leC1.1 leC1.2.2 leC1.2.1 ht)⟩
      exact ⟨k, tk, file, b, y, toy, iface, target, found, ⟨hk, by rw [hrec.1, hname]; rfl, hfile, hpool.2.1, e4, hrec.2.1⟩, ⟨by simp [Vm.method?, hk, hb], hbc, e1, e2, e3, by rw [← hfl]; exact ff.1, by rw [← hsig]; exact ff.2⟩, ⟨ht, htk, hitf, hg, e5, e6⟩, ⟨hif, hfo, hsel⟩, ⟨g0, ⟨k, 0, k, hk, hres 17 _ (Lambda.resolvedOf_field leF1_0.1 leF1_0.2.1 leF1_0.2.2.1), hk, hfields 0 _ hg0⟩, hp0.1, hp0.2⟩, ⟨g1, ⟨k, 1, k, hk, hres 19 _ (Lambda.resolvedOf_field leF1_1.1 leF1_1.2.1 leF1_1.2.2.1), hk, hfields 1 _ hg1⟩, hp1.1, hp1.2⟩⟩
abbrev lsh2 : Lambda.Shape := { iface := "EnergyDiscs$Ask", name := "ask", sam := ⟨[], some .int⟩, captured := [.object "EnergyDiscs", .int, .int, .int], kind := 5, implClass := "EnergyDiscs", implName := "lambda$wouldTurn$1", implDesc := ⟨[.int, .int, .int], some .int⟩, implItf := false, inst := ⟨[], some .int⟩ }
def lfw2 : ByteArray := ⟨#[0x2a, 0xb4, 0x00, 0x13, 0x2a, 0xb4, 0x00, 0x15, 0x2a, 0xb4, 0x00, 0x17, 0x2a, 0xb4, 0x00, 0x19, 0xb6, 0x00, 0x21, 0xac]⟩
theorem lf2_0 : decode lfw2 0 = .ok (.aload_n 0, 1) := by decide +kernel
theorem lf2_1 : decode lfw2 1 = .ok (.getfield 19, 3) := by decide +kernel
theorem lf2_4 : decode lfw2 4 = .ok (.aload_n 0, 1) := by decide +kernel
theorem lf2_5 : decode lfw2 5 = .ok (.getfield 21, 3) := by decide +kernel
theorem lf2_8 : decode lfw2 8 = .ok (.aload_n 0, 1) := by decide +kernel
theorem lf2_9 : decode lfw2 9 = .ok (.getfield 23, 3) := by decide +kernel
theorem lf2_12 : decode lfw2 12 = .ok (.aload_n 0, 1) := by decide +kernel
theorem lf2_13 : decode lfw2 13 = .ok (.getfield 25, 3) := by decide +kernel
theorem lf2_16 : decode lfw2 16 = .ok (.invokevirtual 33, 3) := by decide +kernel
theorem lf2_19 : decode lfw2 19 = .ok (.ireturn, 1) := by decide +kernel
def lD2 : ClassFile := (lsh2.file "EnergyDiscs").getD { minorVersion := 0, majorVersion := 0, constantPool := #[], accessFlags := 0, thisClass := 0, superClass := 0, interfaces := #[], fields := #[], methods := #[], attributes := #[] }
def lfd2 : Method := ((layoutMethods lD2).bind (·[1]?)).getD default
def lly2 : Array Field × Array FieldType × Array FieldType := (layoutFields lD2 0).getD (#[], #[], #[])
theorem lfile2 : lsh2.file "EnergyDiscs" = some lD2 := by
  have h : (lsh2.file "EnergyDiscs").isSome = true := by decide +kernel
  obtain ⟨x, hx⟩ := Option.isSome_iff_exists.mp h
  simp [lD2, hx]
theorem lsec2 : ∀ ms, layoutMethods lD2 = some ms → ms[1]? = some lfd2 := by
  intro ms hms
  have h : ((layoutMethods lD2).bind (·[1]?)).isSome = true := by decide +kernel
  obtain ⟨x, hx⟩ := Option.isSome_iff_exists.mp h
  have hf : lfd2 = x := by simp [lfd2, hx]
  rw [hms] at hx
  rw [hf]
  exact hx
theorem llay2 : layoutFields lD2 0 = some lly2 := by
  have h : (layoutFields lD2 0).isSome = true := by decide +kernel
  obtain ⟨x, hx⟩ := Option.isSome_iff_exists.mp h
  simp [lly2, hx]
theorem lcode2 : (lfd2.code.map fun c => (c.code.data, c.maxLocals)) = some (lfw2.data, 1) := by decide +kernel
theorem lflag2 : (lfd2.accessFlags, lfd2.sig.returnType) = (0x0001, (some .int : Option FieldType)) := by decide +kernel
theorem leM2 : lD2.constantPool[33]? = some (.methodref 29 32) ∧ lD2.constantPool.className? 29 = some "EnergyDiscs" ∧ lD2.constantPool.nameAndType? 32 = some ("lambda$wouldTurn$1", "(III)I") := by decide +kernel
theorem leC2 : lD2.constantPool[29]? = some (.class_ 28) ∧ lD2.constantPool.string? 28 = some "EnergyDiscs" ∧ 29 ≠ lD2.thisClass := by decide +kernel
theorem leF2_0 : lD2.constantPool[19]? = some (.fieldref 2 18) ∧ lD2.constantPool.nameAndType? 18 = some ("arg$1", "LEnergyDiscs;") ∧ lly2.1.findIdx? (·.name == "arg$1") = some 0 ∧ (lly2.1[0]?).map (fun f => (f.isStatic, f.slot)) = some (false, 0) := by decide +kernel
theorem leF2_1 : lD2.constantPool[21]? = some (.fieldref 2 20) ∧ lD2.constantPool.nameAndType? 20 = some ("arg$2", "I") ∧ lly2.1.findIdx? (·.name == "arg$2") = some 1 ∧ (lly2.1[1]?).map (fun f => (f.isStatic, f.slot)) = some (false, 1) := by decide +kernel
theorem leF2_2 : lD2.constantPool[23]? = some (.fieldref 2 22) ∧ lD2.constantPool.nameAndType? 22 = some ("arg$3", "I") ∧ lly2.1.findIdx? (·.name == "arg$3") = some 2 ∧ (lly2.1[2]?).map (fun f => (f.isStatic, f.slot)) = some (false, 2) := by decide +kernel
theorem leF2_3 : lD2.constantPool[25]? = some (.fieldref 2 24) ∧ lD2.constantPool.nameAndType? 24 = some ("arg$4", "I") ∧ lly2.1.findIdx? (·.name == "arg$4") = some 3 ∧ (lly2.1[3]?).map (fun f => (f.isStatic, f.slot)) = some (false, 3) := by decide +kernel
theorem llty2 : lly2.2.1 = #[.object "EnergyDiscs", .int, .int, .int] := by decide +kernel
theorem lmade2 {vm : Vm} {d c : ClassId} {dk : Class} (hd : vm.classes[d]? = some dk) (hname : dk.name = "EnergyDiscs") (h : Lambda.isMade { classPath := fun _ => none } vm d lsh2 c = true)
    (hO : ∀ o ok, vm.findClass "java/lang/Object" = some o → vm.classes[o]? = some ok → ok.instanceTypes.size = 0) :
    ∃ (k tk : Class) (file : ClassFile) (methk : Method) (ck : Code) (toy iface : ClassId) (t found : MethodId),
      (vm.classes[c]? = some k ∧ k.name = "EnergyDiscs$$Lambda" ∧ k.cf = some file ∧ file.constantPool = lD2.constantPool ∧ k.instanceTypes = #[.object "EnergyDiscs", .int, .int, .int] ∧ k.kind = .ordinary) ∧
      (vm.method? ⟨c, 1⟩ = some methk ∧ methk.code = some ck ∧ ck.code = lfw2 ∧ ck.maxLocals = 1 ∧ methk.locks = false ∧ methk.accessFlags = 0x0001 ∧ methk.sig.returnType = some .int) ∧
      (vm.findClass "EnergyDiscs" = some toy ∧ vm.classes[toy]? = some tk ∧ tk.isInterface = false ∧ ((methodIn toy "lambda$wouldTurn$1" "(III)I" tk.isInterface none).ask { classPath := fun _ => none } vm).1 = .ok t ∧ vm.methodReady c 33 t ∧ vm.classReady c 29 toy) ∧
      (vm.findClass "EnergyDiscs$Ask" = some iface ∧ ((methodIn iface "ask" "()I" true none).ask { classPath := fun _ => none } vm).1 = .ok found ∧ selectMethod {} vm c found = .method ⟨c, 1⟩) ∧ (∃ g0 : Field, vm.fieldReady c 19 c g0 ∧ g0.isStatic = false ∧ g0.slot = 0) ∧ (∃ g1 : Field, vm.fieldReady c 21 c g1 ∧ g1.isStatic = false ∧ g1.slot = 1) ∧ (∃ g2 : Field, vm.fieldReady c 23 c g2 ∧ g2.isStatic = false ∧ g2.slot = 2) ∧ (∃ g3 : Field, vm.fieldReady c 25 c g3 ∧ g3.isStatic = false ∧ g3.slot = 3) := by
  obtain ⟨dk', k, ok, tk, file, cf, object, iface, toy, lay, methods, target, found, hd', hk, hfile, hcf, hobj, hif, hok, hlay, hms, ht, htk, hg, hfo, hrec, -, -, -, hitf, hpool, hmeth, hfields, hty, hres, hsel⟩ := Lambda.isMade_spec h
  cases hd.symm.trans hd'
  rw [hname, lfile2] at hcf
  cases hcf
  have hok0 : ok.instanceTypes = #[] := Array.eq_empty_of_size_eq_zero (hO object ok hobj hok)
  rw [hO object ok hobj hok, llay2] at hlay
  cases hlay
  obtain ⟨b, hb, hsame⟩ := hmeth 1 lfd2 (lsec2 methods hms)
  simp only [Lambda.sameMethod, Bool.and_eq_true, decide_eq_true_eq] at hsame
  obtain ⟨⟨hn, -, hsig, hfl⟩, hcode⟩ := hsame
  have fc := lcode2
  have ff := lflag2
  simp only [Prod.mk.injEq] at ff
  obtain ⟨g0, hg0, hp0⟩ := Option.map_eq_some_iff.mp leF2_0.2.2.2
  simp only [Prod.mk.injEq] at hp0
  obtain ⟨g1, hg1, hp1⟩ := Option.map_eq_some_iff.mp leF2_1.2.2.2
  simp only [Prod.mk.injEq] at hp1
  obtain ⟨g2, hg2, hp2⟩ := Option.map_eq_some_iff.mp leF2_2.2.2.2
  simp only [Prod.mk.injEq] at hp2
  obtain ⟨g3, hg3, hp3⟩ := Option.map_eq_some_iff.mp leF2_3.2.2.2
  simp only [Prod.mk.injEq] at hp3
  cases hfc : lfd2.code with
  | none => rw [hfc] at fc; cases fc
  | some x =>
    cases hbc : b.code with
    | none => simp [hfc, hbc] at hcode
    | some y =>
      simp only [hfc, hbc, Bool.and_eq_true, decide_eq_true_eq] at hcode
      simp only [hfc, Option.map_some, Option.some.injEq, Prod.mk.injEq] at fc
      have e1 : y.code = lfw2 := by
        rw [← hcode.1.1.1.1.2.2]
        exact ByteArray.ext fc.1
      have e2 : y.maxLocals = 1 := by rw [← hcode.1.1.1.1.2.1]; exact fc.2
      have e3 : b.locks = false := by simp [Method.locks, Method.isSynchronized, ← hfl, ff.1, hasFlag, Acc.synchronized]
      have e4 : k.instanceTypes = #[.object "EnergyDiscs", .int, .int, .int] := by rw [hty.1, hok0, llty2]; rfl
      have e5 : vm.methodReady c 33 target := ⟨k, hk, hres 33 _ (Lambda.resolvedOf_method leM2.1 leM2.2.1 ht htk leM2.2.2 hg)⟩
      have e6 : vm.classReady c 29 toy := ⟨k, hk, hres 29 _ (Lambda.resolvedOf_class leC2.1 leC2.2.2 leC2.2.1 ht)⟩
      exact ⟨k, tk, file, b, y, toy, iface, target, found, ⟨hk, by rw [hrec.1, hname]; rfl, hfile, hpool.2.1, e4, hrec.2.1⟩, ⟨by simp [Vm.method?, hk, hb], hbc, e1, e2, e3, by rw [← hfl]; exact ff.1, by rw [← hsig]; exact ff.2⟩, ⟨ht, htk, hitf, hg, e5, e6⟩, ⟨hif, hfo, hsel⟩, ⟨g0, ⟨k, 0, k, hk, hres 19 _ (Lambda.resolvedOf_field leF2_0.1 leF2_0.2.1 leF2_0.2.2.1), hk, hfields 0 _ hg0⟩, hp0.1, hp0.2⟩, ⟨g1, ⟨k, 1, k, hk, hres 21 _ (Lambda.resolvedOf_field leF2_1.1 leF2_1.2.1 leF2_1.2.2.1), hk, hfields 1 _ hg1⟩, hp1.1, hp1.2⟩, ⟨g2, ⟨k, 2, k, hk, hres 23 _ (Lambda.resolvedOf_field leF2_2.1 leF2_2.2.1 leF2_2.2.2.1), hk, hfields 2 _ hg2⟩, hp2.1, hp2.2⟩, ⟨g3, ⟨k, 3, k, hk, hres 25 _ (Lambda.resolvedOf_field leF2_3.1 leF2_3.2.1 leF2_3.2.2.1), hk, hfields 3 _ hg3⟩, hp3.1, hp3.2⟩⟩
section LMG
variable {p : Program} {l : Launch} {e : Env} {R : Room} {s : State} {m : MethodId} {args : Array Value} {below : List Frame} {meth : Method} {c : Code} {Q : State → Prop}
variable {D : va_G} {X : Nat → Nat} {b0 nL bc bs pc q : Nat} {own : String} {cc : ByteArray} {ret : Option FieldType} {G : gM} {lv lv' lv1 : List (Option Value)} {st : List Value}
variable {st0 : List Value}
theorem lmC_1 {cK : ClassId} {ea : Nat} {k : Int} : lmC cK ea (fun j : Nat => if j = 0 then 1 else (iI k).toUInt32) = { cls := cK, slots := #[.ref ea, .int (iI k)], vm := .none } := by
  simp [lmC]
theorem gw_lam1 (hc : cx p s m args meth c D X b0 own cc nL ret) {ea : Nat} {k : Int} {bc' bs' : Nat} (hm : s.methodNamed? ⟨"EnergyDiscs", "turnsIn", "(I)I"⟩ = some m) (d : decode cc pc = .ok (.invokedynamic 295, 5)) (hpc : pc = 11) (hq : pc + 5 = q) (hst : st0 = .int (iI k) :: .ref ea :: st) (hw8 : (st.map fun v => v.category).sum ≤ 8) (hlo : 3072 + 12 ≤ R.locals) (hb1 : bc = bc' + 1) (hb2 : bs = bs' + 2)
    (kk : ∀ a : Nat, G a = none → GW p l e R s m args below meth c D b0 nL Q (gup G a (lm1 (X 7) ea k)) bc' bs' (pc + 5) lv (.ref a :: st)) : GW p l e R s m args below meth c D b0 nL Q G bc bs pc lv st0 := by
  subst hq
  subst hst
  intro H locs ls cells slots h1 h2 hg hl T hT XX
  have hw := hc.2.2.2.2.1
  have hk := hc.2.2.2.2.2.2.2.2.2.2.2
  have hlam : lamAt (X 7) ⟨"EnergyDiscs", "turnsIn", "(I)I"⟩ 11 295 lsh1 s := hk.1
  obtain ⟨mS, kS, cfS, i0, p0, hmS, hkS, hcfS, hfind, hsh, hmade, hcan⟩ := hlam
  cases hm.symm.trans hmS
  obtain ⟨kS', hkS', hnS⟩ := className_of_methodNamed hmS
  cases hkS.symm.trans hkS'
  obtain ⟨kK, tk, file, methk, ck, toy, iface, t0, found, ⟨hkK, -, -, -, hty, hkind⟩, -⟩ := lmade1 hkS hnS hmade (lm_obj hw)
  obtain ⟨bsm, nt, name, desc, sig, hcp, hnt, hsig, hpar⟩ := lm_shape hsh
  have hS : ((kK.instanceTypes.toList.zip ([.ref ea, .int (iI k)] : List Value)).map fun (t, v) => narrow t v) = [.ref ea, .int (iI k)] := by rw [hty]; rfl
  have hpl : e.platform.lambdaLinkWords = 3072 := by rw [XX.admits.platform]
  obtain ⟨X₁, st1⟩ := XX.lambdaMakes hc.1 (g := F0 m pc ls (.int (iI k) :: .ref ea :: st)) rfl (hl.1.trans hc.2.2.1.symm) (by rw [hc.2.1]; exact d) (vals := [.ref ea, .int (iI k)]) (rest := st) hkS (by rw [hpc]; exact hfind) hcfS hcp hnt hsig (by rw [hpar]; rfl) rfl hkK
    (by
      rw [hpl]
      show 2 * 0 + ((.int (iI k) :: .ref ea :: st).map fun v => v.category).sum + 3072 ≤ R.locals
      have e9 : ((.int (iI k) :: .ref ea :: st).map fun v => v.category).sum = 2 + (st.map fun v => v.category).sum := by simp [Value.category]; omega
      rw [e9]
      omega) (by omega) (by rw [hS]; show slots + 2 ≤ R.slots; omega)
    (fun j v hj => by
      rw [hS] at hj
      match j, hj with
      | 0, hj => cases hj; simp [State.fitsSlot, State.slotType?, hkK, hkind, hty, fits]
      | 1, hj => cases hj; simp [State.fitsSlot, State.slotType?, hkK, hkind, hty, fits]
      | j + 2, hj => simp at hj)
  rw [hS] at X₁ st1
  have hb : b0 ≤ H.size := Nat.le_trans hc.2.2.2.2.2.2.2.1 hg.2.1
  have hnone : G H.size = none := gs_none hg
  have hh1 : (T.pushCell { cls := X 7, slots := ([.ref ea, .int (iI k)] : List Value).toArray, vm := .none }).heap[H.size]? = some { cls := X 7, slots := ([.ref ea, .int (iI k)] : List Value).toArray, vm := .none } := by
    rw [← hT]
    exact State.heap_pushCell_size _ _
  obtain ⟨t2, a1, b1⟩ := kk H.size hnone (T.pushCell { cls := X 7, slots := ([.ref ea, .int (iI k)] : List Value).toArray, vm := .none }).heap locs ls (cells + 1) (slots + 2) (by omega) (by omega)
    (gs_new (e := lm1 (X 7) ea k) hg hb (by
      show (T.pushCell _).heap[H.size]? = some (lmC _ _ _)
      rw [lmC_1]
      exact hh1) (by
      have : (T.pushCell { cls := X 7, slots := ([.ref ea, .int (iI k)] : List Value).toArray, vm := .none }).heap.size = T.heap.size + 1 := by simp [State.pushCell, Array.size_push]
      rw [this, hT]) (fun q0 hq0 => by rw [State.heap_pushCell_of_lt _ _ (by rw [hT]; exact hq0), hT])) hl _ rfl X₁
  refine ⟨t2, st1 t2 ?_, b1⟩
  rw [← hT] at a1
  exact a1
set_option maxHeartbeats 4000000 in
theorem gw_ask1 (hc : cx p s m args meth c D X b0 own cc nL ret) {a ea : Nat} {k : Int} {bytes : ByteArray} {maxL : Nat} {rm : Room} {P : Int → gM → Prop} {bc' bs' : Nat} (hown : own = "EnergyDiscs") (d : decode cc pc = .ok (.invokeinterface 52 1, 5)) (hq : pc + 5 = q) (hst : st0 = .ref a :: st) (hG : G a = some (lm1 (X 7) ea k)) (hrc : rcv D b0 s G ea "EnergyDiscs") (hcode : Cond.code yX0_lambda_turnsIn_0 bytes maxL (some .int) ∈ lw_all) (hM : gMet l D X b0 yX0_lambda_turnsIn_0 bytes maxL (some .int) rm (.ref ea :: [.int (iI k)]) G (pI P))
    (hR : rm.frames + 2 ≤ R.frames ∧ 20 + (8 + (maxL + 11) + rm.locals) ≤ R.locals) (hw8 : (st.map fun v => v.category).sum ≤ 8) (hb1 : rm.cells + bc' ≤ bc) (hb2 : rm.slots + bs' ≤ bs) (kk : ∀ (v : Option Value) (G' : gM), pI P v G' → GW p l e R s m args below meth c D b0 nL Q G' bc' bs' (pc + 5) lv (v.toList ++ st)) : GW p l e R s m args below meth c D b0 nL Q G bc bs pc lv st0 := by
  subst hq
  subst hst
  subst hown
  refine gw_go5 (a := #[]) hb1 hb2 (fun H locs ls cells slots h1 h2 hg hl => ?_) kk
  have hw := hc.2.2.2.2.1
  have hk := hc.2.2.2.2.2.2.2.2.2.2.2
  have hN := hc.2.2.2.2.2.2.2.2.1.2
  have hlam : lamAt (X 7) ⟨"EnergyDiscs", "turnsIn", "(I)I"⟩ 11 295 lsh1 s := hk.1
  obtain ⟨mS, kS, cfS, i0, p0, hmS, hkS, hcfS, hfind, hsh, hmade, hcan⟩ := hlam
  obtain ⟨kS', hkS', hnS⟩ := className_of_methodNamed hmS
  cases hkS.symm.trans hkS'
  have hcell : H[a]? = some { cls := X 7, slots := #[.ref ea, .int (iI k)], vm := .none } := by
    have h9 : H[a]? = some (lmC _ _ _) := (hg.1 a _ hG).1
    rw [lmC_1] at h9
    exact h9
  obtain ⟨cellE, hcE, hoE, hclE⟩ := hrc H locs hg
  obtain ⟨r0, r, hn, hrm, hstR, hsigR⟩ := Cond.declares_spec (hN _ q966 rfl)
  obtain ⟨cL, kL, r1, hcL, hkL, hiL, hfoundL, hn1⟩ := Cond.interfaceMethod_spec (hN _ q965 (by decide +kernel))
  cases hn.symm.trans hn1
  have hr0 : r0.cls = cL := Option.some.inj ((findClass_of_methodNamed hn).symm.trans hcL)
  obtain ⟨hnameR, hdescR⟩ := name_of_methodNamed hn hrm
  obtain ⟨kK, tk, file, methk, ck, toy, iface, t0, found, ⟨hkK, -⟩, ⟨hmk, -, -, -, -, hfl, -⟩, -, ⟨hif, hfo, hsel⟩, -⟩ := lmade1 hkS hnS hmade (lm_obj hw)
  obtain ⟨i2, hi2, hasg, hway⟩ := State.lambdaCallable_spec hcan
  cases hcL.symm.trans hif
  cases hcL.symm.trans hi2
  have hlk := lm_look hn ⟨by decide, by decide⟩ hcL hkL
  rw [hiL] at hlk
  cases Except.ok.inj (hfo.symm.trans hlk)
  intro T hT XX
  have hselP : selectMethod e.platform s.vm (X 7) r0 = .method ⟨X 7, 1⟩ := by rw [Launch.admits_selectMethod XX.admits]; exact hsel
  obtain ⟨vm₁, X₁, hstep₁⟩ := XX.invokeinterface hc.1 hc.2.2.2.1 (hw _ q964) hn hrm hstR (by rw [hr0]; exact hkL) hiL ⟨by decide, by decide⟩ (a := a) (cell := { cls := X 7, slots := #[.ref ea, .int (iI k)], vm := .none }) (by rw [hT]; exact hcell) (fun z h => by cases h) hkK (by rw [hr0]; exact hasg) hselP hmk (by rw [hnameR, hdescR]; exact hway) (by rw [hfl]; decide) (by simp [Method.isAbstract, hfl, hasFlag, Acc.abstract]) (g := F0 m pc ls (.ref a :: st)) rfl (argsL := []) (rest := st) (by
    have h2 : (parseMethodDescriptor "()I").map (fun d => d.parameters.length) = some 0 := by decide +kernel
    rw [show parseMethodDescriptor "()I" = _ from hsigR] at h2
    exact (Option.some.inj h2).symm) rfl (by rw [hc.2.1]; exact d)
  have hWU : s.WarmedH vm₁ := X₁.warmed
  have hwU : ∀ (a' : Array Value) (U : State), s.WarmedH U.vm → ∀ w ∈ lw_all, w.before a' U = true := fun a' U hU w h => word_at hU (good_of_word (List.mem_filter.mp h).2) (hw w h)
  obtain ⟨kS1, hkS1, he1⟩ := hWU.alike.2.2 _ _ hkS
  have hmade1 : Lambda.isMade { classPath := fun _ => none } vm₁ mS.cls lsh1 (X 7) = true := Lambda.isMade_warmer hWU hmade
  have hwV := hwU #[] (T.setVm vm₁) hWU
  obtain ⟨kK1, tk1, file1, methk1, ck1, toy1, iface1, t1, found1, ⟨hkK1, hkn1, hfile1, hpool1, -, -⟩, ⟨hmk1, hck1, hcd, hml1, hlk1, hfl1, hret1⟩, ⟨htoy1, htk1, hitf1, hlook1, hready1, hclsR1⟩, -, hF0, hF1⟩ := lmade1 hkS1 (by rw [he1]; exact hnS) hmade1 (lm_obj (s := T.setVm vm₁) hwV)
  have hpk1 : (T.setVm vm₁).plainMethod ⟨X 7, 1⟩ := State.plainMethod.of_name (fun k' hk' => by cases (show vm₁.classes[X 7]? = some k' from hk').symm.trans hkK1; rw [hkn1]; decide)
  obtain ⟨Y0, hin⟩ := X₁.into (g := F0 m pc ls st) rfl (hl.1.trans hc.2.2.1.symm) (by rw [hc.2.1]; exact d) #[.ref a] (R' := { frames := rm.frames + 1, locals := 8 + (maxL + 11) + rm.locals, cells := rm.cells, slots := rm.slots }) hmk1 hck1 hlk1 hpk1 (by show rm.frames + 1 + 1 ≤ R.frames; omega) (by show 2 * 0 + (st.map fun v => v.category).sum + (ck1.maxLocals + 11) + (8 + (maxL + 11) + rm.locals) ≤ R.locals; rw [hml1]; omega) (by show cells + rm.cells ≤ R.cells; omega) (by show slots + rm.slots ≤ R.slots; omega)
  rw [hml1] at Y0 hin
  have hU0 : (((T.setVm vm₁).setTop (F0 m pc ls st)).pushFrame (.java (entryFrame ⟨X 7, 1⟩ #[.ref a] 1))).heap = H := hT
  have hV0 : (((T.setVm vm₁).setTop (F0 m pc ls st)).pushFrame (.java (entryFrame ⟨X 7, 1⟩ #[.ref a] 1))).vm = vm₁ := rfl
  generalize ((T.setVm vm₁).setTop (F0 m pc ls st)).pushFrame (.java (entryFrame ⟨X 7, 1⟩ #[.ref a] 1)) = U0 at Y0 hin hU0 hV0
  have hent : entryFrame ⟨X 7, 1⟩ #[.ref a] 1 = F0 ⟨X 7, 1⟩ 0 #[.val (.ref a)] [] := rfl
  rw [hent] at hin
  have hcell0 : U0.heap[a]? = some { cls := X 7, slots := #[.ref ea, .int (iI k)], vm := .none } := by rw [hU0]; exact hcell
  rw [← hV0] at hF0 hF1 htoy1 htk1 hready1 hclsR1 hkK1 hWU
  have hwV0 : ∀ w ∈ lw_all, w.before #[] U0 = true := hwU #[] U0 hWU
  obtain ⟨tN, methN, hnN, hmN, hstN, habN⟩ := Cond.instanceMethod_spec (hwV0 _ q952)
  obtain ⟨methN', cN', hmN', -, -, -, -, -, -, hsigN⟩ := Cond.code_spec hnN (hwV0 _ hcode)
  cases hmN.symm.trans hmN'
  have hlookN : ((methodIn toy1 "lambda$turnsIn$0" "(I)I" tk1.isInterface none).ask { classPath := fun _ => none } U0.vm).1 = .ok tN := lm_look hnN ⟨by decide, by decide⟩ htoy1 htk1
  rw [← hV0] at hlook1
  cases Except.ok.inj (hlook1.symm.trans hlookN)
  obtain ⟨c2, r2, m2, q1, q2, q3, q4, kP, hkP, hkPi⟩ := Cond.selects_spec (hwV0 _ qs26)
  cases htoy1.symm.trans q1
  cases (State.methodFound?_of_named hnN ⟨by decide, by decide⟩).symm.trans q2
  cases hnN.symm.trans q3
  have hclE0 : cellE.cls = toy1 := Option.some.inj (hclE.symm.trans ((hWU.alike.findClass _ _).symm.trans htoy1))
  obtain ⟨kT, hkT, hnT⟩ := className_of_methodNamed hnN
  have hsp : signaturePolymorphic kT methN = false := by simp [signaturePolymorphic, hnT]
  have hnc : namesAClass U0 (X 7) 27 := ⟨kK1, file1, 23, 26, toy1, tk1, hkK1, hfile1, by rw [hpool1]; exact leM1.1, hclsR1, htk1, hitf1⟩
  have hK : Back l { frames := rm.frames + 1, locals := 8 + (maxL + 11) + rm.locals, cells := rm.cells, slots := rm.slots } p e (.java (F0 m pc ls st) :: below) ((T.setVm vm₁).calling (F0 m pc ls st) ⟨X 7, 1⟩ #[.ref a]) #[.ref a] yX0_lambda_turnsIn_0 3 8 (PreOf { frames := rm.frames + 1, locals := 8 + (maxL + 11) + rm.locals, cells := rm.cells, slots := rm.slots } rm.cells rm.slots (gPc D X b0 (.ref ea :: [.int (iI k)]) G)) (PostOf (gQ D b0 (pI P)) rm.cells rm.slots (bz b0)) :=
    back_of (bytes := bytes) (maxL := maxL) (ret := some .int) hM gPc_blind rfl rfl (Nat.le_refl _) (Nat.le_refl _) (fun w h a' U hU => word_at (s := (T.setVm vm₁).calling (F0 m pc ls st) ⟨X 7, 1⟩ #[.ref a]) (args := #[]) hU (lw_meth hcode w h).2 (hwU #[] ((T.setVm vm₁).calling (F0 m pc ls st) ⟨X 7, 1⟩ #[.ref a]) X₁.warmed w (lw_meth hcode w h).1)) List.mem_cons_self (fun a' U hU => word_at (s := (T.setVm vm₁).calling (F0 m pc ls st) ⟨X 7, 1⟩ #[.ref a]) (args := #[]) hU (Or.inl (by first | rfl | simp [Cond.onTables, Cond.keeps, Cond.steady])) (hwU #[] ((T.setVm vm₁).calling (F0 m pc ls st) ⟨X 7, 1⟩ #[.ref a]) X₁.warmed _ q73))
  obtain ⟨v, ⟨U1, L1, c1, n1⟩, Y1, ⟨g', mk', tE, LL, e1, e2, hq2, e3, hLL, e4, e5⟩, hst9⟩ := hK ⟨X 7, 1⟩ methk1 ck1 ⟨U0, [], 0, 0⟩ (F0 ⟨X 7, 1⟩ 8 #[.val (.ref a)] []) (.invokevirtual 27) t1 (.ref ea :: [.int (iI k)] : List Value).toArray Y0 rfl (by rw [hml1]; rfl) (by rw [hcd]; exact lf1_8) (by show 2 * 0 + 0 ≤ 8; omega) hnN ⟨by show 0 + rm.cells ≤ rm.cells; omega, by show 0 + rm.slots ≤ rm.slots; omega, gpv hc hg U0 hU0 hWU⟩
  dsimp only [Pt.U, Pt.locs, Pt.cells, Pt.slots] at Y1 e1 e2 e3 e4 e5 hst9 hq2
  subst e3; subst e4; subst e5
  obtain ⟨⟨v', G', hv', ⟨r9, hr9, hP9⟩, hgh9⟩, hF9⟩ := id hq2
  cases hv'
  subst hr9
  obtain ⟨fs, hleave, -, hended, hWe, hsame⟩ := Y1.leave (v := some (.int (iI r9))) (fun h => by rw [hret1] at h; cases h) hlk1
  obtain ⟨T', X', hW', -, ht'⟩ := X₁.outOf (g := F0 m pc ls st) rfl (by rw [hc.2.1]; exact d) hended hWe hsame
  refine ⟨some (.int (iI r9)), (U0.calling g' mk' (.ref ea :: [.int (iI k)] : List Value).toArray), tE, T', L1, hU0, by simpa using X', hLL, by rw [← e1]; exact (congrArg State.heap ht').symm, by rw [← e2]; exact (congrArg State.vm ht').symm, hq2, fun target hgo => hstep₁ _ fun acts => ?_⟩
  rw [doInvoke_state, show (Value.ref a :: []).toArray = #[Value.ref a] from rfl, hin []]
  have hgo1 : Steps p.tables e below (U1.setFrames fs) target := by rw [ht']; exact hgo
  refine Steps.trans (Steps.weaken (mid := [.java (F0 m pc ls st)]) ?_) hgo1
  show Steps p.tables e (.java (F0 m pc ls st) :: below) (U0.setTop (F0 ⟨X 7, 1⟩ 0 #[.val (.ref a)] [])) _
  jvm_step Y0.here [hc.1, hcd, lf1_0, Value.isRef]
  obtain ⟨gF, hgF1, hgF2, hgF3⟩ := hF0
  refine lm_getf Y0 hc.1 (g := F0 ⟨X 7, 1⟩ 1 #[.val (.ref a)] (.ref a :: [])) rfl (index := 17) (cF := X 7) (field := gF) (cell := { cls := X 7, slots := #[.ref ea, .int (iI k)], vm := .none }) (v := .ref ea) (rest := []) hgF1 hgF2 rfl hcell0 (show VmData.none ≠ VmData.unknown from fun z => by cases z) (by rw [hgF3]; rfl) (by rw [hcd]; exact lf1_1) ?_
  show Steps p.tables e (.java (F0 m pc ls st) :: below) (U0.setTop (F0 ⟨X 7, 1⟩ 4 #[.val (.ref a)] [.ref ea])) _
  jvm_step Y0.here [hc.1, hcd, lf1_4, Value.isRef]
  obtain ⟨gF, hgF1, hgF2, hgF3⟩ := hF1
  refine lm_getf Y0 hc.1 (g := F0 ⟨X 7, 1⟩ 5 #[.val (.ref a)] (.ref a :: [.ref ea])) rfl (index := 19) (cF := X 7) (field := gF) (cell := { cls := X 7, slots := #[.ref ea, .int (iI k)], vm := .none }) (v := .int (iI k)) (rest := [.ref ea]) hgF1 hgF2 rfl hcell0 (show VmData.none ≠ VmData.unknown from fun z => by cases z) (by rw [hgF3]; rfl) (by rw [hcd]; exact lf1_5) ?_
  show Steps p.tables e (.java (F0 m pc ls st) :: below) (U0.setTop (F0 ⟨X 7, 1⟩ 8 #[.val (.ref a)] [.int (iI k), .ref ea])) _
  jvm_step Y0.here [hc.1, hcd, lf1_8, invokevirtual.wp_ready (e := e) (s := U0) (r := t1) (m := t1) (k := kT) (mk := kP) (rmeth := methN) (meth := methN) (a := ea) (args := [.int (iI k)]) (rest := []) (cell := cellE) (f := F0 ⟨X 7, 1⟩ 8 #[.val (.ref a)] [.int (iI k), .ref ea]) Y0.here.top hnc hready1 hkT hmN hsp hstN (by
    have h2 : (parseMethodDescriptor "(I)I").map (fun d => d.parameters.length) = some 1 := by decide +kernel
    rw [show parseMethodDescriptor "(I)I" = _ from hsigN] at h2
    exact (Option.some.inj h2).symm) rfl (by rw [hU0]; exact hcE) (fun z h => by rw [h] at hoE; cases hoE) (by rw [Launch.admits_selectMethod XX.admits, hclE0]; exact q4) hmN habN hkP hkPi]
  intro acts9
  rw [doInvoke_state]
  refine hst9.trans ?_
  have hm1 : U1.vm.method? ⟨X 7, 1⟩ = some methk1 := Y1.method'
  show Steps p.tables e (.java (F0 m pc ls st) :: below) (U1.setTop (F0 ⟨X 7, 1⟩ 11 #[.val (.ref a)] [.int (iI r9)])) _
  jvm_step Y1.here [Y1.here.top, hc.1, hcd, lf1_11, hm1, hret1, narrow]
  intro acts8
  rw [hleave _ acts8 rfl rfl rfl]
  exact Steps.refl _
theorem lmC_2 {cK : ClassId} {ea : Nat} {k t w : Int} : lmC cK ea (fun j : Nat => if j = 0 then 3 else if j = 1 then (iI k).toUInt32 else if j = 2 then (iI t).toUInt32 else (iI w).toUInt32) = { cls := cK, slots := #[.ref ea, .int (iI k), .int (iI t), .int (iI w)], vm := .none } := by
  simp [lmC]
theorem gw_lam2 (hc : cx p s m args meth c D X b0 own cc nL ret) {ea : Nat} {k t w : Int} {bc' bs' : Nat} (hm : s.methodNamed? ⟨"EnergyDiscs", "wouldTurn", "(III)I"⟩ = some m) (d : decode cc pc = .ok (.invokedynamic 302, 5)) (hpc : pc = 47) (hq : pc + 5 = q) (hst : st0 = .int (iI w) :: .int (iI t) :: .int (iI k) :: .ref ea :: st) (hw8 : (st.map fun v => v.category).sum ≤ 8) (hlo : 3072 + 12 ≤ R.locals) (hb1 : bc = bc' + 1) (hb2 : bs = bs' + 4)
    (kk : ∀ a : Nat, G a = none → GW p l e R s m args below meth c D b0 nL Q (gup G a (lm2 (X 8) ea k t w)) bc' bs' (pc + 5) lv (.ref a :: st)) : GW p l e R s m args below meth c D b0 nL Q G bc bs pc lv st0 := by
  subst hq
  subst hst
  intro H locs ls cells slots h1 h2 hg hl T hT XX
  have hw := hc.2.2.2.2.1
  have hk := hc.2.2.2.2.2.2.2.2.2.2.2
  have hlam : lamAt (X 8) ⟨"EnergyDiscs", "wouldTurn", "(III)I"⟩ 47 302 lsh2 s := hk.2.1
  obtain ⟨mS, kS, cfS, i0, p0, hmS, hkS, hcfS, hfind, hsh, hmade, hcan⟩ := hlam
  cases hm.symm.trans hmS
  obtain ⟨kS', hkS', hnS⟩ := className_of_methodNamed hmS
  cases hkS.symm.trans hkS'
  obtain ⟨kK, tk, file, methk, ck, toy, iface, t0, found, ⟨hkK, -, -, -, hty, hkind⟩, -⟩ := lmade2 hkS hnS hmade (lm_obj hw)
  obtain ⟨bsm, nt, name, desc, sig, hcp, hnt, hsig, hpar⟩ := lm_shape hsh
  have hS : ((kK.instanceTypes.toList.zip ([.ref ea, .int (iI k), .int (iI t), .int (iI w)] : List Value)).map fun (t, v) => narrow t v) = [.ref ea, .int (iI k), .int (iI t), .int (iI w)] := by rw [hty]; rfl
  have hpl : e.platform.lambdaLinkWords = 3072 := by rw [XX.admits.platform]
  obtain ⟨X₁, st1⟩ := XX.lambdaMakes hc.1 (g := F0 m pc ls (.int (iI w) :: .int (iI t) :: .int (iI k) :: .ref ea :: st)) rfl (hl.1.trans hc.2.2.1.symm) (by rw [hc.2.1]; exact d) (vals := [.ref ea, .int (iI k), .int (iI t), .int (iI w)]) (rest := st) hkS (by rw [hpc]; exact hfind) hcfS hcp hnt hsig (by rw [hpar]; rfl) rfl hkK
    (by
      rw [hpl]
      show 2 * 0 + ((.int (iI w) :: .int (iI t) :: .int (iI k) :: .ref ea :: st).map fun v => v.category).sum + 3072 ≤ R.locals
      have e9 : ((.int (iI w) :: .int (iI t) :: .int (iI k) :: .ref ea :: st).map fun v => v.category).sum = 4 + (st.map fun v => v.category).sum := by simp [Value.category]; omega
      rw [e9]
      omega) (by omega) (by rw [hS]; show slots + 4 ≤ R.slots; omega)
    (fun j v hj => by
      rw [hS] at hj
      match j, hj with
      | 0, hj => cases hj; simp [State.fitsSlot, State.slotType?, hkK, hkind, hty, fits]
      | 1, hj => cases hj; simp [State.fitsSlot, State.slotType?, hkK, hkind, hty, fits]
      | 2, hj => cases hj; simp [State.fitsSlot, State.slotType?, hkK, hkind, hty, fits]
      | 3, hj => cases hj; simp [State.fitsSlot, State.slotType?, hkK, hkind, hty, fits]
      | j + 4, hj => simp at hj)
  rw [hS] at X₁ st1
  have hb : b0 ≤ H.size := Nat.le_trans hc.2.2.2.2.2.2.2.1 hg.2.1
  have hnone : G H.size = none := gs_none hg
  have hh1 : (T.pushCell { cls := X 8, slots := ([.ref ea, .int (iI k), .int (iI t), .int (iI w)] : List Value).toArray, vm := .none }).heap[H.size]? = some { cls := X 8, slots := ([.ref ea, .int (iI k), .int (iI t), .int (iI w)] : List Value).toArray, vm := .none } := by
    rw [← hT]
    exact State.heap_pushCell_size _ _
  obtain ⟨t2, a1, b1⟩ := kk H.size hnone (T.pushCell { cls := X 8, slots := ([.ref ea, .int (iI k), .int (iI t), .int (iI w)] : List Value).toArray, vm := .none }).heap locs ls (cells + 1) (slots + 4) (by omega) (by omega)
    (gs_new (e := lm2 (X 8) ea k t w) hg hb (by
      show (T.pushCell _).heap[H.size]? = some (lmC _ _ _)
      rw [lmC_2]
      exact hh1) (by
      have : (T.pushCell { cls := X 8, slots := ([.ref ea, .int (iI k), .int (iI t), .int (iI w)] : List Value).toArray, vm := .none }).heap.size = T.heap.size + 1 := by simp [State.pushCell, Array.size_push]
      rw [this, hT]) (fun q0 hq0 => by rw [State.heap_pushCell_of_lt _ _ (by rw [hT]; exact hq0), hT])) hl _ rfl X₁
  refine ⟨t2, st1 t2 ?_, b1⟩
  rw [← hT] at a1
  exact a1
set_option maxHeartbeats 4000000 in
theorem gw_ask2 (hc : cx p s m args meth c D X b0 own cc nL ret) {a ea : Nat} {k t w : Int} {bytes : ByteArray} {maxL : Nat} {rm : Room} {P : Int → gM → Prop} {bc' bs' : Nat} (hown : own = "EnergyDiscs") (d : decode cc pc = .ok (.invokeinterface 52 1, 5)) (hq : pc + 5 = q) (hst : st0 = .ref a :: st) (hG : G a = some (lm2 (X 8) ea k t w)) (hrc : rcv D b0 s G ea "EnergyDiscs") (hcode : Cond.code yX0_lambda_wouldTurn_1 bytes maxL (some .int) ∈ lw_all) (hM : gMet l D X b0 yX0_lambda_wouldTurn_1 bytes maxL (some .int) rm (.ref ea :: [.int (iI k), .int (iI t), .int (iI w)]) G (pI P))
    (hR : rm.frames + 2 ≤ R.frames ∧ 20 + (8 + (maxL + 11) + rm.locals) ≤ R.locals) (hw8 : (st.map fun v => v.category).sum ≤ 8) (hb1 : rm.cells + bc' ≤ bc) (hb2 : rm.slots + bs' ≤ bs) (kk : ∀ (v : Option Value) (G' : gM), pI P v G' → GW p l e R s m args below meth c D b0 nL Q G' bc' bs' (pc + 5) lv (v.toList ++ st)) : GW p l e R s m args below meth c D b0 nL Q G bc bs pc lv st0 := by
  subst hq
  subst hst
  subst hown
  refine gw_go5 (a := #[]) hb1 hb2 (fun H locs ls cells slots h1 h2 hg hl => ?_) kk
  have hw := hc.2.2.2.2.1
  have hk := hc.2.2.2.2.2.2.2.2.2.2.2
  have hN := hc.2.2.2.2.2.2.2.2.1.2
  have hlam : lamAt (X 8) ⟨"EnergyDiscs", "wouldTurn", "(III)I"⟩ 47 302 lsh2 s := hk.2.1
  obtain ⟨mS, kS, cfS, i0, p0, hmS, hkS, hcfS, hfind, hsh, hmade, hcan⟩ := hlam
  obtain ⟨kS', hkS', hnS⟩ := className_of_methodNamed hmS
  cases hkS.symm.trans hkS'
  have hcell : H[a]? = some { cls := X 8, slots := #[.ref ea, .int (iI k), .int (iI t), .int (iI w)], vm := .none } := by
    have h9 : H[a]? = some (lmC _ _ _) := (hg.1 a _ hG).1
    rw [lmC_2] at h9
    exact h9
  obtain ⟨cellE, hcE, hoE, hclE⟩ := hrc H locs hg
  obtain ⟨r0, r, hn, hrm, hstR, hsigR⟩ := Cond.declares_spec (hN _ q966 rfl)
  obtain ⟨cL, kL, r1, hcL, hkL, hiL, hfoundL, hn1⟩ := Cond.interfaceMethod_spec (hN _ q965 (by decide +kernel))
  cases hn.symm.trans hn1
  have hr0 : r0.cls = cL := Option.some.inj ((findClass_of_methodNamed hn).symm.trans hcL)
  obtain ⟨hnameR, hdescR⟩ := name_of_methodNamed hn hrm
  obtain ⟨kK, tk, file, methk, ck, toy, iface, t0, found, ⟨hkK, -⟩, ⟨hmk, -, -, -, -, hfl, -⟩, -, ⟨hif, hfo, hsel⟩, -⟩ := lmade2 hkS hnS hmade (lm_obj hw)
  obtain ⟨i2, hi2, hasg, hway⟩ := State.lambdaCallable_spec hcan
  cases hcL.symm.trans hif
  cases hcL.symm.trans hi2
  have hlk := lm_look hn ⟨by decide, by decide⟩ hcL hkL
  rw [hiL] at hlk
  cases Except.ok.inj (hfo.symm.trans hlk)
  intro T hT XX
  have hselP : selectMethod e.platform s.vm (X 8) r0 = .method ⟨X 8, 1⟩ := by rw [Launch.admits_selectMethod XX.admits]; exact hsel
  obtain ⟨vm₁, X₁, hstep₁⟩ := XX.invokeinterface hc.1 hc.2.2.2.1 (hw _ q964) hn hrm hstR (by rw [hr0]; exact hkL) hiL ⟨by decide, by decide⟩ (a := a) (cell := { cls := X 8, slots := #[.ref ea, .int (iI k), .int (iI t), .int (iI w)], vm := .none }) (by rw [hT]; exact hcell) (fun z h => by cases h) hkK (by rw [hr0]; exact hasg) hselP hmk (by rw [hnameR, hdescR]; exact hway) (by rw [hfl]; decide) (by simp [Method.isAbstract, hfl, hasFlag, Acc.abstract]) (g := F0 m pc ls (.ref a :: st)) rfl (argsL := []) (rest := st) (by
    have h2 : (parseMethodDescriptor "()I").map (fun d => d.parameters.length) = some 0 := by decide +kernel
    rw [show parseMethodDescriptor "()I" = _ from hsigR] at h2
    exact (Option.some.inj h2).symm) rfl (by rw [hc.2.1]; exact d)
  have hWU : s.WarmedH vm₁ := X₁.warmed
  have hwU : ∀ (a' : Array Value) (U : State), s.WarmedH U.vm → ∀ w ∈ lw_all, w.before a' U = true := fun a' U hU w h => word_at hU (good_of_word (List.mem_filter.mp h).2) (hw w h)
  obtain ⟨kS1, hkS1, he1⟩ := hWU.alike.2.2 _ _ hkS
  have hmade1 : Lambda.isMade { classPath := fun _ => none } vm₁ mS.cls lsh2 (X 8) = true := Lambda.isMade_warmer hWU hmade
  have hwV := hwU #[] (T.setVm vm₁) hWU
  obtain ⟨kK1, tk1, file1, methk1, ck1, toy1, iface1, t1, found1, ⟨hkK1, hkn1, hfile1, hpool1, -, -⟩, ⟨hmk1, hck1, hcd, hml1, hlk1, hfl1, hret1⟩, ⟨htoy1, htk1, hitf1, hlook1, hready1, hclsR1⟩, -, hF0, hF1, hF2, hF3⟩ := lmade2 hkS1 (by rw [he1]; exact hnS) hmade1 (lm_obj (s := T.setVm vm₁) hwV)
  have hpk1 : (T.setVm vm₁).plainMethod ⟨X 8, 1⟩ := State.plainMethod.of_name (fun k' hk' => by cases (show vm₁.classes[X 8]? = some k' from hk').symm.trans hkK1; rw [hkn1]; decide)
  obtain ⟨Y0, hin⟩ := X₁.into (g := F0 m pc ls st) rfl (hl.1.trans hc.2.2.1.symm) (by rw [hc.2.1]; exact d) #[.ref a] (R' := { frames := rm.frames + 1, locals := 8 + (maxL + 11) + rm.locals, cells := rm.cells, slots := rm.slots }) hmk1 hck1 hlk1 hpk1 (by show rm.frames + 1 + 1 ≤ R.frames; omega) (by show 2 * 0 + (st.map fun v => v.category).sum + (ck1.maxLocals + 11) + (8 + (maxL + 11) + rm.locals) ≤ R.locals; rw [hml1]; omega) (by show cells + rm.cells ≤ R.cells; omega) (by show slots + rm.slots ≤ R.slots; omega)
  rw [hml1] at Y0 hin
  have hU0 : (((T.setVm vm₁).setTop (F0 m pc ls st)).pushFrame (.java (entryFrame ⟨X 8, 1⟩ #[.ref a] 1))).heap = H := hT
  have hV0 : (((T.setVm vm₁).setTop (F0 m pc ls st)).pushFrame (.java (entryFrame ⟨X 8, 1⟩ #[.ref a] 1))).vm = vm₁ := rfl
  generalize ((T.setVm vm₁).setTop (F0 m pc ls st)).pushFrame (.java (entryFrame ⟨X 8, 1⟩ #[.ref a] 1)) = U0 at Y0 hin hU0 hV0
  have hent : entryFrame ⟨X 8, 1⟩ #[.ref a] 1 = F0 ⟨X 8, 1⟩ 0 #[.val (.ref a)] [] := rfl
  rw [hent] at hin
  have hcell0 : U0.heap[a]? = some { cls := X 8, slots := #[.ref ea, .int (iI k), .int (iI t), .int (iI w)], vm := .none } := by rw [hU0]; exact hcell
  rw [← hV0] at hF0 hF1 hF2 hF3 htoy1 htk1 hready1 hclsR1 hkK1 hWU
  have hwV0 : ∀ w ∈ lw_all, w.before #[] U0 = true := hwU #[] U0 hWU
  obtain ⟨tN, methN, hnN, hmN, hstN, habN⟩ := Cond.instanceMethod_spec (hwV0 _ q972)
  obtain ⟨methN', cN', hmN', -, -, -, -, -, -, hsigN⟩ := Cond.code_spec hnN (hwV0 _ hcode)
  cases hmN.symm.trans hmN'
  have hlookN : ((methodIn toy1 "lambda$wouldTurn$1" "(III)I" tk1.isInterface none).ask { classPath := fun _ => none } U0.vm).1 = .ok tN := lm_look hnN ⟨by decide, by decide⟩ htoy1 htk1
  rw [← hV0] at hlook1
  cases Except.ok.inj (hlook1.symm.trans hlookN)
  obtain ⟨c2, r2, m2, q1, q2, q3, q4, kP, hkP, hkPi⟩ := Cond.selects_spec (hwV0 _ qs29)
  cases htoy1.symm.trans q1
  cases (State.methodFound?_of_named hnN ⟨by decide, by decide⟩).symm.trans q2
  cases hnN.symm.trans q3
  have hclE0 : cellE.cls = toy1 := Option.some.inj (hclE.symm.trans ((hWU.alike.findClass _ _).symm.trans htoy1))
  obtain ⟨kT, hkT, hnT⟩ := className_of_methodNamed hnN
  have hsp : signaturePolymorphic kT methN = false := by simp [signaturePolymorphic, hnT]
  have hnc : namesAClass U0 (X 8) 33 := ⟨kK1, file1, 29, 32, toy1, tk1, hkK1, hfile1, by rw [hpool1]; exact leM2.1, hclsR1, htk1, hitf1⟩
  have hK : Back l { frames := rm.frames + 1, locals := 8 + (maxL + 11) + rm.locals, cells := rm.cells, slots := rm.slots } p e (.java (F0 m pc ls st) :: below) ((T.setVm vm₁).calling (F0 m pc ls st) ⟨X 8, 1⟩ #[.ref a]) #[.ref a] yX0_lambda_wouldTurn_1 3 8 (PreOf { frames := rm.frames + 1, locals := 8 + (maxL + 11) + rm.locals, cells := rm.cells, slots := rm.slots } rm.cells rm.slots (gPc D X b0 (.ref ea :: [.int (iI k), .int (iI t), .int (iI w)]) G)) (PostOf (gQ D b0 (pI P)) rm.cells rm.slots (bz b0)) :=
    back_of (bytes := bytes) (maxL := maxL) (ret := some .int) hM gPc_blind rfl rfl (Nat.le_refl _) (Nat.le_refl _) (fun w h a' U hU => word_at (s := (T.setVm vm₁).calling (F0 m pc ls st) ⟨X 8, 1⟩ #[.ref a]) (args := #[]) hU (lw_meth hcode w h).2 (hwU #[] ((T.setVm vm₁).calling (F0 m pc ls st) ⟨X 8, 1⟩ #[.ref a]) X₁.warmed w (lw_meth hcode w h).1)) List.mem_cons_self (fun a' U hU => word_at (s := (T.setVm vm₁).calling (F0 m pc ls st) ⟨X 8, 1⟩ #[.ref a]) (args := #[]) hU (Or.inl (by first | rfl | simp [Cond.onTables, Cond.keeps, Cond.steady])) (hwU #[] ((T.setVm vm₁).calling (F0 m pc ls st) ⟨X 8, 1⟩ #[.ref a]) X₁.warmed _ q73))
  obtain ⟨v, ⟨U1, L1, c1, n1⟩, Y1, ⟨g', mk', tE, LL, e1, e2, hq2, e3, hLL, e4, e5⟩, hst9⟩ := hK ⟨X 8, 1⟩ methk1 ck1 ⟨U0, [], 0, 0⟩ (F0 ⟨X 8, 1⟩ 16 #[.val (.ref a)] []) (.invokevirtual 33) t1 (.ref ea :: [.int (iI k), .int (iI t), .int (iI w)] : List Value).toArray Y0 rfl (by rw [hml1]; rfl) (by rw [hcd]; exact lf2_16) (by show 2 * 0 + 0 ≤ 8; omega) hnN ⟨by show 0 + rm.cells ≤ rm.cells; omega, by show 0 + rm.slots ≤ rm.slots; omega, gpv hc hg U0 hU0 hWU⟩
  dsimp only [Pt.U, Pt.locs, Pt.cells, Pt.slots] at Y1 e1 e2 e3 e4 e5 hst9 hq2
  subst e3; subst e4; subst e5
  obtain ⟨⟨v', G', hv', ⟨r9, hr9, hP9⟩, hgh9⟩, hF9⟩ := id hq2
  cases hv'
  subst hr9
  obtain ⟨fs, hleave, -, hended, hWe, hsame⟩ := Y1.leave (v := some (.int (iI r9))) (fun h => by rw [hret1] at h; cases h) hlk1
  obtain ⟨T', X', hW', -, ht'⟩ := X₁.outOf (g := F0 m pc ls st) rfl (by rw [hc.2.1]; exact d) hended hWe hsame
  refine ⟨some (.int (iI r9)), (U0.calling g' mk' (.ref ea :: [.int (iI k), .int (iI t), .int (iI w)] : List Value).toArray), tE, T', L1, hU0, by simpa using X', hLL, by rw [← e1]; exact (congrArg State.heap ht').symm, by rw [← e2]; exact (congrArg State.vm ht').symm, hq2, fun target hgo => hstep₁ _ fun acts => ?_⟩
  rw [doInvoke_state, show (Value.ref a :: []).toArray = #[Value.ref a] from rfl, hin []]
  have hgo1 : Steps p.tables e below (U1.setFrames fs) target := by rw [ht']; exact hgo
  refine Steps.trans (Steps.weaken (mid := [.java (F0 m pc ls st)]) ?_) hgo1
  show Steps p.tables e (.java (F0 m pc ls st) :: below) (U0.setTop (F0 ⟨X 8, 1⟩ 0 #[.val (.ref a)] [])) _
  jvm_step Y0.here [hc.1, hcd, lf2_0, Value.isRef]
  obtain ⟨gF, hgF1, hgF2, hgF3⟩ := hF0
  refine lm_getf Y0 hc.1 (g := F0 ⟨X 8, 1⟩ 1 #[.val (.ref a)] (.ref a :: [])) rfl (index := 19) (cF := X 8) (field := gF) (cell := { cls := X 8, slots := #[.ref ea, .int (iI k), .int (iI t), .int (iI w)], vm := .none }) (v := .ref ea) (rest := []) hgF1 hgF2 rfl hcell0 (show VmData.none ≠ VmData.unknown from fun z => by cases z) (by rw [hgF3]; rfl) (by rw [hcd]; exact lf2_1) ?_
  show Steps p.tables e (.java (F0 m pc ls st) :: below) (U0.setTop (F0 ⟨X 8, 1⟩ 4 #[.val (.ref a)] [.ref ea])) _
  jvm_step Y0.here [hc.1, hcd, lf2_4, Value.isRef]
  obtain ⟨gF, hgF1, hgF2, hgF3⟩ := hF1
  refine lm_getf Y0 hc.1 (g := F0 ⟨X 8, 1⟩ 5 #[.val (.ref a)] (.ref a :: [.ref ea])) rfl (index := 21) (cF := X 8) (field := gF) (cell := { cls := X 8, slots := #[.ref ea, .int (iI k), .int (iI t), .int (iI w)], vm := .none }) (v := .int (iI k)) (rest := [.ref ea]) hgF1 hgF2 rfl hcell0 (show VmData.none ≠ VmData.unknown from fun z => by cases z) (by rw [hgF3]; rfl) (by rw [hcd]; exact lf2_5) ?_
  show Steps p.tables e (.java (F0 m pc ls st) :: below) (U0.setTop (F0 ⟨X 8, 1⟩ 8 #[.val (.ref a)] [.int (iI k), .ref ea])) _
  jvm_step Y0.here [hc.1, hcd, lf2_8, Value.isRef]
  obtain ⟨gF, hgF1, hgF2, hgF3⟩ := hF2
  refine lm_getf Y0 hc.1 (g := F0 ⟨X 8, 1⟩ 9 #[.val (.ref a)] (.ref a :: [.int (iI k), .ref ea])) rfl (index := 23) (cF := X 8) (field := gF) (cell := { cls := X 8, slots := #[.ref ea, .int (iI k), .int (iI t), .int (iI w)], vm := .none }) (v := .int (iI t)) (rest := [.int (iI k), .ref ea]) hgF1 hgF2 rfl hcell0 (show VmData.none ≠ VmData.unknown from fun z => by cases z) (by rw [hgF3]; rfl) (by rw [hcd]; exact lf2_9) ?_
  show Steps p.tables e (.java (F0 m pc ls st) :: below) (U0.setTop (F0 ⟨X 8, 1⟩ 12 #[.val (.ref a)] [.int (iI t), .int (iI k), .ref ea])) _
  jvm_step Y0.here [hc.1, hcd, lf2_12, Value.isRef]
  obtain ⟨gF, hgF1, hgF2, hgF3⟩ := hF3
  refine lm_getf Y0 hc.1 (g := F0 ⟨X 8, 1⟩ 13 #[.val (.ref a)] (.ref a :: [.int (iI t), .int (iI k), .ref ea])) rfl (index := 25) (cF := X 8) (field := gF) (cell := { cls := X 8, slots := #[.ref ea, .int (iI k), .int (iI t), .int (iI w)], vm := .none }) (v := .int (iI w)) (rest := [.int (iI t), .int (iI k), .ref ea]) hgF1 hgF2 rfl hcell0 (show VmData.none ≠ VmData.unknown from fun z => by cases z) (by rw [hgF3]; rfl) (by rw [hcd]; exact lf2_13) ?_
  show Steps p.tables e (.java (F0 m pc ls st) :: below) (U0.setTop (F0 ⟨X 8, 1⟩ 16 #[.val (.ref a)] [.int (iI w), .int (iI t), .int (iI k), .ref ea])) _
  jvm_step Y0.here [hc.1, hcd, lf2_16, invokevirtual.wp_ready (e := e) (s := U0) (r := t1) (m := t1) (k := kT) (mk := kP) (rmeth := methN) (meth := methN) (a := ea) (args := [.int (iI k), .int (iI t), .int (iI w)]) (rest := []) (cell := cellE) (f := F0 ⟨X 8, 1⟩ 16 #[.val (.ref a)] [.int (iI w), .int (iI t), .int (iI k), .ref ea]) Y0.here.top hnc hready1 hkT hmN hsp hstN (by
    have h2 : (parseMethodDescriptor "(III)I").map (fun d => d.parameters.length) = some 3 := by decide +kernel
    rw [show parseMethodDescriptor "(III)I" = _ from hsigN] at h2
    exact (Option.some.inj h2).symm) rfl (by rw [hU0]; exact hcE) (fun z h => by rw [h] at hoE; cases hoE) (by rw [Launch.admits_selectMethod XX.admits, hclE0]; exact q4) hmN habN hkP hkPi]
  intro acts9
  rw [doInvoke_state]
  refine hst9.trans ?_
  have hm1 : U1.vm.method? ⟨X 8, 1⟩ = some methk1 := Y1.method'
  show Steps p.tables e (.java (F0 m pc ls st) :: below) (U1.setTop (F0 ⟨X 8, 1⟩ 19 #[.val (.ref a)] [.int (iI r9)])) _
  jvm_step Y1.here [Y1.here.top, hc.1, hcd, lf2_19, hm1, hret1, narrow]
  intro acts8
  rw [hleave _ acts8 rfl rfl rfl]
  exact Steps.refl _
end LMG
