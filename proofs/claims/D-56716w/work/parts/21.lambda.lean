/-! LAMBDAS: the classes that the machine has made for the four sites; a call through the interface of one of their objects -/
theorem lb_weaken {tb : Tables} {e : Env} {mid below : List Frame} {a b : State} (h : Steps tb e (mid ++ below) a b) : Steps tb e below a b := by
  obtain ⟨n, hn, w⟩ := h
  exact ⟨n, hn, fun k hk => (w k hk).weaken⟩
def lb_cf (sh : Lambda.Shape) : ClassFile := (sh.file "CostStudio").getD { minorVersion := 0, majorVersion := 0, constantPool := #[], accessFlags := 0, thisClass := 0, superClass := 0, interfaces := #[], fields := #[], methods := #[], attributes := #[] }
def lb_fw (sh : Lambda.Shape) : Method := ((layoutMethods (lb_cf sh)).bind (·[1]?)).getD default
/-- what the file of a shape has: its second method's bytes, locals, result -/
def lb_F (sh : Lambda.Shape) (code : ByteArray) (maxL : Nat) (ret : FieldType) : Prop := (sh.file "CostStudio").isSome = true ∧ ((layoutMethods (lb_cf sh)).bind (·[1]?)).isSome = true ∧
  ((lb_fw sh).code.map fun c => (c.code.data, c.maxLocals)) = some (code.data, maxL) ∧ ((lb_fw sh).accessFlags, (lb_fw sh).sig.returnType) = (1, some ret)
/-- a class made for a site of CostStudio -/
def lb_M (sh : Lambda.Shape) (cK : ClassId) (U : State) : Prop := ∃ (d : ClassId) (dk : Class), U.vm.classes[d]? = some dk ∧ dk.name = "CostStudio" ∧ Lambda.isMade { classPath := fun _ => none } U.vm d sh cK = true ∧ U.lambdaCallable sh cK = true
theorem lb_M.ride {sh : Lambda.Shape} {cK : ClassId} {s U : State} (hW : s.WarmedH U.vm) (h : lb_M sh cK s) : lb_M sh cK U := by
  obtain ⟨d, dk, h1, h2, h3, h4⟩ := h
  obtain ⟨dk', hk', he⟩ := hW.alike.2.2 _ _ h1
  refine ⟨d, dk', hk', by rw [he]; exact h2, Lambda.isMade_warmer hW h3, ?_⟩
  have hA := hW.alike
  simp only [State.lambdaCallable, hA.findClass, hA.assignable, hA.superclasses, hA.declaredIn] at h4 ⊢
  exact h4
theorem gl_S.M {x : MethodName} {pc index : Nat} {sh : Lambda.Shape} {c : ClassId} {lk : Linked} {U : State} (h : gl_S x pc index sh c lk U) (hx : x.cls = "CostStudio") : lb_M sh c U := by
  obtain ⟨m, k, cf, i0, p0, hm, hk, hcf, hsh, hfind, hmade, hcall⟩ := h
  obtain ⟨k', hk', hn⟩ := className_of_methodNamed hm
  cases hk.symm.trans hk'
  exact ⟨m.cls, k, hk, hn.trans hx, hmade, hcall⟩
theorem lb_file {sh : Lambda.Shape} {code : ByteArray} {maxL : Nat} {ret : FieldType} (h : lb_F sh code maxL ret) : sh.file "CostStudio" = some (lb_cf sh) := by
  obtain ⟨x, hx⟩ := Option.isSome_iff_exists.mp h.1
  simp [lb_cf, hx]
theorem lb_second {sh : Lambda.Shape} {code : ByteArray} {maxL : Nat} {ret : FieldType} (h : lb_F sh code maxL ret) : ∀ ms, layoutMethods (lb_cf sh) = some ms → ms[1]? = some (lb_fw sh) := by
  intro ms hms
  obtain ⟨x, hx⟩ := Option.isSome_iff_exists.mp h.2.1
  have hf : lb_fw sh = x := by simp [lb_fw, hx]
  rw [hms] at hx
  rw [hf]
  exact hx
/-- all that is asked of a made class -/
theorem lb_made {sh : Lambda.Shape} {cK : ClassId} {s : State} {code : ByteArray} {maxL : Nat} {ret : FieldType} (hF : lb_F sh code maxL ret) (hM : lb_M sh cK s) (hO : (Cond.instantiable "java/lang/Object" 0).before #[] s = true) :
    ∃ (k tk : Class) (file : ClassFile) (methk : Method) (ck : Code) (cs : ClassId) (t : MethodId) (lay : Array Field × Array FieldType × Array FieldType),
      (s.vm.classes[cK]? = some k ∧ k.name = "CostStudio$$Lambda" ∧ k.kind = .ordinary ∧ k.instanceTypes = lay.2.1 ∧ k.cf = some file ∧ file.constantPool = (lb_cf sh).constantPool) ∧
      (s.vm.method? ⟨cK, 1⟩ = some methk ∧ methk.code = some ck ∧ ck.code = code ∧ ck.maxLocals = maxL ∧ methk.locks = false ∧ methk.accessFlags = 1 ∧ methk.sig.returnType = some ret) ∧
      (s.vm.findClass sh.implClass = some cs ∧ s.vm.classes[cs]? = some tk ∧ ((methodIn cs sh.implName sh.implDesc.toString tk.isInterface none).ask { classPath := fun _ => none } s.vm).1 = .ok t) ∧
      layoutFields (lb_cf sh) 0 = some lay ∧ (∀ (i : Nat) a, lay.1[i]? = some a → k.fields[i]? = some a) ∧
      (∀ (i : Nat) x, (Lambda.resolvedOf { classPath := fun _ => none } s.vm (lb_cf sh) lay.1 cK)[i]? = some (some x) → k.resolved[i]? = some (some x)) := by
  obtain ⟨d, dk, hd, hname, h, -⟩ := hM
  obtain ⟨dk', k, ok, tk, file, cf, object, iface, toy, lay, methods, target, found, hd', hk, hfile, hcf, hob, -, hok, hlay, hms, ht, htk, hg, -, hrec, -, -, -, -, hpool, hmeth, hfld, hty, hres, -⟩ := Lambda.isMade_spec h
  cases hd.symm.trans hd'
  rw [hname, lb_file hF] at hcf
  cases hcf
  obtain ⟨cO, kO, hfO, hkO, -, -, -, hsz⟩ := Cond.instantiable_spec hO
  cases hfO.symm.trans hob
  cases hkO.symm.trans hok
  have hemp : ok.instanceTypes = #[] := Array.eq_empty_of_size_eq_zero hsz
  rw [hsz] at hlay
  obtain ⟨b, hb, hsame⟩ := hmeth 1 (lb_fw sh) (lb_second hF methods hms)
  simp only [Lambda.sameMethod, Bool.and_eq_true, decide_eq_true_eq] at hsame
  obtain ⟨⟨hn, -, hsig, hfl⟩, hcode⟩ := hsame
  have fc := hF.2.2.1
  have ff := hF.2.2.2
  simp only [Prod.mk.injEq] at ff
  cases hfc : (lb_fw sh).code with
  | none => rw [hfc] at fc; cases fc
  | some x =>
    cases hbc : b.code with
    | none => simp [hfc, hbc] at hcode
    | some y =>
      simp only [hfc, hbc, Bool.and_eq_true, decide_eq_true_eq] at hcode
      simp only [hfc, Option.map_some, Option.some.injEq, Prod.mk.injEq] at fc
      refine ⟨k, tk, file, b, y, toy, target, lay, ⟨hk, by rw [hrec.1, hname]; rfl, hrec.2.1, by rw [hty.1, hemp]; simp, hfile, hpool.2.1⟩, ⟨by simp [Vm.method?, hk, hb], hbc, ?_, by rw [← hcode.1.1.1.1.2.1]; exact fc.2, ?_, by rw [← hfl]; exact ff.1, by rw [← hsig]; exact ff.2⟩, ⟨ht, htk, hg⟩, hlay, hfld, hres⟩
      · rw [← hcode.1.1.1.1.2.2]
        exact ByteArray.ext fc.1
      · simp [Method.locks, Method.isSynchronized, ← hfl, ff.1, hasFlag, Acc.synchronized]
/-- a captured value's field, ready -/
theorem lb_field {sh : Lambda.Shape} {cK : ClassId} {s : State} {code : ByteArray} {maxL : Nat} {ret : FieldType} (hF : lb_F sh code maxL ret) (hM : lb_M sh cK s) (hO : (Cond.instantiable "java/lang/Object" 0).before #[] s = true)
    {i ci nt j sl : Nat} {nm ds : String} (hi : (lb_cf sh).constantPool[i]? = some (.fieldref ci nt)) (hnt : (lb_cf sh).constantPool.nameAndType? nt = some (nm, ds)) (hl : (layoutFields (lb_cf sh) 0).map (fun y => (y.1.findIdx? (·.name == nm), (y.1[j]?).map fun f => (f.slot, f.isStatic))) = some (some j, some (sl, false))) :
    ∃ fld : Field, s.vm.fieldReady cK i cK fld ∧ fld.isStatic = false ∧ fld.slot = sl := by
  obtain ⟨k, tk, file, methk, ck, cs, t, lay, ⟨hk, -⟩, -, -, hlay, hfld, hres⟩ := lb_made hF hM hO
  rw [hlay] at hl
  simp only [Option.map_some, Option.some.injEq, Prod.mk.injEq] at hl
  obtain ⟨h1, h2⟩ := hl
  obtain ⟨fld, hf, h3⟩ := Option.map_eq_some_iff.mp h2
  simp only [Prod.mk.injEq] at h3
  exact ⟨fld, ⟨k, j, k, hk, hres i _ (Lambda.resolvedOf_field hi hnt h1), hk, hfld j fld hf⟩, h3.2, h3.1⟩
/-- the method behind the arrow, ready -/
theorem lb_target {sh : Lambda.Shape} {cK : ClassId} {s : State} {code : ByteArray} {maxL : Nat} {ret : FieldType} (hF : lb_F sh code maxL ret) (hM : lb_M sh cK s) (hO : (Cond.instantiable "java/lang/Object" 0).before #[] s = true) {y : MethodName} {mk : MethodId} (hn : s.methodNamed? y = some mk) (hy : y.cls ≠ "java/lang/invoke/MethodHandle" ∧ y.cls ≠ "java/lang/invoke/VarHandle")
    (e1 : y.cls = sh.implClass) (e2 : y.name = sh.implName) (e3 : y.desc = sh.implDesc.toString) {i ci nt n : Nat} (hi : (lb_cf sh).constantPool[i]? = some (.methodref ci nt)) (hc : (lb_cf sh).constantPool.className? ci = some sh.implClass) (hnt : (lb_cf sh).constantPool.nameAndType? nt = some (sh.implName, sh.implDesc.toString))
    (hci : (lb_cf sh).constantPool[ci]? = some (.class_ n)) (hne : ci ≠ (lb_cf sh).thisClass) (hs : (lb_cf sh).constantPool.string? n = some sh.implClass) :
    ∃ (k tk : Class) (file : ClassFile), s.vm.classes[cK]? = some k ∧ k.cf = some file ∧ file.constantPool = (lb_cf sh).constantPool ∧ s.vm.classes[mk.cls]? = some tk ∧ tk.name = y.cls ∧ s.vm.methodReady cK i mk ∧ s.vm.classReady cK ci mk.cls := by
  obtain ⟨k, tk, file, methk, ck, cs, t, lay, ⟨hk, -, -, -, hfile, hpool⟩, -, ⟨ht, htk, hg⟩, hlay, hfld, hres⟩ := lb_made hF hM hO
  have hf : s.vm.findClass y.cls = some mk.cls := findClass_of_methodNamed hn
  rw [e1] at hf
  cases ht.symm.trans hf
  have h1 := State.methodFound?_of_named hn hy
  rw [e1, e2, e3] at h1
  simp only [State.methodFound?, ht, htk, Option.bind_eq_bind, Option.bind_some] at h1
  rw [hg] at h1
  have ht2 : t = mk := Option.some.inj h1
  subst ht2
  obtain ⟨kT, hkT, hnT⟩ := className_of_methodNamed hn
  cases htk.symm.trans hkT
  exact ⟨k, tk, file, hk, hfile, hpool, htk, hnT, ⟨k, hk, hres i _ (Lambda.resolvedOf_method hi hc ht htk hnt hg)⟩, ⟨k, hk, hres ci _ (Lambda.resolvedOf_class hci hne hs ht)⟩⟩
section
variable {p : Program} {l : Launch} {e : Env} {R : Room} {s : State} {m : MethodId} {args : Array Value} {below : List Frame} {meth : Method} {c : Code} {H : Heap} {locs : List Loc} {cells slots : Nat} {Q : State → Prop}
variable {cc code : ByteArray} {pc nL maxL mc ms : Nat} {ls : Array Slot} {rest : List Value} {sh : Lambda.Shape} {ret : FieldType}
theorem lb_O {args' : Array Value} {U : State} (hW : s.WarmedH U.vm) (hO : (Cond.instantiable "java/lang/Object" 0).before args' s = true) : (Cond.instantiable "java/lang/Object" 0).before #[] U = true := word_at hW (Or.inl rfl) hO
theorem lb_getf (hx : p.tables.exec = Jvm.exec) (hb : c.code = cc) (hF : lb_F sh code maxL ret) (hM : lb_M sh m.cls s) (hO : (Cond.instantiable "java/lang/Object" 0).before #[] s = true)
    {i ci nt j sl : Nat} {nm ds : String} (hi : (lb_cf sh).constantPool[i]? = some (.fieldref ci nt)) (hnt : (lb_cf sh).constantPool.nameAndType? nt = some (nm, ds)) (hl : (layoutFields (lb_cf sh) 0).map (fun y => (y.1.findIdx? (·.name == nm), (y.1[j]?).map fun f => (f.slot, f.isStatic))) = some (some j, some (sl, false)))
    {a : Nat} {cell : Cell} {v : Value} (hcell : H[a]? = some cell) (hv : cell.vm = .none) (hslot : cell.slots[sl]? = some v) (hdg : decode cc pc = .ok (.getfield i, 3)) (kk : W p l e R s m args below meth c H locs cells slots Q (F0 m (pc + 3) ls (v :: rest))) : W p l e R s m args below meth c H locs cells slots Q (F0 m pc ls (.ref a :: rest)) := by
  intro T hT X
  obtain ⟨fld, hr, hst, hsl⟩ := lb_field hF (hM.ride X.warmed) (lb_O X.warmed hO) hi hnt hl
  obtain ⟨t, a1, b1⟩ := kk T hT X
  refine ⟨t, ?_, b1⟩
  jvm_step X.here [hx, hb, hdg, getfield.wp_ready (e := e) (s := T) (c := m.cls) (field := fld) (a := a) (rest := rest) (cell := cell) (v := v) (f := F0 m pc ls (.ref a :: rest)) X.here.top hr hst rfl (by rw [hT]; exact hcell) (by rw [hv]; decide) (by rw [hsl]; exact hslot)]
  exact a1
/-- the pool's entries of the method behind the arrow -/
def lb_P (sh : Lambda.Shape) (i ci nt n : Nat) : Prop := (lb_cf sh).constantPool[i]? = some (.methodref ci nt) ∧ (lb_cf sh).constantPool.className? ci = some sh.implClass ∧ (lb_cf sh).constantPool.nameAndType? nt = some (sh.implName, sh.implDesc.toString) ∧ (lb_cf sh).constantPool[ci]? = some (.class_ n) ∧ ci ≠ (lb_cf sh).thisClass ∧ (lb_cf sh).constantPool.string? n = some sh.implClass
theorem lb_runS (hx : p.tables.exec = Jvm.exec) (hb : c.code = cc) (hml : c.maxLocals = ls.size) (hF : lb_F sh code maxL ret) (hM : lb_M sh m.cls s) (hO : (Cond.instantiable "java/lang/Object" 0).before #[] s = true)
    {y : MethodName} {ybytes : ByteArray} {yL n : Nat} {yret : Option FieldType} {Pc : Array Value → State → Prop} {Qc : Array Value → State → Outcome → State → Prop} {free : Addr → Prop} (hK : Back l R p e below s args y 3 8 (PreOf R mc ms Pc) (PostOf Qc mc ms free))
    (e1 : y.cls = sh.implClass) (e2 : y.name = sh.implName) (e3 : y.desc = sh.implDesc.toString) (hyM : y.cls ≠ "java/lang/invoke/MethodHandle" ∧ y.cls ≠ "java/lang/invoke/VarHandle") (hstat : (Cond.static y).before #[] s = true) (hinit : (Cond.initialized y.cls).before #[] s = true) (hcode : (Cond.code y ybytes yL yret).before #[] s = true)
    {i ci nt n0 : Nat} (hP : lb_P sh i ci nt n0) {As : List Value} (hlen : ∀ sig, parseMethodDescriptor y.desc = some sig → As.length = sig.parameters.length) (hW : (rest.map fun v => v.category).sum ≤ 8) (hdg : decode cc pc = .ok (.invokestatic i, 3)) (hf : cells + mc ≤ R.cells ∧ slots + ms ≤ R.slots)
    (hPc : ∀ U : State, U.heap = H → s.WarmedH U.vm → Pc As.toArray U) : va_Run p l e R s m args below meth c H locs cells slots mc ms (F0 m pc ls (As.reverse ++ rest)) rest (Qc As.toArray) free := by
  obtain ⟨mk, hnamed⟩ := Cond.code_named hcode
  obtain ⟨methM, cM, hmethM, -, -, -, -, -, -, hsigM⟩ := Cond.code_spec hnamed hcode
  have hstatic : methM.isStatic = true := Cond.static_spec hnamed hmethM hstat
  obtain ⟨kP, hkP, -⟩ := className_of_methodNamed hnamed
  have hinitP : kP.init = .initialized := Cond.initialized_spec (findClass_of_methodNamed hnamed) hkP hinit
  intro T hT X
  obtain ⟨k, tk, file, hk, hfile, hpool, htk, htn, hready, hcls⟩ := lb_target hF (hM.ride X.warmed) (lb_O X.warmed hO) (X.named hnamed) hyM e1 e2 e3 hP.1 hP.2.1 hP.2.2.1 hP.2.2.2.1 hP.2.2.2.2.1 hP.2.2.2.2.2
  obtain ⟨kP', hkP', heP⟩ := X.warmed.alike.2.2 _ _ hkP
  cases htk.symm.trans hkP'
  have hnm : tk.name ≠ "java/lang/invoke/MethodHandle" ∧ tk.name ≠ "java/lang/invoke/VarHandle" := by rw [htn]; exact hyM
  have hsp : ∀ z : Method, signaturePolymorphic tk z = false := fun z => by simp [signaturePolymorphic, hnm.1, hnm.2]
  obtain ⟨b, hmem⟩ := memberRef_ask' (e := e) (vm := T.vm) (d := m.cls) (index := i) hk hfile (Or.inl (by rw [hpool]; exact hP.1)) (by rw [hpool]; exact hP.2.2.1)
  have hmT : T.vm.method? mk = some methM := by rw [X.warmed.alike.method?]; exact hmethM
  obtain ⟨v, B, X', ⟨g', mk', t, L, q1, q2, hq, h1, hL, h2, h3⟩, hsteps⟩ := hK m meth c ⟨T, locs, cells, slots⟩ (F0 m pc ls rest) (.invokestatic i) mk As.toArray X rfl hml.symm (by rw [hb]; exact hdg) (by show 2 * 0 + (rest.map fun v => v.category).sum ≤ 8; omega) (X.named hnamed) ⟨hf.1, hf.2, hPc T hT X.warmed⟩
  obtain ⟨U', l2, c2, s2⟩ := B
  dsimp only [Pt.U, Pt.locs, Pt.cells, Pt.slots] at X' q1 q2 h1 h2 h3 hsteps hq
  subst h1; subst h2; subst h3
  refine ⟨v, T.calling g' mk' As.toArray, t, U', L, hT, X', hL, q1, q2, hq, fun target h => ?_⟩
  jvm_step X.here [hx, hb, hdg, invokestatic.wp_ready (e := e) (s := T) (m := mk) (k := tk) (meth := methM) (args := As) (rest := rest) (f := F0 m pc ls (As.reverse ++ rest)) X.here.top ⟨ci, _, _, b, mk.cls, tk, hmem, hcls, htk, by simp [hsp]⟩ hready htk hmT (hsp _) hstatic (by rw [heP]; exact hinitP) (hlen _ hsigM) rfl]
  intro acts
  rw [doInvoke_state]
  exact hsteps.trans h
theorem lb_runV (hx : p.tables.exec = Jvm.exec) (hb : c.code = cc) (hml : c.maxLocals = ls.size) (hF : lb_F sh code maxL ret) (hM : lb_M sh m.cls s) (hO : (Cond.instantiable "java/lang/Object" 0).before #[] s = true)
    {y : MethodName} {ybytes : ByteArray} {yL n : Nat} {yret : Option FieldType} {Pc : Array Value → State → Prop} {Qc : Array Value → State → Outcome → State → Prop} {free : Addr → Prop} (hK : Back l R p e below s args y 3 8 (PreOf R mc ms Pc) (PostOf Qc mc ms free))
    (e1 : y.cls = sh.implClass) (e2 : y.name = sh.implName) (e3 : y.desc = sh.implDesc.toString) (hyM : y.cls ≠ "java/lang/invoke/MethodHandle" ∧ y.cls ≠ "java/lang/invoke/VarHandle") (hinst : (Cond.instanceMethod y).before #[] s = true) {C : String} (hsel : (Cond.selects C y y).before #[] s = true) (hcode : (Cond.code y ybytes yL yret).before #[] s = true)
    {i ci nt n0 : Nat} (hP : lb_P sh i ci nt n0) {b : Nat} (hr : gR C s H b) {As : List Value} (hlen : ∀ sig, parseMethodDescriptor y.desc = some sig → As.length = sig.parameters.length) (hW : (rest.map fun v => v.category).sum ≤ 8) (hdg : decode cc pc = .ok (.invokevirtual i, 3)) (hf : cells + mc ≤ R.cells ∧ slots + ms ≤ R.slots)
    (hPc : ∀ U : State, U.heap = H → s.WarmedH U.vm → Pc (Value.ref b :: As).toArray U) : va_Run p l e R s m args below meth c H locs cells slots mc ms (F0 m pc ls (As.reverse ++ .ref b :: rest)) rest (Qc (Value.ref b :: As).toArray) free := by
  obtain ⟨mk, methM, hnamed, hmethM, hstM, habM⟩ := Cond.instanceMethod_spec hinst
  obtain ⟨methM', cM, hmethM', -, -, -, -, -, -, hsigM⟩ := Cond.code_spec hnamed hcode
  cases hmethM.symm.trans hmethM'
  obtain ⟨cellB, hcB, hoB, hclB⟩ := hr
  obtain ⟨c2, r2, m2, q1, q2, q3, q4, kP, hkP, hkPi⟩ := Cond.selects_spec hsel
  cases hclB.symm.trans q1
  cases (State.methodFound?_of_named hnamed hyM).symm.trans q2
  cases hnamed.symm.trans q3
  intro T hT X
  obtain ⟨k, tk, file, hk, hfile, hpool, htk, htn, hready, hcls⟩ := lb_target hF (hM.ride X.warmed) (lb_O X.warmed hO) (X.named hnamed) hyM e1 e2 e3 hP.1 hP.2.1 hP.2.2.1 hP.2.2.2.1 hP.2.2.2.2.1 hP.2.2.2.2.2
  obtain ⟨kP', hkP', heP⟩ := X.warmed.alike.2.2 _ _ hkP
  cases htk.symm.trans hkP'
  have hni : tk.isInterface = false := by rw [heP]; exact hkPi
  have hnm : tk.name ≠ "java/lang/invoke/MethodHandle" ∧ tk.name ≠ "java/lang/invoke/VarHandle" := by rw [htn]; exact hyM
  have hsp : ∀ z : Method, signaturePolymorphic tk z = false := fun z => by simp [signaturePolymorphic, hnm.1, hnm.2]
  have hmT : T.vm.method? mk = some methM := by rw [X.warmed.alike.method?]; exact hmethM
  have hselT : selectMethod e.platform T.vm cellB.cls mk = .method mk := by rw [Launch.admits_selectMethod X.admits, X.warmed.alike.selectMethod]; exact q4
  obtain ⟨v, B, X', ⟨g', mk', t, L, q1, q2, hq, h1, hL, h2, h3⟩, hsteps⟩ := hK m meth c ⟨T, locs, cells, slots⟩ (F0 m pc ls rest) (.invokevirtual i) mk (Value.ref b :: As).toArray X rfl hml.symm (by rw [hb]; exact hdg) (by show 2 * 0 + (rest.map fun v => v.category).sum ≤ 8; omega) (X.named hnamed) ⟨hf.1, hf.2, hPc T hT X.warmed⟩
  obtain ⟨U', l2, c2, s2⟩ := B
  dsimp only [Pt.U, Pt.locs, Pt.cells, Pt.slots] at X' q1 q2 h1 h2 h3 hsteps hq
  subst h1; subst h2; subst h3
  refine ⟨v, T.calling g' mk' (Value.ref b :: As).toArray, t, U', L, hT, X', hL, q1, q2, hq, fun target h => ?_⟩
  jvm_step X.here [hx, hb, hdg, invokevirtual.wp_ready (e := e) (s := T) (r := mk) (m := mk) (k := tk) (mk := tk) (rmeth := methM) (meth := methM) (a := b) (args := As) (rest := rest) (cell := cellB) (f := F0 m pc ls (As.reverse ++ .ref b :: rest)) X.here.top ⟨k, file, ci, nt, mk.cls, tk, hk, hfile, by rw [hpool]; exact hP.1, hcls, htk, hni⟩ hready htk hmT (hsp _) hstM (hlen _ hsigM) rfl
    (by rw [hT]; exact hcB) (fun z h => by rw [h] at hoB; cases hoB) hselT hmT habM htk hni]
  intro acts
  rw [doInvoke_state]
  exact hsteps.trans h
/-- a call through the interface of an object of a site's class: inner: the made method's own walk -/
theorem lb_run5 {args0 : Array Value} {own : String} (S : CallFix p m c cc nL s args lw_all own) (hF : lb_F sh code maxL ret) {cK : ClassId} (hM : lb_M sh cK s) (hO : (Cond.instantiable "java/lang/Object" 0).before #[] s = true) {x : MethodName} (hI : gl_I x s) (hxM : x.cls ≠ "java/lang/invoke/MethodHandle" ∧ x.cls ≠ "java/lang/invoke/VarHandle") (e1 : x.cls = sh.iface) (e2 : x.name = sh.name) (e3 : x.desc = sh.sam.toString)
    {index count : Nat} (hlink : (Cond.methodLink own index x).before args s = true) {a : Nat} {cell : Cell} (hcell : H[a]? = some cell) (hcls : cell.cls = cK) (hvm : cell.vm = .none) {As : List Value} {n : Nat} (hnL : ls.size = nL) (hlen : ∀ sig, parseMethodDescriptor x.desc = some sig → As.length = sig.parameters.length)
    (hW : (rest.map fun v => v.category).sum ≤ 8) (hdg : decode cc pc = .ok (.invokeinterface index count, 5)) {R' : Room} (hframes : R'.frames + 1 ≤ R.frames) (hlocals : 8 + (maxL + 11) + R'.locals ≤ R.locals) (hcells : cells + R'.cells ≤ R.cells) (hslots : slots + R'.slots ≤ R.slots)
    {Qc : Array Value → State → Outcome → State → Prop} {free : Addr → Prop}
    (inner : ∀ (s' : State) (methk : Method) (ck : Code), s.WarmedH s'.vm → s'.heap = H → ck.code = code → ck.maxLocals = maxL → methk.locks = false → methk.sig.returnType = some ret →
      W p l e R' s' ⟨cK, 1⟩ (Value.ref a :: As).toArray (.java (F0 m pc ls rest) :: below) methk ck H [] 0 0 (MQ (.java (F0 m pc ls rest) :: below) Qc (Value.ref a :: As).toArray s' mc ms free) (entryFrame ⟨cK, 1⟩ (Value.ref a :: As).toArray maxL)) :
    va_Run5 p l e R s m args below meth c H locs cells slots mc ms (F0 m pc ls (As.reverse ++ .ref a :: rest)) rest (Qc (Value.ref a :: As).toArray) free := by
  subst hcls
  obtain ⟨hx, hb, hml, hown, -⟩ := S
  have hmls : ls.size = c.maxLocals := hnL.trans hml.symm
  obtain ⟨hdecl, hface⟩ := hI
  obtain ⟨r0, r, hn, hrm, hstR, hsigR⟩ := Cond.declares_spec hdecl
  obtain ⟨cL, kL, r1, hcL, hkL, hiL, hfoundL, hn1⟩ := Cond.interfaceMethod_spec hface
  cases hn.symm.trans hn1
  have hr0cls : r0.cls = cL := Option.some.inj ((findClass_of_methodNamed hn).symm.trans hcL)
  obtain ⟨hnameR, hdescR⟩ := name_of_methodNamed hn hrm
  obtain ⟨kK, tk, file, methk, ckK, cs, t0, lay, ⟨hkK, hkn, -⟩, ⟨hmk, hckK, hbytes, hmlk, hlk, hfl, hretk⟩, -⟩ := lb_made hF hM hO
  obtain ⟨d, dk, hd, hdn, hmade, hcan⟩ := id hM
  obtain ⟨-, -, -, -, -, -, -, iface', -, -, -, -, found, -, -, -, -, -, hi', -, -, -, -, -, -, hfound', -, -, -, -, -, -, -, -, -, -, hsel⟩ := Lambda.isMade_spec hmade
  rw [e1] at hcL
  cases hcL.symm.trans hi'
  have hfr : found = r0 := by
    rw [e1, e2, e3] at hfoundL
    simp only [State.methodFound?, hcL, hkL, hiL, Option.bind_eq_bind, Option.bind_some] at hfoundL
    rw [hfound'] at hfoundL
    exact Option.some.inj hfoundL
  subst hfr
  obtain ⟨i2, hi2, hasg, hway⟩ := State.lambdaCallable_spec hcan
  cases hcL.symm.trans hi2
  intro T hT X
  obtain ⟨vm₁, X₁, hstep₁⟩ := X.invokeinterface hx hown hlink hn hrm hstR (by rw [hr0cls]; exact hkL) hiL hxM (a := a) (cell := cell) (kcell := kK) (by rw [hT]; exact hcell) (fun z h => by rw [hvm] at h; cases h) hkK (by rw [hr0cls]; exact hasg)
    (m' := ⟨cell.cls, 1⟩) (meth' := methk) (by rw [Launch.admits_selectMethod X.admits]; exact hsel) hmk (by rw [hnameR, hdescR, e2, e3]; exact hway) (by rw [hfl]; decide) (by simp [Method.isAbstract, hfl, hasFlag, Acc.abstract])
    (g := F0 m pc ls (As.reverse ++ .ref a :: rest)) rfl (argsL := As) (rest := rest) (hlen _ hsigR) rfl (by rw [hb]; exact hdg)
  have hW₁ : s.WarmedH vm₁ := X₁.warmed
  obtain ⟨kK₁, tk₁, file₁, methk₁, ckK₁, cs₁, t₁, lay₁, ⟨hkK₁, hkn₁, -⟩, ⟨hmk₁, hckK₁, hbytes₁, hmlk₁, hlk₁, hfl₁, hretk₁⟩, -⟩ := lb_made (s := T.setVm vm₁) hF (hM.ride hW₁) (lb_O hW₁ hO)
  have hpk : (T.setVm vm₁).plainMethod ⟨cell.cls, 1⟩ := State.plainMethod.of_name (fun k' hk' => by cases hkK₁.symm.trans hk'; rw [hkn₁]; decide)
  obtain ⟨Y₀, hin⟩ := X₁.into (g := F0 m pc ls rest) rfl hmls (by rw [hb]; exact hdg) (Value.ref a :: As).toArray (R' := R') hmk₁ hckK₁ hlk₁ hpk hframes (by rw [hmlk₁]; show 2 * 0 + (rest.map fun v => v.category).sum + (maxL + 11) + R'.locals ≤ R.locals; omega) hcells hslots
  rw [hmlk₁] at Y₀ hin
  obtain ⟨t, st, o, hrun, hend, hq, L, ⟨⟨v, hov⟩, hWe, hsame⟩, hL⟩ := inner ((T.setVm vm₁).calling (F0 m pc ls rest) ⟨cell.cls, 1⟩ (Value.ref a :: As).toArray) methk₁ ckK₁ hW₁ hT hbytes₁ hmlk₁ hlk₁ hretk₁ _ (by exact hT) Y₀
  subst hov
  obtain ⟨T', X', hW', -, ht⟩ := X₁.outOf (g := F0 m pc ls rest) rfl (by rw [hb]; exact hdg) hend hWe hsame
  refine ⟨v, (T.setVm vm₁).calling (F0 m pc ls rest) ⟨cell.cls, 1⟩ (Value.ref a :: As).toArray, t, T', L, (show T.heap = H from hT), X', hL, by rw [ht]; rfl, by rw [ht]; rfl, hq, fun target h => hstep₁ _ fun acts => ?_⟩
  rw [hin acts]
  refine (lb_weaken (mid := [.java (F0 m pc ls rest)]) st).trans ?_
  rw [ht]
  exact h
end
