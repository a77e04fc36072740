/-! WHAT STAYS ALL THROUGH THE RUN: words of the tables beside lw_all, the classes' numbers, constants of the JDK's classes, the sites of the lambdas; all of it at addresses below the run's start -/
/-- words of the tables that are carried one by one -/
def gw_r : Cond → Bool
  | .fieldLinkNest _ _ _ _ _ _ => true
  | .methodLinkNest _ _ _ _ => true
  | .declares _ => true
  | .castable _ _ => true
  | _ => false
def gw_W (U : State) : Prop := ∀ w, w ∈ lw_tbl → gw_r w = true → va_Nw w U
theorem gw_W.ride {s U : State} (hW : s.WarmedH U.vm) (h : gw_W s) : gw_W U := by
  intro w hw hr
  have h1 := h w hw hr
  cases w <;> first | exact va_Nw.warmF hW h1 | exact va_Nw.warmM hW h1 | exact va_Nw.warmD hW h1 | exact va_Nw.warmC hW h1 | (exfalso; simp [gw_r] at hr)
/-- the calls through interfaces: the receiver's class, the interface's method, the class's -/
def gw_F : List (String × MethodName × MethodName) := [
  (RJ2, ⟨"java/util/List", "add", "(Ljava/lang/Object;)Z"⟩, yJ2_add), (RJ2, ⟨"java/util/List", "size", "()I"⟩, yJ2_size), (RJ2, ⟨"java/util/List", "get", "(I)Ljava/lang/Object;"⟩, yJ2_get),
  (RJ2, ⟨"java/util/List", "set", "(ILjava/lang/Object;)Ljava/lang/Object;"⟩, yJ2_set), (RJ2, ⟨"java/util/List", "iterator", "()Ljava/util/Iterator;"⟩, yJ2_iterator), (RJ2, ⟨"java/util/List", "isEmpty", "()Z"⟩, yJ2_isEmpty),
  (RJ18, ⟨"java/util/Iterator", "hasNext", "()Z"⟩, yJ18_hasNext), (RJ18, ⟨"java/util/Iterator", "next", "()Ljava/lang/Object;"⟩, yJ18_next)]
def gw_Fw (U : State) : Prop := ∀ q, q ∈ gw_F → va_Fw q.1 q.2.1 q.2.2 U
theorem gw_Fok : ∀ q, q ∈ gw_F → q.2.1.cls ≠ "java/lang/invoke/MethodHandle" ∧ q.2.1.cls ≠ "java/lang/invoke/VarHandle" := by decide +kernel
theorem gw_Fw.ride {s U : State} (hvm : s.vm.Alike U.vm) (h : gw_Fw s) : gw_Fw U := fun q hq => (h q hq).moved (gw_Fok q hq) hvm
def gw_O (U : State) : Prop := va_AO "java/lang/Object" U ∧ va_AO "java/lang/Integer" U ∧ va_AO "CostStudio$Approval" U
/-- the pairs of classes that a handler passes by -/
def gw_N : List (String × String) := [("java/lang/IllegalStateException", "java/lang/IllegalArgumentException"), ("java/lang/IllegalArgumentException", "java/lang/IndexOutOfBoundsException"), ("java/lang/IndexOutOfBoundsException", "java/lang/IllegalArgumentException"), ("java/lang/IllegalStateException", "java/lang/IndexOutOfBoundsException"),
  ("java/lang/UnsupportedOperationException", "java/lang/IndexOutOfBoundsException"), ("java/lang/UnsupportedOperationException", "java/lang/IllegalArgumentException"), ("java/lang/IllegalStateException", "java/lang/UnsupportedOperationException"), ("java/util/NoSuchElementException", "java/lang/IndexOutOfBoundsException"),
  ("java/lang/UnsupportedOperationException", "java/util/NoSuchElementException"), ("CostStudio$TooSmall", "CostStudio$TooGreat")]
def gw_Nc (U : State) : Prop := ∀ q, q ∈ gw_N → va_Nc q.1 q.2 U
/-- the shapes of the lambdas' sites, out of the Statement -/
def gl_sh (w : Cond) : Lambda.Shape := match w with
  | .lambdaSite _ _ _ sh => sh
  | _ => default
abbrev gl_s1 : Lambda.Shape := gl_sh siteWord_1_1
abbrev gl_s2 : Lambda.Shape := gl_sh siteWord_1_2
abbrev gl_s3 : Lambda.Shape := gl_sh siteWord_1_3
abbrev gl_s4 : Lambda.Shape := gl_sh siteWord_1_4
def gl_S (x : MethodName) (pc index : Nat) (sh : Lambda.Shape) (c : ClassId) (lk : Linked) (U : State) : Prop := ∃ (m : MethodId) (k : Class) (cf : ClassFile) (i0 p0 : Nat), U.methodNamed? x = some m ∧ U.vm.classes[m.cls]? = some k ∧ k.cf = some cf ∧ Lambda.shapeOf? cf index = some sh ∧
  (k.callSites.find? fun y => y.1 == m.idx && y.2.1 == pc) = some (i0, p0, lk) ∧ Lambda.isMade { classPath := fun _ => none } U.vm m.cls sh c = true ∧ U.lambdaCallable sh c = true
theorem gl_S.ride {x : MethodName} {pc index : Nat} {sh : Lambda.Shape} {c : ClassId} {lk : Linked} {s U : State} (hW : s.WarmedH U.vm) (h : gl_S x pc index sh c lk s) : gl_S x pc index sh c lk U := by
  obtain ⟨m, kc, cf, i0, p0, hm, hk, hcf, hsh, hfind, hmade, hcall⟩ := h
  obtain ⟨kc', hk', he⟩ := hW.alike.2.2 _ _ hk
  have hm' : U.methodNamed? x = some m := by
    have := State.methodNamed?_setVm (s := s) hW.alike x
    rw [hm] at this
    exact this
  refine ⟨m, kc', cf, i0, p0, hm', hk', by rw [he]; exact hcf, hsh, by rw [he]; exact hfind, Lambda.isMade_warmer hW hmade, ?_⟩
  have hA := hW.alike
  simp only [State.lambdaCallable, hA.findClass, hA.assignable, hA.superclasses, hA.declaredIn] at hcall ⊢
  exact hcall
/-- the one object of a site that captures nothing -/
def gl_O (E : Ev) (a : Nat) (c : ClassId) (H : Heap) : Prop := ∃ cell : Cell, H[a]? = some cell ∧ cell.cls = c ∧ cell.vm = .none ∧ cell.slots = #[] ∧ ¬ ev_A E a
theorem gl_O.kept {E : Ev} {a : Nat} {c : ClassId} {H H1 : Heap} (h : gl_O E a c H) (hq : ∀ q : Nat, q < H.size → ¬ ev_A E q → H1[q]? = H[q]?) : gl_O E a c H1 := by
  obtain ⟨cell, h1, h2⟩ := h
  exact ⟨cell, by rw [hq a (Array.getElem?_eq_some_iff.mp h1).1 h2.2.2.2]; exact h1, h2⟩
/-- an interface's method, as the tables have it -/
def gl_I (x : MethodName) (U : State) : Prop := (Cond.declares x).before #[] U = true ∧ (Cond.interfaceMethod x.cls x.cls x.name x.desc).before #[] U = true
theorem gl_I.moved {x : MethodName} (hx : x.cls ≠ "java/lang/invoke/MethodHandle" ∧ x.cls ≠ "java/lang/invoke/VarHandle") {u U : State} (hvm : u.vm.Alike U.vm) (h : gl_I x u) : gl_I x U := by
  obtain ⟨h1, h2⟩ := h
  obtain ⟨r, meth, hn, -⟩ := Cond.declares_spec h1
  have tr : ∀ {c : Cond}, c.onTables = true → c.before #[] (u.setVm U.vm) = true → c.before #[] U = true := by
    intro c hc h
    have e := Cond.onTables_vm (A := #[]) (A' := #[]) (U := u) (U' := U) U.vm c hc
    have hU : U.setVm U.vm = U := rfl
    rw [hU] at e
    rw [← e]
    exact h
  exact ⟨tr rfl (by rw [Cond.declares_setVm hvm]; exact h1), tr rfl (by rw [Cond.interfaceMethod_setVm hvm (r := r) hn hx]; exact h2)⟩
abbrev gl_x1 : MethodName := ⟨"CostStudio$View", "value", "(II)I"⟩
abbrev gl_x2 : MethodName := ⟨"CostStudio$Formula", "of", "(JJ)J"⟩
def Cl (E : Ev) (U : State) (H : Heap) : Prop :=
  gl_S yX1_view_2 3 101 gl_s1 (ev_k E 20) (.makes (ev_k E 20)) U ∧ gl_S yX1_formula 40 34 gl_s2 (ev_k E 21) (.constant (ev_k E 31)) U ∧ gl_S yX1_formula 46 38 gl_s3 (ev_k E 22) (.constant (ev_k E 32)) U ∧ gl_S yX1_formula 53 39 gl_s4 (ev_k E 23) (.makes (ev_k E 23)) U ∧
  gl_O E (ev_k E 31) (ev_k E 21) H ∧ gl_O E (ev_k E 32) (ev_k E 22) H ∧ ((ev_D E).1 12 = ev_k E 20 ∧ (∀ j, (ev_D E).2 12 j = j) ∧ (ev_D E).1 13 = ev_k E 23 ∧ (∀ j, (ev_D E).2 13 j = j)) ∧ gl_I gl_x1 U ∧ gl_I gl_x2 U
theorem Cl.ride {E : Ev} {s U : State} {H H1 : Heap} (h : Cl E s H) (hW : s.WarmedH U.vm) (hq : ∀ q : Nat, q < H.size → ¬ ev_A E q → H1[q]? = H[q]?) : Cl E U H1 := by
  obtain ⟨h1, h2, h3, h4, h5, h6, h7, h8, h9⟩ := h
  exact ⟨h1.ride hW, h2.ride hW, h3.ride hW, h4.ride hW, h5.kept hq, h6.kept hq, h7, h8.moved (by decide) hW.alike, h9.moved (by decide) hW.alike⟩
/-- Throwable's two statics -/
def Ct (E : Ev) (U : State) (H : Heap) : Prop := vx_Zq Bundle.tN "UNASSIGNED_STACK" Bundle.steD (ev_A E) U H ∧ vx_Zq Bundle.tN "SUPPRESSED_SENTINEL" Bundle.listD (ev_A E) U H
theorem Ct.ride {E : Ev} {s U : State} {H H1 : Heap} (h : Ct E s H) (hvm : s.vm.Alike U.vm) (hq : ∀ q : Nat, q < H.size → ¬ ev_A E q → H1[q]? = H[q]?) : Ct E U H1 := ⟨(h.1.moved hvm).kept hq, (h.2.moved hvm).kept hq⟩
/-- ArrayList's empty array; the cache of small Integers -/
def Ci (E : Ev) (U : State) (H : Heap) : Prop :=
  va_Z "java/util/ArrayList" "DEFAULTCAPACITY_EMPTY_ELEMENTDATA" "[Ljava/lang/Object;" (.ref (ev_k E 10)) (ev_A E) U H ∧ va_T (.object "java/lang/Object") (ev_k E 10) 0 (fun _ => .null) (ev_A E) U H ∧
  vb_C (ev_c E) (ev_A E) U H ∧ va_Z "java/lang/Integer$IntegerCache" "cache" "[Ljava/lang/Integer;" (.ref (ev_k E 11)) (ev_A E) U H ∧ va_T (.object "java/lang/Integer") (ev_k E 11) 256 (fun j => .ref (ev_c E j)) (ev_A E) U H ∧ va_Z "java/lang/Integer$IntegerCache" "high" "I" (.int 127) (ev_A E) U H
theorem Ci.ride {E : Ev} {s U : State} {H H1 : Heap} (h : Ci E s H) (hvm : s.vm.Alike U.vm) (hq : ∀ q : Nat, q < H.size → ¬ ev_A E q → H1[q]? = H[q]?) : Ci E U H1 := by
  obtain ⟨h1, h2, h3, h4, h5, h6⟩ := h
  exact ⟨(h1.moved hvm).kept hq, (h2.moved hvm).kept hq, (h3.moved hvm).kept hq, (h4.moved hvm).kept hq, (h5.moved hvm).kept hq, (h6.moved hvm).kept hq⟩
/-- the text "dsmp"; Strings are compact -/
def Cs (E : Ev) (U : State) (H : Heap) : Prop :=
  vk_R "CostStudio" 237 "dsmp" (ev_k E 12) U ∧ vk_S 1 [4] [[100, 115, 109, 112]] (fun _ => ev_k E 12) (fun _ => ev_k E 13) (ev_A E) U H ∧ va_Z "java/lang/String" "COMPACT_STRINGS" "Z" (.int 1) (ev_A E) U H ∧ va_Zq "jdk/internal/util/Preconditions" "SIOOBE_FORMATTER" "Ljava/util/function/BiFunction;" (ev_A E) U H ∧ va_Mi "[Ljava/lang/Object;" (ev_k E 14) U
theorem Cs.ride {E : Ev} {s U : State} {H H1 : Heap} (h : Cs E s H) (hW : s.WarmedH U.vm) (hq : ∀ q : Nat, q < H.size → ¬ ev_A E q → H1[q]? = H[q]?) : Cs E U H1 := by
  obtain ⟨h1, h2, h3, h4, h5⟩ := h
  exact ⟨h1.warm hW, (h2.moved hW.alike).kept hq, (h3.moved hW.alike).kept hq, (h4.moved hW.alike).kept hq, h5.moved hW.alike⟩
def Cn (E : Ev) (U : State) (H : Heap) : Prop := (gw_W U ∧ gw_Fw U ∧ gw_O U ∧ gw_Nc U) ∧ va_K (ev_D E) gcl (gty E) U ∧ ev_n E ≤ H.size ∧ Ct E U H ∧ Ci E U H ∧ Cs E U H ∧ Cl E U H
theorem Cn.ride {E : Ev} {s U : State} {H H1 : Heap} (h : Cn E s H) (hW : s.WarmedH U.vm) (hz : H.size ≤ H1.size) (hq : ∀ q : Nat, q < H.size → ¬ ev_A E q → H1[q]? = H[q]?) : Cn E U H1 := by
  obtain ⟨⟨w1, w2, w3, w4⟩, k1, n1, h1, h2, h3, h4⟩ := h
  exact ⟨⟨w1.ride hW, w2.ride hW.alike, ⟨w3.1.moved hW.alike, w3.2.1.moved hW.alike, w3.2.2.moved hW.alike⟩, fun q hq => (w4 q hq).moved hW.alike⟩, k1.moved hW.alike, Nat.le_trans n1 hz, h1.ride hW.alike hq, h2.ride hW.alike hq, h3.ride hW hq, h4.ride hW hq⟩
theorem Cn.K {E : Ev} {U : State} {H : Heap} (h : Cn E U H) : va_K (ev_D E) gcl (gty E) U := h.2.1
theorem Cn.W {E : Ev} {U : State} {H : Heap} (h : Cn E U H) {w : Cond} (hw : w ∈ lw_tbl) (hr : gw_r w = true) : va_Nw w U := h.1.1 w hw hr
/-- a contract's start: the arguments, what stays, the ghost heap -/
def gP (E : Ev) (G : gh) (av : List Value) : Array Value → State → Prop := fun v U => v = av.toArray ∧ Cn E U U.heap ∧ gh_W E G U.heap
theorem gP.blind {E : Ev} {G : gh} {av : List Value} : FrameBlind (gP E G av) := by
  intro a U g mk h
  exact ⟨h.1, h.2.1.ride (s := U) (U := U.calling g mk a) (State.WarmedH.refl U) (Nat.le_refl _) (fun _ _ _ => rfl), h.2.2⟩
/-- a contract's end: the answer, the ghost heap behind it -/
def gQ (E : Ev) (post : Option Value → gh → Prop) : Array Value → State → Outcome → State → Prop := fun _ st oc t => (∃ (v : Option Value) (G : gh), oc = .returned v ∧ post v G ∧ gh_W E G t.heap) ∧ va_F (ev_A E) st t
/-- an end by an exception: its class, the ghost heap behind it -/
def gX (E : Ev) (px : String → gh → Prop) : String → State → State → Prop := fun C st t => (∃ G : gh, px C G ∧ gh_W E G t.heap) ∧ va_F (ev_A E) st t
/-- what a method's walk has at hand -/
def gS (E : Ev) (p : Program) (m : MethodId) (meth : Method) (c : Code) (cc : ByteArray) (nL : Nat) (s : State) (args : Array Value) (own : String) : Prop := CallFix p m c cc nL s args lw_all own ∧ Cn E s s.heap ∧ meth.locks = false
