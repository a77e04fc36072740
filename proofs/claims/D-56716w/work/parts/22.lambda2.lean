set_option maxHeartbeats 4000000 in
set_option maxRecDepth 100000 in
theorem metX1_lambda_formula_0 (l : Launch) {E : Ev} {G : gh} (x y : Int64)  : Met l yX1_lambda_formula_0 (ws_ yX1_lambda_formula_0 cX1_lambda_formula_0 4 (some .long)) ({ frames := 0, cells := 0, slots := 0, locals := 0 }) (gP E G [.long x, .long y]) (gQ E (fun v G' => v = some (.long x) ∧ G = G')) 0 0 (ev_A E) := by
  refine gMet RX1 (by decide) rfl (Nat.le_of_ble_eq_true rfl) ?_
  intro p e s m below meth c ls hx hb S hr hnm hl hG hS
  have hl : lv_has ls 4 [(0, .long x), (2, .long y)] := hl
  refine lv_lload_n hx hb dX1_lambda_formula_0_0 rfl (lv_at hl 0 rfl) ?_
  exact g_lret S hr dX1_lambda_formula_0_1 hG hS (by first | exact Nat.le_refl _ | omega) (by first | exact Nat.le_refl _ | omega) ⟨rfl, rfl⟩
set_option maxHeartbeats 4000000 in
set_option maxRecDepth 100000 in
theorem metX1_lambda_formula_1 (l : Launch) {E : Ev} {G : gh} (g : Int32) (x y : Int64)  : Met l yX1_lambda_formula_1 (ws_ yX1_lambda_formula_1 cX1_lambda_formula_1 5 (some .long)) ({ frames := 0, cells := 0, slots := 0, locals := 0 }) (gP E G [.int g, .long x, .long y]) (gQ E (fun v G' => v = some (.long (x + g.toInt64 * y)) ∧ G = G')) 0 0 (ev_A E) := by
  refine gMet RX1 (by decide) rfl (Nat.le_of_ble_eq_true rfl) ?_
  intro p e s m below meth c ls hx hb S hr hnm hl hG hS
  have hl : lv_has ls 5 [(0, .int g), (1, .long x), (3, .long y)] := hl
  refine lv_lload_n hx hb dX1_lambda_formula_1_0 rfl (lv_at hl 1 rfl) ?_
  refine lv_iload_n hx hb dX1_lambda_formula_1_1 rfl (lv_at hl 0 rfl) ?_
  refine lv_i2l (v := g.toInt64) hx hb dX1_lambda_formula_1_2 rfl ?_
  refine lv_lload_n hx hb dX1_lambda_formula_1_3 rfl (lv_at hl 2 rfl) ?_
  refine lv_lmul hx hb dX1_lambda_formula_1_4 ?_
  refine lv_ladd hx hb dX1_lambda_formula_1_5 ?_
  exact g_lret S hr dX1_lambda_formula_1_6 hG hS (by first | exact Nat.le_refl _ | omega) (by first | exact Nat.le_refl _ | omega) ⟨rfl, rfl⟩
set_option maxHeartbeats 4000000 in
set_option maxRecDepth 100000 in
theorem metX1_product (l : Launch) {E : Ev} {G : gh} (x y : Int64)  : Met l yX1_product (ws_ yX1_product cX1_product 4 (some .long)) ({ frames := 0, cells := 0, slots := 0, locals := 0 }) (gP E G [.long x, .long y]) (gQ E (fun v G' => v = some (.long (x * y / 100)) ∧ G = G')) 0 0 (ev_A E) := by
  refine gMet RX1 (by decide) rfl (Nat.le_of_ble_eq_true rfl) ?_
  intro p e s m below meth c ls hx hb S hr hnm hl hG hS
  have hl : lv_has ls 4 [(0, .long x), (2, .long y)] := hl
  refine lv_lload_n hx hb dX1_product_0 rfl (lv_at hl 0 rfl) ?_
  refine lv_lload_n hx hb dX1_product_1 rfl (lv_at hl 1 rfl) ?_
  refine lv_lmul hx hb dX1_product_2 ?_
  refine lv_ldc2 (v := 100) hx hb S.1.2.2.2.1 (S.ts _ q723) dX1_product_3 ?_
  refine lv_ldiv hx hb dX1_product_6 (by decide) ?_
  exact g_lret S hr dX1_product_7 hG hS (by first | exact Nat.le_refl _ | omega) (by first | exact Nat.le_refl _ | omega) ⟨rfl, rfl⟩
def lb_c1 : ByteArray := ⟨#[42, 180, 0, 19, 42, 180, 0, 21, 42, 180, 0, 23, 27, 28, 182, 0, 31, 172]⟩
def lb_c2 : ByteArray := ⟨#[31, 33, 184, 0, 17, 173]⟩
def lb_c4 : ByteArray := ⟨#[42, 180, 0, 15, 31, 33, 184, 0, 23, 173]⟩
theorem lb_F1 : lb_F gl_s1 lb_c1 3 .int := by refine ⟨?_, ?_, ?_, ?_⟩ <;> decide +kernel
theorem lb_F2 : lb_F gl_s2 lb_c2 5 .long := by refine ⟨?_, ?_, ?_, ?_⟩ <;> decide +kernel
theorem lb_F3 : lb_F gl_s3 lb_c2 5 .long := by refine ⟨?_, ?_, ?_, ?_⟩ <;> decide +kernel
theorem lb_F4 : lb_F gl_s4 lb_c4 5 .long := by refine ⟨?_, ?_, ?_, ?_⟩ <;> decide +kernel
theorem lb_P1 : lb_P gl_s1 31 27 30 26 := by unfold lb_P; decide +kernel
theorem lb_P2 : lb_P gl_s2 17 14 16 13 := by unfold lb_P; decide +kernel
theorem lb_P3 : lb_P gl_s3 17 14 16 13 := by unfold lb_P; decide +kernel
theorem lb_P4 : lb_P gl_s4 23 19 22 18 := by unfold lb_P; decide +kernel
theorem lb_d1_0 : decode lb_c1 0 = .ok (.aload_n 0, 1) := by decide +kernel
theorem lb_d1_1 : decode lb_c1 1 = .ok (.getfield 19, 3) := by decide +kernel
theorem lb_d1_4 : decode lb_c1 4 = .ok (.aload_n 0, 1) := by decide +kernel
theorem lb_d1_5 : decode lb_c1 5 = .ok (.getfield 21, 3) := by decide +kernel
theorem lb_d1_8 : decode lb_c1 8 = .ok (.aload_n 0, 1) := by decide +kernel
theorem lb_d1_9 : decode lb_c1 9 = .ok (.getfield 23, 3) := by decide +kernel
theorem lb_d1_12 : decode lb_c1 12 = .ok (.iload_n 1, 1) := by decide +kernel
theorem lb_d1_13 : decode lb_c1 13 = .ok (.iload_n 2, 1) := by decide +kernel
theorem lb_d1_14 : decode lb_c1 14 = .ok (.invokevirtual 31, 3) := by decide +kernel
theorem lb_d1_17 : decode lb_c1 17 = .ok (.ireturn, 1) := by decide +kernel
theorem lb_d2_0 : decode lb_c2 0 = .ok (.lload_n 1, 1) := by decide +kernel
theorem lb_d2_1 : decode lb_c2 1 = .ok (.lload_n 3, 1) := by decide +kernel
theorem lb_d2_2 : decode lb_c2 2 = .ok (.invokestatic 17, 3) := by decide +kernel
theorem lb_d2_5 : decode lb_c2 5 = .ok (.lreturn, 1) := by decide +kernel
theorem lb_d4_0 : decode lb_c4 0 = .ok (.aload_n 0, 1) := by decide +kernel
theorem lb_d4_1 : decode lb_c4 1 = .ok (.getfield 15, 3) := by decide +kernel
theorem lb_d4_4 : decode lb_c4 4 = .ok (.lload_n 1, 1) := by decide +kernel
theorem lb_d4_5 : decode lb_c4 5 = .ok (.lload_n 3, 1) := by decide +kernel
theorem lb_d4_6 : decode lb_c4 6 = .ok (.invokestatic 23, 3) := by decide +kernel
theorem lb_d4_9 : decode lb_c4 9 = .ok (.lreturn, 1) := by decide +kernel
section
variable {p : Program} {l : Launch} {e : Env} {R : Room} {s : State} {m : MethodId} {args : Array Value} {below : List Frame} {meth : Method} {c : Code} {H : Heap} {locs : List Loc} {cells slots : Nat} {Q : State → Prop}
variable {cc : ByteArray} {pc nL mc ms : Nat} {ls : Array Slot} {rest : List Value} {own : String} {E : Ev} {G : gh}
theorem g_form2 {post : Option Value → gh → Prop} {rm : Room} (S : gS E p m meth c cc nL s args own) (hG : gh_W E G H) (hS : va_S (ev_A E) s.heap H locs) (hnL : ls.size = nL) {a : Nat} {x y : Int64} (ha : a = ev_k E 31)
    (hMet : Met l yX1_lambda_formula_0 (ws_ yX1_lambda_formula_0 cX1_lambda_formula_0 4 (Option.some Jvm.ClassFile.FieldType.long)) rm (gP E G [.long x, .long y]) (gQ E post) mc ms (ev_A E)) (hrc : rm.cells = mc) (hrs : rm.slots = ms) (hpost : ∀ v G', post v G' → ∃ z, v = some (.long z)) {index count : Nat} (hlink : (Cond.methodLink own index gl_x2).before args s = true)
    (hW : (rest.map fun v => v.category).sum ≤ 8) (hdg : decode cc pc = .ok (.invokeinterface index count, 5)) (hframes : rm.frames + 2 ≤ R.frames) (hlocals : 8 + (5 + 11) + (8 + (4 + 11) + rm.locals) ≤ R.locals) (hcells : cells + mc ≤ R.cells) (hslots : slots + ms ≤ R.slots) :
    va_Run5 p l e R s m args below meth c H locs cells slots mc ms (F0 m pc ls (.long y :: .long x :: .ref a :: rest)) rest (gQ E post (Value.ref a :: [.long x, .long y]).toArray) (ev_A E) := by
  obtain ⟨cell, h1, h2, h3, -⟩ := gl_O.kept S.2.1.2.2.2.2.2.2.2.2.2.2.1 hS.2.1
  rw [← ha] at h1
  have hM := gl_S.M S.2.1.2.2.2.2.2.2.2.1 rfl
  have hO : (Cond.instantiable "java/lang/Object" 0).before #[] s = true := word_at (State.WarmedH.refl s) (Or.inl rfl) (S.ts _ q1242)
  refine lb_run5 (sh := gl_s2) (code := lb_c2) (maxL := 5) (args0 := args) (n := 0) S.1 lb_F2 hM hO (x := gl_x2) (S.2.1.2.2.2.2.2.2.2.2.2.2.2.2.2.2) (by decide) rfl rfl (by decide +kernel) hlink h1 (h2) h3 (As := [.long x, .long y]) hnL (fun sig h => by
      have e : parseMethodDescriptor gl_x2.desc = some gl_s2.sam := by decide +kernel
      rw [e] at h
      cases h
      rfl) hW hdg (R' := { frames := rm.frames + 1, cells := mc, slots := ms, locals := 8 + (4 + 11) + rm.locals }) (by show rm.frames + 1 + 1 ≤ _; omega) hlocals hcells hslots ?_
  intro s' methk ck hW1 hH hbc hml hlk hret
  have hx := S.1.1
  have hM1 := hM.ride hW1
  have hO1 := lb_O hW1 hO
  have hws : ∀ w ∈ ws_ yX1_lambda_formula_0 cX1_lambda_formula_0 4 (Option.some Jvm.ClassFile.FieldType.long), ∀ (a' : Array Value) (U : State), s'.WarmedH U.vm → w.before a' U = true := fun w hw a' U hU => word_at (State.WarmedH.trans hW1 hU) (lw_meth q720 w hw).2 (S.ts w (lw_meth q720 w hw).1)
  have hini : ∀ (a' : Array Value) (U : State), s'.WarmedH U.vm → (Cond.initialized yX1_lambda_formula_0.cls).before a' U = true := fun a' U hU => word_at (State.WarmedH.trans hW1 hU) (Or.inl rfl) (S.ts _ q30)
  have hl := lv_entry (Value.ref a :: [.long x, .long y]) (n := 5) (Nat.le_of_ble_eq_true rfl)
  rw [lg_entry_eq]
  generalize (lg_sl (Value.ref a :: [.long x, .long y]) ++ List.replicate (5 - (lg_sl (Value.ref a :: [.long x, .long y])).length) Slot.unset).toArray = ls1 at hl ⊢
  have hl : lv_has ls1 5 [(0, .ref a), (1, .long x), (3, .long y)] := hl
  have hmls : ck.maxLocals = ls1.size := hml.trans hl.1.symm
  have hK : Back l { frames := rm.frames + 1, cells := mc, slots := ms, locals := 8 + (4 + 11) + rm.locals } p e (.java (F0 m pc ls rest) :: below) s' (Value.ref a :: [.long x, .long y]).toArray yX1_lambda_formula_0 3 8 (PreOf { frames := rm.frames + 1, cells := mc, slots := ms, locals := 8 + (4 + 11) + rm.locals } mc ms (gP E G [.long x, .long y])) (PostOf (gQ E post) mc ms (ev_A E)) :=
    back_of (bytes := cX1_lambda_formula_0) (maxL := 4) (ret := (Option.some Jvm.ClassFile.FieldType.long)) hMet gP.blind hrc hrs (Nat.le_refl _) (Nat.le_refl _) hws List.mem_cons_self hini
  have hPc : ∀ U : State, U.heap = H → s'.WarmedH U.vm → gP E G [.long x, .long y] ([.long x, .long y]).toArray U := fun U hU hWU => ⟨rfl, by rw [hU]; exact S.2.1.ride (State.WarmedH.trans hW1 hWU) hS.1 hS.2.1, by rw [hU]; exact hG⟩
  have hS1 : va_S (ev_A E) s'.heap H [] := by rw [hH]; exact va_S.rf
  refine lv_lload_n hx hbc lb_d2_0 rfl (lv_at hl 1 rfl) ?_
  refine lv_lload_n hx hbc lb_d2_1 rfl (lv_at hl 2 rfl) ?_
  refine g_call (E := E) hS1 (lb_runS (n := 0) (rest := []) (ybytes := cX1_lambda_formula_0) (yL := 4) (yret := (Option.some Jvm.ClassFile.FieldType.long)) hx hbc hmls lb_F2 hM1 hO1 hK rfl rfl (by decide +kernel) (by decide) (word_at hW1 (Or.inl rfl) (S.ts _ q719)) (word_at hW1 (Or.inl rfl) (S.ts _ q30)) (word_at hW1 (Or.inl rfl) (S.ts _ q720)) lb_P2 (As := [.long x, .long y]) (fun sig h => by have e : parseMethodDescriptor yX1_lambda_formula_0.desc = some gl_s2.implDesc := (by decide +kernel); rw [e] at h; cases h; rfl) (Nat.zero_le _) lb_d2_2 ⟨by show 0 + mc ≤ mc; omega, by show 0 + ms ≤ ms; omega⟩ hPc) (fun v G1 H1 locs1 hp hG hS => ?_)
  obtain ⟨z, rfl⟩ := hpost v G1 hp
  refine W.widen (k := mc) (n := ms) (by omega) (by omega) ?_
  exact W.lret hx hbc hret (fun t ht _ => ⟨⟨_, G1, rfl, hp, by rw [ht]; exact hG⟩, hS.F ht⟩) hS.2.2 lb_d2_5 hlk
theorem g_form3 {post : Option Value → gh → Prop} {rm : Room} (S : gS E p m meth c cc nL s args own) (hG : gh_W E G H) (hS : va_S (ev_A E) s.heap H locs) (hnL : ls.size = nL) {a : Nat} {x y : Int64} (ha : a = ev_k E 32)
    (hMet : Met l yX1_product (ws_ yX1_product cX1_product 4 (Option.some Jvm.ClassFile.FieldType.long)) rm (gP E G [.long x, .long y]) (gQ E post) mc ms (ev_A E)) (hrc : rm.cells = mc) (hrs : rm.slots = ms) (hpost : ∀ v G', post v G' → ∃ z, v = some (.long z)) {index count : Nat} (hlink : (Cond.methodLink own index gl_x2).before args s = true)
    (hW : (rest.map fun v => v.category).sum ≤ 8) (hdg : decode cc pc = .ok (.invokeinterface index count, 5)) (hframes : rm.frames + 2 ≤ R.frames) (hlocals : 8 + (5 + 11) + (8 + (4 + 11) + rm.locals) ≤ R.locals) (hcells : cells + mc ≤ R.cells) (hslots : slots + ms ≤ R.slots) :
    va_Run5 p l e R s m args below meth c H locs cells slots mc ms (F0 m pc ls (.long y :: .long x :: .ref a :: rest)) rest (gQ E post (Value.ref a :: [.long x, .long y]).toArray) (ev_A E) := by
  obtain ⟨cell, h1, h2, h3, -⟩ := gl_O.kept S.2.1.2.2.2.2.2.2.2.2.2.2.2.1 hS.2.1
  rw [← ha] at h1
  have hM := gl_S.M S.2.1.2.2.2.2.2.2.2.2.1 rfl
  have hO : (Cond.instantiable "java/lang/Object" 0).before #[] s = true := word_at (State.WarmedH.refl s) (Or.inl rfl) (S.ts _ q1242)
  refine lb_run5 (sh := gl_s3) (code := lb_c2) (maxL := 5) (args0 := args) (n := 0) S.1 lb_F3 hM hO (x := gl_x2) (S.2.1.2.2.2.2.2.2.2.2.2.2.2.2.2.2) (by decide) rfl rfl (by decide +kernel) hlink h1 (h2) h3 (As := [.long x, .long y]) hnL (fun sig h => by
      have e : parseMethodDescriptor gl_x2.desc = some gl_s3.sam := by decide +kernel
      rw [e] at h
      cases h
      rfl) hW hdg (R' := { frames := rm.frames + 1, cells := mc, slots := ms, locals := 8 + (4 + 11) + rm.locals }) (by show rm.frames + 1 + 1 ≤ _; omega) hlocals hcells hslots ?_
  intro s' methk ck hW1 hH hbc hml hlk hret
  have hx := S.1.1
  have hM1 := hM.ride hW1
  have hO1 := lb_O hW1 hO
  have hws : ∀ w ∈ ws_ yX1_product cX1_product 4 (Option.some Jvm.ClassFile.FieldType.long), ∀ (a' : Array Value) (U : State), s'.WarmedH U.vm → w.before a' U = true := fun w hw a' U hU => word_at (State.WarmedH.trans hW1 hU) (lw_meth q722 w hw).2 (S.ts w (lw_meth q722 w hw).1)
  have hini : ∀ (a' : Array Value) (U : State), s'.WarmedH U.vm → (Cond.initialized yX1_product.cls).before a' U = true := fun a' U hU => word_at (State.WarmedH.trans hW1 hU) (Or.inl rfl) (S.ts _ q30)
  have hl := lv_entry (Value.ref a :: [.long x, .long y]) (n := 5) (Nat.le_of_ble_eq_true rfl)
  rw [lg_entry_eq]
  generalize (lg_sl (Value.ref a :: [.long x, .long y]) ++ List.replicate (5 - (lg_sl (Value.ref a :: [.long x, .long y])).length) Slot.unset).toArray = ls1 at hl ⊢
  have hl : lv_has ls1 5 [(0, .ref a), (1, .long x), (3, .long y)] := hl
  have hmls : ck.maxLocals = ls1.size := hml.trans hl.1.symm
  have hK : Back l { frames := rm.frames + 1, cells := mc, slots := ms, locals := 8 + (4 + 11) + rm.locals } p e (.java (F0 m pc ls rest) :: below) s' (Value.ref a :: [.long x, .long y]).toArray yX1_product 3 8 (PreOf { frames := rm.frames + 1, cells := mc, slots := ms, locals := 8 + (4 + 11) + rm.locals } mc ms (gP E G [.long x, .long y])) (PostOf (gQ E post) mc ms (ev_A E)) :=
    back_of (bytes := cX1_product) (maxL := 4) (ret := (Option.some Jvm.ClassFile.FieldType.long)) hMet gP.blind hrc hrs (Nat.le_refl _) (Nat.le_refl _) hws List.mem_cons_self hini
  have hPc : ∀ U : State, U.heap = H → s'.WarmedH U.vm → gP E G [.long x, .long y] ([.long x, .long y]).toArray U := fun U hU hWU => ⟨rfl, by rw [hU]; exact S.2.1.ride (State.WarmedH.trans hW1 hWU) hS.1 hS.2.1, by rw [hU]; exact hG⟩
  have hS1 : va_S (ev_A E) s'.heap H [] := by rw [hH]; exact va_S.rf
  refine lv_lload_n hx hbc lb_d2_0 rfl (lv_at hl 1 rfl) ?_
  refine lv_lload_n hx hbc lb_d2_1 rfl (lv_at hl 2 rfl) ?_
  refine g_call (E := E) hS1 (lb_runS (n := 0) (rest := []) (ybytes := cX1_product) (yL := 4) (yret := (Option.some Jvm.ClassFile.FieldType.long)) hx hbc hmls lb_F3 hM1 hO1 hK rfl rfl (by decide +kernel) (by decide) (word_at hW1 (Or.inl rfl) (S.ts _ q721)) (word_at hW1 (Or.inl rfl) (S.ts _ q30)) (word_at hW1 (Or.inl rfl) (S.ts _ q722)) lb_P3 (As := [.long x, .long y]) (fun sig h => by have e : parseMethodDescriptor yX1_product.desc = some gl_s3.implDesc := (by decide +kernel); rw [e] at h; cases h; rfl) (Nat.zero_le _) lb_d2_2 ⟨by show 0 + mc ≤ mc; omega, by show 0 + ms ≤ ms; omega⟩ hPc) (fun v G1 H1 locs1 hp hG hS => ?_)
  obtain ⟨z, rfl⟩ := hpost v G1 hp
  refine W.widen (k := mc) (n := ms) (by omega) (by omega) ?_
  exact W.lret hx hbc hret (fun t ht _ => ⟨⟨_, G1, rfl, hp, by rw [ht]; exact hG⟩, hS.F ht⟩) hS.2.2 lb_d2_5 hlk
theorem g_form4 {post : Option Value → gh → Prop} {rm : Room} (S : gS E p m meth c cc nL s args own) (hG : gh_W E G H) (hS : va_S (ev_A E) s.heap H locs) (hnL : ls.size = nL) {a t i : Nat} {g : Int32} {x y : Int64} (he : G a = some (t, i, .inr (13, [.int g])))
    (hMet : Met l yX1_lambda_formula_1 (ws_ yX1_lambda_formula_1 cX1_lambda_formula_1 5 (Option.some Jvm.ClassFile.FieldType.long)) rm (gP E G [.int g, .long x, .long y]) (gQ E post) mc ms (ev_A E)) (hrc : rm.cells = mc) (hrs : rm.slots = ms) (hpost : ∀ v G', post v G' → ∃ z, v = some (.long z)) {index count : Nat} (hlink : (Cond.methodLink own index gl_x2).before args s = true)
    (hW : (rest.map fun v => v.category).sum ≤ 8) (hdg : decode cc pc = .ok (.invokeinterface index count, 5)) (hframes : rm.frames + 2 ≤ R.frames) (hlocals : 8 + (5 + 11) + (8 + (5 + 11) + rm.locals) ≤ R.locals) (hcells : cells + mc ≤ R.cells) (hslots : slots + ms ≤ R.slots) :
    va_Run5 p l e R s m args below meth c H locs cells slots mc ms (F0 m pc ls (.long y :: .long x :: .ref a :: rest)) rest (gQ E post (Value.ref a :: [.long x, .long y]).toArray) (ev_A E) := by
  obtain ⟨r9, hr9, cell, h1, h2, h3, h4⟩ := (hG a t i _ he).2
  cases hr9
  have h4 := h4 0 (by decide)
  rw [show (ev_D E).2 13 0 = 0 from S.2.1.2.2.2.2.2.2.2.2.2.2.2.2.1.2.2.2 0] at h4
  replace h2 : cell.cls = ev_k E 23 := h2.trans S.2.1.2.2.2.2.2.2.2.2.2.2.2.2.1.2.2.1
  have hM := gl_S.M S.2.1.2.2.2.2.2.2.2.2.2.1 rfl
  have hO : (Cond.instantiable "java/lang/Object" 0).before #[] s = true := word_at (State.WarmedH.refl s) (Or.inl rfl) (S.ts _ q1242)
  refine lb_run5 (sh := gl_s4) (code := lb_c4) (maxL := 5) (args0 := args) (n := 0) S.1 lb_F4 hM hO (x := gl_x2) (S.2.1.2.2.2.2.2.2.2.2.2.2.2.2.2.2) (by decide) rfl rfl (by decide +kernel) hlink h1 (h2) h3 (As := [.long x, .long y]) hnL (fun sig h => by
      have e : parseMethodDescriptor gl_x2.desc = some gl_s4.sam := by decide +kernel
      rw [e] at h
      cases h
      rfl) hW hdg (R' := { frames := rm.frames + 1, cells := mc, slots := ms, locals := 8 + (5 + 11) + rm.locals }) (by show rm.frames + 1 + 1 ≤ _; omega) hlocals hcells hslots ?_
  intro s' methk ck hW1 hH hbc hml hlk hret
  have hx := S.1.1
  have hM1 := hM.ride hW1
  have hO1 := lb_O hW1 hO
  have hws : ∀ w ∈ ws_ yX1_lambda_formula_1 cX1_lambda_formula_1 5 (Option.some Jvm.ClassFile.FieldType.long), ∀ (a' : Array Value) (U : State), s'.WarmedH U.vm → w.before a' U = true := fun w hw a' U hU => word_at (State.WarmedH.trans hW1 hU) (lw_meth q725 w hw).2 (S.ts w (lw_meth q725 w hw).1)
  have hini : ∀ (a' : Array Value) (U : State), s'.WarmedH U.vm → (Cond.initialized yX1_lambda_formula_1.cls).before a' U = true := fun a' U hU => word_at (State.WarmedH.trans hW1 hU) (Or.inl rfl) (S.ts _ q30)
  have hl := lv_entry (Value.ref a :: [.long x, .long y]) (n := 5) (Nat.le_of_ble_eq_true rfl)
  rw [lg_entry_eq]
  generalize (lg_sl (Value.ref a :: [.long x, .long y]) ++ List.replicate (5 - (lg_sl (Value.ref a :: [.long x, .long y])).length) Slot.unset).toArray = ls1 at hl ⊢
  have hl : lv_has ls1 5 [(0, .ref a), (1, .long x), (3, .long y)] := hl
  have hmls : ck.maxLocals = ls1.size := hml.trans hl.1.symm
  have hK : Back l { frames := rm.frames + 1, cells := mc, slots := ms, locals := 8 + (5 + 11) + rm.locals } p e (.java (F0 m pc ls rest) :: below) s' (Value.ref a :: [.long x, .long y]).toArray yX1_lambda_formula_1 3 8 (PreOf { frames := rm.frames + 1, cells := mc, slots := ms, locals := 8 + (5 + 11) + rm.locals } mc ms (gP E G [.int g, .long x, .long y])) (PostOf (gQ E post) mc ms (ev_A E)) :=
    back_of (bytes := cX1_lambda_formula_1) (maxL := 5) (ret := (Option.some Jvm.ClassFile.FieldType.long)) hMet gP.blind hrc hrs (Nat.le_refl _) (Nat.le_refl _) hws List.mem_cons_self hini
  have hPc : ∀ U : State, U.heap = H → s'.WarmedH U.vm → gP E G [.int g, .long x, .long y] ([.int g, .long x, .long y]).toArray U := fun U hU hWU => ⟨rfl, by rw [hU]; exact S.2.1.ride (State.WarmedH.trans hW1 hWU) hS.1 hS.2.1, by rw [hU]; exact hG⟩
  have hS1 : va_S (ev_A E) s'.heap H [] := by rw [hH]; exact va_S.rf
  refine lv_aload_n hx hbc lb_d4_0 rfl (lv_at hl 0 rfl) ?_
  refine lb_getf (ci := 2) (nt := 14) (j := 0) (sl := 0) (nm := "arg$1") (ds := "I") hx hbc lb_F4 hM1 hO1 (by decide +kernel) (by decide +kernel) (by decide +kernel) h1 h3 h4 lb_d4_1 ?_
  refine lv_lload_n hx hbc lb_d4_4 rfl (lv_at hl 1 rfl) ?_
  refine lv_lload_n hx hbc lb_d4_5 rfl (lv_at hl 2 rfl) ?_
  refine g_call (E := E) hS1 (lb_runS (n := 0) (rest := []) (ybytes := cX1_lambda_formula_1) (yL := 5) (yret := (Option.some Jvm.ClassFile.FieldType.long)) hx hbc hmls lb_F4 hM1 hO1 hK rfl rfl (by decide +kernel) (by decide) (word_at hW1 (Or.inl rfl) (S.ts _ q724)) (word_at hW1 (Or.inl rfl) (S.ts _ q30)) (word_at hW1 (Or.inl rfl) (S.ts _ q725)) lb_P4 (As := [.int g, .long x, .long y]) (fun sig h => by have e : parseMethodDescriptor yX1_lambda_formula_1.desc = some gl_s4.implDesc := (by decide +kernel); rw [e] at h; cases h; rfl) (Nat.zero_le _) lb_d4_6 ⟨by show 0 + mc ≤ mc; omega, by show 0 + ms ≤ ms; omega⟩ hPc) (fun v G1 H1 locs1 hp hG hS => ?_)
  obtain ⟨z, rfl⟩ := hpost v G1 hp
  refine W.widen (k := mc) (n := ms) (by omega) (by omega) ?_
  exact W.lret hx hbc hret (fun t ht _ => ⟨⟨_, G1, rfl, hp, by rw [ht]; exact hG⟩, hS.F ht⟩) hS.2.2 lb_d4_9 hlk
theorem g_view1 {post : Option Value → gh → Prop} {rm : Room} (S : gS E p m meth c cc nL s args own) (hG : gh_W E G H) (hS : va_S (ev_A E) s.heap H locs) (hnL : ls.size = nL) {a t i st sc : Nat} {up x y : Int32} (he : G a = some (t, i, .inr (12, [.ref st, .int up, .ref sc]))) (hst : gR "CostStudio" s H st)
    (hMet : Met l yX1_lambda_view_2 (ws_ yX1_lambda_view_2 cX1_lambda_view_2 5 (Option.some Jvm.ClassFile.FieldType.int)) rm (gP E G [.ref st, .int up, .ref sc, .int x, .int y]) (gQ E post) mc ms (ev_A E)) (hrc : rm.cells = mc) (hrs : rm.slots = ms) (hpost : ∀ v G', post v G' → ∃ z, v = some (.int z)) {index count : Nat} (hlink : (Cond.methodLink own index gl_x1).before args s = true)
    (hW : (rest.map fun v => v.category).sum ≤ 8) (hdg : decode cc pc = .ok (.invokeinterface index count, 5)) (hframes : rm.frames + 2 ≤ R.frames) (hlocals : 8 + (3 + 11) + (8 + (5 + 11) + rm.locals) ≤ R.locals) (hcells : cells + mc ≤ R.cells) (hslots : slots + ms ≤ R.slots) :
    va_Run5 p l e R s m args below meth c H locs cells slots mc ms (F0 m pc ls (.int y :: .int x :: .ref a :: rest)) rest (gQ E post (Value.ref a :: [.int x, .int y]).toArray) (ev_A E) := by
  obtain ⟨r9, hr9, cell, h1, h2, h3, h4⟩ := (hG a t i _ he).2
  cases hr9
  replace h4 : ∀ k, k < 3 → cell.slots[k]? = some (vp_V [.ref st, .int up, .ref sc] k) := fun k hk => by
    have := h4 k hk
    rwa [show (ev_D E).2 12 k = k from S.2.1.2.2.2.2.2.2.2.2.2.2.2.2.1.2.1 k] at this
  replace h2 : cell.cls = ev_k E 20 := h2.trans S.2.1.2.2.2.2.2.2.2.2.2.2.2.2.1.1
  have hM := gl_S.M S.2.1.2.2.2.2.2.2.1 rfl
  have hO : (Cond.instantiable "java/lang/Object" 0).before #[] s = true := word_at (State.WarmedH.refl s) (Or.inl rfl) (S.ts _ q1242)
  refine lb_run5 (sh := gl_s1) (code := lb_c1) (maxL := 3) (args0 := args) (n := 0) S.1 lb_F1 hM hO (x := gl_x1) (S.2.1.2.2.2.2.2.2.2.2.2.2.2.2.2.1) (by decide) rfl rfl (by decide +kernel) hlink h1 (h2) h3 (As := [.int x, .int y]) hnL (fun sig h => by
      have e : parseMethodDescriptor gl_x1.desc = some gl_s1.sam := by decide +kernel
      rw [e] at h
      cases h
      rfl) hW hdg (R' := { frames := rm.frames + 1, cells := mc, slots := ms, locals := 8 + (5 + 11) + rm.locals }) (by show rm.frames + 1 + 1 ≤ _; omega) hlocals hcells hslots ?_
  intro s' methk ck hW1 hH hbc hml hlk hret
  have hx := S.1.1
  have hM1 := hM.ride hW1
  have hO1 := lb_O hW1 hO
  have hws : ∀ w ∈ ws_ yX1_lambda_view_2 cX1_lambda_view_2 5 (Option.some Jvm.ClassFile.FieldType.int), ∀ (a' : Array Value) (U : State), s'.WarmedH U.vm → w.before a' U = true := fun w hw a' U hU => word_at (State.WarmedH.trans hW1 hU) (lw_meth q530 w hw).2 (S.ts w (lw_meth q530 w hw).1)
  have hini : ∀ (a' : Array Value) (U : State), s'.WarmedH U.vm → (Cond.initialized yX1_lambda_view_2.cls).before a' U = true := fun a' U hU => word_at (State.WarmedH.trans hW1 hU) (Or.inl rfl) (S.ts _ q30)
  have hl := lv_entry (Value.ref a :: [.int x, .int y]) (n := 3) (Nat.le_of_ble_eq_true rfl)
  rw [lg_entry_eq]
  generalize (lg_sl (Value.ref a :: [.int x, .int y]) ++ List.replicate (3 - (lg_sl (Value.ref a :: [.int x, .int y])).length) Slot.unset).toArray = ls1 at hl ⊢
  have hl : lv_has ls1 3 [(0, .ref a), (1, .int x), (2, .int y)] := hl
  have hmls : ck.maxLocals = ls1.size := hml.trans hl.1.symm
  have hK : Back l { frames := rm.frames + 1, cells := mc, slots := ms, locals := 8 + (5 + 11) + rm.locals } p e (.java (F0 m pc ls rest) :: below) s' (Value.ref a :: [.int x, .int y]).toArray yX1_lambda_view_2 3 8 (PreOf { frames := rm.frames + 1, cells := mc, slots := ms, locals := 8 + (5 + 11) + rm.locals } mc ms (gP E G [.ref st, .int up, .ref sc, .int x, .int y])) (PostOf (gQ E post) mc ms (ev_A E)) :=
    back_of (bytes := cX1_lambda_view_2) (maxL := 5) (ret := (Option.some Jvm.ClassFile.FieldType.int)) hMet gP.blind hrc hrs (Nat.le_refl _) (Nat.le_refl _) hws List.mem_cons_self hini
  have hPc : ∀ U : State, U.heap = H → s'.WarmedH U.vm → gP E G [.ref st, .int up, .ref sc, .int x, .int y] ([.ref st, .int up, .ref sc, .int x, .int y]).toArray U := fun U hU hWU => ⟨rfl, by rw [hU]; exact S.2.1.ride (State.WarmedH.trans hW1 hWU) hS.1 hS.2.1, by rw [hU]; exact hG⟩
  have hS1 : va_S (ev_A E) s'.heap H [] := by rw [hH]; exact va_S.rf
  refine lv_aload_n hx hbc lb_d1_0 rfl (lv_at hl 0 rfl) ?_
  refine lb_getf (ci := 2) (nt := 18) (j := 0) (sl := 0) (nm := "arg$1") (ds := "LCostStudio;") hx hbc lb_F1 hM1 hO1 (by decide +kernel) (by decide +kernel) (by decide +kernel) h1 h3 (h4 0 (by decide)) lb_d1_1 ?_
  refine lv_aload_n hx hbc lb_d1_4 rfl (lv_at hl 0 rfl) ?_
  refine lb_getf (ci := 2) (nt := 20) (j := 1) (sl := 1) (nm := "arg$2") (ds := "I") hx hbc lb_F1 hM1 hO1 (by decide +kernel) (by decide +kernel) (by decide +kernel) h1 h3 (h4 1 (by decide)) lb_d1_5 ?_
  refine lv_aload_n hx hbc lb_d1_8 rfl (lv_at hl 0 rfl) ?_
  refine lb_getf (ci := 2) (nt := 22) (j := 2) (sl := 2) (nm := "arg$3") (ds := "LCostStudio$Scenario;") hx hbc lb_F1 hM1 hO1 (by decide +kernel) (by decide +kernel) (by decide +kernel) h1 h3 (h4 2 (by decide)) lb_d1_9 ?_
  refine lv_iload_n hx hbc lb_d1_12 rfl (lv_at hl 1 rfl) ?_
  refine lv_iload_n hx hbc lb_d1_13 rfl (lv_at hl 2 rfl) ?_
  have hst1 : gR "CostStudio" s' H st := by obtain ⟨c9, k1, k2, k3⟩ := hst; exact ⟨c9, k1, k2, by rw [hW1.alike.findClass]; exact k3⟩
  refine g_call (E := E) hS1 (lb_runV (n := 0) (rest := []) (ybytes := cX1_lambda_view_2) (yL := 5) (yret := (Option.some Jvm.ClassFile.FieldType.int)) hx hbc hmls lb_F1 hM1 hO1 hK rfl rfl (by decide +kernel) (by decide) (word_at hW1 (Or.inl rfl) (S.ts _ q529)) (word_at hW1 (Or.inl rfl) (S.ts _ qs11)) (word_at hW1 (Or.inl rfl) (S.ts _ q530)) lb_P1 hst1 (As := [.int up, .ref sc, .int x, .int y]) (fun sig h => by have e : parseMethodDescriptor yX1_lambda_view_2.desc = some gl_s1.implDesc := (by decide +kernel); rw [e] at h; cases h; rfl) (Nat.zero_le _) lb_d1_14 ⟨by show 0 + mc ≤ mc; omega, by show 0 + ms ≤ ms; omega⟩ hPc) (fun v G1 H1 locs1 hp hG hS => ?_)
  obtain ⟨z, rfl⟩ := hpost v G1 hp
  refine W.widen (k := mc) (n := ms) (by omega) (by omega) ?_
  exact W.iret hx hbc hret (fun t ht _ => ⟨⟨_, G1, rfl, hp, by rw [ht]; exact hG⟩, hS.F ht⟩) hS.2.2 lb_d1_17 hlk
end
