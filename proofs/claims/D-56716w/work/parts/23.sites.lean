/-! THE LAMBDAS' SITES -/
/-- as gMet; the method's number besides -/
theorem gMetN {l : Launch} {E : Ev} {G : gh} {y : MethodName} {rm : Room} {mc ms : Nat} {cc : ByteArray} {maxL : Nat} {ret : Option FieldType} {As : List Value} {post : Option Value → gh → Prop} (own : String) (hy : plainName y.cls = true) (ho : y.cls = own) (hle : (lg_sl As).length ≤ maxL)
    (body : ∀ {p : Program} {e : Env} {s : State} {m : MethodId} {below : List Frame} {meth : Method} {c : Code} {ls : Array Slot}, p.tables.exec = Jvm.exec → c.code = cc → gS E p m meth c cc maxL s As.toArray own → meth.sig.returnType = ret → s.methodNamed? y = some m → lv_has ls maxL (lv_args 0 As) → gh_W E G s.heap → va_S (ev_A E) s.heap s.heap [] →
      W p l e (headSpec (ws_ y cc maxL ret) rm).room s m As.toArray below meth c s.heap [] 0 0 (MQ below (gQ E post) As.toArray s mc ms (ev_A E)) (F0 m 0 ls [])) : Met l y (ws_ y cc maxL ret) rm (gP E G As) (gQ E post) mc ms (ev_A E) := by
  refine Met.ofW (cc := cc) (maxL := maxL) (ret := ret) hy rfl ?_
  intro p e s m args below meth c s₁ B hml hv
  obtain ⟨rfl, hC, hG⟩ := hv
  have hl := lv_entry As (n := maxL) hle
  rw [lg_entry_eq]
  generalize (lg_sl As ++ List.replicate (maxL - (lg_sl As).length) Slot.unset).toArray = ls at hl ⊢
  have hts := atoms_spec (ws := ws_ y cc maxL ret) B.pre
  exact body B.exec B.bytes ⟨⟨B.exec, B.bytes, hml, ho ▸ findClass_of_methodNamed B.named, fun w h => hts w (List.mem_cons_of_mem _ h)⟩, hC, B.notSynchronized⟩ B.returns B.named hl hG va_S.rf
theorem lb_inv {α : Type} {x : Array Nat} {f : Nat → Nat → Nat → Option α} {r : α} (h : Lambda.shapeOf?.match_15 (fun _ => Option α) x f (fun _ => none) = some r) : ∃ a0 a1 a2, f a0 a1 a2 = some r := by
  rcases x with ⟨L⟩
  rcases L with _ | ⟨a0, _ | ⟨a1, _ | ⟨a2, _ | ⟨a3, L⟩⟩⟩⟩
  · cases h
  · cases h
  · cases h
  · exact ⟨a0, a1, a2, h⟩
  · cases h
theorem lb_inv1 {α : Type} {x : Option CpInfo} {f : Nat → Nat → Option α} {r : α} (h : Lambda.shapeOf?.match_19 (fun _ => Option α) x f (fun _ => none) = some r) : ∃ b nt, x = some (.invokeDynamic b nt) ∧ f b nt = some r := by
  split at h <;> first | exact ⟨_, _, rfl, h⟩ | cases h
theorem lb_inv2 {α : Type} {x : Option CpInfo} {f : Nat → Option α} {r : α} (h : Lambda.shapeOf?.match_17 (fun _ => Option α) x f (fun _ => none) = some r) : ∃ y, f y = some r := by
  split at h <;> first | exact ⟨_, h⟩ | cases h
theorem lb_inv3 {α : Type} {x : Option CpInfo} {f : Nat → Option α} {r : α} (h : Lambda.shapeOf?.match_9 (fun _ => Option α) x f (fun _ => none) = some r) : ∃ y, f y = some r := by
  split at h <;> first | exact ⟨_, h⟩ | cases h
theorem lb_inv4 {α : Type} {x : Option CpInfo} {f : Nat → Nat → Option α} {r : α} (h : Lambda.shapeOf?.match_12 (fun _ => Option α) x f (fun _ => none) = some r) : ∃ y z, f y z = some r := by
  split at h <;> first | exact ⟨_, _, h⟩ | cases h
theorem lb_inv5 {α : Type} {x : Option FieldType} {f : String → Option α} {r : α} (h : Lambda.shapeOf?.match_6 (fun _ => Option α) x f (fun _ => none) = some r) : ∃ y, f y = some r := by
  split at h <;> first | exact ⟨_, h⟩ | cases h
theorem lb_site {cf : ClassFile} {index : Nat} {sh : Lambda.Shape} (h : Lambda.shapeOf? cf index = some sh) : ∃ (b nt : Nat) (desc : String) (site : MethodDescriptor), cf.constantPool[index]? = some (.invokeDynamic b nt) ∧ cf.constantPool.nameAndType? nt = some (sh.name, desc) ∧ parseMethodDescriptor desc = some site ∧ site.parameters = sh.captured := by
  unfold Lambda.shapeOf? at h
  obtain ⟨b, nt, hc, h⟩ := lb_inv1 h
  obtain ⟨z1, -, h⟩ := Option.bind_eq_some_iff.mp h
  obtain ⟨z2, -, h⟩ := Option.bind_eq_some_iff.mp h
  obtain ⟨z3, h⟩ := lb_inv2 h
  obtain ⟨z4, -, h⟩ := Option.bind_eq_some_iff.mp h
  obtain ⟨a0, a1, a2, h⟩ := lb_inv h
  obtain ⟨z5, h⟩ := lb_inv3 h
  obtain ⟨z6, z7, h⟩ := lb_inv4 h
  obtain ⟨z8, h⟩ := lb_inv3 h
  obtain ⟨⟨name, desc⟩, hnt, h⟩ := Option.bind_eq_some_iff.mp h
  obtain ⟨site, hsite, h⟩ := Option.bind_eq_some_iff.mp h
  obtain ⟨z9, h⟩ := lb_inv5 h
  obtain ⟨⟨y1, y2, y3, y4⟩, -, h⟩ := Option.bind_eq_some_iff.mp h
  obtain ⟨x1, -, h⟩ := Option.bind_eq_some_iff.mp h
  obtain ⟨x2, -, h⟩ := Option.bind_eq_some_iff.mp h
  obtain ⟨x3, -, h⟩ := Option.bind_eq_some_iff.mp h
  obtain ⟨x4, -, h⟩ := Option.bind_eq_some_iff.mp h
  obtain ⟨x5, -, h⟩ := Option.bind_eq_some_iff.mp h
  cases h
  exact ⟨b, nt, desc, site, hc, hnt, hsite, rfl⟩
section
variable {p : Program} {l : Launch} {e : Env} {R : Room} {s : State} {m : MethodId} {args : Array Value} {below : List Frame} {meth : Method} {c : Code} {H : Heap} {locs : List Loc} {cells slots : Nat} {Q : State → Prop}
variable {cc code : ByteArray} {pc nL maxL : Nat} {ls : Array Slot} {rest : List Value} {own : String} {E : Ev} {G : gh} {sh : Lambda.Shape} {ret : FieldType}
theorem g_dynC {y : MethodName} {index a : Nat} {cK : ClassId} (S : gS E p m meth c cc nL s args own) (hnd : s.methodNamed? y = some m) (hsite : gl_S y pc index sh cK (.constant a) s) (hnL : ls.size = nL) (hdg : decode cc pc = .ok (.invokedynamic index, 5)) (hwords : (rest.map fun v => v.category).sum + 3072 ≤ R.locals)
    (kk : W p l e R s m args below meth c H locs cells slots Q (F0 m (pc + 5) ls (.ref a :: rest))) : W p l e R s m args below meth c H locs cells slots Q (F0 m pc ls rest) := by
  intro T hT X
  obtain ⟨m', k, cf, i0, p0, hm, hk, hcf, hsh, hfind, -⟩ := hsite
  cases hnd.symm.trans hm
  obtain ⟨t, a1, b1⟩ := kk T hT X
  exact ⟨t, X.lambdaConstant S.1.1 (g := F0 m pc ls rest) rfl (hnL.trans S.1.2.2.1.symm) (by rw [S.1.2.1]; exact hdg) hk hfind (by rw [X.admits.platform]; show 2 * 0 + (rest.map fun v => v.category).sum + 3072 ≤ R.locals; omega) a1, b1⟩
theorem g_dynM {y : MethodName} {index ci : Nat} {cK : ClassId} {r : vw_C} (S : gS E p m meth c cc nL s args own) (hnd : s.methodNamed? y = some m) (hsite : gl_S y pc index sh cK (.makes cK) s) (hcs : y.cls = "CostStudio") (hF : lb_F sh code maxL ret) (hnL : ls.size = nL)
    {tys : List FieldType} (hlay : (layoutFields (lb_cf sh) 0).map (·.2.1.toList) = some tys) {vals : List Value} (hlen : vals.length = sh.captured.length) (hnar : ((tys.zip vals).map fun (t, v) => narrow t v) = vals) (hfit : ∀ (i : Nat) v, vals[i]? = some v → ∃ t, tys[i]? = some t ∧ fits t v = true)
    (hci : (ev_D E).1 ci = cK) (hcj : ∀ j, (ev_D E).2 ci j = j) (hgx : gcx[ci]? = some r) (hr : r.2.2 = vals.length) (hdg : decode cc pc = .ok (.invokedynamic index, 5)) (hwords : ((vals.reverse ++ rest).map fun v => v.category).sum + 3072 ≤ R.locals) (t i : Nat) (hcells : cells + 1 ≤ R.cells) (hslots : slots + vals.length ≤ R.slots) (hG : gh_W E G H) (hS : va_S (ev_A E) s.heap H locs)
    (kk : ∀ (q : Nat) (H1 : Heap), G q = none → gh_W E (gh_up G q (t, i, .inr (ci, vals))) H1 → va_S (ev_A E) s.heap H1 locs → W p l e R s m args below meth c H1 locs (cells + 1) (slots + vals.length) Q (F0 m (pc + 5) ls (.ref q :: rest))) : W p l e R s m args below meth c H locs cells slots Q (F0 m pc ls (vals.reverse ++ rest)) := by
  have hM := gl_S.M hsite hcs
  have hO : (Cond.instantiable "java/lang/Object" 0).before #[] s = true := word_at (State.WarmedH.refl s) (Or.inl rfl) (S.ts _ q1242)
  obtain ⟨kK, tk, file, methk, ckK, cs, t0, lay, ⟨hkK, hkn, hkind, hty, -⟩, -, -, hlay0, -⟩ := lb_made hF hM hO
  obtain ⟨m', k, cf, i0, p0, hm, hk, hcf, hsh, hfind, -⟩ := hsite
  cases hnd.symm.trans hm
  obtain ⟨bsm, nt, desc, site, hc, hnt, hsig, hpar⟩ := lb_site hsh
  have htl : kK.instanceTypes.toList = tys := by
    rw [hlay0] at hlay
    rw [hty]
    exact Option.some.inj hlay
  intro T hT X
  have hsl : ((kK.instanceTypes.toList.zip vals).map fun (t, v) => narrow t v) = vals := by rw [htl]; exact hnar
  obtain ⟨X₁, st1⟩ := X.lambdaMakes S.1.1 (g := F0 m pc ls (vals.reverse ++ rest)) rfl (hnL.trans S.1.2.2.1.symm) (by rw [S.1.2.1]; exact hdg) (vals := vals) (rest := rest) hk hfind hcf hc hnt (parseLong_of_parse hsig) (by rw [hpar]; exact hlen) rfl hkK
    (by rw [X.admits.platform]; show 2 * 0 + ((vals.reverse ++ rest).map fun v => v.category).sum + 3072 ≤ R.locals; omega) hcells (by rw [hsl]; exact hslots)
    (fun i v hv => by
      rw [hsl] at hv
      have hv' : vals[i]? = some v := by simpa using hv
      obtain ⟨ti, h1, h2⟩ := hfit i v hv'
      have h3 : kK.instanceTypes[i]? = some ti := by rw [← Array.getElem?_toList, htl]; exact h1
      simp [State.fitsSlot, State.slotType?, hkK, hkind, h3, h2])
  rw [hsl] at X₁ st1
  have hsz : vals.toArray.size = vals.length := rfl
  rw [hsz] at X₁
  have hsize : T.heap.size = H.size := by rw [hT]
  obtain ⟨t2, a1, b1⟩ := kk H.size _ (hG.none (Nat.le_refl _)) (hG.set (H1 := (T.pushCell { cls := cK, slots := vals.toArray, vm := .none }).heap) (Nat.le_trans S.2.1.2.2.1 hS.1) ⟨r, hgx, _, by rw [← hsize]; exact State.heap_pushCell_size _ _, hci.symm, rfl, fun k hk => by
      rw [hcj]
      show vals.toArray[k]? = some (vp_V vals k)
      have : k < vals.length := by rw [← hr]; exact hk
      simp [vp_V, List.getD, this]⟩ (fun q _ h => by
      show (T.heap.push _)[q]? = _
      rw [Array.getElem?_push, if_neg (by omega), hT])) ⟨by show s.heap.size ≤ (T.heap.push _).size; rw [Array.size_push]; have := hS.1; omega, fun x h1 h2 => by
      have := hS.1
      show (T.heap.push _)[x]? = _
      rw [Array.getElem?_push, if_neg (by omega), hT]
      exact hS.2.1 x h1 h2, hS.2.2⟩ _ rfl X₁
  rw [← hsize] at a1
  exact ⟨t2, st1 t2 a1, b1⟩
end
/-- the formula of a kind -/
def gFm (E : Ev) (G : gh) (kd : Int32) (fo : Nat) : Prop := (kd = 100 ∧ fo = ev_k E 31) ∨ (kd = 112 ∧ fo = ev_k E 32) ∨ (kd = 109 ∧ ∃ i, G fo = some (50, i, .inr (13, [.int (-1)]))) ∨ (kd = 115 ∧ ∃ i, G fo = some (50, i, .inr (13, [.int 1])))
theorem gFm.mono {E : Ev} {G G' : gh} {kd : Int32} {fo : Nat} {T : Nat → Nat → Prop} (h : gFm E G kd fo) (hf : gh_fr T G G') (hT : ∀ i, ¬ T 50 i) : gFm E G' kd fo := by
  rcases h with h | h | ⟨h, i, h1⟩ | ⟨h, i, h1⟩
  · exact Or.inl h
  · exact Or.inr (Or.inl h)
  · exact Or.inr (Or.inr (Or.inl ⟨h, i, hf _ _ _ _ h1 (hT i)⟩))
  · exact Or.inr (Or.inr (Or.inr ⟨h, i, hf _ _ _ _ h1 (hT i)⟩))
set_option maxHeartbeats 4000000 in
set_option maxRecDepth 100000 in
theorem metX1_view_2 (l : Launch) {E : Ev} {G : gh} {st sc : Nat} {up : Int32}  : Met l yX1_view_2 (ws_ yX1_view_2 cX1_view_2 3 (some (.object "CostStudio$View"))) ({ frames := 0, cells := 1, slots := 3, locals := 3080 }) (gP E G [.ref st, .ref sc, .int up]) (gQ E (fun v G' => ∃ q, v = some (.ref q) ∧ G q = none ∧ G' = gh_up G q (50, 0, .inr (12, [.ref st, .int up, .ref sc])))) 1 3 (ev_A E) := by
  refine gMetN RX1 (by decide) rfl (Nat.le_of_ble_eq_true rfl) ?_
  intro p e s m below meth c ls hx hb S hr hnd hl hG hS
  have hl : lv_has ls 3 [(0, .ref st), (1, .ref sc), (2, .int up)] := hl
  refine lv_aload_n hx hb dX1_view_2_0 rfl (lv_at hl 0 rfl) ?_
  refine lv_iload_n hx hb dX1_view_2_1 rfl (lv_at hl 2 rfl) ?_
  refine lv_aload_n hx hb dX1_view_2_2 rfl (lv_at hl 1 rfl) ?_
  refine g_dynM (y := yX1_view_2) (sh := gl_s1) (ci := 12) (vals := [.ref st, .int up, .ref sc]) (rest := []) S hnd S.2.1.2.2.2.2.2.2.1 rfl lb_F1 hl.1 (tys := [.object "CostStudio", .int, .object "CostStudio$Scenario"]) (by decide +kernel) rfl rfl (fun i v hv => by match i, hv with | 0, hv => cases hv; exact ⟨_, rfl, rfl⟩ | 1, hv => cases hv; exact ⟨_, rfl, rfl⟩ | 2, hv => cases hv; exact ⟨_, rfl, rfl⟩ | k + 3, hv => cases hv) S.2.1.2.2.2.2.2.2.2.2.2.2.2.2.1.1 S.2.1.2.2.2.2.2.2.2.2.2.2.2.2.1.2.1 rfl rfl dX1_view_2_3 (Nat.le_of_ble_eq_true rfl) 50 0 (Nat.le_of_ble_eq_true rfl) (Nat.le_of_ble_eq_true rfl) hG hS (fun q H hq hG hS => ?_)
  refine W.cs (cells' := 1) (slots' := 3) rfl rfl ?_
  exact g_aret S hr (Or.inl ⟨_, rfl⟩) dX1_view_2_8 (Or.inr ⟨_, rfl⟩) hG hS (by first | exact Nat.le_refl _ | omega) (by first | exact Nat.le_refl _ | omega) ⟨q, rfl, hq, rfl⟩
set_option maxHeartbeats 4000000 in
set_option maxRecDepth 100000 in
theorem metX1_view (l : Launch) {E : Ev} {G : gh} {st sc : Nat} {t0 i0 : Nat} {fs0 : List Value}  (hst : G st = some (t0, i0, .inr (0, fs0))) : Met l yX1_view (ws_ yX1_view cX1_view 2 (some (.object "CostStudio$View"))) ({ frames := 1, cells := 1, slots := 3, locals := 3110 }) (gP E G [.ref st, .ref sc]) (gQ E (fun v G' => ∃ q, v = some (.ref q) ∧ G q = none ∧ G' = gh_up G q (50, 0, .inr (12, [.ref st, .int 6, .ref sc])))) 1 3 (ev_A E) := by
  refine gMet RX1 (by decide) rfl (Nat.le_of_ble_eq_true rfl) ?_
  intro p e s m below meth c ls hx hb S hr hnm hl hG hS
  have hl : lv_has ls 2 [(0, .ref st), (1, .ref sc)] := hl
  refine lv_aload_n hx hb dX1_view_0 rfl (lv_at hl 0 rfl) ?_
  refine lv_aload_n hx hb dX1_view_1 rfl (lv_at hl 1 rfl) ?_
  refine lv_bipush (v := 6) hx hb dX1_view_2 (by decide) ?_
  refine g_call hS (va_runV (As := [.ref sc, .int 6]) (rest := []) S.1 (metX1_view_2 l (E := E) (G := G) (st := st) (sc := sc) (up := 6)) (cwV 2 S.ts (lw_V q524 q526 qs10 q30 q527) rfl rfl rfl (by decide +kernel) ⟨Nat.le_of_ble_eq_true rfl, Nat.le_of_ble_eq_true rfl⟩) (S.preV hG hS hst rfl) rfl rfl hl.1 rfl (lv_room (Nat.le_of_ble_eq_true rfl)) dX1_view_4 ⟨Nat.le_of_ble_eq_true rfl, Nat.le_of_ble_eq_true rfl⟩) (fun v G1 H locs hp hG hS => ?_)
  refine W.cs (cells' := 1) (slots' := 3) (by first | rfl | omega) (by first | rfl | omega) ?_
  obtain ⟨q, rfl, hq, rfl⟩ := hp
  refine W.eq (g2 := F0 m 7 ls [.ref q]) rfl ?_
  exact g_aret S hr (Or.inl ⟨_, rfl⟩) dX1_view_7 (Or.inr ⟨_, rfl⟩) hG hS (by first | exact Nat.le_refl _ | omega) (by first | exact Nat.le_refl _ | omega) ⟨q, rfl, hq, rfl⟩
set_option maxHeartbeats 4000000 in
set_option maxRecDepth 100000 in
theorem metX1_formula (l : Launch) {E : Ev} {G : gh} {kd : Int32}  (hk : sp_kd kd) : Met l yX1_formula (ws_ yX1_formula cX1_formula 2 (some (.object "CostStudio$Formula"))) ({ frames := 0, cells := 1, slots := 1, locals := 3080 }) (gP E G [.int kd]) (gQ E (fun v G' => ∃ fo, v = some (.ref fo) ∧ gFm E G' kd fo ∧ gh_le G G')) 1 1 (ev_A E) := by
  refine gMetN RX1 (by decide) rfl (Nat.le_of_ble_eq_true rfl) ?_
  intro p e s m below meth c ls hx hb S hr hnd hl hG hS
  have hl : lv_has ls 2 [(0, .int kd)] := hl
  rcases hk with rfl | rfl | rfl | rfl
  · refine lv_iload_n hx hb dX1_formula_0 rfl (lv_at hl 0 rfl) ?_
    refine lv_bipush (v := 109) hx hb dX1_formula_1 (by decide) ?_
    refine lv_icmp_ne (tgt := 10) hx hb dX1_formula_3 (by decide) (fun _ => ?_) (fun h => absurd h (by decide))
    refine lv_iconst (v := 1) hx hb dX1_formula_10 (by decide) ?_
    refine lv_istore_n (lv' := [(1, .int 1), (0, .int 100)]) hx hb dX1_formula_11 rfl hl (by decide) rfl (fun ls hl => ?_)
    refine lv_iload_n hx hb dX1_formula_12 rfl (lv_at hl 1 rfl) ?_
    refine lv_lookup (off := 27) (tgt := 40) hx hb dX1_formula_13 (by decide) (by decide) (by decide) ?_
    refine g_dynC (y := yX1_formula) S hnd S.2.1.2.2.2.2.2.2.2.1 hl.1 dX1_formula_40 (Nat.le_of_ble_eq_true rfl) ?_
    exact g_aret S hr (Or.inl ⟨_, rfl⟩) dX1_formula_45 (Or.inr ⟨_, rfl⟩) hG hS (by first | exact Nat.le_refl _ | omega) (by first | exact Nat.le_refl _ | omega) ⟨_, rfl, Or.inl ⟨rfl, rfl⟩, gh_fr.rf⟩
  · refine lv_iload_n hx hb dX1_formula_0 rfl (lv_at hl 0 rfl) ?_
    refine lv_bipush (v := 109) hx hb dX1_formula_1 (by decide) ?_
    refine lv_icmp_ne (tgt := 10) hx hb dX1_formula_3 (by decide) (fun _ => ?_) (fun h => absurd h (by decide))
    refine lv_iconst (v := 1) hx hb dX1_formula_10 (by decide) ?_
    refine lv_istore_n (lv' := [(1, .int 1), (0, .int 115)]) hx hb dX1_formula_11 rfl hl (by decide) rfl (fun ls hl => ?_)
    refine lv_iload_n hx hb dX1_formula_12 rfl (lv_at hl 1 rfl) ?_
    refine lv_lookup (off := 39) (tgt := 52) hx hb dX1_formula_13 (by decide) (by decide) (by decide) ?_
    refine lv_iload_n hx hb dX1_formula_52 rfl (lv_at hl 0 rfl) ?_
    refine g_dynM (y := yX1_formula) (sh := gl_s4) (ci := 13) (vals := [.int 1]) (rest := []) S hnd S.2.1.2.2.2.2.2.2.2.2.2.1 rfl lb_F4 hl.1 (tys := [.int]) (by decide +kernel) rfl rfl (fun i v hv => by match i, hv with | 0, hv => cases hv; exact ⟨_, rfl, rfl⟩ | k + 1, hv => cases hv) S.2.1.2.2.2.2.2.2.2.2.2.2.2.2.1.2.2.1 S.2.1.2.2.2.2.2.2.2.2.2.2.2.2.1.2.2.2 rfl rfl dX1_formula_53 (Nat.le_of_ble_eq_true rfl) 50 0 (Nat.le_of_ble_eq_true rfl) (Nat.le_of_ble_eq_true rfl) hG hS (fun q H hq hG hS => ?_)
    refine W.cs (cells' := 1) (slots' := 1) rfl rfl ?_
    exact g_aret S hr (Or.inl ⟨_, rfl⟩) dX1_formula_58 (Or.inr ⟨_, rfl⟩) hG hS (by first | exact Nat.le_refl _ | omega) (by first | exact Nat.le_refl _ | omega) ⟨q, rfl, Or.inr (Or.inr (Or.inr ⟨rfl, 0, gh_up_s⟩)), gh_fr.new hq⟩
  · refine lv_iload_n hx hb dX1_formula_0 rfl (lv_at hl 0 rfl) ?_
    refine lv_bipush (v := 109) hx hb dX1_formula_1 (by decide) ?_
    refine lv_icmp_ne (tgt := 10) hx hb dX1_formula_3 (by decide) (fun h => absurd (by decide) h) (fun _ => ?_)
    refine lv_iconst (v := -1) hx hb dX1_formula_6 (by decide) ?_
    refine lv_goto (tgt := 11) hx hb dX1_formula_7 (by decide) ?_
    refine lv_istore_n (lv' := [(1, .int (-1)), (0, .int 109)]) hx hb dX1_formula_11 rfl hl (by decide) rfl (fun ls hl => ?_)
    refine lv_iload_n hx hb dX1_formula_12 rfl (lv_at hl 1 rfl) ?_
    refine lv_lookup (off := 39) (tgt := 52) hx hb dX1_formula_13 (by decide) (by decide) (by decide) ?_
    refine lv_iload_n hx hb dX1_formula_52 rfl (lv_at hl 0 rfl) ?_
    refine g_dynM (y := yX1_formula) (sh := gl_s4) (ci := 13) (vals := [.int (-1)]) (rest := []) S hnd S.2.1.2.2.2.2.2.2.2.2.2.1 rfl lb_F4 hl.1 (tys := [.int]) (by decide +kernel) rfl rfl (fun i v hv => by match i, hv with | 0, hv => cases hv; exact ⟨_, rfl, rfl⟩ | k + 1, hv => cases hv) S.2.1.2.2.2.2.2.2.2.2.2.2.2.2.1.2.2.1 S.2.1.2.2.2.2.2.2.2.2.2.2.2.2.1.2.2.2 rfl rfl dX1_formula_53 (Nat.le_of_ble_eq_true rfl) 50 0 (Nat.le_of_ble_eq_true rfl) (Nat.le_of_ble_eq_true rfl) hG hS (fun q H hq hG hS => ?_)
    refine W.cs (cells' := 1) (slots' := 1) rfl rfl ?_
    exact g_aret S hr (Or.inl ⟨_, rfl⟩) dX1_formula_58 (Or.inr ⟨_, rfl⟩) hG hS (by first | exact Nat.le_refl _ | omega) (by first | exact Nat.le_refl _ | omega) ⟨q, rfl, Or.inr (Or.inr (Or.inl ⟨rfl, 0, gh_up_s⟩)), gh_fr.new hq⟩
  · refine lv_iload_n hx hb dX1_formula_0 rfl (lv_at hl 0 rfl) ?_
    refine lv_bipush (v := 109) hx hb dX1_formula_1 (by decide) ?_
    refine lv_icmp_ne (tgt := 10) hx hb dX1_formula_3 (by decide) (fun _ => ?_) (fun h => absurd h (by decide))
    refine lv_iconst (v := 1) hx hb dX1_formula_10 (by decide) ?_
    refine lv_istore_n (lv' := [(1, .int 1), (0, .int 112)]) hx hb dX1_formula_11 rfl hl (by decide) rfl (fun ls hl => ?_)
    refine lv_iload_n hx hb dX1_formula_12 rfl (lv_at hl 1 rfl) ?_
    refine lv_lookup (off := 33) (tgt := 46) hx hb dX1_formula_13 (by decide) (by decide) (by decide) ?_
    refine g_dynC (y := yX1_formula) S hnd S.2.1.2.2.2.2.2.2.2.2.1 hl.1 dX1_formula_46 (Nat.le_of_ble_eq_true rfl) ?_
    exact g_aret S hr (Or.inl ⟨_, rfl⟩) dX1_formula_51 (Or.inr ⟨_, rfl⟩) hG hS (by first | exact Nat.le_refl _ | omega) (by first | exact Nat.le_refl _ | omega) ⟨_, rfl, Or.inr (Or.inl ⟨rfl, rfl⟩), gh_fr.rf⟩
