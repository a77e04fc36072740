/-! METHODS WITH HANDLERS -/
/-- a method with handlers that returns -/
theorem gMetW {l : Launch} {E : Ev} {G : gh} {y : MethodName} {rm : Room} {mc ms : Nat} {cc : ByteArray} {maxL : Nat} {ret : Option FieldType} {hh : List (Nat × Nat × Nat × Nat)} {As : List Value} {post : Option Value → gh → Prop} (own : String) (hy : plainName y.cls = true) (ho : y.cls = own) (hle : (lg_sl As).length ≤ maxL)
    (body : ∀ {p : Program} {e : Env} {s : State} {m : MethodId} {below : List Frame} {meth : Method} {c : Code} {ls : Array Slot}, p.tables.exec = Jvm.exec → c.code = cc → gS E p m meth c cc maxL s As.toArray own → meth.sig.returnType = ret → c.exceptionTable.toList = tableOf hh → lv_has ls maxL (lv_args 0 As) → gh_W E G s.heap → va_S (ev_A E) s.heap s.heap [] →
      W p l e (headSpec (wsW_ y cc maxL ret hh) rm).room s m As.toArray below meth c s.heap [] 0 0 (MQ below (gQ E post) As.toArray s mc ms (ev_A E)) (F0 m 0 ls [])) : Met l y (wsW_ y cc maxL ret hh) rm (gP E G As) (gQ E post) mc ms (ev_A E) := by
  refine MetFree.of_bodyS (code := cc) (maxLocals := maxL) (ret := ret) hy ?_ ?_
  · intro args s m h hn
    obtain ⟨m9, meth, c, hn9, h1, h2, h3, h4, -, h5, h6, -⟩ := Cond.codeWith_spec (atoms_spec (ws := wsW_ y cc maxL ret hh) h _ List.mem_cons_self)
    cases hn.symm.trans hn9
    exact ⟨meth, c, h1, h2, h3, h4, h5, h6⟩
  · intro p e s m args below meth c s₁ B hml hv _
    obtain ⟨rfl, hC, hG⟩ := hv
    have hh0 : s₁.heap = s.heap := by rw [B.state]; rfl
    have hl := lv_entry As (n := maxL) hle
    have hts := atoms_spec (ws := wsW_ y cc maxL ret hh) B.pre
    have ht := vx_table (x := y) B (hts _ List.mem_cons_self)
    have key := @body p e s m below meth c (lg_sl As ++ List.replicate (maxL - (lg_sl As).length) Slot.unset).toArray B.exec B.bytes ⟨⟨B.exec, B.bytes, hml, ho ▸ findClass_of_methodNamed B.named, fun w h => hts w (List.mem_cons_of_mem _ h)⟩, hC, B.notSynchronized⟩ B.returns ht hl hG va_S.rf
    rw [← lg_entry_eq] at key
    obtain ⟨t, a1, o, b1, b2, b3⟩ := key s₁ hh0 (Stand.of_body B)
    exact ⟨t, o, a1, b1, b2, ⟨b3.1, b3.2⟩⟩
/-- a method with handlers that may throw -/
theorem gMetXW {l : Launch} {E : Ev} {G : gh} {y : MethodName} {rm : Room} {mc ms : Nat} {cc : ByteArray} {maxL : Nat} {ret : Option FieldType} {hh : List (Nat × Nat × Nat × Nat)} {As : List Value} {post : Option Value → gh → Prop} {px : String → gh → Prop} (own : String) (hy : plainName y.cls = true) (ho : y.cls = own) (hle : (lg_sl As).length ≤ maxL)
    (body : ∀ {p : Program} {e : Env} {s : State} {m : MethodId} {below : List Frame} {meth : Method} {c : Code} {ls : Array Slot}, p.tables.exec = Jvm.exec → c.code = cc → gS E p m meth c cc maxL s As.toArray own → meth.sig.returnType = ret → c.exceptionTable.toList = tableOf hh → lv_has ls maxL (lv_args 0 As) → gh_W E G s.heap → va_S (ev_A E) s.heap s.heap [] →
      W p l e (headSpec (wsW_ y cc maxL ret hh) rm).room s m As.toArray below meth c s.heap [] 0 0 (vx_MQ below (gQ E post) (gX E px) As.toArray s mc ms (ev_A E)) (F0 m 0 ls [])) : vx_Met l y (wsW_ y cc maxL ret hh) rm (gP E G As) (gQ E post) (gX E px) mc ms (ev_A E) := by
  refine vx_ofWH (cc := cc) (maxL := maxL) (ret := ret) (hh := hh) hy rfl ?_
  intro p e s m args below meth c s₁ B hml hv
  obtain ⟨rfl, hC, hG⟩ := hv
  have hl := lv_entry As (n := maxL) hle
  rw [lg_entry_eq]
  generalize (lg_sl As ++ List.replicate (maxL - (lg_sl As).length) Slot.unset).toArray = ls at hl ⊢
  have hts := atoms_spec (ws := wsW_ y cc maxL ret hh) B.pre
  exact body B.exec B.bytes ⟨⟨B.exec, B.bytes, hml, ho ▸ findClass_of_methodNamed B.named, fun w h => hts w (List.mem_cons_of_mem _ h)⟩, hC, B.notSynchronized⟩ B.returns (vx_table (x := y) B (hts _ List.mem_cons_self)) hl hG va_S.rf
theorem cs_lt32 {x : Int64} {g : Int32} (hx : x.toInt32.toInt64 = x) (h : x.toInt32 < g) (q : g.toInt64 ≤ x) : False := by
  rw [← hx, Int64.le_iff_toInt_le, Int32.toInt_toInt64, Int32.toInt_toInt64] at q
  rw [Int32.lt_iff_toInt_lt] at h
  omega
theorem cs_ge32 {x : Int64} {g : Int32} (hx : x.toInt32.toInt64 = x) (h : ¬ x.toInt32 < g) : g.toInt64 ≤ x := by
  rw [← hx, Int64.le_iff_toInt_le, Int32.toInt_toInt64, Int32.toInt_toInt64]
  rw [Int32.lt_iff_toInt_lt] at h
  omega
set_option maxHeartbeats 4000000 in
set_option maxRecDepth 100000 in
theorem metX1_reaches (l : Launch) (hl0 : l.stackTraces = false) {E : Ev} {G : gh} {st vq iv i t : Nat} {M : tM} {nn : tN} {w : cW} {up : Int32} {k : Nat} {goal : Int32}  (hC : cS E G st M nn w) (hwf : sp_wf M nn) (hV : G vq = some (50, iv, .inr (12, [.ref st, .int up, .ref (w.fs i)]))) (hi : i < nn 3) (ht : t < 12) (hk : k < nn 2) : Met l yX1_reaches (wsW_ yX1_reaches cX1_reaches 6 (some .boolean) [(0, 17, 18, 185)]) ({ frames := 30, cells := 1, slots := 6, locals := 1200 }) (gP E G [.ref st, .ref vq, .ref (w.fl k), .int (nI t), .int goal]) (gQ E (fun v G' => v = some (.int (match sp_fd M (nn 4) i t (fun d => decide (nI d ≤ up)) 10 k with | some x => if goal.toInt64 ≤ x then 1 else 0 | none => 0)) ∧ gh_le G G'))  1 6 (ev_A E) := by
  have h10 : nn 2 ≤ 10 := hwf.1.2.1
  refine gMetW RX1 (by decide) rfl (Nat.le_of_ble_eq_true rfl) ?_
  intro p e s m below meth c ls hx hb S hr htab hl hG hS
  have hl : lv_has ls 6 [(0, .ref st), (1, .ref vq), (2, .ref (w.fl k)), (3, .int (nI t)), (4, .int goal)] := hl
  refine lv_aload_n hx hb dX1_reaches_0 rfl (lv_at hl 0 rfl) ?_
  refine lv_aload_n hx hb dX1_reaches_1 rfl (lv_at hl 1 rfl) ?_
  refine lv_aload_n hx hb dX1_reaches_2 rfl (lv_at hl 2 rfl) ?_
  refine lv_iload_n hx hb dX1_reaches_3 rfl (lv_at hl 3 rfl) ?_
  cases hz : sp_fd M (nn 4) i t (fun d => decide (nI d ≤ up)) 10 k with
  | none =>
    refine g_callX hS (vx_runV (As := [.ref vq, .ref (w.fl k), .int (nI t)]) (rest := []) S.1 (metX1_findBad l hl0 (E := E) (G := G) hC hwf hV hi ht k hk hz) (cwV 3 S.ts (lw_V q545 q547 qs12 q30 q548) rfl rfl rfl (by decide +kernel) ⟨by show k + 12 + 1 ≤ 30; omega, by show 8 + (5 + 11) + (40 * k + 600) ≤ 1200; omega⟩) (S.preV hG hS hC.1 rfl) rfl rfl hl.1 rfl (lv_room (Nat.le_of_ble_eq_true rfl)) dX1_reaches_4 ⟨Nat.le_of_ble_eq_true rfl, Nat.le_of_ble_eq_true rfl⟩) (fun C ce q9 G1 H locs hp hG hS hce hcv hcl => ?_) (fun v G1 H locs hp hG hS => ?_)
    · refine vx_widen (k := 1) (n := 6) (by first | exact Nat.le_refl _ | omega) (by first | exact Nat.le_refl _ | omega) ?_
      obtain ⟨hC9, hle⟩ := hp
      rcases hC9 with rfl | rfl
      · refine vx_catch (own := RX1) (name := "CostStudio$NoNumber") (E := "CostStudio$TooGreat") S.1.2.2.2.1 [] ⟨0, 17, 18, 185⟩ [] (htab.trans rfl) (fun z hz => by cases hz) (by decide) (by decide) (S.ts _ q874) (va_Nw.use rfl (S.2.1.W q1206 rfl)) hce hcv hcl ?_
        refine lv_astore (lv' := [(5, .ref q9), (0, .ref st), (1, .ref vq), (2, .ref (w.fl k)), (3, .int (nI t)), (4, .int goal)]) hx hb dX1_reaches_18 hl (by decide) rfl (fun ls hl => ?_)
        refine lv_iconst (v := 0) hx hb dX1_reaches_20 (by decide) ?_
        exact g_zret rfl S hr dX1_reaches_21 hG hS (by first | exact Nat.le_refl _ | omega) (by first | exact Nat.le_refl _ | omega) ⟨rfl, hle⟩
      · refine vx_catch (own := RX1) (name := "CostStudio$NoNumber") (E := "CostStudio$TooSmall") S.1.2.2.2.1 [] ⟨0, 17, 18, 185⟩ [] (htab.trans rfl) (fun z hz => by cases hz) (by decide) (by decide) (S.ts _ q874) (va_Nw.use rfl (S.2.1.W q1207 rfl)) hce hcv hcl ?_
        refine lv_astore (lv' := [(5, .ref q9), (0, .ref st), (1, .ref vq), (2, .ref (w.fl k)), (3, .int (nI t)), (4, .int goal)]) hx hb dX1_reaches_18 hl (by decide) rfl (fun ls hl => ?_)
        refine lv_iconst (v := 0) hx hb dX1_reaches_20 (by decide) ?_
        exact g_zret rfl S hr dX1_reaches_21 hG hS (by first | exact Nat.le_refl _ | omega) (by first | exact Nat.le_refl _ | omega) ⟨rfl, hle⟩
    refine W.cs (cells' := 1) (slots' := 6) (by first | rfl | omega) (by first | rfl | omega) ?_
    exact hp.elim
  | some x =>
    refine g_call hS (va_runV (As := [.ref vq, .ref (w.fl k), .int (nI t)]) (rest := []) S.1 (metX1_findOk l (E := E) (G := G) hC hwf hV hi ht k hk x hz) (cwV 3 S.ts (lw_V q545 q547 qs12 q30 q548) rfl rfl rfl (by decide +kernel) ⟨by show k + 12 + 1 ≤ 30; omega, by show 8 + (5 + 11) + (40 * k + 600) ≤ 1200; omega⟩) (S.preV hG hS hC.1 rfl) rfl rfl hl.1 rfl (lv_room (Nat.le_of_ble_eq_true rfl)) dX1_reaches_4 ⟨Nat.le_of_ble_eq_true rfl, Nat.le_of_ble_eq_true rfl⟩) (fun v G1 H locs hp hG hS => ?_)
    refine W.cs (cells' := 0) (slots' := 0) (by first | rfl | omega) (by first | rfl | omega) ?_
    obtain ⟨rfl, rfl⟩ := hp
    refine W.eq (g2 := F0 m 7 ls [.int x.toInt32]) rfl ?_
    have hx9 := sp_in_32 (sp_fd_in hwf ht hk hz)
    refine lv_iload hx hb dX1_reaches_7 (lv_at hl 4 rfl) ?_
    refine lv_icmp_lt (tgt := 16) hx hb dX1_reaches_9 (by decide) (fun h9 => ?_) (fun h9 => ?_)
    · refine lv_iconst (v := 0) hx hb dX1_reaches_16 (by decide) ?_
      exact g_zret rfl S hr dX1_reaches_17 hG hS (by first | exact Nat.le_refl _ | omega) (by first | exact Nat.le_refl _ | omega) ⟨by show some (Value.int 0) = some (Value.int (if goal.toInt64 ≤ x then 1 else 0)); rw [if_neg (fun q => cs_lt32 hx9 h9 q)], gh_fr.rf⟩
    · refine lv_iconst (v := 1) hx hb dX1_reaches_12 (by decide) ?_
      refine lv_goto (tgt := 17) hx hb dX1_reaches_13 (by decide) ?_
      exact g_zret rfl S hr dX1_reaches_17 hG hS (by first | exact Nat.le_refl _ | omega) (by first | exact Nat.le_refl _ | omega) ⟨by show some (Value.int 1) = some (Value.int (if goal.toInt64 ≤ x then 1 else 0)); rw [if_pos (cs_ge32 hx9 h9)], gh_fr.rf⟩
