/-! A METHOD'S ENTRY; JOINS; LOOPS -/
theorem gMet {l : Launch} {E : Ev} {G : gh} {y : MethodName} {rm : Room} {mc ms : Nat} {cc : ByteArray} {maxL : Nat} {ret : Option FieldType} {As : List Value} {post : Option Value → gh → Prop} (own : String) (hy : plainName y.cls = true) (ho : y.cls = own) (hle : (lg_sl As).length ≤ maxL)
    (body : ∀ {p : Program} {e : Env} {s : State} {m : MethodId} {below : List Frame} {meth : Method} {c : Code} {ls : Array Slot}, p.tables.exec = Jvm.exec → c.code = cc → gS E p m meth c cc maxL s As.toArray own → meth.sig.returnType = ret → meth.name = y.name → lv_has ls maxL (lv_args 0 As) → gh_W E G s.heap → va_S (ev_A E) s.heap s.heap [] →
      W p l e (headSpec (ws_ y cc maxL ret) rm).room s m As.toArray below meth c s.heap [] 0 0 (MQ below (gQ E post) As.toArray s mc ms (ev_A E)) (F0 m 0 ls [])) : Met l y (ws_ y cc maxL ret) rm (gP E G As) (gQ E post) mc ms (ev_A E) := by
  refine Met.ofW (cc := cc) (maxL := maxL) (ret := ret) hy rfl ?_
  intro p e s m args below meth c s₁ B hml hv
  obtain ⟨rfl, hC, hG⟩ := hv
  have hl := lv_entry As (n := maxL) hle
  rw [lg_entry_eq]
  generalize (lg_sl As ++ List.replicate (maxL - (lg_sl As).length) Slot.unset).toArray = ls at hl ⊢
  have hts := atoms_spec (ws := ws_ y cc maxL ret) B.pre
  exact body B.exec B.bytes ⟨⟨B.exec, B.bytes, hml, ho ▸ findClass_of_methodNamed B.named, fun w h => hts w (List.mem_cons_of_mem _ h)⟩, hC, B.notSynchronized⟩ B.returns (name_of_methodNamed B.named B.method).1 hl hG va_S.rf
/-- a method that may throw, without handlers -/
theorem gMetX {l : Launch} {E : Ev} {G : gh} {y : MethodName} {rm : Room} {mc ms : Nat} {cc : ByteArray} {maxL : Nat} {ret : Option FieldType} {As : List Value} {post : Option Value → gh → Prop} {px : String → gh → Prop} (own : String) (hy : plainName y.cls = true) (ho : y.cls = own) (hle : (lg_sl As).length ≤ maxL)
    (body : ∀ {p : Program} {e : Env} {s : State} {m : MethodId} {below : List Frame} {meth : Method} {c : Code} {ls : Array Slot}, p.tables.exec = Jvm.exec → c.code = cc → gS E p m meth c cc maxL s As.toArray own → meth.sig.returnType = ret → (∀ x ∈ c.exceptionTable.toList, False) → lv_has ls maxL (lv_args 0 As) → gh_W E G s.heap → va_S (ev_A E) s.heap s.heap [] →
      W p l e (headSpec (ws_ y cc maxL ret) rm).room s m As.toArray below meth c s.heap [] 0 0 (vx_MQ below (gQ E post) (gX E px) As.toArray s mc ms (ev_A E)) (F0 m 0 ls [])) : vx_Met l y (ws_ y cc maxL ret) rm (gP E G As) (gQ E post) (gX E px) mc ms (ev_A E) := by
  refine vx_ofW (cc := cc) (maxL := maxL) (ret := ret) hy rfl ?_
  intro p e s m args below meth c s₁ B hml hno hv
  obtain ⟨rfl, hC, hG⟩ := hv
  have hl := lv_entry As (n := maxL) hle
  rw [lg_entry_eq]
  generalize (lg_sl As ++ List.replicate (maxL - (lg_sl As).length) Slot.unset).toArray = ls at hl ⊢
  have hts := atoms_spec (ws := ws_ y cc maxL ret) B.pre
  exact body B.exec B.bytes ⟨⟨B.exec, B.bytes, hml, ho ▸ findClass_of_methodNamed B.named, fun w h => hts w (List.mem_cons_of_mem _ h)⟩, hC, B.notSynchronized⟩ B.returns hno hl hG va_S.rf
section
variable {p : Program} {l : Launch} {e : Env} {R : Room} {s : State} {m : MethodId} {args : Array Value} {below : List Frame} {meth : Method} {c : Code} {H : Heap} {locs : List Loc} {cells slots : Nat} {Q : State → Prop} {E : Ev} {G : gh}
/-- ways that come together again, nothing written between -/
theorem g_join {α : Type} (P : α → Prop) (g : α → JFrame) {g0 : JFrame} (k1 : (∀ x, P x → W p l e R s m args below meth c H locs cells slots Q (g x)) → W p l e R s m args below meth c H locs cells slots Q g0) (k2 : ∀ x, P x → W p l e R s m args below meth c H locs cells slots Q (g x)) : W p l e R s m args below meth c H locs cells slots Q g0 := k1 k2
/-- ways that come together again, the ghost heap the same -/
theorem g_joinG {α : Type} (G : gh) (P : α → Prop) (g : α → JFrame) {g0 : JFrame} (k1 : (∀ (x : α) (H : Heap) (locs : List Loc), P x → gh_W E G H → va_S (ev_A E) s.heap H locs → W p l e R s m args below meth c H locs cells slots Q (g x)) → W p l e R s m args below meth c H locs cells slots Q g0) (hG : gh_W E G H) (hS : va_S (ev_A E) s.heap H locs)
    (k2 : ∀ (x : α) (H : Heap) (locs : List Loc), P x → gh_W E G H → va_S (ev_A E) s.heap H locs → W p l e R s m args below meth c H locs cells slots Q (g x)) : W p l e R s m args below meth c H locs cells slots Q g0 := k1 k2
/-- ways that come together again, the heap changed; cs, ss: cells and slots there -/
theorem g_joinH {α : Type} (P : α → gh → Prop) (cs ss nL pc : Nat) (lv : α → List (Nat × Value)) (st : α → List Value) {g0 : JFrame}
    (k1 : (∀ (x : α) (G : gh) (H : Heap) (locs : List Loc) (ls : Array Slot), P x G → gh_W E G H → va_S (ev_A E) s.heap H locs → lv_has ls nL (lv x) → W p l e R s m args below meth c H locs cs ss Q (F0 m pc ls (st x))) → W p l e R s m args below meth c H locs cells slots Q g0)
    (k2 : ∀ (x : α) (G : gh) (H : Heap) (locs : List Loc) (ls : Array Slot), P x G → gh_W E G H → va_S (ev_A E) s.heap H locs → lv_has ls nL (lv x) → W p l e R s m args below meth c H locs cs ss Q (F0 m pc ls (st x))) : W p l e R s m args below meth c H locs cells slots Q g0 := k1 k2
/-- a loop at its head: a measure falls; cs, ss: cells and slots of a state of the loop -/
theorem g_while {α : Type} (μ : α → Nat) (I : α → gh → Prop) (cs ss : α → Nat) (nL pc : Nat) (lv : α → List (Nat × Value))
    (step : ∀ (x : α) (G : gh) (H : Heap) (locs : List Loc) (ls : Array Slot), (∀ (y : α) (G : gh) (H : Heap) (locs : List Loc) (ls : Array Slot), I y G → μ y < μ x → gh_W E G H → va_S (ev_A E) s.heap H locs → lv_has ls nL (lv y) → W p l e R s m args below meth c H locs (cs y) (ss y) Q (F0 m pc ls [])) →
      I x G → gh_W E G H → va_S (ev_A E) s.heap H locs → lv_has ls nL (lv x) → W p l e R s m args below meth c H locs (cs x) (ss x) Q (F0 m pc ls [])) :
    ∀ (x : α) (G : gh) (H : Heap) (locs : List Loc) (ls : Array Slot), I x G → gh_W E G H → va_S (ev_A E) s.heap H locs → lv_has ls nL (lv x) → W p l e R s m args below meth c H locs (cs x) (ss x) Q (F0 m pc ls []) := by
  have key : ∀ (n : Nat) (x : α) (G : gh) (H : Heap) (locs : List Loc) (ls : Array Slot), μ x < n → I x G → gh_W E G H → va_S (ev_A E) s.heap H locs → lv_has ls nL (lv x) → W p l e R s m args below meth c H locs (cs x) (ss x) Q (F0 m pc ls []) := by
    intro n
    induction n with
    | zero => intro x G H locs ls h; exact absurd h (Nat.not_lt_zero _)
    | succ n ih =>
      intro x G H locs ls h hI hG hS hl
      exact step x G H locs ls (fun y G' H' locs' ls' hI' hm hG' hS' hl' => ih y G' H' locs' ls' (by omega) hI' hG' hS' hl') hI hG hS hl
  exact fun x G H locs ls hI hG hS hl => key (μ x + 1) x G H locs ls (Nat.lt_succ_self _) hI hG hS hl
end
section
variable {p : Program} {l : Launch} {e : Env} {R : Room} {s : State} {m : MethodId} {args : Array Value} {below : List Frame} {meth : Method} {c : Code} {H : Heap} {locs : List Loc} {cells slots : Nat} {Q : State → Prop}
variable {cc : ByteArray} {pc nL : Nat} {ls : Array Slot} {rest : List Value} {own : String} {E : Ev} {G : gh}
theorem n_iald (S : gS E p m meth c cc nL s args own) (hdg : decode cc pc = .ok (.iaload, 1)) (hG : gh_W E G H) {a t j n q : Nat} {f : Nat → Int32} (he : G a = some (t, j, .inl (ev_k E 0, n, .inl f))) {i : Int32} (hin : gix n i q)
    (kk : W p l e R s m args below meth c H locs cells slots Q (F0 m (pc + 1) ls (.int (f q) :: rest))) : W p l e R s m args below meth c H locs cells slots Q (F0 m pc ls (.int i :: .ref a :: rest)) := g_iald S hdg hG he hin.in (by rw [hin.cl]; exact kk)
theorem n_lald (S : gS E p m meth c cc nL s args own) (hdg : decode cc pc = .ok (.laload, 1)) (hG : gh_W E G H) {a t j n q : Nat} {f : Nat → Int64} (he : G a = some (t, j, .inl (ev_k E 1, n, .inr (.inl f)))) {i : Int32} (hin : gix n i q)
    (kk : W p l e R s m args below meth c H locs cells slots Q (F0 m (pc + 1) ls (.long (f q) :: rest))) : W p l e R s m args below meth c H locs cells slots Q (F0 m pc ls (.int i :: .ref a :: rest)) := g_lald S hdg hG he hin.in (by rw [hin.cl]; exact kk)
theorem n_zald (S : gS E p m meth c cc nL s args own) (hdg : decode cc pc = .ok (.baload, 1)) (hG : gh_W E G H) {a t j n q : Nat} {f : Nat → Int32} (he : G a = some (t, j, .inl (ev_k E 2, n, .inl f))) {i : Int32} (hin : gix n i q)
    (kk : W p l e R s m args below meth c H locs cells slots Q (F0 m (pc + 1) ls (.int (f q) :: rest))) : W p l e R s m args below meth c H locs cells slots Q (F0 m pc ls (.int i :: .ref a :: rest)) := g_zald S hdg hG he hin.in (by rw [hin.cl]; exact kk)
theorem n_cald (S : gS E p m meth c cc nL s args own) (hdg : decode cc pc = .ok (.caload, 1)) (hG : gh_W E G H) {a t j n q : Nat} {f : Nat → Int32} (he : G a = some (t, j, .inl (ev_k E 3, n, .inl f))) {i : Int32} (hin : gix n i q)
    (kk : W p l e R s m args below meth c H locs cells slots Q (F0 m (pc + 1) ls (.int (f q) :: rest))) : W p l e R s m args below meth c H locs cells slots Q (F0 m pc ls (.int i :: .ref a :: rest)) := g_cald S hdg hG he hin.in (by rw [hin.cl]; exact kk)
theorem n_dald (S : gS E p m meth c cc nL s args own) (hdg : decode cc pc = .ok (.daload, 1)) (hG : gh_W E G H) {a t j n q : Nat} {f : Nat → UInt64} (he : G a = some (t, j, .inl (ev_k E 4, n, .inr (.inr (.inr (.inl f)))))) {i : Int32} (hin : gix n i q)
    (kk : W p l e R s m args below meth c H locs cells slots Q (F0 m (pc + 1) ls (.double (f q) :: rest))) : W p l e R s m args below meth c H locs cells slots Q (F0 m pc ls (.int i :: .ref a :: rest)) := g_dald S hdg hG he hin.in (by rw [hin.cl]; exact kk)
theorem n_aald (k : Nat) {C : String} (hk : (gty E)[k]? = some (ev_k E k, .object C)) (S : gS E p m meth c cc nL s args own) (hdg : decode cc pc = .ok (.aaload, 1)) (hG : gh_W E G H) {a t j n q : Nat} {f : Nat → Option Nat} (he : G a = some (t, j, .inl (ev_k E k, n, .inr (.inr (.inr (.inr f)))))) {i : Int32} (hin : gix n i q)
    (kk : W p l e R s m args below meth c H locs cells slots Q (F0 m (pc + 1) ls (va_rf (f q) :: rest))) : W p l e R s m args below meth c H locs cells slots Q (F0 m pc ls (.int i :: .ref a :: rest)) := g_aald S k hk hdg hG he hin.in (by rw [hin.cl]; exact kk)
theorem n_iast (S : gS E p m meth c cc nL s args own) (hdg : decode cc pc = .ok (.iastore, 1)) (hG : gh_W E G H) (hS : va_S (ev_A E) s.heap H locs) {a t j n q : Nat} {f : Nat → Int32} (he : G a = some (t, j, .inl (ev_k E 0, n, .inl f))) {i : Int32} {x : Int32} (hin : gix n i q)
    (kk : ∀ (H1 : Heap) (locs1 : List Loc), gh_W E (gh_up G a (t, j, .inl (ev_k E 0, n, .inl (upd f q x)))) H1 → va_S (ev_A E) s.heap H1 locs1 → W p l e R s m args below meth c H1 locs1 cells slots Q (F0 m (pc + 1) ls rest)) : W p l e R s m args below meth c H locs cells slots Q (F0 m pc ls (.int x :: .int i :: .ref a :: rest)) := g_iast S hdg hG hS he hin.in (by rw [hin.cl]; exact kk)
theorem n_zast (S : gS E p m meth c cc nL s args own) (hdg : decode cc pc = .ok (.bastore, 1)) (hG : gh_W E G H) (hS : va_S (ev_A E) s.heap H locs) {a t j n q : Nat} {f : Nat → Int32} (he : G a = some (t, j, .inl (ev_k E 2, n, .inl f))) {i : Int32} {x : Int32} (hin : gix n i q)
    (kk : ∀ (H1 : Heap) (locs1 : List Loc), gh_W E (gh_up G a (t, j, .inl (ev_k E 2, n, .inl (upd f q (vp_nar .boolean x))))) H1 → va_S (ev_A E) s.heap H1 locs1 → W p l e R s m args below meth c H1 locs1 cells slots Q (F0 m (pc + 1) ls rest)) : W p l e R s m args below meth c H locs cells slots Q (F0 m pc ls (.int x :: .int i :: .ref a :: rest)) := g_zast S hdg hG hS he hin.in (by rw [hin.cl]; exact kk)
theorem n_cast (S : gS E p m meth c cc nL s args own) (hdg : decode cc pc = .ok (.castore, 1)) (hG : gh_W E G H) (hS : va_S (ev_A E) s.heap H locs) {a t j n q : Nat} {f : Nat → Int32} (he : G a = some (t, j, .inl (ev_k E 3, n, .inl f))) {i : Int32} {x : Int32} (hin : gix n i q)
    (kk : ∀ (H1 : Heap) (locs1 : List Loc), gh_W E (gh_up G a (t, j, .inl (ev_k E 3, n, .inl (upd f q (vp_nar .char x))))) H1 → va_S (ev_A E) s.heap H1 locs1 → W p l e R s m args below meth c H1 locs1 cells slots Q (F0 m (pc + 1) ls rest)) : W p l e R s m args below meth c H locs cells slots Q (F0 m pc ls (.int x :: .int i :: .ref a :: rest)) := g_cast S hdg hG hS he hin.in (by rw [hin.cl]; exact kk)
theorem n_last (S : gS E p m meth c cc nL s args own) (hdg : decode cc pc = .ok (.lastore, 1)) (hG : gh_W E G H) (hS : va_S (ev_A E) s.heap H locs) {a t j n q : Nat} {f : Nat → Int64} (he : G a = some (t, j, .inl (ev_k E 1, n, .inr (.inl f)))) {i : Int32} {x : Int64} (hin : gix n i q)
    (kk : ∀ (H1 : Heap) (locs1 : List Loc), gh_W E (gh_up G a (t, j, .inl (ev_k E 1, n, .inr (.inl (vp_updL f q x))))) H1 → va_S (ev_A E) s.heap H1 locs1 → W p l e R s m args below meth c H1 locs1 cells slots Q (F0 m (pc + 1) ls rest)) : W p l e R s m args below meth c H locs cells slots Q (F0 m pc ls (.long x :: .int i :: .ref a :: rest)) := g_last S hdg hG hS he hin.in (by rw [hin.cl]; exact kk)
theorem n_dast (S : gS E p m meth c cc nL s args own) (hdg : decode cc pc = .ok (.dastore, 1)) (hG : gh_W E G H) (hS : va_S (ev_A E) s.heap H locs) {a t j n q : Nat} {f : Nat → UInt64} (he : G a = some (t, j, .inl (ev_k E 4, n, .inr (.inr (.inr (.inl f)))))) {i : Int32} {x : UInt64} (hin : gix n i q)
    (kk : ∀ (H1 : Heap) (locs1 : List Loc), gh_W E (gh_up G a (t, j, .inl (ev_k E 4, n, .inr (.inr (.inr (.inl (vf_upd f q x))))))) H1 → va_S (ev_A E) s.heap H1 locs1 → W p l e R s m args below meth c H1 locs1 cells slots Q (F0 m (pc + 1) ls rest)) : W p l e R s m args below meth c H locs cells slots Q (F0 m pc ls (.double x :: .int i :: .ref a :: rest)) := g_dast S hdg hG hS he hin.in (by rw [hin.cl]; exact kk)
end
