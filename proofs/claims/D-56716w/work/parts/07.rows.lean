/-! ROWS OVER THE GHOST HEAP -/
section
variable {p : Program} {l : Launch} {e : Env} {R : Room} {s : State} {m : MethodId} {args : Array Value} {below : List Frame} {meth : Method} {c : Code} {H : Heap} {locs : List Loc} {cells slots : Nat} {Q : State → Prop}
variable {cc : ByteArray} {pc nL : Nat} {ls : Array Slot} {rest : List Value} {own : String} {E : Ev} {G : gh}
theorem gS.K (S : gS E p m meth c cc nL s args own) : va_K (ev_D E) gcl (gty E) s := S.2.1.K
theorem gS.ts (S : gS E p m meth c cc nL s args own) : ∀ w ∈ lw_all, w.before args s = true := S.1.2.2.2.2
theorem gS.pre (S : gS E p m meth c cc nL s args own) (hG : gh_W E G H) (hS : va_S (ev_A E) s.heap H locs) {As : List Value} : PreS s H (gP E G As) As :=
  ⟨gP.blind, fun U hU hW => ⟨rfl, by rw [hU]; exact S.2.1.ride hW hS.1 hS.2.1, by rw [hU]; exact hG⟩⟩
theorem gS.preV (S : gS E p m meth c cc nL s args own) (hG : gh_W E G H) (hS : va_S (ev_A E) s.heap H locs) {As : List Value} {b t i ci : Nat} {fs : List Value} {r : vw_C} (he : G b = some (t, i, .inr (ci, fs))) (hc : gcl[ci]? = some r) : PreV s H r.1 b (gP E G (.ref b :: As)) As :=
  ⟨gP.blind, va_recv S.K (hG.oneO he hc) hc (q0 := 0) rfl, fun U hU hW => ⟨rfl, by rw [hU]; exact S.2.1.ride hW hS.1 hS.2.1, by rw [hU]; exact hG⟩⟩
theorem g_at (S : gS E p m meth c cc nL s args own) (hS : va_S (ev_A E) s.heap H locs) {a : Nat} (h : ev_n E ≤ a) : ev_A E a := h
theorem g_get {ref C : String} {T : u_T} {N ci index : Nat} (S : gS E p m meth c cc nL s args own) (hin : ∀ w ∈ u_ws C T N, w ∈ lw_all) (hc : gcl[ci]? = some (C, T, N)) (k : Nat) (hk : k < N) (hlink : (Cond.fieldLink own index ref (T k).2.1 (T k).2.2.1).before args s = true) (hsame : ∀ x, s.fieldFound? (T k).1 (T k).2.1 (T k).2.2.1 = some x → s.fieldFound? ref (T k).2.1 (T k).2.2.1 = some x)
    (hdg : decode cc pc = .ok (.getfield index, 3)) (hG : gh_W E G H) {a t i : Nat} {fs : List Value} {v : Value} (he : G a = some (t, i, .inr (ci, fs))) (hv : fs[k]? = some v) (kk : W p l e R s m args below meth c H locs cells slots Q (F0 m (pc + 3) ls (v :: rest))) : W p l e R s m args below meth c H locs cells slots Q (F0 m pc ls (.ref a :: rest)) :=
  va_get (D := ev_D E) (ws := [(a, .inr (ci, fs))]) S.1.1 S.1.2.1 S.ts hin S.1.2.2.2.1 S.K (hG.oneO he hc) 0 rfl hc k hk hlink hsame hv hdg kk
theorem g_getN {ref C : String} {host : String} {T : u_T} {N ci index : Nat} (S : gS E p m meth c cc nL s args own) (hin : ∀ w ∈ u_ws C T N, w ∈ lw_all) (hc : gcl[ci]? = some (C, T, N)) (k : Nat) (hk : k < N) (hlink : (Cond.fieldLinkNest own index ref (T k).2.1 (T k).2.2.1 host).before args s = true) (hsame : ∀ x, s.fieldFound? (T k).1 (T k).2.1 (T k).2.2.1 = some x → s.fieldFound? ref (T k).2.1 (T k).2.2.1 = some x)
    (hdg : decode cc pc = .ok (.getfield index, 3)) (hG : gh_W E G H) {a t i : Nat} {fs : List Value} {v : Value} (he : G a = some (t, i, .inr (ci, fs))) (hv : fs[k]? = some v) (kk : W p l e R s m args below meth c H locs cells slots Q (F0 m (pc + 3) ls (v :: rest))) : W p l e R s m args below meth c H locs cells slots Q (F0 m pc ls (.ref a :: rest)) :=
  va_getN (D := ev_D E) (ws := [(a, .inr (ci, fs))]) S.1.1 S.1.2.1 S.ts hin S.1.2.2.2.1 S.K (hG.oneO he hc) 0 rfl hc k hk hlink hsame hv hdg kk
theorem g_put {ref C : String} {T : u_T} {N ci index : Nat} (S : gS E p m meth c cc nL s args own) (hin : ∀ w ∈ u_ws C T N, w ∈ lw_all) (ty0 : Nat → FieldType) (hty : ∀ k, k < N → parseFieldDescriptor (T k).2.2.1 = some (ty0 k)) (hnm : ∀ a, a < N → ∀ b, b < N → a ≠ b → (T a).2.1 ≠ (T b).2.1) (hc : gcl[ci]? = some (C, T, N)) (k : Nat) (hk : k < N) (hlink : (Cond.fieldLink own index ref (T k).2.1 (T k).2.2.1).before args s = true) (hsame : ∀ x, s.fieldFound? (T k).1 (T k).2.1 (T k).2.2.1 = some x → s.fieldFound? ref (T k).2.1 (T k).2.2.1 = some x) (hfin : (T k).2.2.2 = false) {ty : FieldType} (hd : parseFieldDescriptor (T k).2.2.1 = some ty)
    (hdg : decode cc pc = .ok (.putfield index, 3)) {v : Value} (hn : narrow ty v = v) (hfit : fits ty v = true) (hG : gh_W E G H) (hS : va_S (ev_A E) s.heap H locs) {a t i : Nat} {fs : List Value} (he : G a = some (t, i, .inr (ci, fs))) (hl : k < fs.length)
    (kk : ∀ (H1 : Heap) (locs1 : List Loc), gh_W E (gh_up G a (t, i, .inr (ci, fs.set k v))) H1 → va_S (ev_A E) s.heap H1 locs1 → W p l e R s m args below meth c H1 locs1 cells slots Q (F0 m (pc + 3) ls rest)) : W p l e R s m args below meth c H locs cells slots Q (F0 m pc ls (v :: .ref a :: rest)) := by
  have hap := va_apart (own := own) S.ts hin ty0 hty hnm S.K hc
  obtain ⟨cell, q1, q2, q3, q4⟩ := hG.obj he hc
  obtain ⟨hSl, hfc, kC, hkC, hkind⟩ := S.K.1 ci _ hc
  obtain ⟨cf, kf, fi, f, hi, hsl⟩ := hSl k hk
  have hlay := S.ts _ (hin _ (u_in_lay hk))
  unfold u_lay at hlay
  rw [if_neg (by rw [hfin]; decide)] at hlay
  have hst := (u_facts hfc hkC (u_lays S.ts hin hk) hi).1
  have h6 := u_store hfc hkC hkind hlay hi hd hn hfit
  refine W.putK S.1.1 S.1.2.1 (f := f) ⟨S.1.2.2.2.1, hlink, ⟨_, _, _, hsame _ hi⟩, hst⟩ (by rw [q2]; exact h6) q1 q3 (by rw [hsl]; exact k2_hasslot (q4 k hk)) rfl rfl hdg fun H' e1 e2 e3 => ?_
  rw [hsl] at e1 ⊢
  exact kk H' _ (hG.set (hG.ge he) ⟨_, gh_cl hc, t_OB.to (V := updV (vp_V fs) k v) ⟨_, e1, q2, q3, t_set q4 hap hk v⟩ (fun j _ => vp_updV_set hl v j)⟩ (fun q h _ => e3 q h)) (hS.put e2 e3 (hG.ge he))
theorem g_putN {ref C : String} {host : String} {T : u_T} {N ci index : Nat} (S : gS E p m meth c cc nL s args own) (hin : ∀ w ∈ u_ws C T N, w ∈ lw_all) (ty0 : Nat → FieldType) (hty : ∀ k, k < N → parseFieldDescriptor (T k).2.2.1 = some (ty0 k)) (hnm : ∀ a, a < N → ∀ b, b < N → a ≠ b → (T a).2.1 ≠ (T b).2.1) (hc : gcl[ci]? = some (C, T, N)) (k : Nat) (hk : k < N) (hlink : (Cond.fieldLinkNest own index ref (T k).2.1 (T k).2.2.1 host).before args s = true) (hsame : ∀ x, s.fieldFound? (T k).1 (T k).2.1 (T k).2.2.1 = some x → s.fieldFound? ref (T k).2.1 (T k).2.2.1 = some x) (hfin : (T k).2.2.2 = false) {ty : FieldType} (hd : parseFieldDescriptor (T k).2.2.1 = some ty)
    (hdg : decode cc pc = .ok (.putfield index, 3)) {v : Value} (hn : narrow ty v = v) (hfit : fits ty v = true) (hG : gh_W E G H) (hS : va_S (ev_A E) s.heap H locs) {a t i : Nat} {fs : List Value} (he : G a = some (t, i, .inr (ci, fs))) (hl : k < fs.length)
    (kk : ∀ (H1 : Heap) (locs1 : List Loc), gh_W E (gh_up G a (t, i, .inr (ci, fs.set k v))) H1 → va_S (ev_A E) s.heap H1 locs1 → W p l e R s m args below meth c H1 locs1 cells slots Q (F0 m (pc + 3) ls rest)) : W p l e R s m args below meth c H locs cells slots Q (F0 m pc ls (v :: .ref a :: rest)) := by
  have hap := va_apart (own := own) S.ts hin ty0 hty hnm S.K hc
  obtain ⟨cell, q1, q2, q3, q4⟩ := hG.obj he hc
  obtain ⟨hSl, hfc, kC, hkC, hkind⟩ := S.K.1 ci _ hc
  obtain ⟨cf, kf, fi, f, hi, hsl⟩ := hSl k hk
  have hlay := S.ts _ (hin _ (u_in_lay hk))
  unfold u_lay at hlay
  rw [if_neg (by rw [hfin]; decide)] at hlay
  have hst := (u_facts hfc hkC (u_lays S.ts hin hk) hi).1
  have h6 := u_store hfc hkC hkind hlay hi hd hn hfit
  refine va_WputK S.1.1 S.1.2.1 (f := f) S.1.2.2.2.1 hlink (hsame _ hi) hst (by rw [q2]; exact h6) q1 q3 (by rw [hsl]; exact k2_hasslot (q4 k hk)) rfl rfl hdg fun H' e1 e2 e3 => ?_
  rw [hsl] at e1 ⊢
  exact kk H' _ (hG.set (hG.ge he) ⟨_, gh_cl hc, t_OB.to (V := updV (vp_V fs) k v) ⟨_, e1, q2, q3, t_set q4 hap hk v⟩ (fun j _ => vp_updV_set hl v j)⟩ (fun q h _ => e3 q h)) (hS.put e2 e3 (hG.ge he))
theorem g_putF {ref C : String} {T : u_T} {N ci index : Nat} (S : gS E p m meth c cc nL s args own) (hin : ∀ w ∈ u_ws C T N, w ∈ lw_all) (ty0 : Nat → FieldType) (hty : ∀ k, k < N → parseFieldDescriptor (T k).2.2.1 = some (ty0 k)) (hnm : ∀ a, a < N → ∀ b, b < N → a ≠ b → (T a).2.1 ≠ (T b).2.1) (hc : gcl[ci]? = some (C, T, N)) (k : Nat) (hk : k < N) (hlink : (Cond.fieldLink own index ref (T k).2.1 (T k).2.2.1).before args s = true) (hsame : ∀ x, s.fieldFound? (T k).1 (T k).2.1 (T k).2.2.1 = some x → s.fieldFound? ref (T k).2.1 (T k).2.2.1 = some x) (hfin : (T k).2.2.2 = true) (hin2 : meth.name = "<init>") (hdecl : (T k).1 = own) {ty : FieldType} (hd : parseFieldDescriptor (T k).2.2.1 = some ty)
    (hdg : decode cc pc = .ok (.putfield index, 3)) {v : Value} (hn : narrow ty v = v) (hfit : fits ty v = true) (hG : gh_W E G H) (hS : va_S (ev_A E) s.heap H locs) {a t i : Nat} {fs : List Value} (he : G a = some (t, i, .inr (ci, fs))) (hl : k < fs.length)
    (kk : ∀ (H1 : Heap) (locs1 : List Loc), gh_W E (gh_up G a (t, i, .inr (ci, fs.set k v))) H1 → va_S (ev_A E) s.heap H1 locs1 → W p l e R s m args below meth c H1 locs1 cells slots Q (F0 m (pc + 3) ls rest)) : W p l e R s m args below meth c H locs cells slots Q (F0 m pc ls (v :: .ref a :: rest)) := by
  have hap := va_apart (own := own) S.ts hin ty0 hty hnm S.K hc
  obtain ⟨cell, q1, q2, q3, q4⟩ := hG.obj he hc
  obtain ⟨hSl, hfc, kC, hkC, hkind⟩ := S.K.1 ci _ hc
  obtain ⟨cf, kf, fi, f, hi, hsl⟩ := hSl k hk
  have hlay := S.ts _ (hin _ (u_in_lay hk))
  unfold u_lay at hlay
  rw [if_pos hfin] at hlay
  have hst := (u_facts hfc hkC (u_lays S.ts hin hk) hi).1
  have hcf : m.cls = cf := by
    obtain ⟨_, _, c', _, _, _, -, -, hf', -, -, -, hown2, -⟩ := Cond.laysFinal_spec hlay
    have e1 : c' = cf := by have := hi.symm.trans hf'; simp at this; exact this.1.symm
    rw [hdecl] at hown2
    rw [← e1]; exact Option.some.inj (S.1.2.2.2.1.symm.trans hown2)
  have h6 := u_fits hfc hkC hkind (Or.inr hlay) hi hd hn hfit
  refine W.putFinK S.1.1 S.1.2.1 S.1.2.2.2.1 hlink (hsame _ hi) hst hcf hin2 (by rw [q2]; exact h6) q1 q3 (by rw [hsl]; exact k2_hasslot (q4 k hk)) rfl rfl hdg fun H' e1 e2 e3 => ?_
  rw [hsl] at e1 ⊢
  exact kk H' _ (hG.set (hG.ge he) ⟨_, gh_cl hc, t_OB.to (V := updV (vp_V fs) k v) ⟨_, e1, q2, q3, t_set q4 hap hk v⟩ (fun j _ => vp_updV_set hl v j)⟩ (fun q h _ => e3 q h)) (hS.put e2 e3 (hG.ge he))
theorem g_new {C : String} {T : u_T} {N ci index : Nat} (S : gS E p m meth c cc nL s args own) (hin : ∀ w ∈ u_ws C T N, w ∈ lw_all) (ty : Nat → FieldType) (hty : ∀ k, k < N → parseFieldDescriptor (T k).2.2.1 = some (ty k)) (hcl : (Cond.classLink own index C).before args s = true) (hinst : (Cond.instantiable C N).before args s = true) (hini : (Cond.initialized C).before args s = true) (hc : gcl[ci]? = some (C, T, N)) {fs : List Value} (hfs : ∀ j, j < N → defaultValue (ty j) = vp_V fs j)
    (hdg : decode cc pc = .ok (.new index, 3)) (t i : Nat) (hcells : cells + 1 ≤ R.cells) (hslots : slots + N ≤ R.slots) (hG : gh_W E G H) (hS : va_S (ev_A E) s.heap H locs)
    (kk : ∀ (q : Nat) (H1 : Heap), G q = none → gh_W E (gh_up G q (t, i, .inr (ci, fs))) H1 → va_S (ev_A E) s.heap H1 locs → W p l e R s m args below meth c H1 locs (cells + 1) (slots + N) Q (F0 m (pc + 3) ls (.ref q :: rest))) : W p l e R s m args below meth c H locs cells slots Q (F0 m pc ls rest) := by
  have hKn := S.K.1 ci _ hc
  refine W.newcK S.1.1 S.1.2.1 S.1.2.2.2.1 hcl hinst hini rfl hdg hcells hslots hKn.2.1 rfl fun H1 kC hkC e1 z1 o1 => ?_
  refine kk H.size H1 (hG.none (Nat.le_refl _)) (hG.set (Nat.le_trans S.2.1.2.2.1 hS.1) ⟨_, gh_cl hc, (u_born ty S.ts hin hKn hkC e1 hty).to hfs⟩ (fun q _ h => o1 q h)) ⟨Nat.le_trans hS.1 (by omega), fun x h1 h2 => (o1 x (Nat.lt_of_lt_of_le h1 hS.1)).trans (hS.2.1 x h1 h2), hS.2.2⟩
theorem g_newa {atype : ArrayType} (S : gS E p m meth c cc nL s args own) (harr : (Cond.arrayClass (newarray.typeOf atype)).before args s = true) {ty : FieldType} (hty : newarray.typeOf atype = ty) (k : Nat) (hk : (gty E)[k]? = some (ev_k E k, ty)) (hno : ∀ C, ty ≠ .object C) {N' : Nat} {a0 : vp_A} (ha : ∀ cA : ClassId, vp_cell cA a0 = arrV cA N' (fun _ => defaultValue ty))
    (hdg : decode cc pc = .ok (.newarray atype, 2)) (t i : Nat) {n : Int32} (hn : ¬ n < 0) (hN : n.toNatClampNeg = N') (hbytes : N' * componentBytes ty ≤ 536870912) (hcells : cells + 1 ≤ R.cells) (hslots : slots + N' ≤ R.slots) (hG : gh_W E G H) (hS : va_S (ev_A E) s.heap H locs)
    (kk : ∀ (q : Nat) (H1 : Heap), G q = none → gh_W E (gh_up G q (t, i, .inl (ev_k E k, a0))) H1 → va_S (ev_A E) s.heap H1 locs → W p l e R s m args below meth c H1 locs (cells + 1) (slots + N') Q (F0 m (pc + 2) ls (.ref q :: rest))) : W p l e R s m args below meth c H locs cells slots Q (F0 m pc ls (.int n :: rest)) := by
  subst hty
  refine va_newaK S.1.1 S.1.2.1 harr rfl hdg rfl hn hN hbytes hcells hslots rfl fun H1 cA e1 z1 o1 hAr hNm => ?_
  have hcA : ev_k E k = cA := by
    have h1 := (S.K.2 k _ hk).2
    have h2 : s.vm.findClass ("[" ++ (newarray.typeOf atype).toString) = some (ev_k E k) := by
      cases atype <;> exact h1
    exact Option.some.inj (h2.symm.trans hNm)
  subst hcA
  refine kk H.size H1 (hG.none (Nat.le_refl _)) (hG.set (Nat.le_trans S.2.1.2.2.1 hS.1) ?_ (fun q _ h => o1 q h)) ⟨Nat.le_trans hS.1 (by omega), fun x h1 h2 => (o1 x (Nat.lt_of_lt_of_le h1 hS.1)).trans (hS.2.1 x h1 h2), hS.2.2⟩
  show H1[H.size]? = some (vp_cell _ _)
  rw [ha]
  exact e1
theorem g_newq {C : String} {index : Nat} (S : gS E p m meth c cc nL s args own) (hclink : (Cond.classLink own index C).before args s = true) (hover : va_AO C s) (k : Nat) (hk : (gty E)[k]? = some (ev_k E k, .object C))
    (hdg : decode cc pc = .ok (.anewarray index, 3)) (t i : Nat) {n : Int32} {N' : Nat} (hn : ¬ n < 0) (hN : n.toNatClampNeg = N') (hbytes : N' * 4 ≤ 536870912) (hcells : cells + 1 ≤ R.cells) (hslots : slots + N' ≤ R.slots) (hG : gh_W E G H) (hS : va_S (ev_A E) s.heap H locs)
    (kk : ∀ (q : Nat) (H1 : Heap), G q = none → gh_W E (gh_up G q (t, i, .inl (ev_k E k, N', .inr (.inr (.inr (.inr (fun _ => none))))))) H1 → va_S (ev_A E) s.heap H1 locs → W p l e R s m args below meth c H1 locs (cells + 1) (slots + N') Q (F0 m (pc + 3) ls (.ref q :: rest))) : W p l e R s m args below meth c H locs cells slots Q (F0 m pc ls (.int n :: rest)) := by
  subst hN
  refine W.anew S.1.1 S.1.2.1 S.1.2.2.2.1 hclink (va_AO.use hover) rfl hdg rfl hn hbytes hcells hslots fun cA kA comp f1 f2 f3 f4 => ?_
  have hcA : ev_k E k = cA := by
    obtain ⟨_, _, -, -, -, h4⟩ := (S.K.2 k _ hk).2
    exact Option.some.inj (h4.symm.trans f1)
  subst hcA
  generalize hH1 : H.push ({ cls := ev_k E k, slots := Array.replicate n.toNatClampNeg .null, vm := .none } : Cell) = H1
  have z1 : H1.size = H.size + 1 := by rw [← hH1, Array.size_push]
  have e1 : H1[H.size]? = some (arrV (ev_k E k) n.toNatClampNeg (fun _ => .null)) := by rw [← hH1, Array.getElem?_push_size, ← arrV_new]
  have o1 : ∀ q : Nat, q < H.size → H1[q]? = H[q]? := fun q hq => by rw [← hH1, Array.getElem?_push, if_neg (Nat.ne_of_lt hq)]
  refine kk H.size H1 (hG.none (Nat.le_refl _)) (hG.set (Nat.le_trans S.2.1.2.2.1 hS.1) ?_ (fun q _ h => o1 q h)) ⟨Nat.le_trans hS.1 (by omega), fun x h1 h2 => (o1 x (Nat.lt_of_lt_of_le h1 hS.1)).trans (hS.2.1 x h1 h2), hS.2.2⟩
  show H1[H.size]? = some (vp_cell _ _)
  rw [vp_cell_q]
  exact e1
theorem g_iald (S : gS E p m meth c cc nL s args own) (hdg : decode cc pc = .ok (.iaload, 1)) (hG : gh_W E G H) {a t j n : Nat} {f : Nat → Int32} (he : G a = some (t, j, .inl (ev_k E 0, n, .inl f))) {i : Int32} (hin : vp_in i n)
    (kk : W p l e R s m args below meth c H locs cells slots Q (F0 m (pc + 1) ls (.int (f i.toNatClampNeg) :: rest))) : W p l e R s m args below meth c H locs cells slots Q (F0 m pc ls (.int i :: .ref a :: rest)) :=
  va_iald (D := ev_D E) (ws := [(a, .inl (ev_k E 0, n, .inl f))]) S.1.1 S.1.2.1 S.K (hG.oneA he) 0 0 rfl rfl hin hdg kk
theorem g_lald (S : gS E p m meth c cc nL s args own) (hdg : decode cc pc = .ok (.laload, 1)) (hG : gh_W E G H) {a t j n : Nat} {f : Nat → Int64} (he : G a = some (t, j, .inl (ev_k E 1, n, .inr (.inl f)))) {i : Int32} (hin : vp_in i n)
    (kk : W p l e R s m args below meth c H locs cells slots Q (F0 m (pc + 1) ls (.long (f i.toNatClampNeg) :: rest))) : W p l e R s m args below meth c H locs cells slots Q (F0 m pc ls (.int i :: .ref a :: rest)) :=
  va_lald (D := ev_D E) (ws := [(a, .inl (ev_k E 1, n, .inr (.inl f)))]) S.1.1 S.1.2.1 S.K (hG.oneA he) 0 1 rfl rfl hin hdg kk
theorem g_zald (S : gS E p m meth c cc nL s args own) (hdg : decode cc pc = .ok (.baload, 1)) (hG : gh_W E G H) {a t j n : Nat} {f : Nat → Int32} (he : G a = some (t, j, .inl (ev_k E 2, n, .inl f))) {i : Int32} (hin : vp_in i n)
    (kk : W p l e R s m args below meth c H locs cells slots Q (F0 m (pc + 1) ls (.int (f i.toNatClampNeg) :: rest))) : W p l e R s m args below meth c H locs cells slots Q (F0 m pc ls (.int i :: .ref a :: rest)) :=
  va_zald (D := ev_D E) (ws := [(a, .inl (ev_k E 2, n, .inl f))]) S.1.1 S.1.2.1 S.K (hG.oneA he) 0 2 rfl rfl hin hdg kk
theorem g_cald (S : gS E p m meth c cc nL s args own) (hdg : decode cc pc = .ok (.caload, 1)) (hG : gh_W E G H) {a t j n : Nat} {f : Nat → Int32} (he : G a = some (t, j, .inl (ev_k E 3, n, .inl f))) {i : Int32} (hin : vp_in i n)
    (kk : W p l e R s m args below meth c H locs cells slots Q (F0 m (pc + 1) ls (.int (f i.toNatClampNeg) :: rest))) : W p l e R s m args below meth c H locs cells slots Q (F0 m pc ls (.int i :: .ref a :: rest)) :=
  va_cald (D := ev_D E) (ws := [(a, .inl (ev_k E 3, n, .inl f))]) S.1.1 S.1.2.1 S.K (hG.oneA he) 0 3 rfl rfl hin hdg kk
theorem g_dald (S : gS E p m meth c cc nL s args own) (hdg : decode cc pc = .ok (.daload, 1)) (hG : gh_W E G H) {a t j n : Nat} {f : Nat → UInt64} (he : G a = some (t, j, .inl (ev_k E 4, n, .inr (.inr (.inr (.inl f)))))) {i : Int32} (hin : vp_in i n)
    (kk : W p l e R s m args below meth c H locs cells slots Q (F0 m (pc + 1) ls (.double (f i.toNatClampNeg) :: rest))) : W p l e R s m args below meth c H locs cells slots Q (F0 m pc ls (.int i :: .ref a :: rest)) :=
  va_dald (D := ev_D E) (ws := [(a, .inl (ev_k E 4, n, .inr (.inr (.inr (.inl f)))))]) S.1.1 S.1.2.1 S.K (hG.oneA he) 0 4 rfl rfl hin hdg kk
theorem g_aald (S : gS E p m meth c cc nL s args own) (k : Nat) {C : String} (hk : (gty E)[k]? = some (ev_k E k, .object C)) (hdg : decode cc pc = .ok (.aaload, 1)) (hG : gh_W E G H) {a t j n : Nat} {f : Nat → Option Nat} (he : G a = some (t, j, .inl (ev_k E k, n, .inr (.inr (.inr (.inr f)))))) {i : Int32} (hin : vp_in i n)
    (kk : W p l e R s m args below meth c H locs cells slots Q (F0 m (pc + 1) ls (va_rf (f i.toNatClampNeg) :: rest))) : W p l e R s m args below meth c H locs cells slots Q (F0 m pc ls (.int i :: .ref a :: rest)) :=
  va_aldq (D := ev_D E) (ws := [(a, .inl (ev_k E k, n, .inr (.inr (.inr (.inr f)))))]) S.1.1 S.1.2.1 S.K (hG.oneA he) 0 k rfl hk hin hdg kk
theorem g_alen (S : gS E p m meth c cc nL s args own) (k : Nat) {ty : FieldType} (hk : (gty E)[k]? = some (ev_k E k, ty)) (hdg : decode cc pc = .ok (.arraylength, 1)) (hG : gh_W E G H) {a t j : Nat} {x : vp_A} (he : G a = some (t, j, .inl (ev_k E k, x)))
    (kk : W p l e R s m args below meth c H locs cells slots Q (F0 m (pc + 1) ls (.int (nI x.1) :: rest))) : W p l e R s m args below meth c H locs cells slots Q (F0 m pc ls (.ref a :: rest)) :=
  va_alen (D := ev_D E) (ws := [(a, .inl (ev_k E k, x))]) S.1.1 S.1.2.1 S.K (hG.oneA he) 0 k rfl hk rfl hdg kk
theorem g_iast (S : gS E p m meth c cc nL s args own) (hdg : decode cc pc = .ok (.iastore, 1)) (hG : gh_W E G H) (hS : va_S (ev_A E) s.heap H locs) {a t j n : Nat} {f : Nat → Int32} (he : G a = some (t, j, .inl (ev_k E 0, n, .inl f))) {i : Int32} {x : Int32} (hin : vp_in i n)
    (kk : ∀ (H1 : Heap) (locs1 : List Loc), gh_W E (gh_up G a (t, j, .inl (ev_k E 0, n, .inl (upd f i.toNatClampNeg x)))) H1 → va_S (ev_A E) s.heap H1 locs1 → W p l e R s m args below meth c H1 locs1 cells slots Q (F0 m (pc + 1) ls rest)) : W p l e R s m args below meth c H locs cells slots Q (F0 m pc ls (.int x :: .int i :: .ref a :: rest)) := by
  refine W.iast S.1.1 S.1.2.1 (hG.arr he) ((S.K.2 0 (ev_k E 0, .int) rfl).1 n (fun j => .int (f j))) (fun q => by cases q) (by show ¬ (i < 0 ∨ (arrV _ _ _).slots.size ≤ _); rw [arrV_size]; exact hin) rfl rfl hdg fun H1 e1 z oq => ?_
  refine kk H1 _ (hG.set (hG.ge he) ?_ (fun q h _ => oq q h)) (hS.put z oq (hG.ge he))
  show H1[a]? = some (vp_cell _ _)
  rw [e1]
  rw [vp_cell_i, vp_cell_i, arrV_store]
  congr 2
  funext q
  by_cases hq : q = i.toNatClampNeg
  · subst hq
    simp [updV, upd]
    try rfl
  · simp [updV, upd, hq]
theorem g_zast (S : gS E p m meth c cc nL s args own) (hdg : decode cc pc = .ok (.bastore, 1)) (hG : gh_W E G H) (hS : va_S (ev_A E) s.heap H locs) {a t j n : Nat} {f : Nat → Int32} (he : G a = some (t, j, .inl (ev_k E 2, n, .inl f))) {i : Int32} {x : Int32} (hin : vp_in i n)
    (kk : ∀ (H1 : Heap) (locs1 : List Loc), gh_W E (gh_up G a (t, j, .inl (ev_k E 2, n, .inl (upd f i.toNatClampNeg (vp_nar .boolean x))))) H1 → va_S (ev_A E) s.heap H1 locs1 → W p l e R s m args below meth c H1 locs1 cells slots Q (F0 m (pc + 1) ls rest)) : W p l e R s m args below meth c H locs cells slots Q (F0 m pc ls (.int x :: .int i :: .ref a :: rest)) := by
  refine W.zast S.1.1 S.1.2.1 (hG.arr he) ((S.K.2 2 (ev_k E 2, .boolean) rfl).1 n (fun j => .int (f j))) (fun q => by cases q) (by show ¬ (i < 0 ∨ (arrV _ _ _).slots.size ≤ _); rw [arrV_size]; exact hin) rfl rfl hdg fun H1 e1 z oq => ?_
  refine kk H1 _ (hG.set (hG.ge he) ?_ (fun q h _ => oq q h)) (hS.put z oq (hG.ge he))
  show H1[a]? = some (vp_cell _ _)
  rw [e1]
  rw [vp_cell_i, vp_cell_i, arrV_store]
  congr 2
  funext q
  by_cases hq : q = i.toNatClampNeg
  · subst hq
    simp [updV, upd, vp_nar]
    try rfl
  · simp [updV, upd, vp_nar, hq]
theorem g_cast (S : gS E p m meth c cc nL s args own) (hdg : decode cc pc = .ok (.castore, 1)) (hG : gh_W E G H) (hS : va_S (ev_A E) s.heap H locs) {a t j n : Nat} {f : Nat → Int32} (he : G a = some (t, j, .inl (ev_k E 3, n, .inl f))) {i : Int32} {x : Int32} (hin : vp_in i n)
    (kk : ∀ (H1 : Heap) (locs1 : List Loc), gh_W E (gh_up G a (t, j, .inl (ev_k E 3, n, .inl (upd f i.toNatClampNeg (vp_nar .char x))))) H1 → va_S (ev_A E) s.heap H1 locs1 → W p l e R s m args below meth c H1 locs1 cells slots Q (F0 m (pc + 1) ls rest)) : W p l e R s m args below meth c H locs cells slots Q (F0 m pc ls (.int x :: .int i :: .ref a :: rest)) := by
  refine W.cast S.1.1 S.1.2.1 (hG.arr he) ((S.K.2 3 (ev_k E 3, .char) rfl).1 n (fun j => .int (f j))) (fun q => by cases q) (by show ¬ (i < 0 ∨ (arrV _ _ _).slots.size ≤ _); rw [arrV_size]; exact hin) rfl rfl hdg fun H1 e1 z oq => ?_
  refine kk H1 _ (hG.set (hG.ge he) ?_ (fun q h _ => oq q h)) (hS.put z oq (hG.ge he))
  show H1[a]? = some (vp_cell _ _)
  rw [e1]
  rw [vp_cell_i, vp_cell_i, arrV_store]
  congr 2
  funext q
  by_cases hq : q = i.toNatClampNeg
  · subst hq
    simp [updV, upd, vp_nar]
    try rfl
  · simp [updV, upd, vp_nar, hq]
theorem g_last (S : gS E p m meth c cc nL s args own) (hdg : decode cc pc = .ok (.lastore, 1)) (hG : gh_W E G H) (hS : va_S (ev_A E) s.heap H locs) {a t j n : Nat} {f : Nat → Int64} (he : G a = some (t, j, .inl (ev_k E 1, n, .inr (.inl f)))) {i : Int32} {x : Int64} (hin : vp_in i n)
    (kk : ∀ (H1 : Heap) (locs1 : List Loc), gh_W E (gh_up G a (t, j, .inl (ev_k E 1, n, .inr (.inl (vp_updL f i.toNatClampNeg x))))) H1 → va_S (ev_A E) s.heap H1 locs1 → W p l e R s m args below meth c H1 locs1 cells slots Q (F0 m (pc + 1) ls rest)) : W p l e R s m args below meth c H locs cells slots Q (F0 m pc ls (.long x :: .int i :: .ref a :: rest)) := by
  refine W.last S.1.1 S.1.2.1 (hG.arr he) ((S.K.2 1 (ev_k E 1, .long) rfl).1 n (fun j => .long (f j))) (fun q => by cases q) (by show ¬ (i < 0 ∨ (arrV _ _ _).slots.size ≤ _); rw [arrV_size]; exact hin) rfl rfl hdg fun H1 e1 z oq => ?_
  refine kk H1 _ (hG.set (hG.ge he) ?_ (fun q h _ => oq q h)) (hS.put z oq (hG.ge he))
  show H1[a]? = some (vp_cell _ _)
  rw [e1]
  rw [vp_cell_l, vp_cell_l, arrV_store]
  congr 2
  funext q
  by_cases hq : q = i.toNatClampNeg
  · subst hq
    simp [updV, vp_updL]
    try rfl
  · simp [updV, vp_updL, hq]
theorem g_dast (S : gS E p m meth c cc nL s args own) (hdg : decode cc pc = .ok (.dastore, 1)) (hG : gh_W E G H) (hS : va_S (ev_A E) s.heap H locs) {a t j n : Nat} {f : Nat → UInt64} (he : G a = some (t, j, .inl (ev_k E 4, n, .inr (.inr (.inr (.inl f)))))) {i : Int32} {x : UInt64} (hin : vp_in i n)
    (kk : ∀ (H1 : Heap) (locs1 : List Loc), gh_W E (gh_up G a (t, j, .inl (ev_k E 4, n, .inr (.inr (.inr (.inl (vf_upd f i.toNatClampNeg x))))))) H1 → va_S (ev_A E) s.heap H1 locs1 → W p l e R s m args below meth c H1 locs1 cells slots Q (F0 m (pc + 1) ls rest)) : W p l e R s m args below meth c H locs cells slots Q (F0 m pc ls (.double x :: .int i :: .ref a :: rest)) := by
  refine W.dast S.1.1 S.1.2.1 (hG.arr he) ((S.K.2 4 (ev_k E 4, .double) rfl).1 n (fun j => .double (f j))) (fun q => by cases q) (by show ¬ (i < 0 ∨ (arrV _ _ _).slots.size ≤ _); rw [arrV_size]; exact hin) rfl rfl hdg fun H1 e1 z oq => ?_
  refine kk H1 _ (hG.set (hG.ge he) ?_ (fun q h _ => oq q h)) (hS.put z oq (hG.ge he))
  show H1[a]? = some (vp_cell _ _)
  rw [e1]
  rw [vp_cell_d, vp_cell_d, arrV_store]
  congr 2
  funext q
  by_cases hq : q = i.toNatClampNeg
  · subst hq
    simp [updV, vf_upd]
    try rfl
  · simp [updV, vf_upd, hq]
theorem g_aastN (S : gS E p m meth c cc nL s args own) (k : Nat) {C : String} (hk : (gty E)[k]? = some (ev_k E k, .object C)) (hdg : decode cc pc = .ok (.aastore, 1)) (hG : gh_W E G H) (hS : va_S (ev_A E) s.heap H locs) {a t j n : Nat} {f : Nat → Option Nat} (he : G a = some (t, j, .inl (ev_k E k, n, .inr (.inr (.inr (.inr f)))))) {i : Int32} (hin : vp_in i n)
    (kk : ∀ (H1 : Heap) (locs1 : List Loc), gh_W E (gh_up G a (t, j, .inl (ev_k E k, n, .inr (.inr (.inr (.inr (va_up f i.toNatClampNeg none))))))) H1 → va_S (ev_A E) s.heap H1 locs1 → W p l e R s m args below meth c H1 locs1 cells slots Q (F0 m (pc + 1) ls rest)) : W p l e R s m args below meth c H locs cells slots Q (F0 m pc ls (.null :: .int i :: .ref a :: rest)) := by
  refine va_WaastN (C := C) S.1.1 S.1.2.1 (hG.arr he) ((S.K.2 k _ hk).1 n (fun j => va_rf (f j))) (fun h => by cases h) (by show ¬ (i < 0 ∨ (arrV _ _ _).slots.size ≤ _); rw [arrV_size]; exact hin) rfl rfl hdg fun H1 e1 z oq => ?_
  refine kk H1 _ (hG.set (hG.ge he) ?_ (fun q h _ => oq q h)) (hS.put z oq (hG.ge he))
  show H1[a]? = some (vp_cell _ _)
  rw [e1]
  rw [vp_cell_q, vp_cell_q, arrV_store]
  congr 2
  funext q
  by_cases hq : q = i.toNatClampNeg
  · subst hq
    simp [updV, va_up, va_rf]
  · simp [updV, va_up, hq]
theorem g_aast (S : gS E p m meth c cc nL s args own) (k : Nat) {C : String} (hk : (gty E)[k]? = some (ev_k E k, .object C)) (hdg : decode cc pc = .ok (.aastore, 1)) (hG : gh_W E G H) (hS : va_S (ev_A E) s.heap H locs) {a t j n v : Nat} {f : Nat → Option Nat} (he : G a = some (t, j, .inl (ev_k E k, n, .inr (.inr (.inr (.inr f)))))) (hr : va_Any C s H v) {i : Int32} (hin : vp_in i n)
    (kk : ∀ (H1 : Heap) (locs1 : List Loc), gh_W E (gh_up G a (t, j, .inl (ev_k E k, n, .inr (.inr (.inr (.inr (va_up f i.toNatClampNeg (some v)))))))) H1 → va_S (ev_A E) s.heap H1 locs1 → W p l e R s m args below meth c H1 locs1 cells slots Q (F0 m (pc + 1) ls rest)) : W p l e R s m args below meth c H locs cells slots Q (F0 m pc ls (.ref v :: .int i :: .ref a :: rest)) := by
  have hlt : i.toNatClampNeg < n := Nat.not_le.mp fun q => hin (Or.inr q)
  have h0 : ¬ i < 0 := fun q => hin (Or.inl q)
  obtain ⟨cellV, g1, g3, ⟨kC, hkC⟩, g2⟩ := hr
  obtain ⟨kA, comp, k1, k2, k3, -⟩ := (S.K.2 k _ hk).2
  obtain ⟨kE, hkE, -⟩ := Vm.findClass_spec k3
  refine W.aast S.1.1 S.1.2.1 (hG.arr he) (fun q h => by cases h) (fun h => by cases h) k1 k2 rfl hkE ⟨h0, by show _ < (arrV _ _ _).slots.size; rw [arrV_size]; exact hlt⟩ g1 (fun q h => by rw [h] at g3; cases g3) hkC (g2 comp k3) rfl rfl hdg fun H1 e1 z oq => ?_
  refine kk H1 _ (hG.set (hG.ge he) ?_ (fun q h _ => oq q h)) (hS.put z oq (hG.ge he))
  show H1[a]? = some (vp_cell _ _)
  rw [e1]
  rw [vp_cell_q, vp_cell_q, arrV_store]
  congr 2
  funext q
  by_cases hq : q = i.toNatClampNeg
  · subst hq
    simp [updV, va_up, va_rf]
  · simp [updV, va_up, hq]
end
/-! CALLS AND RETURNS -/
section
variable {p : Program} {l : Launch} {e : Env} {R : Room} {s : State} {m : MethodId} {args : Array Value} {below : List Frame} {meth : Method} {c : Code} {H : Heap} {locs : List Loc} {cells slots : Nat} {Q : State → Prop}
variable {cc : ByteArray} {pc nL mc ms : Nat} {ls : Array Slot} {rest st0 : List Value} {own : String} {E : Ev} {G : gh} {a : Array Value}
theorem g_call {post : Option Value → gh → Prop} (hS : va_S (ev_A E) s.heap H locs) (hr : va_Run p l e R s m args below meth c H locs cells slots mc ms (F0 m pc ls st0) rest (gQ E post a) (ev_A E))
    (kk : ∀ (v : Option Value) (G1 : gh) (H1 : Heap) (locs1 : List Loc), post v G1 → gh_W E G1 H1 → va_S (ev_A E) s.heap H1 locs1 → W p l e R s m args below meth c H1 locs1 (cells + mc) (slots + ms) Q (F0 m (pc + 3) ls (v.toList ++ rest))) : W p l e R s m args below meth c H locs cells slots Q (F0 m pc ls st0) := by
  intro T hT X
  obtain ⟨v, st₀, t, T', L, h0, X', hL, e1, e2, ⟨⟨w, G1, hv, hp, hb⟩, hz, hk⟩, st⟩ := hr T hT X
  cases hv
  rw [h0] at hz hk
  obtain ⟨t2, a1, b1⟩ := kk v G1 T'.heap (locs ++ L) hp (by rw [e1]; exact hb)
    ⟨Nat.le_trans hS.1 (by rw [e1]; exact hz), fun q h1 h2 => by rw [e1, hk q (Nat.lt_of_lt_of_le h1 hS.1) h2]; exact hS.2.1 q h1 h2, fun q hq => by
      rcases List.mem_append.mp hq with h | h
      · exact hS.2.2 q h
      · exact hL q h⟩ T' rfl X'
  exact ⟨t2, st t2 a1, b1⟩
theorem g_callX {post : Option Value → gh → Prop} {px : String → gh → Prop} (hS : va_S (ev_A E) s.heap H locs) (hr : vx_Run p l e R s m args below meth c H locs cells slots mc ms (F0 m pc ls st0) rest (gQ E post a) (gX E px) (ev_A E))
    (kx : ∀ (C : String) (ce : Cell) (q9 : Addr) (G1 : gh) (H1 : Heap) (locs1 : List Loc), px C G1 → gh_W E G1 H1 → va_S (ev_A E) s.heap H1 locs1 → H1[q9]? = some ce → ce.vm = .none → s.vm.findClass C = some ce.cls → vx_W p l e R s m args below meth c H1 locs1 (cells + mc) (slots + ms) Q (F0 m pc ls rest) q9)
    (kk : ∀ (v : Option Value) (G1 : gh) (H1 : Heap) (locs1 : List Loc), post v G1 → gh_W E G1 H1 → va_S (ev_A E) s.heap H1 locs1 → W p l e R s m args below meth c H1 locs1 (cells + mc) (slots + ms) Q (F0 m (pc + 3) ls (v.toList ++ rest))) : W p l e R s m args below meth c H locs cells slots Q (F0 m pc ls st0) := by
  intro T hT X
  have key : ∀ {st₀ t T' : State} {L : List Loc}, st₀.heap = H → (∀ q ∈ L, ev_A E q.base) → T'.heap = t.heap → va_F (ev_A E) st₀ t → va_S (ev_A E) s.heap T'.heap (locs ++ L) := by
    intro st₀ t T' L h0 hL e1 hF
    obtain ⟨hz, hk⟩ := hF
    rw [h0] at hz hk
    exact ⟨Nat.le_trans hS.1 (by rw [e1]; exact hz), fun q h1 h2 => by rw [e1, hk q (Nat.lt_of_lt_of_le h1 hS.1) h2]; exact hS.2.1 q h1 h2, fun q hq => by
      rcases List.mem_append.mp hq with h | h
      · exact hS.2.2 q h
      · exact hL q h⟩
  rcases hr T hT X with ⟨v, st₀, t, T', L, h0, X', hL, e1, e2, ⟨⟨w, G1, hv, hp, hb⟩, hF⟩, st⟩ | ⟨q, st₀, t, T', L, C, ce, h0, X', hL, e1, e2, ⟨⟨G1, hp, hb⟩, hF⟩, hce, hcv, hcl, st⟩
  · cases hv
    obtain ⟨t2, a1, b1⟩ := kk v G1 T'.heap (locs ++ L) hp (by rw [e1]; exact hb) (key h0 hL e1 hF) T' rfl X'
    exact ⟨t2, st t2 a1, b1⟩
  · obtain ⟨t2, a1, b1⟩ := kx C ce q G1 T'.heap (locs ++ L) hp (by rw [e1]; exact hb) (key h0 hL e1 hF) (by rw [e1]; exact hce) hcv hcl T' rfl X'
    exact ⟨t2, st.trans a1, b1⟩
theorem g_call5 {post : Option Value → gh → Prop} (hS : va_S (ev_A E) s.heap H locs) (hr : va_Run5 p l e R s m args below meth c H locs cells slots mc ms (F0 m pc ls st0) rest (gQ E post a) (ev_A E))
    (kk : ∀ (v : Option Value) (G1 : gh) (H1 : Heap) (locs1 : List Loc), post v G1 → gh_W E G1 H1 → va_S (ev_A E) s.heap H1 locs1 → W p l e R s m args below meth c H1 locs1 (cells + mc) (slots + ms) Q (F0 m (pc + 5) ls (v.toList ++ rest))) : W p l e R s m args below meth c H locs cells slots Q (F0 m pc ls st0) := by
  intro T hT X
  obtain ⟨v, st₀, t, T', L, h0, X', hL, e1, e2, ⟨⟨w, G1, hv, hp, hb⟩, hz, hk⟩, st⟩ := hr T hT X
  cases hv
  rw [h0] at hz hk
  obtain ⟨t2, a1, b1⟩ := kk v G1 T'.heap (locs ++ L) hp (by rw [e1]; exact hb)
    ⟨Nat.le_trans hS.1 (by rw [e1]; exact hz), fun q h1 h2 => by rw [e1, hk q (Nat.lt_of_lt_of_le h1 hS.1) h2]; exact hS.2.1 q h1 h2, fun q hq => by
      rcases List.mem_append.mp hq with h | h
      · exact hS.2.2 q h
      · exact hL q h⟩ T' rfl X'
  exact ⟨t2, st t2 a1, b1⟩
theorem g_callX5 {post : Option Value → gh → Prop} {px : String → gh → Prop} (hS : va_S (ev_A E) s.heap H locs) (hr : vx_Run5 p l e R s m args below meth c H locs cells slots mc ms (F0 m pc ls st0) rest (gQ E post a) (gX E px) (ev_A E))
    (kx : ∀ (C : String) (ce : Cell) (q9 : Addr) (G1 : gh) (H1 : Heap) (locs1 : List Loc), px C G1 → gh_W E G1 H1 → va_S (ev_A E) s.heap H1 locs1 → H1[q9]? = some ce → ce.vm = .none → s.vm.findClass C = some ce.cls → vx_W p l e R s m args below meth c H1 locs1 (cells + mc) (slots + ms) Q (F0 m pc ls rest) q9)
    (kk : ∀ (v : Option Value) (G1 : gh) (H1 : Heap) (locs1 : List Loc), post v G1 → gh_W E G1 H1 → va_S (ev_A E) s.heap H1 locs1 → W p l e R s m args below meth c H1 locs1 (cells + mc) (slots + ms) Q (F0 m (pc + 5) ls (v.toList ++ rest))) : W p l e R s m args below meth c H locs cells slots Q (F0 m pc ls st0) := by
  intro T hT X
  have key : ∀ {st₀ t T' : State} {L : List Loc}, st₀.heap = H → (∀ q ∈ L, ev_A E q.base) → T'.heap = t.heap → va_F (ev_A E) st₀ t → va_S (ev_A E) s.heap T'.heap (locs ++ L) := by
    intro st₀ t T' L h0 hL e1 hF
    obtain ⟨hz, hk⟩ := hF
    rw [h0] at hz hk
    exact ⟨Nat.le_trans hS.1 (by rw [e1]; exact hz), fun q h1 h2 => by rw [e1, hk q (Nat.lt_of_lt_of_le h1 hS.1) h2]; exact hS.2.1 q h1 h2, fun q hq => by
      rcases List.mem_append.mp hq with h | h
      · exact hS.2.2 q h
      · exact hL q h⟩
  rcases hr T hT X with ⟨v, st₀, t, T', L, h0, X', hL, e1, e2, ⟨⟨w, G1, hv, hp, hb⟩, hF⟩, st⟩ | ⟨q, st₀, t, T', L, C, ce, h0, X', hL, e1, e2, ⟨⟨G1, hp, hb⟩, hF⟩, hce, hcv, hcl, st⟩
  · cases hv
    obtain ⟨t2, a1, b1⟩ := kk v G1 T'.heap (locs ++ L) hp (by rw [e1]; exact hb) (key h0 hL e1 hF) T' rfl X'
    exact ⟨t2, st t2 a1, b1⟩
  · obtain ⟨t2, a1, b1⟩ := kx C ce q G1 T'.heap (locs ++ L) hp (by rw [e1]; exact hb) (key h0 hL e1 hF) (by rw [e1]; exact hce) hcv hcl T' rfl X'
    exact ⟨t2, st.trans a1, b1⟩
theorem g_iret {post : Option Value → gh → Prop} {v : Int32} (S : gS E p m meth c cc nL s args own) (hr : meth.sig.returnType = some .int) (hdg : decode cc pc = .ok (.ireturn, 1)) (hG : gh_W E G H) (hS : va_S (ev_A E) s.heap H locs) (h1 : cells ≤ mc) (h2 : slots ≤ ms) (hp : post (some (.int v)) G) : W p l e R s m args below meth c H locs cells slots (MQ below (gQ E post) args s mc ms (ev_A E)) (F0 m pc ls [.int v]) :=
  W.widen h1 h2 (W.iret S.1.1 S.1.2.1 hr (fun t ht _ => ⟨⟨_, G, rfl, hp, by rw [ht]; exact hG⟩, hS.F ht⟩) hS.2.2 hdg S.2.2)
theorem g_lret {post : Option Value → gh → Prop} {v : Int64} (S : gS E p m meth c cc nL s args own) (hr : meth.sig.returnType = some .long) (hdg : decode cc pc = .ok (.lreturn, 1)) (hG : gh_W E G H) (hS : va_S (ev_A E) s.heap H locs) (h1 : cells ≤ mc) (h2 : slots ≤ ms) (hp : post (some (.long v)) G) : W p l e R s m args below meth c H locs cells slots (MQ below (gQ E post) args s mc ms (ev_A E)) (F0 m pc ls [.long v]) :=
  W.widen h1 h2 (W.lret S.1.1 S.1.2.1 hr (fun t ht _ => ⟨⟨_, G, rfl, hp, by rw [ht]; exact hG⟩, hS.F ht⟩) hS.2.2 hdg S.2.2)
theorem g_fret {post : Option Value → gh → Prop} {v : UInt32} (S : gS E p m meth c cc nL s args own) (hr : meth.sig.returnType = some .float) (hdg : decode cc pc = .ok (.freturn, 1)) (hG : gh_W E G H) (hS : va_S (ev_A E) s.heap H locs) (h1 : cells ≤ mc) (h2 : slots ≤ ms) (hp : post (some (.float v)) G) : W p l e R s m args below meth c H locs cells slots (MQ below (gQ E post) args s mc ms (ev_A E)) (F0 m pc ls [.float v]) :=
  W.widen h1 h2 (W.fret S.1.1 S.1.2.1 hr (fun t ht _ => ⟨⟨_, G, rfl, hp, by rw [ht]; exact hG⟩, hS.F ht⟩) hS.2.2 hdg S.2.2)
theorem g_dret {post : Option Value → gh → Prop} {v : UInt64} (S : gS E p m meth c cc nL s args own) (hr : meth.sig.returnType = some .double) (hdg : decode cc pc = .ok (.dreturn, 1)) (hG : gh_W E G H) (hS : va_S (ev_A E) s.heap H locs) (h1 : cells ≤ mc) (h2 : slots ≤ ms) (hp : post (some (.double v)) G) : W p l e R s m args below meth c H locs cells slots (MQ below (gQ E post) args s mc ms (ev_A E)) (F0 m pc ls [.double v]) :=
  W.widen h1 h2 (W.dret S.1.1 S.1.2.1 hr (fun t ht _ => ⟨⟨_, G, rfl, hp, by rw [ht]; exact hG⟩, hS.F ht⟩) hS.2.2 hdg S.2.2)
theorem g_zret {post : Option Value → gh → Prop} {v : Int32} {ty : FieldType} (hn : narrow ty (.int v) = .int v) (S : gS E p m meth c cc nL s args own) (hr : meth.sig.returnType = some ty) (hdg : decode cc pc = .ok (.ireturn, 1)) (hG : gh_W E G H) (hS : va_S (ev_A E) s.heap H locs) (h1 : cells ≤ mc) (h2 : slots ≤ ms) (hp : post (some (.int v)) G) : W p l e R s m args below meth c H locs cells slots (MQ below (gQ E post) args s mc ms (ev_A E)) (F0 m pc ls [.int v]) :=
  W.widen h1 h2 (W.zret S.1.1 S.1.2.1 hr hn (fun t ht _ => ⟨⟨_, G, rfl, hp, by rw [ht]; exact hG⟩, hS.F ht⟩) hS.2.2 hdg S.2.2)
theorem g_aret {post : Option Value → gh → Prop} {v : Value} {rt : FieldType} (S : gS E p m meth c cc nL s args own) (hr : meth.sig.returnType = some rt) (hrt : (∃ n, rt = .object n) ∨ ∃ t, rt = .array t) (hdg : decode cc pc = .ok (.areturn, 1)) (hv : v = .null ∨ ∃ a, v = .ref a) (hG : gh_W E G H) (hS : va_S (ev_A E) s.heap H locs) (h1 : cells ≤ mc) (h2 : slots ≤ ms) (hp : post (some v) G) : W p l e R s m args below meth c H locs cells slots (MQ below (gQ E post) args s mc ms (ev_A E)) (F0 m pc ls [v]) :=
  W.widen h1 h2 (W.aret S.1.1 S.1.2.1 hr hrt hv (fun t ht _ => ⟨⟨_, G, rfl, hp, by rw [ht]; exact hG⟩, hS.F ht⟩) hS.2.2 hdg S.2.2)
theorem g_vret {post : Option Value → gh → Prop} (S : gS E p m meth c cc nL s args own) (hr : meth.sig.returnType = none) (hdg : decode cc pc = .ok (.return_, 1)) (hG : gh_W E G H) (hS : va_S (ev_A E) s.heap H locs) (h1 : cells ≤ mc) (h2 : slots ≤ ms) (hp : post none G) : W p l e R s m args below meth c H locs cells slots (MQ below (gQ E post) args s mc ms (ev_A E)) (F0 m pc ls []) :=
  W.widen h1 h2 (W.vret S.1.1 S.1.2.1 hr (fun t ht _ => ⟨⟨_, G, rfl, hp, by rw [ht]; exact hG⟩, hS.F ht⟩) hS.2.2 hdg S.2.2)
/-- a branch whose condition is known -/
theorem g_yes {A : Prop} {B C : Prop} (h : A) (b : A → B) : (A → B) ∧ (¬ A → C) := ⟨b, fun n => absurd h n⟩
end
