/-! OBJECTS AS OTHERS SEE THEM: receivers, elements of arrays, boxed ints, lists -/
theorem lw_F {own : String} {idx : Nat} {C : String} {x y : MethodName} {b : ByteArray} {L : Nat} {r : Option FieldType} (h1 : Cond.methodLink own idx x ∈ lw_all) (h2 : Cond.selects C x y ∈ lw_all) (h3 : Cond.instanceMethod y ∈ lw_all) (h4 : Cond.initialized y.cls ∈ lw_all) (h5 : Cond.code y b L r ∈ lw_all) : GoodIn lw_all (va_wsF own idx C x y (ws_ y b L r)) := by
  refine lw_app ?_ (lw_meth h5)
  intro w hw
  simp only [List.mem_cons, List.not_mem_nil, or_false] at hw
  rcases hw with e | e | e | e
  · rw [e]; exact h1
  · rw [e]; exact h2
  · rw [e]; exact h3
  · rw [e]; exact h4
/-- the cell at a is an object of the class C -/
def gR (C : String) (s : State) (H : Heap) (a : Nat) : Prop := ∃ cell : Cell, H[a]? = some cell ∧ cell.vm.isStatics = false ∧ s.vm.findClass C = some cell.cls
/-- a boxed int: made, or one of the cache -/
def gInt (E : Ev) (G : gh) (y : Nat) (v : Int32) : Prop := (∃ i, G y = some (50, i, .inr (7, [.int v]))) ∨ ∃ k, k < 256 ∧ y = ev_c E k ∧ v = vb_c k
theorem gInt.mono {E : Ev} {G G' : gh} {y : Nat} {v : Int32} {T : Nat → Nat → Prop} (h : gInt E G y v) (hf : gh_fr T G G') (hT : ∀ i, ¬ T 50 i) : gInt E G' y v := by
  rcases h with ⟨i, h⟩ | h
  · exact Or.inl ⟨i, hf _ _ _ _ h (hT i)⟩
  · exact Or.inr h
section
variable {p : Program} {l : Launch} {e : Env} {R : Room} {s : State} {m : MethodId} {args : Array Value} {below : List Frame} {meth : Method} {c : Code} {H : Heap} {locs : List Loc} {cells slots : Nat} {Q : State → Prop}
variable {cc : ByteArray} {pc nL : Nat} {ls : Array Slot} {rest : List Value} {own : String} {E : Ev} {G : gh}
theorem gS.preR (S : gS E p m meth c cc nL s args own) (hG : gh_W E G H) (hS : va_S (ev_A E) s.heap H locs) {As : List Value} {b : Nat} {C : String} (hr : gR C s H b) : PreV s H C b (gP E G (.ref b :: As)) As :=
  ⟨gP.blind, hr, fun U hU hW => ⟨rfl, by rw [hU]; exact S.2.1.ride hW hS.1 hS.2.1, by rw [hU]; exact hG⟩⟩
theorem gS.recv (S : gS E p m meth c cc nL s args own) (hG : gh_W E G H) {b t i ci : Nat} {fs : List Value} {r : vw_C} (he : G b = some (t, i, .inr (ci, fs))) (hc : gcl[ci]? = some r) : gR r.1 s H b := va_recv S.K (hG.oneO he hc) hc (q0 := 0) rfl
theorem gInt.recv {y : Nat} {v : Int32} (h : gInt E G y v) (S : gS E p m meth c cc nL s args own) (hG : gh_W E G H) (hS : va_S (ev_A E) s.heap H locs) : gR "java/lang/Integer" s H y := by
  rcases h with ⟨i, h⟩ | ⟨k, hk, rfl, -⟩
  · exact S.recv hG (r := (RJ12, TJ12, 1)) h rfl
  · exact va_Orecv (S.2.1.2.2.2.2.1.2.2.1.1 k hk) hS
theorem gAny_self {C : String} {a : Nat} (h : gR C s H a) : va_Any C s H a := by
  obtain ⟨cell, h1, h2, h3⟩ := h
  obtain ⟨k, hk, -⟩ := Vm.findClass_spec h3
  exact ⟨cell, h1, h2, ⟨k, hk⟩, fun comp hc => vb_asgS comp cell.cls hc h3⟩
theorem gAny_cast {C C' : String} {a : Nat} (h : gR C s H a) (hca : va_Nw (.castable C C') s) : va_Any C' s H a := by
  obtain ⟨cell, h1, h2, h3⟩ := h
  obtain ⟨k, hk, -⟩ := Vm.findClass_spec h3
  exact ⟨cell, h1, h2, ⟨k, hk⟩, fun comp hc => vb_asgC hca comp cell.cls hc h3⟩
/-- what may stand in a list: own objects but the reference, lists; boxed ints -/
def gObj (E : Ev) (G : gh) (y : Nat) : Prop := (∃ t i ci fs, G y = some (t, i, .inr (ci, fs)) ∧ (ci = 1 ∨ ci = 2 ∨ ci = 3 ∨ ci = 4)) ∨ ∃ v, gInt E G y v
theorem gObj.any {y : Nat} (h : gObj E G y) (S : gS E p m meth c cc nL s args own) (hG : gh_W E G H) (hS : va_S (ev_A E) s.heap H locs) : va_Any "java/lang/Object" s H y := by
  rcases h with ⟨t, i, ci, fs, h, hc⟩ | ⟨v, h⟩
  · rcases hc with rfl | rfl | rfl | rfl
    · exact gAny_cast (S.recv hG (r := (RX2, TX2, 2)) h rfl) (S.2.1.W q1212 rfl)
    · exact gAny_cast (S.recv hG (r := (RX7, TX7, 7)) h rfl) (S.2.1.W q1222 rfl)
    · exact gAny_cast (S.recv hG (r := (RX8, TX8, 3)) h rfl) (S.2.1.W q1224 rfl)
    · exact gAny_cast (S.recv hG (r := (RX9, TX9, 3)) h rfl) (S.2.1.W q1209 rfl)
  · exact gAny_cast (h.recv S hG hS) (S.2.1.W q1208 rfl)
/-- the value of a boxed int -/
theorem gi_get {ref : String} {index : Nat} {y : Nat} {v : Int32} (hi : gInt E G y v) (S : gS E p m meth c cc nL s args own) (hlink : (Cond.fieldLink own index "java/lang/Integer" "value" "I").before args s = true)
    (hdg : decode cc pc = .ok (.getfield index, 3)) (hG : gh_W E G H) (hS : va_S (ev_A E) s.heap H locs) (kk : W p l e R s m args below meth c H locs cells slots Q (F0 m (pc + 3) ls (.int v :: rest))) : W p l e R s m args below meth c H locs cells slots Q (F0 m pc ls (.ref y :: rest)) := by
  rcases hi with ⟨i, h⟩ | ⟨k, hk, rfl, rfl⟩
  · exact g_get (C := RJ12) (T := TJ12) (N := 1) S in_J12 rfl 0 (by decide) hlink (fun _ h9 => h9) hdg hG h rfl kk
  · exact va_getX (i := k) (v := fun k => .int (vb_c k)) S.1.1 S.1.2.1 S.2.1.2.2.2.2.1.2.2.1.2 hk hS S.1.2.2.2.1 hlink (fun _ h9 => h9) hdg kk
/-- checkcast to an object's own class -/
theorem g_castS {nm : String} {index a : Nat} {cC : ClassId} (hcc : ClassAt s nm cC) (S : gS E p m meth c cc nL s args own) (hlink : (Cond.classLink own index nm).before args s = true) (hr : gR nm s H a) (hdg : decode cc pc = .ok (.checkcast index, 3))
    (kk : W p l e R s m args below meth c H locs cells slots Q (F0 m (pc + 3) ls (.ref a :: rest))) : W p l e R s m args below meth c H locs cells slots Q (F0 m pc ls (.ref a :: rest)) := va_castS S.1.1 S.1.2.1 S.1.2.2.2.1 hlink hcc hr hdg kk
/-- references copied from one array into another -/
theorem g_copyM {index : Nat} (k : Nat) {C : String} (hk : (gty E)[k]? = some (ev_k E k, .object C)) (S : gS E p m meth c cc nL s args own) (hml : c.maxLocals = ls.size) (hlink : (Cond.methodLink own index arraycopyName).before args s = true) (hnat : (Cond.native arraycopyName).before args s = true) (hstat : (Cond.static arraycopyName).before args s = true) (hini : (Cond.initialized "java/lang/System").before args s = true)
    (hdg : decode cc pc = .ok (.invokestatic index, 3)) (hG : gh_W E G H) (hS : va_S (ev_A E) s.heap H locs) {a0 a t0 i0 t i n0 n1 : Nat} {f g : Nat → Option Nat} (ha0 : G a0 = some (t0, i0, .inl (ev_k E k, n0, .inr (.inr (.inr (.inr f)))))) (ha1 : G a = some (t, i, .inl (ev_k E k, n1, .inr (.inr (.inr (.inr g))))))
    {n : Int32} {N : Nat} (hn : n = nI N) (h4 : N ≤ n0) (h5 : N ≤ n1) (h31 : N < 2 ^ 31) (hel : ∀ i : Nat, i < N → ∀ y : Nat, f i = some y → va_Any C s H y)
    (hframes : 1 ≤ R.frames) (hlocals : (rest.map fun v => v.category).sum + (nativeFrameWords "java/lang/System" "arraycopy" 5 + 11) ≤ R.locals)
    (kk : ∀ (H1 : Heap) (locs1 : List Loc), gh_W E (gh_up G a (t, i, .inl (ev_k E k, n1, .inr (.inr (.inr (.inr (va_cpy f g 0 0 N))))))) H1 → va_S (ev_A E) s.heap H1 locs1 → W p l e R s m args below meth c H1 locs1 cells slots Q (F0 m (pc + 3) ls rest)) : W p l e R s m args below meth c H locs cells slots Q (F0 m pc ls (.int n :: .int 0 :: .ref a :: .int 0 :: .ref a0 :: rest)) := by
  subst hn
  have nn : ∀ z : Int32, ¬ z < 0 → z.toInt = (z.toNatClampNeg : Int) := by
    intro z hz
    have hz0 : (0 : Int) ≤ z.toInt := by
      have := Int32.not_lt.mp hz
      simpa using Int32.le_iff_toInt_le.mp this
    show z.toInt = ((z.toInt.toNat : Nat) : Int)
    omega
  have hN : (nI N).toNatClampNeg = N := nI_clamp h31
  have h0 : (0 : Int32).toNatClampNeg = 0 := rfl
  have hp : ¬ nI N < 0 := nI_pos h31
  intro T hT X
  have hc0 := hG.arr ha0
  have hc1 := hG.arr ha1
  obtain ⟨-, k0, hk0, cm0, hkk0⟩ := (S.K.2 k _ hk).1 n0 (fun j => va_rf (f j))
  obtain ⟨-, k1, hk1, cm1, hkk1⟩ := (S.K.2 k _ hk).1 n1 (fun j => va_rf (g j))
  obtain ⟨vm', X', step⟩ := X.arraycopy S.1.1 S.1.2.2.2.1 hlink hnat hstat hini (src := a0) (dst := a) (cs := vp_cell (ev_k E k) (n0, .inr (.inr (.inr (.inr f))))) (cd := vp_cell (ev_k E k) (n1, .inr (.inr (.inr (.inr g))))) (srcPos := 0) (destPos := 0) (n := nI N) (by rw [hT]; exact hc0) (by rw [hT]; exact hc1)
    (fun _ h => by cases h) (fun _ h => by cases h) (fun h => by cases h) (fun h => by cases h) hk0 hk1 hkk0 hkk1 rfl (by decide) (by decide) hp
    (by rw [nn _ hp, hN]; show ¬ _ > ((arrV (ev_k E k) n0 (fun j => va_rf (f j))).slots.size : Int); rw [arrV_size]; simp; omega)
    (by rw [nn _ hp, hN]; show ¬ _ > ((arrV (ev_k E k) n1 (fun j => va_rf (g j))).slots.size : Int); rw [arrV_size]; simp; omega)
    (fun vm₁ hal i hi => by
      have hi : i < N := by rw [hN] at hi; exact hi
      have e : (vp_cell (ev_k E k) (n0, .inr (.inr (.inr (.inr f))))).slots.getD ((0 : Int32).toNatClampNeg + i) .null = va_rf (f i) := by
        rw [h0, Nat.zero_add]
        show (arrV (ev_k E k) n0 (fun j => va_rf (f j))).slots.getD _ _ = _
        rw [Array.getD_eq_getD_getElem?, arrV_read _ _ (by omega)]
        rfl
      rw [e]
      cases hy : f i with
      | none => exact ⟨rfl, trivial⟩
      | some y =>
        obtain ⟨cellV, g1, g2, ⟨kC, hkC⟩, hasg⟩ := hel i hi y hy
        obtain ⟨kA, comp, r1, r2, r3, -⟩ := (S.K.2 k _ hk).2
        cases hk1.symm.trans r1
        cases hkk1.symm.trans r2
        obtain ⟨kE, hkE, -⟩ := Vm.findClass_spec r3
        obtain ⟨kC', hkC', -⟩ := hal.2.2 _ _ hkC
        obtain ⟨kE', hkE', -⟩ := hal.2.2 _ _ hkE
        refine ⟨rfl, cellV, (show T.heap[y]? = some cellV by rw [hT]; exact g1), (fun q h => by rw [h] at g2; cases g2), ⟨kC', hkC'⟩, ?_, ?_⟩
        · exact ⟨kE', hkE'⟩
        · show vm₁.assignable _ _ = true
          rw [hal.assignable]
          exact hasg _ r3)
    (g := F0 m pc ls (.int (nI N) :: .int 0 :: .ref a :: .int 0 :: .ref a0 :: rest)) rfl (by rw [hml]) (rest := rest) rfl (by rw [S.1.2.1]; exact hdg) hframes (by show 2 * 0 + _ + _ ≤ _; omega)
  have e1 : copied (vp_cell (ev_k E k) (n0, .inr (.inr (.inr (.inr f))))) (vp_cell (ev_k E k) (n1, .inr (.inr (.inr (.inr g))))) 0 0 (nI N) = vp_cell (ev_k E k) (n1, .inr (.inr (.inr (.inr (va_cpy f g 0 0 N))))) := by
    rw [vp_cell_q, vp_cell_q, vp_cell_q]
    have h9 : copied (arrV (ev_k E k) n0 (fun j => va_rf (f j))) (arrV (ev_k E k) n1 (fun j => va_rf (g j))) 0 0 (nI N) = arrV (ev_k E k) n1 (fun j => va_rf (va_cpy f g (0 : Int32).toNatClampNeg (0 : Int32).toNatClampNeg (nI N).toNatClampNeg j)) := va_copied (fun z => va_rf z) (ev_k E k) (ev_k E k) f g (by rw [h0, hN]; omega)
    rw [h0, hN] at h9
    exact h9
  rw [e1] at X' step
  have hl : a < H.size := (Array.getElem?_eq_some_iff.mp hc1).1
  have hheap : ((T.setVm vm').setCell a (vp_cell (ev_k E k) (n1, .inr (.inr (.inr (.inr (va_cpy f g 0 0 N))))))).heap = H.setIfInBounds a (vp_cell (ev_k E k) (n1, .inr (.inr (.inr (.inr (va_cpy f g 0 0 N)))))) := by rw [← hT]; rfl
  have oq : ∀ q : Nat, q ≠ a → (H.setIfInBounds a (vp_cell (ev_k E k) (n1, .inr (.inr (.inr (.inr (va_cpy f g 0 0 N)))))))[q]? = H[q]? := fun q hq => by simp [Array.getElem?_setIfInBounds, Ne.symm hq]
  obtain ⟨t2, a1, b1⟩ := kk _ _ (hG.set (hG.ge ha1) (show (H.setIfInBounds a _)[a]? = some _ by simp [Array.getElem?_setIfInBounds, hl]) (fun q h _ => oq q h)) ⟨by simp; exact hS.1, fun q g1 g2 => by
      rw [oq q (fun e => g2 (by rw [e]; exact hG.ge ha1))]
      exact hS.2.1 q g1 g2, fun q hq => by
      rcases List.mem_append.mp hq with h | h
      · exact hS.2.2 q h
      · obtain ⟨z, -, hz⟩ := List.mem_map.mp h
        rw [← hz]
        exact hG.ge ha1⟩ _ hheap X'
  exact ⟨t2, step t2 a1, b1⟩
end
theorem gObj.le {E : Ev} {G G' : gh} {y : Nat} (h : gObj E G y) (hf : gh_le G G') : gObj E G' y := by
  rcases h with ⟨t, i, ci, fs, h, hc⟩ | ⟨v, h⟩
  · exact Or.inl ⟨t, i, ci, fs, hf.at h, hc⟩
  · exact Or.inr ⟨v, h.mono hf (fun _ z => z)⟩
/-- the array of a list: none yet, or one of cap cells of which the first n are f's -/
def gAr (E : Ev) (G : gh) (ar r k n : Nat) (f : Nat → Nat) : Prop := (n = 0 ∧ ar = ev_k E 10) ∨ ∃ cap g, G ar = some (r + 1, k, .inl (ev_k E 5, cap, .inr (.inr (.inr (.inr g))))) ∧ n ≤ cap ∧ 1 ≤ cap ∧ cap ≤ 200 ∧ ∀ i, i < n → g i = some (f i)
theorem gAr.mono {E : Ev} {G G' : gh} {ar r k n : Nat} {f : Nat → Nat} {T : Nat → Nat → Prop} (h : gAr E G ar r k n f) (hf : gh_fr T G G') (h2 : ¬ T (r + 1) k) : gAr E G' ar r k n f := by
  rcases h with h | ⟨cap, g, h3, h4⟩
  · exact Or.inl h
  · exact Or.inr ⟨cap, g, hf _ _ _ _ h3 h2, h4⟩
theorem gAr.set {E : Ev} {G : gh} {a ar r k n t i : Nat} {x : Nat × List Value} {c : gC} {f : Nat → Nat} (h : gAr E G ar r k n f) (ha : G a = some (t, i, .inr x)) : gAr E (gh_up G a c) ar r k n f := by
  rcases h with h | ⟨cap, g, h3, h4⟩
  · exact Or.inl h
  · refine Or.inr ⟨cap, g, ?_, h4⟩
    rw [gh_up_n (gh_ne h3 ha (fun q => by cases q))]
    exact h3
theorem gAr.le_c {E : Ev} {G : gh} {ar r k n : Nat} {f : Nat → Nat} (h : gAr E G ar r k n f) : n ≤ 200 := by
  rcases h with ⟨h, -⟩ | ⟨cap, g, -, h4, -, h5, -⟩
  · omega
  · omega
/-- a list of n cells f 0, .. at a, its tag (r, k), its array's (r + 1, k) -/
def gLs (E : Ev) (G : gh) (a r k n : Nat) (f : Nat → Nat) (mc : Int32) : Prop := ∃ ar, G a = some (r, k, .inr (5, [.int mc, .ref ar, .int (nI n)])) ∧ gAr E G ar r k n f
/-- what a list's calls change -/
def gTl (r k : Nat) : Nat → Nat → Prop := fun t i => (t = r ∨ t = r + 1) ∧ i = k
theorem gLs.mono {E : Ev} {G G' : gh} {a r k n : Nat} {f : Nat → Nat} {mc : Int32} {T : Nat → Nat → Prop} (h : gLs E G a r k n f mc) (hf : gh_fr T G G') (h1 : ¬ T r k) (h2 : ¬ T (r + 1) k) : gLs E G' a r k n f mc := by
  obtain ⟨ar, e, h⟩ := h
  exact ⟨ar, hf _ _ _ _ e h1, h.mono hf h2⟩
/-- an iterator at q over the list a, the next place i -/
def gIt (E : Ev) (G : gh) (q i a : Nat) (mc : Int32) : Prop := ∃ k lr, G q = some (62, k, .inr (6, [.int (nI i), .int lr, .int mc, .ref a]))
theorem gIt.mono {E : Ev} {G G' : gh} {q i a : Nat} {mc : Int32} {T : Nat → Nat → Prop} (h : gIt E G q i a mc) (hf : gh_fr T G G') (h1 : ∀ k, ¬ T 62 k) : gIt E G' q i a mc := by
  obtain ⟨k, lr, h⟩ := h
  exact ⟨k, lr, hf _ _ _ _ h (h1 k)⟩
theorem va_up_s {f : Nat → Nat} {k v : Nat} : va_up f k v k = v := if_pos rfl
theorem va_up_n {f : Nat → Nat} {k v j : Nat} (h : j ≠ k) : va_up f k v j = f j := if_neg h
