/-! THE GHOST HEAP: one partial map of addresses to cells with tags (a role, a number); a method's contract speaks of it, the real heap holds it. E: where the run began (its first free address), the classes' numbers, other numbers of the start (k), the small Integers' addresses (c) -/
abbrev gC : Type := Nat × Nat × va_E
abbrev gh : Type := Nat → Option gC
abbrev Ev : Type := Nat × va_G × (Nat → Nat) × (Nat → Nat)
def ev_n (E : Ev) : Nat := E.1
def ev_D (E : Ev) : va_G := E.2.1
def ev_k (E : Ev) : Nat → Nat := E.2.2.1
def ev_c (E : Ev) : Nat → Nat := E.2.2.2
def ev_A (E : Ev) : Nat → Prop := fun q => ev_n E ≤ q
abbrev gcl : List vw_C := [(RX1, TX1, 5), (RX2, TX2, 2), (RX7, TX7, 7), (RX8, TX8, 3), (RX9, TX9, 3), (RJ2, TJ2, 3), (RJ18, TJ18, 4), (RJ12, TJ12, 1), (RX3, TX3, 22), (RX5, TX5, 6), (RX6, TX6, 6), (RJ23, TJ23, 6)]
/-- the objects of the lambdas' classes lie behind: 12 a view, 13 a formula with its sign -/
abbrev gcx : List vw_C := gcl ++ [("", TJ12, 3), ("", TJ12, 1)]
abbrev gty (E : Ev) : List (ClassId × FieldType) := [(ev_k E 0, .int), (ev_k E 1, .long), (ev_k E 2, .boolean), (ev_k E 3, .char), (ev_k E 4, .double), (ev_k E 5, .object "java/lang/Object"), (ev_k E 6, .object "java/lang/Integer"), (ev_k E 7, .object "CostStudio$Approval")]
def gh_up (G : gh) (a : Nat) (c : gC) : gh := fun q => if q = a then some c else G q
theorem gh_up_s {G : gh} {a : Nat} {c : gC} : gh_up G a c a = some c := if_pos rfl
theorem gh_up_n {G : gh} {a b : Nat} {c : gC} (h : b ≠ a) : gh_up G a c b = G b := if_neg h
theorem gh_up_up {G : gh} {a : Nat} {c c' : gC} : gh_up (gh_up G a c) a c' = gh_up G a c' := by
  funext q
  by_cases h : q = a
  · simp [gh_up, h]
  · simp [gh_up, h]
theorem gh_ne {G : gh} {a b : Nat} {c d : gC} (ha : G a = some c) (hb : G b = some d) (h : c ≠ d) : a ≠ b := by
  intro q
  subst q
  exact h (Option.some.inj (ha.symm.trans hb))
theorem gh_neT {G : gh} {a b : Nat} {t i t' i' : Nat} {e e' : va_E} (ha : G a = some (t, i, e)) (hb : G b = some (t', i', e')) (h : t ≠ t' ∨ i ≠ i') : a ≠ b := by
  refine gh_ne ha hb (fun q => ?_)
  have h1 := congrArg Prod.fst q
  have h2 := congrArg (fun x => x.2.1) q
  rcases h with h | h
  · exact h h1
  · exact h h2
/-- what is outside the tags of S stays -/
def gh_fr (S : Nat → Nat → Prop) (G G' : gh) : Prop := ∀ a t i e, G a = some (t, i, e) → ¬ S t i → G' a = some (t, i, e)
theorem gh_fr.rf {S : Nat → Nat → Prop} {G : gh} : gh_fr S G G := fun _ _ _ _ h _ => h
theorem gh_fr.tr {S : Nat → Nat → Prop} {G G1 G2 : gh} (h : gh_fr S G G1) (h2 : gh_fr S G1 G2) : gh_fr S G G2 := fun a t i e q n => h2 a t i e (h a t i e q n) n
theorem gh_fr.mono {S S' : Nat → Nat → Prop} {G G' : gh} (h : gh_fr S G G') (hS : ∀ t i, S t i → S' t i) : gh_fr S' G G' := fun a t i e q n => h a t i e q (fun z => n (hS t i z))
theorem gh_fr.set {S : Nat → Nat → Prop} {G : gh} {a t i : Nat} {e0 : va_E} {c : gC} (h : G a = some (t, i, e0)) (hS : S t i) : gh_fr S G (gh_up G a c) := by
  intro b t' i' e q n
  by_cases hb : b = a
  · subst hb
    have := Option.some.inj (h.symm.trans q)
    cases this
    exact absurd hS n
  · rw [gh_up_n hb]
    exact q
theorem gh_fr.new {S : Nat → Nat → Prop} {G : gh} {a : Nat} {c : gC} (h : G a = none) : gh_fr S G (gh_up G a c) := by
  intro b t' i' e q n
  by_cases hb : b = a
  · subst hb
    rw [h] at q
    cases q
  · rw [gh_up_n hb]
    exact q
/-- nothing is lost -/
abbrev gh_le (G G' : gh) : Prop := gh_fr (fun _ _ => False) G G'
theorem gh_fr.le {S : Nat → Nat → Prop} {G G' : gh} (h : gh_le G G') : gh_fr S G G' := h.mono (fun _ _ z => z.elim)
theorem gh_fr.at {G G' : gh} (h : gh_le G G') {a : Nat} {c : gC} (q : G a = some c) : G' a = some c := h a c.1 c.2.1 c.2.2 q (fun z => z)
/-- the heap holds the ghost heap's cells; they lie behind the run's start -/
def gh_W (E : Ev) (G : gh) (H : Heap) : Prop := ∀ a t i e, G a = some (t, i, e) → ev_n E ≤ a ∧ va_at (ev_D E) gcx (a, e) H
theorem gh_W.lt {E : Ev} {G : gh} {H : Heap} (h : gh_W E G H) {a : Nat} {c : gC} (q : G a = some c) : a < H.size := by
  obtain ⟨t, i, e⟩ := c
  exact (h a t i e q).2.lt
theorem gh_W.ge {E : Ev} {G : gh} {H : Heap} (h : gh_W E G H) {a : Nat} {c : gC} (q : G a = some c) : ev_n E ≤ a := by
  obtain ⟨t, i, e⟩ := c
  exact (h a t i e q).1
theorem gh_W.none {E : Ev} {G : gh} {H : Heap} (h : gh_W E G H) {a : Nat} (q : H.size ≤ a) : G a = Option.none := by
  cases hc : G a with
  | none => rfl
  | some c => exact absurd (h.lt hc) (by omega)
theorem gh_W.kept {E : Ev} {G : gh} {H H1 : Heap} (h : gh_W E G H) (hq : ∀ q : Nat, ev_n E ≤ q → q < H.size → H1[q]? = H[q]?) : gh_W E G H1 := fun a t i e q => ⟨(h a t i e q).1, (h a t i e q).2.kept (hq a (h a t i e q).1 (h.lt q))⟩
theorem gh_cl {ci : Nat} {r : vw_C} (h : gcl[ci]? = some r) : gcx[ci]? = some r := by
  obtain ⟨h1, -⟩ := List.getElem?_eq_some_iff.mp h
  show (gcl ++ [("", TJ12, 3), ("", TJ12, 1)])[ci]? = some r
  rw [List.getElem?_append_left h1]
  exact h
theorem gh_W.obj {E : Ev} {G : gh} {H : Heap} (h : gh_W E G H) {a t i ci : Nat} {fs : List Value} {r : vw_C} (q : G a = some (t, i, .inr (ci, fs))) (hc : gcl[ci]? = some r) : t_OB a ((ev_D E).1 ci) r.2.2 ((ev_D E).2 ci) H (vp_V fs) := by
  obtain ⟨r', h1, h2⟩ := (h a t i _ q).2
  have hr : r' = r := Option.some.inj (h1.symm.trans (gh_cl hc))
  subst hr
  exact h2
theorem gh_W.arr {E : Ev} {G : gh} {H : Heap} (h : gh_W E G H) {a t i : Nat} {x : ClassId × vp_A} (q : G a = some (t, i, .inl x)) : H[a]? = some (vp_cell x.1 x.2) := (h a t i _ q).2
theorem gh_W.oneO {E : Ev} {G : gh} {H : Heap} (h : gh_W E G H) {a t i ci : Nat} {fs : List Value} {r : vw_C} (q : G a = some (t, i, .inr (ci, fs))) (hc : gcl[ci]? = some r) : va_P (ev_D E) gcl [(a, .inr (ci, fs))] H := by
  intro k x hx
  have hz : k < 1 := (List.getElem?_eq_some_iff.mp hx).1
  have hk : k = 0 := by omega
  subst hk
  cases hx
  exact ⟨r, hc, h.obj q hc⟩
theorem gh_W.oneA {E : Ev} {G : gh} {H : Heap} (h : gh_W E G H) {a t i : Nat} {x : ClassId × vp_A} (q : G a = some (t, i, .inl x)) : va_P (ev_D E) gcl [(a, .inl x)] H := by
  intro k y hx
  have hz : k < 1 := (List.getElem?_eq_some_iff.mp hx).1
  have hk : k = 0 := by omega
  subst hk
  cases hx
  exact h.arr q
theorem gh_W.set {E : Ev} {G : gh} {H H1 : Heap} (h : gh_W E G H) {a t i : Nat} {e : va_E} (ha : ev_n E ≤ a) (he : va_at (ev_D E) gcx (a, e) H1) (oq : ∀ q : Nat, q ≠ a → q < H.size → H1[q]? = H[q]?) : gh_W E (gh_up G a (t, i, e)) H1 := by
  intro b t' i' e' hb
  by_cases hba : b = a
  · subst hba
    rw [gh_up_s] at hb
    cases hb
    exact ⟨ha, he⟩
  · rw [gh_up_n hba] at hb
    exact ⟨(h b t' i' e' hb).1, (h b t' i' e' hb).2.kept (oq b hba (h.lt hb))⟩
/-- a cell may get another tag -/
theorem gh_W.tag {E : Ev} {G : gh} {H : Heap} (h : gh_W E G H) {a t i t' i' : Nat} {e : va_E} (q : G a = some (t, i, e)) : gh_W E (gh_up G a (t', i', e)) H := h.set (h a t i e q).1 (h a t i e q).2 (fun _ _ _ => rfl)
