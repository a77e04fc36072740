/-! CHANGES OF A STUDIO, SEEN IN ITS ROWS -/
theorem cs_S.row {E : Ev} {G : gh} {M M2 : tM} {nx : Nat} {fs : Nat → Nat} {k : Nat} (h : cs_S E G M nx fs k) (e4 : M2 4 k = M 4 k) (e5 : M2 5 = M 5) (e6 : M2 6 = M 6) (e7 : M2 7 = M 7) (e8 : M2 8 = M 8) : cs_S E G M2 nx fs k := by
  unfold cs_S cs_ds at h ⊢
  rw [e4, e5, e6, e7, e8]
  exact h
theorem cs_L.row {E : Ev} {G : gh} {M M2 : tM} {fl : Nat → Nat} {k : Nat} (h : cs_L E G M fl k) (e1 : M2 1 k = M 1 k) (e2 : M2 2 k = M 2 k) (e3 : M2 3 k = M 3 k) (e : ∀ t, t < 12 → M2 9 (12 * k + t) = M 9 (12 * k + t) ∧ M2 10 (12 * k + t) = M 10 (12 * k + t) ∧ M2 11 (12 * k + t) = M 11 (12 * k + t) ∧ M2 12 (12 * k + t) = M 12 (12 * k + t) ∧ M2 14 (12 * k + t) = M 14 (12 * k + t)) : cs_L E G M2 fl k := by
  obtain ⟨fo, ac, ap, ot, fa, fp, a, b, c, d, f, g, g2⟩ := h
  refine ⟨fo, ac, ap, ot, fa, fp, by rw [e1, e2]; exact a, by rw [e1, e3]; exact b, by rw [e1]; exact c, d, f, fun t ht => ?_, fun t ht => ?_⟩
  · obtain ⟨x9, x10, x11, x12, x14⟩ := e t ht
    rw [x9, x12]
    exact g t ht
  · obtain ⟨x9, x10, x11, x12, x14⟩ := e t ht
    rw [x10, x11, x14]
    exact g2 t ht
/-- an approval is opened -/
theorem cS.opn {E : Ev} {G : gh} {st : Nat} {M : tM} {nn : tN} {w : cW} (hC : cS E G st M nn w) {k t ya fo ac ap : Nat} {v0 v1 v2 v3 : Value} {fp : Nat → Option Nat} {b0 : Int32} (ht : t < 12)
    (hO : G (w.fl k) = some (11, k, .inr (2, [v0, v1, v2, v3, .ref fo, .ref ac, .ref ap]))) (hAp : G ap = some (13, k, .inl (ev_k E 7, 12, .inr (.inr (.inr (.inr fp)))))) (hya : fp t = some ya) (hyb : G ya = some (14, 12 * k + t, .inr (4, [.int (M 10 (12 * k + t)), .int (M 11 (12 * k + t)), .int b0]))) (h45 : M 14 (12 * k + t) ≠ 45) :
    cS E (gh_up G ya (14, 12 * k + t, .inr (4, [.int (M 10 (12 * k + t)), .int (M 11 (12 * k + t)), .int 1]))) st (va_up M 14 (upd (M 14) (12 * k + t) 111)) nn w := by
  have hf : gh_fr (fun a i => a = 14 ∧ i = 12 * k + t) G (gh_up G ya (14, 12 * k + t, .inr (4, [.int (M 10 (12 * k + t)), .int (M 11 (12 * k + t)), .int 1]))) := gh_fr.set hyb ⟨rfl, rfl⟩
  have n : ∀ a i, a ≠ 14 → ¬ (a = 14 ∧ i = 12 * k + t) := fun a i h q => h q.1
  obtain ⟨a, ⟨b, b2⟩, ⟨c, c2⟩, d, d2⟩ := hC
  refine ⟨hf _ _ _ _ a (n _ _ (by decide)), ⟨b.mono hf (n _ _ (by decide)) (n _ _ (by decide)), fun i hi => (b2 i hi).mono hf (fun j => n _ j (by decide))⟩, ⟨c.mono hf (n _ _ (by decide)) (n _ _ (by decide)), fun k2 hk2 => ((c2 k2 hk2).mono hf (n _ _ (by decide)) (n _ _ (by decide)) (n _ _ (by decide)) (fun x => n _ x (by decide))).row rfl rfl rfl rfl rfl⟩,
    d.mono hf (n _ _ (by decide)) (n _ _ (by decide)), fun k2 hk2 => ?_⟩
  by_cases e : k2 = k
  · subst e
    obtain ⟨fo2, ac2, ap2, ot, fa, fp2, x1, x2, x3, x4, x5, x6, x7⟩ := d2 k2 hk2
    have e9 := Option.some.inj (hO.symm.trans x1)
    simp only [Prod.mk.injEq, Sum.inr.injEq, List.cons.injEq, Value.ref.injEq, true_and, and_true] at e9
    obtain ⟨-, -, -, -, rfl, rfl, rfl⟩ := e9
    have e8 := Option.some.inj (hAp.symm.trans x5)
    simp only [Prod.mk.injEq, Sum.inr.injEq, Sum.inl.injEq, true_and] at e8
    subst e8
    refine ⟨fo, ac, ap, ot, fa, fp, hf _ _ _ _ x1 (n _ _ (by decide)), x2, x3.mono hf (fun j => n _ j (by decide)), hf _ _ _ _ x4 (n _ _ (by decide)), hf _ _ _ _ x5 (n _ _ (by decide)), fun t2 ht2 => ⟨(x6 t2 ht2).1, fun h => ?_⟩, fun t2 ht2 => ?_⟩
    · obtain ⟨y, h1, h2⟩ := (x6 t2 ht2).2 h
      exact ⟨y, h1, h2.mono hf (fun j => n _ j (by decide))⟩
    · by_cases et : t2 = t
      · subst et
        have e14 : va_up M 14 (upd (M 14) (12 * k2 + t2) 111) 14 (12 * k2 + t2) = 111 := by show upd (M 14) (12 * k2 + t2) 111 (12 * k2 + t2) = 111; rw [pk_us]
        rw [e14]
        exact ⟨fun h => absurd h (by decide), fun _ => ⟨ya, hya, gh_up_s⟩⟩
      · have e14 : va_up M 14 (upd (M 14) (12 * k2 + t) 111) 14 (12 * k2 + t2) = M 14 (12 * k2 + t2) := by show upd (M 14) (12 * k2 + t) 111 (12 * k2 + t2) = _; rw [pk_un (by omega)]
        rw [e14]
        refine ⟨(x7 t2 ht2).1, fun h => ?_⟩
        obtain ⟨y, h1, h2⟩ := (x7 t2 ht2).2 h
        exact ⟨y, h1, hf _ _ _ _ h2 (fun q => et (by omega))⟩
  · have h3 := (d2 k2 hk2).mono hf (n _ _ (by decide)) (n _ _ (by decide)) (n _ _ (by decide)) (fun t2 ht2 q => by omega) (fun j => n _ j (by decide))
    refine h3.row rfl rfl rfl (fun t2 ht2 => ⟨rfl, rfl, rfl, rfl, ?_⟩)
    show upd (M 14) (12 * k + t) 111 (12 * k2 + t2) = _
    rw [pk_un (by omega)]
