/-! THE ENDS OF PUBLIC CALLS -/
def gTm : Nat → Nat → Prop := fun t _ => t < 100
/-- the call returns -/
def csQ (E : Ev) (G : gh) (st : Nat) (oc : Int32) (M2 : tM) (nn2 : tN) (G' : gh) : Prop := oc = 0 ∧ (∃ w2, cS E G' st M2 nn2 w2) ∧ gh_fr gTm G G'
/-- the call throws the class of number oc; the state is as before -/
def csX (E : Ev) (G : gh) (st : Nat) (M : tM) (nn : tN) (oc : Int32) (L : List String) (C : String) (G' : gh) : Prop := (∃ j, L[j]? = some C ∧ j < 10 ∧ oc = nI (j + 1)) ∧ (∃ w2, cS E G' st M nn w2) ∧ gh_fr gTm G G'
theorem gTl_m {r k : Nat} (hr : r < 99) : ∀ t i, gTl r k t i → gTm t i := fun t i h => by
  rcases h.1 with rfl | rfl
  · show t < 100; omega
  · show r + 1 < 100; omega
/-- a driver more -/
theorem cS.addD {E : Ev} {G G' : gh} {st : Nat} {M : tM} {nn : tN} {w : cW} {y : Nat} {x mc : Int32} (hC : cS E G st M nn w) (hL : gLs E G' w.dl 1 0 (nn 1 + 1) (va_up w.fd (nn 1) y) mc) (hf : gh_fr (gTl 1 0) G G') (hy : gInt E G' y x) :
    cS E G' st (oM0 M nn x) (va_up nn 1 (nn 1 + 1)) (w.1, (va_up w.fd (nn 1) y, w.2.1.2), (mc, w.2.2.2)) := by
  have n : ∀ t i, t ≠ 1 → t ≠ 2 → ¬ gTl 1 0 t i := fun t i h1 h2 q => by rcases q.1 with h | h <;> omega
  obtain ⟨a, ⟨b, b2⟩, ⟨c, c2⟩, d, d2⟩ := hC
  refine ⟨hf _ _ _ _ a (n _ _ (by decide) (by decide)), ⟨hL, fun i hi => ?_⟩, ⟨c.mono hf (n _ _ (by decide) (by decide)) (n _ _ (by decide) (by decide)), fun k hk => ((c2 k hk).mono hf (n _ _ (by decide) (by decide)) (n _ _ (by decide) (by decide)) (n _ _ (by decide) (by decide)) (fun x => n _ x (by decide) (by decide))).row rfl rfl rfl rfl rfl⟩,
    d.mono hf (n _ _ (by decide) (by decide)) (n _ _ (by decide) (by decide)), fun k hk => ((d2 k hk).mono hf (n _ _ (by decide) (by decide)) (n _ _ (by decide) (by decide)) (n _ _ (by decide) (by decide)) (fun t _ => n _ _ (by decide) (by decide)) (fun j => n _ j (by decide) (by decide))).row rfl rfl rfl (fun t _ => ⟨rfl, rfl, rfl, rfl, rfl⟩)⟩
  show gInt E G' (va_up w.fd (nn 1) y i) (upd (M 0) (nn 1) x i)
  have hi2 : i < nn 1 + 1 := hi
  by_cases e : i = nn 1
  · subst e
    rw [va_up_s, pk_us]
    exact hy
  · rw [va_up_n e, pk_un e]
    exact (b2 i (by omega)).mono hf (fun j => n _ j (by decide) (by decide))
