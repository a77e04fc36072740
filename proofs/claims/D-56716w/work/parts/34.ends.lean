/-! THE ENDS OF PUBLIC CALLS -/
def gTm : Nat → Nat → Prop := fun t _ => t < 100
/-- the call returns -/
def csQ (E : Ev) (G : gh) (st : Nat) (oc : Int32) (M2 : tM) (nn2 : tN) (G' : gh) : Prop := oc = 0 ∧ (∃ w2, cS E G' st M2 nn2 w2) ∧ gh_fr gTm G G'
/-- the call throws the class of number oc; the state is as before -/
def csX (E : Ev) (G : gh) (st : Nat) (M : tM) (nn : tN) (oc : Int32) (L : List String) (C : String) (G' : gh) : Prop := (∃ j, L[j]? = some C ∧ j < 10 ∧ oc = nI (j + 1)) ∧ (∃ w2, cS E G' st M nn w2) ∧ gh_fr gTm G G'
theorem gTl_m {r k : Nat} (hr : r < 99) : ∀ t i, gTl r k t i → gTm t i := fun t i h => by
  rcases h.1 with rfl | rfl
  · show t < 100; omega
  · show r + 1 < 100; omega
