/-! THE MATHEMATICAL VALUE OF BOTH SIDES. M: the reference's rows by the numbers of its fields (0 values, 1 kinds, 2 ones, 3 others, 4 parents, 5 scenarioOf, 6 driverOf, 7 fromOf, 8 numberOf, 9 actuals, 10 kept, 11 tolerances, 12 hasActual, 14 approvals); nn: 1 drivers, 2 lines, 3 scenarios, 4 differences, 5 month -/
def bP (P : Prop) (r : Int32) : Prop := (r = 1 ∧ P) ∨ (r = 0 ∧ ¬ P)
/-- an index: a number below n -/
def gix (n : Nat) (i : Int32) (k : Nat) : Prop := i = nI k ∧ k < n ∧ n < 2 ^ 31
theorem gix.in {n : Nat} {i : Int32} {k : Nat} (h : gix n i k) : vp_in i n := by rw [h.1]; exact vp_in_nI h.2.1 h.2.2
theorem gix.cl {n : Nat} {i : Int32} {k : Nat} (h : gix n i k) : i.toNatClampNeg = k := by rw [h.1]; exact nI_clamp (by have := h.2; omega)
theorem gix.mk {n k : Nat} (h : k < n) (hn : n < 2 ^ 31) : gix n (nI k) k := ⟨rfl, h, hn⟩
def ixN (x : Int32) : Nat := x.toNatClampNeg
theorem ixN_nI {k : Nat} (h : k < 2 ^ 31) : ixN (nI k) = k := nI_clamp h
/-- a scenario and those above it -/
def sp_ch (P : Nat → Int32) : Nat → Nat → List Nat
  | 0, _ => []
  | n + 1, i => i :: (if P i < 0 then [] else sp_ch P n (ixN (P i)))
def sp_sum (c : Nat → Bool) (f : Nat → Int32) : Nat → Int32
  | 0 => 0
  | k + 1 => sp_sum c f k + (if c k = true then f k else 0)
def sp_mt (M : Nat → Nat → Int32) (i d t k : Nat) : Bool := decide (M 6 k = nI d) && (decide (M 7 k ≤ nI t) && decide (ixN (M 5 k) ∈ sp_ch (M 4) 4 i))
/-- a driver's value in a scenario at a month; b: whether differences count -/
def sp_val (M : Nat → Nat → Int32) (nx i d t : Nat) (b : Bool) : Int32 := M 0 d + sp_sum (fun k => b && sp_mt M i d t k) (M 8) nx
def sp_in (x : Int64) : Bool := decide (-99999999 ≤ x) && decide (x ≤ 99999999)
def sp_ck (x : Int64) : Option Int64 := if sp_in x = true then some x else none
def sp_bk (kd : Int32) (x y : Int64) : Int64 := if kd = 115 then x + y else if kd = 109 then x - y else x * y / 100
/-- the number of a line, if there is one -/
def sp_fd (M : Nat → Nat → Int32) (nx i t : Nat) (b : Nat → Bool) : Nat → Nat → Option Int64
  | 0, _ => none
  | n + 1, k =>
    if M 12 (12 * k + t) ≠ 0 then some (M 9 (12 * k + t)).toInt64
    else if M 1 k = 100 then sp_ck (sp_val M nx i (ixN (M 2 k)) t (b (ixN (M 2 k)))).toInt64
    else (sp_fd M nx i t b n (ixN (M 2 k))).bind fun x => (sp_fd M nx i t b n (ixN (M 3 k))).bind fun y => sp_ck (sp_bk (M 1 k) x y)
abbrev sp_kd (k : Int32) : Prop := k = 100 ∨ k = 115 ∨ k = 109 ∨ k = 112
def sp_wf (M : Nat → Nat → Int32) (nn : Nat → Nat) : Prop :=
  (nn 1 ≤ 6 ∧ nn 2 ≤ 10 ∧ (1 ≤ nn 3 ∧ nn 3 ≤ 4) ∧ nn 4 ≤ 12 ∧ nn 5 ≤ 11) ∧
  (M 4 0 = -1 ∧ ∀ k, 0 < k → k < nn 3 → ∃ j, j < k ∧ M 4 k = nI j) ∧
  (∀ k, k < nn 2 → sp_kd (M 1 k) ∧ (M 1 k = 100 → ∃ j, j < nn 1 ∧ M 2 k = nI j) ∧ (M 1 k ≠ 100 → (∃ j, j < k ∧ M 2 k = nI j) ∧ ∃ j, j < k ∧ M 3 k = nI j)) ∧
  (∀ k, k < nn 4 → (∃ j, 1 ≤ j ∧ j < nn 3 ∧ M 5 k = nI j) ∧ (∃ j, j < nn 1 ∧ M 6 k = nI j) ∧ ∃ j, j < 12 ∧ M 7 k = nI j) ∧
  (∀ q, q < 120 → (M 14 q = 45 ∨ M 14 q = 97 ∨ M 14 q = 111) ∧ (M 12 q = 0 ∨ M 12 q = 1) ∧ (12 * nn 2 ≤ q → M 14 q = 45 ∧ M 12 q = 0) ∧ (M 12 q = 1 → sp_in (M 9 q).toInt64 = true))
/-- all drivers' differences count -/
abbrev sp_al : Nat → Bool := fun d => decide (nI d < 6)
/-- an approval that doesn't stand any more -/
def sp_st (M : Nat → Nat → Int32) (nx q : Nat) : Bool := decide (M 14 q = 97) && !(match sp_fd M nx 0 (q % 12) sp_al 10 (q / 12) with
  | some v => decide (v - (M 10 q).toInt64 ≤ (M 11 q).toInt64) && decide (-(v - (M 10 q).toInt64) ≤ (M 11 q).toInt64)
  | none => false)
/-- the approvals when the first n are looked at; how many were opened -/
def sp_ap (M : Nat → Nat → Int32) (nx n : Nat) : Nat → Int32 := fun q => if q < n ∧ sp_st M nx q = true then 111 else M 14 q
def sp_ct (M : Nat → Nat → Int32) (nx : Nat) : Nat → Nat
  | 0 => 0
  | n + 1 => sp_ct M nx n + (if sp_st M nx n = true then 1 else 0)
theorem sp_ct_le (M : Nat → Nat → Int32) (nx n : Nat) : sp_ct M nx n ≤ n := by
  induction n with
  | zero => exact Nat.le_refl _
  | succ n ih => unfold sp_ct; split <;> omega
/-- how many approvals have a letter -/
def sp_mn (f : Nat → Int32) (x : Int32) : Nat → Nat
  | 0 => 0
  | n + 1 => sp_mn f x n + (if f n = x then 1 else 0)
theorem sp_mn_le (f : Nat → Int32) (x : Int32) (n : Nat) : sp_mn f x n ≤ n := by
  induction n with
  | zero => exact Nat.le_refl _
  | succ n ih => unfold sp_mn; split <;> omega
/-! laws of it -/
theorem sp_un0 {P : Nat → Int32} {n i j : Nat} (hp : P i < 0) (hne : j ≠ i) : j ∉ sp_ch P n i := by
  cases n with
  | zero => simp [sp_ch]
  | succ n => simp [sp_ch, hp, hne]
theorem sp_un1 {P : Nat → Int32} {n i j k : Nat} (hk : P i = nI k) (hk31 : k < 2 ^ 31) (hne : j ≠ i) : j ∈ sp_ch P (n + 1) i ↔ j ∈ sp_ch P n k := by
  have h1 : ¬ P i < 0 := by rw [hk]; exact nI_pos hk31
  have h2 : ixN (P i) = k := by rw [hk]; exact ixN_nI hk31
  simp [sp_ch, h1, h2, hne]
theorem sp_un2 {P : Nat → Int32} {n i : Nat} (h : 0 < n) : i ∈ sp_ch P n i := by
  cases n with
  | zero => exact absurd h (Nat.lt_irrefl _)
  | succ n => simp [sp_ch]
theorem sp_sum_t {c : Nat → Bool} {f : Nat → Int32} {k : Nat} (h : c k = true) : sp_sum c f (k + 1) = sp_sum c f k + f k := by simp [sp_sum, h]
theorem sp_sum_f {c : Nat → Bool} {f : Nat → Int32} {k : Nat} (h : c k = false) : sp_sum c f (k + 1) = sp_sum c f k := by simp [sp_sum, h]
theorem gix.lt {n : Nat} {x : Int32} (h0 : 0 ≤ x) (h1 : x ≤ nI n - 1) (hn : n < 2 ^ 30) : ∃ k, gix n x k := by
  rw [Int32.le_iff_toInt_le, Int32.toInt_zero] at h0
  rw [Int32.le_iff_toInt_le] at h1
  have e : (nI n - 1).toInt = (n : Int) - 1 := by
    have := pk_sub_toInt (a := n) (b := 1) (by omega) (by omega)
    rw [show nI 1 = (1 : Int32) from rfl] at this
    simpa using this
  rw [e] at h1
  obtain ⟨j, hj, rfl⟩ := nI_of (x := x) (by rw [Int32.lt_iff_toInt_lt, Int32.toInt_zero]; omega)
  rw [nI_toInt hj] at h1
  exact ⟨j, rfl, by omega, by omega⟩
theorem gix.rng {n : Nat} {x : Int32} {k : Nat} (h : gix n x k) (hn : n < 2 ^ 30) : 0 ≤ x ∧ x ≤ nI n - 1 := by
  obtain ⟨rfl, h1, h2⟩ := h
  refine ⟨nI_pos' (by omega), ?_⟩
  rw [Int32.le_iff_toInt_le, nI_toInt (by omega)]
  have := pk_sub_toInt (a := n) (b := 1) (by omega) (by omega)
  rw [show nI 1 = (1 : Int32) from rfl] at this
  have e : (nI n - 1).toInt = (n : Int) - 1 := by simpa using this
  rw [e]; omega
theorem sp_val_14 {M : Nat → Nat → Int32} {f : Nat → Int32} {nx i d t : Nat} {b : Bool} : sp_val (va_up M 14 f) nx i d t b = sp_val M nx i d t b := rfl
theorem sp_fd_14 {M : Nat → Nat → Int32} {f : Nat → Int32} {nx i t : Nat} {b : Nat → Bool} (n : Nat) : ∀ k, sp_fd (va_up M 14 f) nx i t b n k = sp_fd M nx i t b n k := by
  induction n with
  | zero => intro k; rfl
  | succ n ih =>
    intro k
    simp only [sp_fd, ih]
    rfl
theorem sp_fd_s {M : Nat → Nat → Int32} {nx i t : Nat} {b : Nat → Bool} (n k : Nat) : sp_fd M nx i t b (n + 1) k =
    if M 12 (12 * k + t) ≠ 0 then some (M 9 (12 * k + t)).toInt64
    else if M 1 k = 100 then sp_ck (sp_val M nx i (ixN (M 2 k)) t (b (ixN (M 2 k)))).toInt64
    else (sp_fd M nx i t b n (ixN (M 2 k))).bind fun x => (sp_fd M nx i t b n (ixN (M 3 k))).bind fun y => sp_ck (sp_bk (M 1 k) x y) := rfl
/-- with depth enough a line's number doesn't hang on the depth -/
theorem sp_fd_deep {M : Nat → Nat → Int32} {nn : Nat → Nat} (h : sp_wf M nn) {nx i t : Nat} {b : Nat → Bool} : ∀ (k : Nat), k < nn 2 → ∀ n, k < n → sp_fd M nx i t b n k = sp_fd M nx i t b 10 k := by
  intro k
  induction k using Nat.strongRecOn with
  | ind k ih =>
    intro hk n hn
    obtain ⟨n', rfl⟩ : ∃ n', n = n' + 1 := ⟨n - 1, by omega⟩
    have h10 : nn 2 ≤ 10 := h.1.2.1
    rw [sp_fd_s n' k, show sp_fd M nx i t b 10 k = _ from sp_fd_s 9 k]
    by_cases h1 : M 12 (12 * k + t) ≠ 0
    · simp [h1]
    · by_cases h2 : M 1 k = 100
      · simp [h1, h2]
      · obtain ⟨⟨j, hj, e1⟩, ⟨j', hj', e2⟩⟩ := (h.2.2.1 k hk).2.2 h2
        have a1 : ixN (M 2 k) = j := by rw [e1]; exact ixN_nI (by omega)
        have a2 : ixN (M 3 k) = j' := by rw [e2]; exact ixN_nI (by omega)
        simp only [h1, h2, if_false, a1, a2]
        rw [ih j hj (by omega) n' (by omega), ih j' hj' (by omega) n' (by omega), ih j hj (by omega) 9 (by omega), ih j' hj' (by omega) 9 (by omega)]
theorem sp_fd_A {M : Nat → Nat → Int32} {nx i t : Nat} {b : Nat → Bool} {k : Nat} (h1 : M 12 (12 * k + t) ≠ 0) : sp_fd M nx i t b 10 k = some (M 9 (12 * k + t)).toInt64 := by
  rw [show sp_fd M nx i t b 10 k = _ from sp_fd_s 9 k]
  simp [h1]
theorem sp_fd_D {M : Nat → Nat → Int32} {nx i t : Nat} {b : Nat → Bool} {k d : Nat} (h1 : M 12 (12 * k + t) = 0) (h2 : M 1 k = 100) (h3 : ixN (M 2 k) = d) : sp_fd M nx i t b 10 k = sp_ck (sp_val M nx i d t (b d)).toInt64 := by
  rw [show sp_fd M nx i t b 10 k = _ from sp_fd_s 9 k]
  simp [h1, h2, h3]
theorem sp_fd_F {M : Nat → Nat → Int32} {nn : Nat → Nat} (h : sp_wf M nn) {nx i t : Nat} {b : Nat → Bool} {k j j' : Nat} (hk : k < nn 2) (h1 : M 12 (12 * k + t) = 0) (h2 : M 1 k ≠ 100) (hj : j < k) (hj' : j' < k) (h3 : ixN (M 2 k) = j) (h4 : ixN (M 3 k) = j') :
    sp_fd M nx i t b 10 k = (sp_fd M nx i t b 10 j).bind fun x => (sp_fd M nx i t b 10 j').bind fun y => sp_ck (sp_bk (M 1 k) x y) := by
  have h10 : nn 2 ≤ 10 := h.1.2.1
  have e : sp_fd M nx i t b 10 k = (sp_fd M nx i t b 9 j).bind fun x => (sp_fd M nx i t b 9 j').bind fun y => sp_ck (sp_bk (M 1 k) x y) := by
    rw [show sp_fd M nx i t b 10 k = _ from sp_fd_s 9 k]
    simp [h1, h2, h3, h4]
  rw [e, sp_fd_deep h j (by omega) 9 (by omega), sp_fd_deep h j' (by omega) 9 (by omega)]
/-- what the reference's scratch rows hold of the first k lines -/
def sp_ok (F : Nat → Option Int64) (fo : Nat → Int64) (fi : Nat → Int32) (k : Nat) : Prop := ∀ j, j < k → (∀ v, F j = some v → fo j = v ∧ fi j = 1) ∧ (F j = none → fi j = 0)
theorem sp_at (k t : Nat) : (12 : Int32) * nI k + nI t = nI (12 * k + t) := by
  rw [show (12 : Int32) = nI 12 from rfl, pk_mul, nI_add]
theorem vp_nar_z (r : Int32) (h : r = 1 ∨ r = 0) : vp_nar .boolean r = r := by
  rcases h with rfl | rfl <;> rfl
def sp_op (M : Nat → Nat → Int32) (fi : Nat → Int32) (k q : Nat) : Prop := M 12 q ≠ 0 ∨ M 1 k = 100 ∨ (fi (ixN (M 2 k)) ≠ 0 ∧ fi (ixN (M 3 k)) ≠ 0)
def sp_bv (M : Nat → Nat → Int32) (nx i t : Nat) (b : Nat → Bool) (fo : Nat → Int64) (k : Nat) : Int64 := if M 1 k = 100 then (sp_val M nx i (ixN (M 2 k)) t (b (ixN (M 2 k)))).toInt64 else sp_bk (M 1 k) (fo (ixN (M 2 k))) (fo (ixN (M 3 k)))
theorem sp_ok_step {M : Nat → Nat → Int32} {nn : Nat → Nat} (hwf : sp_wf M nn) {nx i t : Nat} {b : Nat → Bool} {fo : Nat → Int64} {fi : Nat → Int32} {k : Nat} {x : Int64} {r : Int32} (hk : k < nn 2) (ht : t < 12) (hok : sp_ok (sp_fd M nx i t b 10) fo fi k)
    (hx1 : M 12 (12 * k + t) ≠ 0 → x = (M 9 (12 * k + t)).toInt64) (hx2 : M 12 (12 * k + t) = 0 → sp_op M fi k (12 * k + t) → x = sp_bv M nx i t b fo k) (hr : (r = 1 ∧ sp_op M fi k (12 * k + t) ∧ sp_in x = true) ∨ (r = 0 ∧ ¬ (sp_op M fi k (12 * k + t) ∧ sp_in x = true))) :
    sp_ok (sp_fd M nx i t b 10) (vp_updL fo k x) (upd fi k (vp_nar .boolean r)) (k + 1) := by
  have h10 : nn 2 ≤ 10 := hwf.1.2.1
  rw [vp_nar_z r (by rcases hr with h | h; exact Or.inl h.1; exact Or.inr h.1)]
  intro j hj
  by_cases hjk : j = k
  · subst hjk
    rw [pk_uLs, pk_us]
    by_cases h1 : M 12 (12 * j + t) ≠ 0
    · have hF := sp_fd_A (M := M) (nx := nx) (i := i) (b := b) h1
      have hin : sp_in (M 9 (12 * j + t)).toInt64 = true := by
        have h := hwf.2.2.2.2 (12 * j + t) (by omega)
        rcases h.2.1 with q | q
        · exact absurd q h1
        · exact h.2.2.2 q
      rw [hF]
      refine ⟨fun v hv => ?_, fun hv => by cases hv⟩
      cases hv
      refine ⟨hx1 h1, ?_⟩
      rcases hr with h | h
      · exact h.1
      · exact absurd ⟨Or.inl h1, by rw [hx1 h1]; exact hin⟩ h.2
    · have h1 : M 12 (12 * j + t) = 0 := Classical.not_not.mp h1
      by_cases h2 : M 1 j = 100
      · have hF := sp_fd_D (nx := nx) (i := i) (b := b) h1 h2 rfl
        have hop : sp_op M fi j (12 * j + t) := Or.inr (Or.inl h2)
        have hx := hx2 h1 hop
        rw [sp_bv, if_pos h2] at hx
        rw [hF, sp_ck, ← hx]
        rcases hr with h | h
        · rw [if_pos h.2.2]
          exact ⟨fun v hv => ⟨Option.some.inj hv, h.1⟩, fun hv => by cases hv⟩
        · have hn : ¬ sp_in x = true := fun q => h.2 ⟨hop, q⟩
          rw [if_neg hn]
          exact ⟨fun v hv => (by cases hv), fun _ => h.1⟩
      · obtain ⟨⟨a, ha, e1⟩, ⟨a', ha', e2⟩⟩ := (hwf.2.2.1 j hk).2.2 h2
        have i1 : ixN (M 2 j) = a := by rw [e1]; exact ixN_nI (by omega)
        have i2 : ixN (M 3 j) = a' := by rw [e2]; exact ixN_nI (by omega)
        have hF := sp_fd_F hwf (nx := nx) (i := i) (b := b) hk h1 h2 ha ha' i1 i2
        have o1 := hok a ha
        have o2 := hok a' ha'
        rw [hF]
        cases c1 : sp_fd M nx i t b 10 a with
        | none =>
          have f1 : fi a = 0 := o1.2 c1
          refine ⟨fun v hv => (by cases hv), fun _ => ?_⟩
          rcases hr with h | h
          · rcases h.2.1 with q | q | q
            · exact absurd h1 q
            · exact absurd q h2
            · rw [i1] at q; exact absurd f1 q.1
          · exact h.1
        | some v1 =>
          cases c2 : sp_fd M nx i t b 10 a' with
          | none =>
            have f2 : fi a' = 0 := o2.2 c2
            refine ⟨fun v hv => (by cases hv), fun _ => ?_⟩
            rcases hr with h | h
            · rcases h.2.1 with q | q | q
              · exact absurd h1 q
              · exact absurd q h2
              · rw [i2] at q; exact absurd f2 q.2
            · exact h.1
          | some v2 =>
            obtain ⟨g1, g2⟩ := o1.1 v1 c1
            obtain ⟨g3, g4⟩ := o2.1 v2 c2
            have hop : sp_op M fi j (12 * j + t) := Or.inr (Or.inr ⟨by rw [i1, g2]; decide, by rw [i2, g4]; decide⟩)
            have hx := hx2 h1 hop
            rw [sp_bv, if_neg h2, i1, i2, g1, g3] at hx
            show (∀ v, sp_ck (sp_bk (M 1 j) v1 v2) = some v → x = v ∧ r = 1) ∧ (sp_ck (sp_bk (M 1 j) v1 v2) = none → r = 0)
            rw [sp_ck, ← hx]
            rcases hr with h | h
            · rw [if_pos h.2.2]
              exact ⟨fun v hv => ⟨Option.some.inj hv, h.1⟩, fun hv => by cases hv⟩
            · have hn : ¬ sp_in x = true := fun q => h.2 ⟨hop, q⟩
              rw [if_neg hn]
              exact ⟨fun v hv => (by cases hv), fun _ => h.1⟩
  · have hlt : j < k := by omega
    rw [pk_uLn hjk, pk_un hjk]
    exact hok j hlt
theorem sp_in_iff (x : Int64) : sp_in x = true ↔ ¬ x < -99999999 ∧ ¬ 99999999 < x := by
  simp [sp_in, Int64.not_lt]
theorem sp_st_eq {M : Nat → Nat → Int32} {nx k t : Nat} (ht : t < 12) : sp_st M nx (12 * k + t) = (decide (M 14 (12 * k + t) = 97) && !(match sp_fd M nx 0 t sp_al 10 k with
  | some v => decide (v - (M 10 (12 * k + t)).toInt64 ≤ (M 11 (12 * k + t)).toInt64) && decide (-(v - (M 10 (12 * k + t)).toInt64) ≤ (M 11 (12 * k + t)).toInt64)
  | none => false)) := by
  unfold sp_st
  rw [show (12 * k + t) % 12 = t by omega, show (12 * k + t) / 12 = k by omega]
theorem sp_ct_f {M : Nat → Nat → Int32} {nx q : Nat} (h : sp_st M nx q = false) : sp_ct M nx (q + 1) = sp_ct M nx q := by simp [sp_ct, h]
theorem sp_ct_t {M : Nat → Nat → Int32} {nx q : Nat} (h : sp_st M nx q = true) : sp_ct M nx (q + 1) = sp_ct M nx q + 1 := by simp [sp_ct, h]
theorem sp_ap_f {M : Nat → Nat → Int32} {nx q : Nat} (h : sp_st M nx q = false) : sp_ap M nx (q + 1) = sp_ap M nx q := by
  funext j
  unfold sp_ap
  by_cases hj : j = q
  · subst hj; simp [h]
  · have : j < q + 1 ↔ j < q := by omega
    simp [this]
theorem sp_ap_t {M : Nat → Nat → Int32} {nx q : Nat} (h : sp_st M nx q = true) : sp_ap M nx (q + 1) = upd (sp_ap M nx q) q 111 := by
  funext j
  unfold sp_ap
  by_cases hj : j = q
  · subst hj; simp [h, upd]
  · have : j < q + 1 ↔ j < q := by omega
    simp [this, upd, hj]
theorem sp_ap_at {M : Nat → Nat → Int32} {nx q : Nat} : va_up M 14 (sp_ap M nx q) 14 q = M 14 q := by simp [va_up, sp_ap]
theorem sp_ap_0 {M : Nat → Nat → Int32} {nx : Nat} : va_up M 14 (sp_ap M nx 0) = M := by
  funext i j
  unfold va_up
  split
  · rename_i h; subst h; simp [sp_ap]
  · rfl
theorem sp_ap_wf {M : Nat → Nat → Int32} {nn : Nat → Nat} {nx n : Nat} (h : sp_wf M nn) (hn : n ≤ 12 * nn 2) : sp_wf (va_up M 14 (sp_ap M nx n)) nn := by
  refine ⟨h.1, h.2.1, h.2.2.1, h.2.2.2.1, fun q hq => ?_⟩
  obtain ⟨a, b, c, d⟩ := h.2.2.2.2 q hq
  refine ⟨?_, b, fun h9 => ⟨?_, (c h9).2⟩, d⟩
  · show sp_ap M nx n q = 45 ∨ sp_ap M nx n q = 97 ∨ sp_ap M nx n q = 111
    unfold sp_ap
    split
    · exact Or.inr (Or.inr rfl)
    · exact a
  · show sp_ap M nx n q = 45
    unfold sp_ap
    rw [if_neg (by omega)]
    exact (c h9).1
theorem sp_mn_t {f : Nat → Int32} {x : Int32} {q : Nat} (h : f q = x) : sp_mn f x (q + 1) = sp_mn f x q + 1 := by simp [sp_mn, h]
theorem sp_mn_f {f : Nat → Int32} {x : Int32} {q : Nat} (h : f q ≠ x) : sp_mn f x (q + 1) = sp_mn f x q := by simp [sp_mn, h]
