/-! WHAT EACH CALL OF THE LAW MEANS: oc: which exception (0: none); or: the answer; oM, oN: the state behind -/
abbrev vix (n : Nat) (x : Int32) : Prop := 0 ≤ x ∧ x ≤ nI n - 1
abbrev vmo (t : Int32) : Prop := 0 ≤ t ∧ t ≤ 11
abbrev vva (v : Int32) : Prop := 0 ≤ v ∧ v ≤ 9999
abbrev tM : Type := Nat → Nat → Int32
abbrev tN : Type := Nat → Nat
/-- behind a change all approvals are looked at again -/
def sp_re (M : tM) (nn : tN) : tM := va_up M 14 (sp_ap M (nn 4) (12 * nn 2))
def sp_rn (M : tM) (nn : tN) : Int32 := nI (sp_ct M (nn 4) (12 * nn 2))
def oc0 (nn : tN) (v : Int32) : Int32 := if ¬ vva v then 1 else if nI (nn 1) = 6 then 2 else 0
def oM0 (M : tM) (nn : tN) (v : Int32) : tM := va_up M 0 (upd (M 0) (nn 1) v)
def oc1 (nn : tN) (d v : Int32) : Int32 := if ¬ vix (nn 1) d then 1 else if ¬ vva v then 2 else 0
def oM1 (M : tM) (d v : Int32) : tM := va_up M 0 (upd (M 0) (ixN d) v)
def oc2 (nn : tN) (i d t : Int32) : Int32 := if vix (nn 3) i ∧ vix (nn 1) d ∧ vmo t then 0 else 1
def or2 (M : tM) (nn : tN) (i d t : Int32) : Int32 := sp_val M (nn 4) (ixN i) (ixN d) (ixN t) (decide (nI (ixN d) < 6))
def oc3 (nn : tN) (k a b : Int32) : Int32 := if ¬ sp_kd k then 1 else if ¬ ((k = 100 ∧ vix (nn 1) a) ∨ (k ≠ 100 ∧ vix (nn 2) a ∧ vix (nn 2) b)) then 2 else if nI (nn 2) = 10 then 3 else 0
def oM3 (M : tM) (nn : tN) (k a b : Int32) : tM := va_up (va_up (va_up M 1 (upd (M 1) (nn 2) k)) 2 (upd (M 2) (nn 2) a)) 3 (upd (M 3) (nn 2) (if k = 100 then 0 else b))
def oc4 (nn : tN) (x : Int32) : Int32 := if ¬ vix (nn 3) x then 1 else if nI (nn 3) = 4 then 2 else 0
def oM4 (M : tM) (nn : tN) (x : Int32) : tM := va_up M 4 (upd (M 4) (nn 3) x)
def oc5 (nn : tN) (i d f n : Int32) : Int32 := if ¬ (vix (nn 3) i ∧ vix (nn 1) d ∧ vmo f) then 1 else if ¬ (-999 ≤ n ∧ n ≤ 999) then 2 else if i = 0 then 3 else if nI (nn 4) = 12 then 4 else 0
def oM5 (M : tM) (nn : tN) (i d f n : Int32) : tM := va_up (va_up (va_up (va_up M 5 (upd (M 5) (nn 4) i)) 6 (upd (M 6) (nn 4) d)) 7 (upd (M 7) (nn 4) f)) 8 (upd (M 8) (nn 4) n)
abbrev sp_F (M : tM) (nn : tN) (i l t : Int32) (b : Nat → Bool) : Option Int64 := sp_fd M (nn 4) (ixN i) (ixN t) b 10 (ixN l)
def oc6 (M : tM) (nn : tN) (i l t : Int32) : Int32 := if ¬ (vix (nn 3) i ∧ vix (nn 2) l ∧ vmo t) then 1 else if sp_F M nn i l t sp_al = none then 2 else 0
def or6 (M : tM) (nn : tN) (i l t : Int32) : Int32 := ((sp_F M nn i l t sp_al).getD 0).toInt32
/-- the sum of the first n months, if all have a number -/
def sp_yr (M : tM) (nx i l : Nat) : Nat → Option Int64
  | 0 => some 0
  | n + 1 => (sp_yr M nx i l n).bind fun x => (sp_fd M nx i n sp_al 10 l).bind fun y => some (x + y)
def oc8 (M : tM) (nn : tN) (i l : Int32) : Int32 := if ¬ (vix (nn 3) i ∧ vix (nn 2) l) then 1 else if sp_yr M (nn 4) (ixN i) (ixN l) 12 = none then 2 else 0
def or8 (M : tM) (nn : tN) (i l : Int32) : Int64 := (sp_yr M (nn 4) (ixN i) (ixN l) 12).getD 0
abbrev sp_lt (d : Int32) : Nat → Bool := fun k => decide (nI k < d)
def oc9 (M : tM) (nn : tN) (i d l t : Int32) : Int32 := if ¬ (vix (nn 3) i ∧ vix (nn 1) d ∧ vix (nn 2) l ∧ vmo t) then 1 else if sp_F M nn i l t (sp_lt (d + 1)) = none ∨ sp_F M nn i l t (sp_lt d) = none then 2 else 0
def or9 (M : tM) (nn : tN) (i d l t : Int32) : Int32 := ((sp_F M nn i l t (sp_lt (d + 1))).getD 0 - (sp_F M nn i l t (sp_lt d)).getD 0).toInt32
/-- the first k of n numbers from s on that P takes -/
def sp_fr (P : Nat → Bool) : Nat → Nat → Option Nat
  | 0, _ => none
  | n + 1, s => if P s = true then some s else sp_fr P n (s + 1)
/-- whether a driver's value reaches a goal -/
def sp_rc (M : tM) (nx d l t : Nat) (g : Int32) (v : Nat) : Bool := match sp_fd (va_up M 0 (upd (M 0) d (nI v))) nx 0 t sp_al 10 l with
  | some x => decide (g.toInt64 ≤ x)
  | none => false
abbrev sp_sk (M : tM) (nn : tN) (d l t g : Int32) : Option Nat := sp_fr (sp_rc M (nn 4) (ixN d) (ixN l) (ixN t) g) 1000 0
def oc10 (M : tM) (nn : tN) (d l t g : Int32) : Int32 := if ¬ (vix (nn 1) d ∧ vix (nn 2) l ∧ vmo t) then 1 else if sp_sk M nn d l t g = none then 2 else 0
def or10 (M : tM) (nn : tN) (d l t g : Int32) : Int32 := nI ((sp_sk M nn d l t g).getD 0)
abbrev qix (l t : Int32) : Nat := 12 * ixN l + ixN t
def oc11 (nn : tN) (l t n : Int32) : Int32 := if ¬ (vix (nn 2) l ∧ vmo t) then 1 else if nI (nn 5) < t ∨ ¬ (-9999999 ≤ n ∧ n ≤ 9999999) then 2 else 0
def oM11 (M : tM) (l t n : Int32) : tM := va_up (va_up M 12 (upd (M 12) (qix l t) 1)) 9 (upd (M 9) (qix l t) n)
def oc12 (M : tM) (nn : tN) (l t : Int32) : Int32 := if ¬ (vix (nn 2) l ∧ vmo t) then 1 else if M 12 (qix l t) = 0 then 2 else 0
def oM12 (M : tM) (l t : Int32) : tM := va_up M 12 (upd (M 12) (qix l t) 0)
def oc13 (nn : tN) : Int32 := if nI (nn 5) < 11 then 0 else 1
def oc15 (M : tM) (nn : tN) (l t v : Int32) : Int32 := if ¬ (vix (nn 2) l ∧ vmo t) then 1 else if ¬ vva v then 2 else if sp_F M nn 0 l t sp_al = none then 3 else 0
def or15 (M : tM) (nn : tN) (l t : Int32) : Int32 := ((sp_F M nn 0 l t sp_al).getD 0).toInt32
def oM15 (M : tM) (nn : tN) (l t v : Int32) : tM := va_up (va_up (va_up M 14 (upd (M 14) (qix l t) 97)) 10 (upd (M 10) (qix l t) (or15 M nn l t))) 11 (upd (M 11) (qix l t) v)
def oc16 (nn : tN) (l t : Int32) : Int32 := if vix (nn 2) l ∧ vmo t then 0 else 1
def or16 (M : tM) (l t : Int32) : Int32 := M 14 (qix l t)
def oc17 (M : tM) (nn : tN) (l t : Int32) : Int32 := if ¬ (vix (nn 2) l ∧ vmo t) then 1 else if M 14 (qix l t) = 45 then 2 else if sp_F M nn 0 l t sp_al = none then 3 else 0
def or17 (M : tM) (nn : tN) (l t : Int32) : Int32 := or15 M nn l t - M 10 (qix l t)
abbrev sp_na (M : tM) : Int32 := nI (sp_mn (M 14) 97 120)
abbrev sp_no (M : tM) : Int32 := nI (sp_mn (M 14) 111 120)
def oc19 (M : tM) : Int32 := if 0 < sp_na M + sp_no M then 0 else 1
def or19 (M : tM) : UInt32 := FP.fdiv (FP.i2f (sp_na M)) (FP.i2f (sp_na M + sp_no M))
/-- the tolerances' sum -/
def sp_ts (M : tM) : Nat → Int32
  | 0 => 0
  | n + 1 => sp_ts M n + (if M 14 n = 45 then 0 else M 11 n)
def or20 (M : tM) : UInt64 := FP.ddiv (FP.i2d (sp_ts M 120)) (FP.i2d (sp_na M + sp_no M))
/-- the end of a call of the reference -/
def mdQ (E : Ev) (G : gh) (mo : Nat) (ma : Nat → Nat) (c : Int32) (M M' : tM) (nn nn' : tN) (G' : gh) : Prop := ∃ (fo : Nat → Int64) (fi : Nat → Int32), Md E G' mo ma (if c = 0 then M' else M) fo fi c (if c = 0 then nn' else nn) ∧ gh_fr mdT G G'
theorem mdQ.bad {E : Ev} {G G' : gh} {mo : Nat} {ma : Nat → Nat} {c k : Int32} {M M' : tM} {nn nn' : tN} {fo : Nat → Int64} {fi : Nat → Int32} (hc : c = k) (hk : k ≠ 0) (hM : Md E G' mo ma M fo fi k nn) (hF : gh_fr mdT G G') : mdQ E G mo ma c M M' nn nn' G' := by
  subst hc
  exact ⟨fo, fi, by rw [if_neg hk, if_neg hk]; exact hM, hF⟩
theorem mdQ.ok {E : Ev} {G G' : gh} {mo : Nat} {ma : Nat → Nat} {c : Int32} {M M' : tM} {nn nn' : tN} {fo : Nat → Int64} {fi : Nat → Int32} (hc : c = 0) (hM : Md E G' mo ma M' fo fi 0 nn') (hF : gh_fr mdT G G') : mdQ E G mo ma c M M' nn nn' G' := by
  subst hc
  exact ⟨fo, fi, by rw [if_pos rfl, if_pos rfl]; exact hM, hF⟩
def mdI (E : Ev) (G : gh) (mo : Nat) (ma : Nat → Nat) (c r : Int32) (M M' : tM) (nn nn' : tN) : Option Value → gh → Prop := fun v G' => ∃ b : Int32, v = some (.int b) ∧ (c = 0 → b = r) ∧ mdQ E G mo ma c M M' nn nn' G'
def mdL (E : Ev) (G : gh) (mo : Nat) (ma : Nat → Nat) (c : Int32) (r : Int64) (M : tM) (nn : tN) : Option Value → gh → Prop := fun v G' => ∃ b : Int64, v = some (.long b) ∧ (c = 0 → b = r) ∧ mdQ E G mo ma c M M nn nn G'
def mdF4 (E : Ev) (G : gh) (mo : Nat) (ma : Nat → Nat) (c : Int32) (r : UInt32) (M : tM) (nn : tN) : Option Value → gh → Prop := fun v G' => ∃ b : UInt32, v = some (.float b) ∧ (c = 0 → b = r) ∧ mdQ E G mo ma c M M nn nn G'
def mdD8 (E : Ev) (G : gh) (mo : Nat) (ma : Nat → Nat) (c : Int32) (r : UInt64) (M : tM) (nn : tN) : Option Value → gh → Prop := fun v G' => ∃ b : UInt64, v = some (.double b) ∧ (c = 0 → b = r) ∧ mdQ E G mo ma c M M nn nn G'
theorem vix.ix {n : Nat} {x : Int32} (h : vix n x) (hn : n < 2 ^ 30) : ∃ k, x = nI k ∧ k < n ∧ ixN x = k := by
  obtain ⟨k, rfl, h1, h2⟩ := gix.lt h.1 h.2 hn
  exact ⟨k, rfl, h1, ixN_nI (by omega)⟩
theorem vmo.ix {x : Int32} (h : vmo x) : ∃ k, x = nI k ∧ k < 12 ∧ ixN x = k := vix.ix (n := 12) ⟨h.1, h.2⟩ (by decide)
