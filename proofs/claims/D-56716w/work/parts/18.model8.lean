/-- a datum that a rounding gives: an infinity, or a number of at most p digits whose last digit isn't too high -/
def fl_ok (f : FP.Core.Fmt) (d : FP.Core.Datum) : Prop := (∃ s, d = .inf s) ∨ ∃ s c q, d = .fin s c q ∧ c < 2 ^ f.p ∧ q ≤ f.qmax
theorem fl_round {f : FP.Core.Fmt} (ht : f.tails < 2 ^ f.p) (hq : f.qmin ≤ f.qmax) (s : Bool) (n d : Nat) (e : Int) : fl_ok f (FP.Core.roundRatio f s n d e) := by
  have hb : ∀ c q, c < 2 ^ f.p → fl_ok f (FP.Core.bound f s c q) := by
    intro c q hc
    unfold FP.Core.bound
    split
    · rename_i h; exact Or.inr ⟨_, _, _, rfl, hc, h⟩
    · exact Or.inl ⟨_, rfl⟩
  unfold FP.Core.roundRatio
  split
  · exact Or.inr ⟨_, _, _, rfl, Nat.two_pow_pos _, hq⟩
  · unfold FP.Core.roundAt FP.Core.settle
    split
    · rename_i h; exact hb _ _ h
    · exact hb _ _ ht
theorem fl_r64 (s : Bool) (n d : Nat) (e : Int) : fl_ok FP.Core.b64 (FP.Core.roundRatio FP.Core.b64 s n d e) := fl_round (by decide) (by decide) s n d e
theorem fl_r32 (s : Bool) (n d : Nat) (e : Int) : fl_ok FP.Core.b32 (FP.Core.roundRatio FP.Core.b32 s n d e) := fl_round (by decide) (by decide) s n d e
theorem fl_e64 {d : FP.Core.Datum} (h : fl_ok FP.Core.b64 d) : FP.Core.encode FP.Core.b64 d % 9223372036854775808 ≤ 9218868437227405312 := by
  have t1 : FP.Core.b64.tails = 4503599627370496 := by decide
  have t2 : FP.Core.b64.exps = 2048 := by decide
  have t3 : FP.Core.b64.qmin = -1074 := by decide
  have t4 : FP.Core.b64.qmax = 971 := by decide
  rcases h with ⟨s, rfl⟩ | ⟨s, c, q, rfl, hc, hq⟩
  · cases s <;> decide
  · rw [t4] at hq
    rw [show FP.Core.b64.p = 53 from rfl] at hc
    have hc : c < 9007199254740992 := hc
    have hs : s.toNat ≤ 1 := by cases s <;> decide
    simp only [FP.Core.encode, FP.Core.assemble, t1, t2, t3]
    split
    · omega
    · omega
theorem fl_e32 {d : FP.Core.Datum} (h : fl_ok FP.Core.b32 d) : FP.Core.encode FP.Core.b32 d % 2147483648 ≤ 2139095040 := by
  have t1 : FP.Core.b32.tails = 8388608 := by decide
  have t2 : FP.Core.b32.exps = 256 := by decide
  have t3 : FP.Core.b32.qmin = -149 := by decide
  have t4 : FP.Core.b32.qmax = 104 := by decide
  rcases h with ⟨s, rfl⟩ | ⟨s, c, q, rfl, hc, hq⟩
  · cases s <;> decide
  · rw [t4] at hq
    rw [show FP.Core.b32.p = 24 from rfl] at hc
    have hc : c < 16777216 := hc
    have hs : s.toNat ≤ 1 := by cases s <;> decide
    simp only [FP.Core.encode, FP.Core.assemble, t1, t2, t3]
    split
    · omega
    · omega
theorem fl_d64 {n : Nat} (h : n % 9223372036854775808 ≤ 9218868437227405312) : FP.Core.decode FP.Core.b64 n ≠ .nan := by
  have t1 : FP.Core.b64.tails = 4503599627370496 := by decide
  have t2 : FP.Core.b64.exps = 2048 := by decide
  simp only [FP.Core.decode, FP.Core.fieldE, FP.Core.fieldT, t1, t2]
  split
  · split
    · exact fun q => by cases q
    · omega
  · split <;> exact fun q => by cases q
theorem fl_d32 {n : Nat} (h : n % 2147483648 ≤ 2139095040) : FP.Core.decode FP.Core.b32 n ≠ .nan := by
  have t1 : FP.Core.b32.tails = 8388608 := by decide
  have t2 : FP.Core.b32.exps = 256 := by decide
  simp only [FP.Core.decode, FP.Core.fieldE, FP.Core.fieldT, t1, t2]
  split
  · split
    · exact fun q => by cases q
    · omega
  · split <;> exact fun q => by cases q
theorem fl_u64 {n : Nat} (h : n % 9223372036854775808 ≤ 9218868437227405312) : (UInt64.ofNat n).toNat % 9223372036854775808 ≤ 9218868437227405312 := by
  rw [UInt64.toNat_ofNat']; omega
theorem fl_u32 {n : Nat} (h : n % 2147483648 ≤ 2139095040) : (UInt32.ofNat n).toNat % 2147483648 ≤ 2139095040 := by
  rw [UInt32.toNat_ofNat']; omega
theorem fl_n64 {r : UInt64} (h : r.toNat % 9223372036854775808 ≤ 9218868437227405312) : vf_n64 r := by
  show r &&& 0x7fffffffffffffff ≤ 0x7ff0000000000000
  rw [UInt64.le_iff_toNat_le, UInt64.toNat_and]
  rw [show (0x7fffffffffffffff : UInt64).toNat = 2 ^ 63 - 1 by decide, Nat.and_two_pow_sub_one_eq_mod]
  exact h
theorem fl_n32 {r : UInt32} (h : r.toNat % 2147483648 ≤ 2139095040) : vf_n32 r := by
  show r &&& 0x7fffffff ≤ 0x7f800000
  rw [UInt32.le_iff_toNat_le, UInt32.toNat_and]
  rw [show (0x7fffffff : UInt32).toNat = 2 ^ 31 - 1 by decide, Nat.and_two_pow_sub_one_eq_mod]
  exact h
/-- a float that is a number -/
def fl_32 (r : UInt32) : Prop := r.toNat % 2147483648 ≤ 2139095040
theorem fl_qo {f : FP.Core.Fmt} (hr : ∀ s n d e, fl_ok f (FP.Core.roundRatio f s n d e)) (hq : f.qmin ≤ f.qmax) {x y : FP.Core.Datum} (hx : x ≠ .nan) (hy : ∃ s c q, y = .fin s c q ∧ c ≠ 0) : fl_ok f (FP.Core.quotient f x y) := by
  obtain ⟨s, c, q, rfl, hc⟩ := hy
  cases x with
  | nan => exact absurd rfl hx
  | inf t => exact Or.inl ⟨_, rfl⟩
  | fin t d r =>
    simp only [FP.Core.quotient, if_neg hc]
    exact hr _ _ _ _
theorem fl_i64 (i : Int) : fl_ok FP.Core.b64 (FP.Core.round FP.Core.b64 (FP.Core.ofInt i)) := by
  unfold FP.Core.ofInt
  exact fl_r64 _ _ _ _
theorem fl_i32 (i : Int) : fl_ok FP.Core.b32 (FP.Core.round FP.Core.b32 (FP.Core.ofInt i)) := by
  unfold FP.Core.ofInt
  exact fl_r32 _ _ _ _
def fl_nz (d : FP.Core.Datum) : Bool := match d with
  | .fin _ c _ => decide (c ≠ 0)
  | _ => false
theorem fl_nz_of {d : FP.Core.Datum} (h : fl_nz d = true) : ∃ s c q, d = .fin s c q ∧ c ≠ 0 := by
  cases d with
  | nan => cases h
  | inf s => cases h
  | fin s c q => exact ⟨s, c, q, rfl, of_decide_eq_true h⟩
theorem fl_den64 : ∀ n, n < 240 → fl_nz (FP.Core.decode FP.Core.b64 (FP.i2d (nI (n + 1))).toNat) = true := by decide +kernel
theorem fl_den32 : ∀ n, n < 240 → fl_nz (FP.Core.decode FP.Core.b32 (FP.i2f (nI (n + 1))).toNat) = true := by decide +kernel
theorem ddiv_nn (a : Int32) {n : Nat} (h0 : 0 < n) (h : n ≤ 240) : vf_n64 (FP.ddiv (FP.i2d a) (FP.i2d (nI n))) := by
  refine fl_n64 (fl_u64 (fl_e64 (fl_qo fl_r64 (by decide) ?_ (fl_nz_of ?_))))
  · exact fl_d64 (fl_u64 (fl_e64 (fl_i64 _)))
  · have := fl_den64 (n - 1) (by omega)
    rw [show n - 1 + 1 = n by omega] at this
    exact this
theorem fdiv_nn (a : Int32) {n : Nat} (h0 : 0 < n) (h : n ≤ 240) : fl_32 (FP.fdiv (FP.i2f a) (FP.i2f (nI n))) := by
  refine fl_u32 (fl_e32 (fl_qo fl_r32 (by decide) ?_ (fl_nz_of ?_)))
  · exact fl_d32 (fl_u32 (fl_e32 (fl_i32 _)))
  · have := fl_den32 (n - 1) (by omega)
    rw [show n - 1 + 1 = n by omega] at this
    exact this
theorem f2d_nn {a : UInt32} (h : fl_32 a) : vf_n64 (FP.f2d a) := by
  have hd := fl_d32 h
  have h1 : ¬ FP.Core.fIsNaN a = true := fun q => hd (of_decide_eq_true q)
  rw [show FP.f2d a = if FP.Core.fIsNaN a then FP.nanF2D a else FP.Core.f2d a from rfl, if_neg h1]
  refine fl_n64 (fl_u64 (fl_e64 ?_))
  cases hv : FP.Core.decode FP.Core.b32 a.toNat with
  | nan => exact absurd hv hd
  | inf s => exact Or.inl ⟨s, rfl⟩
  | fin s c q => exact fl_r64 _ _ _ _
theorem sp_nao (M : tM) : ∃ n, n ≤ 240 ∧ sp_na M + sp_no M = nI n := ⟨sp_mn (M 14) 97 120 + sp_mn (M 14) 111 120, by have a := sp_mn_le (M 14) 97 120; have b := sp_mn_le (M 14) 111 120; omega, nI_add _ _⟩
theorem or19_nv {M : tM} (h : oc19 M = 0) : fl_32 (or19 M) := by
  have h0 : 0 < sp_na M + sp_no M := by
    unfold oc19 at h
    split at h
    · assumption
    · exact absurd h (by decide)
  obtain ⟨n, hn, e⟩ := sp_nao M
  rw [e] at h0
  have h1 := Int32.lt_iff_toInt_lt.mp h0
  rw [nI_toInt (by omega), Int32.toInt_zero] at h1
  show fl_32 (FP.fdiv (FP.i2f (sp_na M)) (FP.i2f (sp_na M + sp_no M)))
  rw [e]
  exact fdiv_nn _ (by omega) hn
theorem or20_nn {M : tM} (h : oc19 M = 0) : vf_n64 (or20 M) := by
  have h0 : 0 < sp_na M + sp_no M := by
    unfold oc19 at h
    split at h
    · assumption
    · exact absurd h (by decide)
  obtain ⟨n, hn, e⟩ := sp_nao M
  rw [e] at h0
  have h1 := Int32.lt_iff_toInt_lt.mp h0
  rw [nI_toInt (by omega), Int32.toInt_zero] at h1
  show vf_n64 (FP.ddiv (FP.i2d (sp_ts M 120)) (FP.i2d (sp_na M + sp_no M)))
  rw [e]
  exact ddiv_nn _ (by omega) hn
theorem sp_ts_d {M : tM} {k : Nat} (h : M 14 k = 45) : sp_ts M (k + 1) = sp_ts M k + 0 := by simp [sp_ts, h]
theorem sp_ts_v {M : tM} {k : Nat} (h : M 14 k ≠ 45) : sp_ts M (k + 1) = sp_ts M k + M 11 k := by simp [sp_ts, h]
set_option maxHeartbeats 4000000 in
set_option maxRecDepth 100000 in
theorem metX3_approvedShare (l : Launch) {E : Ev} {G : gh} {mo : Nat} {ma : Nat → Nat} {M : Nat → Nat → Int32} {fo : Nat → Int64} {fi : Nat → Int32} {th : Int32} {nn : Nat → Nat}  (hM : Md E G mo ma M fo fi th nn) : Met l yX3_approvedShare (ws_ yX3_approvedShare cX3_approvedShare 2 (some .float)) ({ frames := 2, cells := 0, slots := 0, locals := 80 }) (gP E G [.ref mo]) (gQ E (fun v G' => mdF4 E G mo ma (oc19 M) (or19 M) M nn v G')) 0 0 (ev_A E) := by
  refine gMet RX3 (by decide) rfl (Nat.le_of_ble_eq_true rfl) ?_
  intro p e s m below meth c ls hx hb S hr hnm hl hG hS
  have hl : lv_has ls 2 [(0, .ref mo)] := hl
  have hF : gh_fr mdT G G := gh_fr.rf
  refine lv_aload_n hx hb dX3_approvedShare_0 rfl (lv_at hl 0 rfl) ?_
  refine lv_bipush (v := 97) hx hb dX3_approvedShare_1 (by decide) ?_
  refine g_call hS (va_runV (As := [.int 97]) (rest := []) S.1 (metX3_many l 97 hM) (cwV 1 S.ts (lw_V q1190 q1192 qs28 q39 q1193) rfl rfl rfl (by decide +kernel) ⟨Nat.le_of_ble_eq_true rfl, Nat.le_of_ble_eq_true rfl⟩) (S.preV hG hS hM.1 rfl) rfl rfl hl.1 rfl (lv_room (Nat.le_of_ble_eq_true rfl)) dX3_approvedShare_3 ⟨Nat.le_of_ble_eq_true rfl, Nat.le_of_ble_eq_true rfl⟩) (fun v G1 H locs hp hG hS => ?_)
  refine W.cs (cells' := 0) (slots' := 0) (by first | rfl | omega) (by first | rfl | omega) ?_
  obtain ⟨rfl, rfl⟩ := hp
  refine W.eq (g2 := F0 m 6 ls [.int (sp_na M)]) rfl ?_
  refine lv_aload_n hx hb dX3_approvedShare_6 rfl (lv_at hl 0 rfl) ?_
  refine lv_bipush (v := 111) hx hb dX3_approvedShare_7 (by decide) ?_
  refine g_call hS (va_runV (As := [.int 111]) (rest := [.int (sp_na M)]) S.1 (metX3_many l 111 hM) (cwV 1 S.ts (lw_V q1190 q1192 qs28 q39 q1193) rfl rfl rfl (by decide +kernel) ⟨Nat.le_of_ble_eq_true rfl, Nat.le_of_ble_eq_true rfl⟩) (S.preV hG hS hM.1 rfl) rfl rfl hl.1 rfl (lv_room (Nat.le_of_ble_eq_true rfl)) dX3_approvedShare_9 ⟨Nat.le_of_ble_eq_true rfl, Nat.le_of_ble_eq_true rfl⟩) (fun v G1 H locs hp hG hS => ?_)
  refine W.cs (cells' := 0) (slots' := 0) (by first | rfl | omega) (by first | rfl | omega) ?_
  obtain ⟨rfl, rfl⟩ := hp
  refine W.eq (g2 := F0 m 12 ls [.int (sp_no M), .int (sp_na M)]) rfl ?_
  refine lv_iadd hx hb dX3_approvedShare_12 ?_
  refine lv_istore_n (lv' := [(1, .int ((sp_na M) + (sp_no M))), (0, .ref mo)]) hx hb dX3_approvedShare_13 rfl hl (by decide) rfl (fun ls hl => ?_)
  refine lv_aload_n hx hb dX3_approvedShare_14 rfl (lv_at hl 1 rfl) ?_
  refine lv_iload_n hx hb dX3_approvedShare_15 rfl (lv_at hl 0 rfl) ?_
  refine lv_if_le (tgt := 23) hx hb dX3_approvedShare_16 (by decide) (fun h16 => ?_) (fun h16 => ?_)
  · have hc : oc19 M = 1 := by rw [oc19, if_neg (fun q => by have a := Int32.lt_iff_toInt_lt.mp q; have b := Int32.le_iff_toInt_le.mp h16; omega)]
    refine lv_iconst (v := 0) hx hb dX3_approvedShare_23 (by decide) ?_
    refine g_call hS (va_runV (As := [.int 0]) (rest := []) S.1 (metX3_checked l 0 hM) (cwV 1 S.ts (lw_V q1115 q1117 qs26 q39 q1118) rfl rfl rfl (by decide +kernel) ⟨Nat.le_of_ble_eq_true rfl, Nat.le_of_ble_eq_true rfl⟩) (S.preV hG hS hM.1 rfl) rfl rfl hl.1 rfl (lv_room (Nat.le_of_ble_eq_true rfl)) dX3_approvedShare_24 ⟨Nat.le_of_ble_eq_true rfl, Nat.le_of_ble_eq_true rfl⟩) (fun v G1 H locs hp hG hS => ?_)
    refine W.cs (cells' := 0) (slots' := 0) (by first | rfl | omega) (by first | rfl | omega) ?_
    obtain ⟨rfl, hM, hF2⟩ := hp
    have hF := hF.tr hF2
    have hM : Md E _ mo ma M fo fi 1 nn := hM
    refine W.eq (g2 := F0 m 27 ls [.int 1]) rfl ?_
    refine lv_if_le (tgt := 34) hx hb dX3_approvedShare_27 (by decide) (fun h => absurd h (by decide)) (fun _ => ?_)
    refine lv_fconst0 hx hb dX3_approvedShare_30 ?_
    refine lv_goto (tgt := 44) hx hb dX3_approvedShare_31 (by decide) ?_
    exact g_fret S hr dX3_approvedShare_44 hG hS (by first | exact Nat.le_refl _ | omega) (by first | exact Nat.le_refl _ | omega) ⟨_, rfl, fun q => absurd (hc.symm.trans q) (by decide), mdQ.bad hc (by decide) hM hF⟩
  · have hc : oc19 M = 0 := by rw [oc19, if_pos (Int32.not_le.mp h16)]
    refine lv_iconst (v := 1) hx hb dX3_approvedShare_19 (by decide) ?_
    refine lv_goto (tgt := 24) hx hb dX3_approvedShare_20 (by decide) ?_
    refine g_call hS (va_runV (As := [.int 1]) (rest := []) S.1 (metX3_checked l 1 hM) (cwV 1 S.ts (lw_V q1115 q1117 qs26 q39 q1118) rfl rfl rfl (by decide +kernel) ⟨Nat.le_of_ble_eq_true rfl, Nat.le_of_ble_eq_true rfl⟩) (S.preV hG hS hM.1 rfl) rfl rfl hl.1 rfl (lv_room (Nat.le_of_ble_eq_true rfl)) dX3_approvedShare_24 ⟨Nat.le_of_ble_eq_true rfl, Nat.le_of_ble_eq_true rfl⟩) (fun v G1 H locs hp hG hS => ?_)
    refine W.cs (cells' := 0) (slots' := 0) (by first | rfl | omega) (by first | rfl | omega) ?_
    obtain ⟨rfl, hM, hF2⟩ := hp
    have hF := hF.tr hF2
    have hM : Md E _ mo ma M fo fi 0 nn := hM
    refine W.eq (g2 := F0 m 27 ls [.int 0]) rfl ?_
    refine lv_if_le (tgt := 34) hx hb dX3_approvedShare_27 (by decide) (fun _ => ?_) (fun h => absurd h (by decide))
    refine lv_aload_n hx hb dX3_approvedShare_34 rfl (lv_at hl 1 rfl) ?_
    refine lv_bipush (v := 97) hx hb dX3_approvedShare_35 (by decide) ?_
    refine g_call hS (va_runV (As := [.int 97]) (rest := []) S.1 (metX3_many l 97 hM) (cwV 1 S.ts (lw_V q1190 q1192 qs28 q39 q1193) rfl rfl rfl (by decide +kernel) ⟨Nat.le_of_ble_eq_true rfl, Nat.le_of_ble_eq_true rfl⟩) (S.preV hG hS hM.1 rfl) rfl rfl hl.1 rfl (lv_room (Nat.le_of_ble_eq_true rfl)) dX3_approvedShare_37 ⟨Nat.le_of_ble_eq_true rfl, Nat.le_of_ble_eq_true rfl⟩) (fun v G1 H locs hp hG hS => ?_)
    refine W.cs (cells' := 0) (slots' := 0) (by first | rfl | omega) (by first | rfl | omega) ?_
    obtain ⟨rfl, rfl⟩ := hp
    refine W.eq (g2 := F0 m 40 ls [.int (sp_na M)]) rfl ?_
    refine lv_i2f hx hb dX3_approvedShare_40 ?_
    refine lv_iload_n hx hb dX3_approvedShare_41 rfl (lv_at hl 0 rfl) ?_
    refine lv_i2f hx hb dX3_approvedShare_42 ?_
    refine lv_fdiv hx hb dX3_approvedShare_43 (fl_n32 (or19_nv hc)) ?_
    exact g_fret S hr dX3_approvedShare_44 hG hS (by first | exact Nat.le_refl _ | omega) (by first | exact Nat.le_refl _ | omega) ⟨_, rfl, fun _ => rfl, mdQ.ok hc hM hF⟩
set_option maxHeartbeats 4000000 in
set_option maxRecDepth 100000 in
theorem metX3_meanTolerance (l : Launch) {E : Ev} {G : gh} {mo : Nat} {ma : Nat → Nat} {M : Nat → Nat → Int32} {fo : Nat → Int64} {fi : Nat → Int32} {th : Int32} {nn : Nat → Nat}  (hM : Md E G mo ma M fo fi th nn) : Met l yX3_meanTolerance (ws_ yX3_meanTolerance cX3_meanTolerance 3 (some .double)) ({ frames := 2, cells := 0, slots := 0, locals := 80 }) (gP E G [.ref mo]) (gQ E (fun v G' => mdD8 E G mo ma (oc19 M) (or20 M) M nn v G')) 0 0 (ev_A E) := by
  refine gMet RX3 (by decide) rfl (Nat.le_of_ble_eq_true rfl) ?_
  intro p e s m below meth c ls hx hb S hr hnm hl hG hS
  have hl : lv_has ls 3 [(0, .ref mo)] := hl
  have hF : gh_fr mdT G G := gh_fr.rf
  refine lv_iconst (v := 0) hx hb dX3_meanTolerance_0 (by decide) ?_
  refine lv_istore_n (lv' := [(1, .int 0), (0, .ref mo)]) hx hb dX3_meanTolerance_1 rfl hl (by decide) rfl (fun ls hl => ?_)
  refine lv_iconst (v := 0) hx hb dX3_meanTolerance_2 (by decide) ?_
  refine lv_istore_n (lv' := [(2, .int 0), (1, .int 0), (0, .ref mo)]) hx hb dX3_meanTolerance_3 rfl hl (by decide) rfl (fun ls hl => ?_)
  have hl : lv_has ls 3 [(2, .int (nI 0)), (1, .int (sp_ts M 0)), (0, .ref mo)] := (lv_sub hl [0, 1, 2] rfl)
  refine g_while (α := Nat) (fun k => 120 - k) (fun k G1 => G = G1 ∧ k ≤ 120) (fun _ => 0) (fun _ => 0) 3 4 (fun k => [(2, .int (nI k)), (1, .int (sp_ts M k)), (0, .ref mo)]) ?_ 0 G s.heap _ ls ⟨rfl, Nat.zero_le _⟩ hG hS hl
  intro k G1 H locs ls ih hI hG hS hl
  obtain ⟨rfl, hk⟩ := hI
  have hl : lv_has ls 3 [(2, .int (nI k)), (1, .int (sp_ts M k)), (0, .ref mo)] := hl
  refine lv_iload_n hx hb dX3_meanTolerance_4 rfl (lv_at hl 0 rfl) ?_
  refine lv_bipush (v := 120) hx hb dX3_meanTolerance_5 (by decide) ?_
  refine lv_icmp_ge (tgt := 40) hx hb dX3_meanTolerance_7 (by decide) (fun h7 => ?_) (fun h7 => ?_)
  · have e : k = 120 := by have := (nI_leI (a := 120) (b := k) (by omega) (by omega)).mp h7; omega
    subst e
    refine lv_aload_n hx hb dX3_meanTolerance_40 rfl (lv_at hl 2 rfl) ?_
    refine lv_bipush (v := 97) hx hb dX3_meanTolerance_41 (by decide) ?_
    refine g_call hS (va_runV (As := [.int 97]) (rest := []) S.1 (metX3_many l 97 hM) (cwV 1 S.ts (lw_V q1190 q1192 qs28 q39 q1193) rfl rfl rfl (by decide +kernel) ⟨Nat.le_of_ble_eq_true rfl, Nat.le_of_ble_eq_true rfl⟩) (S.preV hG hS hM.1 rfl) rfl rfl hl.1 rfl (lv_room (Nat.le_of_ble_eq_true rfl)) dX3_meanTolerance_43 ⟨Nat.le_of_ble_eq_true rfl, Nat.le_of_ble_eq_true rfl⟩) (fun v G1 H locs hp hG hS => ?_)
    refine W.cs (cells' := 0) (slots' := 0) (by first | rfl | omega) (by first | rfl | omega) ?_
    obtain ⟨rfl, rfl⟩ := hp
    refine W.eq (g2 := F0 m 46 ls [.int (sp_na M)]) rfl ?_
    refine lv_aload_n hx hb dX3_meanTolerance_46 rfl (lv_at hl 2 rfl) ?_
    refine lv_bipush (v := 111) hx hb dX3_meanTolerance_47 (by decide) ?_
    refine g_call hS (va_runV (As := [.int 111]) (rest := [.int (sp_na M)]) S.1 (metX3_many l 111 hM) (cwV 1 S.ts (lw_V q1190 q1192 qs28 q39 q1193) rfl rfl rfl (by decide +kernel) ⟨Nat.le_of_ble_eq_true rfl, Nat.le_of_ble_eq_true rfl⟩) (S.preV hG hS hM.1 rfl) rfl rfl hl.1 rfl (lv_room (Nat.le_of_ble_eq_true rfl)) dX3_meanTolerance_49 ⟨Nat.le_of_ble_eq_true rfl, Nat.le_of_ble_eq_true rfl⟩) (fun v G1 H locs hp hG hS => ?_)
    refine W.cs (cells' := 0) (slots' := 0) (by first | rfl | omega) (by first | rfl | omega) ?_
    obtain ⟨rfl, rfl⟩ := hp
    refine W.eq (g2 := F0 m 52 ls [.int (sp_no M), .int (sp_na M)]) rfl ?_
    refine lv_iadd hx hb dX3_meanTolerance_52 ?_
    refine lv_istore_n (lv' := [(2, .int ((sp_na M) + (sp_no M))), (1, .int (sp_ts M 120)), (0, .ref mo)]) hx hb dX3_meanTolerance_53 rfl hl (by decide) rfl (fun ls hl => ?_)
    refine lv_aload_n hx hb dX3_meanTolerance_54 rfl (lv_at hl 2 rfl) ?_
    refine lv_iload_n hx hb dX3_meanTolerance_55 rfl (lv_at hl 0 rfl) ?_
    refine lv_if_le (tgt := 63) hx hb dX3_meanTolerance_56 (by decide) (fun h56 => ?_) (fun h56 => ?_)
    · have hc : oc19 M = 1 := by rw [oc19, if_neg (fun q => by have a := Int32.lt_iff_toInt_lt.mp q; have b := Int32.le_iff_toInt_le.mp h56; omega)]
      refine lv_iconst (v := 0) hx hb dX3_meanTolerance_63 (by decide) ?_
      refine g_call hS (va_runV (As := [.int 0]) (rest := []) S.1 (metX3_checked l 0 hM) (cwV 1 S.ts (lw_V q1115 q1117 qs26 q39 q1118) rfl rfl rfl (by decide +kernel) ⟨Nat.le_of_ble_eq_true rfl, Nat.le_of_ble_eq_true rfl⟩) (S.preV hG hS hM.1 rfl) rfl rfl hl.1 rfl (lv_room (Nat.le_of_ble_eq_true rfl)) dX3_meanTolerance_64 ⟨Nat.le_of_ble_eq_true rfl, Nat.le_of_ble_eq_true rfl⟩) (fun v G1 H locs hp hG hS => ?_)
      refine W.cs (cells' := 0) (slots' := 0) (by first | rfl | omega) (by first | rfl | omega) ?_
      obtain ⟨rfl, hM, hF2⟩ := hp
      have hF := hF.tr hF2
      have hM : Md E _ mo ma M fo fi 1 nn := hM
      refine W.eq (g2 := F0 m 67 ls [.int 1]) rfl ?_
      refine lv_if_le (tgt := 74) hx hb dX3_meanTolerance_67 (by decide) (fun h => absurd h (by decide)) (fun _ => ?_)
      refine lv_dconst0 hx hb dX3_meanTolerance_70 ?_
      refine lv_goto (tgt := 79) hx hb dX3_meanTolerance_71 (by decide) ?_
      exact g_dret S hr dX3_meanTolerance_79 hG hS (by first | exact Nat.le_refl _ | omega) (by first | exact Nat.le_refl _ | omega) ⟨_, rfl, fun q => absurd (hc.symm.trans q) (by decide), mdQ.bad hc (by decide) hM hF⟩
    · have hc : oc19 M = 0 := by rw [oc19, if_pos (Int32.not_le.mp h56)]
      refine lv_iconst (v := 1) hx hb dX3_meanTolerance_59 (by decide) ?_
      refine lv_goto (tgt := 64) hx hb dX3_meanTolerance_60 (by decide) ?_
      refine g_call hS (va_runV (As := [.int 1]) (rest := []) S.1 (metX3_checked l 1 hM) (cwV 1 S.ts (lw_V q1115 q1117 qs26 q39 q1118) rfl rfl rfl (by decide +kernel) ⟨Nat.le_of_ble_eq_true rfl, Nat.le_of_ble_eq_true rfl⟩) (S.preV hG hS hM.1 rfl) rfl rfl hl.1 rfl (lv_room (Nat.le_of_ble_eq_true rfl)) dX3_meanTolerance_64 ⟨Nat.le_of_ble_eq_true rfl, Nat.le_of_ble_eq_true rfl⟩) (fun v G1 H locs hp hG hS => ?_)
      refine W.cs (cells' := 0) (slots' := 0) (by first | rfl | omega) (by first | rfl | omega) ?_
      obtain ⟨rfl, hM, hF2⟩ := hp
      have hF := hF.tr hF2
      have hM : Md E _ mo ma M fo fi 0 nn := hM
      refine W.eq (g2 := F0 m 67 ls [.int 0]) rfl ?_
      refine lv_if_le (tgt := 74) hx hb dX3_meanTolerance_67 (by decide) (fun _ => ?_) (fun h => absurd h (by decide))
      refine lv_iload_n hx hb dX3_meanTolerance_74 rfl (lv_at hl 1 rfl) ?_
      refine lv_i2d hx hb dX3_meanTolerance_75 ?_
      refine lv_iload_n hx hb dX3_meanTolerance_76 rfl (lv_at hl 0 rfl) ?_
      refine lv_i2d hx hb dX3_meanTolerance_77 ?_
      refine lv_ddiv hx hb dX3_meanTolerance_78 (or20_nn hc) ?_
      exact g_dret S hr dX3_meanTolerance_79 hG hS (by first | exact Nat.le_refl _ | omega) (by first | exact Nat.le_refl _ | omega) ⟨_, rfl, fun _ => rfl, mdQ.ok hc hM hF⟩
  · have hkl : k < 120 := Nat.lt_of_not_le fun q => h7 (nI_le (a := 120) (b := k) q (by omega))
    refine lv_iload_n hx hb dX3_meanTolerance_10 rfl (lv_at hl 1 rfl) ?_
    refine lv_aload_n hx hb dX3_meanTolerance_11 rfl (lv_at hl 2 rfl) ?_
    refine gf_X3_53 S dX3_meanTolerance_12 hG hM.1 rfl ?_
    refine lv_iload_n hx hb dX3_meanTolerance_15 rfl (lv_at hl 0 rfl) ?_
    refine n_cald S dX3_meanTolerance_16 hG (hM.arr 14 (by decide)) (gix.mk (show k < 120 by omega) (by decide)) ?_
    refine lv_bipush (v := 45) hx hb dX3_meanTolerance_17 (by decide) ?_
    refine lv_icmp_ne (tgt := 26) hx hb dX3_meanTolerance_19 (by decide) (fun h19 => ?_) (fun h19 => ?_)
    · refine lv_aload_n hx hb dX3_meanTolerance_26 rfl (lv_at hl 2 rfl) ?_
      refine gf_X3_43 S dX3_meanTolerance_27 hG hM.1 rfl ?_
      refine lv_iload_n hx hb dX3_meanTolerance_30 rfl (lv_at hl 0 rfl) ?_
      refine n_iald S dX3_meanTolerance_31 hG (hM.arr 11 (by decide)) (gix.mk (show k < 120 by omega) (by decide)) ?_
      refine lv_iadd hx hb dX3_meanTolerance_32 ?_
      refine W.eq (g2 := F0 m 33 ls [.int (sp_ts M (k + 1))]) (by rw [sp_ts_v h19]) ?_
      refine lv_istore_n (lv' := [(1, .int (sp_ts M (k + 1))), (2, .int (nI k)), (0, .ref mo)]) hx hb dX3_meanTolerance_33 rfl hl (by decide) rfl (fun ls hl => ?_)
      refine lv_iinc (v := (nI (k + 1))) (lv' := [(2, .int (nI (k + 1))), (1, .int (sp_ts M (k + 1))), (0, .ref mo)]) hx hb dX3_meanTolerance_34 hl (k := 1) rfl (nI_1 k) (by decide) rfl (fun ls hl => ?_)
      refine lv_goto (tgt := 4) hx hb dX3_meanTolerance_37 (by decide) ?_
      exact ih (k + 1) _ H locs ls ⟨rfl, hkl⟩ (by show 120 - (k + 1) < 120 - k; omega) hG hS (lv_sub hl [0, 1, 2] rfl)
    · refine lv_iconst (v := 0) hx hb dX3_meanTolerance_22 (by decide) ?_
      refine lv_goto (tgt := 32) hx hb dX3_meanTolerance_23 (by decide) ?_
      refine lv_iadd hx hb dX3_meanTolerance_32 ?_
      refine W.eq (g2 := F0 m 33 ls [.int (sp_ts M (k + 1))]) (by rw [sp_ts_d h19]) ?_
      refine lv_istore_n (lv' := [(1, .int (sp_ts M (k + 1))), (2, .int (nI k)), (0, .ref mo)]) hx hb dX3_meanTolerance_33 rfl hl (by decide) rfl (fun ls hl => ?_)
      refine lv_iinc (v := (nI (k + 1))) (lv' := [(2, .int (nI (k + 1))), (1, .int (sp_ts M (k + 1))), (0, .ref mo)]) hx hb dX3_meanTolerance_34 hl (k := 1) rfl (nI_1 k) (by decide) rfl (fun ls hl => ?_)
      refine lv_goto (tgt := 4) hx hb dX3_meanTolerance_37 (by decide) ?_
      exact ih (k + 1) _ H locs ls ⟨rfl, hkl⟩ (by show 120 - (k + 1) < 120 - k; omega) hG hS (lv_sub hl [0, 1, 2] rfl)
/-- the cells that the constructor makes, in order; the object with the first of them -/
def mdC (E : Ev) (i : Nat) : gC := if i = 13 then (102, 0, .inl (ev_k E 2, 10, .inl (fun _ => 0))) else if i = 15 then (103, 0, .inl (ev_k E 1, 10, .inr (.inl (fun _ => 0)))) else (101, i, .inl (ev_k E (mtk i), mln i, .inl (fun _ => 0)))
def mdP (E : Ev) (G : gh) (mo : Nat) (ar : List Nat) (fs : List Value) : Prop := G mo = some (100, 0, .inr (8, fs)) ∧ ∀ j a, ar[j]? = some a → G a = some (mdC E j)
theorem mdP.step {E : Ev} {G : gh} {mo : Nat} {ar : List Nat} {fs fs' : List Value} {q : Nat} (h : mdP E G mo ar fs) (hn : G q = none) (hi : ∀ j, (mdC E j).1 ≠ 100) : mdP E (gh_up (gh_up G q (mdC E ar.length)) mo (100, 0, .inr (8, fs'))) mo (ar ++ [q]) fs' := by
  refine ⟨gh_up_s, fun j a ha => ?_⟩
  by_cases hj : j < ar.length
  · rw [List.getElem?_append_left hj] at ha
    have h1 := h.2 j a ha
    have n1 : a ≠ mo := gh_ne h1 h.1 (fun z => hi j (congrArg Prod.fst z))
    have n2 : a ≠ q := fun z => by rw [z, hn] at h1; cases h1
    rw [gh_up_n n1, gh_up_n n2]; exact h1
  · rw [List.getElem?_append_right (by omega)] at ha
    have hz : j - ar.length < 1 := (List.getElem?_eq_some_iff.mp ha).1
    have hk : j = ar.length := by omega
    subst hk
    rw [Nat.sub_self] at ha
    cases ha
    have n1 : q ≠ mo := fun z => by rw [z, h.1] at hn; cases hn
    rw [gh_up_n n1, gh_up_s]
theorem mdC_t (E : Ev) (j : Nat) : (mdC E j).1 ≠ 100 ∧ mdT (mdC E j).1 (mdC E j).2.1 := by
  unfold mdC
  split
  · exact ⟨fun (z : (_ : Nat) = 100) => absurd z (show ¬ ((_ : Nat) = 100) from Nat.ne_of_beq_eq_false rfl), Or.inr (Or.inr (Or.inl rfl))⟩
  · split
    · exact ⟨fun (z : (_ : Nat) = 100) => absurd z (show ¬ ((_ : Nat) = 100) from Nat.ne_of_beq_eq_false rfl), Or.inr (Or.inr (Or.inr rfl))⟩
    · exact ⟨fun (z : (_ : Nat) = 100) => absurd z (show ¬ ((_ : Nat) = 100) from Nat.ne_of_beq_eq_false rfl), Or.inr (Or.inl rfl)⟩
theorem mdP.at {E : Ev} {G : gh} {mo : Nat} {ar : List Nat} {fs : List Value} (h : mdP E G mo ar fs) {q : Nat} {c : gC} (hn : G q = none) : gh_up G q c mo = some (100, 0, .inr (8, fs)) := by
  have n1 : mo ≠ q := fun z => by rw [← z, h.1] at hn; cases hn
  rw [gh_up_n n1]; exact h.1
theorem mdP.fields {E : Ev} {G : gh} {mo : Nat} {ar : List Nat} {fs fs' : List Value} (h : mdP E G mo ar fs) : mdP E (gh_up G mo (100, 0, .inr (8, fs'))) mo ar fs' := by
  refine ⟨gh_up_s, fun j a ha => ?_⟩
  have h1 := h.2 j a ha
  have n1 : a ≠ mo := gh_ne h1 h.1 (fun z => (mdC_t E j).1 (congrArg Prod.fst z))
  rw [gh_up_n n1]; exact h1
def mdN : tN := fun k => if k = 3 then 1 else 0
def mdM (n : Nat) : tM := va_up (va_up (fun _ _ => 0) 4 (upd (fun _ => 0) 0 (-1))) 14 (fun q => if q < n then 45 else 0)
theorem mdP.md {E : Ev} {G : gh} {mo : Nat} {ma : Nat → Nat} (h : mdP E G mo [ma 0, ma 1, ma 2, ma 3, ma 4, ma 5, ma 6, ma 7, ma 8, ma 9, ma 10, ma 11, ma 12, ma 13, ma 14, ma 15] (mdF ma 0 mdN)) : Md E G mo ma (fun _ _ => 0) (fun _ => 0) (fun _ => 0) 0 mdN := by
  refine ⟨h.1, fun i hi h13 => ?_, h.2 13 _ rfl, h.2 15 _ rfl⟩
  have key : ∀ i, i < 15 → i ≠ 13 → mdC E i = (101, i, .inl (ev_k E (mtk i), mln i, .inl (fun _ => 0))) := by
    intro i hi h13
    unfold mdC
    rw [if_neg h13, if_neg (by omega)]
  rw [← key i hi h13]
  refine h.2 i (ma i) ?_
  match i, hi with
  | 0, _ => rfl
  | 1, _ => rfl
  | 2, _ => rfl
  | 3, _ => rfl
  | 4, _ => rfl
  | 5, _ => rfl
  | 6, _ => rfl
  | 7, _ => rfl
  | 8, _ => rfl
  | 9, _ => rfl
  | 10, _ => rfl
  | 11, _ => rfl
  | 12, _ => rfl
  | 13, _ => rfl
  | 14, _ => rfl
def ml16 (l : List Nat) : Nat → Nat := fun i => l.getD i 0
theorem mdM_step {E : Ev} {G : gh} {mo : Nat} {ma : Nat → Nat} {fo : Nat → Int64} {fi : Nat → Int32} {th : Int32} {nn : tN} {k : Nat} (hM : Md E G mo ma (mdM k) fo fi th nn) : Md E (gh_up G (ma 14) (101, 14, .inl (ev_k E (mtk 14), mln 14, .inl (upd (mdM k 14) k (vp_nar .char 45))))) mo ma (mdM (k + 1)) fo fi th nn := by
  have h := hM.set 14 (by decide) (upd (mdM k 14) k (vp_nar .char 45))
  have e : va_up (mdM k) 14 (upd (mdM k 14) k (vp_nar .char 45)) = mdM (k + 1) := by
    funext i j
    unfold va_up
    split
    · rename_i hi
      subst hi
      show upd (fun q => if q < k then 45 else 0) k (vp_nar .char 45) j = if j < k + 1 then 45 else 0
      rw [show vp_nar .char 45 = 45 from rfl]
      by_cases hj : j = k
      · subst hj; rw [pk_us, if_pos (Nat.lt_succ_self _)]
      · rw [pk_un hj]
        by_cases h2 : j < k
        · rw [if_pos h2, if_pos (by omega)]
        · rw [if_neg h2, if_neg (by omega)]
    · rename_i hi
      unfold mdM va_up
      rw [if_neg hi, if_neg hi]
  rw [e] at h
  exact h
set_option maxHeartbeats 4000000 in
set_option maxRecDepth 100000 in
theorem metX3_init (l : Launch) {E : Ev} {G : gh} {mo : Nat}  (hM : G mo = some (100, 0, .inr (8, [.null, .null, .null, .null, .null, .null, .null, .null, .null, .null, .null, .null, .null, .null, .null, .null, .int 0, .int 0, .int 0, .int 0, .int 0, .int 0]))) : Met l yX3_init (ws_ yX3_init cX3_init 2 none) ({ frames := 1, cells := 16, slots := 708, locals := 40 }) (gP E G [.ref mo]) (gQ E (fun v G' => v = none ∧ ∃ ma : Nat → Nat, Md E G' mo ma (mdM 120) (fun _ => 0) (fun _ => 0) 0 mdN ∧ gh_fr mdT G G')) 16 708 (ev_A E) := by
  refine gMet RX3 (by decide) rfl (Nat.le_of_ble_eq_true rfl) ?_
  intro p e s m below meth c ls hx hb S hr hnm hl hG hS
  have hl : lv_has ls 2 [(0, .ref mo)] := hl
  have hF : gh_fr mdT G G := gh_fr.rf
  have hI : mdP E G mo [] [.null, .null, .null, .null, .null, .null, .null, .null, .null, .null, .null, .null, .null, .null, .null, .null, .int 0, .int 0, .int 0, .int 0, .int 0, .int 0] := ⟨hM, fun j a h => by simp at h⟩
  have hF : gh_fr mdT G G := gh_fr.rf
  clear hM
  refine lv_aload_n hx hb dX3_init_0 rfl (lv_at hl 0 rfl) ?_
  refine W.objInit hx hb S.1.2.2.2.1 (S.ts _ q989) (S.ts _ q72) (S.ts _ q73) rfl (by rw [S.1.2.2.1]; exact hl.1) rfl dX3_init_1 (Nat.le_of_ble_eq_true rfl) (Nat.le_of_ble_eq_true rfl) ?_
  refine W.eq (g2 := F0 m 4 ls []) rfl ?_
  refine lv_aload_n hx hb dX3_init_4 rfl (lv_at hl 0 rfl) ?_
  refine lv_bipush (v := 6) hx hb dX3_init_5 (by decide) ?_
  refine g_newa (atype := .int) (ty := .int) (a0 := (6, .inl (fun _ => 0))) S (S.ts _ q1057) rfl 0 rfl (fun C h => by cases h) (fun _ => rfl) dX3_init_7 (101) (0) (by decide) (by decide) (by decide) (Nat.le_of_ble_eq_true rfl) (Nat.le_of_ble_eq_true rfl) hG hS (fun q0 H hn hG hS => ?_)
  refine W.cs (cells' := 1) (slots' := 6) rfl rfl ?_
  refine pf_X3_7 S hnm dX3_init_9 rfl rfl hG hS (hI.at hn) (Nat.le_of_ble_eq_true rfl) (fun H locs hG hS => ?_)
  obtain ⟨G0, hG, hF, hI⟩ : ∃ G1, gh_W E G1 H ∧ gh_fr mdT G G1 ∧ mdP E G1 mo [q0] [.ref q0, .null, .null, .null, .null, .null, .null, .null, .null, .null, .null, .null, .null, .null, .null, .null, .int 0, .int 0, .int 0, .int 0, .int 0, .int 0] := ⟨_, hG, hF.tr ((gh_fr.new hn).tr (gh_fr.set (hI.at hn) (Or.inl rfl))), hI.step hn (fun j => (mdC_t E j).1)⟩
  refine lv_aload_n hx hb dX3_init_12 rfl (lv_at hl 0 rfl) ?_
  refine lv_bipush (v := 10) hx hb dX3_init_13 (by decide) ?_
  refine g_newa (atype := .int) (ty := .int) (a0 := (10, .inl (fun _ => 0))) S (S.ts _ q1057) rfl 0 rfl (fun C h => by cases h) (fun _ => rfl) dX3_init_15 (101) (1) (by decide) (by decide) (by decide) (Nat.le_of_ble_eq_true rfl) (Nat.le_of_ble_eq_true rfl) hG hS (fun q1 H hn hG hS => ?_)
  refine W.cs (cells' := 2) (slots' := 16) rfl rfl ?_
  refine pf_X3_13 S hnm dX3_init_17 rfl rfl hG hS (hI.at hn) (Nat.le_of_ble_eq_true rfl) (fun H locs hG hS => ?_)
  obtain ⟨G1, hG, hF, hI⟩ : ∃ G1, gh_W E G1 H ∧ gh_fr mdT G G1 ∧ mdP E G1 mo [q0, q1] [.ref q0, .ref q1, .null, .null, .null, .null, .null, .null, .null, .null, .null, .null, .null, .null, .null, .null, .int 0, .int 0, .int 0, .int 0, .int 0, .int 0] := ⟨_, hG, hF.tr ((gh_fr.new hn).tr (gh_fr.set (hI.at hn) (Or.inl rfl))), hI.step hn (fun j => (mdC_t E j).1)⟩
  refine lv_aload_n hx hb dX3_init_20 rfl (lv_at hl 0 rfl) ?_
  refine lv_bipush (v := 10) hx hb dX3_init_21 (by decide) ?_
  refine g_newa (atype := .int) (ty := .int) (a0 := (10, .inl (fun _ => 0))) S (S.ts _ q1057) rfl 0 rfl (fun C h => by cases h) (fun _ => rfl) dX3_init_23 (101) (2) (by decide) (by decide) (by decide) (Nat.le_of_ble_eq_true rfl) (Nat.le_of_ble_eq_true rfl) hG hS (fun q2 H hn hG hS => ?_)
  refine W.cs (cells' := 3) (slots' := 26) rfl rfl ?_
  refine pf_X3_16 S hnm dX3_init_25 rfl rfl hG hS (hI.at hn) (Nat.le_of_ble_eq_true rfl) (fun H locs hG hS => ?_)
  obtain ⟨G2, hG, hF, hI⟩ : ∃ G1, gh_W E G1 H ∧ gh_fr mdT G G1 ∧ mdP E G1 mo [q0, q1, q2] [.ref q0, .ref q1, .ref q2, .null, .null, .null, .null, .null, .null, .null, .null, .null, .null, .null, .null, .null, .int 0, .int 0, .int 0, .int 0, .int 0, .int 0] := ⟨_, hG, hF.tr ((gh_fr.new hn).tr (gh_fr.set (hI.at hn) (Or.inl rfl))), hI.step hn (fun j => (mdC_t E j).1)⟩
  refine lv_aload_n hx hb dX3_init_28 rfl (lv_at hl 0 rfl) ?_
  refine lv_bipush (v := 10) hx hb dX3_init_29 (by decide) ?_
  refine g_newa (atype := .int) (ty := .int) (a0 := (10, .inl (fun _ => 0))) S (S.ts _ q1057) rfl 0 rfl (fun C h => by cases h) (fun _ => rfl) dX3_init_31 (101) (3) (by decide) (by decide) (by decide) (Nat.le_of_ble_eq_true rfl) (Nat.le_of_ble_eq_true rfl) hG hS (fun q3 H hn hG hS => ?_)
  refine W.cs (cells' := 4) (slots' := 36) rfl rfl ?_
  refine pf_X3_19 S hnm dX3_init_33 rfl rfl hG hS (hI.at hn) (Nat.le_of_ble_eq_true rfl) (fun H locs hG hS => ?_)
  obtain ⟨G3, hG, hF, hI⟩ : ∃ G1, gh_W E G1 H ∧ gh_fr mdT G G1 ∧ mdP E G1 mo [q0, q1, q2, q3] [.ref q0, .ref q1, .ref q2, .ref q3, .null, .null, .null, .null, .null, .null, .null, .null, .null, .null, .null, .null, .int 0, .int 0, .int 0, .int 0, .int 0, .int 0] := ⟨_, hG, hF.tr ((gh_fr.new hn).tr (gh_fr.set (hI.at hn) (Or.inl rfl))), hI.step hn (fun j => (mdC_t E j).1)⟩
  refine lv_aload_n hx hb dX3_init_36 rfl (lv_at hl 0 rfl) ?_
  refine lv_iconst (v := 4) hx hb dX3_init_37 (by decide) ?_
  refine g_newa (atype := .int) (ty := .int) (a0 := (4, .inl (fun _ => 0))) S (S.ts _ q1057) rfl 0 rfl (fun C h => by cases h) (fun _ => rfl) dX3_init_38 (101) (4) (by decide) (by decide) (by decide) (Nat.le_of_ble_eq_true rfl) (Nat.le_of_ble_eq_true rfl) hG hS (fun q4 H hn hG hS => ?_)
  refine W.cs (cells' := 5) (slots' := 40) rfl rfl ?_
  refine pf_X3_22 S hnm dX3_init_40 rfl rfl hG hS (hI.at hn) (Nat.le_of_ble_eq_true rfl) (fun H locs hG hS => ?_)
  obtain ⟨G4, hG, hF, hI⟩ : ∃ G1, gh_W E G1 H ∧ gh_fr mdT G G1 ∧ mdP E G1 mo [q0, q1, q2, q3, q4] [.ref q0, .ref q1, .ref q2, .ref q3, .ref q4, .null, .null, .null, .null, .null, .null, .null, .null, .null, .null, .null, .int 0, .int 0, .int 0, .int 0, .int 0, .int 0] := ⟨_, hG, hF.tr ((gh_fr.new hn).tr (gh_fr.set (hI.at hn) (Or.inl rfl))), hI.step hn (fun j => (mdC_t E j).1)⟩
  refine lv_aload_n hx hb dX3_init_43 rfl (lv_at hl 0 rfl) ?_
  refine lv_bipush (v := 12) hx hb dX3_init_44 (by decide) ?_
  refine g_newa (atype := .int) (ty := .int) (a0 := (12, .inl (fun _ => 0))) S (S.ts _ q1057) rfl 0 rfl (fun C h => by cases h) (fun _ => rfl) dX3_init_46 (101) (5) (by decide) (by decide) (by decide) (Nat.le_of_ble_eq_true rfl) (Nat.le_of_ble_eq_true rfl) hG hS (fun q5 H hn hG hS => ?_)
  refine W.cs (cells' := 6) (slots' := 52) rfl rfl ?_
  refine pf_X3_25 S hnm dX3_init_48 rfl rfl hG hS (hI.at hn) (Nat.le_of_ble_eq_true rfl) (fun H locs hG hS => ?_)
  obtain ⟨G5, hG, hF, hI⟩ : ∃ G1, gh_W E G1 H ∧ gh_fr mdT G G1 ∧ mdP E G1 mo [q0, q1, q2, q3, q4, q5] [.ref q0, .ref q1, .ref q2, .ref q3, .ref q4, .ref q5, .null, .null, .null, .null, .null, .null, .null, .null, .null, .null, .int 0, .int 0, .int 0, .int 0, .int 0, .int 0] := ⟨_, hG, hF.tr ((gh_fr.new hn).tr (gh_fr.set (hI.at hn) (Or.inl rfl))), hI.step hn (fun j => (mdC_t E j).1)⟩
  refine lv_aload_n hx hb dX3_init_51 rfl (lv_at hl 0 rfl) ?_
  refine lv_bipush (v := 12) hx hb dX3_init_52 (by decide) ?_
  refine g_newa (atype := .int) (ty := .int) (a0 := (12, .inl (fun _ => 0))) S (S.ts _ q1057) rfl 0 rfl (fun C h => by cases h) (fun _ => rfl) dX3_init_54 (101) (6) (by decide) (by decide) (by decide) (Nat.le_of_ble_eq_true rfl) (Nat.le_of_ble_eq_true rfl) hG hS (fun q6 H hn hG hS => ?_)
  refine W.cs (cells' := 7) (slots' := 64) rfl rfl ?_
  refine pf_X3_28 S hnm dX3_init_56 rfl rfl hG hS (hI.at hn) (Nat.le_of_ble_eq_true rfl) (fun H locs hG hS => ?_)
  obtain ⟨G6, hG, hF, hI⟩ : ∃ G1, gh_W E G1 H ∧ gh_fr mdT G G1 ∧ mdP E G1 mo [q0, q1, q2, q3, q4, q5, q6] [.ref q0, .ref q1, .ref q2, .ref q3, .ref q4, .ref q5, .ref q6, .null, .null, .null, .null, .null, .null, .null, .null, .null, .int 0, .int 0, .int 0, .int 0, .int 0, .int 0] := ⟨_, hG, hF.tr ((gh_fr.new hn).tr (gh_fr.set (hI.at hn) (Or.inl rfl))), hI.step hn (fun j => (mdC_t E j).1)⟩
  refine lv_aload_n hx hb dX3_init_59 rfl (lv_at hl 0 rfl) ?_
  refine lv_bipush (v := 12) hx hb dX3_init_60 (by decide) ?_
  refine g_newa (atype := .int) (ty := .int) (a0 := (12, .inl (fun _ => 0))) S (S.ts _ q1057) rfl 0 rfl (fun C h => by cases h) (fun _ => rfl) dX3_init_62 (101) (7) (by decide) (by decide) (by decide) (Nat.le_of_ble_eq_true rfl) (Nat.le_of_ble_eq_true rfl) hG hS (fun q7 H hn hG hS => ?_)
  refine W.cs (cells' := 8) (slots' := 76) rfl rfl ?_
  refine pf_X3_31 S hnm dX3_init_64 rfl rfl hG hS (hI.at hn) (Nat.le_of_ble_eq_true rfl) (fun H locs hG hS => ?_)
  obtain ⟨G7, hG, hF, hI⟩ : ∃ G1, gh_W E G1 H ∧ gh_fr mdT G G1 ∧ mdP E G1 mo [q0, q1, q2, q3, q4, q5, q6, q7] [.ref q0, .ref q1, .ref q2, .ref q3, .ref q4, .ref q5, .ref q6, .ref q7, .null, .null, .null, .null, .null, .null, .null, .null, .int 0, .int 0, .int 0, .int 0, .int 0, .int 0] := ⟨_, hG, hF.tr ((gh_fr.new hn).tr (gh_fr.set (hI.at hn) (Or.inl rfl))), hI.step hn (fun j => (mdC_t E j).1)⟩
  refine lv_aload_n hx hb dX3_init_67 rfl (lv_at hl 0 rfl) ?_
  refine lv_bipush (v := 12) hx hb dX3_init_68 (by decide) ?_
  refine g_newa (atype := .int) (ty := .int) (a0 := (12, .inl (fun _ => 0))) S (S.ts _ q1057) rfl 0 rfl (fun C h => by cases h) (fun _ => rfl) dX3_init_70 (101) (8) (by decide) (by decide) (by decide) (Nat.le_of_ble_eq_true rfl) (Nat.le_of_ble_eq_true rfl) hG hS (fun q8 H hn hG hS => ?_)
  refine W.cs (cells' := 9) (slots' := 88) rfl rfl ?_
  refine pf_X3_34 S hnm dX3_init_72 rfl rfl hG hS (hI.at hn) (Nat.le_of_ble_eq_true rfl) (fun H locs hG hS => ?_)
  obtain ⟨G8, hG, hF, hI⟩ : ∃ G1, gh_W E G1 H ∧ gh_fr mdT G G1 ∧ mdP E G1 mo [q0, q1, q2, q3, q4, q5, q6, q7, q8] [.ref q0, .ref q1, .ref q2, .ref q3, .ref q4, .ref q5, .ref q6, .ref q7, .ref q8, .null, .null, .null, .null, .null, .null, .null, .int 0, .int 0, .int 0, .int 0, .int 0, .int 0] := ⟨_, hG, hF.tr ((gh_fr.new hn).tr (gh_fr.set (hI.at hn) (Or.inl rfl))), hI.step hn (fun j => (mdC_t E j).1)⟩
  refine lv_aload_n hx hb dX3_init_75 rfl (lv_at hl 0 rfl) ?_
  refine lv_bipush (v := 120) hx hb dX3_init_76 (by decide) ?_
  refine g_newa (atype := .int) (ty := .int) (a0 := (120, .inl (fun _ => 0))) S (S.ts _ q1057) rfl 0 rfl (fun C h => by cases h) (fun _ => rfl) dX3_init_78 (101) (9) (by decide) (by decide) (by decide) (Nat.le_of_ble_eq_true rfl) (Nat.le_of_ble_eq_true rfl) hG hS (fun q9 H hn hG hS => ?_)
  refine W.cs (cells' := 10) (slots' := 208) rfl rfl ?_
  refine pf_X3_37 S hnm dX3_init_80 rfl rfl hG hS (hI.at hn) (Nat.le_of_ble_eq_true rfl) (fun H locs hG hS => ?_)
  obtain ⟨G9, hG, hF, hI⟩ : ∃ G1, gh_W E G1 H ∧ gh_fr mdT G G1 ∧ mdP E G1 mo [q0, q1, q2, q3, q4, q5, q6, q7, q8, q9] [.ref q0, .ref q1, .ref q2, .ref q3, .ref q4, .ref q5, .ref q6, .ref q7, .ref q8, .ref q9, .null, .null, .null, .null, .null, .null, .int 0, .int 0, .int 0, .int 0, .int 0, .int 0] := ⟨_, hG, hF.tr ((gh_fr.new hn).tr (gh_fr.set (hI.at hn) (Or.inl rfl))), hI.step hn (fun j => (mdC_t E j).1)⟩
  refine lv_aload_n hx hb dX3_init_83 rfl (lv_at hl 0 rfl) ?_
  refine lv_bipush (v := 120) hx hb dX3_init_84 (by decide) ?_
  refine g_newa (atype := .int) (ty := .int) (a0 := (120, .inl (fun _ => 0))) S (S.ts _ q1057) rfl 0 rfl (fun C h => by cases h) (fun _ => rfl) dX3_init_86 (101) (10) (by decide) (by decide) (by decide) (Nat.le_of_ble_eq_true rfl) (Nat.le_of_ble_eq_true rfl) hG hS (fun q10 H hn hG hS => ?_)
  refine W.cs (cells' := 11) (slots' := 328) rfl rfl ?_
  refine pf_X3_40 S hnm dX3_init_88 rfl rfl hG hS (hI.at hn) (Nat.le_of_ble_eq_true rfl) (fun H locs hG hS => ?_)
  obtain ⟨G10, hG, hF, hI⟩ : ∃ G1, gh_W E G1 H ∧ gh_fr mdT G G1 ∧ mdP E G1 mo [q0, q1, q2, q3, q4, q5, q6, q7, q8, q9, q10] [.ref q0, .ref q1, .ref q2, .ref q3, .ref q4, .ref q5, .ref q6, .ref q7, .ref q8, .ref q9, .ref q10, .null, .null, .null, .null, .null, .int 0, .int 0, .int 0, .int 0, .int 0, .int 0] := ⟨_, hG, hF.tr ((gh_fr.new hn).tr (gh_fr.set (hI.at hn) (Or.inl rfl))), hI.step hn (fun j => (mdC_t E j).1)⟩
  refine lv_aload_n hx hb dX3_init_91 rfl (lv_at hl 0 rfl) ?_
  refine lv_bipush (v := 120) hx hb dX3_init_92 (by decide) ?_
  refine g_newa (atype := .int) (ty := .int) (a0 := (120, .inl (fun _ => 0))) S (S.ts _ q1057) rfl 0 rfl (fun C h => by cases h) (fun _ => rfl) dX3_init_94 (101) (11) (by decide) (by decide) (by decide) (Nat.le_of_ble_eq_true rfl) (Nat.le_of_ble_eq_true rfl) hG hS (fun q11 H hn hG hS => ?_)
  refine W.cs (cells' := 12) (slots' := 448) rfl rfl ?_
  refine pf_X3_43 S hnm dX3_init_96 rfl rfl hG hS (hI.at hn) (Nat.le_of_ble_eq_true rfl) (fun H locs hG hS => ?_)
  obtain ⟨G11, hG, hF, hI⟩ : ∃ G1, gh_W E G1 H ∧ gh_fr mdT G G1 ∧ mdP E G1 mo [q0, q1, q2, q3, q4, q5, q6, q7, q8, q9, q10, q11] [.ref q0, .ref q1, .ref q2, .ref q3, .ref q4, .ref q5, .ref q6, .ref q7, .ref q8, .ref q9, .ref q10, .ref q11, .null, .null, .null, .null, .int 0, .int 0, .int 0, .int 0, .int 0, .int 0] := ⟨_, hG, hF.tr ((gh_fr.new hn).tr (gh_fr.set (hI.at hn) (Or.inl rfl))), hI.step hn (fun j => (mdC_t E j).1)⟩
  refine lv_aload_n hx hb dX3_init_99 rfl (lv_at hl 0 rfl) ?_
  refine lv_bipush (v := 120) hx hb dX3_init_100 (by decide) ?_
  refine g_newa (atype := .boolean) (ty := .boolean) (a0 := (120, .inl (fun _ => 0))) S (S.ts _ q847) rfl 2 rfl (fun C h => by cases h) (fun _ => rfl) dX3_init_102 (101) (12) (by decide) (by decide) (by decide) (Nat.le_of_ble_eq_true rfl) (Nat.le_of_ble_eq_true rfl) hG hS (fun q12 H hn hG hS => ?_)
  refine W.cs (cells' := 13) (slots' := 568) rfl rfl ?_
  refine pf_X3_46 S hnm dX3_init_104 rfl rfl hG hS (hI.at hn) (Nat.le_of_ble_eq_true rfl) (fun H locs hG hS => ?_)
  obtain ⟨G12, hG, hF, hI⟩ : ∃ G1, gh_W E G1 H ∧ gh_fr mdT G G1 ∧ mdP E G1 mo [q0, q1, q2, q3, q4, q5, q6, q7, q8, q9, q10, q11, q12] [.ref q0, .ref q1, .ref q2, .ref q3, .ref q4, .ref q5, .ref q6, .ref q7, .ref q8, .ref q9, .ref q10, .ref q11, .ref q12, .null, .null, .null, .int 0, .int 0, .int 0, .int 0, .int 0, .int 0] := ⟨_, hG, hF.tr ((gh_fr.new hn).tr (gh_fr.set (hI.at hn) (Or.inl rfl))), hI.step hn (fun j => (mdC_t E j).1)⟩
  refine lv_aload_n hx hb dX3_init_107 rfl (lv_at hl 0 rfl) ?_
  refine lv_bipush (v := 10) hx hb dX3_init_108 (by decide) ?_
  refine g_newa (atype := .boolean) (ty := .boolean) (a0 := (10, .inl (fun _ => 0))) S (S.ts _ q847) rfl 2 rfl (fun C h => by cases h) (fun _ => rfl) dX3_init_110 (102) (0) (by decide) (by decide) (by decide) (Nat.le_of_ble_eq_true rfl) (Nat.le_of_ble_eq_true rfl) hG hS (fun q13 H hn hG hS => ?_)
  refine W.cs (cells' := 14) (slots' := 578) rfl rfl ?_
  refine pf_X3_50 S hnm dX3_init_112 rfl rfl hG hS (hI.at hn) (Nat.le_of_ble_eq_true rfl) (fun H locs hG hS => ?_)
  obtain ⟨G13, hG, hF, hI⟩ : ∃ G1, gh_W E G1 H ∧ gh_fr mdT G G1 ∧ mdP E G1 mo [q0, q1, q2, q3, q4, q5, q6, q7, q8, q9, q10, q11, q12, q13] [.ref q0, .ref q1, .ref q2, .ref q3, .ref q4, .ref q5, .ref q6, .ref q7, .ref q8, .ref q9, .ref q10, .ref q11, .ref q12, .ref q13, .null, .null, .int 0, .int 0, .int 0, .int 0, .int 0, .int 0] := ⟨_, hG, hF.tr ((gh_fr.new hn).tr (gh_fr.set (hI.at hn) (Or.inl rfl))), hI.step hn (fun j => (mdC_t E j).1)⟩
  refine lv_aload_n hx hb dX3_init_115 rfl (lv_at hl 0 rfl) ?_
  refine lv_bipush (v := 120) hx hb dX3_init_116 (by decide) ?_
  refine g_newa (atype := .char) (ty := .char) (a0 := (120, .inl (fun _ => 0))) S (S.ts _ q1058) rfl 3 rfl (fun C h => by cases h) (fun _ => rfl) dX3_init_118 (101) (14) (by decide) (by decide) (by decide) (Nat.le_of_ble_eq_true rfl) (Nat.le_of_ble_eq_true rfl) hG hS (fun q14 H hn hG hS => ?_)
  refine W.cs (cells' := 15) (slots' := 698) rfl rfl ?_
  refine pf_X3_53 S hnm dX3_init_120 rfl rfl hG hS (hI.at hn) (Nat.le_of_ble_eq_true rfl) (fun H locs hG hS => ?_)
  obtain ⟨G14, hG, hF, hI⟩ : ∃ G1, gh_W E G1 H ∧ gh_fr mdT G G1 ∧ mdP E G1 mo [q0, q1, q2, q3, q4, q5, q6, q7, q8, q9, q10, q11, q12, q13, q14] [.ref q0, .ref q1, .ref q2, .ref q3, .ref q4, .ref q5, .ref q6, .ref q7, .ref q8, .ref q9, .ref q10, .ref q11, .ref q12, .ref q13, .ref q14, .null, .int 0, .int 0, .int 0, .int 0, .int 0, .int 0] := ⟨_, hG, hF.tr ((gh_fr.new hn).tr (gh_fr.set (hI.at hn) (Or.inl rfl))), hI.step hn (fun j => (mdC_t E j).1)⟩
  refine lv_aload_n hx hb dX3_init_123 rfl (lv_at hl 0 rfl) ?_
  refine lv_bipush (v := 10) hx hb dX3_init_124 (by decide) ?_
  refine g_newa (atype := .long) (ty := .long) (a0 := (10, .inr (.inl (fun _ => 0)))) S (S.ts _ q846) rfl 1 rfl (fun C h => by cases h) (fun _ => rfl) dX3_init_126 (103) (0) (by decide) (by decide) (by decide) (Nat.le_of_ble_eq_true rfl) (Nat.le_of_ble_eq_true rfl) hG hS (fun q15 H hn hG hS => ?_)
  refine W.cs (cells' := 16) (slots' := 708) rfl rfl ?_
  refine pf_X3_57 S hnm dX3_init_128 rfl rfl hG hS (hI.at hn) (Nat.le_of_ble_eq_true rfl) (fun H locs hG hS => ?_)
  obtain ⟨G15, hG, hF, hI⟩ : ∃ G1, gh_W E G1 H ∧ gh_fr mdT G G1 ∧ mdP E G1 mo [q0, q1, q2, q3, q4, q5, q6, q7, q8, q9, q10, q11, q12, q13, q14, q15] [.ref q0, .ref q1, .ref q2, .ref q3, .ref q4, .ref q5, .ref q6, .ref q7, .ref q8, .ref q9, .ref q10, .ref q11, .ref q12, .ref q13, .ref q14, .ref q15, .int 0, .int 0, .int 0, .int 0, .int 0, .int 0] := ⟨_, hG, hF.tr ((gh_fr.new hn).tr (gh_fr.set (hI.at hn) (Or.inl rfl))), hI.step hn (fun j => (mdC_t E j).1)⟩
  refine lv_aload_n hx hb dX3_init_131 rfl (lv_at hl 0 rfl) ?_
  refine lv_iconst (v := 0) hx hb dX3_init_132 (by decide) ?_
  refine pf_X3_61 S dX3_init_133 rfl rfl hG hS hI.1 (Nat.le_of_ble_eq_true rfl) (fun H locs hG hS => ?_)
  obtain ⟨G16, hG, hF, hI⟩ : ∃ G1, gh_W E G1 H ∧ gh_fr mdT G G1 ∧ mdP E G1 mo [q0, q1, q2, q3, q4, q5, q6, q7, q8, q9, q10, q11, q12, q13, q14, q15] [.ref q0, .ref q1, .ref q2, .ref q3, .ref q4, .ref q5, .ref q6, .ref q7, .ref q8, .ref q9, .ref q10, .ref q11, .ref q12, .ref q13, .ref q14, .ref q15, .int 0, .int 0, .int 0, .int 0, .int 0, .int 0] := ⟨_, hG, hF.tr (gh_fr.set hI.1 (Or.inl rfl)), hI.fields⟩
  refine lv_aload_n hx hb dX3_init_136 rfl (lv_at hl 0 rfl) ?_
  refine lv_iconst (v := 0) hx hb dX3_init_137 (by decide) ?_
  refine pf_X3_65 S dX3_init_138 rfl rfl hG hS hI.1 (Nat.le_of_ble_eq_true rfl) (fun H locs hG hS => ?_)
  obtain ⟨G17, hG, hF, hI⟩ : ∃ G1, gh_W E G1 H ∧ gh_fr mdT G G1 ∧ mdP E G1 mo [q0, q1, q2, q3, q4, q5, q6, q7, q8, q9, q10, q11, q12, q13, q14, q15] [.ref q0, .ref q1, .ref q2, .ref q3, .ref q4, .ref q5, .ref q6, .ref q7, .ref q8, .ref q9, .ref q10, .ref q11, .ref q12, .ref q13, .ref q14, .ref q15, .int 0, .int 0, .int 0, .int 0, .int 0, .int 0] := ⟨_, hG, hF.tr (gh_fr.set hI.1 (Or.inl rfl)), hI.fields⟩
  refine lv_aload_n hx hb dX3_init_141 rfl (lv_at hl 0 rfl) ?_
  refine lv_iconst (v := 0) hx hb dX3_init_142 (by decide) ?_
  refine pf_X3_68 S dX3_init_143 rfl rfl hG hS hI.1 (Nat.le_of_ble_eq_true rfl) (fun H locs hG hS => ?_)
  obtain ⟨G18, hG, hF, hI⟩ : ∃ G1, gh_W E G1 H ∧ gh_fr mdT G G1 ∧ mdP E G1 mo [q0, q1, q2, q3, q4, q5, q6, q7, q8, q9, q10, q11, q12, q13, q14, q15] [.ref q0, .ref q1, .ref q2, .ref q3, .ref q4, .ref q5, .ref q6, .ref q7, .ref q8, .ref q9, .ref q10, .ref q11, .ref q12, .ref q13, .ref q14, .ref q15, .int 0, .int 0, .int 0, .int 0, .int 0, .int 0] := ⟨_, hG, hF.tr (gh_fr.set hI.1 (Or.inl rfl)), hI.fields⟩
  refine lv_aload_n hx hb dX3_init_146 rfl (lv_at hl 0 rfl) ?_
  refine lv_iconst (v := 1) hx hb dX3_init_147 (by decide) ?_
  refine pf_X3_71 S dX3_init_148 rfl rfl hG hS hI.1 (Nat.le_of_ble_eq_true rfl) (fun H locs hG hS => ?_)
  obtain ⟨G19, hG, hF, hI⟩ : ∃ G1, gh_W E G1 H ∧ gh_fr mdT G G1 ∧ mdP E G1 mo [q0, q1, q2, q3, q4, q5, q6, q7, q8, q9, q10, q11, q12, q13, q14, q15] [.ref q0, .ref q1, .ref q2, .ref q3, .ref q4, .ref q5, .ref q6, .ref q7, .ref q8, .ref q9, .ref q10, .ref q11, .ref q12, .ref q13, .ref q14, .ref q15, .int 0, .int 0, .int 0, .int 1, .int 0, .int 0] := ⟨_, hG, hF.tr (gh_fr.set hI.1 (Or.inl rfl)), hI.fields⟩
  refine lv_aload_n hx hb dX3_init_151 rfl (lv_at hl 0 rfl) ?_
  refine lv_iconst (v := 0) hx hb dX3_init_152 (by decide) ?_
  refine pf_X3_74 S dX3_init_153 rfl rfl hG hS hI.1 (Nat.le_of_ble_eq_true rfl) (fun H locs hG hS => ?_)
  obtain ⟨G20, hG, hF, hI⟩ : ∃ G1, gh_W E G1 H ∧ gh_fr mdT G G1 ∧ mdP E G1 mo [q0, q1, q2, q3, q4, q5, q6, q7, q8, q9, q10, q11, q12, q13, q14, q15] [.ref q0, .ref q1, .ref q2, .ref q3, .ref q4, .ref q5, .ref q6, .ref q7, .ref q8, .ref q9, .ref q10, .ref q11, .ref q12, .ref q13, .ref q14, .ref q15, .int 0, .int 0, .int 0, .int 1, .int 0, .int 0] := ⟨_, hG, hF.tr (gh_fr.set hI.1 (Or.inl rfl)), hI.fields⟩
  refine lv_aload_n hx hb dX3_init_156 rfl (lv_at hl 0 rfl) ?_
  refine lv_iconst (v := 0) hx hb dX3_init_157 (by decide) ?_
  refine pf_X3_77 S dX3_init_158 rfl rfl hG hS hI.1 (Nat.le_of_ble_eq_true rfl) (fun H locs hG hS => ?_)
  obtain ⟨G21, hG, hF, hI⟩ : ∃ G1, gh_W E G1 H ∧ gh_fr mdT G G1 ∧ mdP E G1 mo [q0, q1, q2, q3, q4, q5, q6, q7, q8, q9, q10, q11, q12, q13, q14, q15] [.ref q0, .ref q1, .ref q2, .ref q3, .ref q4, .ref q5, .ref q6, .ref q7, .ref q8, .ref q9, .ref q10, .ref q11, .ref q12, .ref q13, .ref q14, .ref q15, .int 0, .int 0, .int 0, .int 1, .int 0, .int 0] := ⟨_, hG, hF.tr (gh_fr.set hI.1 (Or.inl rfl)), hI.fields⟩
  obtain ⟨ma, hI⟩ : ∃ ma : Nat → Nat, mdP E G21 mo [ma 0, ma 1, ma 2, ma 3, ma 4, ma 5, ma 6, ma 7, ma 8, ma 9, ma 10, ma 11, ma 12, ma 13, ma 14, ma 15] (mdF ma 0 mdN) := ⟨ml16 [q0, q1, q2, q3, q4, q5, q6, q7, q8, q9, q10, q11, q12, q13, q14, q15], hI⟩
  have hM : Md E G21 mo ma (fun _ _ => 0) (fun _ => 0) (fun _ => 0) 0 mdN := mdP.md hI
  refine lv_aload_n hx hb dX3_init_161 rfl (lv_at hl 0 rfl) ?_
  refine gf_X3_22 S dX3_init_162 hG hM.1 rfl ?_
  refine lv_iconst (v := 0) hx hb dX3_init_165 (by decide) ?_
  refine lv_iconst (v := -1) hx hb dX3_init_166 (by decide) ?_
  refine n_iast S dX3_init_167 hG hS (hM.arr 4 (by decide)) (gix.mk (show 0 < 4 by decide) (by decide)) (fun H locs hG hS => ?_)
  obtain ⟨G22, hG, hF, hM⟩ : ∃ G1, gh_W E G1 H ∧ gh_fr mdT G G1 ∧ Md E G1 mo ma (mdM 0) (fun _ => 0) (fun _ => 0) 0 mdN := ⟨_, hG, hF.tr (gh_fr.set (hM.arr 4 (by decide)) (Or.inr (Or.inl rfl))), by have h := hM.set 4 (by decide) (upd (fun _ => (0 : Int32)) 0 (-1)); have e : mdM 0 = va_up (fun _ _ => 0) 4 (upd (fun _ => 0) 0 (-1)) := (by funext i j; unfold mdM va_up; split; (rename_i q; subst q; simp); rfl); rw [e]; exact h⟩
  refine lv_iconst (v := 0) hx hb dX3_init_168 (by decide) ?_
  refine lv_istore_n (lv' := [(1, .int 0), (0, .ref mo)]) hx hb dX3_init_169 rfl hl (by decide) rfl (fun ls hl => ?_)
  have hl : lv_has ls 2 [(1, .int (nI 0)), (0, .ref mo)] := (lv_sub hl [0, 1] rfl)
  refine g_while (α := Nat) (fun k => 120 - k) (fun k G1 => k ≤ 120 ∧ Md E G1 mo ma (mdM k) (fun _ => 0) (fun _ => 0) 0 mdN ∧ gh_fr mdT G G1) (fun _ => 16) (fun _ => 708) 2 170 (fun k => [(1, .int (nI k)), (0, .ref mo)]) ?_ 0 G22 H _ ls ⟨Nat.zero_le _, hM, hF⟩ hG hS hl
  clear hM hF hG hS hl hI
  intro k G9 H locs ls ih hI hG hS hl
  obtain ⟨hk, hM, hF⟩ := hI
  have hl : lv_has ls 2 [(1, .int (nI k)), (0, .ref mo)] := hl
  refine lv_iload_n hx hb dX3_init_170 rfl (lv_at hl 0 rfl) ?_
  refine lv_bipush (v := 120) hx hb dX3_init_171 (by decide) ?_
  refine lv_icmp_ge (tgt := 190) hx hb dX3_init_173 (by decide) (fun h173 => ?_) (fun h173 => ?_)
  · have e : k = 120 := by have := (nI_leI (a := 120) (b := k) (by omega) (by omega)).mp h173; omega
    subst e
    exact g_vret S hr dX3_init_190 hG hS (by first | exact Nat.le_refl _ | omega) (by first | exact Nat.le_refl _ | omega) ⟨rfl, ma, hM, hF⟩
  · have hkl : k < 120 := Nat.lt_of_not_le fun q => h173 (nI_le (a := 120) (b := k) q (by omega))
    refine lv_aload_n hx hb dX3_init_176 rfl (lv_at hl 1 rfl) ?_
    refine gf_X3_53 S dX3_init_177 hG hM.1 rfl ?_
    refine lv_iload_n hx hb dX3_init_180 rfl (lv_at hl 0 rfl) ?_
    refine lv_bipush (v := 45) hx hb dX3_init_181 (by decide) ?_
    refine n_cast S dX3_init_183 hG hS (hM.arr 14 (by decide)) (gix.mk (show k < 120 by omega) (by decide)) (fun H locs hG hS => ?_)
    obtain ⟨G23, hG, hF, hM⟩ : ∃ G1, gh_W E G1 H ∧ gh_fr mdT G G1 ∧ Md E G1 mo ma (mdM (k + 1)) (fun _ => 0) (fun _ => 0) 0 mdN := ⟨_, hG, hF.tr (gh_fr.set (hM.arr 14 (by decide)) (Or.inr (Or.inl rfl))), mdM_step hM⟩
    refine lv_iinc (v := (nI (k + 1))) (lv' := [(1, .int (nI (k + 1))), (0, .ref mo)]) hx hb dX3_init_184 hl (k := 0) rfl (nI_1 k) (by decide) rfl (fun ls hl => ?_)
    refine lv_goto (tgt := 170) hx hb dX3_init_187 (by decide) ?_
    exact ih (k + 1) _ H locs ls ⟨hkl, hM, hF⟩ (by show 120 - (k + 1) < 120 - k; omega) hG hS (lv_sub hl [0, 1] rfl)
