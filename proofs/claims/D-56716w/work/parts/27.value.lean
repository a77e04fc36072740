/-! A LINE'S NUMBER -/
theorem lg_le {x y : Int64} (h : ¬ y < x) : lg_cmp x y ≤ 0 := Int32.not_lt.mp (fun q => h ((lg_cmp_gt _ _).mp q))
theorem lg_ge {x y : Int64} (h : ¬ x < y) : 0 ≤ lg_cmp x y := Int32.not_lt.mp (fun q => h ((lg_cmp_lt _ _).mp q))
theorem sp_sum_no {f : Nat → Int32} (n : Nat) : sp_sum (fun _ => false) f n = 0 := by
  induction n with
  | zero => rfl
  | succ n ih => simp [sp_sum, ih]
theorem sp_val_t {M : tM} {nx i d t : Nat} {b : Bool} (h : b = true) : M 0 d + sp_sum (sp_mt M i d t) (M 8) nx = sp_val M nx i d t b := by subst h; rfl
theorem sp_val_f {M : tM} {nx i d t : Nat} {b : Bool} (h : b = false) : M 0 d + 0 = sp_val M nx i d t b := by
  subst h
  show _ = M 0 d + sp_sum (fun _ => false) (M 8) nx
  rw [sp_sum_no]
theorem sp_ck_in {x z : Int64} (h : sp_ck x = some z) : z = x ∧ sp_in x = true := by
  unfold sp_ck at h
  split at h
  · rename_i h1
    exact ⟨(Option.some.inj h).symm, h1⟩
  · cases h
theorem sp_ck_no {x : Int64} (h : sp_ck x = none) : ¬ sp_in x = true := by
  unfold sp_ck at h
  split at h
  · cases h
  · assumption
/-- a number that is found is no greater than the greatest -/
theorem sp_fd_in {M : tM} {nn : tN} (hwf : sp_wf M nn) {nx i t : Nat} {b : Nat → Bool} (ht : t < 12) {k : Nat} (hk : k < nn 2) {z : Int64} (h : sp_fd M nx i t b 10 k = some z) : sp_in z = true := by
  have h10 : nn 2 ≤ 10 := hwf.1.2.1
  by_cases h1 : M 12 (12 * k + t) = 0
  · by_cases h2 : M 1 k = 100
    · rw [sp_fd_D h1 h2 rfl] at h
      obtain ⟨e5, h5⟩ := sp_ck_in h
      rw [e5]
      exact h5
    · obtain ⟨⟨j, hj, e1⟩, j', hj', e2⟩ := (hwf.2.2.1 k hk).2.2 h2
      rw [sp_fd_F hwf hk h1 h2 hj hj' (by rw [e1]; exact ixN_nI (by omega)) (by rw [e2]; exact ixN_nI (by omega))] at h
      obtain ⟨x, -, h⟩ := Option.bind_eq_some_iff.mp h
      obtain ⟨y, -, h⟩ := Option.bind_eq_some_iff.mp h
      obtain ⟨e5, h5⟩ := sp_ck_in h
      rw [e5]
      exact h5
  · rw [sp_fd_A h1] at h
    cases h
    have h3 := hwf.2.2.2.2 (12 * k + t) (by omega)
    exact h3.2.2.2 (h3.2.1.resolve_left h1)
theorem i64_32 (x : Int32) : x.toInt64.toInt32 = x := by simp
theorem sp_in_32 {z : Int64} (h : sp_in z = true) : z.toInt32.toInt64 = z := by
  obtain ⟨h1, h2⟩ := (sp_in_iff z).mp h
  have e1 := mt Int64.lt_iff_toInt_lt.mpr h1
  have e2 := mt Int64.lt_iff_toInt_lt.mpr h2
  rw [show (-99999999 : Int64).toInt = -99999999 from by decide] at e1
  rw [show (99999999 : Int64).toInt = 99999999 from by decide] at e2
  refine Int64.toInt_inj.mp ?_
  rw [Int32.toInt_toInt64, Int64.toInt_toInt32]
  exact Int.bmod_eq_of_le (by omega) (by omega)
set_option maxHeartbeats 4000000 in
set_option maxRecDepth 100000 in
theorem metX1_lambda_view_2 (l : Launch) {E : Ev} {G : gh} {st : Nat} {M : tM} {nn : tN} {w : cW} {i d t : Nat} {up : Int32}  (hC : cS E G st M nn w) (hwf : sp_wf M nn) (hi : i < nn 3) (hd : d < nn 1) : Met l yX1_lambda_view_2 (ws_ yX1_lambda_view_2 cX1_lambda_view_2 5 (some .int)) ({ frames := 4, cells := 0, slots := 0, locals := 260 }) (gP E G [.ref st, .int up, .ref (w.fs i), .int (nI d), .int (nI t)]) (gQ E (fun v G' => v = some (.int (sp_val M (nn 4) i d t (decide (nI d ≤ up)))) ∧ G = G')) 0 0 (ev_A E) := by
  have h16 : nn 1 ≤ 6 := hwf.1.1
  have h10 : nn 2 ≤ 10 := hwf.1.2.1
  have h34 : nn 3 ≤ 4 := hwf.1.2.2.1.2
  have h31 : 1 ≤ nn 3 := hwf.1.2.2.1.1
  obtain ⟨ard, hMd, hAd⟩ := hC.2.1.1
  obtain ⟨ars, hMs, hAs⟩ := hC.2.2.1.1
  obtain ⟨arl, hMl, hAl⟩ := hC.2.2.2.1
  refine gMet RX1 (by decide) rfl (Nat.le_of_ble_eq_true rfl) ?_
  intro p e s m below meth c ls hx hb S hr hnm hl hG hS
  have hl : lv_has ls 5 [(0, .ref st), (1, .int up), (2, .ref (w.fs i)), (3, .int (nI d)), (4, .int (nI t))] := hl
  refine lv_aload_n hx hb dX1_lambda_view_2_0 rfl (lv_at hl 0 rfl) ?_
  refine gf_X1_48 S dX1_lambda_view_2_1 hG hC.1 rfl ?_
  refine lv_iload_n hx hb dX1_lambda_view_2_4 rfl (lv_at hl 3 rfl) ?_
  refine g_call5 hS (va_runF (S.K.1 5 _ rfl).2 (As := [.int (nI d)]) (rest := []) S.1 (metJ2_get l (E := E) (G := G) hC.2.1.1 (i := d) hd) (va_cwF 1 S.ts (lw_F q512 q515 q517 q33 q519) rfl rfl rfl (S.2.1.1.2.1 _ (List.mem_of_getElem? (i := 2) rfl)) (by decide +kernel) ⟨Nat.le_of_ble_eq_true rfl, Nat.le_of_ble_eq_true rfl⟩) (S.preV hG hS hMd rfl) rfl rfl hl.1 rfl (lv_room (Nat.le_of_ble_eq_true rfl)) dX1_lambda_view_2_5 ⟨Nat.le_of_ble_eq_true rfl, Nat.le_of_ble_eq_true rfl⟩) (fun v G1 H locs hp hG hS => ?_)
  refine W.cs (cells' := 0) (slots' := 0) (by first | rfl | omega) (by first | rfl | omega) ?_
  obtain ⟨rfl, rfl⟩ := hp
  refine W.eq (g2 := F0 m 10 ls [.ref (w.fd d)]) rfl ?_
  have hi0 := hC.2.1.2 d hd
  refine g_castS (nm := "java/lang/Integer") (S.K.1 7 _ rfl).2 S (S.ts _ q531) (hi0.recv S hG hS) dX1_lambda_view_2_10 ?_
  refine g_call hS (va_runV (As := []) (rest := []) S.1 (metJ12_intValue l (E := E) (G := G) hi0) (cwV 0 S.ts (lw_V q532 q533 q534 q46 q535) rfl rfl rfl (by decide +kernel) ⟨Nat.le_of_ble_eq_true rfl, Nat.le_of_ble_eq_true rfl⟩) (S.preR hG hS (hi0.recv S hG hS)) rfl rfl hl.1 rfl (lv_room (Nat.le_of_ble_eq_true rfl)) dX1_lambda_view_2_13 ⟨Nat.le_of_ble_eq_true rfl, Nat.le_of_ble_eq_true rfl⟩) (fun v G1 H locs hp hG hS => ?_)
  refine W.cs (cells' := 0) (slots' := 0) (by first | rfl | omega) (by first | rfl | omega) ?_
  obtain ⟨rfl, rfl⟩ := hp
  refine W.eq (g2 := F0 m 16 ls [.int (M 0 d)]) rfl ?_
  refine lv_iload_n hx hb dX1_lambda_view_2_16 rfl (lv_at hl 3 rfl) ?_
  refine lv_iload_n hx hb dX1_lambda_view_2_17 rfl (lv_at hl 1 rfl) ?_
  refine lv_icmp_gt (tgt := 31) hx hb dX1_lambda_view_2_18 (by decide) (fun h18 => ?_) (fun h18 => ?_)
  · refine lv_iconst (v := 0) hx hb dX1_lambda_view_2_31 (by decide) ?_
    refine lv_iadd hx hb dX1_lambda_view_2_32 ?_
    exact g_iret S hr dX1_lambda_view_2_33 hG hS (by first | exact Nat.le_refl _ | omega) (by first | exact Nat.le_refl _ | omega) ⟨by rw [sp_val_f (decide_eq_false (Int32.not_le.mpr h18))], rfl⟩
  · obtain ⟨dk, fx, mcx, hO, hL, hD⟩ := hC.2.2.1.2 i hi
    refine lv_aload_n hx hb dX1_lambda_view_2_21 rfl (lv_at hl 2 rfl) ?_
    refine lv_iload_n hx hb dX1_lambda_view_2_22 rfl (lv_at hl 3 rfl) ?_
    refine lv_iload hx hb dX1_lambda_view_2_23 (lv_at hl 4 rfl) ?_
    refine g_call hS (va_runV (As := [.int (nI d), .int (nI t)]) (rest := [.int (M 0 d)]) S.1 (metX2_added l (E := E) (G := G) (i := i) (d := d) (t := t) hC hwf hi) (cwV 2 S.ts (lw_V q536 q537 q538 q34 q539) rfl rfl rfl (by decide +kernel) ⟨Nat.le_of_ble_eq_true rfl, Nat.le_of_ble_eq_true rfl⟩) (S.preV hG hS hO rfl) rfl rfl hl.1 rfl (lv_room (Nat.le_of_ble_eq_true rfl)) dX1_lambda_view_2_25 ⟨Nat.le_of_ble_eq_true rfl, Nat.le_of_ble_eq_true rfl⟩) (fun v G1 H locs hp hG hS => ?_)
    refine W.cs (cells' := 0) (slots' := 0) (by first | rfl | omega) (by first | rfl | omega) ?_
    obtain ⟨rfl, rfl⟩ := hp
    refine W.eq (g2 := F0 m 28 ls [.int (sp_sum (sp_mt M i d t) (M 8) (nn 4)), .int (M 0 d)]) rfl ?_
    refine lv_goto (tgt := 32) hx hb dX1_lambda_view_2_28 (by decide) ?_
    refine lv_iadd hx hb dX1_lambda_view_2_32 ?_
    exact g_iret S hr dX1_lambda_view_2_33 hG hS (by first | exact Nat.le_refl _ | omega) (by first | exact Nat.le_refl _ | omega) ⟨by rw [sp_val_t (decide_eq_true (Int32.not_lt.mp h18))], rfl⟩
set_option maxHeartbeats 4000000 in
set_option maxRecDepth 100000 in
theorem metX1_checkedOk (l : Launch) {E : Ev} {G : gh} {x : Int64}  (hx0 : sp_in x = true) : Met l yX1_checked (ws_ yX1_checked cX1_checked 2 (some .int)) ({ frames := 0, cells := 0, slots := 0, locals := 0 }) (gP E G [.long x]) (gQ E (fun v G' => v = some (.int x.toInt32) ∧ G = G')) 0 0 (ev_A E) := by
  have hx1 := (sp_in_iff x).mp hx0
  refine gMet RX1 (by decide) rfl (Nat.le_of_ble_eq_true rfl) ?_
  intro p e s m below meth c ls hx hb S hr hnm hl hG hS
  have hl : lv_has ls 2 [(0, .long x)] := hl
  refine lv_lload_n hx hb dX1_checked_0 rfl (lv_at hl 0 rfl) ?_
  refine lv_ldc2 (v := 99999999) hx hb S.1.2.2.2.1 (S.ts _ q560) dX1_checked_1 ?_
  refine W.lcmp hx hb dX1_checked_4 ?_
  refine lv_if_le (tgt := 16) hx hb dX1_checked_5 (by decide) (fun _ => ?_) (fun h => absurd (lg_le hx1.2) h)
  refine lv_lload_n hx hb dX1_checked_16 rfl (lv_at hl 0 rfl) ?_
  refine lv_ldc2 (v := (-99999999)) hx hb S.1.2.2.2.1 (S.ts _ q584) dX1_checked_17 ?_
  refine W.lcmp hx hb dX1_checked_20 ?_
  refine lv_if_ge (tgt := 32) hx hb dX1_checked_21 (by decide) (fun _ => ?_) (fun h => absurd (lg_ge hx1.1) h)
  refine lv_lload_n hx hb dX1_checked_32 rfl (lv_at hl 0 rfl) ?_
  refine lv_l2i (v := x.toInt32) hx hb dX1_checked_33 rfl ?_
  exact g_iret S hr dX1_checked_34 hG hS (by first | exact Nat.le_refl _ | omega) (by first | exact Nat.le_refl _ | omega) ⟨rfl, rfl⟩
theorem gFm.k100 {E : Ev} {G : gh} {fo : Nat} (h : gFm E G 100 fo) : fo = ev_k E 31 := by
  rcases h with h | h | h | h
  · exact h.2
  · exact absurd h.1 (by decide)
  · exact absurd h.1 (by decide)
  · exact absurd h.1 (by decide)
theorem gFm.k112 {E : Ev} {G : gh} {fo : Nat} (h : gFm E G 112 fo) : fo = ev_k E 32 := by
  rcases h with h | h | h | h
  · exact absurd h.1 (by decide)
  · exact h.2
  · exact absurd h.1 (by decide)
  · exact absurd h.1 (by decide)
theorem gFm.k109 {E : Ev} {G : gh} {fo : Nat} (h : gFm E G 109 fo) : ∃ i, G fo = some (50, i, .inr (13, [.int (-1)])) := by
  rcases h with h | h | h | h
  · exact absurd h.1 (by decide)
  · exact absurd h.1 (by decide)
  · exact h.2
  · exact absurd h.1 (by decide)
theorem gFm.k115 {E : Ev} {G : gh} {fo : Nat} (h : gFm E G 115 fo) : ∃ i, G fo = some (50, i, .inr (13, [.int 1])) := by
  rcases h with h | h | h | h
  · exact absurd h.1 (by decide)
  · exact absurd h.1 (by decide)
  · exact absurd h.1 (by decide)
  · exact h.2
theorem sp_bk_109 (x y : Int64) : x + (-1 : Int32).toInt64 * y = sp_bk 109 x y := by
  show x + (-1 : Int64) * y = x - y
  rw [Int64.neg_mul, Int64.one_mul, Int64.sub_eq_add_neg]
theorem sp_bk_115 (x y : Int64) : x + (1 : Int32).toInt64 * y = sp_bk 115 x y := by
  show x + (1 : Int64) * y = x + y
  rw [Int64.one_mul]
set_option maxHeartbeats 4000000 in
set_option maxRecDepth 100000 in
theorem metX1_findOk (l : Launch) {E : Ev} {G : gh} {st vq iv i t : Nat} {M : tM} {nn : tN} {w : cW} {up : Int32} (hC : cS E G st M nn w) (hwf : sp_wf M nn) (hV : G vq = some (50, iv, .inr (12, [.ref st, .int up, .ref (w.fs i)]))) (hi : i < nn 3) (ht : t < 12) : ∀ k, k < nn 2 → ∀ z, sp_fd M (nn 4) i t (fun d => decide (nI d ≤ up)) 10 k = some z → Met l yX1_find (ws_ yX1_find cX1_find 5 (some .int)) ({ frames := k + 12, cells := 0, slots := 0, locals := 40 * k + 600 }) (gP E G [.ref st, .ref vq, .ref (w.fl k), .int (nI t)]) (gQ E (fun v G' => v = some (.int z.toInt32) ∧ G = G')) 0 0 (ev_A E) := by
  have h16 : nn 1 ≤ 6 := hwf.1.1
  have h10 : nn 2 ≤ 10 := hwf.1.2.1
  have h34 : nn 3 ≤ 4 := hwf.1.2.2.1.2
  obtain ⟨arl, hMl, hAl⟩ := hC.2.2.2.1
  intro k
  induction k using Nat.strongRecOn with
  | ind k ih =>
    intro hk z hz
    refine gMet RX1 (by decide) rfl (Nat.le_of_ble_eq_true rfl) ?_
    intro p e s m below meth c ls hx hb S hr hnm hl hG hS
    have hl : lv_has ls 5 [(0, .ref st), (1, .ref vq), (2, .ref (w.fl k)), (3, .int (nI t))] := hl
    obtain ⟨fo, ac, ap, ot, fa, fp, hO, hot, hfo, hAc, hAp, hfa, hfp⟩ := hC.2.2.2.2 k hk
    refine lv_aload_n hx hb dX1_find_0 rfl (lv_at hl 2 rfl) ?_
    refine gf_X1_112 S dX1_find_1 hG hO rfl ?_
    refine lv_iload_n hx hb dX1_find_4 rfl (lv_at hl 3 rfl) ?_
    refine n_aald 6 rfl S dX1_find_5 hG hAc (gix.mk ht (by decide)) ?_
    refine W.eq (g2 := F0 m 6 ls [va_rf (fa t)]) rfl ?_
    by_cases h12 : M 12 (12 * k + t) = 0
    · refine W.eq (g2 := F0 m 6 ls [.null]) (by rw [(hfa t ht).1 h12]; rfl) ?_
      refine lv_ifnullN (tgt := 19) hx hb dX1_find_6 (by decide) ?_
      refine lv_aload_n hx hb dX1_find_19 rfl (lv_at hl 2 rfl) ?_
      refine gf_X1_119 S dX1_find_20 hG hO rfl ?_
      refine lv_bipush (v := 100) hx hb dX1_find_23 (by decide) ?_
      by_cases h2 : M 1 k = 100
      · refine lv_icmp_ne (tgt := 54) hx hb dX1_find_25 (by decide) (fun h => absurd h2 h) (fun _ => ?_)
        refine lv_aload_n hx hb dX1_find_28 rfl (lv_at hl 2 rfl) ?_
        refine gf_X1_123 S dX1_find_29 hG hO rfl ?_
        refine lv_aload_n hx hb dX1_find_32 rfl (lv_at hl 1 rfl) ?_
        refine lv_aload_n hx hb dX1_find_33 rfl (lv_at hl 2 rfl) ?_
        refine gf_X1_127 S dX1_find_34 hG hO rfl ?_
        refine lv_iload_n hx hb dX1_find_37 rfl (lv_at hl 3 rfl) ?_
        obtain ⟨d, hd, e1⟩ := (hwf.2.2.1 k hk).2.1 h2
        have e2 : ixN (M 2 k) = d := by rw [e1]; exact ixN_nI (by omega)
        rw [sp_fd_D h12 h2 e2] at hz
        obtain ⟨hz1, hz2⟩ := sp_ck_in hz
        subst hz1
        rw [h2] at hfo
        refine W.eq (g2 := F0 m 38 ls [.int (nI t), .int (nI d), .ref vq, .ref fo]) (by rw [e1]) ?_
        refine g_call5 hS (g_view1 (rest := [.ref fo]) S hG hS hl.1 hV (S.recv hG (r := (RX1, TX1, 5)) hC.1 rfl) (metX1_lambda_view_2 l (E := E) (G := G) (i := i) (d := d) (t := t) (up := up) hC hwf hi hd) rfl rfl (fun v G9 h => ⟨_, h.1⟩) (S.ts _ q550) (Nat.le_of_ble_eq_true rfl) dX1_find_38 (by show 4 + 2 ≤ k + 12; omega) (by show 8 + (3 + 11) + (8 + (5 + 11) + 260) ≤ 40 * k + 600; omega) (Nat.le_of_ble_eq_true rfl) (Nat.le_of_ble_eq_true rfl)) (fun v G1 H locs hp hG hS => ?_)
        obtain ⟨rfl, rfl⟩ := hp
        refine W.eq (g2 := F0 m 43 ls [.int (sp_val M (nn 4) i d t (decide (nI d ≤ up))), .ref fo]) rfl ?_
        refine lv_i2l (v := (sp_val M (nn 4) i d t (decide (nI d ≤ up))).toInt64) hx hb dX1_find_43 rfl ?_
        refine lv_lconst (v := 0) hx hb dX1_find_44 (by decide) ?_
        refine g_call5 hS (g_form2 (rest := []) S hG hS hl.1 hfo.k100 (metX1_lambda_formula_0 l (E := E) (G := G) (sp_val M (nn 4) i d t (decide (nI d ≤ up))).toInt64 0) rfl rfl (fun v G9 h => ⟨_, h.1⟩) (S.ts _ q554) (Nat.le_of_ble_eq_true rfl) dX1_find_45 (by show 0 + 2 ≤ k + 12; omega) (by show 8 + (5 + 11) + (8 + (4 + 11) + 0) ≤ 40 * k + 600; omega) (Nat.le_of_ble_eq_true rfl) (Nat.le_of_ble_eq_true rfl)) (fun v G1 H locs hp hG hS => ?_)
        obtain ⟨rfl, rfl⟩ := hp
        refine W.eq (g2 := F0 m 50 ls [.long (sp_val M (nn 4) i d t (decide (nI d ≤ up))).toInt64]) rfl ?_
        refine g_call hS (va_runS (As := [.long (sp_val M (nn 4) i d t (decide (nI d ≤ up))).toInt64]) (rest := []) S.1 (metX1_checkedOk l (E := E) (G := G) hz2) (va_cwS 1 S.ts (lw_S q557 q558 q30 q559) rfl rfl rfl (by decide +kernel) ⟨by show 0 + 1 ≤ k + 12; omega, by show 8 + (2 + 11) + 0 ≤ 40 * k + 600; omega⟩) (S.pre hG hS) rfl rfl hl.1 rfl (lv_room (Nat.le_of_ble_eq_true rfl)) dX1_find_50 ⟨Nat.le_of_ble_eq_true rfl, Nat.le_of_ble_eq_true rfl⟩) (fun v G1 H locs hp hG hS => ?_)
        refine W.cs (cells' := 0) (slots' := 0) (by first | rfl | omega) (by first | rfl | omega) ?_
        obtain ⟨rfl, rfl⟩ := hp
        refine W.eq (g2 := F0 m 53 ls [.int ((sp_val M (nn 4) i d t (decide (nI d ≤ up))).toInt64.toInt32)]) rfl ?_
        exact g_iret S hr dX1_find_53 hG hS (by first | exact Nat.le_refl _ | omega) (by first | exact Nat.le_refl _ | omega) ⟨rfl, rfl⟩
      · refine lv_icmp_ne (tgt := 54) hx hb dX1_find_25 (by decide) (fun _ => ?_) (fun h => absurd h h2)
        refine lv_aload_n hx hb dX1_find_54 rfl (lv_at hl 0 rfl) ?_
        refine lv_aload_n hx hb dX1_find_55 rfl (lv_at hl 1 rfl) ?_
        refine lv_aload_n hx hb dX1_find_56 rfl (lv_at hl 0 rfl) ?_
        refine gf_X1_55 S dX1_find_57 hG hC.1 rfl ?_
        refine lv_aload_n hx hb dX1_find_60 rfl (lv_at hl 2 rfl) ?_
        refine gf_X1_127 S dX1_find_61 hG hO rfl ?_
        obtain ⟨⟨j, hj, e1⟩, j2, hj2, e2⟩ := (hwf.2.2.1 k hk).2.2 h2
        rw [sp_fd_F hwf hk h12 h2 hj hj2 (by rw [e1]; exact ixN_nI (by omega)) (by rw [e2]; exact ixN_nI (by omega))] at hz
        obtain ⟨x, hzx, hz⟩ := Option.bind_eq_some_iff.mp hz
        obtain ⟨y, hzy, hz⟩ := Option.bind_eq_some_iff.mp hz
        obtain ⟨hz1, hz2⟩ := sp_ck_in hz
        subst hz1
        have hx9 := sp_in_32 (sp_fd_in hwf ht (by omega) hzx)
        have hy9 := sp_in_32 (sp_fd_in hwf ht (by omega) hzy)
        have eot : ot = nI j2 := (hot h2).trans e2
        refine W.eq (g2 := F0 m 64 ls [.int (nI j), .ref w.ll, .ref vq, .ref st]) (by rw [e1]) ?_
        refine g_call5 hS (va_runF (S.K.1 5 _ rfl).2 (As := [.int (nI j)]) (rest := [.ref vq, .ref st]) S.1 (metJ2_get l (E := E) (G := G) hC.2.2.2.1 (i := j) (show j < nn 2 by omega)) (va_cwF 1 S.ts (lw_F q512 q515 q517 q33 q519) rfl rfl rfl (S.2.1.1.2.1 _ (List.mem_of_getElem? (i := 2) rfl)) (by decide +kernel) ⟨by show 2 + 1 ≤ k + 12; omega, by show 8 + (2 + 11) + 80 ≤ 40 * k + 600; omega⟩) (S.preV hG hS hMl rfl) rfl rfl hl.1 rfl (lv_room (Nat.le_of_ble_eq_true rfl)) dX1_find_64 ⟨Nat.le_of_ble_eq_true rfl, Nat.le_of_ble_eq_true rfl⟩) (fun v G1 H locs hp hG hS => ?_)
        refine W.cs (cells' := 0) (slots' := 0) (by first | rfl | omega) (by first | rfl | omega) ?_
        obtain ⟨rfl, rfl⟩ := hp
        refine W.eq (g2 := F0 m 69 ls [.ref (w.fl j), .ref vq, .ref st]) rfl ?_
        obtain ⟨_, _, _, _, _, _, hOj, -⟩ := hC.2.2.2.2 j (show j < nn 2 by omega)
        refine g_castS (nm := "CostStudio$Line") (S.K.1 2 _ rfl).2 S (S.ts _ q340) (S.recv hG (r := (RX7, TX7, 7)) hOj rfl) dX1_find_69 ?_
        refine lv_iload_n hx hb dX1_find_72 rfl (lv_at hl 3 rfl) ?_
        refine g_call hS (va_runV (As := [.ref vq, .ref (w.fl j), .int (nI t)]) (rest := []) S.1 (ih j hj (by omega) x hzx) (cwV 3 S.ts (lw_V q545 q547 qs12 q30 q548) rfl rfl rfl (by decide +kernel) ⟨by show j + 12 + 1 ≤ k + 12; omega, by show 8 + (5 + 11) + (40 * j + 600) ≤ 40 * k + 600; omega⟩) (S.preV hG hS hC.1 rfl) rfl rfl hl.1 rfl (lv_room (Nat.le_of_ble_eq_true rfl)) dX1_find_73 ⟨Nat.le_of_ble_eq_true rfl, Nat.le_of_ble_eq_true rfl⟩) (fun v G1 H locs hp hG hS => ?_)
        refine W.cs (cells' := 0) (slots' := 0) (by first | rfl | omega) (by first | rfl | omega) ?_
        obtain ⟨rfl, rfl⟩ := hp
        refine W.eq (g2 := F0 m 76 ls [.int x.toInt32]) rfl ?_
        refine lv_istore (lv' := [(4, .int x.toInt32), (0, .ref st), (1, .ref vq), (2, .ref (w.fl k)), (3, .int (nI t))]) hx hb dX1_find_76 hl (by decide) rfl (fun ls hl => ?_)
        refine lv_aload_n hx hb dX1_find_78 rfl (lv_at hl 3 rfl) ?_
        refine gf_X1_123 S dX1_find_79 hG hO rfl ?_
        refine lv_iload hx hb dX1_find_82 (lv_at hl 0 rfl) ?_
        refine lv_i2l (v := x.toInt32.toInt64) hx hb dX1_find_84 rfl ?_
        refine lv_aload_n hx hb dX1_find_85 rfl (lv_at hl 1 rfl) ?_
        refine lv_aload_n hx hb dX1_find_86 rfl (lv_at hl 2 rfl) ?_
        refine lv_aload_n hx hb dX1_find_87 rfl (lv_at hl 1 rfl) ?_
        refine gf_X1_55 S dX1_find_88 hG hC.1 rfl ?_
        refine lv_aload_n hx hb dX1_find_91 rfl (lv_at hl 3 rfl) ?_
        refine gf_X1_149 S dX1_find_92 hG hO rfl ?_
        refine W.eq (g2 := F0 m 95 ls [.int (nI j2), .ref w.ll, .ref vq, .ref st, .long x.toInt32.toInt64, .ref fo]) (by rw [eot]) ?_
        refine g_call5 hS (va_runF (S.K.1 5 _ rfl).2 (As := [.int (nI j2)]) (rest := [.ref vq, .ref st, .long x.toInt32.toInt64, .ref fo]) S.1 (metJ2_get l (E := E) (G := G) hC.2.2.2.1 (i := j2) (show j2 < nn 2 by omega)) (va_cwF 1 S.ts (lw_F q512 q515 q517 q33 q519) rfl rfl rfl (S.2.1.1.2.1 _ (List.mem_of_getElem? (i := 2) rfl)) (by decide +kernel) ⟨by show 2 + 1 ≤ k + 12; omega, by show 8 + (2 + 11) + 80 ≤ 40 * k + 600; omega⟩) (S.preV hG hS hMl rfl) rfl rfl hl.1 rfl (lv_room (Nat.le_of_ble_eq_true rfl)) dX1_find_95 ⟨Nat.le_of_ble_eq_true rfl, Nat.le_of_ble_eq_true rfl⟩) (fun v G1 H locs hp hG hS => ?_)
        refine W.cs (cells' := 0) (slots' := 0) (by first | rfl | omega) (by first | rfl | omega) ?_
        obtain ⟨rfl, rfl⟩ := hp
        refine W.eq (g2 := F0 m 100 ls [.ref (w.fl j2), .ref vq, .ref st, .long x.toInt32.toInt64, .ref fo]) rfl ?_
        obtain ⟨_, _, _, _, _, _, hOj2, -⟩ := hC.2.2.2.2 j2 (show j2 < nn 2 by omega)
        refine g_castS (nm := "CostStudio$Line") (S.K.1 2 _ rfl).2 S (S.ts _ q340) (S.recv hG (r := (RX7, TX7, 7)) hOj2 rfl) dX1_find_100 ?_
        refine lv_iload_n hx hb dX1_find_103 rfl (lv_at hl 4 rfl) ?_
        refine g_call hS (va_runV (As := [.ref vq, .ref (w.fl j2), .int (nI t)]) (rest := [.long x.toInt32.toInt64, .ref fo]) S.1 (ih j2 hj2 (by omega) y hzy) (cwV 3 S.ts (lw_V q545 q547 qs12 q30 q548) rfl rfl rfl (by decide +kernel) ⟨by show j2 + 12 + 1 ≤ k + 12; omega, by show 8 + (5 + 11) + (40 * j2 + 600) ≤ 40 * k + 600; omega⟩) (S.preV hG hS hC.1 rfl) rfl rfl hl.1 rfl (lv_room (Nat.le_of_ble_eq_true rfl)) dX1_find_104 ⟨Nat.le_of_ble_eq_true rfl, Nat.le_of_ble_eq_true rfl⟩) (fun v G1 H locs hp hG hS => ?_)
        refine W.cs (cells' := 0) (slots' := 0) (by first | rfl | omega) (by first | rfl | omega) ?_
        obtain ⟨rfl, rfl⟩ := hp
        refine W.eq (g2 := F0 m 107 ls [.int y.toInt32, .long x.toInt32.toInt64, .ref fo]) rfl ?_
        refine lv_i2l (v := y.toInt32.toInt64) hx hb dX1_find_107 rfl ?_
        refine W.eq (g2 := F0 m 108 ls [.long y, .long x, .ref fo]) (by rw [hx9, hy9]) ?_
        rcases (hwf.2.2.1 k hk).1 with hkd | hkd | hkd | hkd
        · exact absurd hkd h2
        · rw [hkd] at hfo hz2
          rw [hkd]
          obtain ⟨i9, hfo⟩ := hfo.k115
          refine g_call5 hS (g_form4 (rest := []) S hG hS hl.1 hfo (metX1_lambda_formula_1 l (E := E) (G := G) 1 x y) rfl rfl (fun v G9 h => ⟨_, h.1⟩) (S.ts _ q554) (Nat.le_of_ble_eq_true rfl) dX1_find_108 (by show 0 + 2 ≤ k + 12; omega) (by show 8 + (5 + 11) + (8 + (5 + 11) + 0) ≤ 40 * k + 600; omega) (Nat.le_of_ble_eq_true rfl) (Nat.le_of_ble_eq_true rfl)) (fun v G1 H locs hp hG hS => ?_)
          obtain ⟨rfl, rfl⟩ := hp
          refine W.eq (g2 := F0 m 113 ls [.long (x + (1 : Int32).toInt64 * y)]) rfl ?_
          refine W.eq (g2 := F0 m 113 ls [.long (sp_bk 115 x y)]) (by rw [sp_bk_115]) ?_
          refine g_call hS (va_runS (As := [.long (sp_bk 115 x y)]) (rest := []) S.1 (metX1_checkedOk l (E := E) (G := G) hz2) (va_cwS 1 S.ts (lw_S q557 q558 q30 q559) rfl rfl rfl (by decide +kernel) ⟨by show 0 + 1 ≤ k + 12; omega, by show 8 + (2 + 11) + 0 ≤ 40 * k + 600; omega⟩) (S.pre hG hS) rfl rfl hl.1 rfl (lv_room (Nat.le_of_ble_eq_true rfl)) dX1_find_113 ⟨Nat.le_of_ble_eq_true rfl, Nat.le_of_ble_eq_true rfl⟩) (fun v G1 H locs hp hG hS => ?_)
          refine W.cs (cells' := 0) (slots' := 0) (by first | rfl | omega) (by first | rfl | omega) ?_
          obtain ⟨rfl, rfl⟩ := hp
          refine W.eq (g2 := F0 m 116 ls [.int (sp_bk 115 x y).toInt32]) rfl ?_
          exact g_iret S hr dX1_find_116 hG hS (by first | exact Nat.le_refl _ | omega) (by first | exact Nat.le_refl _ | omega) ⟨rfl, rfl⟩
        · rw [hkd] at hfo hz2
          rw [hkd]
          obtain ⟨i9, hfo⟩ := hfo.k109
          refine g_call5 hS (g_form4 (rest := []) S hG hS hl.1 hfo (metX1_lambda_formula_1 l (E := E) (G := G) (-1) x y) rfl rfl (fun v G9 h => ⟨_, h.1⟩) (S.ts _ q554) (Nat.le_of_ble_eq_true rfl) dX1_find_108 (by show 0 + 2 ≤ k + 12; omega) (by show 8 + (5 + 11) + (8 + (5 + 11) + 0) ≤ 40 * k + 600; omega) (Nat.le_of_ble_eq_true rfl) (Nat.le_of_ble_eq_true rfl)) (fun v G1 H locs hp hG hS => ?_)
          obtain ⟨rfl, rfl⟩ := hp
          refine W.eq (g2 := F0 m 113 ls [.long (x + (-1 : Int32).toInt64 * y)]) rfl ?_
          refine W.eq (g2 := F0 m 113 ls [.long (sp_bk 109 x y)]) (by rw [sp_bk_109]) ?_
          refine g_call hS (va_runS (As := [.long (sp_bk 109 x y)]) (rest := []) S.1 (metX1_checkedOk l (E := E) (G := G) hz2) (va_cwS 1 S.ts (lw_S q557 q558 q30 q559) rfl rfl rfl (by decide +kernel) ⟨by show 0 + 1 ≤ k + 12; omega, by show 8 + (2 + 11) + 0 ≤ 40 * k + 600; omega⟩) (S.pre hG hS) rfl rfl hl.1 rfl (lv_room (Nat.le_of_ble_eq_true rfl)) dX1_find_113 ⟨Nat.le_of_ble_eq_true rfl, Nat.le_of_ble_eq_true rfl⟩) (fun v G1 H locs hp hG hS => ?_)
          refine W.cs (cells' := 0) (slots' := 0) (by first | rfl | omega) (by first | rfl | omega) ?_
          obtain ⟨rfl, rfl⟩ := hp
          refine W.eq (g2 := F0 m 116 ls [.int (sp_bk 109 x y).toInt32]) rfl ?_
          exact g_iret S hr dX1_find_116 hG hS (by first | exact Nat.le_refl _ | omega) (by first | exact Nat.le_refl _ | omega) ⟨rfl, rfl⟩
        · rw [hkd] at hfo hz2
          rw [hkd]
          refine g_call5 hS (g_form3 (rest := []) S hG hS hl.1 hfo.k112 (metX1_product l (E := E) (G := G) x y) rfl rfl (fun v G9 h => ⟨_, h.1⟩) (S.ts _ q554) (Nat.le_of_ble_eq_true rfl) dX1_find_108 (by show 0 + 2 ≤ k + 12; omega) (by show 8 + (5 + 11) + (8 + (4 + 11) + 0) ≤ 40 * k + 600; omega) (Nat.le_of_ble_eq_true rfl) (Nat.le_of_ble_eq_true rfl)) (fun v G1 H locs hp hG hS => ?_)
          obtain ⟨rfl, rfl⟩ := hp
          refine W.eq (g2 := F0 m 113 ls [.long (x * y / 100)]) rfl ?_
          refine W.eq (g2 := F0 m 113 ls [.long (sp_bk 112 x y)]) rfl ?_
          refine g_call hS (va_runS (As := [.long (sp_bk 112 x y)]) (rest := []) S.1 (metX1_checkedOk l (E := E) (G := G) hz2) (va_cwS 1 S.ts (lw_S q557 q558 q30 q559) rfl rfl rfl (by decide +kernel) ⟨by show 0 + 1 ≤ k + 12; omega, by show 8 + (2 + 11) + 0 ≤ 40 * k + 600; omega⟩) (S.pre hG hS) rfl rfl hl.1 rfl (lv_room (Nat.le_of_ble_eq_true rfl)) dX1_find_113 ⟨Nat.le_of_ble_eq_true rfl, Nat.le_of_ble_eq_true rfl⟩) (fun v G1 H locs hp hG hS => ?_)
          refine W.cs (cells' := 0) (slots' := 0) (by first | rfl | omega) (by first | rfl | omega) ?_
          obtain ⟨rfl, rfl⟩ := hp
          refine W.eq (g2 := F0 m 116 ls [.int (sp_bk 112 x y).toInt32]) rfl ?_
          exact g_iret S hr dX1_find_116 hG hS (by first | exact Nat.le_refl _ | omega) (by first | exact Nat.le_refl _ | omega) ⟨rfl, rfl⟩
    · obtain ⟨y, hy1, hy2⟩ := (hfa t ht).2 h12
      refine W.eq (g2 := F0 m 6 ls [.ref y]) (by rw [hy1]; rfl) ?_
      refine lv_ifnull hx hb dX1_find_6 ?_
      refine lv_aload_n hx hb dX1_find_9 rfl (lv_at hl 2 rfl) ?_
      refine gf_X1_112 S dX1_find_10 hG hO rfl ?_
      refine lv_iload_n hx hb dX1_find_13 rfl (lv_at hl 3 rfl) ?_
      refine n_aald 6 rfl S dX1_find_14 hG hAc (gix.mk ht (by decide)) ?_
      refine W.eq (g2 := F0 m 15 ls [.ref y]) (by rw [hy1]; rfl) ?_
      refine g_call hS (va_runV (As := []) (rest := []) S.1 (metJ12_intValue l (E := E) (G := G) hy2) (cwV 0 S.ts (lw_V q532 q533 q534 q46 q535) rfl rfl rfl (by decide +kernel) ⟨by show 0 + 1 ≤ k + 12; omega, by show 8 + (1 + 11) + 0 ≤ 40 * k + 600; omega⟩) (S.preR hG hS (hy2.recv S hG hS)) rfl rfl hl.1 rfl (lv_room (Nat.le_of_ble_eq_true rfl)) dX1_find_15 ⟨Nat.le_of_ble_eq_true rfl, Nat.le_of_ble_eq_true rfl⟩) (fun v G1 H locs hp hG hS => ?_)
      refine W.cs (cells' := 0) (slots' := 0) (by first | rfl | omega) (by first | rfl | omega) ?_
      obtain ⟨rfl, rfl⟩ := hp
      refine W.eq (g2 := F0 m 18 ls [.int (M 9 (12 * k + t))]) rfl ?_
      rw [sp_fd_A h12] at hz
      cases hz
      exact g_iret S hr dX1_find_18 hG hS (by first | exact Nat.le_refl _ | omega) (by first | exact Nat.le_refl _ | omega) ⟨by rw [i64_32], rfl⟩
