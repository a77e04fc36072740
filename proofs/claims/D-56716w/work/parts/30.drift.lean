/-! DRIFT -/
/-- only the drivers that are there count -/
theorem sp_fd_b {M : tM} {nn : tN} (hwf : sp_wf M nn) {nx i t : Nat} {b b2 : Nat → Bool} (h : ∀ d, d < nn 1 → b d = b2 d) : ∀ (n k : Nat), k < nn 2 → sp_fd M nx i t b n k = sp_fd M nx i t b2 n k := by
  have h16 : nn 1 ≤ 6 := hwf.1.1
  have h10 : nn 2 ≤ 10 := hwf.1.2.1
  intro n
  induction n with
  | zero => intro k _; rfl
  | succ n ih =>
    intro k hk
    rw [sp_fd_s, sp_fd_s]
    by_cases h1 : M 12 (12 * k + t) ≠ 0
    · rw [if_pos h1, if_pos h1]
    · rw [if_neg h1, if_neg h1]
      by_cases h2 : M 1 k = 100
      · obtain ⟨j, hj, e⟩ := (hwf.2.2.1 k hk).2.1 h2
        rw [if_pos h2, if_pos h2, e, ixN_nI (by omega), h j hj]
      · obtain ⟨⟨j, hj, e1⟩, j', hj', e2⟩ := (hwf.2.2.1 k hk).2.2 h2
        rw [if_neg h2, if_neg h2, e1, e2, ixN_nI (by omega), ixN_nI (by omega), ih j (by omega), ih j' (by omega)]
theorem sp_fd_al {M : tM} {nn : tN} (hwf : sp_wf M nn) {nx i t k : Nat} (hk : k < nn 2) : sp_fd M nx i t (fun d => decide (nI d ≤ 6)) 10 k = sp_fd M nx i t sp_al 10 k := by
  have h16 : nn 1 ≤ 6 := hwf.1.1
  refine sp_fd_b hwf (fun d hd => ?_) 10 k hk
  have e6 : (6 : Int32) = nI 6 := rfl
  rw [decide_eq_true (by rw [e6]; exact nI_le (by omega) (by decide)), sp_al, decide_eq_true (by rw [e6]; exact nI_lt (by omega) (by decide))]
theorem cs_abs {x : Int64} {a b : Int32} (hx : sp_in x = true) : (0 < lg_cmp (if 0 < x - a.toInt64 then x - a.toInt64 else -(x - a.toInt64)) b.toInt64) ↔ ¬ (x - a.toInt64 ≤ b.toInt64 ∧ -(x - a.toInt64) ≤ b.toInt64) := by
  obtain ⟨h1, h2⟩ := (sp_in_iff x).mp hx
  have e1 := mt Int64.lt_iff_toInt_lt.mpr h1
  have e2 := mt Int64.lt_iff_toInt_lt.mpr h2
  rw [show (-99999999 : Int64).toInt = -99999999 from by decide] at e1
  rw [show (99999999 : Int64).toInt = 99999999 from by decide] at e2
  have a1 := Int32.toInt_lt a
  have a2 := Int32.le_toInt a
  have b1 := Int32.toInt_lt b
  have b2 := Int32.le_toInt b
  have s1 : (x - a.toInt64).toInt = x.toInt - a.toInt := by
    rw [Int64.toInt_sub, Int32.toInt_toInt64]
    exact Int.bmod_eq_of_le (by omega) (by omega)
  have s2 : (-(x - a.toInt64)).toInt = -(x.toInt - a.toInt) := by
    rw [Int64.toInt_neg, s1]
    exact Int.bmod_eq_of_le (by omega) (by omega)
  rw [lg_cmp_gt]
  split
  · rename_i hp
    rw [Int64.lt_iff_toInt_lt, s1] at hp
    rw [Int64.lt_iff_toInt_lt, Int64.le_iff_toInt_le, Int64.le_iff_toInt_le, s1, s2, Int32.toInt_toInt64]
    have : (0 : Int64).toInt = 0 := by decide
    omega
  · rename_i hp
    rw [Int64.lt_iff_toInt_lt, s1] at hp
    rw [Int64.lt_iff_toInt_lt, Int64.le_iff_toInt_le, Int64.le_iff_toInt_le, s1, s2, Int32.toInt_toInt64]
    have : (0 : Int64).toInt = 0 := by decide
    omega
set_option maxHeartbeats 4000000 in
set_option maxRecDepth 100000 in
theorem metX1_hasDrifted (l : Launch) (hl0 : l.stackTraces = false) {E : Ev} {G : gh} {st k t : Nat} {M : tM} {nn : tN} {w : cW}  (hC : cS E G st M nn w) (hwf : sp_wf M nn) (hk : k < nn 2) (ht : t < 12) (h97 : M 14 (12 * k + t) = 97) : Met l yX1_hasDrifted (wsW_ yX1_hasDrifted cX1_hasDrifted 5 (some .boolean) [(7, 41, 42, 24), (7, 41, 42, 29)]) ({ frames := 30, cells := 2, slots := 9, locals := 4000 }) (gP E G [.ref st, .ref (w.fl k), .int (nI t)]) (gQ E (fun v G' => v = some (.int (if sp_st M (nn 4) (12 * k + t) = true then 1 else 0)) ∧ gh_le G G'))  2 9 (ev_A E) := by
  have h16 : nn 1 ≤ 6 := hwf.1.1
  have h10 : nn 2 ≤ 10 := hwf.1.2.1
  have h31 : 1 ≤ nn 3 := hwf.1.2.2.1.1
  refine gMetW RX1 (by decide) rfl (Nat.le_of_ble_eq_true rfl) ?_
  intro p e s m below meth c ls hx hb S hr htab hl hG hS
  have hl : lv_has ls 5 [(0, .ref st), (1, .ref (w.fl k)), (2, .int (nI t))] := hl
  obtain ⟨fo, ac, ap, ot, fa, fp, hO, hot, hfo, hAc, hAp, hfa, hfp⟩ := hC.2.2.2.2 k hk
  obtain ⟨ya, hya, hyb⟩ := (hfp t ht).2 (by rw [h97]; decide)
  refine lv_aload_n hx hb dX1_hasDrifted_0 rfl (lv_at hl 1 rfl) ?_
  refine gf_X1_202 S dX1_hasDrifted_1 hG hO rfl ?_
  refine lv_iload_n hx hb dX1_hasDrifted_4 rfl (lv_at hl 2 rfl) ?_
  refine n_aald 7 rfl S dX1_hasDrifted_5 hG hAp (gix.mk ht (by decide)) ?_
  refine W.eq (g2 := F0 m 6 ls [.ref ya]) (by rw [hya]; rfl) ?_
  refine lv_astore_n (lv' := [(3, .ref ya), (0, .ref st), (1, .ref (w.fl k)), (2, .int (nI t))]) hx hb dX1_hasDrifted_6 rfl hl (by decide) rfl (fun ls hl => ?_)
  refine lv_aload_n hx hb dX1_hasDrifted_7 rfl (lv_at hl 1 rfl) ?_
  refine lv_aload_n hx hb dX1_hasDrifted_8 rfl (lv_at hl 1 rfl) ?_
  refine g_call hS (va_runV (As := []) (rest := [.ref st]) S.1 (metX1_base l (E := E) (G := G) hC hwf) (cwV 0 S.ts (lw_V q507 q509 qs8 q30 q510) rfl rfl rfl (by decide +kernel) ⟨Nat.le_of_ble_eq_true rfl, Nat.le_of_ble_eq_true rfl⟩) (S.preV hG hS hC.1 rfl) rfl rfl hl.1 rfl (lv_room (Nat.le_of_ble_eq_true rfl)) dX1_hasDrifted_9 ⟨Nat.le_of_ble_eq_true rfl, Nat.le_of_ble_eq_true rfl⟩) (fun v G1 H locs hp hG hS => ?_)
  refine W.cs (cells' := 1) (slots' := 3) (by first | rfl | omega) (by first | rfl | omega) ?_
  obtain ⟨q, rfl, hq, rfl⟩ := hp
  refine W.eq (g2 := F0 m 12 ls [.ref q, .ref st]) rfl ?_
  obtain ⟨G1, hG, hle, hV⟩ : ∃ G1, gh_W E G1 H ∧ gh_le G G1 ∧ G1 q = some (50, 0, .inr (12, [.ref st, .int 6, .ref (w.fs 0)])) := ⟨_, hG, gh_fr.new hq, gh_up_s⟩
  have hC1 := hC.mono hle (fun _ _ z => z.elim)
  have hyb1 := hle.at hyb
  have hal := sp_fd_al hwf (nx := nn 4) (i := 0) (t := t) hk
  have hst9 := sp_st_eq (M := M) (nx := nn 4) (k := k) ht
  rw [h97] at hst9
  refine lv_aload_n hx hb dX1_hasDrifted_12 rfl (lv_at hl 2 rfl) ?_
  refine lv_iload_n hx hb dX1_hasDrifted_13 rfl (lv_at hl 3 rfl) ?_
  cases hz : sp_fd M (nn 4) 0 t (fun d => decide (nI d ≤ 6)) 10 k with
  | none =>
    rw [hz] at hal
    rw [← hal] at hst9
    refine g_callX hS (vx_runV (As := [.ref q, .ref (w.fl k), .int (nI t)]) (rest := []) S.1 (metX1_findBad l hl0 (E := E) (G := G1) hC1 hwf hV (show 0 < nn 3 by omega) ht k hk hz) (cwV 3 S.ts (lw_V q545 q547 qs12 q30 q548) rfl rfl rfl (by decide +kernel) ⟨by show k + 12 + 1 ≤ 30; omega, by show 8 + (5 + 11) + (40 * k + 600) ≤ 4000; omega⟩) (S.preV hG hS hC1.1 rfl) rfl rfl hl.1 rfl (lv_room (Nat.le_of_ble_eq_true rfl)) dX1_hasDrifted_14 ⟨by first | exact Nat.le_of_ble_eq_true rfl | omega, by first | exact Nat.le_of_ble_eq_true rfl | omega⟩) (fun C ce q9 G1 H locs hp hG hS hce hcv hcl => ?_) (fun v G1 H locs hp hG hS => ?_)
    · refine vx_widen (k := 2) (n := 9) (by first | exact Nat.le_refl _ | omega) (by first | exact Nat.le_refl _ | omega) ?_
      obtain ⟨hC9, hle9⟩ := hp
      rcases hC9 with rfl | rfl
      · refine vx_catch (own := RX1) (name := "CostStudio$TooGreat") (E := "CostStudio$TooGreat") S.1.2.2.2.1 [] ⟨7, 41, 42, 24⟩ [⟨7, 41, 42, 29⟩] (htab.trans rfl) (fun z hz => by cases hz) (by decide) (by decide) (S.ts _ q505) (va_Nw.use rfl (S.2.1.W q562 rfl)) hce hcv hcl ?_
        refine lv_astore (lv' := [(4, .ref q9), (3, .ref ya), (0, .ref st), (1, .ref (w.fl k)), (2, .int (nI t))]) hx hb dX1_hasDrifted_42 hl (by decide) rfl (fun ls hl => ?_)
        refine lv_iconst (v := 1) hx hb dX1_hasDrifted_44 (by decide) ?_
        exact g_zret rfl S hr dX1_hasDrifted_45 hG hS (by first | exact Nat.le_refl _ | omega) (by first | exact Nat.le_refl _ | omega) ⟨by rw [hst9]; rfl, hle.tr hle9⟩
      · refine vx_catch (own := RX1) (name := "CostStudio$TooSmall") (E := "CostStudio$TooSmall") S.1.2.2.2.1 [⟨7, 41, 42, 24⟩] ⟨7, 41, 42, 29⟩ [] (htab.trans rfl) (fun z hz => by cases hz with | head => exact Or.inr ⟨by decide, "CostStudio$TooGreat", S.ts _ q505, S.2.1.1.2.2.2 _ (List.mem_of_getElem? (i := 9) rfl)⟩ | tail _ h => cases h) (by decide) (by decide) (S.ts _ q506) (va_Nw.use rfl (S.2.1.W q586 rfl)) hce hcv hcl ?_
        refine lv_astore (lv' := [(4, .ref q9), (3, .ref ya), (0, .ref st), (1, .ref (w.fl k)), (2, .int (nI t))]) hx hb dX1_hasDrifted_42 hl (by decide) rfl (fun ls hl => ?_)
        refine lv_iconst (v := 1) hx hb dX1_hasDrifted_44 (by decide) ?_
        exact g_zret rfl S hr dX1_hasDrifted_45 hG hS (by first | exact Nat.le_refl _ | omega) (by first | exact Nat.le_refl _ | omega) ⟨by rw [hst9]; rfl, hle.tr hle9⟩
    refine W.cs (cells' := 2) (slots' := 9) (by first | rfl | omega) (by first | rfl | omega) ?_
    exact hp.elim
  | some x =>
    rw [hz] at hal
    rw [← hal] at hst9
    refine g_call hS (va_runV (As := [.ref q, .ref (w.fl k), .int (nI t)]) (rest := []) S.1 (metX1_findOk l (E := E) (G := G1) hC1 hwf hV (show 0 < nn 3 by omega) ht k hk x hz) (cwV 3 S.ts (lw_V q545 q547 qs12 q30 q548) rfl rfl rfl (by decide +kernel) ⟨by show k + 12 + 1 ≤ 30; omega, by show 8 + (5 + 11) + (40 * k + 600) ≤ 4000; omega⟩) (S.preV hG hS hC1.1 rfl) rfl rfl hl.1 rfl (lv_room (Nat.le_of_ble_eq_true rfl)) dX1_hasDrifted_14 ⟨by first | exact Nat.le_of_ble_eq_true rfl | omega, by first | exact Nat.le_of_ble_eq_true rfl | omega⟩) (fun v G1 H locs hp hG hS => ?_)
    refine W.cs (cells' := 1) (slots' := 3) (by first | rfl | omega) (by first | rfl | omega) ?_
    obtain ⟨rfl, rfl⟩ := hp
    refine W.eq (g2 := F0 m 17 ls [.int x.toInt32]) rfl ?_
    have hin9 := sp_fd_in hwf ht hk hz
    have hx9 := sp_in_32 hin9
    refine lv_i2l (v := x.toInt32.toInt64) hx hb dX1_hasDrifted_17 rfl ?_
    refine lv_aload_n hx hb dX1_hasDrifted_18 rfl (lv_at hl 0 rfl) ?_
    refine gf_X1_206 S dX1_hasDrifted_19 hG hyb1 rfl ?_
    refine lv_i2l (v := (M 10 (12 * k + t)).toInt64) hx hb dX1_hasDrifted_22 rfl ?_
    refine lv_lsub hx hb dX1_hasDrifted_23 ?_
    refine W.eq (g2 := F0 m 24 ls [.long (x - (M 10 (12 * k + t)).toInt64)]) (by rw [hx9]) ?_
    refine va_mabs_long hx hb (S.1.2.2.1.trans hl.1.symm) S.1.2.2.2.1 (S.ts _ q599) (S.ts _ q600) (S.ts _ q36) (S.ts _ q601) (Nat.le_of_ble_eq_true rfl) (Nat.le_of_ble_eq_true rfl) (Nat.le_of_ble_eq_true rfl) (Nat.le_of_ble_eq_true rfl) dX1_hasDrifted_24 ?_
    refine lv_aload_n hx hb dX1_hasDrifted_27 rfl (lv_at hl 0 rfl) ?_
    refine gf_X1_209 S dX1_hasDrifted_28 hG hyb1 rfl ?_
    refine lv_i2l (v := (M 11 (12 * k + t)).toInt64) hx hb dX1_hasDrifted_31 rfl ?_
    refine W.lcmp hx hb dX1_hasDrifted_32 ?_
    refine lv_if_le (tgt := 40) hx hb dX1_hasDrifted_33 (by decide) (fun h33 => ?_) (fun h33 => ?_)
    · have hn := Classical.not_not.mp (mt (cs_abs hin9).mpr (Int32.not_lt.mpr h33))
      have hs0 : sp_st M (nn 4) (12 * k + t) = false := by rw [hst9]; show (decide ((97 : Int32) = 97) && !(decide (x - (M 10 (12 * k + t)).toInt64 ≤ (M 11 (12 * k + t)).toInt64) && decide (-(x - (M 10 (12 * k + t)).toInt64) ≤ (M 11 (12 * k + t)).toInt64))) = false; rw [decide_eq_true hn.1, decide_eq_true hn.2]; rfl
      refine lv_iconst (v := 0) hx hb dX1_hasDrifted_40 (by decide) ?_
      exact g_zret rfl S hr dX1_hasDrifted_41 hG hS (by first | exact Nat.le_refl _ | omega) (by first | exact Nat.le_refl _ | omega) ⟨by rw [hs0]; rfl, hle⟩
    · have hn := (cs_abs hin9).mp (Int32.not_le.mp h33)
      have hs1 : sp_st M (nn 4) (12 * k + t) = true := by rw [hst9]; show (decide ((97 : Int32) = 97) && !(decide (x - (M 10 (12 * k + t)).toInt64 ≤ (M 11 (12 * k + t)).toInt64) && decide (-(x - (M 10 (12 * k + t)).toInt64) ≤ (M 11 (12 * k + t)).toInt64))) = true; rw [show (decide (x - (M 10 (12 * k + t)).toInt64 ≤ (M 11 (12 * k + t)).toInt64) && decide (-(x - (M 10 (12 * k + t)).toInt64) ≤ (M 11 (12 * k + t)).toInt64)) = false from by rw [← Bool.decide_and]; exact decide_eq_false hn]; rfl
      refine lv_iconst (v := 1) hx hb dX1_hasDrifted_36 (by decide) ?_
      refine lv_goto (tgt := 41) hx hb dX1_hasDrifted_37 (by decide) ?_
      exact g_zret rfl S hr dX1_hasDrifted_41 hG hS (by first | exact Nat.le_refl _ | omega) (by first | exact Nat.le_refl _ | omega) ⟨by rw [hs1]; rfl, hle⟩
