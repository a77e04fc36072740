theorem upd_self {f : Nat → Int32} {k : Nat} : upd f k (f k) = f := by
  funext j
  by_cases h : j = k
  · subst h; exact pk_us
  · exact pk_un h
theorem upd_upd {f : Nat → Int32} {k : Nat} {a b : Int32} : upd (upd f k a) k b = upd f k b := by
  funext j
  by_cases h : j = k
  · subst h; rw [pk_us, pk_us]
  · rw [pk_un h, pk_un h, pk_un h]
theorem va_self {M : tM} {i : Nat} : va_up M i (M i) = M := by
  funext j
  unfold va_up
  split
  · rename_i h; rw [h]
  · rfl
theorem sp_yr_none {M : tM} {nx i l n : Nat} (k : Nat) (h : sp_yr M nx i l n = none) : sp_yr M nx i l (n + k) = none := by
  induction k with
  | zero => exact h
  | succ k ih => show (sp_yr M nx i l (n + k)).bind _ = none; rw [ih]; rfl
theorem sp_in_act {x : Int32} (h : -9999999 ≤ x ∧ x ≤ 9999999) : sp_in x.toInt64 = true := by
  have a := Int32.le_iff_toInt_le.mp h.1
  have b := Int32.le_iff_toInt_le.mp h.2
  rw [show (-9999999 : Int32).toInt = -9999999 by decide] at a
  rw [show (9999999 : Int32).toInt = 9999999 by decide] at b
  simp only [sp_in, Bool.and_eq_true, decide_eq_true_eq, Int64.le_iff_toInt_le, Int32.toInt_toInt64]
  rw [show (-99999999 : Int64).toInt = -99999999 by decide, show (99999999 : Int64).toInt = 99999999 by decide]
  omega
theorem oM11_wf {M : tM} {nn : tN} (h : sp_wf M nn) {k t : Nat} {l u n : Int32} (hl : ixN l = k) (hu : ixN u = t) (hk : k < nn 2) (ht : t < 12) (hn : -9999999 ≤ n ∧ n ≤ 9999999) : sp_wf (oM11 M l u n) nn := by
  refine ⟨h.1, h.2.1, h.2.2.1, h.2.2.2.1, fun q hq => ?_⟩
  obtain ⟨a, b, c, d⟩ := h.2.2.2.2 q hq
  show (M 14 q = 45 ∨ M 14 q = 97 ∨ M 14 q = 111) ∧ (upd (M 12) (12 * ixN l + ixN u) 1 q = 0 ∨ upd (M 12) (12 * ixN l + ixN u) 1 q = 1) ∧ (12 * nn 2 ≤ q → M 14 q = 45 ∧ upd (M 12) (12 * ixN l + ixN u) 1 q = 0) ∧ (upd (M 12) (12 * ixN l + ixN u) 1 q = 1 → sp_in (upd (M 9) (12 * ixN l + ixN u) n q).toInt64 = true)
  rw [hl, hu]
  by_cases hj : q = 12 * k + t
  · subst hj
    rw [pk_us, pk_us]
    exact ⟨a, Or.inr rfl, fun h9 => absurd h9 (by omega), fun _ => sp_in_act hn⟩
  · rw [pk_un hj, pk_un hj]
    exact ⟨a, b, c, d⟩
theorem oM12_wf {M : tM} {nn : tN} (h : sp_wf M nn) {l u : Int32} : sp_wf (oM12 M l u) nn := by
  refine ⟨h.1, h.2.1, h.2.2.1, h.2.2.2.1, fun q hq => ?_⟩
  obtain ⟨a, b, c, d⟩ := h.2.2.2.2 q hq
  show (M 14 q = 45 ∨ M 14 q = 97 ∨ M 14 q = 111) ∧ (upd (M 12) (12 * ixN l + ixN u) 0 q = 0 ∨ upd (M 12) (12 * ixN l + ixN u) 0 q = 1) ∧ (12 * nn 2 ≤ q → M 14 q = 45 ∧ upd (M 12) (12 * ixN l + ixN u) 0 q = 0) ∧ (upd (M 12) (12 * ixN l + ixN u) 0 q = 1 → sp_in (M 9 q).toInt64 = true)
  by_cases hj : q = 12 * ixN l + ixN u
  · rw [hj, pk_us]
    rw [← hj]
    exact ⟨a, Or.inl rfl, fun h9 => ⟨(c h9).1, rfl⟩, fun h9 => absurd h9 (by decide)⟩
  · rw [pk_un hj]
    exact ⟨a, b, c, d⟩
set_option maxHeartbeats 4000000 in
set_option maxRecDepth 100000 in
theorem metX3_actual (l : Launch) {E : Ev} {G : gh} {mo : Nat} {ma : Nat → Nat} {M : Nat → Nat → Int32} {fo : Nat → Int64} {fi : Nat → Int32} {th : Int32} {nn : Nat → Nat} (x y z : Int32) (hM : Md E G mo ma M fo fi th nn) (hwf : sp_wf M nn) : Met l yX3_actual (ws_ yX3_actual cX3_actual 4 (some .int)) ({ frames := 5, cells := 0, slots := 0, locals := 320 }) (gP E G [.ref mo, .int x, .int y, .int z]) (gQ E (fun v G' => mdI E G mo ma (oc11 nn x y z) (sp_rn (oM11 M x y z) nn) M (sp_re (oM11 M x y z) nn) nn (nn) v G')) 0 0 (ev_A E) := by
  have h16 : nn 1 ≤ 6 := hwf.1.1
  have h10 : nn 2 ≤ 10 := hwf.1.2.1
  have h34 : nn 3 ≤ 4 := hwf.1.2.2.1.2
  have h31 : 1 ≤ nn 3 := hwf.1.2.2.1.1
  have h412 : nn 4 ≤ 12 := hwf.1.2.2.2.1
  have h511 : nn 5 ≤ 11 := hwf.1.2.2.2.2
  refine gMet RX3 (by decide) rfl (Nat.le_of_ble_eq_true rfl) ?_
  intro p e s m below meth c ls hx hb S hr hnm hl hG hS
  have hl : lv_has ls 4 [(0, .ref mo), (1, .int x), (2, .int y), (3, .int z)] := hl
  have hF : gh_fr mdT G G := gh_fr.rf
  refine lv_aload_n hx hb dX3_actual_0 rfl (lv_at hl 0 rfl) ?_
  refine lv_aload_n hx hb dX3_actual_1 rfl (lv_at hl 0 rfl) ?_
  refine lv_iload_n hx hb dX3_actual_2 rfl (lv_at hl 1 rfl) ?_
  refine g_call hS (va_runV (As := [.int x]) (rest := [.ref mo]) S.1 (metX3_isLine l x hM) (cwV 1 S.ts (lw_V q1123 q1125 qs27 q39 q1126) rfl rfl rfl (by decide +kernel) ⟨Nat.le_of_ble_eq_true rfl, Nat.le_of_ble_eq_true rfl⟩) (S.preV hG hS hM.1 rfl) rfl rfl hl.1 rfl (lv_room (Nat.le_of_ble_eq_true rfl)) dX3_actual_3 ⟨Nat.le_of_ble_eq_true rfl, Nat.le_of_ble_eq_true rfl⟩) (fun v G1 H locs hp hG hS => ?_)
  refine W.cs (cells' := 0) (slots' := 0) (by first | rfl | omega) (by first | rfl | omega) ?_
  obtain ⟨r, rfl, hr1, rfl⟩ := hp
  rcases hr1 with ⟨rfl, hd⟩ | ⟨rfl, hd⟩
  · refine W.eq (g2 := F0 m 6 ls [.int 1, .ref mo]) rfl ?_
    refine lv_if_eq (tgt := 16) hx hb dX3_actual_6 (by decide) (fun h => absurd h (by decide)) (fun _ => ?_)
    refine lv_iload_n hx hb dX3_actual_9 rfl (lv_at hl 2 rfl) ?_
    refine g_call hS (va_runS (As := [.int y]) (rest := [.ref mo]) S.1 (metX3_isMonth l (E := E) (G := _) y) (va_cwS 1 S.ts (lw_S q1112 q1113 q39 q1114) rfl rfl rfl (by decide +kernel) ⟨Nat.le_of_ble_eq_true rfl, Nat.le_of_ble_eq_true rfl⟩) (S.pre hG hS) rfl rfl hl.1 rfl (lv_room (Nat.le_of_ble_eq_true rfl)) dX3_actual_10 ⟨Nat.le_of_ble_eq_true rfl, Nat.le_of_ble_eq_true rfl⟩) (fun v G1 H locs hp hG hS => ?_)
    refine W.cs (cells' := 0) (slots' := 0) (by first | rfl | omega) (by first | rfl | omega) ?_
    obtain ⟨r, rfl, hr1, rfl⟩ := hp
    rcases hr1 with ⟨rfl, ht⟩ | ⟨rfl, ht⟩
    · refine W.eq (g2 := F0 m 13 ls [.int 1, .ref mo]) rfl ?_
      refine lv_if_ne (tgt := 20) hx hb dX3_actual_13 (by decide) (fun _ => ?_) (fun h => absurd h (by decide))
      refine lv_iload_n hx hb dX3_actual_20 rfl (lv_at hl 2 rfl) ?_
      refine lv_aload_n hx hb dX3_actual_21 rfl (lv_at hl 0 rfl) ?_
      refine gf_X3_77 S dX3_actual_22 hG hM.1 rfl ?_
      refine lv_icmp_gt (tgt := 39) hx hb dX3_actual_25 (by decide) (fun h25 => ?_) (fun h25 => ?_)
      · have hc : oc11 nn x y z = 2 := by rw [oc11, if_neg (Classical.not_not.mpr ⟨hd, ht⟩), if_pos (Or.inl h25)]
        refine lv_iconst (v := 2) hx hb dX3_actual_39 (by decide) ?_
        refine lv_goto (tgt := 44) hx hb dX3_actual_40 (by decide) ?_
        refine pf_X3_61 S dX3_actual_44 rfl rfl hG hS hM.1 (Nat.le_of_ble_eq_true rfl) (fun H locs hG hS => ?_)
        obtain ⟨G1, hG, hF, hM⟩ : ∃ G1, gh_W E G1 H ∧ gh_fr mdT G G1 ∧ Md E G1 mo ma M fo fi 2 nn := ⟨_, hG, hF.tr (gh_fr.set hM.1 (Or.inl rfl)), hM.setO (th' := 2) (nn' := nn) rfl⟩
        refine lv_aload_n hx hb dX3_actual_47 rfl (lv_at hl 0 rfl) ?_
        refine gf_X3_61 S dX3_actual_48 hG hM.1 rfl ?_
        refine lv_if_le (tgt := 56) hx hb dX3_actual_51 (by decide) (fun h => absurd h (by decide)) (fun _ => ?_)
        refine lv_iconst (v := 0) hx hb dX3_actual_54 (by decide) ?_
        exact g_iret S hr dX3_actual_55 hG hS (by first | exact Nat.le_refl _ | omega) (by first | exact Nat.le_refl _ | omega) ⟨0, rfl, fun q => absurd (hc.symm.trans q) (by decide), mdQ.bad hc (by decide) hM hF⟩
      · refine lv_iload_n hx hb dX3_actual_28 rfl (lv_at hl 3 rfl) ?_
        refine lv_ldc (v := (-9999999)) hx hb S.1.2.2.2.1 (S.ts _ q1160) dX3_actual_29 ?_
        refine lv_ldc (v := 9999999) hx hb S.1.2.2.2.1 (S.ts _ q1161) dX3_actual_31 ?_
        refine g_call hS (va_runS (As := [.int z, .int (-9999999), .int 9999999]) (rest := [.ref mo]) S.1 (metX3_in l (E := E) (G := _) z (-9999999) 9999999) (va_cwS 3 S.ts (lw_S q1067 q1068 q39 q1069) rfl rfl rfl (by decide +kernel) ⟨Nat.le_of_ble_eq_true rfl, Nat.le_of_ble_eq_true rfl⟩) (S.pre hG hS) rfl rfl hl.1 rfl (lv_room (Nat.le_of_ble_eq_true rfl)) dX3_actual_33 ⟨Nat.le_of_ble_eq_true rfl, Nat.le_of_ble_eq_true rfl⟩) (fun v G1 H locs hp hG hS => ?_)
        refine W.cs (cells' := 0) (slots' := 0) (by first | rfl | omega) (by first | rfl | omega) ?_
        obtain ⟨r, rfl, hr1, rfl⟩ := hp
        rcases hr1 with ⟨rfl, hv⟩ | ⟨rfl, hv⟩
        · refine W.eq (g2 := F0 m 36 ls [.int 1, .ref mo]) rfl ?_
          have hc : oc11 nn x y z = 0 := by rw [oc11, if_neg (Classical.not_not.mpr ⟨hd, ht⟩), if_neg (fun q => by rcases q with q | q; exact h25 q; exact q hv)]
          obtain ⟨k, rfl, hk, ek⟩ := vix.ix hd (by omega)
          obtain ⟨t, rfl, ht, et⟩ := vmo.ix ht
          refine lv_if_ne (tgt := 43) hx hb dX3_actual_36 (by decide) (fun _ => ?_) (fun h => absurd h (by decide))
          refine lv_iconst (v := 0) hx hb dX3_actual_43 (by decide) ?_
          refine pf_X3_61 S dX3_actual_44 rfl rfl hG hS hM.1 (Nat.le_of_ble_eq_true rfl) (fun H locs hG hS => ?_)
          obtain ⟨G2, hG, hF, hM⟩ : ∃ G1, gh_W E G1 H ∧ gh_fr mdT G G1 ∧ Md E G1 mo ma M fo fi 0 nn := ⟨_, hG, hF.tr (gh_fr.set hM.1 (Or.inl rfl)), hM.setO (th' := 0) (nn' := nn) rfl⟩
          refine lv_aload_n hx hb dX3_actual_47 rfl (lv_at hl 0 rfl) ?_
          refine gf_X3_61 S dX3_actual_48 hG hM.1 rfl ?_
          refine lv_if_le (tgt := 56) hx hb dX3_actual_51 (by decide) (fun _ => ?_) (fun h => absurd h (by decide))
          refine lv_aload_n hx hb dX3_actual_56 rfl (lv_at hl 0 rfl) ?_
          refine gf_X3_46 S dX3_actual_57 hG hM.1 rfl ?_
          refine lv_iload_n hx hb dX3_actual_60 rfl (lv_at hl 1 rfl) ?_
          refine lv_iload_n hx hb dX3_actual_61 rfl (lv_at hl 2 rfl) ?_
          refine g_call hS (va_runS (As := [.int (nI k), .int (nI t)]) (rest := [.ref (ma 12)]) S.1 (metX3_at l (E := E) (G := _) (nI k) (nI t)) (va_cwS 2 S.ts (lw_S q1082 q1083 q39 q1084) rfl rfl rfl (by decide +kernel) ⟨Nat.le_of_ble_eq_true rfl, Nat.le_of_ble_eq_true rfl⟩) (S.pre hG hS) rfl rfl hl.1 rfl (lv_room (Nat.le_of_ble_eq_true rfl)) dX3_actual_62 ⟨Nat.le_of_ble_eq_true rfl, Nat.le_of_ble_eq_true rfl⟩) (fun v G1 H locs hp hG hS => ?_)
          refine W.cs (cells' := 0) (slots' := 0) (by first | rfl | omega) (by first | rfl | omega) ?_
          obtain ⟨rfl, rfl⟩ := hp
          refine W.eq (g2 := F0 m 65 ls [.int (nI (12 * k + t)), .ref (ma 12)]) (by rw [← sp_at]; rfl) ?_
          refine lv_iconst (v := 1) hx hb dX3_actual_65 (by decide) ?_
          refine n_zast S dX3_actual_66 hG hS (hM.arr 12 (by decide)) (gix.mk (show 12 * k + t < 120 by omega) (by decide)) (fun H locs hG hS => ?_)
          obtain ⟨G3, hG, hF, hM⟩ : ∃ G1, gh_W E G1 H ∧ gh_fr mdT G G1 ∧ Md E G1 mo ma (va_up M 12 (upd (M 12) (12 * k + t) (vp_nar .boolean 1))) fo fi 0 nn := ⟨_, hG, hF.tr (gh_fr.set (hM.arr 12 (by decide)) (Or.inr (Or.inl rfl))), hM.set 12 (by decide) _⟩
          refine lv_aload_n hx hb dX3_actual_67 rfl (lv_at hl 0 rfl) ?_
          refine gf_X3_37 S dX3_actual_68 hG hM.1 rfl ?_
          refine lv_iload_n hx hb dX3_actual_71 rfl (lv_at hl 1 rfl) ?_
          refine lv_iload_n hx hb dX3_actual_72 rfl (lv_at hl 2 rfl) ?_
          refine g_call hS (va_runS (As := [.int (nI k), .int (nI t)]) (rest := [.ref (ma 9)]) S.1 (metX3_at l (E := E) (G := _) (nI k) (nI t)) (va_cwS 2 S.ts (lw_S q1082 q1083 q39 q1084) rfl rfl rfl (by decide +kernel) ⟨Nat.le_of_ble_eq_true rfl, Nat.le_of_ble_eq_true rfl⟩) (S.pre hG hS) rfl rfl hl.1 rfl (lv_room (Nat.le_of_ble_eq_true rfl)) dX3_actual_73 ⟨Nat.le_of_ble_eq_true rfl, Nat.le_of_ble_eq_true rfl⟩) (fun v G1 H locs hp hG hS => ?_)
          refine W.cs (cells' := 0) (slots' := 0) (by first | rfl | omega) (by first | rfl | omega) ?_
          obtain ⟨rfl, rfl⟩ := hp
          refine W.eq (g2 := F0 m 76 ls [.int (nI (12 * k + t)), .ref (ma 9)]) (by rw [← sp_at]; rfl) ?_
          refine lv_iload_n hx hb dX3_actual_76 rfl (lv_at hl 3 rfl) ?_
          refine n_iast S dX3_actual_77 hG hS (hM.arr 9 (by decide)) (gix.mk (show 12 * k + t < 120 by omega) (by decide)) (fun H locs hG hS => ?_)
          obtain ⟨G4, hG, hF, hM⟩ : ∃ G1, gh_W E G1 H ∧ gh_fr mdT G G1 ∧ Md E G1 mo ma (oM11 M (nI k) (nI t) z) fo fi 0 nn := ⟨_, hG, hF.tr (gh_fr.set (hM.arr 9 (by decide)) (Or.inr (Or.inl rfl))), by rw [oM11, qix, ek, et, ← vp_nar_z 1 (Or.inl rfl)]; exact hM.set 9 (by decide) _⟩
          refine lv_aload_n hx hb dX3_actual_78 rfl (lv_at hl 0 rfl) ?_
          refine g_call hS (va_runV (As := []) (rest := []) S.1 (metX3_looks l hM (oM11_wf hwf ek et hk ht hv)) (cwV 0 S.ts (lw_V q1078 q1080 qs20 q39 q1081) rfl rfl rfl (by decide +kernel) ⟨Nat.le_of_ble_eq_true rfl, Nat.le_of_ble_eq_true rfl⟩) (S.preV hG hS hM.1 rfl) rfl rfl hl.1 rfl (lv_room (Nat.le_of_ble_eq_true rfl)) dX3_actual_79 ⟨Nat.le_of_ble_eq_true rfl, Nat.le_of_ble_eq_true rfl⟩) (fun v G1 H locs hp hG hS => ?_)
          refine W.cs (cells' := 0) (slots' := 0) (by first | rfl | omega) (by first | rfl | omega) ?_
          obtain ⟨rfl, fo2, fi2, hM, hF2⟩ := hp
          have hF := hF.tr hF2
          refine W.eq (g2 := F0 m 82 ls [.int (sp_rn (oM11 M (nI k) (nI t) z) nn)]) rfl ?_
          exact g_iret S hr dX3_actual_82 hG hS (by first | exact Nat.le_refl _ | omega) (by first | exact Nat.le_refl _ | omega) ⟨_, rfl, fun _ => rfl, mdQ.ok hc hM hF⟩
        · refine W.eq (g2 := F0 m 36 ls [.int 0, .ref mo]) rfl ?_
          have hc : oc11 nn x y z = 2 := by rw [oc11, if_neg (Classical.not_not.mpr ⟨hd, ht⟩), if_pos (Or.inr hv)]
          refine lv_if_ne (tgt := 43) hx hb dX3_actual_36 (by decide) (fun h => absurd h (by decide)) (fun _ => ?_)
          refine lv_iconst (v := 2) hx hb dX3_actual_39 (by decide) ?_
          refine lv_goto (tgt := 44) hx hb dX3_actual_40 (by decide) ?_
          refine pf_X3_61 S dX3_actual_44 rfl rfl hG hS hM.1 (Nat.le_of_ble_eq_true rfl) (fun H locs hG hS => ?_)
          obtain ⟨G5, hG, hF, hM⟩ : ∃ G1, gh_W E G1 H ∧ gh_fr mdT G G1 ∧ Md E G1 mo ma M fo fi 2 nn := ⟨_, hG, hF.tr (gh_fr.set hM.1 (Or.inl rfl)), hM.setO (th' := 2) (nn' := nn) rfl⟩
          refine lv_aload_n hx hb dX3_actual_47 rfl (lv_at hl 0 rfl) ?_
          refine gf_X3_61 S dX3_actual_48 hG hM.1 rfl ?_
          refine lv_if_le (tgt := 56) hx hb dX3_actual_51 (by decide) (fun h => absurd h (by decide)) (fun _ => ?_)
          refine lv_iconst (v := 0) hx hb dX3_actual_54 (by decide) ?_
          exact g_iret S hr dX3_actual_55 hG hS (by first | exact Nat.le_refl _ | omega) (by first | exact Nat.le_refl _ | omega) ⟨0, rfl, fun q => absurd (hc.symm.trans q) (by decide), mdQ.bad hc (by decide) hM hF⟩
    · refine W.eq (g2 := F0 m 13 ls [.int 0, .ref mo]) rfl ?_
      have hc : oc11 nn x y z = 1 := by rw [oc11, if_pos (fun q => ht q.2)]
      refine lv_if_ne (tgt := 20) hx hb dX3_actual_13 (by decide) (fun h => absurd h (by decide)) (fun _ => ?_)
      refine lv_iconst (v := 1) hx hb dX3_actual_16 (by decide) ?_
      refine lv_goto (tgt := 44) hx hb dX3_actual_17 (by decide) ?_
      refine pf_X3_61 S dX3_actual_44 rfl rfl hG hS hM.1 (Nat.le_of_ble_eq_true rfl) (fun H locs hG hS => ?_)
      obtain ⟨G6, hG, hF, hM⟩ : ∃ G1, gh_W E G1 H ∧ gh_fr mdT G G1 ∧ Md E G1 mo ma M fo fi 1 nn := ⟨_, hG, hF.tr (gh_fr.set hM.1 (Or.inl rfl)), hM.setO (th' := 1) (nn' := nn) rfl⟩
      refine lv_aload_n hx hb dX3_actual_47 rfl (lv_at hl 0 rfl) ?_
      refine gf_X3_61 S dX3_actual_48 hG hM.1 rfl ?_
      refine lv_if_le (tgt := 56) hx hb dX3_actual_51 (by decide) (fun h => absurd h (by decide)) (fun _ => ?_)
      refine lv_iconst (v := 0) hx hb dX3_actual_54 (by decide) ?_
      exact g_iret S hr dX3_actual_55 hG hS (by first | exact Nat.le_refl _ | omega) (by first | exact Nat.le_refl _ | omega) ⟨0, rfl, fun q => absurd (hc.symm.trans q) (by decide), mdQ.bad hc (by decide) hM hF⟩
  · refine W.eq (g2 := F0 m 6 ls [.int 0, .ref mo]) rfl ?_
    have hc : oc11 nn x y z = 1 := by rw [oc11, if_pos (fun q => hd q.1)]
    refine lv_if_eq (tgt := 16) hx hb dX3_actual_6 (by decide) (fun _ => ?_) (fun h => absurd h (by decide))
    refine lv_iconst (v := 1) hx hb dX3_actual_16 (by decide) ?_
    refine lv_goto (tgt := 44) hx hb dX3_actual_17 (by decide) ?_
    refine pf_X3_61 S dX3_actual_44 rfl rfl hG hS hM.1 (Nat.le_of_ble_eq_true rfl) (fun H locs hG hS => ?_)
    obtain ⟨G7, hG, hF, hM⟩ : ∃ G1, gh_W E G1 H ∧ gh_fr mdT G G1 ∧ Md E G1 mo ma M fo fi 1 nn := ⟨_, hG, hF.tr (gh_fr.set hM.1 (Or.inl rfl)), hM.setO (th' := 1) (nn' := nn) rfl⟩
    refine lv_aload_n hx hb dX3_actual_47 rfl (lv_at hl 0 rfl) ?_
    refine gf_X3_61 S dX3_actual_48 hG hM.1 rfl ?_
    refine lv_if_le (tgt := 56) hx hb dX3_actual_51 (by decide) (fun h => absurd h (by decide)) (fun _ => ?_)
    refine lv_iconst (v := 0) hx hb dX3_actual_54 (by decide) ?_
    exact g_iret S hr dX3_actual_55 hG hS (by first | exact Nat.le_refl _ | omega) (by first | exact Nat.le_refl _ | omega) ⟨0, rfl, fun q => absurd (hc.symm.trans q) (by decide), mdQ.bad hc (by decide) hM hF⟩
set_option maxHeartbeats 4000000 in
set_option maxRecDepth 100000 in
theorem metX3_takeActual (l : Launch) {E : Ev} {G : gh} {mo : Nat} {ma : Nat → Nat} {M : Nat → Nat → Int32} {fo : Nat → Int64} {fi : Nat → Int32} {th : Int32} {nn : Nat → Nat} (x y : Int32) (hM : Md E G mo ma M fo fi th nn) (hwf : sp_wf M nn) : Met l yX3_takeActual (ws_ yX3_takeActual cX3_takeActual 3 (some .int)) ({ frames := 5, cells := 0, slots := 0, locals := 320 }) (gP E G [.ref mo, .int x, .int y]) (gQ E (fun v G' => mdI E G mo ma (oc12 M nn x y) (sp_rn (oM12 M x y) nn) M (sp_re (oM12 M x y) nn) nn (nn) v G')) 0 0 (ev_A E) := by
  have h16 : nn 1 ≤ 6 := hwf.1.1
  have h10 : nn 2 ≤ 10 := hwf.1.2.1
  have h34 : nn 3 ≤ 4 := hwf.1.2.2.1.2
  have h31 : 1 ≤ nn 3 := hwf.1.2.2.1.1
  have h412 : nn 4 ≤ 12 := hwf.1.2.2.2.1
  have h511 : nn 5 ≤ 11 := hwf.1.2.2.2.2
  refine gMet RX3 (by decide) rfl (Nat.le_of_ble_eq_true rfl) ?_
  intro p e s m below meth c ls hx hb S hr hnm hl hG hS
  have hl : lv_has ls 3 [(0, .ref mo), (1, .int x), (2, .int y)] := hl
  have hF : gh_fr mdT G G := gh_fr.rf
  refine lv_aload_n hx hb dX3_takeActual_0 rfl (lv_at hl 0 rfl) ?_
  refine lv_aload_n hx hb dX3_takeActual_1 rfl (lv_at hl 0 rfl) ?_
  refine lv_iload_n hx hb dX3_takeActual_2 rfl (lv_at hl 1 rfl) ?_
  refine g_call hS (va_runV (As := [.int x]) (rest := [.ref mo]) S.1 (metX3_isLine l x hM) (cwV 1 S.ts (lw_V q1123 q1125 qs27 q39 q1126) rfl rfl rfl (by decide +kernel) ⟨Nat.le_of_ble_eq_true rfl, Nat.le_of_ble_eq_true rfl⟩) (S.preV hG hS hM.1 rfl) rfl rfl hl.1 rfl (lv_room (Nat.le_of_ble_eq_true rfl)) dX3_takeActual_3 ⟨Nat.le_of_ble_eq_true rfl, Nat.le_of_ble_eq_true rfl⟩) (fun v G1 H locs hp hG hS => ?_)
  refine W.cs (cells' := 0) (slots' := 0) (by first | rfl | omega) (by first | rfl | omega) ?_
  obtain ⟨r, rfl, hr1, rfl⟩ := hp
  rcases hr1 with ⟨rfl, hd⟩ | ⟨rfl, hd⟩
  · refine W.eq (g2 := F0 m 6 ls [.int 1, .ref mo]) rfl ?_
    refine lv_if_eq (tgt := 16) hx hb dX3_takeActual_6 (by decide) (fun h => absurd h (by decide)) (fun _ => ?_)
    refine lv_iload_n hx hb dX3_takeActual_9 rfl (lv_at hl 2 rfl) ?_
    refine g_call hS (va_runS (As := [.int y]) (rest := [.ref mo]) S.1 (metX3_isMonth l (E := E) (G := _) y) (va_cwS 1 S.ts (lw_S q1112 q1113 q39 q1114) rfl rfl rfl (by decide +kernel) ⟨Nat.le_of_ble_eq_true rfl, Nat.le_of_ble_eq_true rfl⟩) (S.pre hG hS) rfl rfl hl.1 rfl (lv_room (Nat.le_of_ble_eq_true rfl)) dX3_takeActual_10 ⟨Nat.le_of_ble_eq_true rfl, Nat.le_of_ble_eq_true rfl⟩) (fun v G1 H locs hp hG hS => ?_)
    refine W.cs (cells' := 0) (slots' := 0) (by first | rfl | omega) (by first | rfl | omega) ?_
    obtain ⟨r, rfl, hr1, rfl⟩ := hp
    rcases hr1 with ⟨rfl, ht⟩ | ⟨rfl, ht⟩
    · refine W.eq (g2 := F0 m 13 ls [.int 1, .ref mo]) rfl ?_
      have hc0 : ¬ ¬ (vix (nn 2) x ∧ vmo y) := Classical.not_not.mpr ⟨hd, ht⟩
      obtain ⟨k, rfl, hk, ek⟩ := vix.ix hd (by omega)
      obtain ⟨t, rfl, ht, et⟩ := vmo.ix ht
      have eq : qix (nI k) (nI t) = 12 * k + t := by rw [qix, ek, et]
      refine lv_if_ne (tgt := 20) hx hb dX3_takeActual_13 (by decide) (fun _ => ?_) (fun h => absurd h (by decide))
      refine lv_aload_n hx hb dX3_takeActual_20 rfl (lv_at hl 0 rfl) ?_
      refine gf_X3_46 S dX3_takeActual_21 hG hM.1 rfl ?_
      refine lv_iload_n hx hb dX3_takeActual_24 rfl (lv_at hl 1 rfl) ?_
      refine lv_iload_n hx hb dX3_takeActual_25 rfl (lv_at hl 2 rfl) ?_
      refine g_call hS (va_runS (As := [.int (nI k), .int (nI t)]) (rest := [.ref (ma 12), .ref mo]) S.1 (metX3_at l (E := E) (G := _) (nI k) (nI t)) (va_cwS 2 S.ts (lw_S q1082 q1083 q39 q1084) rfl rfl rfl (by decide +kernel) ⟨Nat.le_of_ble_eq_true rfl, Nat.le_of_ble_eq_true rfl⟩) (S.pre hG hS) rfl rfl hl.1 rfl (lv_room (Nat.le_of_ble_eq_true rfl)) dX3_takeActual_26 ⟨Nat.le_of_ble_eq_true rfl, Nat.le_of_ble_eq_true rfl⟩) (fun v G1 H locs hp hG hS => ?_)
      refine W.cs (cells' := 0) (slots' := 0) (by first | rfl | omega) (by first | rfl | omega) ?_
      obtain ⟨rfl, rfl⟩ := hp
      refine W.eq (g2 := F0 m 29 ls [.int (nI (12 * k + t)), .ref (ma 12), .ref mo]) (by rw [← sp_at]; rfl) ?_
      refine n_zald S dX3_takeActual_29 hG (hM.arr 12 (by decide)) (gix.mk (show 12 * k + t < 120 by omega) (by decide)) ?_
      refine lv_if_ne (tgt := 37) hx hb dX3_takeActual_30 (by decide) (fun h30 => ?_) (fun h30 => ?_)
      · have hc : oc12 M nn (nI k) (nI t) = 0 := by rw [oc12, if_neg hc0, eq, if_neg h30]
        refine lv_iconst (v := 0) hx hb dX3_takeActual_37 (by decide) ?_
        refine pf_X3_61 S dX3_takeActual_38 rfl rfl hG hS hM.1 (Nat.le_of_ble_eq_true rfl) (fun H locs hG hS => ?_)
        obtain ⟨G1, hG, hF, hM⟩ : ∃ G1, gh_W E G1 H ∧ gh_fr mdT G G1 ∧ Md E G1 mo ma M fo fi 0 nn := ⟨_, hG, hF.tr (gh_fr.set hM.1 (Or.inl rfl)), hM.setO (th' := 0) (nn' := nn) rfl⟩
        refine lv_aload_n hx hb dX3_takeActual_41 rfl (lv_at hl 0 rfl) ?_
        refine gf_X3_61 S dX3_takeActual_42 hG hM.1 rfl ?_
        refine lv_if_le (tgt := 50) hx hb dX3_takeActual_45 (by decide) (fun _ => ?_) (fun h => absurd h (by decide))
        refine lv_aload_n hx hb dX3_takeActual_50 rfl (lv_at hl 0 rfl) ?_
        refine gf_X3_46 S dX3_takeActual_51 hG hM.1 rfl ?_
        refine lv_iload_n hx hb dX3_takeActual_54 rfl (lv_at hl 1 rfl) ?_
        refine lv_iload_n hx hb dX3_takeActual_55 rfl (lv_at hl 2 rfl) ?_
        refine g_call hS (va_runS (As := [.int (nI k), .int (nI t)]) (rest := [.ref (ma 12)]) S.1 (metX3_at l (E := E) (G := _) (nI k) (nI t)) (va_cwS 2 S.ts (lw_S q1082 q1083 q39 q1084) rfl rfl rfl (by decide +kernel) ⟨Nat.le_of_ble_eq_true rfl, Nat.le_of_ble_eq_true rfl⟩) (S.pre hG hS) rfl rfl hl.1 rfl (lv_room (Nat.le_of_ble_eq_true rfl)) dX3_takeActual_56 ⟨Nat.le_of_ble_eq_true rfl, Nat.le_of_ble_eq_true rfl⟩) (fun v G1 H locs hp hG hS => ?_)
        refine W.cs (cells' := 0) (slots' := 0) (by first | rfl | omega) (by first | rfl | omega) ?_
        obtain ⟨rfl, rfl⟩ := hp
        refine W.eq (g2 := F0 m 59 ls [.int (nI (12 * k + t)), .ref (ma 12)]) (by rw [← sp_at]; rfl) ?_
        refine lv_iconst (v := 0) hx hb dX3_takeActual_59 (by decide) ?_
        refine n_zast S dX3_takeActual_60 hG hS (hM.arr 12 (by decide)) (gix.mk (show 12 * k + t < 120 by omega) (by decide)) (fun H locs hG hS => ?_)
        obtain ⟨G2, hG, hF, hM⟩ : ∃ G1, gh_W E G1 H ∧ gh_fr mdT G G1 ∧ Md E G1 mo ma (oM12 M (nI k) (nI t)) fo fi 0 nn := ⟨_, hG, hF.tr (gh_fr.set (hM.arr 12 (by decide)) (Or.inr (Or.inl rfl))), by rw [oM12, eq, ← vp_nar_z 0 (Or.inr rfl)]; exact hM.set 12 (by decide) _⟩
        refine lv_aload_n hx hb dX3_takeActual_61 rfl (lv_at hl 0 rfl) ?_
        refine g_call hS (va_runV (As := []) (rest := []) S.1 (metX3_looks l hM (oM12_wf hwf)) (cwV 0 S.ts (lw_V q1078 q1080 qs20 q39 q1081) rfl rfl rfl (by decide +kernel) ⟨Nat.le_of_ble_eq_true rfl, Nat.le_of_ble_eq_true rfl⟩) (S.preV hG hS hM.1 rfl) rfl rfl hl.1 rfl (lv_room (Nat.le_of_ble_eq_true rfl)) dX3_takeActual_62 ⟨Nat.le_of_ble_eq_true rfl, Nat.le_of_ble_eq_true rfl⟩) (fun v G1 H locs hp hG hS => ?_)
        refine W.cs (cells' := 0) (slots' := 0) (by first | rfl | omega) (by first | rfl | omega) ?_
        obtain ⟨rfl, fo2, fi2, hM, hF2⟩ := hp
        have hF := hF.tr hF2
        refine W.eq (g2 := F0 m 65 ls [.int (sp_rn (oM12 M (nI k) (nI t)) nn)]) rfl ?_
        exact g_iret S hr dX3_takeActual_65 hG hS (by first | exact Nat.le_refl _ | omega) (by first | exact Nat.le_refl _ | omega) ⟨_, rfl, fun _ => rfl, mdQ.ok hc hM hF⟩
      · have hc : oc12 M nn (nI k) (nI t) = 2 := by rw [oc12, if_neg hc0, eq, if_pos h30]
        refine lv_iconst (v := 2) hx hb dX3_takeActual_33 (by decide) ?_
        refine lv_goto (tgt := 38) hx hb dX3_takeActual_34 (by decide) ?_
        refine pf_X3_61 S dX3_takeActual_38 rfl rfl hG hS hM.1 (Nat.le_of_ble_eq_true rfl) (fun H locs hG hS => ?_)
        obtain ⟨G3, hG, hF, hM⟩ : ∃ G1, gh_W E G1 H ∧ gh_fr mdT G G1 ∧ Md E G1 mo ma M fo fi 2 nn := ⟨_, hG, hF.tr (gh_fr.set hM.1 (Or.inl rfl)), hM.setO (th' := 2) (nn' := nn) rfl⟩
        refine lv_aload_n hx hb dX3_takeActual_41 rfl (lv_at hl 0 rfl) ?_
        refine gf_X3_61 S dX3_takeActual_42 hG hM.1 rfl ?_
        refine lv_if_le (tgt := 50) hx hb dX3_takeActual_45 (by decide) (fun h => absurd h (by decide)) (fun _ => ?_)
        refine lv_iconst (v := 0) hx hb dX3_takeActual_48 (by decide) ?_
        exact g_iret S hr dX3_takeActual_49 hG hS (by first | exact Nat.le_refl _ | omega) (by first | exact Nat.le_refl _ | omega) ⟨0, rfl, fun q => absurd (hc.symm.trans q) (by decide), mdQ.bad hc (by decide) hM hF⟩
    · refine W.eq (g2 := F0 m 13 ls [.int 0, .ref mo]) rfl ?_
      have hc : oc12 M nn x y = 1 := by rw [oc12, if_pos (fun q => ht q.2)]
      refine lv_if_ne (tgt := 20) hx hb dX3_takeActual_13 (by decide) (fun h => absurd h (by decide)) (fun _ => ?_)
      refine lv_iconst (v := 1) hx hb dX3_takeActual_16 (by decide) ?_
      refine lv_goto (tgt := 38) hx hb dX3_takeActual_17 (by decide) ?_
      refine pf_X3_61 S dX3_takeActual_38 rfl rfl hG hS hM.1 (Nat.le_of_ble_eq_true rfl) (fun H locs hG hS => ?_)
      obtain ⟨G4, hG, hF, hM⟩ : ∃ G1, gh_W E G1 H ∧ gh_fr mdT G G1 ∧ Md E G1 mo ma M fo fi 1 nn := ⟨_, hG, hF.tr (gh_fr.set hM.1 (Or.inl rfl)), hM.setO (th' := 1) (nn' := nn) rfl⟩
      refine lv_aload_n hx hb dX3_takeActual_41 rfl (lv_at hl 0 rfl) ?_
      refine gf_X3_61 S dX3_takeActual_42 hG hM.1 rfl ?_
      refine lv_if_le (tgt := 50) hx hb dX3_takeActual_45 (by decide) (fun h => absurd h (by decide)) (fun _ => ?_)
      refine lv_iconst (v := 0) hx hb dX3_takeActual_48 (by decide) ?_
      exact g_iret S hr dX3_takeActual_49 hG hS (by first | exact Nat.le_refl _ | omega) (by first | exact Nat.le_refl _ | omega) ⟨0, rfl, fun q => absurd (hc.symm.trans q) (by decide), mdQ.bad hc (by decide) hM hF⟩
  · refine W.eq (g2 := F0 m 6 ls [.int 0, .ref mo]) rfl ?_
    have hc : oc12 M nn x y = 1 := by rw [oc12, if_pos (fun q => hd q.1)]
    refine lv_if_eq (tgt := 16) hx hb dX3_takeActual_6 (by decide) (fun _ => ?_) (fun h => absurd h (by decide))
    refine lv_iconst (v := 1) hx hb dX3_takeActual_16 (by decide) ?_
    refine lv_goto (tgt := 38) hx hb dX3_takeActual_17 (by decide) ?_
    refine pf_X3_61 S dX3_takeActual_38 rfl rfl hG hS hM.1 (Nat.le_of_ble_eq_true rfl) (fun H locs hG hS => ?_)
    obtain ⟨G5, hG, hF, hM⟩ : ∃ G1, gh_W E G1 H ∧ gh_fr mdT G G1 ∧ Md E G1 mo ma M fo fi 1 nn := ⟨_, hG, hF.tr (gh_fr.set hM.1 (Or.inl rfl)), hM.setO (th' := 1) (nn' := nn) rfl⟩
    refine lv_aload_n hx hb dX3_takeActual_41 rfl (lv_at hl 0 rfl) ?_
    refine gf_X3_61 S dX3_takeActual_42 hG hM.1 rfl ?_
    refine lv_if_le (tgt := 50) hx hb dX3_takeActual_45 (by decide) (fun h => absurd h (by decide)) (fun _ => ?_)
    refine lv_iconst (v := 0) hx hb dX3_takeActual_48 (by decide) ?_
    exact g_iret S hr dX3_takeActual_49 hG hS (by first | exact Nat.le_refl _ | omega) (by first | exact Nat.le_refl _ | omega) ⟨0, rfl, fun q => absurd (hc.symm.trans q) (by decide), mdQ.bad hc (by decide) hM hF⟩
set_option maxHeartbeats 4000000 in
set_option maxRecDepth 100000 in
theorem metX3_approve (l : Launch) {E : Ev} {G : gh} {mo : Nat} {ma : Nat → Nat} {M : Nat → Nat → Int32} {fo : Nat → Int64} {fi : Nat → Int32} {th : Int32} {nn : Nat → Nat} (x y z : Int32) (hM : Md E G mo ma M fo fi th nn) (hwf : sp_wf M nn) : Met l yX3_approve (ws_ yX3_approve cX3_approve 4 (some .int)) ({ frames := 5, cells := 0, slots := 0, locals := 320 }) (gP E G [.ref mo, .int x, .int y, .int z]) (gQ E (fun v G' => mdI E G mo ma (oc15 M nn x y z) (or15 M nn x y) M (oM15 M nn x y z) nn (nn) v G')) 0 0 (ev_A E) := by
  have h16 : nn 1 ≤ 6 := hwf.1.1
  have h10 : nn 2 ≤ 10 := hwf.1.2.1
  have h34 : nn 3 ≤ 4 := hwf.1.2.2.1.2
  have h31 : 1 ≤ nn 3 := hwf.1.2.2.1.1
  have h412 : nn 4 ≤ 12 := hwf.1.2.2.2.1
  have h511 : nn 5 ≤ 11 := hwf.1.2.2.2.2
  refine gMet RX3 (by decide) rfl (Nat.le_of_ble_eq_true rfl) ?_
  intro p e s m below meth c ls hx hb S hr hnm hl hG hS
  have hl : lv_has ls 4 [(0, .ref mo), (1, .int x), (2, .int y), (3, .int z)] := hl
  have hF : gh_fr mdT G G := gh_fr.rf
  refine lv_aload_n hx hb dX3_approve_0 rfl (lv_at hl 0 rfl) ?_
  refine lv_aload_n hx hb dX3_approve_1 rfl (lv_at hl 0 rfl) ?_
  refine lv_iload_n hx hb dX3_approve_2 rfl (lv_at hl 1 rfl) ?_
  refine g_call hS (va_runV (As := [.int x]) (rest := [.ref mo]) S.1 (metX3_isLine l x hM) (cwV 1 S.ts (lw_V q1123 q1125 qs27 q39 q1126) rfl rfl rfl (by decide +kernel) ⟨Nat.le_of_ble_eq_true rfl, Nat.le_of_ble_eq_true rfl⟩) (S.preV hG hS hM.1 rfl) rfl rfl hl.1 rfl (lv_room (Nat.le_of_ble_eq_true rfl)) dX3_approve_3 ⟨Nat.le_of_ble_eq_true rfl, Nat.le_of_ble_eq_true rfl⟩) (fun v G1 H locs hp hG hS => ?_)
  refine W.cs (cells' := 0) (slots' := 0) (by first | rfl | omega) (by first | rfl | omega) ?_
  obtain ⟨r, rfl, hr1, rfl⟩ := hp
  rcases hr1 with ⟨rfl, hd⟩ | ⟨rfl, hd⟩
  · refine W.eq (g2 := F0 m 6 ls [.int 1, .ref mo]) rfl ?_
    refine lv_if_eq (tgt := 16) hx hb dX3_approve_6 (by decide) (fun h => absurd h (by decide)) (fun _ => ?_)
    refine lv_iload_n hx hb dX3_approve_9 rfl (lv_at hl 2 rfl) ?_
    refine g_call hS (va_runS (As := [.int y]) (rest := [.ref mo]) S.1 (metX3_isMonth l (E := E) (G := _) y) (va_cwS 1 S.ts (lw_S q1112 q1113 q39 q1114) rfl rfl rfl (by decide +kernel) ⟨Nat.le_of_ble_eq_true rfl, Nat.le_of_ble_eq_true rfl⟩) (S.pre hG hS) rfl rfl hl.1 rfl (lv_room (Nat.le_of_ble_eq_true rfl)) dX3_approve_10 ⟨Nat.le_of_ble_eq_true rfl, Nat.le_of_ble_eq_true rfl⟩) (fun v G1 H locs hp hG hS => ?_)
    refine W.cs (cells' := 0) (slots' := 0) (by first | rfl | omega) (by first | rfl | omega) ?_
    obtain ⟨r, rfl, hr1, rfl⟩ := hp
    rcases hr1 with ⟨rfl, ht⟩ | ⟨rfl, ht⟩
    · refine W.eq (g2 := F0 m 13 ls [.int 1, .ref mo]) rfl ?_
      refine lv_if_ne (tgt := 20) hx hb dX3_approve_13 (by decide) (fun _ => ?_) (fun h => absurd h (by decide))
      refine lv_iload_n hx hb dX3_approve_20 rfl (lv_at hl 3 rfl) ?_
      refine lv_iconst (v := 0) hx hb dX3_approve_21 (by decide) ?_
      refine lv_sipush (v := 9999) hx hb dX3_approve_22 (by decide) ?_
      refine g_call hS (va_runS (As := [.int z, .int 0, .int 9999]) (rest := [.ref mo]) S.1 (metX3_in l (E := E) (G := _) z 0 9999) (va_cwS 3 S.ts (lw_S q1067 q1068 q39 q1069) rfl rfl rfl (by decide +kernel) ⟨Nat.le_of_ble_eq_true rfl, Nat.le_of_ble_eq_true rfl⟩) (S.pre hG hS) rfl rfl hl.1 rfl (lv_room (Nat.le_of_ble_eq_true rfl)) dX3_approve_25 ⟨Nat.le_of_ble_eq_true rfl, Nat.le_of_ble_eq_true rfl⟩) (fun v G1 H locs hp hG hS => ?_)
      refine W.cs (cells' := 0) (slots' := 0) (by first | rfl | omega) (by first | rfl | omega) ?_
      obtain ⟨r, rfl, hr1, rfl⟩ := hp
      rcases hr1 with ⟨rfl, hv⟩ | ⟨rfl, hv⟩
      · refine W.eq (g2 := F0 m 28 ls [.int 1, .ref mo]) rfl ?_
        have hc0 : ¬ ¬ (vix (nn 2) x ∧ vmo y) := Classical.not_not.mpr ⟨hd, ht⟩
        have hv0 := Classical.not_not.mpr hv
        obtain ⟨k, rfl, hk, ek⟩ := vix.ix hd (by omega)
        obtain ⟨t, rfl, ht, et⟩ := vmo.ix ht
        have eq : qix (nI k) (nI t) = 12 * k + t := by rw [qix, ek, et]
        refine lv_if_ne (tgt := 35) hx hb dX3_approve_28 (by decide) (fun _ => ?_) (fun h => absurd h (by decide))
        refine lv_aload_n hx hb dX3_approve_35 rfl (lv_at hl 0 rfl) ?_
        refine lv_iconst (v := 0) hx hb dX3_approve_36 (by decide) ?_
        refine lv_iload_n hx hb dX3_approve_37 rfl (lv_at hl 1 rfl) ?_
        refine lv_iload_n hx hb dX3_approve_38 rfl (lv_at hl 2 rfl) ?_
        refine lv_bipush (v := 6) hx hb dX3_approve_39 (by decide) ?_
        refine g_call hS (va_runV (As := [.int 0, .int (nI k), .int (nI t), .int 6]) (rest := [.ref mo]) S.1 (metX3_finds l 0 k t 6 hM hwf (by omega) hk ht) (cwV 4 S.ts (lw_V q1085 q1087 qs21 q39 q1088) rfl rfl rfl (by decide +kernel) ⟨Nat.le_of_ble_eq_true rfl, Nat.le_of_ble_eq_true rfl⟩) (S.preV hG hS hM.1 rfl) rfl rfl hl.1 rfl (lv_room (Nat.le_of_ble_eq_true rfl)) dX3_approve_41 ⟨Nat.le_of_ble_eq_true rfl, Nat.le_of_ble_eq_true rfl⟩) (fun v G1 H locs hp hG hS => ?_)
        refine W.cs (cells' := 0) (slots' := 0) (by first | rfl | omega) (by first | rfl | omega) ?_
        obtain ⟨r, fo2, fi2, rfl, hM, hF2, hrr⟩ := hp
        have hF := hF.tr hF2
        rcases hrr with ⟨rfl, hfd⟩ | ⟨rfl, hfd⟩
        · refine W.eq (g2 := F0 m 44 ls [.int 1, .ref mo]) rfl ?_
          have hs : sp_F M nn 0 (nI k) (nI t) sp_al = some (fo2 k) := by show sp_fd M (nn 4) (ixN 0) (ixN (nI t)) sp_al 10 (ixN (nI k)) = _; rw [ek, et]; exact hfd
          have hc : oc15 M nn (nI k) (nI t) z = 0 := by rw [oc15, if_neg hc0, if_neg hv0, hs]; rfl
          have hr9 : or15 M nn (nI k) (nI t) = (fo2 k).toInt32 := by rw [or15, hs]; rfl
          refine lv_if_ne (tgt := 51) hx hb dX3_approve_44 (by decide) (fun _ => ?_) (fun h => absurd h (by decide))
          refine lv_iconst (v := 0) hx hb dX3_approve_51 (by decide) ?_
          refine pf_X3_61 S dX3_approve_52 rfl rfl hG hS hM.1 (Nat.le_of_ble_eq_true rfl) (fun H locs hG hS => ?_)
          obtain ⟨G1, hG, hF, hM⟩ : ∃ G1, gh_W E G1 H ∧ gh_fr mdT G G1 ∧ Md E G1 mo ma M fo2 fi2 0 nn := ⟨_, hG, hF.tr (gh_fr.set hM.1 (Or.inl rfl)), hM.setO (th' := 0) (nn' := nn) rfl⟩
          refine lv_aload_n hx hb dX3_approve_55 rfl (lv_at hl 0 rfl) ?_
          refine gf_X3_61 S dX3_approve_56 hG hM.1 rfl ?_
          refine lv_if_le (tgt := 64) hx hb dX3_approve_59 (by decide) (fun _ => ?_) (fun h => absurd h (by decide))
          refine lv_aload_n hx hb dX3_approve_64 rfl (lv_at hl 0 rfl) ?_
          refine gf_X3_53 S dX3_approve_65 hG hM.1 rfl ?_
          refine lv_iload_n hx hb dX3_approve_68 rfl (lv_at hl 1 rfl) ?_
          refine lv_iload_n hx hb dX3_approve_69 rfl (lv_at hl 2 rfl) ?_
          refine g_call hS (va_runS (As := [.int (nI k), .int (nI t)]) (rest := [.ref (ma 14)]) S.1 (metX3_at l (E := E) (G := _) (nI k) (nI t)) (va_cwS 2 S.ts (lw_S q1082 q1083 q39 q1084) rfl rfl rfl (by decide +kernel) ⟨Nat.le_of_ble_eq_true rfl, Nat.le_of_ble_eq_true rfl⟩) (S.pre hG hS) rfl rfl hl.1 rfl (lv_room (Nat.le_of_ble_eq_true rfl)) dX3_approve_70 ⟨Nat.le_of_ble_eq_true rfl, Nat.le_of_ble_eq_true rfl⟩) (fun v G1 H locs hp hG hS => ?_)
          refine W.cs (cells' := 0) (slots' := 0) (by first | rfl | omega) (by first | rfl | omega) ?_
          obtain ⟨rfl, rfl⟩ := hp
          refine W.eq (g2 := F0 m 73 ls [.int (nI (12 * k + t)), .ref (ma 14)]) (by rw [← sp_at]; rfl) ?_
          refine lv_bipush (v := 97) hx hb dX3_approve_73 (by decide) ?_
          refine n_cast S dX3_approve_75 hG hS (hM.arr 14 (by decide)) (gix.mk (show 12 * k + t < 120 by omega) (by decide)) (fun H locs hG hS => ?_)
          obtain ⟨G2, hG, hF, hM⟩ : ∃ G1, gh_W E G1 H ∧ gh_fr mdT G G1 ∧ Md E G1 mo ma (va_up M 14 (upd (M 14) (12 * k + t) 97)) fo2 fi2 0 nn := ⟨_, hG, hF.tr (gh_fr.set (hM.arr 14 (by decide)) (Or.inr (Or.inl rfl))), hM.set 14 (by decide) _⟩
          refine lv_aload_n hx hb dX3_approve_76 rfl (lv_at hl 0 rfl) ?_
          refine gf_X3_40 S dX3_approve_77 hG hM.1 rfl ?_
          refine lv_iload_n hx hb dX3_approve_80 rfl (lv_at hl 1 rfl) ?_
          refine lv_iload_n hx hb dX3_approve_81 rfl (lv_at hl 2 rfl) ?_
          refine g_call hS (va_runS (As := [.int (nI k), .int (nI t)]) (rest := [.ref (ma 10)]) S.1 (metX3_at l (E := E) (G := _) (nI k) (nI t)) (va_cwS 2 S.ts (lw_S q1082 q1083 q39 q1084) rfl rfl rfl (by decide +kernel) ⟨Nat.le_of_ble_eq_true rfl, Nat.le_of_ble_eq_true rfl⟩) (S.pre hG hS) rfl rfl hl.1 rfl (lv_room (Nat.le_of_ble_eq_true rfl)) dX3_approve_82 ⟨Nat.le_of_ble_eq_true rfl, Nat.le_of_ble_eq_true rfl⟩) (fun v G1 H locs hp hG hS => ?_)
          refine W.cs (cells' := 0) (slots' := 0) (by first | rfl | omega) (by first | rfl | omega) ?_
          obtain ⟨rfl, rfl⟩ := hp
          refine W.eq (g2 := F0 m 85 ls [.int (nI (12 * k + t)), .ref (ma 10)]) (by rw [← sp_at]; rfl) ?_
          refine lv_aload_n hx hb dX3_approve_85 rfl (lv_at hl 0 rfl) ?_
          refine gf_X3_57 S dX3_approve_86 hG hM.1 rfl ?_
          refine lv_iload_n hx hb dX3_approve_89 rfl (lv_at hl 1 rfl) ?_
          refine n_lald S dX3_approve_90 hG hM.2.2.2 (gix.mk (show k < 10 by omega) (by decide)) ?_
          refine lv_l2i (v := (fo2 k).toInt32) hx hb dX3_approve_91 rfl ?_
          refine n_iast S dX3_approve_92 hG hS (hM.arr 10 (by decide)) (gix.mk (show 12 * k + t < 120 by omega) (by decide)) (fun H locs hG hS => ?_)
          obtain ⟨G3, hG, hF, hM⟩ : ∃ G1, gh_W E G1 H ∧ gh_fr mdT G G1 ∧ Md E G1 mo ma (va_up (va_up M 14 (upd (M 14) (12 * k + t) 97)) 10 (upd (M 10) (12 * k + t) (fo2 k).toInt32)) fo2 fi2 0 nn := ⟨_, hG, hF.tr (gh_fr.set (hM.arr 10 (by decide)) (Or.inr (Or.inl rfl))), hM.set 10 (by decide) _⟩
          refine lv_aload_n hx hb dX3_approve_93 rfl (lv_at hl 0 rfl) ?_
          refine gf_X3_43 S dX3_approve_94 hG hM.1 rfl ?_
          refine lv_iload_n hx hb dX3_approve_97 rfl (lv_at hl 1 rfl) ?_
          refine lv_iload_n hx hb dX3_approve_98 rfl (lv_at hl 2 rfl) ?_
          refine g_call hS (va_runS (As := [.int (nI k), .int (nI t)]) (rest := [.ref (ma 11)]) S.1 (metX3_at l (E := E) (G := _) (nI k) (nI t)) (va_cwS 2 S.ts (lw_S q1082 q1083 q39 q1084) rfl rfl rfl (by decide +kernel) ⟨Nat.le_of_ble_eq_true rfl, Nat.le_of_ble_eq_true rfl⟩) (S.pre hG hS) rfl rfl hl.1 rfl (lv_room (Nat.le_of_ble_eq_true rfl)) dX3_approve_99 ⟨Nat.le_of_ble_eq_true rfl, Nat.le_of_ble_eq_true rfl⟩) (fun v G1 H locs hp hG hS => ?_)
          refine W.cs (cells' := 0) (slots' := 0) (by first | rfl | omega) (by first | rfl | omega) ?_
          obtain ⟨rfl, rfl⟩ := hp
          refine W.eq (g2 := F0 m 102 ls [.int (nI (12 * k + t)), .ref (ma 11)]) (by rw [← sp_at]; rfl) ?_
          refine lv_iload_n hx hb dX3_approve_102 rfl (lv_at hl 3 rfl) ?_
          refine n_iast S dX3_approve_103 hG hS (hM.arr 11 (by decide)) (gix.mk (show 12 * k + t < 120 by omega) (by decide)) (fun H locs hG hS => ?_)
          obtain ⟨G4, hG, hF, hM⟩ : ∃ G1, gh_W E G1 H ∧ gh_fr mdT G G1 ∧ Md E G1 mo ma (oM15 M nn (nI k) (nI t) z) fo2 fi2 0 nn := ⟨_, hG, hF.tr (gh_fr.set (hM.arr 11 (by decide)) (Or.inr (Or.inl rfl))), by rw [oM15, eq, hr9]; exact hM.set 11 (by decide) _⟩
          refine lv_aload_n hx hb dX3_approve_104 rfl (lv_at hl 0 rfl) ?_
          refine gf_X3_57 S dX3_approve_105 hG hM.1 rfl ?_
          refine lv_iload_n hx hb dX3_approve_108 rfl (lv_at hl 1 rfl) ?_
          refine n_lald S dX3_approve_109 hG hM.2.2.2 (gix.mk (show k < 10 by omega) (by decide)) ?_
          refine lv_l2i (v := (fo2 k).toInt32) hx hb dX3_approve_110 rfl ?_
          exact g_iret S hr dX3_approve_111 hG hS (by first | exact Nat.le_refl _ | omega) (by first | exact Nat.le_refl _ | omega) ⟨_, rfl, fun _ => hr9.symm, mdQ.ok hc hM hF⟩
        · refine W.eq (g2 := F0 m 44 ls [.int 0, .ref mo]) rfl ?_
          have hs : sp_F M nn 0 (nI k) (nI t) sp_al = none := by show sp_fd M (nn 4) (ixN 0) (ixN (nI t)) sp_al 10 (ixN (nI k)) = _; rw [ek, et]; exact hfd
          have hc : oc15 M nn (nI k) (nI t) z = 3 := by rw [oc15, if_neg hc0, if_neg hv0, if_pos hs]
          refine lv_if_ne (tgt := 51) hx hb dX3_approve_44 (by decide) (fun h => absurd h (by decide)) (fun _ => ?_)
          refine lv_iconst (v := 3) hx hb dX3_approve_47 (by decide) ?_
          refine lv_goto (tgt := 52) hx hb dX3_approve_48 (by decide) ?_
          refine pf_X3_61 S dX3_approve_52 rfl rfl hG hS hM.1 (Nat.le_of_ble_eq_true rfl) (fun H locs hG hS => ?_)
          obtain ⟨G5, hG, hF, hM⟩ : ∃ G1, gh_W E G1 H ∧ gh_fr mdT G G1 ∧ Md E G1 mo ma M fo2 fi2 3 nn := ⟨_, hG, hF.tr (gh_fr.set hM.1 (Or.inl rfl)), hM.setO (th' := 3) (nn' := nn) rfl⟩
          refine lv_aload_n hx hb dX3_approve_55 rfl (lv_at hl 0 rfl) ?_
          refine gf_X3_61 S dX3_approve_56 hG hM.1 rfl ?_
          refine lv_if_le (tgt := 64) hx hb dX3_approve_59 (by decide) (fun h => absurd h (by decide)) (fun _ => ?_)
          refine lv_iconst (v := 0) hx hb dX3_approve_62 (by decide) ?_
          exact g_iret S hr dX3_approve_63 hG hS (by first | exact Nat.le_refl _ | omega) (by first | exact Nat.le_refl _ | omega) ⟨0, rfl, fun q => absurd (hc.symm.trans q) (by decide), mdQ.bad hc (by decide) hM hF⟩
      · refine W.eq (g2 := F0 m 28 ls [.int 0, .ref mo]) rfl ?_
        have hc : oc15 M nn x y z = 2 := by rw [oc15, if_neg (Classical.not_not.mpr ⟨hd, ht⟩), if_pos hv]
        refine lv_if_ne (tgt := 35) hx hb dX3_approve_28 (by decide) (fun h => absurd h (by decide)) (fun _ => ?_)
        refine lv_iconst (v := 2) hx hb dX3_approve_31 (by decide) ?_
        refine lv_goto (tgt := 52) hx hb dX3_approve_32 (by decide) ?_
        refine pf_X3_61 S dX3_approve_52 rfl rfl hG hS hM.1 (Nat.le_of_ble_eq_true rfl) (fun H locs hG hS => ?_)
        obtain ⟨G6, hG, hF, hM⟩ : ∃ G1, gh_W E G1 H ∧ gh_fr mdT G G1 ∧ Md E G1 mo ma M fo fi 2 nn := ⟨_, hG, hF.tr (gh_fr.set hM.1 (Or.inl rfl)), hM.setO (th' := 2) (nn' := nn) rfl⟩
        refine lv_aload_n hx hb dX3_approve_55 rfl (lv_at hl 0 rfl) ?_
        refine gf_X3_61 S dX3_approve_56 hG hM.1 rfl ?_
        refine lv_if_le (tgt := 64) hx hb dX3_approve_59 (by decide) (fun h => absurd h (by decide)) (fun _ => ?_)
        refine lv_iconst (v := 0) hx hb dX3_approve_62 (by decide) ?_
        exact g_iret S hr dX3_approve_63 hG hS (by first | exact Nat.le_refl _ | omega) (by first | exact Nat.le_refl _ | omega) ⟨0, rfl, fun q => absurd (hc.symm.trans q) (by decide), mdQ.bad hc (by decide) hM hF⟩
    · refine W.eq (g2 := F0 m 13 ls [.int 0, .ref mo]) rfl ?_
      have hc : oc15 M nn x y z = 1 := by rw [oc15, if_pos (fun q => ht q.2)]
      refine lv_if_ne (tgt := 20) hx hb dX3_approve_13 (by decide) (fun h => absurd h (by decide)) (fun _ => ?_)
      refine lv_iconst (v := 1) hx hb dX3_approve_16 (by decide) ?_
      refine lv_goto (tgt := 52) hx hb dX3_approve_17 (by decide) ?_
      refine pf_X3_61 S dX3_approve_52 rfl rfl hG hS hM.1 (Nat.le_of_ble_eq_true rfl) (fun H locs hG hS => ?_)
      obtain ⟨G7, hG, hF, hM⟩ : ∃ G1, gh_W E G1 H ∧ gh_fr mdT G G1 ∧ Md E G1 mo ma M fo fi 1 nn := ⟨_, hG, hF.tr (gh_fr.set hM.1 (Or.inl rfl)), hM.setO (th' := 1) (nn' := nn) rfl⟩
      refine lv_aload_n hx hb dX3_approve_55 rfl (lv_at hl 0 rfl) ?_
      refine gf_X3_61 S dX3_approve_56 hG hM.1 rfl ?_
      refine lv_if_le (tgt := 64) hx hb dX3_approve_59 (by decide) (fun h => absurd h (by decide)) (fun _ => ?_)
      refine lv_iconst (v := 0) hx hb dX3_approve_62 (by decide) ?_
      exact g_iret S hr dX3_approve_63 hG hS (by first | exact Nat.le_refl _ | omega) (by first | exact Nat.le_refl _ | omega) ⟨0, rfl, fun q => absurd (hc.symm.trans q) (by decide), mdQ.bad hc (by decide) hM hF⟩
  · refine W.eq (g2 := F0 m 6 ls [.int 0, .ref mo]) rfl ?_
    have hc : oc15 M nn x y z = 1 := by rw [oc15, if_pos (fun q => hd q.1)]
    refine lv_if_eq (tgt := 16) hx hb dX3_approve_6 (by decide) (fun _ => ?_) (fun h => absurd h (by decide))
    refine lv_iconst (v := 1) hx hb dX3_approve_16 (by decide) ?_
    refine lv_goto (tgt := 52) hx hb dX3_approve_17 (by decide) ?_
    refine pf_X3_61 S dX3_approve_52 rfl rfl hG hS hM.1 (Nat.le_of_ble_eq_true rfl) (fun H locs hG hS => ?_)
    obtain ⟨G8, hG, hF, hM⟩ : ∃ G1, gh_W E G1 H ∧ gh_fr mdT G G1 ∧ Md E G1 mo ma M fo fi 1 nn := ⟨_, hG, hF.tr (gh_fr.set hM.1 (Or.inl rfl)), hM.setO (th' := 1) (nn' := nn) rfl⟩
    refine lv_aload_n hx hb dX3_approve_55 rfl (lv_at hl 0 rfl) ?_
    refine gf_X3_61 S dX3_approve_56 hG hM.1 rfl ?_
    refine lv_if_le (tgt := 64) hx hb dX3_approve_59 (by decide) (fun h => absurd h (by decide)) (fun _ => ?_)
    refine lv_iconst (v := 0) hx hb dX3_approve_62 (by decide) ?_
    exact g_iret S hr dX3_approve_63 hG hS (by first | exact Nat.le_refl _ | omega) (by first | exact Nat.le_refl _ | omega) ⟨0, rfl, fun q => absurd (hc.symm.trans q) (by decide), mdQ.bad hc (by decide) hM hF⟩
set_option maxHeartbeats 4000000 in
set_option maxRecDepth 100000 in
theorem metX3_drift (l : Launch) {E : Ev} {G : gh} {mo : Nat} {ma : Nat → Nat} {M : Nat → Nat → Int32} {fo : Nat → Int64} {fi : Nat → Int32} {th : Int32} {nn : Nat → Nat} (x y : Int32) (hM : Md E G mo ma M fo fi th nn) (hwf : sp_wf M nn) : Met l yX3_drift (ws_ yX3_drift cX3_drift 3 (some .int)) ({ frames := 5, cells := 0, slots := 0, locals := 320 }) (gP E G [.ref mo, .int x, .int y]) (gQ E (fun v G' => mdI E G mo ma (oc17 M nn x y) (or17 M nn x y) M (M) nn (nn) v G')) 0 0 (ev_A E) := by
  have h16 : nn 1 ≤ 6 := hwf.1.1
  have h10 : nn 2 ≤ 10 := hwf.1.2.1
  have h34 : nn 3 ≤ 4 := hwf.1.2.2.1.2
  have h31 : 1 ≤ nn 3 := hwf.1.2.2.1.1
  have h412 : nn 4 ≤ 12 := hwf.1.2.2.2.1
  have h511 : nn 5 ≤ 11 := hwf.1.2.2.2.2
  refine gMet RX3 (by decide) rfl (Nat.le_of_ble_eq_true rfl) ?_
  intro p e s m below meth c ls hx hb S hr hnm hl hG hS
  have hl : lv_has ls 3 [(0, .ref mo), (1, .int x), (2, .int y)] := hl
  have hF : gh_fr mdT G G := gh_fr.rf
  refine lv_aload_n hx hb dX3_drift_0 rfl (lv_at hl 0 rfl) ?_
  refine lv_aload_n hx hb dX3_drift_1 rfl (lv_at hl 0 rfl) ?_
  refine lv_iload_n hx hb dX3_drift_2 rfl (lv_at hl 1 rfl) ?_
  refine g_call hS (va_runV (As := [.int x]) (rest := [.ref mo]) S.1 (metX3_isLine l x hM) (cwV 1 S.ts (lw_V q1123 q1125 qs27 q39 q1126) rfl rfl rfl (by decide +kernel) ⟨Nat.le_of_ble_eq_true rfl, Nat.le_of_ble_eq_true rfl⟩) (S.preV hG hS hM.1 rfl) rfl rfl hl.1 rfl (lv_room (Nat.le_of_ble_eq_true rfl)) dX3_drift_3 ⟨Nat.le_of_ble_eq_true rfl, Nat.le_of_ble_eq_true rfl⟩) (fun v G1 H locs hp hG hS => ?_)
  refine W.cs (cells' := 0) (slots' := 0) (by first | rfl | omega) (by first | rfl | omega) ?_
  obtain ⟨r, rfl, hr1, rfl⟩ := hp
  rcases hr1 with ⟨rfl, hd⟩ | ⟨rfl, hd⟩
  · refine W.eq (g2 := F0 m 6 ls [.int 1, .ref mo]) rfl ?_
    refine lv_if_eq (tgt := 16) hx hb dX3_drift_6 (by decide) (fun h => absurd h (by decide)) (fun _ => ?_)
    refine lv_iload_n hx hb dX3_drift_9 rfl (lv_at hl 2 rfl) ?_
    refine g_call hS (va_runS (As := [.int y]) (rest := [.ref mo]) S.1 (metX3_isMonth l (E := E) (G := _) y) (va_cwS 1 S.ts (lw_S q1112 q1113 q39 q1114) rfl rfl rfl (by decide +kernel) ⟨Nat.le_of_ble_eq_true rfl, Nat.le_of_ble_eq_true rfl⟩) (S.pre hG hS) rfl rfl hl.1 rfl (lv_room (Nat.le_of_ble_eq_true rfl)) dX3_drift_10 ⟨Nat.le_of_ble_eq_true rfl, Nat.le_of_ble_eq_true rfl⟩) (fun v G1 H locs hp hG hS => ?_)
    refine W.cs (cells' := 0) (slots' := 0) (by first | rfl | omega) (by first | rfl | omega) ?_
    obtain ⟨r, rfl, hr1, rfl⟩ := hp
    rcases hr1 with ⟨rfl, ht⟩ | ⟨rfl, ht⟩
    · refine W.eq (g2 := F0 m 13 ls [.int 1, .ref mo]) rfl ?_
      have hc0 : ¬ ¬ (vix (nn 2) x ∧ vmo y) := Classical.not_not.mpr ⟨hd, ht⟩
      obtain ⟨k, rfl, hk, ek⟩ := vix.ix hd (by omega)
      obtain ⟨t, rfl, ht, et⟩ := vmo.ix ht
      have eq : qix (nI k) (nI t) = 12 * k + t := by rw [qix, ek, et]
      refine lv_if_ne (tgt := 20) hx hb dX3_drift_13 (by decide) (fun _ => ?_) (fun h => absurd h (by decide))
      refine lv_aload_n hx hb dX3_drift_20 rfl (lv_at hl 0 rfl) ?_
      refine gf_X3_53 S dX3_drift_21 hG hM.1 rfl ?_
      refine lv_iload_n hx hb dX3_drift_24 rfl (lv_at hl 1 rfl) ?_
      refine lv_iload_n hx hb dX3_drift_25 rfl (lv_at hl 2 rfl) ?_
      refine g_call hS (va_runS (As := [.int (nI k), .int (nI t)]) (rest := [.ref (ma 14), .ref mo]) S.1 (metX3_at l (E := E) (G := _) (nI k) (nI t)) (va_cwS 2 S.ts (lw_S q1082 q1083 q39 q1084) rfl rfl rfl (by decide +kernel) ⟨Nat.le_of_ble_eq_true rfl, Nat.le_of_ble_eq_true rfl⟩) (S.pre hG hS) rfl rfl hl.1 rfl (lv_room (Nat.le_of_ble_eq_true rfl)) dX3_drift_26 ⟨Nat.le_of_ble_eq_true rfl, Nat.le_of_ble_eq_true rfl⟩) (fun v G1 H locs hp hG hS => ?_)
      refine W.cs (cells' := 0) (slots' := 0) (by first | rfl | omega) (by first | rfl | omega) ?_
      obtain ⟨rfl, rfl⟩ := hp
      refine W.eq (g2 := F0 m 29 ls [.int (nI (12 * k + t)), .ref (ma 14), .ref mo]) (by rw [← sp_at]; rfl) ?_
      refine n_cald S dX3_drift_29 hG (hM.arr 14 (by decide)) (gix.mk (show 12 * k + t < 120 by omega) (by decide)) ?_
      refine lv_bipush (v := 45) hx hb dX3_drift_30 (by decide) ?_
      refine lv_icmp_ne (tgt := 39) hx hb dX3_drift_32 (by decide) (fun h32 => ?_) (fun h32 => ?_)
      · refine lv_aload_n hx hb dX3_drift_39 rfl (lv_at hl 0 rfl) ?_
        refine lv_iconst (v := 0) hx hb dX3_drift_40 (by decide) ?_
        refine lv_iload_n hx hb dX3_drift_41 rfl (lv_at hl 1 rfl) ?_
        refine lv_iload_n hx hb dX3_drift_42 rfl (lv_at hl 2 rfl) ?_
        refine lv_bipush (v := 6) hx hb dX3_drift_43 (by decide) ?_
        refine g_call hS (va_runV (As := [.int 0, .int (nI k), .int (nI t), .int 6]) (rest := [.ref mo]) S.1 (metX3_finds l 0 k t 6 hM hwf (by omega) hk ht) (cwV 4 S.ts (lw_V q1085 q1087 qs21 q39 q1088) rfl rfl rfl (by decide +kernel) ⟨Nat.le_of_ble_eq_true rfl, Nat.le_of_ble_eq_true rfl⟩) (S.preV hG hS hM.1 rfl) rfl rfl hl.1 rfl (lv_room (Nat.le_of_ble_eq_true rfl)) dX3_drift_45 ⟨Nat.le_of_ble_eq_true rfl, Nat.le_of_ble_eq_true rfl⟩) (fun v G1 H locs hp hG hS => ?_)
        refine W.cs (cells' := 0) (slots' := 0) (by first | rfl | omega) (by first | rfl | omega) ?_
        obtain ⟨r, fo2, fi2, rfl, hM, hF2, hrr⟩ := hp
        have hF := hF.tr hF2
        rcases hrr with ⟨rfl, hfd⟩ | ⟨rfl, hfd⟩
        · refine W.eq (g2 := F0 m 48 ls [.int 1, .ref mo]) rfl ?_
          have hs : sp_F M nn 0 (nI k) (nI t) sp_al = some (fo2 k) := by show sp_fd M (nn 4) (ixN 0) (ixN (nI t)) sp_al 10 (ixN (nI k)) = _; rw [ek, et]; exact hfd
          have hc : oc17 M nn (nI k) (nI t) = 0 := by rw [oc17, if_neg hc0, eq, if_neg h32, hs]; rfl
          refine lv_if_ne (tgt := 55) hx hb dX3_drift_48 (by decide) (fun _ => ?_) (fun h => absurd h (by decide))
          refine lv_iconst (v := 0) hx hb dX3_drift_55 (by decide) ?_
          refine pf_X3_61 S dX3_drift_56 rfl rfl hG hS hM.1 (Nat.le_of_ble_eq_true rfl) (fun H locs hG hS => ?_)
          obtain ⟨G1, hG, hF, hM⟩ : ∃ G1, gh_W E G1 H ∧ gh_fr mdT G G1 ∧ Md E G1 mo ma M fo2 fi2 0 nn := ⟨_, hG, hF.tr (gh_fr.set hM.1 (Or.inl rfl)), hM.setO (th' := 0) (nn' := nn) rfl⟩
          refine lv_aload_n hx hb dX3_drift_59 rfl (lv_at hl 0 rfl) ?_
          refine gf_X3_61 S dX3_drift_60 hG hM.1 rfl ?_
          refine lv_if_le (tgt := 70) hx hb dX3_drift_63 (by decide) (fun _ => ?_) (fun h => absurd h (by decide))
          refine lv_aload_n hx hb dX3_drift_70 rfl (lv_at hl 0 rfl) ?_
          refine gf_X3_57 S dX3_drift_71 hG hM.1 rfl ?_
          refine lv_iload_n hx hb dX3_drift_74 rfl (lv_at hl 1 rfl) ?_
          refine n_lald S dX3_drift_75 hG hM.2.2.2 (gix.mk (show k < 10 by omega) (by decide)) ?_
          refine lv_l2i (v := (fo2 k).toInt32) hx hb dX3_drift_76 rfl ?_
          refine lv_aload_n hx hb dX3_drift_77 rfl (lv_at hl 0 rfl) ?_
          refine gf_X3_40 S dX3_drift_78 hG hM.1 rfl ?_
          refine lv_iload_n hx hb dX3_drift_81 rfl (lv_at hl 1 rfl) ?_
          refine lv_iload_n hx hb dX3_drift_82 rfl (lv_at hl 2 rfl) ?_
          refine g_call hS (va_runS (As := [.int (nI k), .int (nI t)]) (rest := [.ref (ma 10), .int (fo2 k).toInt32]) S.1 (metX3_at l (E := E) (G := _) (nI k) (nI t)) (va_cwS 2 S.ts (lw_S q1082 q1083 q39 q1084) rfl rfl rfl (by decide +kernel) ⟨Nat.le_of_ble_eq_true rfl, Nat.le_of_ble_eq_true rfl⟩) (S.pre hG hS) rfl rfl hl.1 rfl (lv_room (Nat.le_of_ble_eq_true rfl)) dX3_drift_83 ⟨Nat.le_of_ble_eq_true rfl, Nat.le_of_ble_eq_true rfl⟩) (fun v G1 H locs hp hG hS => ?_)
          refine W.cs (cells' := 0) (slots' := 0) (by first | rfl | omega) (by first | rfl | omega) ?_
          obtain ⟨rfl, rfl⟩ := hp
          refine W.eq (g2 := F0 m 86 ls [.int (nI (12 * k + t)), .ref (ma 10), .int (fo2 k).toInt32]) (by rw [← sp_at]; rfl) ?_
          refine n_iald S dX3_drift_86 hG (hM.arr 10 (by decide)) (gix.mk (show 12 * k + t < 120 by omega) (by decide)) ?_
          refine lv_isub hx hb dX3_drift_87 ?_
          exact g_iret S hr dX3_drift_88 hG hS (by first | exact Nat.le_refl _ | omega) (by first | exact Nat.le_refl _ | omega) ⟨_, rfl, fun _ => by rw [or17, or15, hs, eq]; rfl, mdQ.ok hc hM hF⟩
        · refine W.eq (g2 := F0 m 48 ls [.int 0, .ref mo]) rfl ?_
          have hs : sp_F M nn 0 (nI k) (nI t) sp_al = none := by show sp_fd M (nn 4) (ixN 0) (ixN (nI t)) sp_al 10 (ixN (nI k)) = _; rw [ek, et]; exact hfd
          have hc : oc17 M nn (nI k) (nI t) = 3 := by rw [oc17, if_neg hc0, eq, if_neg h32, if_pos hs]
          refine lv_if_ne (tgt := 55) hx hb dX3_drift_48 (by decide) (fun h => absurd h (by decide)) (fun _ => ?_)
          refine lv_iconst (v := 3) hx hb dX3_drift_51 (by decide) ?_
          refine lv_goto (tgt := 56) hx hb dX3_drift_52 (by decide) ?_
          refine pf_X3_61 S dX3_drift_56 rfl rfl hG hS hM.1 (Nat.le_of_ble_eq_true rfl) (fun H locs hG hS => ?_)
          obtain ⟨G2, hG, hF, hM⟩ : ∃ G1, gh_W E G1 H ∧ gh_fr mdT G G1 ∧ Md E G1 mo ma M fo2 fi2 3 nn := ⟨_, hG, hF.tr (gh_fr.set hM.1 (Or.inl rfl)), hM.setO (th' := 3) (nn' := nn) rfl⟩
          refine lv_aload_n hx hb dX3_drift_59 rfl (lv_at hl 0 rfl) ?_
          refine gf_X3_61 S dX3_drift_60 hG hM.1 rfl ?_
          refine lv_if_le (tgt := 70) hx hb dX3_drift_63 (by decide) (fun h => absurd h (by decide)) (fun _ => ?_)
          refine lv_iconst (v := 0) hx hb dX3_drift_66 (by decide) ?_
          refine lv_goto (tgt := 88) hx hb dX3_drift_67 (by decide) ?_
          exact g_iret S hr dX3_drift_88 hG hS (by first | exact Nat.le_refl _ | omega) (by first | exact Nat.le_refl _ | omega) ⟨0, rfl, fun q => absurd (hc.symm.trans q) (by decide), mdQ.bad hc (by decide) hM hF⟩
      · have hc : oc17 M nn (nI k) (nI t) = 2 := by rw [oc17, if_neg hc0, eq, if_pos h32]
        refine lv_iconst (v := 2) hx hb dX3_drift_35 (by decide) ?_
        refine lv_goto (tgt := 56) hx hb dX3_drift_36 (by decide) ?_
        refine pf_X3_61 S dX3_drift_56 rfl rfl hG hS hM.1 (Nat.le_of_ble_eq_true rfl) (fun H locs hG hS => ?_)
        obtain ⟨G3, hG, hF, hM⟩ : ∃ G1, gh_W E G1 H ∧ gh_fr mdT G G1 ∧ Md E G1 mo ma M fo fi 2 nn := ⟨_, hG, hF.tr (gh_fr.set hM.1 (Or.inl rfl)), hM.setO (th' := 2) (nn' := nn) rfl⟩
        refine lv_aload_n hx hb dX3_drift_59 rfl (lv_at hl 0 rfl) ?_
        refine gf_X3_61 S dX3_drift_60 hG hM.1 rfl ?_
        refine lv_if_le (tgt := 70) hx hb dX3_drift_63 (by decide) (fun h => absurd h (by decide)) (fun _ => ?_)
        refine lv_iconst (v := 0) hx hb dX3_drift_66 (by decide) ?_
        refine lv_goto (tgt := 88) hx hb dX3_drift_67 (by decide) ?_
        exact g_iret S hr dX3_drift_88 hG hS (by first | exact Nat.le_refl _ | omega) (by first | exact Nat.le_refl _ | omega) ⟨0, rfl, fun q => absurd (hc.symm.trans q) (by decide), mdQ.bad hc (by decide) hM hF⟩
    · refine W.eq (g2 := F0 m 13 ls [.int 0, .ref mo]) rfl ?_
      have hc : oc17 M nn x y = 1 := by rw [oc17, if_pos (fun q => ht q.2)]
      refine lv_if_ne (tgt := 20) hx hb dX3_drift_13 (by decide) (fun h => absurd h (by decide)) (fun _ => ?_)
      refine lv_iconst (v := 1) hx hb dX3_drift_16 (by decide) ?_
      refine lv_goto (tgt := 56) hx hb dX3_drift_17 (by decide) ?_
      refine pf_X3_61 S dX3_drift_56 rfl rfl hG hS hM.1 (Nat.le_of_ble_eq_true rfl) (fun H locs hG hS => ?_)
      obtain ⟨G4, hG, hF, hM⟩ : ∃ G1, gh_W E G1 H ∧ gh_fr mdT G G1 ∧ Md E G1 mo ma M fo fi 1 nn := ⟨_, hG, hF.tr (gh_fr.set hM.1 (Or.inl rfl)), hM.setO (th' := 1) (nn' := nn) rfl⟩
      refine lv_aload_n hx hb dX3_drift_59 rfl (lv_at hl 0 rfl) ?_
      refine gf_X3_61 S dX3_drift_60 hG hM.1 rfl ?_
      refine lv_if_le (tgt := 70) hx hb dX3_drift_63 (by decide) (fun h => absurd h (by decide)) (fun _ => ?_)
      refine lv_iconst (v := 0) hx hb dX3_drift_66 (by decide) ?_
      refine lv_goto (tgt := 88) hx hb dX3_drift_67 (by decide) ?_
      exact g_iret S hr dX3_drift_88 hG hS (by first | exact Nat.le_refl _ | omega) (by first | exact Nat.le_refl _ | omega) ⟨0, rfl, fun q => absurd (hc.symm.trans q) (by decide), mdQ.bad hc (by decide) hM hF⟩
  · refine W.eq (g2 := F0 m 6 ls [.int 0, .ref mo]) rfl ?_
    have hc : oc17 M nn x y = 1 := by rw [oc17, if_pos (fun q => hd q.1)]
    refine lv_if_eq (tgt := 16) hx hb dX3_drift_6 (by decide) (fun _ => ?_) (fun h => absurd h (by decide))
    refine lv_iconst (v := 1) hx hb dX3_drift_16 (by decide) ?_
    refine lv_goto (tgt := 56) hx hb dX3_drift_17 (by decide) ?_
    refine pf_X3_61 S dX3_drift_56 rfl rfl hG hS hM.1 (Nat.le_of_ble_eq_true rfl) (fun H locs hG hS => ?_)
    obtain ⟨G5, hG, hF, hM⟩ : ∃ G1, gh_W E G1 H ∧ gh_fr mdT G G1 ∧ Md E G1 mo ma M fo fi 1 nn := ⟨_, hG, hF.tr (gh_fr.set hM.1 (Or.inl rfl)), hM.setO (th' := 1) (nn' := nn) rfl⟩
    refine lv_aload_n hx hb dX3_drift_59 rfl (lv_at hl 0 rfl) ?_
    refine gf_X3_61 S dX3_drift_60 hG hM.1 rfl ?_
    refine lv_if_le (tgt := 70) hx hb dX3_drift_63 (by decide) (fun h => absurd h (by decide)) (fun _ => ?_)
    refine lv_iconst (v := 0) hx hb dX3_drift_66 (by decide) ?_
    refine lv_goto (tgt := 88) hx hb dX3_drift_67 (by decide) ?_
    exact g_iret S hr dX3_drift_88 hG hS (by first | exact Nat.le_refl _ | omega) (by first | exact Nat.le_refl _ | omega) ⟨0, rfl, fun q => absurd (hc.symm.trans q) (by decide), mdQ.bad hc (by decide) hM hF⟩
set_option maxHeartbeats 4000000 in
set_option maxRecDepth 100000 in
theorem metX3_effect (l : Launch) {E : Ev} {G : gh} {mo : Nat} {ma : Nat → Nat} {M : Nat → Nat → Int32} {fo : Nat → Int64} {fi : Nat → Int32} {th : Int32} {nn : Nat → Nat} (x y z u : Int32) (hM : Md E G mo ma M fo fi th nn) (hwf : sp_wf M nn) : Met l yX3_effect (ws_ yX3_effect cX3_effect 9 (some .int)) ({ frames := 5, cells := 0, slots := 0, locals := 320 }) (gP E G [.ref mo, .int x, .int y, .int z, .int u]) (gQ E (fun v G' => mdI E G mo ma (oc9 M nn x y z u) (or9 M nn x y z u) M (M) nn (nn) v G')) 0 0 (ev_A E) := by
  have h16 : nn 1 ≤ 6 := hwf.1.1
  have h10 : nn 2 ≤ 10 := hwf.1.2.1
  have h34 : nn 3 ≤ 4 := hwf.1.2.2.1.2
  have h31 : 1 ≤ nn 3 := hwf.1.2.2.1.1
  have h412 : nn 4 ≤ 12 := hwf.1.2.2.2.1
  have h511 : nn 5 ≤ 11 := hwf.1.2.2.2.2
  refine gMet RX3 (by decide) rfl (Nat.le_of_ble_eq_true rfl) ?_
  intro p e s m below meth c ls hx hb S hr hnm hl hG hS
  have hl : lv_has ls 9 [(0, .ref mo), (1, .int x), (2, .int y), (3, .int z), (4, .int u)] := hl
  have hF : gh_fr mdT G G := gh_fr.rf
  refine lv_aload_n hx hb dX3_effect_0 rfl (lv_at hl 0 rfl) ?_
  refine lv_aload_n hx hb dX3_effect_1 rfl (lv_at hl 0 rfl) ?_
  refine lv_iload_n hx hb dX3_effect_2 rfl (lv_at hl 1 rfl) ?_
  refine g_call hS (va_runV (As := [.int x]) (rest := [.ref mo]) S.1 (metX3_isScenario l x hM) (cwV 1 S.ts (lw_V q1108 q1110 qs25 q39 q1111) rfl rfl rfl (by decide +kernel) ⟨Nat.le_of_ble_eq_true rfl, Nat.le_of_ble_eq_true rfl⟩) (S.preV hG hS hM.1 rfl) rfl rfl hl.1 rfl (lv_room (Nat.le_of_ble_eq_true rfl)) dX3_effect_3 ⟨Nat.le_of_ble_eq_true rfl, Nat.le_of_ble_eq_true rfl⟩) (fun v G1 H locs hp hG hS => ?_)
  refine W.cs (cells' := 0) (slots' := 0) (by first | rfl | omega) (by first | rfl | omega) ?_
  obtain ⟨r, rfl, hr1, rfl⟩ := hp
  rcases hr1 with ⟨rfl, hi⟩ | ⟨rfl, hi⟩
  · refine W.eq (g2 := F0 m 6 ls [.int 1, .ref mo]) rfl ?_
    refine lv_if_eq (tgt := 33) hx hb dX3_effect_6 (by decide) (fun h => absurd h (by decide)) (fun _ => ?_)
    refine lv_aload_n hx hb dX3_effect_9 rfl (lv_at hl 0 rfl) ?_
    refine lv_iload_n hx hb dX3_effect_10 rfl (lv_at hl 2 rfl) ?_
    refine g_call hS (va_runV (As := [.int y]) (rest := [.ref mo]) S.1 (metX3_isDriver l y hM) (cwV 1 S.ts (lw_V q1074 q1076 qs19 q39 q1077) rfl rfl rfl (by decide +kernel) ⟨Nat.le_of_ble_eq_true rfl, Nat.le_of_ble_eq_true rfl⟩) (S.preV hG hS hM.1 rfl) rfl rfl hl.1 rfl (lv_room (Nat.le_of_ble_eq_true rfl)) dX3_effect_11 ⟨Nat.le_of_ble_eq_true rfl, Nat.le_of_ble_eq_true rfl⟩) (fun v G1 H locs hp hG hS => ?_)
    refine W.cs (cells' := 0) (slots' := 0) (by first | rfl | omega) (by first | rfl | omega) ?_
    obtain ⟨r, rfl, hr1, rfl⟩ := hp
    rcases hr1 with ⟨rfl, hd⟩ | ⟨rfl, hd⟩
    · refine W.eq (g2 := F0 m 14 ls [.int 1, .ref mo]) rfl ?_
      refine lv_if_eq (tgt := 33) hx hb dX3_effect_14 (by decide) (fun h => absurd h (by decide)) (fun _ => ?_)
      refine lv_aload_n hx hb dX3_effect_17 rfl (lv_at hl 0 rfl) ?_
      refine lv_iload_n hx hb dX3_effect_18 rfl (lv_at hl 3 rfl) ?_
      refine g_call hS (va_runV (As := [.int z]) (rest := [.ref mo]) S.1 (metX3_isLine l z hM) (cwV 1 S.ts (lw_V q1123 q1125 qs27 q39 q1126) rfl rfl rfl (by decide +kernel) ⟨Nat.le_of_ble_eq_true rfl, Nat.le_of_ble_eq_true rfl⟩) (S.preV hG hS hM.1 rfl) rfl rfl hl.1 rfl (lv_room (Nat.le_of_ble_eq_true rfl)) dX3_effect_19 ⟨Nat.le_of_ble_eq_true rfl, Nat.le_of_ble_eq_true rfl⟩) (fun v G1 H locs hp hG hS => ?_)
      refine W.cs (cells' := 0) (slots' := 0) (by first | rfl | omega) (by first | rfl | omega) ?_
      obtain ⟨r, rfl, hr1, rfl⟩ := hp
      rcases hr1 with ⟨rfl, hl1⟩ | ⟨rfl, hl1⟩
      · refine W.eq (g2 := F0 m 22 ls [.int 1, .ref mo]) rfl ?_
        refine lv_if_eq (tgt := 33) hx hb dX3_effect_22 (by decide) (fun h => absurd h (by decide)) (fun _ => ?_)
        refine lv_iload hx hb dX3_effect_25 (lv_at hl 4 rfl) ?_
        refine g_call hS (va_runS (As := [.int u]) (rest := [.ref mo]) S.1 (metX3_isMonth l (E := E) (G := _) u) (va_cwS 1 S.ts (lw_S q1112 q1113 q39 q1114) rfl rfl rfl (by decide +kernel) ⟨Nat.le_of_ble_eq_true rfl, Nat.le_of_ble_eq_true rfl⟩) (S.pre hG hS) rfl rfl hl.1 rfl (lv_room (Nat.le_of_ble_eq_true rfl)) dX3_effect_27 ⟨Nat.le_of_ble_eq_true rfl, Nat.le_of_ble_eq_true rfl⟩) (fun v G1 H locs hp hG hS => ?_)
        refine W.cs (cells' := 0) (slots' := 0) (by first | rfl | omega) (by first | rfl | omega) ?_
        obtain ⟨r, rfl, hr1, rfl⟩ := hp
        rcases hr1 with ⟨rfl, ht⟩ | ⟨rfl, ht⟩
        · refine W.eq (g2 := F0 m 30 ls [.int 1, .ref mo]) rfl ?_
          have hc0 : ¬ ¬ (vix (nn 3) x ∧ vix (nn 1) y ∧ vix (nn 2) z ∧ vmo u) := Classical.not_not.mpr ⟨hi, hd, hl1, ht⟩
          obtain ⟨i, rfl, hi, ei⟩ := vix.ix hi (by omega)
          obtain ⟨d, rfl, hd, ed⟩ := vix.ix hd (by omega)
          obtain ⟨k, rfl, hk, ek⟩ := vix.ix hl1 (by omega)
          obtain ⟨t, rfl, ht, et⟩ := vmo.ix ht
          refine lv_if_ne (tgt := 37) hx hb dX3_effect_30 (by decide) (fun _ => ?_) (fun h => absurd h (by decide))
          refine lv_iconst (v := 0) hx hb dX3_effect_37 (by decide) ?_
          refine pf_X3_61 S dX3_effect_38 rfl rfl hG hS hM.1 (Nat.le_of_ble_eq_true rfl) (fun H locs hG hS => ?_)
          obtain ⟨G1, hG, hF, hM⟩ : ∃ G1, gh_W E G1 H ∧ gh_fr mdT G G1 ∧ Md E G1 mo ma M fo fi 0 nn := ⟨_, hG, hF.tr (gh_fr.set hM.1 (Or.inl rfl)), hM.setO (th' := 0) (nn' := nn) rfl⟩
          refine lv_aload_n hx hb dX3_effect_41 rfl (lv_at hl 0 rfl) ?_
          refine gf_X3_61 S dX3_effect_42 hG hM.1 rfl ?_
          refine lv_if_le (tgt := 50) hx hb dX3_effect_45 (by decide) (fun _ => ?_) (fun h => absurd h (by decide))
          refine lv_aload_n hx hb dX3_effect_50 rfl (lv_at hl 0 rfl) ?_
          refine lv_iload_n hx hb dX3_effect_51 rfl (lv_at hl 1 rfl) ?_
          refine lv_iload_n hx hb dX3_effect_52 rfl (lv_at hl 3 rfl) ?_
          refine lv_iload hx hb dX3_effect_53 (lv_at hl 4 rfl) ?_
          refine lv_iload_n hx hb dX3_effect_55 rfl (lv_at hl 2 rfl) ?_
          refine lv_iconst (v := 1) hx hb dX3_effect_56 (by decide) ?_
          refine lv_iadd hx hb dX3_effect_57 ?_
          refine g_call hS (va_runV (As := [.int (nI i), .int (nI k), .int (nI t), .int ((nI d) + 1)]) (rest := []) S.1 (metX3_finds l i k t (nI d + 1) hM hwf hi hk ht) (cwV 4 S.ts (lw_V q1085 q1087 qs21 q39 q1088) rfl rfl rfl (by decide +kernel) ⟨Nat.le_of_ble_eq_true rfl, Nat.le_of_ble_eq_true rfl⟩) (S.preV hG hS hM.1 rfl) rfl rfl hl.1 rfl (lv_room (Nat.le_of_ble_eq_true rfl)) dX3_effect_58 ⟨Nat.le_of_ble_eq_true rfl, Nat.le_of_ble_eq_true rfl⟩) (fun v G1 H locs hp hG hS => ?_)
          refine W.cs (cells' := 0) (slots' := 0) (by first | rfl | omega) (by first | rfl | omega) ?_
          obtain ⟨r, fo2, fi2, rfl, hM, hF2, hrr⟩ := hp
          have hF := hF.tr hF2
          have h1 := hrr
          refine W.eq (g2 := F0 m 61 ls [.int r]) rfl ?_
          refine lv_istore (lv' := [(5, .int r), (0, .ref mo), (1, .int (nI i)), (2, .int (nI d)), (3, .int (nI k)), (4, .int (nI t))]) hx hb dX3_effect_61 hl (by decide) rfl (fun ls hl => ?_)
          refine lv_aload_n hx hb dX3_effect_63 rfl (lv_at hl 1 rfl) ?_
          refine gf_X3_57 S dX3_effect_64 hG hM.1 rfl ?_
          refine lv_iload_n hx hb dX3_effect_67 rfl (lv_at hl 4 rfl) ?_
          refine n_lald S dX3_effect_68 hG hM.2.2.2 (gix.mk (show k < 10 by omega) (by decide)) ?_
          refine lv_lstore (lv' := [(6, .long (fo2 k)), (5, .int r), (0, .ref mo), (1, .int (nI i)), (2, .int (nI d)), (3, .int (nI k)), (4, .int (nI t))]) hx hb dX3_effect_69 hl (by decide) rfl (fun ls hl => ?_)
          refine lv_aload_n hx hb dX3_effect_71 rfl (lv_at hl 2 rfl) ?_
          refine lv_iload_n hx hb dX3_effect_72 rfl (lv_at hl 3 rfl) ?_
          refine lv_iload_n hx hb dX3_effect_73 rfl (lv_at hl 5 rfl) ?_
          refine lv_iload hx hb dX3_effect_74 (lv_at hl 6 rfl) ?_
          refine lv_iload_n hx hb dX3_effect_76 rfl (lv_at hl 4 rfl) ?_
          refine g_call hS (va_runV (As := [.int (nI i), .int (nI k), .int (nI t), .int (nI d)]) (rest := []) S.1 (metX3_finds l i k t (nI d) hM hwf hi hk ht) (cwV 4 S.ts (lw_V q1085 q1087 qs21 q39 q1088) rfl rfl rfl (by decide +kernel) ⟨Nat.le_of_ble_eq_true rfl, Nat.le_of_ble_eq_true rfl⟩) (S.preV hG hS hM.1 rfl) rfl rfl hl.1 rfl (lv_room (Nat.le_of_ble_eq_true rfl)) dX3_effect_77 ⟨Nat.le_of_ble_eq_true rfl, Nat.le_of_ble_eq_true rfl⟩) (fun v G1 H locs hp hG hS => ?_)
          refine W.cs (cells' := 0) (slots' := 0) (by first | rfl | omega) (by first | rfl | omega) ?_
          obtain ⟨r2, fo3, fi3, rfl, hM, hF2, h2⟩ := hp
          have hF := hF.tr hF2
          refine W.eq (g2 := F0 m 80 ls [.int r2]) rfl ?_
          refine lv_istore (lv' := [(8, .int r2), (6, .long (fo2 k)), (5, .int r), (0, .ref mo), (1, .int (nI i)), (2, .int (nI d)), (3, .int (nI k)), (4, .int (nI t))]) hx hb dX3_effect_80 hl (by decide) rfl (fun ls hl => ?_)
          refine lv_aload_n hx hb dX3_effect_82 rfl (lv_at hl 3 rfl) ?_
          refine lv_iload hx hb dX3_effect_83 (lv_at hl 2 rfl) ?_
          refine lv_if_eq (tgt := 97) hx hb dX3_effect_85 (by decide) (fun h85 => ?_) (fun h85 => ?_)
          · have hs : sp_F M nn (nI i) (nI k) (nI t) (sp_lt (nI d + 1)) = none := by show sp_fd M (nn 4) (ixN (nI i)) (ixN (nI t)) _ 10 (ixN (nI k)) = _; rw [ei, ek, et]; rcases h1 with q | q; exact absurd (h85 ▸ q.1) (by decide); exact q.2
            have hc : oc9 M nn (nI i) (nI d) (nI k) (nI t) = 2 := by rw [oc9, if_neg hc0, if_pos (Or.inl hs)]
            refine lv_iconst (v := 2) hx hb dX3_effect_97 (by decide) ?_
            refine pf_X3_61 S dX3_effect_98 rfl rfl hG hS hM.1 (Nat.le_of_ble_eq_true rfl) (fun H locs hG hS => ?_)
            obtain ⟨G2, hG, hF, hM⟩ : ∃ G1, gh_W E G1 H ∧ gh_fr mdT G G1 ∧ Md E G1 mo ma M fo3 fi3 2 nn := ⟨_, hG, hF.tr (gh_fr.set hM.1 (Or.inl rfl)), hM.setO (th' := 2) (nn' := nn) rfl⟩
            refine lv_aload_n hx hb dX3_effect_101 rfl (lv_at hl 3 rfl) ?_
            refine gf_X3_61 S dX3_effect_102 hG hM.1 rfl ?_
            refine lv_if_le (tgt := 112) hx hb dX3_effect_105 (by decide) (fun h => absurd h (by decide)) (fun _ => ?_)
            refine lv_iconst (v := 0) hx hb dX3_effect_108 (by decide) ?_
            refine lv_goto (tgt := 122) hx hb dX3_effect_109 (by decide) ?_
            exact g_iret S hr dX3_effect_122 hG hS (by first | exact Nat.le_refl _ | omega) (by first | exact Nat.le_refl _ | omega) ⟨0, rfl, fun q => absurd (hc.symm.trans q) (by decide), mdQ.bad hc (by decide) hM hF⟩
          · refine lv_iload hx hb dX3_effect_88 (lv_at hl 0 rfl) ?_
            refine lv_if_eq (tgt := 97) hx hb dX3_effect_90 (by decide) (fun h90 => ?_) (fun h90 => ?_)
            · have hs : sp_F M nn (nI i) (nI k) (nI t) (sp_lt (nI d)) = none := by show sp_fd M (nn 4) (ixN (nI i)) (ixN (nI t)) _ 10 (ixN (nI k)) = _; rw [ei, ek, et]; rcases h2 with q | q; exact absurd (h90 ▸ q.1) (by decide); exact q.2
              have hc : oc9 M nn (nI i) (nI d) (nI k) (nI t) = 2 := by rw [oc9, if_neg hc0, if_pos (Or.inr hs)]
              refine lv_iconst (v := 2) hx hb dX3_effect_97 (by decide) ?_
              refine pf_X3_61 S dX3_effect_98 rfl rfl hG hS hM.1 (Nat.le_of_ble_eq_true rfl) (fun H locs hG hS => ?_)
              obtain ⟨G3, hG, hF, hM⟩ : ∃ G1, gh_W E G1 H ∧ gh_fr mdT G G1 ∧ Md E G1 mo ma M fo3 fi3 2 nn := ⟨_, hG, hF.tr (gh_fr.set hM.1 (Or.inl rfl)), hM.setO (th' := 2) (nn' := nn) rfl⟩
              refine lv_aload_n hx hb dX3_effect_101 rfl (lv_at hl 3 rfl) ?_
              refine gf_X3_61 S dX3_effect_102 hG hM.1 rfl ?_
              refine lv_if_le (tgt := 112) hx hb dX3_effect_105 (by decide) (fun h => absurd h (by decide)) (fun _ => ?_)
              refine lv_iconst (v := 0) hx hb dX3_effect_108 (by decide) ?_
              refine lv_goto (tgt := 122) hx hb dX3_effect_109 (by decide) ?_
              exact g_iret S hr dX3_effect_122 hG hS (by first | exact Nat.le_refl _ | omega) (by first | exact Nat.le_refl _ | omega) ⟨0, rfl, fun q => absurd (hc.symm.trans q) (by decide), mdQ.bad hc (by decide) hM hF⟩
            · have hs1 : sp_F M nn (nI i) (nI k) (nI t) (sp_lt (nI d + 1)) = some (fo2 k) := by show sp_fd M (nn 4) (ixN (nI i)) (ixN (nI t)) _ 10 (ixN (nI k)) = _; rw [ei, ek, et]; rcases h1 with q | q; exact q.2; exact absurd q.1 h85
              have hs2 : sp_F M nn (nI i) (nI k) (nI t) (sp_lt (nI d)) = some (fo3 k) := by show sp_fd M (nn 4) (ixN (nI i)) (ixN (nI t)) _ 10 (ixN (nI k)) = _; rw [ei, ek, et]; rcases h2 with q | q; exact q.2; exact absurd q.1 h90
              have hc : oc9 M nn (nI i) (nI d) (nI k) (nI t) = 0 := by rw [oc9, if_neg hc0, hs1, hs2]; rfl
              refine lv_iconst (v := 0) hx hb dX3_effect_93 (by decide) ?_
              refine lv_goto (tgt := 98) hx hb dX3_effect_94 (by decide) ?_
              refine pf_X3_61 S dX3_effect_98 rfl rfl hG hS hM.1 (Nat.le_of_ble_eq_true rfl) (fun H locs hG hS => ?_)
              obtain ⟨G4, hG, hF, hM⟩ : ∃ G1, gh_W E G1 H ∧ gh_fr mdT G G1 ∧ Md E G1 mo ma M fo3 fi3 0 nn := ⟨_, hG, hF.tr (gh_fr.set hM.1 (Or.inl rfl)), hM.setO (th' := 0) (nn' := nn) rfl⟩
              refine lv_aload_n hx hb dX3_effect_101 rfl (lv_at hl 3 rfl) ?_
              refine gf_X3_61 S dX3_effect_102 hG hM.1 rfl ?_
              refine lv_if_le (tgt := 112) hx hb dX3_effect_105 (by decide) (fun _ => ?_) (fun h => absurd h (by decide))
              refine lv_lload hx hb dX3_effect_112 (lv_at hl 1 rfl) ?_
              refine lv_aload_n hx hb dX3_effect_114 rfl (lv_at hl 3 rfl) ?_
              refine gf_X3_57 S dX3_effect_115 hG hM.1 rfl ?_
              refine lv_iload_n hx hb dX3_effect_118 rfl (lv_at hl 6 rfl) ?_
              refine n_lald S dX3_effect_119 hG hM.2.2.2 (gix.mk (show k < 10 by omega) (by decide)) ?_
              refine lv_lsub hx hb dX3_effect_120 ?_
              refine lv_l2i (v := ((fo2 k) - (fo3 k)).toInt32) hx hb dX3_effect_121 rfl ?_
              exact g_iret S hr dX3_effect_122 hG hS (by first | exact Nat.le_refl _ | omega) (by first | exact Nat.le_refl _ | omega) ⟨_, rfl, fun _ => by rw [or9, hs1, hs2]; rfl, mdQ.ok hc hM hF⟩
        · refine W.eq (g2 := F0 m 30 ls [.int 0, .ref mo]) rfl ?_
          have hc : oc9 M nn x y z u = 1 := by rw [oc9, if_pos (fun q => ht q.2.2.2)]
          refine lv_if_ne (tgt := 37) hx hb dX3_effect_30 (by decide) (fun h => absurd h (by decide)) (fun _ => ?_)
          refine lv_iconst (v := 1) hx hb dX3_effect_33 (by decide) ?_
          refine lv_goto (tgt := 38) hx hb dX3_effect_34 (by decide) ?_
          refine pf_X3_61 S dX3_effect_38 rfl rfl hG hS hM.1 (Nat.le_of_ble_eq_true rfl) (fun H locs hG hS => ?_)
          obtain ⟨G5, hG, hF, hM⟩ : ∃ G1, gh_W E G1 H ∧ gh_fr mdT G G1 ∧ Md E G1 mo ma M fo fi 1 nn := ⟨_, hG, hF.tr (gh_fr.set hM.1 (Or.inl rfl)), hM.setO (th' := 1) (nn' := nn) rfl⟩
          refine lv_aload_n hx hb dX3_effect_41 rfl (lv_at hl 0 rfl) ?_
          refine gf_X3_61 S dX3_effect_42 hG hM.1 rfl ?_
          refine lv_if_le (tgt := 50) hx hb dX3_effect_45 (by decide) (fun h => absurd h (by decide)) (fun _ => ?_)
          refine lv_iconst (v := 0) hx hb dX3_effect_48 (by decide) ?_
          exact g_iret S hr dX3_effect_49 hG hS (by first | exact Nat.le_refl _ | omega) (by first | exact Nat.le_refl _ | omega) ⟨0, rfl, fun q => absurd (hc.symm.trans q) (by decide), mdQ.bad hc (by decide) hM hF⟩
      · refine W.eq (g2 := F0 m 22 ls [.int 0, .ref mo]) rfl ?_
        have hc : oc9 M nn x y z u = 1 := by rw [oc9, if_pos (fun q => hl1 q.2.2.1)]
        refine lv_if_eq (tgt := 33) hx hb dX3_effect_22 (by decide) (fun _ => ?_) (fun h => absurd h (by decide))
        refine lv_iconst (v := 1) hx hb dX3_effect_33 (by decide) ?_
        refine lv_goto (tgt := 38) hx hb dX3_effect_34 (by decide) ?_
        refine pf_X3_61 S dX3_effect_38 rfl rfl hG hS hM.1 (Nat.le_of_ble_eq_true rfl) (fun H locs hG hS => ?_)
        obtain ⟨G6, hG, hF, hM⟩ : ∃ G1, gh_W E G1 H ∧ gh_fr mdT G G1 ∧ Md E G1 mo ma M fo fi 1 nn := ⟨_, hG, hF.tr (gh_fr.set hM.1 (Or.inl rfl)), hM.setO (th' := 1) (nn' := nn) rfl⟩
        refine lv_aload_n hx hb dX3_effect_41 rfl (lv_at hl 0 rfl) ?_
        refine gf_X3_61 S dX3_effect_42 hG hM.1 rfl ?_
        refine lv_if_le (tgt := 50) hx hb dX3_effect_45 (by decide) (fun h => absurd h (by decide)) (fun _ => ?_)
        refine lv_iconst (v := 0) hx hb dX3_effect_48 (by decide) ?_
        exact g_iret S hr dX3_effect_49 hG hS (by first | exact Nat.le_refl _ | omega) (by first | exact Nat.le_refl _ | omega) ⟨0, rfl, fun q => absurd (hc.symm.trans q) (by decide), mdQ.bad hc (by decide) hM hF⟩
    · refine W.eq (g2 := F0 m 14 ls [.int 0, .ref mo]) rfl ?_
      have hc : oc9 M nn x y z u = 1 := by rw [oc9, if_pos (fun q => hd q.2.1)]
      refine lv_if_eq (tgt := 33) hx hb dX3_effect_14 (by decide) (fun _ => ?_) (fun h => absurd h (by decide))
      refine lv_iconst (v := 1) hx hb dX3_effect_33 (by decide) ?_
      refine lv_goto (tgt := 38) hx hb dX3_effect_34 (by decide) ?_
      refine pf_X3_61 S dX3_effect_38 rfl rfl hG hS hM.1 (Nat.le_of_ble_eq_true rfl) (fun H locs hG hS => ?_)
      obtain ⟨G7, hG, hF, hM⟩ : ∃ G1, gh_W E G1 H ∧ gh_fr mdT G G1 ∧ Md E G1 mo ma M fo fi 1 nn := ⟨_, hG, hF.tr (gh_fr.set hM.1 (Or.inl rfl)), hM.setO (th' := 1) (nn' := nn) rfl⟩
      refine lv_aload_n hx hb dX3_effect_41 rfl (lv_at hl 0 rfl) ?_
      refine gf_X3_61 S dX3_effect_42 hG hM.1 rfl ?_
      refine lv_if_le (tgt := 50) hx hb dX3_effect_45 (by decide) (fun h => absurd h (by decide)) (fun _ => ?_)
      refine lv_iconst (v := 0) hx hb dX3_effect_48 (by decide) ?_
      exact g_iret S hr dX3_effect_49 hG hS (by first | exact Nat.le_refl _ | omega) (by first | exact Nat.le_refl _ | omega) ⟨0, rfl, fun q => absurd (hc.symm.trans q) (by decide), mdQ.bad hc (by decide) hM hF⟩
  · refine W.eq (g2 := F0 m 6 ls [.int 0, .ref mo]) rfl ?_
    have hc : oc9 M nn x y z u = 1 := by rw [oc9, if_pos (fun q => hi q.1)]
    refine lv_if_eq (tgt := 33) hx hb dX3_effect_6 (by decide) (fun _ => ?_) (fun h => absurd h (by decide))
    refine lv_iconst (v := 1) hx hb dX3_effect_33 (by decide) ?_
    refine lv_goto (tgt := 38) hx hb dX3_effect_34 (by decide) ?_
    refine pf_X3_61 S dX3_effect_38 rfl rfl hG hS hM.1 (Nat.le_of_ble_eq_true rfl) (fun H locs hG hS => ?_)
    obtain ⟨G8, hG, hF, hM⟩ : ∃ G1, gh_W E G1 H ∧ gh_fr mdT G G1 ∧ Md E G1 mo ma M fo fi 1 nn := ⟨_, hG, hF.tr (gh_fr.set hM.1 (Or.inl rfl)), hM.setO (th' := 1) (nn' := nn) rfl⟩
    refine lv_aload_n hx hb dX3_effect_41 rfl (lv_at hl 0 rfl) ?_
    refine gf_X3_61 S dX3_effect_42 hG hM.1 rfl ?_
    refine lv_if_le (tgt := 50) hx hb dX3_effect_45 (by decide) (fun h => absurd h (by decide)) (fun _ => ?_)
    refine lv_iconst (v := 0) hx hb dX3_effect_48 (by decide) ?_
    exact g_iret S hr dX3_effect_49 hG hS (by first | exact Nat.le_refl _ | omega) (by first | exact Nat.le_refl _ | omega) ⟨0, rfl, fun q => absurd (hc.symm.trans q) (by decide), mdQ.bad hc (by decide) hM hF⟩
