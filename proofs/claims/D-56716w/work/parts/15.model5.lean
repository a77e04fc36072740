set_option maxHeartbeats 4000000 in
set_option maxRecDepth 100000 in
theorem metX3_addDriver (l : Launch) {E : Ev} {G : gh} {mo : Nat} {ma : Nat → Nat} {M : Nat → Nat → Int32} {fo : Nat → Int64} {fi : Nat → Int32} {th : Int32} {nn : Nat → Nat} (x : Int32) (hM : Md E G mo ma M fo fi th nn) (hwf : sp_wf M nn) : Met l yX3_addDriver (ws_ yX3_addDriver cX3_addDriver 2 (some .int)) ({ frames := 2, cells := 0, slots := 0, locals := 80 }) (gP E G [.ref mo, .int x]) (gQ E (fun v G' => mdI E G mo ma (oc0 nn x) (nI (nn 1)) M (oM0 M nn x) nn (va_up nn 1 (nn 1 + 1)) v G')) 0 0 (ev_A E) := by
  have h16 : nn 1 ≤ 6 := hwf.1.1
  have h10 : nn 2 ≤ 10 := hwf.1.2.1
  have h34 : nn 3 ≤ 4 := hwf.1.2.2.1.2
  have h31 : 1 ≤ nn 3 := hwf.1.2.2.1.1
  have h412 : nn 4 ≤ 12 := hwf.1.2.2.2.1
  have h511 : nn 5 ≤ 11 := hwf.1.2.2.2.2
  refine gMet RX3 (by decide) rfl (Nat.le_of_ble_eq_true rfl) ?_
  intro p e s m below meth c ls hx hb S hr hnm hl hG hS
  have hl : lv_has ls 2 [(0, .ref mo), (1, .int x)] := hl
  have hF : gh_fr mdT G G := gh_fr.rf
  refine lv_aload_n hx hb dX3_addDriver_0 rfl (lv_at hl 0 rfl) ?_
  refine lv_iload_n hx hb dX3_addDriver_1 rfl (lv_at hl 1 rfl) ?_
  refine lv_iconst (v := 0) hx hb dX3_addDriver_2 (by decide) ?_
  refine lv_sipush (v := 9999) hx hb dX3_addDriver_3 (by decide) ?_
  refine g_call hS (va_runS (As := [.int x, .int 0, .int 9999]) (rest := [.ref mo]) S.1 (metX3_in l (E := E) (G := _) x 0 9999) (va_cwS 3 S.ts (lw_S q1067 q1068 q39 q1069) rfl rfl rfl (by decide +kernel) ⟨Nat.le_of_ble_eq_true rfl, Nat.le_of_ble_eq_true rfl⟩) (S.pre hG hS) rfl rfl hl.1 rfl (lv_room (Nat.le_of_ble_eq_true rfl)) dX3_addDriver_6 ⟨Nat.le_of_ble_eq_true rfl, Nat.le_of_ble_eq_true rfl⟩) (fun v G1 H locs hp hG hS => ?_)
  refine W.cs (cells' := 0) (slots' := 0) (by first | rfl | omega) (by first | rfl | omega) ?_
  obtain ⟨r, rfl, hr1, rfl⟩ := hp
  rcases hr1 with ⟨rfl, hv⟩ | ⟨rfl, hv⟩
  · refine W.eq (g2 := F0 m 9 ls [.int 1, .ref mo]) rfl ?_
    refine lv_if_ne (tgt := 16) hx hb dX3_addDriver_9 (by decide) (fun _ => ?_) (fun h => absurd h (by decide))
    refine lv_aload_n hx hb dX3_addDriver_16 rfl (lv_at hl 0 rfl) ?_
    refine gf_X3_65 S dX3_addDriver_17 hG hM.1 rfl ?_
    refine lv_bipush (v := 6) hx hb dX3_addDriver_20 (by decide) ?_
    refine lv_icmp_ne (tgt := 29) hx hb dX3_addDriver_22 (by decide) (fun h22 => ?_) (fun h22 => ?_)
    · have hc : oc0 nn x = 0 := by rw [oc0, if_neg (Classical.not_not.mpr hv), if_neg h22]
      have hlt : nn 1 < 6 := by rcases Nat.lt_or_ge (nn 1) 6 with q | q; exact q; exact absurd (congrArg nI (show nn 1 = 6 by omega)) h22
      refine lv_iconst (v := 0) hx hb dX3_addDriver_29 (by decide) ?_
      refine pf_X3_61 S dX3_addDriver_30 rfl rfl hG hS hM.1 (Nat.le_of_ble_eq_true rfl) (fun H locs hG hS => ?_)
      obtain ⟨G1, hG, hF, hM⟩ : ∃ G1, gh_W E G1 H ∧ gh_fr mdT G G1 ∧ Md E G1 mo ma M fo fi 0 nn := ⟨_, hG, hF.tr (gh_fr.set hM.1 (Or.inl rfl)), hM.setO (th' := 0) (nn' := nn) rfl⟩
      refine lv_aload_n hx hb dX3_addDriver_33 rfl (lv_at hl 0 rfl) ?_
      refine gf_X3_61 S dX3_addDriver_34 hG hM.1 rfl ?_
      refine lv_if_le (tgt := 42) hx hb dX3_addDriver_37 (by decide) (fun _ => ?_) (fun h => absurd h (by decide))
      refine lv_aload_n hx hb dX3_addDriver_42 rfl (lv_at hl 0 rfl) ?_
      refine gf_X3_7 S dX3_addDriver_43 hG hM.1 rfl ?_
      refine lv_aload_n hx hb dX3_addDriver_46 rfl (lv_at hl 0 rfl) ?_
      refine gf_X3_65 S dX3_addDriver_47 hG hM.1 rfl ?_
      refine lv_iload_n hx hb dX3_addDriver_50 rfl (lv_at hl 1 rfl) ?_
      refine n_iast S dX3_addDriver_51 hG hS (hM.arr 0 (by decide)) (gix.mk (show nn 1 < 6 from hlt) (by decide)) (fun H locs hG hS => ?_)
      obtain ⟨G2, hG, hF, hM⟩ : ∃ G1, gh_W E G1 H ∧ gh_fr mdT G G1 ∧ Md E G1 mo ma (oM0 M nn x) fo fi 0 nn := ⟨_, hG, hF.tr (gh_fr.set (hM.arr 0 (by decide)) (Or.inr (Or.inl rfl))), hM.set 0 (by decide) _⟩
      refine lv_aload_n hx hb dX3_addDriver_52 rfl (lv_at hl 0 rfl) ?_
      refine lv_dup hx hb dX3_addDriver_53 rfl ?_
      refine gf_X3_65 S dX3_addDriver_54 hG hM.1 rfl ?_
      refine lv_iconst (v := 1) hx hb dX3_addDriver_57 (by decide) ?_
      refine lv_iadd hx hb dX3_addDriver_58 ?_
      refine pf_X3_65 S dX3_addDriver_59 rfl rfl hG hS hM.1 (Nat.le_of_ble_eq_true rfl) (fun H locs hG hS => ?_)
      obtain ⟨G3, hG, hF, hM⟩ : ∃ G1, gh_W E G1 H ∧ gh_fr mdT G G1 ∧ Md E G1 mo ma (oM0 M nn x) fo fi 0 (va_up nn 1 (nn 1 + 1)) := ⟨_, hG, hF.tr (gh_fr.set hM.1 (Or.inl rfl)), hM.setO (by rw [nI_1]; rfl)⟩
      refine lv_aload_n hx hb dX3_addDriver_62 rfl (lv_at hl 0 rfl) ?_
      refine gf_X3_65 S dX3_addDriver_63 hG hM.1 rfl ?_
      refine lv_iconst (v := 1) hx hb dX3_addDriver_66 (by decide) ?_
      refine lv_isub hx hb dX3_addDriver_67 ?_
      exact g_iret S hr dX3_addDriver_68 hG hS (by first | exact Nat.le_refl _ | omega) (by first | exact Nat.le_refl _ | omega) ⟨_, rfl, fun _ => nI_pred _, mdQ.ok hc hM hF⟩
    · have hc : oc0 nn x = 2 := by rw [oc0, if_neg (Classical.not_not.mpr hv), if_pos h22]
      refine lv_iconst (v := 2) hx hb dX3_addDriver_25 (by decide) ?_
      refine lv_goto (tgt := 30) hx hb dX3_addDriver_26 (by decide) ?_
      refine pf_X3_61 S dX3_addDriver_30 rfl rfl hG hS hM.1 (Nat.le_of_ble_eq_true rfl) (fun H locs hG hS => ?_)
      obtain ⟨G4, hG, hF, hM⟩ : ∃ G1, gh_W E G1 H ∧ gh_fr mdT G G1 ∧ Md E G1 mo ma M fo fi 2 nn := ⟨_, hG, hF.tr (gh_fr.set hM.1 (Or.inl rfl)), hM.setO (th' := 2) (nn' := nn) rfl⟩
      refine lv_aload_n hx hb dX3_addDriver_33 rfl (lv_at hl 0 rfl) ?_
      refine gf_X3_61 S dX3_addDriver_34 hG hM.1 rfl ?_
      refine lv_if_le (tgt := 42) hx hb dX3_addDriver_37 (by decide) (fun h => absurd h (by decide)) (fun _ => ?_)
      refine lv_iconst (v := 0) hx hb dX3_addDriver_40 (by decide) ?_
      exact g_iret S hr dX3_addDriver_41 hG hS (by first | exact Nat.le_refl _ | omega) (by first | exact Nat.le_refl _ | omega) ⟨0, rfl, fun q => absurd (hc.symm.trans q) (by decide), mdQ.bad hc (by decide) hM hF⟩
  · refine W.eq (g2 := F0 m 9 ls [.int 0, .ref mo]) rfl ?_
    have hc : oc0 nn x = 1 := by rw [oc0, if_pos hv]
    refine lv_if_ne (tgt := 16) hx hb dX3_addDriver_9 (by decide) (fun h => absurd h (by decide)) (fun _ => ?_)
    refine lv_iconst (v := 1) hx hb dX3_addDriver_12 (by decide) ?_
    refine lv_goto (tgt := 30) hx hb dX3_addDriver_13 (by decide) ?_
    refine pf_X3_61 S dX3_addDriver_30 rfl rfl hG hS hM.1 (Nat.le_of_ble_eq_true rfl) (fun H locs hG hS => ?_)
    obtain ⟨G5, hG, hF, hM⟩ : ∃ G1, gh_W E G1 H ∧ gh_fr mdT G G1 ∧ Md E G1 mo ma M fo fi 1 nn := ⟨_, hG, hF.tr (gh_fr.set hM.1 (Or.inl rfl)), hM.setO (th' := 1) (nn' := nn) rfl⟩
    refine lv_aload_n hx hb dX3_addDriver_33 rfl (lv_at hl 0 rfl) ?_
    refine gf_X3_61 S dX3_addDriver_34 hG hM.1 rfl ?_
    refine lv_if_le (tgt := 42) hx hb dX3_addDriver_37 (by decide) (fun h => absurd h (by decide)) (fun _ => ?_)
    refine lv_iconst (v := 0) hx hb dX3_addDriver_40 (by decide) ?_
    exact g_iret S hr dX3_addDriver_41 hG hS (by first | exact Nat.le_refl _ | omega) (by first | exact Nat.le_refl _ | omega) ⟨0, rfl, fun q => absurd (hc.symm.trans q) (by decide), mdQ.bad hc (by decide) hM hF⟩
theorem wf_0 {M : tM} {nn : tN} (h : sp_wf M nn) (f : Nat → Int32) : sp_wf (va_up M 0 f) nn := h
theorem oM1_wf {M : tM} {nn : tN} (h : sp_wf M nn) {d v : Int32} : sp_wf (oM1 M d v) nn := h
set_option maxHeartbeats 4000000 in
set_option maxRecDepth 100000 in
theorem metX3_setDriver (l : Launch) {E : Ev} {G : gh} {mo : Nat} {ma : Nat → Nat} {M : Nat → Nat → Int32} {fo : Nat → Int64} {fi : Nat → Int32} {th : Int32} {nn : Nat → Nat} (x y : Int32) (hM : Md E G mo ma M fo fi th nn) (hwf : sp_wf M nn) : Met l yX3_setDriver (ws_ yX3_setDriver cX3_setDriver 3 (some .int)) ({ frames := 5, cells := 0, slots := 0, locals := 320 }) (gP E G [.ref mo, .int x, .int y]) (gQ E (fun v G' => mdI E G mo ma (oc1 nn x y) (sp_rn (oM1 M x y) nn) M (sp_re (oM1 M x y) nn) nn (nn) v G')) 0 0 (ev_A E) := by
  have h16 : nn 1 ≤ 6 := hwf.1.1
  have h10 : nn 2 ≤ 10 := hwf.1.2.1
  have h34 : nn 3 ≤ 4 := hwf.1.2.2.1.2
  have h31 : 1 ≤ nn 3 := hwf.1.2.2.1.1
  have h412 : nn 4 ≤ 12 := hwf.1.2.2.2.1
  have h511 : nn 5 ≤ 11 := hwf.1.2.2.2.2
  refine gMet RX3 (by decide) rfl (Nat.le_of_ble_eq_true rfl) ?_
  intro p e s m below meth c ls hx hb S hr hnm hl hG hS
  have hl : lv_has ls 3 [(0, .ref mo), (1, .int x), (2, .int y)] := hl
  have hF : gh_fr mdT G G := gh_fr.rf
  refine lv_aload_n hx hb dX3_setDriver_0 rfl (lv_at hl 0 rfl) ?_
  refine lv_aload_n hx hb dX3_setDriver_1 rfl (lv_at hl 0 rfl) ?_
  refine lv_iload_n hx hb dX3_setDriver_2 rfl (lv_at hl 1 rfl) ?_
  refine g_call hS (va_runV (As := [.int x]) (rest := [.ref mo]) S.1 (metX3_isDriver l x hM) (cwV 1 S.ts (lw_V q1074 q1076 qs19 q39 q1077) rfl rfl rfl (by decide +kernel) ⟨Nat.le_of_ble_eq_true rfl, Nat.le_of_ble_eq_true rfl⟩) (S.preV hG hS hM.1 rfl) rfl rfl hl.1 rfl (lv_room (Nat.le_of_ble_eq_true rfl)) dX3_setDriver_3 ⟨Nat.le_of_ble_eq_true rfl, Nat.le_of_ble_eq_true rfl⟩) (fun v G1 H locs hp hG hS => ?_)
  refine W.cs (cells' := 0) (slots' := 0) (by first | rfl | omega) (by first | rfl | omega) ?_
  obtain ⟨r, rfl, hr1, rfl⟩ := hp
  rcases hr1 with ⟨rfl, hd⟩ | ⟨rfl, hd⟩
  · refine W.eq (g2 := F0 m 6 ls [.int 1, .ref mo]) rfl ?_
    refine lv_if_ne (tgt := 13) hx hb dX3_setDriver_6 (by decide) (fun _ => ?_) (fun h => absurd h (by decide))
    refine lv_iload_n hx hb dX3_setDriver_13 rfl (lv_at hl 2 rfl) ?_
    refine lv_iconst (v := 0) hx hb dX3_setDriver_14 (by decide) ?_
    refine lv_sipush (v := 9999) hx hb dX3_setDriver_15 (by decide) ?_
    refine g_call hS (va_runS (As := [.int y, .int 0, .int 9999]) (rest := [.ref mo]) S.1 (metX3_in l (E := E) (G := _) y 0 9999) (va_cwS 3 S.ts (lw_S q1067 q1068 q39 q1069) rfl rfl rfl (by decide +kernel) ⟨Nat.le_of_ble_eq_true rfl, Nat.le_of_ble_eq_true rfl⟩) (S.pre hG hS) rfl rfl hl.1 rfl (lv_room (Nat.le_of_ble_eq_true rfl)) dX3_setDriver_18 ⟨Nat.le_of_ble_eq_true rfl, Nat.le_of_ble_eq_true rfl⟩) (fun v G1 H locs hp hG hS => ?_)
    refine W.cs (cells' := 0) (slots' := 0) (by first | rfl | omega) (by first | rfl | omega) ?_
    obtain ⟨r, rfl, hr1, rfl⟩ := hp
    rcases hr1 with ⟨rfl, hv⟩ | ⟨rfl, hv⟩
    · refine W.eq (g2 := F0 m 21 ls [.int 1, .ref mo]) rfl ?_
      have hc : oc1 nn x y = 0 := by rw [oc1, if_neg (Classical.not_not.mpr hd), if_neg (Classical.not_not.mpr hv)]
      obtain ⟨k, rfl, hk, ek⟩ := vix.ix hd (by omega)
      refine lv_if_ne (tgt := 28) hx hb dX3_setDriver_21 (by decide) (fun _ => ?_) (fun h => absurd h (by decide))
      refine lv_iconst (v := 0) hx hb dX3_setDriver_28 (by decide) ?_
      refine pf_X3_61 S dX3_setDriver_29 rfl rfl hG hS hM.1 (Nat.le_of_ble_eq_true rfl) (fun H locs hG hS => ?_)
      obtain ⟨G1, hG, hF, hM⟩ : ∃ G1, gh_W E G1 H ∧ gh_fr mdT G G1 ∧ Md E G1 mo ma M fo fi 0 nn := ⟨_, hG, hF.tr (gh_fr.set hM.1 (Or.inl rfl)), hM.setO (th' := 0) (nn' := nn) rfl⟩
      refine lv_aload_n hx hb dX3_setDriver_32 rfl (lv_at hl 0 rfl) ?_
      refine gf_X3_61 S dX3_setDriver_33 hG hM.1 rfl ?_
      refine lv_if_le (tgt := 41) hx hb dX3_setDriver_36 (by decide) (fun _ => ?_) (fun h => absurd h (by decide))
      refine lv_aload_n hx hb dX3_setDriver_41 rfl (lv_at hl 0 rfl) ?_
      refine gf_X3_7 S dX3_setDriver_42 hG hM.1 rfl ?_
      refine lv_iload_n hx hb dX3_setDriver_45 rfl (lv_at hl 1 rfl) ?_
      refine lv_iload_n hx hb dX3_setDriver_46 rfl (lv_at hl 2 rfl) ?_
      refine n_iast S dX3_setDriver_47 hG hS (hM.arr 0 (by decide)) (gix.mk (show k < 6 by omega) (by decide)) (fun H locs hG hS => ?_)
      obtain ⟨G2, hG, hF, hM⟩ : ∃ G1, gh_W E G1 H ∧ gh_fr mdT G G1 ∧ Md E G1 mo ma (oM1 M (nI k) y) fo fi 0 nn := ⟨_, hG, hF.tr (gh_fr.set (hM.arr 0 (by decide)) (Or.inr (Or.inl rfl))), by rw [oM1, ek]; exact hM.set 0 (by decide) _⟩
      refine lv_aload_n hx hb dX3_setDriver_48 rfl (lv_at hl 0 rfl) ?_
      refine g_call hS (va_runV (As := []) (rest := []) S.1 (metX3_looks l hM (oM1_wf hwf (d := nI k) (v := y))) (cwV 0 S.ts (lw_V q1078 q1080 qs20 q39 q1081) rfl rfl rfl (by decide +kernel) ⟨Nat.le_of_ble_eq_true rfl, Nat.le_of_ble_eq_true rfl⟩) (S.preV hG hS hM.1 rfl) rfl rfl hl.1 rfl (lv_room (Nat.le_of_ble_eq_true rfl)) dX3_setDriver_49 ⟨Nat.le_of_ble_eq_true rfl, Nat.le_of_ble_eq_true rfl⟩) (fun v G1 H locs hp hG hS => ?_)
      refine W.cs (cells' := 0) (slots' := 0) (by first | rfl | omega) (by first | rfl | omega) ?_
      obtain ⟨rfl, fo2, fi2, hM, hF2⟩ := hp
      have hF := hF.tr hF2
      refine W.eq (g2 := F0 m 52 ls [.int (sp_rn (oM1 M (nI k) y) nn)]) rfl ?_
      exact g_iret S hr dX3_setDriver_52 hG hS (by first | exact Nat.le_refl _ | omega) (by first | exact Nat.le_refl _ | omega) ⟨_, rfl, fun _ => rfl, mdQ.ok hc hM hF⟩
    · refine W.eq (g2 := F0 m 21 ls [.int 0, .ref mo]) rfl ?_
      have hc : oc1 nn x y = 2 := by rw [oc1, if_neg (Classical.not_not.mpr hd), if_pos hv]
      refine lv_if_ne (tgt := 28) hx hb dX3_setDriver_21 (by decide) (fun h => absurd h (by decide)) (fun _ => ?_)
      refine lv_iconst (v := 2) hx hb dX3_setDriver_24 (by decide) ?_
      refine lv_goto (tgt := 29) hx hb dX3_setDriver_25 (by decide) ?_
      refine pf_X3_61 S dX3_setDriver_29 rfl rfl hG hS hM.1 (Nat.le_of_ble_eq_true rfl) (fun H locs hG hS => ?_)
      obtain ⟨G3, hG, hF, hM⟩ : ∃ G1, gh_W E G1 H ∧ gh_fr mdT G G1 ∧ Md E G1 mo ma M fo fi 2 nn := ⟨_, hG, hF.tr (gh_fr.set hM.1 (Or.inl rfl)), hM.setO (th' := 2) (nn' := nn) rfl⟩
      refine lv_aload_n hx hb dX3_setDriver_32 rfl (lv_at hl 0 rfl) ?_
      refine gf_X3_61 S dX3_setDriver_33 hG hM.1 rfl ?_
      refine lv_if_le (tgt := 41) hx hb dX3_setDriver_36 (by decide) (fun h => absurd h (by decide)) (fun _ => ?_)
      refine lv_iconst (v := 0) hx hb dX3_setDriver_39 (by decide) ?_
      exact g_iret S hr dX3_setDriver_40 hG hS (by first | exact Nat.le_refl _ | omega) (by first | exact Nat.le_refl _ | omega) ⟨0, rfl, fun q => absurd (hc.symm.trans q) (by decide), mdQ.bad hc (by decide) hM hF⟩
  · refine W.eq (g2 := F0 m 6 ls [.int 0, .ref mo]) rfl ?_
    have hc : oc1 nn x y = 1 := by rw [oc1, if_pos hd]
    refine lv_if_ne (tgt := 13) hx hb dX3_setDriver_6 (by decide) (fun h => absurd h (by decide)) (fun _ => ?_)
    refine lv_iconst (v := 1) hx hb dX3_setDriver_9 (by decide) ?_
    refine lv_goto (tgt := 29) hx hb dX3_setDriver_10 (by decide) ?_
    refine pf_X3_61 S dX3_setDriver_29 rfl rfl hG hS hM.1 (Nat.le_of_ble_eq_true rfl) (fun H locs hG hS => ?_)
    obtain ⟨G4, hG, hF, hM⟩ : ∃ G1, gh_W E G1 H ∧ gh_fr mdT G G1 ∧ Md E G1 mo ma M fo fi 1 nn := ⟨_, hG, hF.tr (gh_fr.set hM.1 (Or.inl rfl)), hM.setO (th' := 1) (nn' := nn) rfl⟩
    refine lv_aload_n hx hb dX3_setDriver_32 rfl (lv_at hl 0 rfl) ?_
    refine gf_X3_61 S dX3_setDriver_33 hG hM.1 rfl ?_
    refine lv_if_le (tgt := 41) hx hb dX3_setDriver_36 (by decide) (fun h => absurd h (by decide)) (fun _ => ?_)
    refine lv_iconst (v := 0) hx hb dX3_setDriver_39 (by decide) ?_
    exact g_iret S hr dX3_setDriver_40 hG hS (by first | exact Nat.le_refl _ | omega) (by first | exact Nat.le_refl _ | omega) ⟨0, rfl, fun q => absurd (hc.symm.trans q) (by decide), mdQ.bad hc (by decide) hM hF⟩
set_option maxHeartbeats 4000000 in
set_option maxRecDepth 100000 in
theorem metX3_driver (l : Launch) {E : Ev} {G : gh} {mo : Nat} {ma : Nat → Nat} {M : Nat → Nat → Int32} {fo : Nat → Int64} {fi : Nat → Int32} {th : Int32} {nn : Nat → Nat} (x y z : Int32) (hM : Md E G mo ma M fo fi th nn) (hwf : sp_wf M nn) : Met l yX3_driver (ws_ yX3_driver cX3_driver 4 (some .int)) ({ frames := 3, cells := 0, slots := 0, locals := 160 }) (gP E G [.ref mo, .int x, .int y, .int z]) (gQ E (fun v G' => mdI E G mo ma (oc2 nn x y z) (or2 M nn x y z) M (M) nn (nn) v G')) 0 0 (ev_A E) := by
  have h16 : nn 1 ≤ 6 := hwf.1.1
  have h10 : nn 2 ≤ 10 := hwf.1.2.1
  have h34 : nn 3 ≤ 4 := hwf.1.2.2.1.2
  have h31 : 1 ≤ nn 3 := hwf.1.2.2.1.1
  have h412 : nn 4 ≤ 12 := hwf.1.2.2.2.1
  have h511 : nn 5 ≤ 11 := hwf.1.2.2.2.2
  refine gMet RX3 (by decide) rfl (Nat.le_of_ble_eq_true rfl) ?_
  intro p e s m below meth c ls hx hb S hr hnm hl hG hS
  have hl : lv_has ls 4 [(0, .ref mo), (1, .int x), (2, .int y), (3, .int z)] := hl
  have hF : gh_fr mdT G G := gh_fr.rf
  refine lv_aload_n hx hb dX3_driver_0 rfl (lv_at hl 0 rfl) ?_
  refine lv_aload_n hx hb dX3_driver_1 rfl (lv_at hl 0 rfl) ?_
  refine lv_iload_n hx hb dX3_driver_2 rfl (lv_at hl 1 rfl) ?_
  refine g_call hS (va_runV (As := [.int x]) (rest := [.ref mo]) S.1 (metX3_isScenario l x hM) (cwV 1 S.ts (lw_V q1108 q1110 qs25 q39 q1111) rfl rfl rfl (by decide +kernel) ⟨Nat.le_of_ble_eq_true rfl, Nat.le_of_ble_eq_true rfl⟩) (S.preV hG hS hM.1 rfl) rfl rfl hl.1 rfl (lv_room (Nat.le_of_ble_eq_true rfl)) dX3_driver_3 ⟨Nat.le_of_ble_eq_true rfl, Nat.le_of_ble_eq_true rfl⟩) (fun v G1 H locs hp hG hS => ?_)
  refine W.cs (cells' := 0) (slots' := 0) (by first | rfl | omega) (by first | rfl | omega) ?_
  obtain ⟨r, rfl, hr1, rfl⟩ := hp
  rcases hr1 with ⟨rfl, hi⟩ | ⟨rfl, hi⟩
  · refine W.eq (g2 := F0 m 6 ls [.int 1, .ref mo]) rfl ?_
    refine lv_if_eq (tgt := 28) hx hb dX3_driver_6 (by decide) (fun h => absurd h (by decide)) (fun _ => ?_)
    refine lv_aload_n hx hb dX3_driver_9 rfl (lv_at hl 0 rfl) ?_
    refine lv_iload_n hx hb dX3_driver_10 rfl (lv_at hl 2 rfl) ?_
    refine g_call hS (va_runV (As := [.int y]) (rest := [.ref mo]) S.1 (metX3_isDriver l y hM) (cwV 1 S.ts (lw_V q1074 q1076 qs19 q39 q1077) rfl rfl rfl (by decide +kernel) ⟨Nat.le_of_ble_eq_true rfl, Nat.le_of_ble_eq_true rfl⟩) (S.preV hG hS hM.1 rfl) rfl rfl hl.1 rfl (lv_room (Nat.le_of_ble_eq_true rfl)) dX3_driver_11 ⟨Nat.le_of_ble_eq_true rfl, Nat.le_of_ble_eq_true rfl⟩) (fun v G1 H locs hp hG hS => ?_)
    refine W.cs (cells' := 0) (slots' := 0) (by first | rfl | omega) (by first | rfl | omega) ?_
    obtain ⟨r, rfl, hr1, rfl⟩ := hp
    rcases hr1 with ⟨rfl, hd⟩ | ⟨rfl, hd⟩
    · refine W.eq (g2 := F0 m 14 ls [.int 1, .ref mo]) rfl ?_
      refine lv_if_eq (tgt := 28) hx hb dX3_driver_14 (by decide) (fun h => absurd h (by decide)) (fun _ => ?_)
      refine lv_iload_n hx hb dX3_driver_17 rfl (lv_at hl 3 rfl) ?_
      refine g_call hS (va_runS (As := [.int z]) (rest := [.ref mo]) S.1 (metX3_isMonth l (E := E) (G := _) z) (va_cwS 1 S.ts (lw_S q1112 q1113 q39 q1114) rfl rfl rfl (by decide +kernel) ⟨Nat.le_of_ble_eq_true rfl, Nat.le_of_ble_eq_true rfl⟩) (S.pre hG hS) rfl rfl hl.1 rfl (lv_room (Nat.le_of_ble_eq_true rfl)) dX3_driver_18 ⟨Nat.le_of_ble_eq_true rfl, Nat.le_of_ble_eq_true rfl⟩) (fun v G1 H locs hp hG hS => ?_)
      refine W.cs (cells' := 0) (slots' := 0) (by first | rfl | omega) (by first | rfl | omega) ?_
      obtain ⟨r, rfl, hr1, rfl⟩ := hp
      rcases hr1 with ⟨rfl, ht⟩ | ⟨rfl, ht⟩
      · refine W.eq (g2 := F0 m 21 ls [.int 1, .ref mo]) rfl ?_
        have hc : oc2 nn x y z = 0 := by rw [oc2, if_pos ⟨hi, hd, ht⟩]
        refine lv_if_eq (tgt := 28) hx hb dX3_driver_21 (by decide) (fun h => absurd h (by decide)) (fun _ => ?_)
        refine lv_iconst (v := 1) hx hb dX3_driver_24 (by decide) ?_
        refine lv_goto (tgt := 29) hx hb dX3_driver_25 (by decide) ?_
        refine g_call hS (va_runV (As := [.int 1]) (rest := []) S.1 (metX3_checked l 1 hM) (cwV 1 S.ts (lw_V q1115 q1117 qs26 q39 q1118) rfl rfl rfl (by decide +kernel) ⟨Nat.le_of_ble_eq_true rfl, Nat.le_of_ble_eq_true rfl⟩) (S.preV hG hS hM.1 rfl) rfl rfl hl.1 rfl (lv_room (Nat.le_of_ble_eq_true rfl)) dX3_driver_29 ⟨Nat.le_of_ble_eq_true rfl, Nat.le_of_ble_eq_true rfl⟩) (fun v G1 H locs hp hG hS => ?_)
        refine W.cs (cells' := 0) (slots' := 0) (by first | rfl | omega) (by first | rfl | omega) ?_
        obtain ⟨rfl, hM, hF2⟩ := hp
        have hF := hF.tr hF2
        have hM : Md E _ mo ma M fo fi 0 nn := hM
        refine W.eq (g2 := F0 m 32 ls [.int 0]) rfl ?_
        obtain ⟨i, rfl, hi, ei⟩ := vix.ix hi (by omega)
        obtain ⟨k, rfl, hk, ek⟩ := vix.ix hd (by omega)
        obtain ⟨t, rfl, ht, et⟩ := vmo.ix ht
        refine lv_if_le (tgt := 39) hx hb dX3_driver_32 (by decide) (fun _ => ?_) (fun h => absurd h (by decide))
        refine lv_aload_n hx hb dX3_driver_39 rfl (lv_at hl 0 rfl) ?_
        refine lv_iload_n hx hb dX3_driver_40 rfl (lv_at hl 1 rfl) ?_
        refine lv_iload_n hx hb dX3_driver_41 rfl (lv_at hl 2 rfl) ?_
        refine lv_iload_n hx hb dX3_driver_42 rfl (lv_at hl 3 rfl) ?_
        refine lv_bipush (v := 6) hx hb dX3_driver_43 (by decide) ?_
        refine g_call hS (va_runV (As := [.int (nI i), .int (nI k), .int (nI t), .int 6]) (rest := []) S.1 (metX3_valueIn l i k t 6 hM hwf hi hk) (cwV 4 S.ts (lw_V q1093 q1095 qs23 q39 q1096) rfl rfl rfl (by decide +kernel) ⟨Nat.le_of_ble_eq_true rfl, Nat.le_of_ble_eq_true rfl⟩) (S.preV hG hS hM.1 rfl) rfl rfl hl.1 rfl (lv_room (Nat.le_of_ble_eq_true rfl)) dX3_driver_45 ⟨Nat.le_of_ble_eq_true rfl, Nat.le_of_ble_eq_true rfl⟩) (fun v G1 H locs hp hG hS => ?_)
        refine W.cs (cells' := 0) (slots' := 0) (by first | rfl | omega) (by first | rfl | omega) ?_
        obtain ⟨rfl, rfl⟩ := hp
        refine W.eq (g2 := F0 m 48 ls [.int (sp_val M (nn 4) i k t (decide (nI k < 6)))]) rfl ?_
        exact g_iret S hr dX3_driver_48 hG hS (by first | exact Nat.le_refl _ | omega) (by first | exact Nat.le_refl _ | omega) ⟨_, rfl, fun _ => by rw [or2, ei, ek, et], mdQ.ok hc hM hF⟩
      · refine W.eq (g2 := F0 m 21 ls [.int 0, .ref mo]) rfl ?_
        have hc : oc2 nn x y z = 1 := by rw [oc2, if_neg (fun q => ht q.2.2)]
        refine lv_if_eq (tgt := 28) hx hb dX3_driver_21 (by decide) (fun _ => ?_) (fun h => absurd h (by decide))
        refine lv_iconst (v := 0) hx hb dX3_driver_28 (by decide) ?_
        refine g_call hS (va_runV (As := [.int 0]) (rest := []) S.1 (metX3_checked l 0 hM) (cwV 1 S.ts (lw_V q1115 q1117 qs26 q39 q1118) rfl rfl rfl (by decide +kernel) ⟨Nat.le_of_ble_eq_true rfl, Nat.le_of_ble_eq_true rfl⟩) (S.preV hG hS hM.1 rfl) rfl rfl hl.1 rfl (lv_room (Nat.le_of_ble_eq_true rfl)) dX3_driver_29 ⟨Nat.le_of_ble_eq_true rfl, Nat.le_of_ble_eq_true rfl⟩) (fun v G1 H locs hp hG hS => ?_)
        refine W.cs (cells' := 0) (slots' := 0) (by first | rfl | omega) (by first | rfl | omega) ?_
        obtain ⟨rfl, hM, hF2⟩ := hp
        have hF := hF.tr hF2
        have hM : Md E _ mo ma M fo fi 1 nn := hM
        refine W.eq (g2 := F0 m 32 ls [.int 1]) rfl ?_
        refine lv_if_le (tgt := 39) hx hb dX3_driver_32 (by decide) (fun h => absurd h (by decide)) (fun _ => ?_)
        refine lv_iconst (v := 0) hx hb dX3_driver_35 (by decide) ?_
        refine lv_goto (tgt := 48) hx hb dX3_driver_36 (by decide) ?_
        exact g_iret S hr dX3_driver_48 hG hS (by first | exact Nat.le_refl _ | omega) (by first | exact Nat.le_refl _ | omega) ⟨0, rfl, fun q => absurd (hc.symm.trans q) (by decide), mdQ.bad hc (by decide) hM hF⟩
    · refine W.eq (g2 := F0 m 14 ls [.int 0, .ref mo]) rfl ?_
      have hc : oc2 nn x y z = 1 := by rw [oc2, if_neg (fun q => hd q.2.1)]
      refine lv_if_eq (tgt := 28) hx hb dX3_driver_14 (by decide) (fun _ => ?_) (fun h => absurd h (by decide))
      refine lv_iconst (v := 0) hx hb dX3_driver_28 (by decide) ?_
      refine g_call hS (va_runV (As := [.int 0]) (rest := []) S.1 (metX3_checked l 0 hM) (cwV 1 S.ts (lw_V q1115 q1117 qs26 q39 q1118) rfl rfl rfl (by decide +kernel) ⟨Nat.le_of_ble_eq_true rfl, Nat.le_of_ble_eq_true rfl⟩) (S.preV hG hS hM.1 rfl) rfl rfl hl.1 rfl (lv_room (Nat.le_of_ble_eq_true rfl)) dX3_driver_29 ⟨Nat.le_of_ble_eq_true rfl, Nat.le_of_ble_eq_true rfl⟩) (fun v G1 H locs hp hG hS => ?_)
      refine W.cs (cells' := 0) (slots' := 0) (by first | rfl | omega) (by first | rfl | omega) ?_
      obtain ⟨rfl, hM, hF2⟩ := hp
      have hF := hF.tr hF2
      have hM : Md E _ mo ma M fo fi 1 nn := hM
      refine W.eq (g2 := F0 m 32 ls [.int 1]) rfl ?_
      refine lv_if_le (tgt := 39) hx hb dX3_driver_32 (by decide) (fun h => absurd h (by decide)) (fun _ => ?_)
      refine lv_iconst (v := 0) hx hb dX3_driver_35 (by decide) ?_
      refine lv_goto (tgt := 48) hx hb dX3_driver_36 (by decide) ?_
      exact g_iret S hr dX3_driver_48 hG hS (by first | exact Nat.le_refl _ | omega) (by first | exact Nat.le_refl _ | omega) ⟨0, rfl, fun q => absurd (hc.symm.trans q) (by decide), mdQ.bad hc (by decide) hM hF⟩
  · refine W.eq (g2 := F0 m 6 ls [.int 0, .ref mo]) rfl ?_
    have hc : oc2 nn x y z = 1 := by rw [oc2, if_neg (fun q => hi q.1)]
    refine lv_if_eq (tgt := 28) hx hb dX3_driver_6 (by decide) (fun _ => ?_) (fun h => absurd h (by decide))
    refine lv_iconst (v := 0) hx hb dX3_driver_28 (by decide) ?_
    refine g_call hS (va_runV (As := [.int 0]) (rest := []) S.1 (metX3_checked l 0 hM) (cwV 1 S.ts (lw_V q1115 q1117 qs26 q39 q1118) rfl rfl rfl (by decide +kernel) ⟨Nat.le_of_ble_eq_true rfl, Nat.le_of_ble_eq_true rfl⟩) (S.preV hG hS hM.1 rfl) rfl rfl hl.1 rfl (lv_room (Nat.le_of_ble_eq_true rfl)) dX3_driver_29 ⟨Nat.le_of_ble_eq_true rfl, Nat.le_of_ble_eq_true rfl⟩) (fun v G1 H locs hp hG hS => ?_)
    refine W.cs (cells' := 0) (slots' := 0) (by first | rfl | omega) (by first | rfl | omega) ?_
    obtain ⟨rfl, hM, hF2⟩ := hp
    have hF := hF.tr hF2
    have hM : Md E _ mo ma M fo fi 1 nn := hM
    refine W.eq (g2 := F0 m 32 ls [.int 1]) rfl ?_
    refine lv_if_le (tgt := 39) hx hb dX3_driver_32 (by decide) (fun h => absurd h (by decide)) (fun _ => ?_)
    refine lv_iconst (v := 0) hx hb dX3_driver_35 (by decide) ?_
    refine lv_goto (tgt := 48) hx hb dX3_driver_36 (by decide) ?_
    exact g_iret S hr dX3_driver_48 hG hS (by first | exact Nat.le_refl _ | omega) (by first | exact Nat.le_refl _ | omega) ⟨0, rfl, fun q => absurd (hc.symm.trans q) (by decide), mdQ.bad hc (by decide) hM hF⟩
set_option maxHeartbeats 4000000 in
set_option maxRecDepth 100000 in
theorem metX3_addLine (l : Launch) {E : Ev} {G : gh} {mo : Nat} {ma : Nat → Nat} {M : Nat → Nat → Int32} {fo : Nat → Int64} {fi : Nat → Int32} {th : Int32} {nn : Nat → Nat} (x y z : Int32) (hM : Md E G mo ma M fo fi th nn) (hwf : sp_wf M nn) : Met l yX3_addLine (ws_ yX3_addLine cX3_addLine 5 (some .int)) ({ frames := 2, cells := 0, slots := 0, locals := 80 }) (gP E G [.ref mo, .int x, .int y, .int z]) (gQ E (fun v G' => mdI E G mo ma (oc3 nn x y z) (nI (nn 2)) M (oM3 M nn x y z) nn (va_up nn 2 (nn 2 + 1)) v G')) 0 0 (ev_A E) := by
  have h16 : nn 1 ≤ 6 := hwf.1.1
  have h10 : nn 2 ≤ 10 := hwf.1.2.1
  have h34 : nn 3 ≤ 4 := hwf.1.2.2.1.2
  have h31 : 1 ≤ nn 3 := hwf.1.2.2.1.1
  have h412 : nn 4 ≤ 12 := hwf.1.2.2.2.1
  have h511 : nn 5 ≤ 11 := hwf.1.2.2.2.2
  refine gMet RX3 (by decide) rfl (Nat.le_of_ble_eq_true rfl) ?_
  intro p e s m below meth c ls hx hb S hr hnm hl hG hS
  have hl : lv_has ls 5 [(0, .ref mo), (1, .int x), (2, .int y), (3, .int z)] := hl
  have hF : gh_fr mdT G G := gh_fr.rf
  have h45 : ((x = 100 ∧ vix (nn 1) y) ∨ (x ≠ 100 ∧ vix (nn 2) y ∧ vix (nn 2) z)) ∨ ¬ ((x = 100 ∧ vix (nn 1) y) ∨ (x ≠ 100 ∧ vix (nn 2) y ∧ vix (nn 2) z)) := Classical.em _
  refine g_joinG _ (fun u : Int32 => (u = 1 ∧ ((x = 100 ∧ vix (nn 1) y) ∨ (x ≠ 100 ∧ vix (nn 2) y ∧ vix (nn 2) z))) ∨ (u = 0 ∧ ¬ ((x = 100 ∧ vix (nn 1) y) ∨ (x ≠ 100 ∧ vix (nn 2) y ∧ vix (nn 2) z)))) (fun u => F0 m 35 ls [.int u]) (fun J => ?_) hG hS (fun u H locs hJ hG hS => ?_)
  · refine lv_iload_n hx hb dX3_addLine_0 rfl (lv_at hl 1 rfl) ?_
    refine lv_bipush (v := 100) hx hb dX3_addLine_1 (by decide) ?_
    refine lv_icmp_ne (tgt := 14) hx hb dX3_addLine_3 (by decide) (fun h3 => ?_) (fun h3 => ?_)
    · refine lv_aload_n hx hb dX3_addLine_14 rfl (lv_at hl 0 rfl) ?_
      refine lv_iload_n hx hb dX3_addLine_15 rfl (lv_at hl 2 rfl) ?_
      refine g_call hS (va_runV (As := [.int y]) (rest := []) S.1 (metX3_isLine l y hM) (cwV 1 S.ts (lw_V q1123 q1125 qs27 q39 q1126) rfl rfl rfl (by decide +kernel) ⟨Nat.le_of_ble_eq_true rfl, Nat.le_of_ble_eq_true rfl⟩) (S.preV hG hS hM.1 rfl) rfl rfl hl.1 rfl (lv_room (Nat.le_of_ble_eq_true rfl)) dX3_addLine_16 ⟨Nat.le_of_ble_eq_true rfl, Nat.le_of_ble_eq_true rfl⟩) (fun v G1 H locs hp hG hS => ?_)
      refine W.cs (cells' := 0) (slots' := 0) (by first | rfl | omega) (by first | rfl | omega) ?_
      obtain ⟨r, rfl, hr1, rfl⟩ := hp
      rcases hr1 with ⟨rfl, hl1⟩ | ⟨rfl, hl1⟩
      · refine W.eq (g2 := F0 m 19 ls [.int 1]) rfl ?_
        refine lv_if_eq (tgt := 34) hx hb dX3_addLine_19 (by decide) (fun h => absurd h (by decide)) (fun _ => ?_)
        refine lv_aload_n hx hb dX3_addLine_22 rfl (lv_at hl 0 rfl) ?_
        refine lv_iload_n hx hb dX3_addLine_23 rfl (lv_at hl 3 rfl) ?_
        refine g_call hS (va_runV (As := [.int z]) (rest := []) S.1 (metX3_isLine l z hM) (cwV 1 S.ts (lw_V q1123 q1125 qs27 q39 q1126) rfl rfl rfl (by decide +kernel) ⟨Nat.le_of_ble_eq_true rfl, Nat.le_of_ble_eq_true rfl⟩) (S.preV hG hS hM.1 rfl) rfl rfl hl.1 rfl (lv_room (Nat.le_of_ble_eq_true rfl)) dX3_addLine_24 ⟨Nat.le_of_ble_eq_true rfl, Nat.le_of_ble_eq_true rfl⟩) (fun v G1 H locs hp hG hS => ?_)
        refine W.cs (cells' := 0) (slots' := 0) (by first | rfl | omega) (by first | rfl | omega) ?_
        obtain ⟨r, rfl, hr1, rfl⟩ := hp
        rcases hr1 with ⟨rfl, hl2⟩ | ⟨rfl, hl2⟩
        · refine W.eq (g2 := F0 m 27 ls [.int 1]) rfl ?_
          refine lv_if_eq (tgt := 34) hx hb dX3_addLine_27 (by decide) (fun h => absurd h (by decide)) (fun _ => ?_)
          refine lv_iconst (v := 1) hx hb dX3_addLine_30 (by decide) ?_
          refine lv_goto (tgt := 35) hx hb dX3_addLine_31 (by decide) ?_
          exact J 1 _ _ (Or.inl ⟨rfl, Or.inr ⟨h3, hl1, hl2⟩⟩) hG hS
        · refine W.eq (g2 := F0 m 27 ls [.int 0]) rfl ?_
          refine lv_if_eq (tgt := 34) hx hb dX3_addLine_27 (by decide) (fun _ => ?_) (fun h => absurd h (by decide))
          refine lv_iconst (v := 0) hx hb dX3_addLine_34 (by decide) ?_
          exact J 0 _ _ (Or.inr ⟨rfl, fun q => by rcases q with q | q; exact h3 q.1; exact hl2 q.2.2⟩) hG hS
      · refine W.eq (g2 := F0 m 19 ls [.int 0]) rfl ?_
        refine lv_if_eq (tgt := 34) hx hb dX3_addLine_19 (by decide) (fun _ => ?_) (fun h => absurd h (by decide))
        refine lv_iconst (v := 0) hx hb dX3_addLine_34 (by decide) ?_
        exact J 0 _ _ (Or.inr ⟨rfl, fun q => by rcases q with q | q; exact h3 q.1; exact hl1 q.2.1⟩) hG hS
    · refine lv_aload_n hx hb dX3_addLine_6 rfl (lv_at hl 0 rfl) ?_
      refine lv_iload_n hx hb dX3_addLine_7 rfl (lv_at hl 2 rfl) ?_
      refine g_call hS (va_runV (As := [.int y]) (rest := []) S.1 (metX3_isDriver l y hM) (cwV 1 S.ts (lw_V q1074 q1076 qs19 q39 q1077) rfl rfl rfl (by decide +kernel) ⟨Nat.le_of_ble_eq_true rfl, Nat.le_of_ble_eq_true rfl⟩) (S.preV hG hS hM.1 rfl) rfl rfl hl.1 rfl (lv_room (Nat.le_of_ble_eq_true rfl)) dX3_addLine_8 ⟨Nat.le_of_ble_eq_true rfl, Nat.le_of_ble_eq_true rfl⟩) (fun v G1 H locs hp hG hS => ?_)
      refine W.cs (cells' := 0) (slots' := 0) (by first | rfl | omega) (by first | rfl | omega) ?_
      obtain ⟨r, rfl, hr1, rfl⟩ := hp
      rcases hr1 with ⟨rfl, hd⟩ | ⟨rfl, hd⟩
      · refine W.eq (g2 := F0 m 11 ls [.int 1]) rfl ?_
        refine lv_goto (tgt := 35) hx hb dX3_addLine_11 (by decide) ?_
        exact J 1 _ _ (Or.inl ⟨rfl, Or.inl ⟨h3, hd⟩⟩) hG hS
      · refine W.eq (g2 := F0 m 11 ls [.int 0]) rfl ?_
        refine lv_goto (tgt := 35) hx hb dX3_addLine_11 (by decide) ?_
        exact J 0 _ _ (Or.inr ⟨rfl, fun q => by rcases q with q | q; exact hd q.2; exact q.1 h3⟩) hG hS
  · refine lv_istore (lv' := [(4, .int u), (0, .ref mo), (1, .int x), (2, .int y), (3, .int z)]) hx hb dX3_addLine_35 hl (by decide) rfl (fun ls hl => ?_)
    refine lv_aload_n hx hb dX3_addLine_37 rfl (lv_at hl 1 rfl) ?_
    refine lv_iload_n hx hb dX3_addLine_38 rfl (lv_at hl 2 rfl) ?_
    refine lv_bipush (v := 100) hx hb dX3_addLine_39 (by decide) ?_
    refine lv_icmp_eq (tgt := 66) hx hb dX3_addLine_41 (by decide) (fun h41 => ?_) (fun h41 => ?_)
    · have hk : sp_kd x := Or.inl h41
      refine lv_iload hx hb dX3_addLine_66 (lv_at hl 0 rfl) ?_
      refine lv_if_ne (tgt := 75) hx hb dX3_addLine_68 (by decide) (fun h68 => ?_) (fun h68 => ?_)
      · have ht : ((x = 100 ∧ vix (nn 1) y) ∨ (x ≠ 100 ∧ vix (nn 2) y ∧ vix (nn 2) z)) := by rcases hJ with q | q; exact q.2; exact absurd q.1 h68
        refine lv_aload_n hx hb dX3_addLine_75 rfl (lv_at hl 1 rfl) ?_
        refine gf_X3_68 S dX3_addLine_76 hG hM.1 rfl ?_
        refine lv_bipush (v := 10) hx hb dX3_addLine_79 (by decide) ?_
        refine lv_icmp_ne (tgt := 88) hx hb dX3_addLine_81 (by decide) (fun h81 => ?_) (fun h81 => ?_)
        · have hc : oc3 nn x y z = 0 := by rw [oc3, if_neg (Classical.not_not.mpr hk), if_neg (Classical.not_not.mpr ht), if_neg h81]
          have hlt : nn 2 < 10 := by rcases Nat.lt_or_ge (nn 2) 10 with q | q; exact q; exact absurd (congrArg nI (show nn 2 = 10 by omega)) h81
          refine lv_iconst (v := 0) hx hb dX3_addLine_88 (by decide) ?_
          refine pf_X3_61 S dX3_addLine_89 rfl rfl hG hS hM.1 (Nat.le_of_ble_eq_true rfl) (fun H locs hG hS => ?_)
          obtain ⟨G1, hG, hF, hM⟩ : ∃ G1, gh_W E G1 H ∧ gh_fr mdT G G1 ∧ Md E G1 mo ma M fo fi 0 nn := ⟨_, hG, hF.tr (gh_fr.set hM.1 (Or.inl rfl)), hM.setO (th' := 0) (nn' := nn) rfl⟩
          refine lv_aload_n hx hb dX3_addLine_92 rfl (lv_at hl 1 rfl) ?_
          refine gf_X3_61 S dX3_addLine_93 hG hM.1 rfl ?_
          refine lv_if_le (tgt := 101) hx hb dX3_addLine_96 (by decide) (fun _ => ?_) (fun h => absurd h (by decide))
          refine lv_aload_n hx hb dX3_addLine_101 rfl (lv_at hl 1 rfl) ?_
          refine gf_X3_13 S dX3_addLine_102 hG hM.1 rfl ?_
          refine lv_aload_n hx hb dX3_addLine_105 rfl (lv_at hl 1 rfl) ?_
          refine gf_X3_68 S dX3_addLine_106 hG hM.1 rfl ?_
          refine lv_iload_n hx hb dX3_addLine_109 rfl (lv_at hl 2 rfl) ?_
          refine n_iast S dX3_addLine_110 hG hS (hM.arr 1 (by decide)) (gix.mk (show nn 2 < 10 from hlt) (by decide)) (fun H locs hG hS => ?_)
          obtain ⟨G2, hG, hF, hM⟩ : ∃ G1, gh_W E G1 H ∧ gh_fr mdT G G1 ∧ Md E G1 mo ma (va_up M 1 (upd (M 1) (nn 2) x)) fo fi 0 nn := ⟨_, hG, hF.tr (gh_fr.set (hM.arr 1 (by decide)) (Or.inr (Or.inl rfl))), hM.set 1 (by decide) _⟩
          refine lv_aload_n hx hb dX3_addLine_111 rfl (lv_at hl 1 rfl) ?_
          refine gf_X3_16 S dX3_addLine_112 hG hM.1 rfl ?_
          refine lv_aload_n hx hb dX3_addLine_115 rfl (lv_at hl 1 rfl) ?_
          refine gf_X3_68 S dX3_addLine_116 hG hM.1 rfl ?_
          refine lv_iload_n hx hb dX3_addLine_119 rfl (lv_at hl 3 rfl) ?_
          refine n_iast S dX3_addLine_120 hG hS (hM.arr 2 (by decide)) (gix.mk (show nn 2 < 10 from hlt) (by decide)) (fun H locs hG hS => ?_)
          obtain ⟨G3, hG, hF, hM⟩ : ∃ G1, gh_W E G1 H ∧ gh_fr mdT G G1 ∧ Md E G1 mo ma (va_up (va_up M 1 (upd (M 1) (nn 2) x)) 2 (upd (M 2) (nn 2) y)) fo fi 0 nn := ⟨_, hG, hF.tr (gh_fr.set (hM.arr 2 (by decide)) (Or.inr (Or.inl rfl))), hM.set 2 (by decide) _⟩
          refine lv_aload_n hx hb dX3_addLine_121 rfl (lv_at hl 1 rfl) ?_
          refine gf_X3_19 S dX3_addLine_122 hG hM.1 rfl ?_
          refine lv_aload_n hx hb dX3_addLine_125 rfl (lv_at hl 1 rfl) ?_
          refine gf_X3_68 S dX3_addLine_126 hG hM.1 rfl ?_
          refine lv_iload_n hx hb dX3_addLine_129 rfl (lv_at hl 2 rfl) ?_
          refine lv_bipush (v := 100) hx hb dX3_addLine_130 (by decide) ?_
          refine lv_icmp_ne (tgt := 139) hx hb dX3_addLine_132 (by decide) (fun h132 => ?_) (fun h132 => ?_)
          · refine lv_iload_n hx hb dX3_addLine_139 rfl (lv_at hl 4 rfl) ?_
            refine n_iast S dX3_addLine_140 hG hS (hM.arr 3 (by decide)) (gix.mk (show nn 2 < 10 from hlt) (by decide)) (fun H locs hG hS => ?_)
            obtain ⟨G4, hG, hF, hM⟩ : ∃ G1, gh_W E G1 H ∧ gh_fr mdT G G1 ∧ Md E G1 mo ma (oM3 M nn x y z) fo fi 0 nn := ⟨_, hG, hF.tr (gh_fr.set (hM.arr 3 (by decide)) (Or.inr (Or.inl rfl))), by rw [oM3, if_neg h132]; exact hM.set 3 (by decide) _⟩
            refine lv_aload_n hx hb dX3_addLine_141 rfl (lv_at hl 1 rfl) ?_
            refine lv_dup hx hb dX3_addLine_142 rfl ?_
            refine gf_X3_68 S dX3_addLine_143 hG hM.1 rfl ?_
            refine lv_iconst (v := 1) hx hb dX3_addLine_146 (by decide) ?_
            refine lv_iadd hx hb dX3_addLine_147 ?_
            refine pf_X3_68 S dX3_addLine_148 rfl rfl hG hS hM.1 (Nat.le_of_ble_eq_true rfl) (fun H locs hG hS => ?_)
            obtain ⟨G5, hG, hF, hM⟩ : ∃ G1, gh_W E G1 H ∧ gh_fr mdT G G1 ∧ Md E G1 mo ma (oM3 M nn x y z) fo fi 0 (va_up nn 2 (nn 2 + 1)) := ⟨_, hG, hF.tr (gh_fr.set hM.1 (Or.inl rfl)), hM.setO (by rw [nI_1]; rfl)⟩
            refine lv_aload_n hx hb dX3_addLine_151 rfl (lv_at hl 1 rfl) ?_
            refine gf_X3_68 S dX3_addLine_152 hG hM.1 rfl ?_
            refine lv_iconst (v := 1) hx hb dX3_addLine_155 (by decide) ?_
            refine lv_isub hx hb dX3_addLine_156 ?_
            exact g_iret S hr dX3_addLine_157 hG hS (by first | exact Nat.le_refl _ | omega) (by first | exact Nat.le_refl _ | omega) ⟨_, rfl, fun _ => nI_pred _, mdQ.ok hc hM hF⟩
          · refine lv_iconst (v := 0) hx hb dX3_addLine_135 (by decide) ?_
            refine lv_goto (tgt := 140) hx hb dX3_addLine_136 (by decide) ?_
            refine n_iast S dX3_addLine_140 hG hS (hM.arr 3 (by decide)) (gix.mk (show nn 2 < 10 from hlt) (by decide)) (fun H locs hG hS => ?_)
            obtain ⟨G6, hG, hF, hM⟩ : ∃ G1, gh_W E G1 H ∧ gh_fr mdT G G1 ∧ Md E G1 mo ma (oM3 M nn x y z) fo fi 0 nn := ⟨_, hG, hF.tr (gh_fr.set (hM.arr 3 (by decide)) (Or.inr (Or.inl rfl))), by rw [oM3, if_pos h132]; exact hM.set 3 (by decide) _⟩
            refine lv_aload_n hx hb dX3_addLine_141 rfl (lv_at hl 1 rfl) ?_
            refine lv_dup hx hb dX3_addLine_142 rfl ?_
            refine gf_X3_68 S dX3_addLine_143 hG hM.1 rfl ?_
            refine lv_iconst (v := 1) hx hb dX3_addLine_146 (by decide) ?_
            refine lv_iadd hx hb dX3_addLine_147 ?_
            refine pf_X3_68 S dX3_addLine_148 rfl rfl hG hS hM.1 (Nat.le_of_ble_eq_true rfl) (fun H locs hG hS => ?_)
            obtain ⟨G7, hG, hF, hM⟩ : ∃ G1, gh_W E G1 H ∧ gh_fr mdT G G1 ∧ Md E G1 mo ma (oM3 M nn x y z) fo fi 0 (va_up nn 2 (nn 2 + 1)) := ⟨_, hG, hF.tr (gh_fr.set hM.1 (Or.inl rfl)), hM.setO (by rw [nI_1]; rfl)⟩
            refine lv_aload_n hx hb dX3_addLine_151 rfl (lv_at hl 1 rfl) ?_
            refine gf_X3_68 S dX3_addLine_152 hG hM.1 rfl ?_
            refine lv_iconst (v := 1) hx hb dX3_addLine_155 (by decide) ?_
            refine lv_isub hx hb dX3_addLine_156 ?_
            exact g_iret S hr dX3_addLine_157 hG hS (by first | exact Nat.le_refl _ | omega) (by first | exact Nat.le_refl _ | omega) ⟨_, rfl, fun _ => nI_pred _, mdQ.ok hc hM hF⟩
        · have hc : oc3 nn x y z = 3 := by rw [oc3, if_neg (Classical.not_not.mpr hk), if_neg (Classical.not_not.mpr ht), if_pos h81]
          refine lv_iconst (v := 3) hx hb dX3_addLine_84 (by decide) ?_
          refine lv_goto (tgt := 89) hx hb dX3_addLine_85 (by decide) ?_
          refine pf_X3_61 S dX3_addLine_89 rfl rfl hG hS hM.1 (Nat.le_of_ble_eq_true rfl) (fun H locs hG hS => ?_)
          obtain ⟨G8, hG, hF, hM⟩ : ∃ G1, gh_W E G1 H ∧ gh_fr mdT G G1 ∧ Md E G1 mo ma M fo fi 3 nn := ⟨_, hG, hF.tr (gh_fr.set hM.1 (Or.inl rfl)), hM.setO (th' := 3) (nn' := nn) rfl⟩
          refine lv_aload_n hx hb dX3_addLine_92 rfl (lv_at hl 1 rfl) ?_
          refine gf_X3_61 S dX3_addLine_93 hG hM.1 rfl ?_
          refine lv_if_le (tgt := 101) hx hb dX3_addLine_96 (by decide) (fun h => absurd h (by decide)) (fun _ => ?_)
          refine lv_iconst (v := 0) hx hb dX3_addLine_99 (by decide) ?_
          exact g_iret S hr dX3_addLine_100 hG hS (by first | exact Nat.le_refl _ | omega) (by first | exact Nat.le_refl _ | omega) ⟨0, rfl, fun q => absurd (hc.symm.trans q) (by decide), mdQ.bad hc (by decide) hM hF⟩
      · have ht : ¬ ((x = 100 ∧ vix (nn 1) y) ∨ (x ≠ 100 ∧ vix (nn 2) y ∧ vix (nn 2) z)) := by rcases hJ with q | q; exact absurd (h68 ▸ q.1) (by decide); exact q.2
        have hc : oc3 nn x y z = 2 := by rw [oc3, if_neg (Classical.not_not.mpr hk), if_pos ht]
        refine lv_iconst (v := 2) hx hb dX3_addLine_71 (by decide) ?_
        refine lv_goto (tgt := 89) hx hb dX3_addLine_72 (by decide) ?_
        refine pf_X3_61 S dX3_addLine_89 rfl rfl hG hS hM.1 (Nat.le_of_ble_eq_true rfl) (fun H locs hG hS => ?_)
        obtain ⟨G9, hG, hF, hM⟩ : ∃ G1, gh_W E G1 H ∧ gh_fr mdT G G1 ∧ Md E G1 mo ma M fo fi 2 nn := ⟨_, hG, hF.tr (gh_fr.set hM.1 (Or.inl rfl)), hM.setO (th' := 2) (nn' := nn) rfl⟩
        refine lv_aload_n hx hb dX3_addLine_92 rfl (lv_at hl 1 rfl) ?_
        refine gf_X3_61 S dX3_addLine_93 hG hM.1 rfl ?_
        refine lv_if_le (tgt := 101) hx hb dX3_addLine_96 (by decide) (fun h => absurd h (by decide)) (fun _ => ?_)
        refine lv_iconst (v := 0) hx hb dX3_addLine_99 (by decide) ?_
        exact g_iret S hr dX3_addLine_100 hG hS (by first | exact Nat.le_refl _ | omega) (by first | exact Nat.le_refl _ | omega) ⟨0, rfl, fun q => absurd (hc.symm.trans q) (by decide), mdQ.bad hc (by decide) hM hF⟩
    · refine lv_iload_n hx hb dX3_addLine_44 rfl (lv_at hl 2 rfl) ?_
      refine lv_bipush (v := 115) hx hb dX3_addLine_45 (by decide) ?_
      refine lv_icmp_eq (tgt := 66) hx hb dX3_addLine_47 (by decide) (fun h47 => ?_) (fun h47 => ?_)
      · have hk : sp_kd x := Or.inr (Or.inl h47)
        refine lv_iload hx hb dX3_addLine_66 (lv_at hl 0 rfl) ?_
        refine lv_if_ne (tgt := 75) hx hb dX3_addLine_68 (by decide) (fun h68 => ?_) (fun h68 => ?_)
        · have ht : ((x = 100 ∧ vix (nn 1) y) ∨ (x ≠ 100 ∧ vix (nn 2) y ∧ vix (nn 2) z)) := by rcases hJ with q | q; exact q.2; exact absurd q.1 h68
          refine lv_aload_n hx hb dX3_addLine_75 rfl (lv_at hl 1 rfl) ?_
          refine gf_X3_68 S dX3_addLine_76 hG hM.1 rfl ?_
          refine lv_bipush (v := 10) hx hb dX3_addLine_79 (by decide) ?_
          refine lv_icmp_ne (tgt := 88) hx hb dX3_addLine_81 (by decide) (fun h81 => ?_) (fun h81 => ?_)
          · have hc : oc3 nn x y z = 0 := by rw [oc3, if_neg (Classical.not_not.mpr hk), if_neg (Classical.not_not.mpr ht), if_neg h81]
            have hlt : nn 2 < 10 := by rcases Nat.lt_or_ge (nn 2) 10 with q | q; exact q; exact absurd (congrArg nI (show nn 2 = 10 by omega)) h81
            refine lv_iconst (v := 0) hx hb dX3_addLine_88 (by decide) ?_
            refine pf_X3_61 S dX3_addLine_89 rfl rfl hG hS hM.1 (Nat.le_of_ble_eq_true rfl) (fun H locs hG hS => ?_)
            obtain ⟨G10, hG, hF, hM⟩ : ∃ G1, gh_W E G1 H ∧ gh_fr mdT G G1 ∧ Md E G1 mo ma M fo fi 0 nn := ⟨_, hG, hF.tr (gh_fr.set hM.1 (Or.inl rfl)), hM.setO (th' := 0) (nn' := nn) rfl⟩
            refine lv_aload_n hx hb dX3_addLine_92 rfl (lv_at hl 1 rfl) ?_
            refine gf_X3_61 S dX3_addLine_93 hG hM.1 rfl ?_
            refine lv_if_le (tgt := 101) hx hb dX3_addLine_96 (by decide) (fun _ => ?_) (fun h => absurd h (by decide))
            refine lv_aload_n hx hb dX3_addLine_101 rfl (lv_at hl 1 rfl) ?_
            refine gf_X3_13 S dX3_addLine_102 hG hM.1 rfl ?_
            refine lv_aload_n hx hb dX3_addLine_105 rfl (lv_at hl 1 rfl) ?_
            refine gf_X3_68 S dX3_addLine_106 hG hM.1 rfl ?_
            refine lv_iload_n hx hb dX3_addLine_109 rfl (lv_at hl 2 rfl) ?_
            refine n_iast S dX3_addLine_110 hG hS (hM.arr 1 (by decide)) (gix.mk (show nn 2 < 10 from hlt) (by decide)) (fun H locs hG hS => ?_)
            obtain ⟨G11, hG, hF, hM⟩ : ∃ G1, gh_W E G1 H ∧ gh_fr mdT G G1 ∧ Md E G1 mo ma (va_up M 1 (upd (M 1) (nn 2) x)) fo fi 0 nn := ⟨_, hG, hF.tr (gh_fr.set (hM.arr 1 (by decide)) (Or.inr (Or.inl rfl))), hM.set 1 (by decide) _⟩
            refine lv_aload_n hx hb dX3_addLine_111 rfl (lv_at hl 1 rfl) ?_
            refine gf_X3_16 S dX3_addLine_112 hG hM.1 rfl ?_
            refine lv_aload_n hx hb dX3_addLine_115 rfl (lv_at hl 1 rfl) ?_
            refine gf_X3_68 S dX3_addLine_116 hG hM.1 rfl ?_
            refine lv_iload_n hx hb dX3_addLine_119 rfl (lv_at hl 3 rfl) ?_
            refine n_iast S dX3_addLine_120 hG hS (hM.arr 2 (by decide)) (gix.mk (show nn 2 < 10 from hlt) (by decide)) (fun H locs hG hS => ?_)
            obtain ⟨G12, hG, hF, hM⟩ : ∃ G1, gh_W E G1 H ∧ gh_fr mdT G G1 ∧ Md E G1 mo ma (va_up (va_up M 1 (upd (M 1) (nn 2) x)) 2 (upd (M 2) (nn 2) y)) fo fi 0 nn := ⟨_, hG, hF.tr (gh_fr.set (hM.arr 2 (by decide)) (Or.inr (Or.inl rfl))), hM.set 2 (by decide) _⟩
            refine lv_aload_n hx hb dX3_addLine_121 rfl (lv_at hl 1 rfl) ?_
            refine gf_X3_19 S dX3_addLine_122 hG hM.1 rfl ?_
            refine lv_aload_n hx hb dX3_addLine_125 rfl (lv_at hl 1 rfl) ?_
            refine gf_X3_68 S dX3_addLine_126 hG hM.1 rfl ?_
            refine lv_iload_n hx hb dX3_addLine_129 rfl (lv_at hl 2 rfl) ?_
            refine lv_bipush (v := 100) hx hb dX3_addLine_130 (by decide) ?_
            refine lv_icmp_ne (tgt := 139) hx hb dX3_addLine_132 (by decide) (fun h132 => ?_) (fun h132 => ?_)
            · refine lv_iload_n hx hb dX3_addLine_139 rfl (lv_at hl 4 rfl) ?_
              refine n_iast S dX3_addLine_140 hG hS (hM.arr 3 (by decide)) (gix.mk (show nn 2 < 10 from hlt) (by decide)) (fun H locs hG hS => ?_)
              obtain ⟨G13, hG, hF, hM⟩ : ∃ G1, gh_W E G1 H ∧ gh_fr mdT G G1 ∧ Md E G1 mo ma (oM3 M nn x y z) fo fi 0 nn := ⟨_, hG, hF.tr (gh_fr.set (hM.arr 3 (by decide)) (Or.inr (Or.inl rfl))), by rw [oM3, if_neg h132]; exact hM.set 3 (by decide) _⟩
              refine lv_aload_n hx hb dX3_addLine_141 rfl (lv_at hl 1 rfl) ?_
              refine lv_dup hx hb dX3_addLine_142 rfl ?_
              refine gf_X3_68 S dX3_addLine_143 hG hM.1 rfl ?_
              refine lv_iconst (v := 1) hx hb dX3_addLine_146 (by decide) ?_
              refine lv_iadd hx hb dX3_addLine_147 ?_
              refine pf_X3_68 S dX3_addLine_148 rfl rfl hG hS hM.1 (Nat.le_of_ble_eq_true rfl) (fun H locs hG hS => ?_)
              obtain ⟨G14, hG, hF, hM⟩ : ∃ G1, gh_W E G1 H ∧ gh_fr mdT G G1 ∧ Md E G1 mo ma (oM3 M nn x y z) fo fi 0 (va_up nn 2 (nn 2 + 1)) := ⟨_, hG, hF.tr (gh_fr.set hM.1 (Or.inl rfl)), hM.setO (by rw [nI_1]; rfl)⟩
              refine lv_aload_n hx hb dX3_addLine_151 rfl (lv_at hl 1 rfl) ?_
              refine gf_X3_68 S dX3_addLine_152 hG hM.1 rfl ?_
              refine lv_iconst (v := 1) hx hb dX3_addLine_155 (by decide) ?_
              refine lv_isub hx hb dX3_addLine_156 ?_
              exact g_iret S hr dX3_addLine_157 hG hS (by first | exact Nat.le_refl _ | omega) (by first | exact Nat.le_refl _ | omega) ⟨_, rfl, fun _ => nI_pred _, mdQ.ok hc hM hF⟩
            · refine lv_iconst (v := 0) hx hb dX3_addLine_135 (by decide) ?_
              refine lv_goto (tgt := 140) hx hb dX3_addLine_136 (by decide) ?_
              refine n_iast S dX3_addLine_140 hG hS (hM.arr 3 (by decide)) (gix.mk (show nn 2 < 10 from hlt) (by decide)) (fun H locs hG hS => ?_)
              obtain ⟨G15, hG, hF, hM⟩ : ∃ G1, gh_W E G1 H ∧ gh_fr mdT G G1 ∧ Md E G1 mo ma (oM3 M nn x y z) fo fi 0 nn := ⟨_, hG, hF.tr (gh_fr.set (hM.arr 3 (by decide)) (Or.inr (Or.inl rfl))), by rw [oM3, if_pos h132]; exact hM.set 3 (by decide) _⟩
              refine lv_aload_n hx hb dX3_addLine_141 rfl (lv_at hl 1 rfl) ?_
              refine lv_dup hx hb dX3_addLine_142 rfl ?_
              refine gf_X3_68 S dX3_addLine_143 hG hM.1 rfl ?_
              refine lv_iconst (v := 1) hx hb dX3_addLine_146 (by decide) ?_
              refine lv_iadd hx hb dX3_addLine_147 ?_
              refine pf_X3_68 S dX3_addLine_148 rfl rfl hG hS hM.1 (Nat.le_of_ble_eq_true rfl) (fun H locs hG hS => ?_)
              obtain ⟨G16, hG, hF, hM⟩ : ∃ G1, gh_W E G1 H ∧ gh_fr mdT G G1 ∧ Md E G1 mo ma (oM3 M nn x y z) fo fi 0 (va_up nn 2 (nn 2 + 1)) := ⟨_, hG, hF.tr (gh_fr.set hM.1 (Or.inl rfl)), hM.setO (by rw [nI_1]; rfl)⟩
              refine lv_aload_n hx hb dX3_addLine_151 rfl (lv_at hl 1 rfl) ?_
              refine gf_X3_68 S dX3_addLine_152 hG hM.1 rfl ?_
              refine lv_iconst (v := 1) hx hb dX3_addLine_155 (by decide) ?_
              refine lv_isub hx hb dX3_addLine_156 ?_
              exact g_iret S hr dX3_addLine_157 hG hS (by first | exact Nat.le_refl _ | omega) (by first | exact Nat.le_refl _ | omega) ⟨_, rfl, fun _ => nI_pred _, mdQ.ok hc hM hF⟩
          · have hc : oc3 nn x y z = 3 := by rw [oc3, if_neg (Classical.not_not.mpr hk), if_neg (Classical.not_not.mpr ht), if_pos h81]
            refine lv_iconst (v := 3) hx hb dX3_addLine_84 (by decide) ?_
            refine lv_goto (tgt := 89) hx hb dX3_addLine_85 (by decide) ?_
            refine pf_X3_61 S dX3_addLine_89 rfl rfl hG hS hM.1 (Nat.le_of_ble_eq_true rfl) (fun H locs hG hS => ?_)
            obtain ⟨G17, hG, hF, hM⟩ : ∃ G1, gh_W E G1 H ∧ gh_fr mdT G G1 ∧ Md E G1 mo ma M fo fi 3 nn := ⟨_, hG, hF.tr (gh_fr.set hM.1 (Or.inl rfl)), hM.setO (th' := 3) (nn' := nn) rfl⟩
            refine lv_aload_n hx hb dX3_addLine_92 rfl (lv_at hl 1 rfl) ?_
            refine gf_X3_61 S dX3_addLine_93 hG hM.1 rfl ?_
            refine lv_if_le (tgt := 101) hx hb dX3_addLine_96 (by decide) (fun h => absurd h (by decide)) (fun _ => ?_)
            refine lv_iconst (v := 0) hx hb dX3_addLine_99 (by decide) ?_
            exact g_iret S hr dX3_addLine_100 hG hS (by first | exact Nat.le_refl _ | omega) (by first | exact Nat.le_refl _ | omega) ⟨0, rfl, fun q => absurd (hc.symm.trans q) (by decide), mdQ.bad hc (by decide) hM hF⟩
        · have ht : ¬ ((x = 100 ∧ vix (nn 1) y) ∨ (x ≠ 100 ∧ vix (nn 2) y ∧ vix (nn 2) z)) := by rcases hJ with q | q; exact absurd (h68 ▸ q.1) (by decide); exact q.2
          have hc : oc3 nn x y z = 2 := by rw [oc3, if_neg (Classical.not_not.mpr hk), if_pos ht]
          refine lv_iconst (v := 2) hx hb dX3_addLine_71 (by decide) ?_
          refine lv_goto (tgt := 89) hx hb dX3_addLine_72 (by decide) ?_
          refine pf_X3_61 S dX3_addLine_89 rfl rfl hG hS hM.1 (Nat.le_of_ble_eq_true rfl) (fun H locs hG hS => ?_)
          obtain ⟨G18, hG, hF, hM⟩ : ∃ G1, gh_W E G1 H ∧ gh_fr mdT G G1 ∧ Md E G1 mo ma M fo fi 2 nn := ⟨_, hG, hF.tr (gh_fr.set hM.1 (Or.inl rfl)), hM.setO (th' := 2) (nn' := nn) rfl⟩
          refine lv_aload_n hx hb dX3_addLine_92 rfl (lv_at hl 1 rfl) ?_
          refine gf_X3_61 S dX3_addLine_93 hG hM.1 rfl ?_
          refine lv_if_le (tgt := 101) hx hb dX3_addLine_96 (by decide) (fun h => absurd h (by decide)) (fun _ => ?_)
          refine lv_iconst (v := 0) hx hb dX3_addLine_99 (by decide) ?_
          exact g_iret S hr dX3_addLine_100 hG hS (by first | exact Nat.le_refl _ | omega) (by first | exact Nat.le_refl _ | omega) ⟨0, rfl, fun q => absurd (hc.symm.trans q) (by decide), mdQ.bad hc (by decide) hM hF⟩
      · refine lv_iload_n hx hb dX3_addLine_50 rfl (lv_at hl 2 rfl) ?_
        refine lv_bipush (v := 109) hx hb dX3_addLine_51 (by decide) ?_
        refine lv_icmp_eq (tgt := 66) hx hb dX3_addLine_53 (by decide) (fun h53 => ?_) (fun h53 => ?_)
        · have hk : sp_kd x := Or.inr (Or.inr (Or.inl h53))
          refine lv_iload hx hb dX3_addLine_66 (lv_at hl 0 rfl) ?_
          refine lv_if_ne (tgt := 75) hx hb dX3_addLine_68 (by decide) (fun h68 => ?_) (fun h68 => ?_)
          · have ht : ((x = 100 ∧ vix (nn 1) y) ∨ (x ≠ 100 ∧ vix (nn 2) y ∧ vix (nn 2) z)) := by rcases hJ with q | q; exact q.2; exact absurd q.1 h68
            refine lv_aload_n hx hb dX3_addLine_75 rfl (lv_at hl 1 rfl) ?_
            refine gf_X3_68 S dX3_addLine_76 hG hM.1 rfl ?_
            refine lv_bipush (v := 10) hx hb dX3_addLine_79 (by decide) ?_
            refine lv_icmp_ne (tgt := 88) hx hb dX3_addLine_81 (by decide) (fun h81 => ?_) (fun h81 => ?_)
            · have hc : oc3 nn x y z = 0 := by rw [oc3, if_neg (Classical.not_not.mpr hk), if_neg (Classical.not_not.mpr ht), if_neg h81]
              have hlt : nn 2 < 10 := by rcases Nat.lt_or_ge (nn 2) 10 with q | q; exact q; exact absurd (congrArg nI (show nn 2 = 10 by omega)) h81
              refine lv_iconst (v := 0) hx hb dX3_addLine_88 (by decide) ?_
              refine pf_X3_61 S dX3_addLine_89 rfl rfl hG hS hM.1 (Nat.le_of_ble_eq_true rfl) (fun H locs hG hS => ?_)
              obtain ⟨G19, hG, hF, hM⟩ : ∃ G1, gh_W E G1 H ∧ gh_fr mdT G G1 ∧ Md E G1 mo ma M fo fi 0 nn := ⟨_, hG, hF.tr (gh_fr.set hM.1 (Or.inl rfl)), hM.setO (th' := 0) (nn' := nn) rfl⟩
              refine lv_aload_n hx hb dX3_addLine_92 rfl (lv_at hl 1 rfl) ?_
              refine gf_X3_61 S dX3_addLine_93 hG hM.1 rfl ?_
              refine lv_if_le (tgt := 101) hx hb dX3_addLine_96 (by decide) (fun _ => ?_) (fun h => absurd h (by decide))
              refine lv_aload_n hx hb dX3_addLine_101 rfl (lv_at hl 1 rfl) ?_
              refine gf_X3_13 S dX3_addLine_102 hG hM.1 rfl ?_
              refine lv_aload_n hx hb dX3_addLine_105 rfl (lv_at hl 1 rfl) ?_
              refine gf_X3_68 S dX3_addLine_106 hG hM.1 rfl ?_
              refine lv_iload_n hx hb dX3_addLine_109 rfl (lv_at hl 2 rfl) ?_
              refine n_iast S dX3_addLine_110 hG hS (hM.arr 1 (by decide)) (gix.mk (show nn 2 < 10 from hlt) (by decide)) (fun H locs hG hS => ?_)
              obtain ⟨G20, hG, hF, hM⟩ : ∃ G1, gh_W E G1 H ∧ gh_fr mdT G G1 ∧ Md E G1 mo ma (va_up M 1 (upd (M 1) (nn 2) x)) fo fi 0 nn := ⟨_, hG, hF.tr (gh_fr.set (hM.arr 1 (by decide)) (Or.inr (Or.inl rfl))), hM.set 1 (by decide) _⟩
              refine lv_aload_n hx hb dX3_addLine_111 rfl (lv_at hl 1 rfl) ?_
              refine gf_X3_16 S dX3_addLine_112 hG hM.1 rfl ?_
              refine lv_aload_n hx hb dX3_addLine_115 rfl (lv_at hl 1 rfl) ?_
              refine gf_X3_68 S dX3_addLine_116 hG hM.1 rfl ?_
              refine lv_iload_n hx hb dX3_addLine_119 rfl (lv_at hl 3 rfl) ?_
              refine n_iast S dX3_addLine_120 hG hS (hM.arr 2 (by decide)) (gix.mk (show nn 2 < 10 from hlt) (by decide)) (fun H locs hG hS => ?_)
              obtain ⟨G21, hG, hF, hM⟩ : ∃ G1, gh_W E G1 H ∧ gh_fr mdT G G1 ∧ Md E G1 mo ma (va_up (va_up M 1 (upd (M 1) (nn 2) x)) 2 (upd (M 2) (nn 2) y)) fo fi 0 nn := ⟨_, hG, hF.tr (gh_fr.set (hM.arr 2 (by decide)) (Or.inr (Or.inl rfl))), hM.set 2 (by decide) _⟩
              refine lv_aload_n hx hb dX3_addLine_121 rfl (lv_at hl 1 rfl) ?_
              refine gf_X3_19 S dX3_addLine_122 hG hM.1 rfl ?_
              refine lv_aload_n hx hb dX3_addLine_125 rfl (lv_at hl 1 rfl) ?_
              refine gf_X3_68 S dX3_addLine_126 hG hM.1 rfl ?_
              refine lv_iload_n hx hb dX3_addLine_129 rfl (lv_at hl 2 rfl) ?_
              refine lv_bipush (v := 100) hx hb dX3_addLine_130 (by decide) ?_
              refine lv_icmp_ne (tgt := 139) hx hb dX3_addLine_132 (by decide) (fun h132 => ?_) (fun h132 => ?_)
              · refine lv_iload_n hx hb dX3_addLine_139 rfl (lv_at hl 4 rfl) ?_
                refine n_iast S dX3_addLine_140 hG hS (hM.arr 3 (by decide)) (gix.mk (show nn 2 < 10 from hlt) (by decide)) (fun H locs hG hS => ?_)
                obtain ⟨G22, hG, hF, hM⟩ : ∃ G1, gh_W E G1 H ∧ gh_fr mdT G G1 ∧ Md E G1 mo ma (oM3 M nn x y z) fo fi 0 nn := ⟨_, hG, hF.tr (gh_fr.set (hM.arr 3 (by decide)) (Or.inr (Or.inl rfl))), by rw [oM3, if_neg h132]; exact hM.set 3 (by decide) _⟩
                refine lv_aload_n hx hb dX3_addLine_141 rfl (lv_at hl 1 rfl) ?_
                refine lv_dup hx hb dX3_addLine_142 rfl ?_
                refine gf_X3_68 S dX3_addLine_143 hG hM.1 rfl ?_
                refine lv_iconst (v := 1) hx hb dX3_addLine_146 (by decide) ?_
                refine lv_iadd hx hb dX3_addLine_147 ?_
                refine pf_X3_68 S dX3_addLine_148 rfl rfl hG hS hM.1 (Nat.le_of_ble_eq_true rfl) (fun H locs hG hS => ?_)
                obtain ⟨G23, hG, hF, hM⟩ : ∃ G1, gh_W E G1 H ∧ gh_fr mdT G G1 ∧ Md E G1 mo ma (oM3 M nn x y z) fo fi 0 (va_up nn 2 (nn 2 + 1)) := ⟨_, hG, hF.tr (gh_fr.set hM.1 (Or.inl rfl)), hM.setO (by rw [nI_1]; rfl)⟩
                refine lv_aload_n hx hb dX3_addLine_151 rfl (lv_at hl 1 rfl) ?_
                refine gf_X3_68 S dX3_addLine_152 hG hM.1 rfl ?_
                refine lv_iconst (v := 1) hx hb dX3_addLine_155 (by decide) ?_
                refine lv_isub hx hb dX3_addLine_156 ?_
                exact g_iret S hr dX3_addLine_157 hG hS (by first | exact Nat.le_refl _ | omega) (by first | exact Nat.le_refl _ | omega) ⟨_, rfl, fun _ => nI_pred _, mdQ.ok hc hM hF⟩
              · refine lv_iconst (v := 0) hx hb dX3_addLine_135 (by decide) ?_
                refine lv_goto (tgt := 140) hx hb dX3_addLine_136 (by decide) ?_
                refine n_iast S dX3_addLine_140 hG hS (hM.arr 3 (by decide)) (gix.mk (show nn 2 < 10 from hlt) (by decide)) (fun H locs hG hS => ?_)
                obtain ⟨G24, hG, hF, hM⟩ : ∃ G1, gh_W E G1 H ∧ gh_fr mdT G G1 ∧ Md E G1 mo ma (oM3 M nn x y z) fo fi 0 nn := ⟨_, hG, hF.tr (gh_fr.set (hM.arr 3 (by decide)) (Or.inr (Or.inl rfl))), by rw [oM3, if_pos h132]; exact hM.set 3 (by decide) _⟩
                refine lv_aload_n hx hb dX3_addLine_141 rfl (lv_at hl 1 rfl) ?_
                refine lv_dup hx hb dX3_addLine_142 rfl ?_
                refine gf_X3_68 S dX3_addLine_143 hG hM.1 rfl ?_
                refine lv_iconst (v := 1) hx hb dX3_addLine_146 (by decide) ?_
                refine lv_iadd hx hb dX3_addLine_147 ?_
                refine pf_X3_68 S dX3_addLine_148 rfl rfl hG hS hM.1 (Nat.le_of_ble_eq_true rfl) (fun H locs hG hS => ?_)
                obtain ⟨G25, hG, hF, hM⟩ : ∃ G1, gh_W E G1 H ∧ gh_fr mdT G G1 ∧ Md E G1 mo ma (oM3 M nn x y z) fo fi 0 (va_up nn 2 (nn 2 + 1)) := ⟨_, hG, hF.tr (gh_fr.set hM.1 (Or.inl rfl)), hM.setO (by rw [nI_1]; rfl)⟩
                refine lv_aload_n hx hb dX3_addLine_151 rfl (lv_at hl 1 rfl) ?_
                refine gf_X3_68 S dX3_addLine_152 hG hM.1 rfl ?_
                refine lv_iconst (v := 1) hx hb dX3_addLine_155 (by decide) ?_
                refine lv_isub hx hb dX3_addLine_156 ?_
                exact g_iret S hr dX3_addLine_157 hG hS (by first | exact Nat.le_refl _ | omega) (by first | exact Nat.le_refl _ | omega) ⟨_, rfl, fun _ => nI_pred _, mdQ.ok hc hM hF⟩
            · have hc : oc3 nn x y z = 3 := by rw [oc3, if_neg (Classical.not_not.mpr hk), if_neg (Classical.not_not.mpr ht), if_pos h81]
              refine lv_iconst (v := 3) hx hb dX3_addLine_84 (by decide) ?_
              refine lv_goto (tgt := 89) hx hb dX3_addLine_85 (by decide) ?_
              refine pf_X3_61 S dX3_addLine_89 rfl rfl hG hS hM.1 (Nat.le_of_ble_eq_true rfl) (fun H locs hG hS => ?_)
              obtain ⟨G26, hG, hF, hM⟩ : ∃ G1, gh_W E G1 H ∧ gh_fr mdT G G1 ∧ Md E G1 mo ma M fo fi 3 nn := ⟨_, hG, hF.tr (gh_fr.set hM.1 (Or.inl rfl)), hM.setO (th' := 3) (nn' := nn) rfl⟩
              refine lv_aload_n hx hb dX3_addLine_92 rfl (lv_at hl 1 rfl) ?_
              refine gf_X3_61 S dX3_addLine_93 hG hM.1 rfl ?_
              refine lv_if_le (tgt := 101) hx hb dX3_addLine_96 (by decide) (fun h => absurd h (by decide)) (fun _ => ?_)
              refine lv_iconst (v := 0) hx hb dX3_addLine_99 (by decide) ?_
              exact g_iret S hr dX3_addLine_100 hG hS (by first | exact Nat.le_refl _ | omega) (by first | exact Nat.le_refl _ | omega) ⟨0, rfl, fun q => absurd (hc.symm.trans q) (by decide), mdQ.bad hc (by decide) hM hF⟩
          · have ht : ¬ ((x = 100 ∧ vix (nn 1) y) ∨ (x ≠ 100 ∧ vix (nn 2) y ∧ vix (nn 2) z)) := by rcases hJ with q | q; exact absurd (h68 ▸ q.1) (by decide); exact q.2
            have hc : oc3 nn x y z = 2 := by rw [oc3, if_neg (Classical.not_not.mpr hk), if_pos ht]
            refine lv_iconst (v := 2) hx hb dX3_addLine_71 (by decide) ?_
            refine lv_goto (tgt := 89) hx hb dX3_addLine_72 (by decide) ?_
            refine pf_X3_61 S dX3_addLine_89 rfl rfl hG hS hM.1 (Nat.le_of_ble_eq_true rfl) (fun H locs hG hS => ?_)
            obtain ⟨G27, hG, hF, hM⟩ : ∃ G1, gh_W E G1 H ∧ gh_fr mdT G G1 ∧ Md E G1 mo ma M fo fi 2 nn := ⟨_, hG, hF.tr (gh_fr.set hM.1 (Or.inl rfl)), hM.setO (th' := 2) (nn' := nn) rfl⟩
            refine lv_aload_n hx hb dX3_addLine_92 rfl (lv_at hl 1 rfl) ?_
            refine gf_X3_61 S dX3_addLine_93 hG hM.1 rfl ?_
            refine lv_if_le (tgt := 101) hx hb dX3_addLine_96 (by decide) (fun h => absurd h (by decide)) (fun _ => ?_)
            refine lv_iconst (v := 0) hx hb dX3_addLine_99 (by decide) ?_
            exact g_iret S hr dX3_addLine_100 hG hS (by first | exact Nat.le_refl _ | omega) (by first | exact Nat.le_refl _ | omega) ⟨0, rfl, fun q => absurd (hc.symm.trans q) (by decide), mdQ.bad hc (by decide) hM hF⟩
        · refine lv_iload_n hx hb dX3_addLine_56 rfl (lv_at hl 2 rfl) ?_
          refine lv_bipush (v := 112) hx hb dX3_addLine_57 (by decide) ?_
          refine lv_icmp_eq (tgt := 66) hx hb dX3_addLine_59 (by decide) (fun h59 => ?_) (fun h59 => ?_)
          · have hk : sp_kd x := Or.inr (Or.inr (Or.inr h59))
            refine lv_iload hx hb dX3_addLine_66 (lv_at hl 0 rfl) ?_
            refine lv_if_ne (tgt := 75) hx hb dX3_addLine_68 (by decide) (fun h68 => ?_) (fun h68 => ?_)
            · have ht : ((x = 100 ∧ vix (nn 1) y) ∨ (x ≠ 100 ∧ vix (nn 2) y ∧ vix (nn 2) z)) := by rcases hJ with q | q; exact q.2; exact absurd q.1 h68
              refine lv_aload_n hx hb dX3_addLine_75 rfl (lv_at hl 1 rfl) ?_
              refine gf_X3_68 S dX3_addLine_76 hG hM.1 rfl ?_
              refine lv_bipush (v := 10) hx hb dX3_addLine_79 (by decide) ?_
              refine lv_icmp_ne (tgt := 88) hx hb dX3_addLine_81 (by decide) (fun h81 => ?_) (fun h81 => ?_)
              · have hc : oc3 nn x y z = 0 := by rw [oc3, if_neg (Classical.not_not.mpr hk), if_neg (Classical.not_not.mpr ht), if_neg h81]
                have hlt : nn 2 < 10 := by rcases Nat.lt_or_ge (nn 2) 10 with q | q; exact q; exact absurd (congrArg nI (show nn 2 = 10 by omega)) h81
                refine lv_iconst (v := 0) hx hb dX3_addLine_88 (by decide) ?_
                refine pf_X3_61 S dX3_addLine_89 rfl rfl hG hS hM.1 (Nat.le_of_ble_eq_true rfl) (fun H locs hG hS => ?_)
                obtain ⟨G28, hG, hF, hM⟩ : ∃ G1, gh_W E G1 H ∧ gh_fr mdT G G1 ∧ Md E G1 mo ma M fo fi 0 nn := ⟨_, hG, hF.tr (gh_fr.set hM.1 (Or.inl rfl)), hM.setO (th' := 0) (nn' := nn) rfl⟩
                refine lv_aload_n hx hb dX3_addLine_92 rfl (lv_at hl 1 rfl) ?_
                refine gf_X3_61 S dX3_addLine_93 hG hM.1 rfl ?_
                refine lv_if_le (tgt := 101) hx hb dX3_addLine_96 (by decide) (fun _ => ?_) (fun h => absurd h (by decide))
                refine lv_aload_n hx hb dX3_addLine_101 rfl (lv_at hl 1 rfl) ?_
                refine gf_X3_13 S dX3_addLine_102 hG hM.1 rfl ?_
                refine lv_aload_n hx hb dX3_addLine_105 rfl (lv_at hl 1 rfl) ?_
                refine gf_X3_68 S dX3_addLine_106 hG hM.1 rfl ?_
                refine lv_iload_n hx hb dX3_addLine_109 rfl (lv_at hl 2 rfl) ?_
                refine n_iast S dX3_addLine_110 hG hS (hM.arr 1 (by decide)) (gix.mk (show nn 2 < 10 from hlt) (by decide)) (fun H locs hG hS => ?_)
                obtain ⟨G29, hG, hF, hM⟩ : ∃ G1, gh_W E G1 H ∧ gh_fr mdT G G1 ∧ Md E G1 mo ma (va_up M 1 (upd (M 1) (nn 2) x)) fo fi 0 nn := ⟨_, hG, hF.tr (gh_fr.set (hM.arr 1 (by decide)) (Or.inr (Or.inl rfl))), hM.set 1 (by decide) _⟩
                refine lv_aload_n hx hb dX3_addLine_111 rfl (lv_at hl 1 rfl) ?_
                refine gf_X3_16 S dX3_addLine_112 hG hM.1 rfl ?_
                refine lv_aload_n hx hb dX3_addLine_115 rfl (lv_at hl 1 rfl) ?_
                refine gf_X3_68 S dX3_addLine_116 hG hM.1 rfl ?_
                refine lv_iload_n hx hb dX3_addLine_119 rfl (lv_at hl 3 rfl) ?_
                refine n_iast S dX3_addLine_120 hG hS (hM.arr 2 (by decide)) (gix.mk (show nn 2 < 10 from hlt) (by decide)) (fun H locs hG hS => ?_)
                obtain ⟨G30, hG, hF, hM⟩ : ∃ G1, gh_W E G1 H ∧ gh_fr mdT G G1 ∧ Md E G1 mo ma (va_up (va_up M 1 (upd (M 1) (nn 2) x)) 2 (upd (M 2) (nn 2) y)) fo fi 0 nn := ⟨_, hG, hF.tr (gh_fr.set (hM.arr 2 (by decide)) (Or.inr (Or.inl rfl))), hM.set 2 (by decide) _⟩
                refine lv_aload_n hx hb dX3_addLine_121 rfl (lv_at hl 1 rfl) ?_
                refine gf_X3_19 S dX3_addLine_122 hG hM.1 rfl ?_
                refine lv_aload_n hx hb dX3_addLine_125 rfl (lv_at hl 1 rfl) ?_
                refine gf_X3_68 S dX3_addLine_126 hG hM.1 rfl ?_
                refine lv_iload_n hx hb dX3_addLine_129 rfl (lv_at hl 2 rfl) ?_
                refine lv_bipush (v := 100) hx hb dX3_addLine_130 (by decide) ?_
                refine lv_icmp_ne (tgt := 139) hx hb dX3_addLine_132 (by decide) (fun h132 => ?_) (fun h132 => ?_)
                · refine lv_iload_n hx hb dX3_addLine_139 rfl (lv_at hl 4 rfl) ?_
                  refine n_iast S dX3_addLine_140 hG hS (hM.arr 3 (by decide)) (gix.mk (show nn 2 < 10 from hlt) (by decide)) (fun H locs hG hS => ?_)
                  obtain ⟨G31, hG, hF, hM⟩ : ∃ G1, gh_W E G1 H ∧ gh_fr mdT G G1 ∧ Md E G1 mo ma (oM3 M nn x y z) fo fi 0 nn := ⟨_, hG, hF.tr (gh_fr.set (hM.arr 3 (by decide)) (Or.inr (Or.inl rfl))), by rw [oM3, if_neg h132]; exact hM.set 3 (by decide) _⟩
                  refine lv_aload_n hx hb dX3_addLine_141 rfl (lv_at hl 1 rfl) ?_
                  refine lv_dup hx hb dX3_addLine_142 rfl ?_
                  refine gf_X3_68 S dX3_addLine_143 hG hM.1 rfl ?_
                  refine lv_iconst (v := 1) hx hb dX3_addLine_146 (by decide) ?_
                  refine lv_iadd hx hb dX3_addLine_147 ?_
                  refine pf_X3_68 S dX3_addLine_148 rfl rfl hG hS hM.1 (Nat.le_of_ble_eq_true rfl) (fun H locs hG hS => ?_)
                  obtain ⟨G32, hG, hF, hM⟩ : ∃ G1, gh_W E G1 H ∧ gh_fr mdT G G1 ∧ Md E G1 mo ma (oM3 M nn x y z) fo fi 0 (va_up nn 2 (nn 2 + 1)) := ⟨_, hG, hF.tr (gh_fr.set hM.1 (Or.inl rfl)), hM.setO (by rw [nI_1]; rfl)⟩
                  refine lv_aload_n hx hb dX3_addLine_151 rfl (lv_at hl 1 rfl) ?_
                  refine gf_X3_68 S dX3_addLine_152 hG hM.1 rfl ?_
                  refine lv_iconst (v := 1) hx hb dX3_addLine_155 (by decide) ?_
                  refine lv_isub hx hb dX3_addLine_156 ?_
                  exact g_iret S hr dX3_addLine_157 hG hS (by first | exact Nat.le_refl _ | omega) (by first | exact Nat.le_refl _ | omega) ⟨_, rfl, fun _ => nI_pred _, mdQ.ok hc hM hF⟩
                · refine lv_iconst (v := 0) hx hb dX3_addLine_135 (by decide) ?_
                  refine lv_goto (tgt := 140) hx hb dX3_addLine_136 (by decide) ?_
                  refine n_iast S dX3_addLine_140 hG hS (hM.arr 3 (by decide)) (gix.mk (show nn 2 < 10 from hlt) (by decide)) (fun H locs hG hS => ?_)
                  obtain ⟨G33, hG, hF, hM⟩ : ∃ G1, gh_W E G1 H ∧ gh_fr mdT G G1 ∧ Md E G1 mo ma (oM3 M nn x y z) fo fi 0 nn := ⟨_, hG, hF.tr (gh_fr.set (hM.arr 3 (by decide)) (Or.inr (Or.inl rfl))), by rw [oM3, if_pos h132]; exact hM.set 3 (by decide) _⟩
                  refine lv_aload_n hx hb dX3_addLine_141 rfl (lv_at hl 1 rfl) ?_
                  refine lv_dup hx hb dX3_addLine_142 rfl ?_
                  refine gf_X3_68 S dX3_addLine_143 hG hM.1 rfl ?_
                  refine lv_iconst (v := 1) hx hb dX3_addLine_146 (by decide) ?_
                  refine lv_iadd hx hb dX3_addLine_147 ?_
                  refine pf_X3_68 S dX3_addLine_148 rfl rfl hG hS hM.1 (Nat.le_of_ble_eq_true rfl) (fun H locs hG hS => ?_)
                  obtain ⟨G34, hG, hF, hM⟩ : ∃ G1, gh_W E G1 H ∧ gh_fr mdT G G1 ∧ Md E G1 mo ma (oM3 M nn x y z) fo fi 0 (va_up nn 2 (nn 2 + 1)) := ⟨_, hG, hF.tr (gh_fr.set hM.1 (Or.inl rfl)), hM.setO (by rw [nI_1]; rfl)⟩
                  refine lv_aload_n hx hb dX3_addLine_151 rfl (lv_at hl 1 rfl) ?_
                  refine gf_X3_68 S dX3_addLine_152 hG hM.1 rfl ?_
                  refine lv_iconst (v := 1) hx hb dX3_addLine_155 (by decide) ?_
                  refine lv_isub hx hb dX3_addLine_156 ?_
                  exact g_iret S hr dX3_addLine_157 hG hS (by first | exact Nat.le_refl _ | omega) (by first | exact Nat.le_refl _ | omega) ⟨_, rfl, fun _ => nI_pred _, mdQ.ok hc hM hF⟩
              · have hc : oc3 nn x y z = 3 := by rw [oc3, if_neg (Classical.not_not.mpr hk), if_neg (Classical.not_not.mpr ht), if_pos h81]
                refine lv_iconst (v := 3) hx hb dX3_addLine_84 (by decide) ?_
                refine lv_goto (tgt := 89) hx hb dX3_addLine_85 (by decide) ?_
                refine pf_X3_61 S dX3_addLine_89 rfl rfl hG hS hM.1 (Nat.le_of_ble_eq_true rfl) (fun H locs hG hS => ?_)
                obtain ⟨G35, hG, hF, hM⟩ : ∃ G1, gh_W E G1 H ∧ gh_fr mdT G G1 ∧ Md E G1 mo ma M fo fi 3 nn := ⟨_, hG, hF.tr (gh_fr.set hM.1 (Or.inl rfl)), hM.setO (th' := 3) (nn' := nn) rfl⟩
                refine lv_aload_n hx hb dX3_addLine_92 rfl (lv_at hl 1 rfl) ?_
                refine gf_X3_61 S dX3_addLine_93 hG hM.1 rfl ?_
                refine lv_if_le (tgt := 101) hx hb dX3_addLine_96 (by decide) (fun h => absurd h (by decide)) (fun _ => ?_)
                refine lv_iconst (v := 0) hx hb dX3_addLine_99 (by decide) ?_
                exact g_iret S hr dX3_addLine_100 hG hS (by first | exact Nat.le_refl _ | omega) (by first | exact Nat.le_refl _ | omega) ⟨0, rfl, fun q => absurd (hc.symm.trans q) (by decide), mdQ.bad hc (by decide) hM hF⟩
            · have ht : ¬ ((x = 100 ∧ vix (nn 1) y) ∨ (x ≠ 100 ∧ vix (nn 2) y ∧ vix (nn 2) z)) := by rcases hJ with q | q; exact absurd (h68 ▸ q.1) (by decide); exact q.2
              have hc : oc3 nn x y z = 2 := by rw [oc3, if_neg (Classical.not_not.mpr hk), if_pos ht]
              refine lv_iconst (v := 2) hx hb dX3_addLine_71 (by decide) ?_
              refine lv_goto (tgt := 89) hx hb dX3_addLine_72 (by decide) ?_
              refine pf_X3_61 S dX3_addLine_89 rfl rfl hG hS hM.1 (Nat.le_of_ble_eq_true rfl) (fun H locs hG hS => ?_)
              obtain ⟨G36, hG, hF, hM⟩ : ∃ G1, gh_W E G1 H ∧ gh_fr mdT G G1 ∧ Md E G1 mo ma M fo fi 2 nn := ⟨_, hG, hF.tr (gh_fr.set hM.1 (Or.inl rfl)), hM.setO (th' := 2) (nn' := nn) rfl⟩
              refine lv_aload_n hx hb dX3_addLine_92 rfl (lv_at hl 1 rfl) ?_
              refine gf_X3_61 S dX3_addLine_93 hG hM.1 rfl ?_
              refine lv_if_le (tgt := 101) hx hb dX3_addLine_96 (by decide) (fun h => absurd h (by decide)) (fun _ => ?_)
              refine lv_iconst (v := 0) hx hb dX3_addLine_99 (by decide) ?_
              exact g_iret S hr dX3_addLine_100 hG hS (by first | exact Nat.le_refl _ | omega) (by first | exact Nat.le_refl _ | omega) ⟨0, rfl, fun q => absurd (hc.symm.trans q) (by decide), mdQ.bad hc (by decide) hM hF⟩
          · have hc : oc3 nn x y z = 1 := by rw [oc3, if_pos (fun q => by rcases q with q | q | q | q; exact h41 q; exact h47 q; exact h53 q; exact h59 q)]
            refine lv_iconst (v := 1) hx hb dX3_addLine_62 (by decide) ?_
            refine lv_goto (tgt := 89) hx hb dX3_addLine_63 (by decide) ?_
            refine pf_X3_61 S dX3_addLine_89 rfl rfl hG hS hM.1 (Nat.le_of_ble_eq_true rfl) (fun H locs hG hS => ?_)
            obtain ⟨G37, hG, hF, hM⟩ : ∃ G1, gh_W E G1 H ∧ gh_fr mdT G G1 ∧ Md E G1 mo ma M fo fi 1 nn := ⟨_, hG, hF.tr (gh_fr.set hM.1 (Or.inl rfl)), hM.setO (th' := 1) (nn' := nn) rfl⟩
            refine lv_aload_n hx hb dX3_addLine_92 rfl (lv_at hl 1 rfl) ?_
            refine gf_X3_61 S dX3_addLine_93 hG hM.1 rfl ?_
            refine lv_if_le (tgt := 101) hx hb dX3_addLine_96 (by decide) (fun h => absurd h (by decide)) (fun _ => ?_)
            refine lv_iconst (v := 0) hx hb dX3_addLine_99 (by decide) ?_
            exact g_iret S hr dX3_addLine_100 hG hS (by first | exact Nat.le_refl _ | omega) (by first | exact Nat.le_refl _ | omega) ⟨0, rfl, fun q => absurd (hc.symm.trans q) (by decide), mdQ.bad hc (by decide) hM hF⟩
set_option maxHeartbeats 4000000 in
set_option maxRecDepth 100000 in
theorem metX3_addScenario (l : Launch) {E : Ev} {G : gh} {mo : Nat} {ma : Nat → Nat} {M : Nat → Nat → Int32} {fo : Nat → Int64} {fi : Nat → Int32} {th : Int32} {nn : Nat → Nat} (x : Int32) (hM : Md E G mo ma M fo fi th nn) (hwf : sp_wf M nn) : Met l yX3_addScenario (ws_ yX3_addScenario cX3_addScenario 2 (some .int)) ({ frames := 2, cells := 0, slots := 0, locals := 80 }) (gP E G [.ref mo, .int x]) (gQ E (fun v G' => mdI E G mo ma (oc4 nn x) (nI (nn 3)) M (oM4 M nn x) nn (va_up nn 3 (nn 3 + 1)) v G')) 0 0 (ev_A E) := by
  have h16 : nn 1 ≤ 6 := hwf.1.1
  have h10 : nn 2 ≤ 10 := hwf.1.2.1
  have h34 : nn 3 ≤ 4 := hwf.1.2.2.1.2
  have h31 : 1 ≤ nn 3 := hwf.1.2.2.1.1
  have h412 : nn 4 ≤ 12 := hwf.1.2.2.2.1
  have h511 : nn 5 ≤ 11 := hwf.1.2.2.2.2
  refine gMet RX3 (by decide) rfl (Nat.le_of_ble_eq_true rfl) ?_
  intro p e s m below meth c ls hx hb S hr hnm hl hG hS
  have hl : lv_has ls 2 [(0, .ref mo), (1, .int x)] := hl
  have hF : gh_fr mdT G G := gh_fr.rf
  refine lv_aload_n hx hb dX3_addScenario_0 rfl (lv_at hl 0 rfl) ?_
  refine lv_aload_n hx hb dX3_addScenario_1 rfl (lv_at hl 0 rfl) ?_
  refine lv_iload_n hx hb dX3_addScenario_2 rfl (lv_at hl 1 rfl) ?_
  refine g_call hS (va_runV (As := [.int x]) (rest := [.ref mo]) S.1 (metX3_isScenario l x hM) (cwV 1 S.ts (lw_V q1108 q1110 qs25 q39 q1111) rfl rfl rfl (by decide +kernel) ⟨Nat.le_of_ble_eq_true rfl, Nat.le_of_ble_eq_true rfl⟩) (S.preV hG hS hM.1 rfl) rfl rfl hl.1 rfl (lv_room (Nat.le_of_ble_eq_true rfl)) dX3_addScenario_3 ⟨Nat.le_of_ble_eq_true rfl, Nat.le_of_ble_eq_true rfl⟩) (fun v G1 H locs hp hG hS => ?_)
  refine W.cs (cells' := 0) (slots' := 0) (by first | rfl | omega) (by first | rfl | omega) ?_
  obtain ⟨r, rfl, hr1, rfl⟩ := hp
  rcases hr1 with ⟨rfl, hv⟩ | ⟨rfl, hv⟩
  · refine W.eq (g2 := F0 m 6 ls [.int 1, .ref mo]) rfl ?_
    refine lv_if_ne (tgt := 13) hx hb dX3_addScenario_6 (by decide) (fun _ => ?_) (fun h => absurd h (by decide))
    refine lv_aload_n hx hb dX3_addScenario_13 rfl (lv_at hl 0 rfl) ?_
    refine gf_X3_71 S dX3_addScenario_14 hG hM.1 rfl ?_
    refine lv_iconst (v := 4) hx hb dX3_addScenario_17 (by decide) ?_
    refine lv_icmp_ne (tgt := 25) hx hb dX3_addScenario_18 (by decide) (fun h18 => ?_) (fun h18 => ?_)
    · have hc : oc4 nn x = 0 := by rw [oc4, if_neg (Classical.not_not.mpr hv), if_neg h18]
      have hlt : nn 3 < 4 := by rcases Nat.lt_or_ge (nn 3) 4 with q | q; exact q; exact absurd (congrArg nI (show nn 3 = 4 by omega)) h18
      refine lv_iconst (v := 0) hx hb dX3_addScenario_25 (by decide) ?_
      refine pf_X3_61 S dX3_addScenario_26 rfl rfl hG hS hM.1 (Nat.le_of_ble_eq_true rfl) (fun H locs hG hS => ?_)
      obtain ⟨G1, hG, hF, hM⟩ : ∃ G1, gh_W E G1 H ∧ gh_fr mdT G G1 ∧ Md E G1 mo ma M fo fi 0 nn := ⟨_, hG, hF.tr (gh_fr.set hM.1 (Or.inl rfl)), hM.setO (th' := 0) (nn' := nn) rfl⟩
      refine lv_aload_n hx hb dX3_addScenario_29 rfl (lv_at hl 0 rfl) ?_
      refine gf_X3_61 S dX3_addScenario_30 hG hM.1 rfl ?_
      refine lv_if_le (tgt := 38) hx hb dX3_addScenario_33 (by decide) (fun _ => ?_) (fun h => absurd h (by decide))
      refine lv_aload_n hx hb dX3_addScenario_38 rfl (lv_at hl 0 rfl) ?_
      refine gf_X3_22 S dX3_addScenario_39 hG hM.1 rfl ?_
      refine lv_aload_n hx hb dX3_addScenario_42 rfl (lv_at hl 0 rfl) ?_
      refine gf_X3_71 S dX3_addScenario_43 hG hM.1 rfl ?_
      refine lv_iload_n hx hb dX3_addScenario_46 rfl (lv_at hl 1 rfl) ?_
      refine n_iast S dX3_addScenario_47 hG hS (hM.arr 4 (by decide)) (gix.mk (show nn 3 < 4 from hlt) (by decide)) (fun H locs hG hS => ?_)
      obtain ⟨G2, hG, hF, hM⟩ : ∃ G1, gh_W E G1 H ∧ gh_fr mdT G G1 ∧ Md E G1 mo ma (oM4 M nn x) fo fi 0 nn := ⟨_, hG, hF.tr (gh_fr.set (hM.arr 4 (by decide)) (Or.inr (Or.inl rfl))), hM.set 4 (by decide) _⟩
      refine lv_aload_n hx hb dX3_addScenario_48 rfl (lv_at hl 0 rfl) ?_
      refine lv_dup hx hb dX3_addScenario_49 rfl ?_
      refine gf_X3_71 S dX3_addScenario_50 hG hM.1 rfl ?_
      refine lv_iconst (v := 1) hx hb dX3_addScenario_53 (by decide) ?_
      refine lv_iadd hx hb dX3_addScenario_54 ?_
      refine pf_X3_71 S dX3_addScenario_55 rfl rfl hG hS hM.1 (Nat.le_of_ble_eq_true rfl) (fun H locs hG hS => ?_)
      obtain ⟨G3, hG, hF, hM⟩ : ∃ G1, gh_W E G1 H ∧ gh_fr mdT G G1 ∧ Md E G1 mo ma (oM4 M nn x) fo fi 0 (va_up nn 3 (nn 3 + 1)) := ⟨_, hG, hF.tr (gh_fr.set hM.1 (Or.inl rfl)), hM.setO (by rw [nI_1]; rfl)⟩
      refine lv_aload_n hx hb dX3_addScenario_58 rfl (lv_at hl 0 rfl) ?_
      refine gf_X3_71 S dX3_addScenario_59 hG hM.1 rfl ?_
      refine lv_iconst (v := 1) hx hb dX3_addScenario_62 (by decide) ?_
      refine lv_isub hx hb dX3_addScenario_63 ?_
      exact g_iret S hr dX3_addScenario_64 hG hS (by first | exact Nat.le_refl _ | omega) (by first | exact Nat.le_refl _ | omega) ⟨_, rfl, fun _ => nI_pred _, mdQ.ok hc hM hF⟩
    · have hc : oc4 nn x = 2 := by rw [oc4, if_neg (Classical.not_not.mpr hv), if_pos h18]
      refine lv_iconst (v := 2) hx hb dX3_addScenario_21 (by decide) ?_
      refine lv_goto (tgt := 26) hx hb dX3_addScenario_22 (by decide) ?_
      refine pf_X3_61 S dX3_addScenario_26 rfl rfl hG hS hM.1 (Nat.le_of_ble_eq_true rfl) (fun H locs hG hS => ?_)
      obtain ⟨G4, hG, hF, hM⟩ : ∃ G1, gh_W E G1 H ∧ gh_fr mdT G G1 ∧ Md E G1 mo ma M fo fi 2 nn := ⟨_, hG, hF.tr (gh_fr.set hM.1 (Or.inl rfl)), hM.setO (th' := 2) (nn' := nn) rfl⟩
      refine lv_aload_n hx hb dX3_addScenario_29 rfl (lv_at hl 0 rfl) ?_
      refine gf_X3_61 S dX3_addScenario_30 hG hM.1 rfl ?_
      refine lv_if_le (tgt := 38) hx hb dX3_addScenario_33 (by decide) (fun h => absurd h (by decide)) (fun _ => ?_)
      refine lv_iconst (v := 0) hx hb dX3_addScenario_36 (by decide) ?_
      exact g_iret S hr dX3_addScenario_37 hG hS (by first | exact Nat.le_refl _ | omega) (by first | exact Nat.le_refl _ | omega) ⟨0, rfl, fun q => absurd (hc.symm.trans q) (by decide), mdQ.bad hc (by decide) hM hF⟩
  · refine W.eq (g2 := F0 m 6 ls [.int 0, .ref mo]) rfl ?_
    have hc : oc4 nn x = 1 := by rw [oc4, if_pos hv]
    refine lv_if_ne (tgt := 13) hx hb dX3_addScenario_6 (by decide) (fun h => absurd h (by decide)) (fun _ => ?_)
    refine lv_iconst (v := 1) hx hb dX3_addScenario_9 (by decide) ?_
    refine lv_goto (tgt := 26) hx hb dX3_addScenario_10 (by decide) ?_
    refine pf_X3_61 S dX3_addScenario_26 rfl rfl hG hS hM.1 (Nat.le_of_ble_eq_true rfl) (fun H locs hG hS => ?_)
    obtain ⟨G5, hG, hF, hM⟩ : ∃ G1, gh_W E G1 H ∧ gh_fr mdT G G1 ∧ Md E G1 mo ma M fo fi 1 nn := ⟨_, hG, hF.tr (gh_fr.set hM.1 (Or.inl rfl)), hM.setO (th' := 1) (nn' := nn) rfl⟩
    refine lv_aload_n hx hb dX3_addScenario_29 rfl (lv_at hl 0 rfl) ?_
    refine gf_X3_61 S dX3_addScenario_30 hG hM.1 rfl ?_
    refine lv_if_le (tgt := 38) hx hb dX3_addScenario_33 (by decide) (fun h => absurd h (by decide)) (fun _ => ?_)
    refine lv_iconst (v := 0) hx hb dX3_addScenario_36 (by decide) ?_
    exact g_iret S hr dX3_addScenario_37 hG hS (by first | exact Nat.le_refl _ | omega) (by first | exact Nat.le_refl _ | omega) ⟨0, rfl, fun q => absurd (hc.symm.trans q) (by decide), mdQ.bad hc (by decide) hM hF⟩
set_option maxHeartbeats 4000000 in
set_option maxRecDepth 100000 in
theorem metX3_number (l : Launch) {E : Ev} {G : gh} {mo : Nat} {ma : Nat → Nat} {M : Nat → Nat → Int32} {fo : Nat → Int64} {fi : Nat → Int32} {th : Int32} {nn : Nat → Nat} (x y z : Int32) (hM : Md E G mo ma M fo fi th nn) (hwf : sp_wf M nn) : Met l yX3_number (ws_ yX3_number cX3_number 4 (some .int)) ({ frames := 4, cells := 0, slots := 0, locals := 240 }) (gP E G [.ref mo, .int x, .int y, .int z]) (gQ E (fun v G' => mdI E G mo ma (oc6 M nn x y z) (or6 M nn x y z) M (M) nn (nn) v G')) 0 0 (ev_A E) := by
  have h16 : nn 1 ≤ 6 := hwf.1.1
  have h10 : nn 2 ≤ 10 := hwf.1.2.1
  have h34 : nn 3 ≤ 4 := hwf.1.2.2.1.2
  have h31 : 1 ≤ nn 3 := hwf.1.2.2.1.1
  have h412 : nn 4 ≤ 12 := hwf.1.2.2.2.1
  have h511 : nn 5 ≤ 11 := hwf.1.2.2.2.2
  refine gMet RX3 (by decide) rfl (Nat.le_of_ble_eq_true rfl) ?_
  intro p e s m below meth c ls hx hb S hr hnm hl hG hS
  have hl : lv_has ls 4 [(0, .ref mo), (1, .int x), (2, .int y), (3, .int z)] := hl
  have hF : gh_fr mdT G G := gh_fr.rf
  refine lv_aload_n hx hb dX3_number_0 rfl (lv_at hl 0 rfl) ?_
  refine lv_aload_n hx hb dX3_number_1 rfl (lv_at hl 0 rfl) ?_
  refine lv_iload_n hx hb dX3_number_2 rfl (lv_at hl 1 rfl) ?_
  refine g_call hS (va_runV (As := [.int x]) (rest := [.ref mo]) S.1 (metX3_isScenario l x hM) (cwV 1 S.ts (lw_V q1108 q1110 qs25 q39 q1111) rfl rfl rfl (by decide +kernel) ⟨Nat.le_of_ble_eq_true rfl, Nat.le_of_ble_eq_true rfl⟩) (S.preV hG hS hM.1 rfl) rfl rfl hl.1 rfl (lv_room (Nat.le_of_ble_eq_true rfl)) dX3_number_3 ⟨Nat.le_of_ble_eq_true rfl, Nat.le_of_ble_eq_true rfl⟩) (fun v G1 H locs hp hG hS => ?_)
  refine W.cs (cells' := 0) (slots' := 0) (by first | rfl | omega) (by first | rfl | omega) ?_
  obtain ⟨r, rfl, hr1, rfl⟩ := hp
  rcases hr1 with ⟨rfl, hi⟩ | ⟨rfl, hi⟩
  · refine W.eq (g2 := F0 m 6 ls [.int 1, .ref mo]) rfl ?_
    refine lv_if_eq (tgt := 24) hx hb dX3_number_6 (by decide) (fun h => absurd h (by decide)) (fun _ => ?_)
    refine lv_aload_n hx hb dX3_number_9 rfl (lv_at hl 0 rfl) ?_
    refine lv_iload_n hx hb dX3_number_10 rfl (lv_at hl 2 rfl) ?_
    refine g_call hS (va_runV (As := [.int y]) (rest := [.ref mo]) S.1 (metX3_isLine l y hM) (cwV 1 S.ts (lw_V q1123 q1125 qs27 q39 q1126) rfl rfl rfl (by decide +kernel) ⟨Nat.le_of_ble_eq_true rfl, Nat.le_of_ble_eq_true rfl⟩) (S.preV hG hS hM.1 rfl) rfl rfl hl.1 rfl (lv_room (Nat.le_of_ble_eq_true rfl)) dX3_number_11 ⟨Nat.le_of_ble_eq_true rfl, Nat.le_of_ble_eq_true rfl⟩) (fun v G1 H locs hp hG hS => ?_)
    refine W.cs (cells' := 0) (slots' := 0) (by first | rfl | omega) (by first | rfl | omega) ?_
    obtain ⟨r, rfl, hr1, rfl⟩ := hp
    rcases hr1 with ⟨rfl, hd⟩ | ⟨rfl, hd⟩
    · refine W.eq (g2 := F0 m 14 ls [.int 1, .ref mo]) rfl ?_
      refine lv_if_eq (tgt := 24) hx hb dX3_number_14 (by decide) (fun h => absurd h (by decide)) (fun _ => ?_)
      refine lv_iload_n hx hb dX3_number_17 rfl (lv_at hl 3 rfl) ?_
      refine g_call hS (va_runS (As := [.int z]) (rest := [.ref mo]) S.1 (metX3_isMonth l (E := E) (G := _) z) (va_cwS 1 S.ts (lw_S q1112 q1113 q39 q1114) rfl rfl rfl (by decide +kernel) ⟨Nat.le_of_ble_eq_true rfl, Nat.le_of_ble_eq_true rfl⟩) (S.pre hG hS) rfl rfl hl.1 rfl (lv_room (Nat.le_of_ble_eq_true rfl)) dX3_number_18 ⟨Nat.le_of_ble_eq_true rfl, Nat.le_of_ble_eq_true rfl⟩) (fun v G1 H locs hp hG hS => ?_)
      refine W.cs (cells' := 0) (slots' := 0) (by first | rfl | omega) (by first | rfl | omega) ?_
      obtain ⟨r, rfl, hr1, rfl⟩ := hp
      rcases hr1 with ⟨rfl, ht⟩ | ⟨rfl, ht⟩
      · refine W.eq (g2 := F0 m 21 ls [.int 1, .ref mo]) rfl ?_
        have hc0 : ¬ ¬ (vix (nn 3) x ∧ vix (nn 2) y ∧ vmo z) := Classical.not_not.mpr ⟨hi, hd, ht⟩
        obtain ⟨i, rfl, hi, ei⟩ := vix.ix hi (by omega)
        obtain ⟨k, rfl, hk, ek⟩ := vix.ix hd (by omega)
        obtain ⟨t, rfl, ht, et⟩ := vmo.ix ht
        refine lv_if_ne (tgt := 28) hx hb dX3_number_21 (by decide) (fun _ => ?_) (fun h => absurd h (by decide))
        refine lv_aload_n hx hb dX3_number_28 rfl (lv_at hl 0 rfl) ?_
        refine lv_iload_n hx hb dX3_number_29 rfl (lv_at hl 1 rfl) ?_
        refine lv_iload_n hx hb dX3_number_30 rfl (lv_at hl 2 rfl) ?_
        refine lv_iload_n hx hb dX3_number_31 rfl (lv_at hl 3 rfl) ?_
        refine lv_bipush (v := 6) hx hb dX3_number_32 (by decide) ?_
        refine g_call hS (va_runV (As := [.int (nI i), .int (nI k), .int (nI t), .int 6]) (rest := [.ref mo]) S.1 (metX3_finds l i k t 6 hM hwf hi hk ht) (cwV 4 S.ts (lw_V q1085 q1087 qs21 q39 q1088) rfl rfl rfl (by decide +kernel) ⟨Nat.le_of_ble_eq_true rfl, Nat.le_of_ble_eq_true rfl⟩) (S.preV hG hS hM.1 rfl) rfl rfl hl.1 rfl (lv_room (Nat.le_of_ble_eq_true rfl)) dX3_number_34 ⟨Nat.le_of_ble_eq_true rfl, Nat.le_of_ble_eq_true rfl⟩) (fun v G1 H locs hp hG hS => ?_)
        refine W.cs (cells' := 0) (slots' := 0) (by first | rfl | omega) (by first | rfl | omega) ?_
        obtain ⟨r, fo2, fi2, rfl, hM, hF2, hrr⟩ := hp
        have hF := hF.tr hF2
        rcases hrr with ⟨rfl, hfd⟩ | ⟨rfl, hfd⟩
        · refine W.eq (g2 := F0 m 37 ls [.int 1, .ref mo]) rfl ?_
          have hs : sp_F M nn (nI i) (nI k) (nI t) sp_al = some (fo2 k) := by show sp_fd M (nn 4) (ixN (nI i)) (ixN (nI t)) sp_al 10 (ixN (nI k)) = _; rw [ei, ek, et]; exact hfd
          have hc : oc6 M nn (nI i) (nI k) (nI t) = 0 := by rw [oc6, if_neg hc0, hs]; rfl
          refine lv_if_ne (tgt := 44) hx hb dX3_number_37 (by decide) (fun _ => ?_) (fun h => absurd h (by decide))
          refine lv_iconst (v := 0) hx hb dX3_number_44 (by decide) ?_
          refine pf_X3_61 S dX3_number_45 rfl rfl hG hS hM.1 (Nat.le_of_ble_eq_true rfl) (fun H locs hG hS => ?_)
          obtain ⟨G1, hG, hF, hM⟩ : ∃ G1, gh_W E G1 H ∧ gh_fr mdT G G1 ∧ Md E G1 mo ma M fo2 fi2 0 nn := ⟨_, hG, hF.tr (gh_fr.set hM.1 (Or.inl rfl)), hM.setO (th' := 0) (nn' := nn) rfl⟩
          refine lv_aload_n hx hb dX3_number_48 rfl (lv_at hl 0 rfl) ?_
          refine gf_X3_61 S dX3_number_49 hG hM.1 rfl ?_
          refine lv_if_le (tgt := 59) hx hb dX3_number_52 (by decide) (fun _ => ?_) (fun h => absurd h (by decide))
          refine lv_aload_n hx hb dX3_number_59 rfl (lv_at hl 0 rfl) ?_
          refine gf_X3_57 S dX3_number_60 hG hM.1 rfl ?_
          refine lv_iload_n hx hb dX3_number_63 rfl (lv_at hl 2 rfl) ?_
          refine n_lald S dX3_number_64 hG hM.2.2.2 (gix.mk (show k < 10 by omega) (by decide)) ?_
          refine lv_l2i (v := (fo2 k).toInt32) hx hb dX3_number_65 rfl ?_
          exact g_iret S hr dX3_number_66 hG hS (by first | exact Nat.le_refl _ | omega) (by first | exact Nat.le_refl _ | omega) ⟨_, rfl, fun _ => by rw [or6, hs]; rfl, mdQ.ok hc hM hF⟩
        · refine W.eq (g2 := F0 m 37 ls [.int 0, .ref mo]) rfl ?_
          have hs : sp_F M nn (nI i) (nI k) (nI t) sp_al = none := by show sp_fd M (nn 4) (ixN (nI i)) (ixN (nI t)) sp_al 10 (ixN (nI k)) = _; rw [ei, ek, et]; exact hfd
          have hc : oc6 M nn (nI i) (nI k) (nI t) = 2 := by rw [oc6, if_neg hc0, if_pos hs]
          refine lv_if_ne (tgt := 44) hx hb dX3_number_37 (by decide) (fun h => absurd h (by decide)) (fun _ => ?_)
          refine lv_iconst (v := 2) hx hb dX3_number_40 (by decide) ?_
          refine lv_goto (tgt := 45) hx hb dX3_number_41 (by decide) ?_
          refine pf_X3_61 S dX3_number_45 rfl rfl hG hS hM.1 (Nat.le_of_ble_eq_true rfl) (fun H locs hG hS => ?_)
          obtain ⟨G2, hG, hF, hM⟩ : ∃ G1, gh_W E G1 H ∧ gh_fr mdT G G1 ∧ Md E G1 mo ma M fo2 fi2 2 nn := ⟨_, hG, hF.tr (gh_fr.set hM.1 (Or.inl rfl)), hM.setO (th' := 2) (nn' := nn) rfl⟩
          refine lv_aload_n hx hb dX3_number_48 rfl (lv_at hl 0 rfl) ?_
          refine gf_X3_61 S dX3_number_49 hG hM.1 rfl ?_
          refine lv_if_le (tgt := 59) hx hb dX3_number_52 (by decide) (fun h => absurd h (by decide)) (fun _ => ?_)
          refine lv_iconst (v := 0) hx hb dX3_number_55 (by decide) ?_
          refine lv_goto (tgt := 66) hx hb dX3_number_56 (by decide) ?_
          exact g_iret S hr dX3_number_66 hG hS (by first | exact Nat.le_refl _ | omega) (by first | exact Nat.le_refl _ | omega) ⟨0, rfl, fun q => absurd (hc.symm.trans q) (by decide), mdQ.bad hc (by decide) hM hF⟩
      · refine W.eq (g2 := F0 m 21 ls [.int 0, .ref mo]) rfl ?_
        have hc : oc6 M nn x y z = 1 := by rw [oc6, if_pos (fun q => ht q.2.2)]
        refine lv_if_ne (tgt := 28) hx hb dX3_number_21 (by decide) (fun h => absurd h (by decide)) (fun _ => ?_)
        refine lv_iconst (v := 1) hx hb dX3_number_24 (by decide) ?_
        refine lv_goto (tgt := 45) hx hb dX3_number_25 (by decide) ?_
        refine pf_X3_61 S dX3_number_45 rfl rfl hG hS hM.1 (Nat.le_of_ble_eq_true rfl) (fun H locs hG hS => ?_)
        obtain ⟨G3, hG, hF, hM⟩ : ∃ G1, gh_W E G1 H ∧ gh_fr mdT G G1 ∧ Md E G1 mo ma M fo fi 1 nn := ⟨_, hG, hF.tr (gh_fr.set hM.1 (Or.inl rfl)), hM.setO (th' := 1) (nn' := nn) rfl⟩
        refine lv_aload_n hx hb dX3_number_48 rfl (lv_at hl 0 rfl) ?_
        refine gf_X3_61 S dX3_number_49 hG hM.1 rfl ?_
        refine lv_if_le (tgt := 59) hx hb dX3_number_52 (by decide) (fun h => absurd h (by decide)) (fun _ => ?_)
        refine lv_iconst (v := 0) hx hb dX3_number_55 (by decide) ?_
        refine lv_goto (tgt := 66) hx hb dX3_number_56 (by decide) ?_
        exact g_iret S hr dX3_number_66 hG hS (by first | exact Nat.le_refl _ | omega) (by first | exact Nat.le_refl _ | omega) ⟨0, rfl, fun q => absurd (hc.symm.trans q) (by decide), mdQ.bad hc (by decide) hM hF⟩
    · refine W.eq (g2 := F0 m 14 ls [.int 0, .ref mo]) rfl ?_
      have hc : oc6 M nn x y z = 1 := by rw [oc6, if_pos (fun q => hd q.2.1)]
      refine lv_if_eq (tgt := 24) hx hb dX3_number_14 (by decide) (fun _ => ?_) (fun h => absurd h (by decide))
      refine lv_iconst (v := 1) hx hb dX3_number_24 (by decide) ?_
      refine lv_goto (tgt := 45) hx hb dX3_number_25 (by decide) ?_
      refine pf_X3_61 S dX3_number_45 rfl rfl hG hS hM.1 (Nat.le_of_ble_eq_true rfl) (fun H locs hG hS => ?_)
      obtain ⟨G4, hG, hF, hM⟩ : ∃ G1, gh_W E G1 H ∧ gh_fr mdT G G1 ∧ Md E G1 mo ma M fo fi 1 nn := ⟨_, hG, hF.tr (gh_fr.set hM.1 (Or.inl rfl)), hM.setO (th' := 1) (nn' := nn) rfl⟩
      refine lv_aload_n hx hb dX3_number_48 rfl (lv_at hl 0 rfl) ?_
      refine gf_X3_61 S dX3_number_49 hG hM.1 rfl ?_
      refine lv_if_le (tgt := 59) hx hb dX3_number_52 (by decide) (fun h => absurd h (by decide)) (fun _ => ?_)
      refine lv_iconst (v := 0) hx hb dX3_number_55 (by decide) ?_
      refine lv_goto (tgt := 66) hx hb dX3_number_56 (by decide) ?_
      exact g_iret S hr dX3_number_66 hG hS (by first | exact Nat.le_refl _ | omega) (by first | exact Nat.le_refl _ | omega) ⟨0, rfl, fun q => absurd (hc.symm.trans q) (by decide), mdQ.bad hc (by decide) hM hF⟩
  · refine W.eq (g2 := F0 m 6 ls [.int 0, .ref mo]) rfl ?_
    have hc : oc6 M nn x y z = 1 := by rw [oc6, if_pos (fun q => hi q.1)]
    refine lv_if_eq (tgt := 24) hx hb dX3_number_6 (by decide) (fun _ => ?_) (fun h => absurd h (by decide))
    refine lv_iconst (v := 1) hx hb dX3_number_24 (by decide) ?_
    refine lv_goto (tgt := 45) hx hb dX3_number_25 (by decide) ?_
    refine pf_X3_61 S dX3_number_45 rfl rfl hG hS hM.1 (Nat.le_of_ble_eq_true rfl) (fun H locs hG hS => ?_)
    obtain ⟨G5, hG, hF, hM⟩ : ∃ G1, gh_W E G1 H ∧ gh_fr mdT G G1 ∧ Md E G1 mo ma M fo fi 1 nn := ⟨_, hG, hF.tr (gh_fr.set hM.1 (Or.inl rfl)), hM.setO (th' := 1) (nn' := nn) rfl⟩
    refine lv_aload_n hx hb dX3_number_48 rfl (lv_at hl 0 rfl) ?_
    refine gf_X3_61 S dX3_number_49 hG hM.1 rfl ?_
    refine lv_if_le (tgt := 59) hx hb dX3_number_52 (by decide) (fun h => absurd h (by decide)) (fun _ => ?_)
    refine lv_iconst (v := 0) hx hb dX3_number_55 (by decide) ?_
    refine lv_goto (tgt := 66) hx hb dX3_number_56 (by decide) ?_
    exact g_iret S hr dX3_number_66 hG hS (by first | exact Nat.le_refl _ | omega) (by first | exact Nat.le_refl _ | omega) ⟨0, rfl, fun q => absurd (hc.symm.trans q) (by decide), mdQ.bad hc (by decide) hM hF⟩
set_option maxHeartbeats 4000000 in
set_option maxRecDepth 100000 in
theorem metX3_numberByHand (l : Launch) {E : Ev} {G : gh} {mo : Nat} {ma : Nat → Nat} {M : Nat → Nat → Int32} {fo : Nat → Int64} {fi : Nat → Int32} {th : Int32} {nn : Nat → Nat} (x y z : Int32) (hM : Md E G mo ma M fo fi th nn) (hwf : sp_wf M nn) : Met l yX3_numberByHand (ws_ yX3_numberByHand cX3_numberByHand 4 (some .int)) ({ frames := 5, cells := 0, slots := 0, locals := 280 }) (gP E G [.ref mo, .int x, .int y, .int z]) (gQ E (fun v G' => mdI E G mo ma (oc6 M nn x y z) (or6 M nn x y z) M (M) nn (nn) v G')) 0 0 (ev_A E) := by
  have h16 : nn 1 ≤ 6 := hwf.1.1
  have h10 : nn 2 ≤ 10 := hwf.1.2.1
  have h34 : nn 3 ≤ 4 := hwf.1.2.2.1.2
  have h31 : 1 ≤ nn 3 := hwf.1.2.2.1.1
  have h412 : nn 4 ≤ 12 := hwf.1.2.2.2.1
  have h511 : nn 5 ≤ 11 := hwf.1.2.2.2.2
  refine gMet RX3 (by decide) rfl (Nat.le_of_ble_eq_true rfl) ?_
  intro p e s m below meth c ls hx hb S hr hnm hl hG hS
  have hl : lv_has ls 4 [(0, .ref mo), (1, .int x), (2, .int y), (3, .int z)] := hl
  have hF : gh_fr mdT G G := gh_fr.rf
  refine lv_aload_n hx hb dX3_numberByHand_0 rfl (lv_at hl 0 rfl) ?_
  refine lv_iload_n hx hb dX3_numberByHand_1 rfl (lv_at hl 1 rfl) ?_
  refine lv_iload_n hx hb dX3_numberByHand_2 rfl (lv_at hl 2 rfl) ?_
  refine lv_iload_n hx hb dX3_numberByHand_3 rfl (lv_at hl 3 rfl) ?_
  refine g_call hS (va_runV (As := [.int x, .int y, .int z]) (rest := []) S.1 (metX3_number l x y z hM hwf) (cwV 3 S.ts (lw_V q1143 q1136 q1137 q39 q1138) rfl rfl rfl (by decide +kernel) ⟨Nat.le_of_ble_eq_true rfl, Nat.le_of_ble_eq_true rfl⟩) (S.preV hG hS hM.1 rfl) rfl rfl hl.1 rfl (lv_room (Nat.le_of_ble_eq_true rfl)) dX3_numberByHand_4 ⟨Nat.le_of_ble_eq_true rfl, Nat.le_of_ble_eq_true rfl⟩) (fun v G1 H locs hp hG hS => ?_)
  refine W.cs (cells' := 0) (slots' := 0) (by first | rfl | omega) (by first | rfl | omega) ?_
  obtain ⟨b, rfl, h1, h2⟩ := hp
  refine W.eq (g2 := F0 m 7 ls [.int b]) rfl ?_
  exact g_iret S hr dX3_numberByHand_7 hG hS (by first | exact Nat.le_refl _ | omega) (by first | exact Nat.le_refl _ | omega) ⟨b, rfl, h1, h2⟩
set_option maxHeartbeats 4000000 in
set_option maxRecDepth 100000 in
theorem metX3_pass (l : Launch) {E : Ev} {G : gh} {mo : Nat} {ma : Nat → Nat} {M : Nat → Nat → Int32} {fo : Nat → Int64} {fi : Nat → Int32} {th : Int32} {nn : Nat → Nat}  (hM : Md E G mo ma M fo fi th nn) (hwf : sp_wf M nn) : Met l yX3_pass (ws_ yX3_pass cX3_pass 1 (some .int)) ({ frames := 2, cells := 0, slots := 0, locals := 80 }) (gP E G [.ref mo]) (gQ E (fun v G' => mdI E G mo ma (oc13 nn) (nI (nn 5 + 1)) M (M) nn (va_up nn 5 (nn 5 + 1)) v G')) 0 0 (ev_A E) := by
  have h16 : nn 1 ≤ 6 := hwf.1.1
  have h10 : nn 2 ≤ 10 := hwf.1.2.1
  have h34 : nn 3 ≤ 4 := hwf.1.2.2.1.2
  have h31 : 1 ≤ nn 3 := hwf.1.2.2.1.1
  have h412 : nn 4 ≤ 12 := hwf.1.2.2.2.1
  have h511 : nn 5 ≤ 11 := hwf.1.2.2.2.2
  refine gMet RX3 (by decide) rfl (Nat.le_of_ble_eq_true rfl) ?_
  intro p e s m below meth c ls hx hb S hr hnm hl hG hS
  have hl : lv_has ls 1 [(0, .ref mo)] := hl
  have hF : gh_fr mdT G G := gh_fr.rf
  refine lv_aload_n hx hb dX3_pass_0 rfl (lv_at hl 0 rfl) ?_
  refine lv_aload_n hx hb dX3_pass_1 rfl (lv_at hl 0 rfl) ?_
  refine gf_X3_77 S dX3_pass_2 hG hM.1 rfl ?_
  refine lv_bipush (v := 11) hx hb dX3_pass_5 (by decide) ?_
  refine lv_icmp_ge (tgt := 14) hx hb dX3_pass_7 (by decide) (fun h7 => ?_) (fun h7 => ?_)
  · have hc : oc13 nn = 1 := by rw [oc13, if_neg (fun q => by have a := Int32.lt_iff_toInt_lt.mp q; have b := Int32.le_iff_toInt_le.mp h7; omega)]
    refine lv_iconst (v := 0) hx hb dX3_pass_14 (by decide) ?_
    refine g_call hS (va_runV (As := [.int 0]) (rest := []) S.1 (metX3_checked l 0 hM) (cwV 1 S.ts (lw_V q1115 q1117 qs26 q39 q1118) rfl rfl rfl (by decide +kernel) ⟨Nat.le_of_ble_eq_true rfl, Nat.le_of_ble_eq_true rfl⟩) (S.preV hG hS hM.1 rfl) rfl rfl hl.1 rfl (lv_room (Nat.le_of_ble_eq_true rfl)) dX3_pass_15 ⟨Nat.le_of_ble_eq_true rfl, Nat.le_of_ble_eq_true rfl⟩) (fun v G1 H locs hp hG hS => ?_)
    refine W.cs (cells' := 0) (slots' := 0) (by first | rfl | omega) (by first | rfl | omega) ?_
    obtain ⟨rfl, hM, hF2⟩ := hp
    have hF := hF.tr hF2
    have hM : Md E _ mo ma M fo fi 1 nn := hM
    refine W.eq (g2 := F0 m 18 ls [.int 1]) rfl ?_
    refine lv_if_le (tgt := 23) hx hb dX3_pass_18 (by decide) (fun h => absurd h (by decide)) (fun _ => ?_)
    refine lv_iconst (v := 0) hx hb dX3_pass_21 (by decide) ?_
    exact g_iret S hr dX3_pass_22 hG hS (by first | exact Nat.le_refl _ | omega) (by first | exact Nat.le_refl _ | omega) ⟨0, rfl, fun q => absurd (hc.symm.trans q) (by decide), mdQ.bad hc (by decide) hM hF⟩
  · have hc : oc13 nn = 0 := by rw [oc13, if_pos (Int32.not_le.mp h7)]
    refine lv_iconst (v := 1) hx hb dX3_pass_10 (by decide) ?_
    refine lv_goto (tgt := 15) hx hb dX3_pass_11 (by decide) ?_
    refine g_call hS (va_runV (As := [.int 1]) (rest := []) S.1 (metX3_checked l 1 hM) (cwV 1 S.ts (lw_V q1115 q1117 qs26 q39 q1118) rfl rfl rfl (by decide +kernel) ⟨Nat.le_of_ble_eq_true rfl, Nat.le_of_ble_eq_true rfl⟩) (S.preV hG hS hM.1 rfl) rfl rfl hl.1 rfl (lv_room (Nat.le_of_ble_eq_true rfl)) dX3_pass_15 ⟨Nat.le_of_ble_eq_true rfl, Nat.le_of_ble_eq_true rfl⟩) (fun v G1 H locs hp hG hS => ?_)
    refine W.cs (cells' := 0) (slots' := 0) (by first | rfl | omega) (by first | rfl | omega) ?_
    obtain ⟨rfl, hM, hF2⟩ := hp
    have hF := hF.tr hF2
    have hM : Md E _ mo ma M fo fi 0 nn := hM
    refine W.eq (g2 := F0 m 18 ls [.int 0]) rfl ?_
    refine lv_if_le (tgt := 23) hx hb dX3_pass_18 (by decide) (fun _ => ?_) (fun h => absurd h (by decide))
    refine lv_aload_n hx hb dX3_pass_23 rfl (lv_at hl 0 rfl) ?_
    refine lv_dup hx hb dX3_pass_24 rfl ?_
    refine gf_X3_77 S dX3_pass_25 hG hM.1 rfl ?_
    refine lv_iconst (v := 1) hx hb dX3_pass_28 (by decide) ?_
    refine lv_iadd hx hb dX3_pass_29 ?_
    refine pf_X3_77 S dX3_pass_30 rfl rfl hG hS hM.1 (Nat.le_of_ble_eq_true rfl) (fun H locs hG hS => ?_)
    obtain ⟨G1, hG, hF, hM⟩ : ∃ G1, gh_W E G1 H ∧ gh_fr mdT G G1 ∧ Md E G1 mo ma M fo fi 0 (va_up nn 5 (nn 5 + 1)) := ⟨_, hG, hF.tr (gh_fr.set hM.1 (Or.inl rfl)), hM.setO (by rw [nI_1]; rfl)⟩
    refine lv_aload_n hx hb dX3_pass_33 rfl (lv_at hl 0 rfl) ?_
    refine gf_X3_77 S dX3_pass_34 hG hM.1 rfl ?_
    exact g_iret S hr dX3_pass_37 hG hS (by first | exact Nat.le_refl _ | omega) (by first | exact Nat.le_refl _ | omega) ⟨_, rfl, fun _ => rfl, mdQ.ok hc hM hF⟩
set_option maxHeartbeats 4000000 in
set_option maxRecDepth 100000 in
theorem metX3_month (l : Launch) {E : Ev} {G : gh} {mo : Nat} {ma : Nat → Nat} {M : Nat → Nat → Int32} {fo : Nat → Int64} {fi : Nat → Int32} {th : Int32} {nn : Nat → Nat}  (hM : Md E G mo ma M fo fi th nn) : Met l yX3_month (ws_ yX3_month cX3_month 1 (some .int)) ({ frames := 0, cells := 0, slots := 0, locals := 0 }) (gP E G [.ref mo]) (gQ E (fun v G' => mdI E G mo ma (0) (nI (nn 5)) M (M) nn (nn) v G')) 0 0 (ev_A E) := by
  refine gMet RX3 (by decide) rfl (Nat.le_of_ble_eq_true rfl) ?_
  intro p e s m below meth c ls hx hb S hr hnm hl hG hS
  have hl : lv_has ls 1 [(0, .ref mo)] := hl
  have hF : gh_fr mdT G G := gh_fr.rf
  refine lv_aload_n hx hb dX3_month_0 rfl (lv_at hl 0 rfl) ?_
  refine lv_iconst (v := 0) hx hb dX3_month_1 (by decide) ?_
  refine pf_X3_61 S dX3_month_2 rfl rfl hG hS hM.1 (Nat.le_of_ble_eq_true rfl) (fun H locs hG hS => ?_)
  obtain ⟨G1, hG, hF, hM⟩ : ∃ G1, gh_W E G1 H ∧ gh_fr mdT G G1 ∧ Md E G1 mo ma M fo fi 0 nn := ⟨_, hG, hF.tr (gh_fr.set hM.1 (Or.inl rfl)), hM.setO (th' := 0) (nn' := nn) rfl⟩
  refine lv_aload_n hx hb dX3_month_5 rfl (lv_at hl 0 rfl) ?_
  refine gf_X3_77 S dX3_month_6 hG hM.1 rfl ?_
  exact g_iret S hr dX3_month_9 hG hS (by first | exact Nat.le_refl _ | omega) (by first | exact Nat.le_refl _ | omega) ⟨_, rfl, fun _ => rfl, mdQ.ok rfl hM hF⟩
set_option maxHeartbeats 4000000 in
set_option maxRecDepth 100000 in
theorem metX3_open (l : Launch) {E : Ev} {G : gh} {mo : Nat} {ma : Nat → Nat} {M : Nat → Nat → Int32} {fo : Nat → Int64} {fi : Nat → Int32} {th : Int32} {nn : Nat → Nat}  (hM : Md E G mo ma M fo fi th nn) : Met l yX3_open (ws_ yX3_open cX3_open 1 (some .int)) ({ frames := 1, cells := 0, slots := 0, locals := 40 }) (gP E G [.ref mo]) (gQ E (fun v G' => mdI E G mo ma (0) (sp_no M) M (M) nn (nn) v G')) 0 0 (ev_A E) := by
  refine gMet RX3 (by decide) rfl (Nat.le_of_ble_eq_true rfl) ?_
  intro p e s m below meth c ls hx hb S hr hnm hl hG hS
  have hl : lv_has ls 1 [(0, .ref mo)] := hl
  have hF : gh_fr mdT G G := gh_fr.rf
  refine lv_aload_n hx hb dX3_open_0 rfl (lv_at hl 0 rfl) ?_
  refine lv_iconst (v := 0) hx hb dX3_open_1 (by decide) ?_
  refine pf_X3_61 S dX3_open_2 rfl rfl hG hS hM.1 (Nat.le_of_ble_eq_true rfl) (fun H locs hG hS => ?_)
  obtain ⟨G1, hG, hF, hM⟩ : ∃ G1, gh_W E G1 H ∧ gh_fr mdT G G1 ∧ Md E G1 mo ma M fo fi 0 nn := ⟨_, hG, hF.tr (gh_fr.set hM.1 (Or.inl rfl)), hM.setO (th' := 0) (nn' := nn) rfl⟩
  refine lv_aload_n hx hb dX3_open_5 rfl (lv_at hl 0 rfl) ?_
  refine lv_bipush (v := 111) hx hb dX3_open_6 (by decide) ?_
  refine g_call hS (va_runV (As := [.int 111]) (rest := []) S.1 (metX3_many l 111 hM) (cwV 1 S.ts (lw_V q1190 q1192 qs28 q39 q1193) rfl rfl rfl (by decide +kernel) ⟨Nat.le_of_ble_eq_true rfl, Nat.le_of_ble_eq_true rfl⟩) (S.preV hG hS hM.1 rfl) rfl rfl hl.1 rfl (lv_room (Nat.le_of_ble_eq_true rfl)) dX3_open_8 ⟨Nat.le_of_ble_eq_true rfl, Nat.le_of_ble_eq_true rfl⟩) (fun v G1 H locs hp hG hS => ?_)
  refine W.cs (cells' := 0) (slots' := 0) (by first | rfl | omega) (by first | rfl | omega) ?_
  obtain ⟨rfl, rfl⟩ := hp
  refine W.eq (g2 := F0 m 11 ls [.int (sp_no M)]) rfl ?_
  exact g_iret S hr dX3_open_11 hG hS (by first | exact Nat.le_refl _ | omega) (by first | exact Nat.le_refl _ | omega) ⟨_, rfl, fun _ => rfl, mdQ.ok rfl hM hF⟩
set_option maxHeartbeats 4000000 in
set_option maxRecDepth 100000 in
theorem metX3_state (l : Launch) {E : Ev} {G : gh} {mo : Nat} {ma : Nat → Nat} {M : Nat → Nat → Int32} {fo : Nat → Int64} {fi : Nat → Int32} {th : Int32} {nn : Nat → Nat} (x y : Int32) (hM : Md E G mo ma M fo fi th nn) (hwf : sp_wf M nn) : Met l yX3_state (ws_ yX3_state cX3_state 3 (some .char)) ({ frames := 2, cells := 0, slots := 0, locals := 80 }) (gP E G [.ref mo, .int x, .int y]) (gQ E (fun v G' => mdI E G mo ma (oc16 nn x y) (or16 M x y) M (M) nn (nn) v G')) 0 0 (ev_A E) := by
  have h16 : nn 1 ≤ 6 := hwf.1.1
  have h10 : nn 2 ≤ 10 := hwf.1.2.1
  have h34 : nn 3 ≤ 4 := hwf.1.2.2.1.2
  have h31 : 1 ≤ nn 3 := hwf.1.2.2.1.1
  have h412 : nn 4 ≤ 12 := hwf.1.2.2.2.1
  have h511 : nn 5 ≤ 11 := hwf.1.2.2.2.2
  refine gMet RX3 (by decide) rfl (Nat.le_of_ble_eq_true rfl) ?_
  intro p e s m below meth c ls hx hb S hr hnm hl hG hS
  have hl : lv_has ls 3 [(0, .ref mo), (1, .int x), (2, .int y)] := hl
  have hF : gh_fr mdT G G := gh_fr.rf
  refine lv_aload_n hx hb dX3_state_0 rfl (lv_at hl 0 rfl) ?_
  refine lv_aload_n hx hb dX3_state_1 rfl (lv_at hl 0 rfl) ?_
  refine lv_iload_n hx hb dX3_state_2 rfl (lv_at hl 1 rfl) ?_
  refine g_call hS (va_runV (As := [.int x]) (rest := [.ref mo]) S.1 (metX3_isLine l x hM) (cwV 1 S.ts (lw_V q1123 q1125 qs27 q39 q1126) rfl rfl rfl (by decide +kernel) ⟨Nat.le_of_ble_eq_true rfl, Nat.le_of_ble_eq_true rfl⟩) (S.preV hG hS hM.1 rfl) rfl rfl hl.1 rfl (lv_room (Nat.le_of_ble_eq_true rfl)) dX3_state_3 ⟨Nat.le_of_ble_eq_true rfl, Nat.le_of_ble_eq_true rfl⟩) (fun v G1 H locs hp hG hS => ?_)
  refine W.cs (cells' := 0) (slots' := 0) (by first | rfl | omega) (by first | rfl | omega) ?_
  obtain ⟨r, rfl, hr1, rfl⟩ := hp
  rcases hr1 with ⟨rfl, hd⟩ | ⟨rfl, hd⟩
  · refine W.eq (g2 := F0 m 6 ls [.int 1, .ref mo]) rfl ?_
    refine lv_if_eq (tgt := 20) hx hb dX3_state_6 (by decide) (fun h => absurd h (by decide)) (fun _ => ?_)
    refine lv_iload_n hx hb dX3_state_9 rfl (lv_at hl 2 rfl) ?_
    refine g_call hS (va_runS (As := [.int y]) (rest := [.ref mo]) S.1 (metX3_isMonth l (E := E) (G := _) y) (va_cwS 1 S.ts (lw_S q1112 q1113 q39 q1114) rfl rfl rfl (by decide +kernel) ⟨Nat.le_of_ble_eq_true rfl, Nat.le_of_ble_eq_true rfl⟩) (S.pre hG hS) rfl rfl hl.1 rfl (lv_room (Nat.le_of_ble_eq_true rfl)) dX3_state_10 ⟨Nat.le_of_ble_eq_true rfl, Nat.le_of_ble_eq_true rfl⟩) (fun v G1 H locs hp hG hS => ?_)
    refine W.cs (cells' := 0) (slots' := 0) (by first | rfl | omega) (by first | rfl | omega) ?_
    obtain ⟨r, rfl, hr1, rfl⟩ := hp
    rcases hr1 with ⟨rfl, ht⟩ | ⟨rfl, ht⟩
    · refine W.eq (g2 := F0 m 13 ls [.int 1, .ref mo]) rfl ?_
      have hc : oc16 nn x y = 0 := by rw [oc16, if_pos ⟨hd, ht⟩]
      refine lv_if_eq (tgt := 20) hx hb dX3_state_13 (by decide) (fun h => absurd h (by decide)) (fun _ => ?_)
      refine lv_iconst (v := 1) hx hb dX3_state_16 (by decide) ?_
      refine lv_goto (tgt := 21) hx hb dX3_state_17 (by decide) ?_
      refine g_call hS (va_runV (As := [.int 1]) (rest := []) S.1 (metX3_checked l 1 hM) (cwV 1 S.ts (lw_V q1115 q1117 qs26 q39 q1118) rfl rfl rfl (by decide +kernel) ⟨Nat.le_of_ble_eq_true rfl, Nat.le_of_ble_eq_true rfl⟩) (S.preV hG hS hM.1 rfl) rfl rfl hl.1 rfl (lv_room (Nat.le_of_ble_eq_true rfl)) dX3_state_21 ⟨Nat.le_of_ble_eq_true rfl, Nat.le_of_ble_eq_true rfl⟩) (fun v G1 H locs hp hG hS => ?_)
      refine W.cs (cells' := 0) (slots' := 0) (by first | rfl | omega) (by first | rfl | omega) ?_
      obtain ⟨rfl, hM, hF2⟩ := hp
      have hF := hF.tr hF2
      have hM : Md E _ mo ma M fo fi 0 nn := hM
      refine W.eq (g2 := F0 m 24 ls [.int 0]) rfl ?_
      obtain ⟨k, rfl, hk, ek⟩ := vix.ix hd (by omega)
      obtain ⟨t, rfl, ht, et⟩ := vmo.ix ht
      refine lv_if_le (tgt := 32) hx hb dX3_state_24 (by decide) (fun _ => ?_) (fun h => absurd h (by decide))
      refine lv_aload_n hx hb dX3_state_32 rfl (lv_at hl 0 rfl) ?_
      refine gf_X3_53 S dX3_state_33 hG hM.1 rfl ?_
      refine lv_iload_n hx hb dX3_state_36 rfl (lv_at hl 1 rfl) ?_
      refine lv_iload_n hx hb dX3_state_37 rfl (lv_at hl 2 rfl) ?_
      refine g_call hS (va_runS (As := [.int (nI k), .int (nI t)]) (rest := [.ref (ma 14)]) S.1 (metX3_at l (E := E) (G := _) (nI k) (nI t)) (va_cwS 2 S.ts (lw_S q1082 q1083 q39 q1084) rfl rfl rfl (by decide +kernel) ⟨Nat.le_of_ble_eq_true rfl, Nat.le_of_ble_eq_true rfl⟩) (S.pre hG hS) rfl rfl hl.1 rfl (lv_room (Nat.le_of_ble_eq_true rfl)) dX3_state_38 ⟨Nat.le_of_ble_eq_true rfl, Nat.le_of_ble_eq_true rfl⟩) (fun v G1 H locs hp hG hS => ?_)
      refine W.cs (cells' := 0) (slots' := 0) (by first | rfl | omega) (by first | rfl | omega) ?_
      obtain ⟨rfl, rfl⟩ := hp
      refine W.eq (g2 := F0 m 41 ls [.int (nI (12 * k + t)), .ref (ma 14)]) (by rw [← sp_at]; rfl) ?_
      refine n_cald S dX3_state_41 hG (hM.arr 14 (by decide)) (gix.mk (show 12 * k + t < 120 by omega) (by decide)) ?_
      have h3 : M 14 (12 * k + t) = 45 ∨ M 14 (12 * k + t) = 97 ∨ M 14 (12 * k + t) = 111 := (hwf.2.2.2.2 (12 * k + t) (by omega)).1
      exact g_zret (by rcases h3 with q | q | q <;> rw [q] <;> rfl) S hr dX3_state_42 hG hS (by first | exact Nat.le_refl _ | omega) (by first | exact Nat.le_refl _ | omega) ⟨_, rfl, fun _ => by rw [or16, qix, ek, et], mdQ.ok hc hM hF⟩
    · refine W.eq (g2 := F0 m 13 ls [.int 0, .ref mo]) rfl ?_
      have hc : oc16 nn x y = 1 := by rw [oc16, if_neg (fun q => ht q.2)]
      refine lv_if_eq (tgt := 20) hx hb dX3_state_13 (by decide) (fun _ => ?_) (fun h => absurd h (by decide))
      refine lv_iconst (v := 0) hx hb dX3_state_20 (by decide) ?_
      refine g_call hS (va_runV (As := [.int 0]) (rest := []) S.1 (metX3_checked l 0 hM) (cwV 1 S.ts (lw_V q1115 q1117 qs26 q39 q1118) rfl rfl rfl (by decide +kernel) ⟨Nat.le_of_ble_eq_true rfl, Nat.le_of_ble_eq_true rfl⟩) (S.preV hG hS hM.1 rfl) rfl rfl hl.1 rfl (lv_room (Nat.le_of_ble_eq_true rfl)) dX3_state_21 ⟨Nat.le_of_ble_eq_true rfl, Nat.le_of_ble_eq_true rfl⟩) (fun v G1 H locs hp hG hS => ?_)
      refine W.cs (cells' := 0) (slots' := 0) (by first | rfl | omega) (by first | rfl | omega) ?_
      obtain ⟨rfl, hM, hF2⟩ := hp
      have hF := hF.tr hF2
      have hM : Md E _ mo ma M fo fi 1 nn := hM
      refine W.eq (g2 := F0 m 24 ls [.int 1]) rfl ?_
      refine lv_if_le (tgt := 32) hx hb dX3_state_24 (by decide) (fun h => absurd h (by decide)) (fun _ => ?_)
      refine lv_bipush (v := 32) hx hb dX3_state_27 (by decide) ?_
      refine lv_goto (tgt := 42) hx hb dX3_state_29 (by decide) ?_
      exact g_zret rfl S hr dX3_state_42 hG hS (by first | exact Nat.le_refl _ | omega) (by first | exact Nat.le_refl _ | omega) ⟨32, rfl, fun q => absurd (hc.symm.trans q) (by decide), mdQ.bad hc (by decide) hM hF⟩
  · refine W.eq (g2 := F0 m 6 ls [.int 0, .ref mo]) rfl ?_
    have hc : oc16 nn x y = 1 := by rw [oc16, if_neg (fun q => hd q.1)]
    refine lv_if_eq (tgt := 20) hx hb dX3_state_6 (by decide) (fun _ => ?_) (fun h => absurd h (by decide))
    refine lv_iconst (v := 0) hx hb dX3_state_20 (by decide) ?_
    refine g_call hS (va_runV (As := [.int 0]) (rest := []) S.1 (metX3_checked l 0 hM) (cwV 1 S.ts (lw_V q1115 q1117 qs26 q39 q1118) rfl rfl rfl (by decide +kernel) ⟨Nat.le_of_ble_eq_true rfl, Nat.le_of_ble_eq_true rfl⟩) (S.preV hG hS hM.1 rfl) rfl rfl hl.1 rfl (lv_room (Nat.le_of_ble_eq_true rfl)) dX3_state_21 ⟨Nat.le_of_ble_eq_true rfl, Nat.le_of_ble_eq_true rfl⟩) (fun v G1 H locs hp hG hS => ?_)
    refine W.cs (cells' := 0) (slots' := 0) (by first | rfl | omega) (by first | rfl | omega) ?_
    obtain ⟨rfl, hM, hF2⟩ := hp
    have hF := hF.tr hF2
    have hM : Md E _ mo ma M fo fi 1 nn := hM
    refine W.eq (g2 := F0 m 24 ls [.int 1]) rfl ?_
    refine lv_if_le (tgt := 32) hx hb dX3_state_24 (by decide) (fun h => absurd h (by decide)) (fun _ => ?_)
    refine lv_bipush (v := 32) hx hb dX3_state_27 (by decide) ?_
    refine lv_goto (tgt := 42) hx hb dX3_state_29 (by decide) ?_
    exact g_zret rfl S hr dX3_state_42 hG hS (by first | exact Nat.le_refl _ | omega) (by first | exact Nat.le_refl _ | omega) ⟨32, rfl, fun q => absurd (hc.symm.trans q) (by decide), mdQ.bad hc (by decide) hM hF⟩
