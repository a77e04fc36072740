set_option maxHeartbeats 4000000 in
set_option maxRecDepth 100000 in
theorem metX3_looks (l : Launch) {E : Ev} {G : gh} {mo : Nat} {ma : Nat → Nat} {M : Nat → Nat → Int32} {fo : Nat → Int64} {fi : Nat → Int32} {th : Int32} {nn : Nat → Nat}  (hM : Md E G mo ma M fo fi th nn) (hwf : sp_wf M nn) : Met l yX3_looks (ws_ yX3_looks cX3_looks 7 (some .int)) ({ frames := 4, cells := 0, slots := 0, locals := 240 }) (gP E G [.ref mo]) (gQ E (fun v G' => v = some (.int (nI (sp_ct M (nn 4) (12 * nn 2)))) ∧ ∃ (fo' : Nat → Int64) (fi' : Nat → Int32), Md E G' mo ma (va_up M 14 (sp_ap M (nn 4) (12 * nn 2))) fo' fi' th nn ∧ gh_fr mdT G G')) 0 0 (ev_A E) := by
  have h16 : nn 1 ≤ 6 := hwf.1.1
  have h10 : nn 2 ≤ 10 := hwf.1.2.1
  have h34 : nn 3 ≤ 4 := hwf.1.2.2.1.2
  have h31 : 1 ≤ nn 3 := hwf.1.2.2.1.1
  refine gMet RX3 (by decide) rfl (Nat.le_of_ble_eq_true rfl) ?_
  intro p e s m below meth c ls hx hb S hr hnm hl hG hS
  have hl : lv_has ls 7 [(0, .ref mo)] := hl
  have hF : gh_fr mdT G G := gh_fr.rf
  refine lv_iconst (v := 0) hx hb dX3_looks_0 (by decide) ?_
  refine lv_istore_n (lv' := [(1, .int 0), (0, .ref mo)]) hx hb dX3_looks_1 rfl hl (by decide) rfl (fun ls hl => ?_)
  refine lv_iconst (v := 0) hx hb dX3_looks_2 (by decide) ?_
  refine lv_istore_n (lv' := [(2, .int 0), (1, .int 0), (0, .ref mo)]) hx hb dX3_looks_3 rfl hl (by decide) rfl (fun ls hl => ?_)
  have hl : lv_has ls 7 [(2, .int (nI 0)), (1, .int (nI (sp_ct M (nn 4) (12 * 0)))), (0, .ref mo)] := (lv_sub hl [0, 1, 2] rfl)
  refine g_while (α := Nat × (Nat → Int64) × (Nat → Int32)) (fun x => nn 2 - x.1) (fun x G1 => x.1 ≤ nn 2 ∧ Md E G1 mo ma (va_up M 14 (sp_ap M (nn 4) (12 * x.1))) x.2.1 x.2.2 th nn ∧ gh_fr mdT G G1) (fun _ => 0) (fun _ => 0) 7 4 (fun x => [(2, .int (nI x.1)), (1, .int (nI (sp_ct M (nn 4) (12 * x.1)))), (0, .ref mo)]) ?_ (0, fo, fi) G s.heap _ ls ⟨Nat.zero_le _, by show Md E G mo ma (va_up M 14 (sp_ap M (nn 4) (12 * 0))) fo fi th nn; rw [sp_ap_0]; exact hM, hF⟩ hG hS hl
  clear hM hF hG hS hl
  intro x G1 H locs ls ih hI hG hS hl
  obtain ⟨k, fo1, fi1⟩ := x
  obtain ⟨hk, hM, hF⟩ := hI
  have hk : k ≤ nn 2 := hk
  have hM : Md E G1 mo ma (va_up M 14 (sp_ap M (nn 4) (12 * k))) fo1 fi1 th nn := hM
  have hl : lv_has ls 7 [(2, .int (nI k)), (1, .int (nI (sp_ct M (nn 4) (12 * k)))), (0, .ref mo)] := hl
  refine lv_iload_n hx hb dX3_looks_4 rfl (lv_at hl 0 rfl) ?_
  refine lv_aload_n hx hb dX3_looks_5 rfl (lv_at hl 2 rfl) ?_
  refine gf_X3_68 S dX3_looks_6 hG hM.1 rfl ?_
  refine lv_icmp_ge (tgt := 139) hx hb dX3_looks_9 (by decide) (fun h9 => ?_) (fun h9 => ?_)
  · have e : k = nn 2 := by have := (nI_leI (by omega) (by omega)).mp h9; omega
    subst e
    refine lv_iload_n hx hb dX3_looks_139 rfl (lv_at hl 1 rfl) ?_
    exact g_iret S hr dX3_looks_140 hG hS (by first | exact Nat.le_refl _ | omega) (by first | exact Nat.le_refl _ | omega) ⟨rfl, fo1, fi1, hM, hF⟩
  · have hkl : k < nn 2 := Nat.lt_of_not_le fun q => h9 (nI_le q (by omega))
    refine lv_iconst (v := 0) hx hb dX3_looks_12 (by decide) ?_
    refine lv_istore_n (lv' := [(3, .int 0), (2, .int (nI k)), (1, .int (nI (sp_ct M (nn 4) (12 * k)))), (0, .ref mo)]) hx hb dX3_looks_13 rfl hl (by decide) rfl (fun ls hl => ?_)
    have hl : lv_has ls 7 [(3, .int (nI 0)), (1, .int (nI (sp_ct M (nn 4) (12 * k + 0)))), (2, .int (nI k)), (0, .ref mo)] := (lv_sub hl [0, 2, 1, 3] rfl)
    refine g_while (α := Nat × (Nat → Int64) × (Nat → Int32)) (fun x => 12 - x.1) (fun x G1 => x.1 ≤ 12 ∧ Md E G1 mo ma (va_up M 14 (sp_ap M (nn 4) (12 * k + x.1))) x.2.1 x.2.2 th nn ∧ gh_fr mdT G G1) (fun _ => 0) (fun _ => 0) 7 14 (fun x => [(3, .int (nI x.1)), (1, .int (nI (sp_ct M (nn 4) (12 * k + x.1)))), (2, .int (nI k)), (0, .ref mo)]) ?_ (0, fo1, fi1) G1 H _ ls ⟨Nat.zero_le _, hM, hF⟩ hG hS hl
    clear hM hF hG hS hl
    intro x G1 H locs ls ih2 hI hG hS hl
    obtain ⟨t, fo1, fi1⟩ := x
    obtain ⟨ht, hM, hF⟩ := hI
    have ht : t ≤ 12 := ht
    have hM : Md E G1 mo ma (va_up M 14 (sp_ap M (nn 4) (12 * k + t))) fo1 fi1 th nn := hM
    have hl : lv_has ls 7 [(3, .int (nI t)), (1, .int (nI (sp_ct M (nn 4) (12 * k + t)))), (2, .int (nI k)), (0, .ref mo)] := hl
    refine lv_iload_n hx hb dX3_looks_14 rfl (lv_at hl 0 rfl) ?_
    refine lv_bipush (v := 12) hx hb dX3_looks_15 (by decide) ?_
    refine lv_icmp_ge (tgt := 133) hx hb dX3_looks_17 (by decide) (fun h17 => ?_) (fun h17 => ?_)
    · have e : t = 12 := by have := (nI_leI (a := 12) (b := t) (by omega) (by omega)).mp h17; omega
      subst e
      refine lv_iinc (v := (nI (k + 1))) (lv' := [(2, .int (nI (k + 1))), (3, .int (nI 12)), (1, .int (nI (sp_ct M (nn 4) (12 * k + 12)))), (0, .ref mo)]) hx hb dX3_looks_133 hl (k := 2) rfl (nI_1 k) (by decide) rfl (fun ls hl => ?_)
      refine lv_goto (tgt := 4) hx hb dX3_looks_136 (by decide) ?_
      exact ih (k + 1, fo1, fi1) G1 H locs ls ⟨hkl, hM, hF⟩ (by show nn 2 - (k + 1) < nn 2 - k; omega) hG hS (lv_sub hl [0, 2, 3] rfl)
    · have htl : t < 12 := Nat.lt_of_not_le fun q => h17 (nI_le (a := 12) (b := t) q (by omega))
      have hst := sp_st_eq (M := M) (nx := nn 4) (k := k) htl
      have h120 : 12 * k + t < 120 := by omega
      refine lv_aload_n hx hb dX3_looks_20 rfl (lv_at hl 3 rfl) ?_
      refine gf_X3_53 S dX3_looks_21 hG hM.1 rfl ?_
      refine lv_iload_n hx hb dX3_looks_24 rfl (lv_at hl 2 rfl) ?_
      refine lv_iload_n hx hb dX3_looks_25 rfl (lv_at hl 0 rfl) ?_
      refine g_call hS (va_runS (As := [.int (nI k), .int (nI t)]) (rest := [.ref (ma 14)]) S.1 (metX3_at l (E := E) (G := _) (nI k) (nI t)) (va_cwS 2 S.ts (lw_S q1082 q1083 q39 q1084) rfl rfl rfl (by decide +kernel) ⟨Nat.le_of_ble_eq_true rfl, Nat.le_of_ble_eq_true rfl⟩) (S.pre hG hS) rfl rfl hl.1 rfl (lv_room (Nat.le_of_ble_eq_true rfl)) dX3_looks_26 ⟨Nat.le_of_ble_eq_true rfl, Nat.le_of_ble_eq_true rfl⟩) (fun v G1 H locs hp hG hS => ?_)
      refine W.cs (cells' := 0) (slots' := 0) (by first | rfl | omega) (by first | rfl | omega) ?_
      obtain ⟨rfl, rfl⟩ := hp
      refine W.eq (g2 := F0 m 29 ls [.int (nI (12 * k + t)), .ref (ma 14)]) (by rw [← sp_at]; rfl) ?_
      refine n_cald S dX3_looks_29 hG (hM.arr 14 (by decide)) (gix.mk (show 12 * k + t < 120 by omega) (by decide)) ?_
      refine W.eq (g2 := F0 m 30 ls [.int (M 14 (12 * k + t))]) (by rw [sp_ap_at]) ?_
      refine lv_bipush (v := 97) hx hb dX3_looks_30 (by decide) ?_
      refine lv_icmp_eq (tgt := 38) hx hb dX3_looks_32 (by decide) (fun h32 => ?_) (fun h32 => ?_)
      · refine lv_aload_n hx hb dX3_looks_38 rfl (lv_at hl 3 rfl) ?_
        refine lv_iconst (v := 0) hx hb dX3_looks_39 (by decide) ?_
        refine lv_iload_n hx hb dX3_looks_40 rfl (lv_at hl 2 rfl) ?_
        refine lv_iload_n hx hb dX3_looks_41 rfl (lv_at hl 0 rfl) ?_
        refine lv_bipush (v := 6) hx hb dX3_looks_42 (by decide) ?_
        refine g_call hS (va_runV (As := [.int 0, .int (nI k), .int (nI t), .int 6]) (rest := []) S.1 (metX3_finds l 0 k t 6 hM (sp_ap_wf hwf (by omega)) (by omega) hkl htl) (cwV 4 S.ts (lw_V q1085 q1087 qs21 q39 q1088) rfl rfl rfl (by decide +kernel) ⟨Nat.le_of_ble_eq_true rfl, Nat.le_of_ble_eq_true rfl⟩) (S.preV hG hS hM.1 rfl) rfl rfl hl.1 rfl (lv_room (Nat.le_of_ble_eq_true rfl)) dX3_looks_44 ⟨Nat.le_of_ble_eq_true rfl, Nat.le_of_ble_eq_true rfl⟩) (fun v G1 H locs hp hG hS => ?_)
        refine W.cs (cells' := 0) (slots' := 0) (by first | rfl | omega) (by first | rfl | omega) ?_
        obtain ⟨r, fo2, fi2, rfl, hM, hF2, hrr⟩ := hp
        have hF := hF.tr hF2
        rw [sp_fd_14] at hrr
        refine W.eq (g2 := F0 m 47 ls [.int r]) rfl ?_
        refine lv_istore (lv' := [(4, .int r), (3, .int (nI t)), (1, .int (nI (sp_ct M (nn 4) (12 * k + t)))), (2, .int (nI k)), (0, .ref mo)]) hx hb dX3_looks_47 hl (by decide) rfl (fun ls hl => ?_)
        refine lv_aload_n hx hb dX3_looks_49 rfl (lv_at hl 4 rfl) ?_
        refine gf_X3_57 S dX3_looks_50 hG hM.1 rfl ?_
        refine lv_iload_n hx hb dX3_looks_53 rfl (lv_at hl 3 rfl) ?_
        refine n_lald S dX3_looks_54 hG hM.2.2.2 (gix.mk (show k < 10 by omega) (by decide)) ?_
        refine lv_aload_n hx hb dX3_looks_55 rfl (lv_at hl 4 rfl) ?_
        refine gf_X3_40 S dX3_looks_56 hG hM.1 rfl ?_
        refine lv_iload_n hx hb dX3_looks_59 rfl (lv_at hl 3 rfl) ?_
        refine lv_iload_n hx hb dX3_looks_60 rfl (lv_at hl 1 rfl) ?_
        refine g_call hS (va_runS (As := [.int (nI k), .int (nI t)]) (rest := [.ref (ma 10), .long (fo2 k)]) S.1 (metX3_at l (E := E) (G := _) (nI k) (nI t)) (va_cwS 2 S.ts (lw_S q1082 q1083 q39 q1084) rfl rfl rfl (by decide +kernel) ⟨Nat.le_of_ble_eq_true rfl, Nat.le_of_ble_eq_true rfl⟩) (S.pre hG hS) rfl rfl hl.1 rfl (lv_room (Nat.le_of_ble_eq_true rfl)) dX3_looks_61 ⟨Nat.le_of_ble_eq_true rfl, Nat.le_of_ble_eq_true rfl⟩) (fun v G1 H locs hp hG hS => ?_)
        refine W.cs (cells' := 0) (slots' := 0) (by first | rfl | omega) (by first | rfl | omega) ?_
        obtain ⟨rfl, rfl⟩ := hp
        refine W.eq (g2 := F0 m 64 ls [.int (nI (12 * k + t)), .ref (ma 10), .long (fo2 k)]) (by rw [← sp_at]; rfl) ?_
        refine n_iald S dX3_looks_64 hG (hM.arr 10 (by decide)) (gix.mk (show 12 * k + t < 120 by omega) (by decide)) ?_
        refine W.eq (g2 := F0 m 65 ls [.int (M 10 (12 * k + t)), .long (fo2 k)]) rfl ?_
        refine lv_i2l (v := (M 10 (12 * k + t)).toInt64) hx hb dX3_looks_65 rfl ?_
        refine lv_lsub hx hb dX3_looks_66 ?_
        refine lv_lstore (lv' := [(5, .long ((fo2 k) - (M 10 (12 * k + t)).toInt64)), (4, .int r), (3, .int (nI t)), (1, .int (nI (sp_ct M (nn 4) (12 * k + t)))), (2, .int (nI k)), (0, .ref mo)]) hx hb dX3_looks_67 hl (by decide) rfl (fun ls hl => ?_)
        refine lv_iload hx hb dX3_looks_69 (lv_at hl 1 rfl) ?_
        refine lv_if_eq (tgt := 112) hx hb dX3_looks_71 (by decide) (fun h71 => ?_) (fun h71 => ?_)
        · have hs1 : sp_st M (nn 4) (12 * k + t) = true := by rw [hst]; rcases hrr with h | h; exact absurd (h71 ▸ h.1) (by decide); rw [h.2]; simp [h32]
          refine lv_aload_n hx hb dX3_looks_112 rfl (lv_at hl 5 rfl) ?_
          refine gf_X3_53 S dX3_looks_113 hG hM.1 rfl ?_
          refine lv_iload_n hx hb dX3_looks_116 rfl (lv_at hl 4 rfl) ?_
          refine lv_iload_n hx hb dX3_looks_117 rfl (lv_at hl 2 rfl) ?_
          refine g_call hS (va_runS (As := [.int (nI k), .int (nI t)]) (rest := [.ref (ma 14)]) S.1 (metX3_at l (E := E) (G := _) (nI k) (nI t)) (va_cwS 2 S.ts (lw_S q1082 q1083 q39 q1084) rfl rfl rfl (by decide +kernel) ⟨Nat.le_of_ble_eq_true rfl, Nat.le_of_ble_eq_true rfl⟩) (S.pre hG hS) rfl rfl hl.1 rfl (lv_room (Nat.le_of_ble_eq_true rfl)) dX3_looks_118 ⟨Nat.le_of_ble_eq_true rfl, Nat.le_of_ble_eq_true rfl⟩) (fun v G1 H locs hp hG hS => ?_)
          refine W.cs (cells' := 0) (slots' := 0) (by first | rfl | omega) (by first | rfl | omega) ?_
          obtain ⟨rfl, rfl⟩ := hp
          refine W.eq (g2 := F0 m 121 ls [.int (nI (12 * k + t)), .ref (ma 14)]) (by rw [← sp_at]; rfl) ?_
          refine lv_bipush (v := 111) hx hb dX3_looks_121 (by decide) ?_
          refine n_cast S dX3_looks_123 hG hS (hM.arr 14 (by decide)) (gix.mk (show 12 * k + t < 120 by omega) (by decide)) (fun H locs hG hS => ?_)
          obtain ⟨G3, hG, hF, hM⟩ : ∃ G3, gh_W E G3 H ∧ gh_fr mdT G G3 ∧ Md E G3 mo ma (va_up M 14 (sp_ap M (nn 4) (12 * k + t + 1))) fo2 fi2 th nn := ⟨_, hG, hF.tr (gh_fr.set (hM.arr 14 (by decide)) (Or.inr (Or.inl rfl))), by
            have h := hM.set 14 (by decide) (upd (sp_ap M (nn 4) (12 * k + t)) (12 * k + t) 111)
            rw [← sp_ap_t hs1] at h
            have e : va_up (va_up M 14 (sp_ap M (nn 4) (12 * k + t))) 14 (sp_ap M (nn 4) (12 * k + t + 1)) = (va_up M 14 (sp_ap M (nn 4) (12 * k + t + 1))) := bx_uu _ _ _ _
            rw [e, sp_ap_t hs1] at h
            rw [sp_ap_t hs1]
            exact h⟩
          refine lv_iinc (v := (nI (sp_ct M (nn 4) (12 * k + t) + 1))) (lv' := [(1, .int (nI (sp_ct M (nn 4) (12 * k + t) + 1))), (5, .long (fo2 k - (M 10 (12 * k + t)).toInt64)), (4, .int r), (3, .int (nI t)), (2, .int (nI k)), (0, .ref mo)]) hx hb dX3_looks_124 hl (k := 3) rfl (nI_1 _) (by decide) rfl (fun ls hl => ?_)
          refine lv_iinc (v := (nI (t + 1))) (lv' := [(3, .int (nI (t + 1))), (1, .int (nI (sp_ct M (nn 4) (12 * k + t) + 1))), (5, .long (fo2 k - (M 10 (12 * k + t)).toInt64)), (4, .int r), (2, .int (nI k)), (0, .ref mo)]) hx hb dX3_looks_127 hl (k := 3) rfl (nI_1 _) (by decide) rfl (fun ls hl => ?_)
          refine lv_goto (tgt := 14) hx hb dX3_looks_130 (by decide) ?_
          refine ih2 (t + 1, fo2, fi2) G3 H locs ls ⟨htl, hM, hF⟩ (by show 12 - (t + 1) < 12 - t; omega) hG hS ?_
          show lv_has ls 7 [(3, .int (nI (t + 1))), (1, .int (nI (sp_ct M (nn 4) (12 * k + t + 1)))), (2, .int (nI k)), (0, .ref mo)]; rw [sp_ct_t hs1]; exact (lv_sub hl [0, 1, 4, 5] rfl)
        · have hfd : sp_fd M (nn 4) 0 t sp_al 10 k = some (fo2 k) := by rcases hrr with h | h; exact h.2; exact absurd h.1 h71
          refine lv_lload hx hb dX3_looks_74 (lv_at hl 0 rfl) ?_
          refine lv_aload_n hx hb dX3_looks_76 rfl (lv_at hl 5 rfl) ?_
          refine gf_X3_43 S dX3_looks_77 hG hM.1 rfl ?_
          refine lv_iload_n hx hb dX3_looks_80 rfl (lv_at hl 4 rfl) ?_
          refine lv_iload_n hx hb dX3_looks_81 rfl (lv_at hl 2 rfl) ?_
          refine g_call hS (va_runS (As := [.int (nI k), .int (nI t)]) (rest := [.ref (ma 11), .long (fo2 k - (M 10 (12 * k + t)).toInt64)]) S.1 (metX3_at l (E := E) (G := _) (nI k) (nI t)) (va_cwS 2 S.ts (lw_S q1082 q1083 q39 q1084) rfl rfl rfl (by decide +kernel) ⟨Nat.le_of_ble_eq_true rfl, Nat.le_of_ble_eq_true rfl⟩) (S.pre hG hS) rfl rfl hl.1 rfl (lv_room (Nat.le_of_ble_eq_true rfl)) dX3_looks_82 ⟨Nat.le_of_ble_eq_true rfl, Nat.le_of_ble_eq_true rfl⟩) (fun v G1 H locs hp hG hS => ?_)
          refine W.cs (cells' := 0) (slots' := 0) (by first | rfl | omega) (by first | rfl | omega) ?_
          obtain ⟨rfl, rfl⟩ := hp
          refine W.eq (g2 := F0 m 85 ls [.int (nI (12 * k + t)), .ref (ma 11), .long (fo2 k - (M 10 (12 * k + t)).toInt64)]) (by rw [← sp_at]; rfl) ?_
          refine n_iald S dX3_looks_85 hG (hM.arr 11 (by decide)) (gix.mk (show 12 * k + t < 120 by omega) (by decide)) ?_
          refine W.eq (g2 := F0 m 86 ls [.int (M 11 (12 * k + t)), .long (fo2 k - (M 10 (12 * k + t)).toInt64)]) rfl ?_
          refine lv_i2l (v := (M 11 (12 * k + t)).toInt64) hx hb dX3_looks_86 rfl ?_
          refine W.lcmp hx hb dX3_looks_87 ?_
          refine lv_if_gt (tgt := 112) hx hb dX3_looks_88 (by decide) (fun h88 => ?_) (fun h88 => ?_)
          · have hs1 : sp_st M (nn 4) (12 * k + t) = true := by rw [hst, hfd]; simp [h32, Int64.not_le.mpr ((lg_cmp_gt _ _).mp h88)]
            refine lv_aload_n hx hb dX3_looks_112 rfl (lv_at hl 5 rfl) ?_
            refine gf_X3_53 S dX3_looks_113 hG hM.1 rfl ?_
            refine lv_iload_n hx hb dX3_looks_116 rfl (lv_at hl 4 rfl) ?_
            refine lv_iload_n hx hb dX3_looks_117 rfl (lv_at hl 2 rfl) ?_
            refine g_call hS (va_runS (As := [.int (nI k), .int (nI t)]) (rest := [.ref (ma 14)]) S.1 (metX3_at l (E := E) (G := _) (nI k) (nI t)) (va_cwS 2 S.ts (lw_S q1082 q1083 q39 q1084) rfl rfl rfl (by decide +kernel) ⟨Nat.le_of_ble_eq_true rfl, Nat.le_of_ble_eq_true rfl⟩) (S.pre hG hS) rfl rfl hl.1 rfl (lv_room (Nat.le_of_ble_eq_true rfl)) dX3_looks_118 ⟨Nat.le_of_ble_eq_true rfl, Nat.le_of_ble_eq_true rfl⟩) (fun v G1 H locs hp hG hS => ?_)
            refine W.cs (cells' := 0) (slots' := 0) (by first | rfl | omega) (by first | rfl | omega) ?_
            obtain ⟨rfl, rfl⟩ := hp
            refine W.eq (g2 := F0 m 121 ls [.int (nI (12 * k + t)), .ref (ma 14)]) (by rw [← sp_at]; rfl) ?_
            refine lv_bipush (v := 111) hx hb dX3_looks_121 (by decide) ?_
            refine n_cast S dX3_looks_123 hG hS (hM.arr 14 (by decide)) (gix.mk (show 12 * k + t < 120 by omega) (by decide)) (fun H locs hG hS => ?_)
            obtain ⟨G3, hG, hF, hM⟩ : ∃ G3, gh_W E G3 H ∧ gh_fr mdT G G3 ∧ Md E G3 mo ma (va_up M 14 (sp_ap M (nn 4) (12 * k + t + 1))) fo2 fi2 th nn := ⟨_, hG, hF.tr (gh_fr.set (hM.arr 14 (by decide)) (Or.inr (Or.inl rfl))), by
              have h := hM.set 14 (by decide) (upd (sp_ap M (nn 4) (12 * k + t)) (12 * k + t) 111)
              rw [← sp_ap_t hs1] at h
              have e : va_up (va_up M 14 (sp_ap M (nn 4) (12 * k + t))) 14 (sp_ap M (nn 4) (12 * k + t + 1)) = (va_up M 14 (sp_ap M (nn 4) (12 * k + t + 1))) := bx_uu _ _ _ _
              rw [e, sp_ap_t hs1] at h
              rw [sp_ap_t hs1]
              exact h⟩
            refine lv_iinc (v := (nI (sp_ct M (nn 4) (12 * k + t) + 1))) (lv' := [(1, .int (nI (sp_ct M (nn 4) (12 * k + t) + 1))), (5, .long (fo2 k - (M 10 (12 * k + t)).toInt64)), (4, .int r), (3, .int (nI t)), (2, .int (nI k)), (0, .ref mo)]) hx hb dX3_looks_124 hl (k := 3) rfl (nI_1 _) (by decide) rfl (fun ls hl => ?_)
            refine lv_iinc (v := (nI (t + 1))) (lv' := [(3, .int (nI (t + 1))), (1, .int (nI (sp_ct M (nn 4) (12 * k + t) + 1))), (5, .long (fo2 k - (M 10 (12 * k + t)).toInt64)), (4, .int r), (2, .int (nI k)), (0, .ref mo)]) hx hb dX3_looks_127 hl (k := 3) rfl (nI_1 _) (by decide) rfl (fun ls hl => ?_)
            refine lv_goto (tgt := 14) hx hb dX3_looks_130 (by decide) ?_
            refine ih2 (t + 1, fo2, fi2) G3 H locs ls ⟨htl, hM, hF⟩ (by show 12 - (t + 1) < 12 - t; omega) hG hS ?_
            show lv_has ls 7 [(3, .int (nI (t + 1))), (1, .int (nI (sp_ct M (nn 4) (12 * k + t + 1)))), (2, .int (nI k)), (0, .ref mo)]; rw [sp_ct_t hs1]; exact (lv_sub hl [0, 1, 4, 5] rfl)
          · refine lv_lload hx hb dX3_looks_91 (lv_at hl 0 rfl) ?_
            refine lv_lneg hx hb dX3_looks_93 ?_
            refine lv_aload_n hx hb dX3_looks_94 rfl (lv_at hl 5 rfl) ?_
            refine gf_X3_43 S dX3_looks_95 hG hM.1 rfl ?_
            refine lv_iload_n hx hb dX3_looks_98 rfl (lv_at hl 4 rfl) ?_
            refine lv_iload_n hx hb dX3_looks_99 rfl (lv_at hl 2 rfl) ?_
            refine g_call hS (va_runS (As := [.int (nI k), .int (nI t)]) (rest := [.ref (ma 11), .long (-(fo2 k - (M 10 (12 * k + t)).toInt64))]) S.1 (metX3_at l (E := E) (G := _) (nI k) (nI t)) (va_cwS 2 S.ts (lw_S q1082 q1083 q39 q1084) rfl rfl rfl (by decide +kernel) ⟨Nat.le_of_ble_eq_true rfl, Nat.le_of_ble_eq_true rfl⟩) (S.pre hG hS) rfl rfl hl.1 rfl (lv_room (Nat.le_of_ble_eq_true rfl)) dX3_looks_100 ⟨Nat.le_of_ble_eq_true rfl, Nat.le_of_ble_eq_true rfl⟩) (fun v G1 H locs hp hG hS => ?_)
            refine W.cs (cells' := 0) (slots' := 0) (by first | rfl | omega) (by first | rfl | omega) ?_
            obtain ⟨rfl, rfl⟩ := hp
            refine W.eq (g2 := F0 m 103 ls [.int (nI (12 * k + t)), .ref (ma 11), .long (-(fo2 k - (M 10 (12 * k + t)).toInt64))]) (by rw [← sp_at]; rfl) ?_
            refine n_iald S dX3_looks_103 hG (hM.arr 11 (by decide)) (gix.mk (show 12 * k + t < 120 by omega) (by decide)) ?_
            refine W.eq (g2 := F0 m 104 ls [.int (M 11 (12 * k + t)), .long (-(fo2 k - (M 10 (12 * k + t)).toInt64))]) rfl ?_
            refine lv_i2l (v := (M 11 (12 * k + t)).toInt64) hx hb dX3_looks_104 rfl ?_
            refine W.lcmp hx hb dX3_looks_105 ?_
            refine lv_if_gt (tgt := 112) hx hb dX3_looks_106 (by decide) (fun h106 => ?_) (fun h106 => ?_)
            · have hs1 : sp_st M (nn 4) (12 * k + t) = true := by rw [hst, hfd]; simp only [h32, Bool.not_eq_true, Bool.and_eq_true, decide_true, Bool.true_and, Bool.not_eq_eq_eq_not, Bool.not_true, Bool.and_eq_false_iff, decide_eq_false_iff_not]; exact Or.inr (Int64.not_le.mpr ((lg_cmp_gt _ _).mp h106))
              refine lv_aload_n hx hb dX3_looks_112 rfl (lv_at hl 5 rfl) ?_
              refine gf_X3_53 S dX3_looks_113 hG hM.1 rfl ?_
              refine lv_iload_n hx hb dX3_looks_116 rfl (lv_at hl 4 rfl) ?_
              refine lv_iload_n hx hb dX3_looks_117 rfl (lv_at hl 2 rfl) ?_
              refine g_call hS (va_runS (As := [.int (nI k), .int (nI t)]) (rest := [.ref (ma 14)]) S.1 (metX3_at l (E := E) (G := _) (nI k) (nI t)) (va_cwS 2 S.ts (lw_S q1082 q1083 q39 q1084) rfl rfl rfl (by decide +kernel) ⟨Nat.le_of_ble_eq_true rfl, Nat.le_of_ble_eq_true rfl⟩) (S.pre hG hS) rfl rfl hl.1 rfl (lv_room (Nat.le_of_ble_eq_true rfl)) dX3_looks_118 ⟨Nat.le_of_ble_eq_true rfl, Nat.le_of_ble_eq_true rfl⟩) (fun v G1 H locs hp hG hS => ?_)
              refine W.cs (cells' := 0) (slots' := 0) (by first | rfl | omega) (by first | rfl | omega) ?_
              obtain ⟨rfl, rfl⟩ := hp
              refine W.eq (g2 := F0 m 121 ls [.int (nI (12 * k + t)), .ref (ma 14)]) (by rw [← sp_at]; rfl) ?_
              refine lv_bipush (v := 111) hx hb dX3_looks_121 (by decide) ?_
              refine n_cast S dX3_looks_123 hG hS (hM.arr 14 (by decide)) (gix.mk (show 12 * k + t < 120 by omega) (by decide)) (fun H locs hG hS => ?_)
              obtain ⟨G3, hG, hF, hM⟩ : ∃ G3, gh_W E G3 H ∧ gh_fr mdT G G3 ∧ Md E G3 mo ma (va_up M 14 (sp_ap M (nn 4) (12 * k + t + 1))) fo2 fi2 th nn := ⟨_, hG, hF.tr (gh_fr.set (hM.arr 14 (by decide)) (Or.inr (Or.inl rfl))), by
                have h := hM.set 14 (by decide) (upd (sp_ap M (nn 4) (12 * k + t)) (12 * k + t) 111)
                rw [← sp_ap_t hs1] at h
                have e : va_up (va_up M 14 (sp_ap M (nn 4) (12 * k + t))) 14 (sp_ap M (nn 4) (12 * k + t + 1)) = (va_up M 14 (sp_ap M (nn 4) (12 * k + t + 1))) := bx_uu _ _ _ _
                rw [e, sp_ap_t hs1] at h
                rw [sp_ap_t hs1]
                exact h⟩
              refine lv_iinc (v := (nI (sp_ct M (nn 4) (12 * k + t) + 1))) (lv' := [(1, .int (nI (sp_ct M (nn 4) (12 * k + t) + 1))), (5, .long (fo2 k - (M 10 (12 * k + t)).toInt64)), (4, .int r), (3, .int (nI t)), (2, .int (nI k)), (0, .ref mo)]) hx hb dX3_looks_124 hl (k := 3) rfl (nI_1 _) (by decide) rfl (fun ls hl => ?_)
              refine lv_iinc (v := (nI (t + 1))) (lv' := [(3, .int (nI (t + 1))), (1, .int (nI (sp_ct M (nn 4) (12 * k + t) + 1))), (5, .long (fo2 k - (M 10 (12 * k + t)).toInt64)), (4, .int r), (2, .int (nI k)), (0, .ref mo)]) hx hb dX3_looks_127 hl (k := 3) rfl (nI_1 _) (by decide) rfl (fun ls hl => ?_)
              refine lv_goto (tgt := 14) hx hb dX3_looks_130 (by decide) ?_
              refine ih2 (t + 1, fo2, fi2) G3 H locs ls ⟨htl, hM, hF⟩ (by show 12 - (t + 1) < 12 - t; omega) hG hS ?_
              show lv_has ls 7 [(3, .int (nI (t + 1))), (1, .int (nI (sp_ct M (nn 4) (12 * k + t + 1)))), (2, .int (nI k)), (0, .ref mo)]; rw [sp_ct_t hs1]; exact (lv_sub hl [0, 1, 4, 5] rfl)
            · refine lv_goto (tgt := 127) hx hb dX3_looks_109 (by decide) ?_
              have hs0 : sp_st M (nn 4) (12 * k + t) = false := by rw [hst, hfd]; have a := Int64.not_lt.mp (fun q => h88 ((lg_cmp_gt _ _).mpr q)); have b := Int64.not_lt.mp (fun q => h106 ((lg_cmp_gt _ _).mpr q)); simp only [a, b, decide_true, Bool.and_self, Bool.not_true, Bool.and_false]
              refine lv_iinc (v := (nI (t + 1))) (lv' := [(3, .int (nI (t + 1))), (5, .long (fo2 k - (M 10 (12 * k + t)).toInt64)), (4, .int r), (1, .int (nI (sp_ct M (nn 4) (12 * k + t)))), (2, .int (nI k)), (0, .ref mo)]) hx hb dX3_looks_127 hl (k := 2) rfl (nI_1 t) (by decide) rfl (fun ls hl => ?_)
              refine lv_goto (tgt := 14) hx hb dX3_looks_130 (by decide) ?_
              refine ih2 (t + 1, fo2, fi2) _ H locs ls ⟨htl, ?_, hF⟩ (by show 12 - (t + 1) < 12 - t; omega) hG hS ?_
              · show Md E _ mo ma (va_up M 14 (sp_ap M (nn 4) (12 * k + t + 1))) _ _ th nn; rw [sp_ap_f hs0]; exact hM
              · show lv_has ls 7 [(3, .int (nI (t + 1))), (1, .int (nI (sp_ct M (nn 4) (12 * k + t + 1)))), (2, .int (nI k)), (0, .ref mo)]; rw [sp_ct_f hs0]; exact (lv_sub hl [0, 3, 4, 5] rfl)
      · refine lv_goto (tgt := 127) hx hb dX3_looks_35 (by decide) ?_
        have hs0 : sp_st M (nn 4) (12 * k + t) = false := by rw [hst]; simp [h32]
        refine lv_iinc (v := (nI (t + 1))) (lv' := [(3, .int (nI (t + 1))), (1, .int (nI (sp_ct M (nn 4) (12 * k + t)))), (2, .int (nI k)), (0, .ref mo)]) hx hb dX3_looks_127 hl (k := 0) rfl (nI_1 t) (by decide) rfl (fun ls hl => ?_)
        refine lv_goto (tgt := 14) hx hb dX3_looks_130 (by decide) ?_
        refine ih2 (t + 1, fo1, fi1) _ H locs ls ⟨htl, ?_, hF⟩ (by show 12 - (t + 1) < 12 - t; omega) hG hS ?_
        · show Md E _ mo ma (va_up M 14 (sp_ap M (nn 4) (12 * k + t + 1))) _ _ th nn; rw [sp_ap_f hs0]; exact hM
        · show lv_has ls 7 [(3, .int (nI (t + 1))), (1, .int (nI (sp_ct M (nn 4) (12 * k + t + 1)))), (2, .int (nI k)), (0, .ref mo)]; rw [sp_ct_f hs0]; exact (lv_sub hl [0, 1, 2, 3] rfl)
set_option maxHeartbeats 4000000 in
set_option maxRecDepth 100000 in
theorem metX3_many (l : Launch) {E : Ev} {G : gh} {mo : Nat} {ma : Nat → Nat} {M : Nat → Nat → Int32} {fo : Nat → Int64} {fi : Nat → Int32} {th : Int32} {nn : Nat → Nat} (x : Int32) (hM : Md E G mo ma M fo fi th nn) : Met l yX3_many (ws_ yX3_many cX3_many 4 (some .int)) ({ frames := 0, cells := 0, slots := 0, locals := 0 }) (gP E G [.ref mo, .int x]) (gQ E (fun v G' => v = some (.int (nI (sp_mn (M 14) x 120))) ∧ G = G')) 0 0 (ev_A E) := by
  refine gMet RX3 (by decide) rfl (Nat.le_of_ble_eq_true rfl) ?_
  intro p e s m below meth c ls hx hb S hr hnm hl hG hS
  have hl : lv_has ls 4 [(0, .ref mo), (1, .int x)] := hl
  have hF : gh_fr mdT G G := gh_fr.rf
  refine lv_iconst (v := 0) hx hb dX3_many_0 (by decide) ?_
  refine lv_istore_n (lv' := [(2, .int 0), (0, .ref mo), (1, .int x)]) hx hb dX3_many_1 rfl hl (by decide) rfl (fun ls hl => ?_)
  refine lv_iconst (v := 0) hx hb dX3_many_2 (by decide) ?_
  refine lv_istore_n (lv' := [(3, .int 0), (2, .int 0), (0, .ref mo), (1, .int x)]) hx hb dX3_many_3 rfl hl (by decide) rfl (fun ls hl => ?_)
  have hl : lv_has ls 4 [(3, .int (nI 0)), (2, .int (nI (sp_mn (M 14) x 0))), (0, .ref mo), (1, .int x)] := (lv_sub hl [0, 1, 2, 3] rfl)
  refine g_while (α := Nat) (fun k => 120 - k) (fun k G1 => G = G1 ∧ k ≤ 120) (fun _ => 0) (fun _ => 0) 4 4 (fun k => [(3, .int (nI k)), (2, .int (nI (sp_mn (M 14) x k))), (0, .ref mo), (1, .int x)]) ?_ 0 G s.heap _ ls ⟨rfl, Nat.zero_le _⟩ hG hS hl
  intro k G1 H locs ls ih hI hG hS hl
  obtain ⟨rfl, hk⟩ := hI
  have hl : lv_has ls 4 [(3, .int (nI k)), (2, .int (nI (sp_mn (M 14) x k))), (0, .ref mo), (1, .int x)] := hl
  refine lv_iload_n hx hb dX3_many_4 rfl (lv_at hl 0 rfl) ?_
  refine lv_bipush (v := 120) hx hb dX3_many_5 (by decide) ?_
  refine lv_icmp_ge (tgt := 34) hx hb dX3_many_7 (by decide) (fun h7 => ?_) (fun h7 => ?_)
  · have e : k = 120 := by have := (nI_leI (a := 120) (b := k) (by omega) (by omega)).mp h7; omega
    subst e
    refine lv_iload_n hx hb dX3_many_34 rfl (lv_at hl 1 rfl) ?_
    exact g_iret S hr dX3_many_35 hG hS (by first | exact Nat.le_refl _ | omega) (by first | exact Nat.le_refl _ | omega) ⟨rfl, rfl⟩
  · have hkl : k < 120 := Nat.lt_of_not_le fun q => h7 (nI_le (a := 120) (b := k) q (by omega))
    refine lv_iload_n hx hb dX3_many_10 rfl (lv_at hl 1 rfl) ?_
    refine lv_aload_n hx hb dX3_many_11 rfl (lv_at hl 2 rfl) ?_
    refine gf_X3_53 S dX3_many_12 hG hM.1 rfl ?_
    refine lv_iload_n hx hb dX3_many_15 rfl (lv_at hl 0 rfl) ?_
    refine n_cald S dX3_many_16 hG (hM.arr 14 (by decide)) (gix.mk (show k < 120 by omega) (by decide)) ?_
    refine lv_iload_n hx hb dX3_many_17 rfl (lv_at hl 3 rfl) ?_
    refine lv_icmp_ne (tgt := 25) hx hb dX3_many_18 (by decide) (fun h18 => ?_) (fun h18 => ?_)
    · refine lv_iconst (v := 0) hx hb dX3_many_25 (by decide) ?_
      refine lv_iadd hx hb dX3_many_26 ?_
      refine W.eq (g2 := F0 m 27 ls [.int (nI (sp_mn (M 14) x (k + 1)))]) (by rw [sp_mn_f h18]; exact congrArg (fun z => F0 m 27 ls [.int z]) (Int32.add_zero _)) ?_
      refine lv_istore_n (lv' := [(2, .int (nI (sp_mn (M 14) x (k + 1)))), (3, .int (nI k)), (0, .ref mo), (1, .int x)]) hx hb dX3_many_27 rfl hl (by decide) rfl (fun ls hl => ?_)
      refine lv_iinc (v := (nI (k + 1))) (lv' := [(3, .int (nI (k + 1))), (2, .int (nI (sp_mn (M 14) x (k + 1)))), (0, .ref mo), (1, .int x)]) hx hb dX3_many_28 hl (k := 1) rfl (nI_1 k) (by decide) rfl (fun ls hl => ?_)
      refine lv_goto (tgt := 4) hx hb dX3_many_31 (by decide) ?_
      exact ih (k + 1) G H locs ls ⟨rfl, hkl⟩ (by show 120 - (k + 1) < 120 - k; omega) hG hS (lv_sub hl [0, 1, 2, 3] rfl)
    · refine lv_iconst (v := 1) hx hb dX3_many_21 (by decide) ?_
      refine lv_goto (tgt := 26) hx hb dX3_many_22 (by decide) ?_
      refine lv_iadd hx hb dX3_many_26 ?_
      refine W.eq (g2 := F0 m 27 ls [.int (nI (sp_mn (M 14) x (k + 1)))]) (by rw [sp_mn_t h18]; exact congrArg (fun z => F0 m 27 ls [.int z]) (nI_1 _)) ?_
      refine lv_istore_n (lv' := [(2, .int (nI (sp_mn (M 14) x (k + 1)))), (3, .int (nI k)), (0, .ref mo), (1, .int x)]) hx hb dX3_many_27 rfl hl (by decide) rfl (fun ls hl => ?_)
      refine lv_iinc (v := (nI (k + 1))) (lv' := [(3, .int (nI (k + 1))), (2, .int (nI (sp_mn (M 14) x (k + 1)))), (0, .ref mo), (1, .int x)]) hx hb dX3_many_28 hl (k := 1) rfl (nI_1 k) (by decide) rfl (fun ls hl => ?_)
      refine lv_goto (tgt := 4) hx hb dX3_many_31 (by decide) ?_
      exact ih (k + 1) G H locs ls ⟨rfl, hkl⟩ (by show 120 - (k + 1) < 120 - k; omega) hG hS (lv_sub hl [0, 1, 2, 3] rfl)
