set_option maxHeartbeats 4000000 in
set_option maxRecDepth 100000 in
theorem metX3_differ (l : Launch) {E : Ev} {G : gh} {mo : Nat} {ma : Nat → Nat} {M : Nat → Nat → Int32} {fo : Nat → Int64} {fi : Nat → Int32} {th : Int32} {nn : Nat → Nat} (x y z u : Int32) (hM : Md E G mo ma M fo fi th nn) (hwf : sp_wf M nn) : Met l yX3_differ (ws_ yX3_differ cX3_differ 7 (some .int)) ({ frames := 2, cells := 0, slots := 0, locals := 80 }) (gP E G [.ref mo, .int x, .int y, .int z, .int u]) (gQ E (fun v G' => mdI E G mo ma (oc5 nn x y z u) (nI (sp_mn ((oM5 M nn x y z u) 5) x (nn 4 + 1))) M (oM5 M nn x y z u) nn (va_up nn 4 (nn 4 + 1)) v G')) 0 0 (ev_A E) := by
  have h16 : nn 1 ≤ 6 := hwf.1.1
  have h10 : nn 2 ≤ 10 := hwf.1.2.1
  have h34 : nn 3 ≤ 4 := hwf.1.2.2.1.2
  have h31 : 1 ≤ nn 3 := hwf.1.2.2.1.1
  have h412 : nn 4 ≤ 12 := hwf.1.2.2.2.1
  have h511 : nn 5 ≤ 11 := hwf.1.2.2.2.2
  refine gMet RX3 (by decide) rfl (Nat.le_of_ble_eq_true rfl) ?_
  intro p e s m below meth c ls hx hb S hr hnm hl hG hS
  have hl : lv_has ls 7 [(0, .ref mo), (1, .int x), (2, .int y), (3, .int z), (4, .int u)] := hl
  have hF : gh_fr mdT G G := gh_fr.rf
  refine lv_aload_n hx hb dX3_differ_0 rfl (lv_at hl 0 rfl) ?_
  refine lv_aload_n hx hb dX3_differ_1 rfl (lv_at hl 0 rfl) ?_
  refine lv_iload_n hx hb dX3_differ_2 rfl (lv_at hl 1 rfl) ?_
  refine g_call hS (va_runV (As := [.int x]) (rest := [.ref mo]) S.1 (metX3_isScenario l x hM) (cwV 1 S.ts (lw_V q1108 q1110 qs25 q39 q1111) rfl rfl rfl (by decide +kernel) ⟨Nat.le_of_ble_eq_true rfl, Nat.le_of_ble_eq_true rfl⟩) (S.preV hG hS hM.1 rfl) rfl rfl hl.1 rfl (lv_room (Nat.le_of_ble_eq_true rfl)) dX3_differ_3 ⟨Nat.le_of_ble_eq_true rfl, Nat.le_of_ble_eq_true rfl⟩) (fun v G1 H locs hp hG hS => ?_)
  refine W.cs (cells' := 0) (slots' := 0) (by first | rfl | omega) (by first | rfl | omega) ?_
  obtain ⟨r, rfl, hr1, rfl⟩ := hp
  rcases hr1 with ⟨rfl, hi⟩ | ⟨rfl, hi⟩
  · refine W.eq (g2 := F0 m 6 ls [.int 1, .ref mo]) rfl ?_
    refine lv_if_eq (tgt := 24) hx hb dX3_differ_6 (by decide) (fun h => absurd h (by decide)) (fun _ => ?_)
    refine lv_aload_n hx hb dX3_differ_9 rfl (lv_at hl 0 rfl) ?_
    refine lv_iload_n hx hb dX3_differ_10 rfl (lv_at hl 2 rfl) ?_
    refine g_call hS (va_runV (As := [.int y]) (rest := [.ref mo]) S.1 (metX3_isDriver l y hM) (cwV 1 S.ts (lw_V q1074 q1076 qs19 q39 q1077) rfl rfl rfl (by decide +kernel) ⟨Nat.le_of_ble_eq_true rfl, Nat.le_of_ble_eq_true rfl⟩) (S.preV hG hS hM.1 rfl) rfl rfl hl.1 rfl (lv_room (Nat.le_of_ble_eq_true rfl)) dX3_differ_11 ⟨Nat.le_of_ble_eq_true rfl, Nat.le_of_ble_eq_true rfl⟩) (fun v G1 H locs hp hG hS => ?_)
    refine W.cs (cells' := 0) (slots' := 0) (by first | rfl | omega) (by first | rfl | omega) ?_
    obtain ⟨r, rfl, hr1, rfl⟩ := hp
    rcases hr1 with ⟨rfl, hd⟩ | ⟨rfl, hd⟩
    · refine W.eq (g2 := F0 m 14 ls [.int 1, .ref mo]) rfl ?_
      refine lv_if_eq (tgt := 24) hx hb dX3_differ_14 (by decide) (fun h => absurd h (by decide)) (fun _ => ?_)
      refine lv_iload_n hx hb dX3_differ_17 rfl (lv_at hl 3 rfl) ?_
      refine g_call hS (va_runS (As := [.int z]) (rest := [.ref mo]) S.1 (metX3_isMonth l (E := E) (G := _) z) (va_cwS 1 S.ts (lw_S q1112 q1113 q39 q1114) rfl rfl rfl (by decide +kernel) ⟨Nat.le_of_ble_eq_true rfl, Nat.le_of_ble_eq_true rfl⟩) (S.pre hG hS) rfl rfl hl.1 rfl (lv_room (Nat.le_of_ble_eq_true rfl)) dX3_differ_18 ⟨Nat.le_of_ble_eq_true rfl, Nat.le_of_ble_eq_true rfl⟩) (fun v G1 H locs hp hG hS => ?_)
      refine W.cs (cells' := 0) (slots' := 0) (by first | rfl | omega) (by first | rfl | omega) ?_
      obtain ⟨r, rfl, hr1, rfl⟩ := hp
      rcases hr1 with ⟨rfl, ht⟩ | ⟨rfl, ht⟩
      · refine W.eq (g2 := F0 m 21 ls [.int 1, .ref mo]) rfl ?_
        refine lv_if_ne (tgt := 28) hx hb dX3_differ_21 (by decide) (fun _ => ?_) (fun h => absurd h (by decide))
        refine lv_iload hx hb dX3_differ_28 (lv_at hl 4 rfl) ?_
        refine lv_sipush (v := -999) hx hb dX3_differ_30 (by decide) ?_
        refine lv_sipush (v := 999) hx hb dX3_differ_33 (by decide) ?_
        have hc0 : ¬ ¬ (vix (nn 3) x ∧ vix (nn 1) y ∧ vmo z) := Classical.not_not.mpr ⟨hi, hd, ht⟩
        refine g_call hS (va_runS (As := [.int u, .int (-999), .int 999]) (rest := [.ref mo]) S.1 (metX3_in l (E := E) (G := _) u (-999) 999) (va_cwS 3 S.ts (lw_S q1067 q1068 q39 q1069) rfl rfl rfl (by decide +kernel) ⟨Nat.le_of_ble_eq_true rfl, Nat.le_of_ble_eq_true rfl⟩) (S.pre hG hS) rfl rfl hl.1 rfl (lv_room (Nat.le_of_ble_eq_true rfl)) dX3_differ_36 ⟨Nat.le_of_ble_eq_true rfl, Nat.le_of_ble_eq_true rfl⟩) (fun v G1 H locs hp hG hS => ?_)
        refine W.cs (cells' := 0) (slots' := 0) (by first | rfl | omega) (by first | rfl | omega) ?_
        obtain ⟨r, rfl, hr1, rfl⟩ := hp
        rcases hr1 with ⟨rfl, hv⟩ | ⟨rfl, hv⟩
        · refine W.eq (g2 := F0 m 39 ls [.int 1, .ref mo]) rfl ?_
          have hv0 := Classical.not_not.mpr hv
          refine lv_if_ne (tgt := 46) hx hb dX3_differ_39 (by decide) (fun _ => ?_) (fun h => absurd h (by decide))
          refine lv_iload_n hx hb dX3_differ_46 rfl (lv_at hl 1 rfl) ?_
          refine lv_if_ne (tgt := 54) hx hb dX3_differ_47 (by decide) (fun h47 => ?_) (fun h47 => ?_)
          · refine lv_aload_n hx hb dX3_differ_54 rfl (lv_at hl 0 rfl) ?_
            refine gf_X3_74 S dX3_differ_55 hG hM.1 rfl ?_
            refine lv_bipush (v := 12) hx hb dX3_differ_58 (by decide) ?_
            refine lv_icmp_ne (tgt := 67) hx hb dX3_differ_60 (by decide) (fun h60 => ?_) (fun h60 => ?_)
            · have hc : oc5 nn x y z u = 0 := by rw [oc5, if_neg hc0, if_neg hv0, if_neg h47, if_neg h60]
              have hlt : nn 4 < 12 := by rcases Nat.lt_or_ge (nn 4) 12 with q | q; exact q; exact absurd (congrArg nI (show nn 4 = 12 by omega)) h60
              refine lv_iconst (v := 0) hx hb dX3_differ_67 (by decide) ?_
              refine pf_X3_61 S dX3_differ_68 rfl rfl hG hS hM.1 (Nat.le_of_ble_eq_true rfl) (fun H locs hG hS => ?_)
              obtain ⟨G1, hG, hF, hM⟩ : ∃ G1, gh_W E G1 H ∧ gh_fr mdT G G1 ∧ Md E G1 mo ma M fo fi 0 nn := ⟨_, hG, hF.tr (gh_fr.set hM.1 (Or.inl rfl)), hM.setO (th' := 0) (nn' := nn) rfl⟩
              refine lv_aload_n hx hb dX3_differ_71 rfl (lv_at hl 0 rfl) ?_
              refine gf_X3_61 S dX3_differ_72 hG hM.1 rfl ?_
              refine lv_if_le (tgt := 80) hx hb dX3_differ_75 (by decide) (fun _ => ?_) (fun h => absurd h (by decide))
              refine lv_aload_n hx hb dX3_differ_80 rfl (lv_at hl 0 rfl) ?_
              refine gf_X3_25 S dX3_differ_81 hG hM.1 rfl ?_
              refine lv_aload_n hx hb dX3_differ_84 rfl (lv_at hl 0 rfl) ?_
              refine gf_X3_74 S dX3_differ_85 hG hM.1 rfl ?_
              refine lv_iload_n hx hb dX3_differ_88 rfl (lv_at hl 1 rfl) ?_
              refine n_iast S dX3_differ_89 hG hS (hM.arr 5 (by decide)) (gix.mk (show nn 4 < 12 from hlt) (by decide)) (fun H locs hG hS => ?_)
              obtain ⟨G2, hG, hF, hM⟩ : ∃ G1, gh_W E G1 H ∧ gh_fr mdT G G1 ∧ Md E G1 mo ma (va_up M 5 (upd (M 5) (nn 4) x)) fo fi 0 nn := ⟨_, hG, hF.tr (gh_fr.set (hM.arr 5 (by decide)) (Or.inr (Or.inl rfl))), hM.set 5 (by decide) _⟩
              refine lv_aload_n hx hb dX3_differ_90 rfl (lv_at hl 0 rfl) ?_
              refine gf_X3_28 S dX3_differ_91 hG hM.1 rfl ?_
              refine lv_aload_n hx hb dX3_differ_94 rfl (lv_at hl 0 rfl) ?_
              refine gf_X3_74 S dX3_differ_95 hG hM.1 rfl ?_
              refine lv_iload_n hx hb dX3_differ_98 rfl (lv_at hl 2 rfl) ?_
              refine n_iast S dX3_differ_99 hG hS (hM.arr 6 (by decide)) (gix.mk (show nn 4 < 12 from hlt) (by decide)) (fun H locs hG hS => ?_)
              obtain ⟨G3, hG, hF, hM⟩ : ∃ G1, gh_W E G1 H ∧ gh_fr mdT G G1 ∧ Md E G1 mo ma (va_up (va_up M 5 (upd (M 5) (nn 4) x)) 6 (upd (M 6) (nn 4) y)) fo fi 0 nn := ⟨_, hG, hF.tr (gh_fr.set (hM.arr 6 (by decide)) (Or.inr (Or.inl rfl))), hM.set 6 (by decide) _⟩
              refine lv_aload_n hx hb dX3_differ_100 rfl (lv_at hl 0 rfl) ?_
              refine gf_X3_31 S dX3_differ_101 hG hM.1 rfl ?_
              refine lv_aload_n hx hb dX3_differ_104 rfl (lv_at hl 0 rfl) ?_
              refine gf_X3_74 S dX3_differ_105 hG hM.1 rfl ?_
              refine lv_iload_n hx hb dX3_differ_108 rfl (lv_at hl 3 rfl) ?_
              refine n_iast S dX3_differ_109 hG hS (hM.arr 7 (by decide)) (gix.mk (show nn 4 < 12 from hlt) (by decide)) (fun H locs hG hS => ?_)
              obtain ⟨G4, hG, hF, hM⟩ : ∃ G1, gh_W E G1 H ∧ gh_fr mdT G G1 ∧ Md E G1 mo ma (va_up (va_up (va_up M 5 (upd (M 5) (nn 4) x)) 6 (upd (M 6) (nn 4) y)) 7 (upd (M 7) (nn 4) z)) fo fi 0 nn := ⟨_, hG, hF.tr (gh_fr.set (hM.arr 7 (by decide)) (Or.inr (Or.inl rfl))), hM.set 7 (by decide) _⟩
              refine lv_aload_n hx hb dX3_differ_110 rfl (lv_at hl 0 rfl) ?_
              refine gf_X3_34 S dX3_differ_111 hG hM.1 rfl ?_
              refine lv_aload_n hx hb dX3_differ_114 rfl (lv_at hl 0 rfl) ?_
              refine gf_X3_74 S dX3_differ_115 hG hM.1 rfl ?_
              refine lv_iload hx hb dX3_differ_118 (lv_at hl 4 rfl) ?_
              refine n_iast S dX3_differ_120 hG hS (hM.arr 8 (by decide)) (gix.mk (show nn 4 < 12 from hlt) (by decide)) (fun H locs hG hS => ?_)
              obtain ⟨G5, hG, hF, hM⟩ : ∃ G1, gh_W E G1 H ∧ gh_fr mdT G G1 ∧ Md E G1 mo ma (oM5 M nn x y z u) fo fi 0 nn := ⟨_, hG, hF.tr (gh_fr.set (hM.arr 8 (by decide)) (Or.inr (Or.inl rfl))), hM.set 8 (by decide) _⟩
              refine lv_aload_n hx hb dX3_differ_121 rfl (lv_at hl 0 rfl) ?_
              refine lv_dup hx hb dX3_differ_122 rfl ?_
              refine gf_X3_74 S dX3_differ_123 hG hM.1 rfl ?_
              refine lv_iconst (v := 1) hx hb dX3_differ_126 (by decide) ?_
              refine lv_iadd hx hb dX3_differ_127 ?_
              refine pf_X3_74 S dX3_differ_128 rfl rfl hG hS hM.1 (Nat.le_of_ble_eq_true rfl) (fun H locs hG hS => ?_)
              obtain ⟨G6, hG, hF, hM⟩ : ∃ G1, gh_W E G1 H ∧ gh_fr mdT G G1 ∧ Md E G1 mo ma (oM5 M nn x y z u) fo fi 0 (va_up nn 4 (nn 4 + 1)) := ⟨_, hG, hF.tr (gh_fr.set hM.1 (Or.inl rfl)), hM.setO (by rw [nI_1]; rfl)⟩
              refine lv_iconst (v := 0) hx hb dX3_differ_131 (by decide) ?_
              refine lv_istore (lv' := [(5, .int 0), (0, .ref mo), (1, .int x), (2, .int y), (3, .int z), (4, .int u)]) hx hb dX3_differ_132 hl (by decide) rfl (fun ls hl => ?_)
              refine lv_iconst (v := 0) hx hb dX3_differ_134 (by decide) ?_
              refine lv_istore (lv' := [(6, .int 0), (5, .int 0), (0, .ref mo), (1, .int x), (2, .int y), (3, .int z), (4, .int u)]) hx hb dX3_differ_135 hl (by decide) rfl (fun ls hl => ?_)
              have hl : lv_has ls 7 [(6, .int (nI 0)), (5, .int (nI (sp_mn ((oM5 M nn x y z u) 5) x 0))), (0, .ref mo), (1, .int x), (2, .int y), (3, .int z), (4, .int u)] := (lv_sub hl [0, 1, 2, 3, 4, 5, 6] rfl)
              refine g_while (α := Nat) (fun k => nn 4 + 1 - k) (fun k G9 => G6 = G9 ∧ k ≤ nn 4 + 1) (fun _ => 0) (fun _ => 0) 7 137 (fun k => [(6, .int (nI k)), (5, .int (nI (sp_mn ((oM5 M nn x y z u) 5) x k))), (0, .ref mo), (1, .int x), (2, .int y), (3, .int z), (4, .int u)]) ?_ 0 G6 H _ ls ⟨rfl, Nat.zero_le _⟩ hG hS hl
              intro k G9 H locs ls ih hI hG hS hl
              obtain ⟨rfl, hk⟩ := hI
              have hl : lv_has ls 7 [(6, .int (nI k)), (5, .int (nI (sp_mn ((oM5 M nn x y z u) 5) x k))), (0, .ref mo), (1, .int x), (2, .int y), (3, .int z), (4, .int u)] := hl
              refine lv_iload hx hb dX3_differ_137 (lv_at hl 0 rfl) ?_
              refine lv_aload_n hx hb dX3_differ_139 rfl (lv_at hl 2 rfl) ?_
              refine gf_X3_74 S dX3_differ_140 hG hM.1 rfl ?_
              refine W.eq (g2 := F0 m 143 ls [.int (nI (nn 4 + 1)), .int (nI k)]) rfl ?_
              refine lv_icmp_ge (tgt := 173) hx hb dX3_differ_143 (by decide) (fun h143 => ?_) (fun h143 => ?_)
              · have e : k = nn 4 + 1 := by have := (nI_leI (by omega) (by omega)).mp h143; omega
                subst e
                refine lv_iload hx hb dX3_differ_173 (lv_at hl 1 rfl) ?_
                exact g_iret S hr dX3_differ_175 hG hS (by first | exact Nat.le_refl _ | omega) (by first | exact Nat.le_refl _ | omega) ⟨_, rfl, fun _ => rfl, mdQ.ok hc hM hF⟩
              · have hkl : k < nn 4 + 1 := Nat.lt_of_not_le fun q => h143 (nI_le q (by omega))
                refine lv_iload hx hb dX3_differ_146 (lv_at hl 1 rfl) ?_
                refine lv_aload_n hx hb dX3_differ_148 rfl (lv_at hl 2 rfl) ?_
                refine gf_X3_25 S dX3_differ_149 hG hM.1 rfl ?_
                refine lv_iload hx hb dX3_differ_152 (lv_at hl 0 rfl) ?_
                refine n_iald S dX3_differ_154 hG (hM.arr 5 (by decide)) (gix.mk (show k < 12 by omega) (by decide)) ?_
                refine lv_iload_n hx hb dX3_differ_155 rfl (lv_at hl 3 rfl) ?_
                refine lv_icmp_ne (tgt := 163) hx hb dX3_differ_156 (by decide) (fun h156 => ?_) (fun h156 => ?_)
                · refine lv_iconst (v := 0) hx hb dX3_differ_163 (by decide) ?_
                  refine lv_iadd hx hb dX3_differ_164 ?_
                  refine W.eq (g2 := F0 m 165 ls [.int (nI (sp_mn ((oM5 M nn x y z u) 5) x (k + 1)))]) (by rw [sp_mn_f h156]; exact congrArg (fun z => F0 m 165 ls [.int z]) (Int32.add_zero _)) ?_
                  refine lv_istore (lv' := [(5, .int (nI (sp_mn ((oM5 M nn x y z u) 5) x (k + 1)))), (6, .int (nI k)), (0, .ref mo), (1, .int x), (2, .int y), (3, .int z), (4, .int u)]) hx hb dX3_differ_165 hl (by decide) rfl (fun ls hl => ?_)
                  refine lv_iinc (v := (nI (k + 1))) (lv' := [(6, .int (nI (k + 1))), (5, .int (nI (sp_mn ((oM5 M nn x y z u) 5) x (k + 1)))), (0, .ref mo), (1, .int x), (2, .int y), (3, .int z), (4, .int u)]) hx hb dX3_differ_167 hl (k := 1) rfl (nI_1 k) (by decide) rfl (fun ls hl => ?_)
                  refine lv_goto (tgt := 137) hx hb dX3_differ_170 (by decide) ?_
                  exact ih (k + 1) _ H locs ls ⟨rfl, hkl⟩ (by show nn 4 + 1 - (k + 1) < nn 4 + 1 - k; omega) hG hS (lv_sub hl [0, 1, 2, 3, 4, 5, 6] rfl)
                · refine lv_iconst (v := 1) hx hb dX3_differ_159 (by decide) ?_
                  refine lv_goto (tgt := 164) hx hb dX3_differ_160 (by decide) ?_
                  refine lv_iadd hx hb dX3_differ_164 ?_
                  refine W.eq (g2 := F0 m 165 ls [.int (nI (sp_mn ((oM5 M nn x y z u) 5) x (k + 1)))]) (by rw [sp_mn_t h156]; exact congrArg (fun z => F0 m 165 ls [.int z]) (nI_1 _)) ?_
                  refine lv_istore (lv' := [(5, .int (nI (sp_mn ((oM5 M nn x y z u) 5) x (k + 1)))), (6, .int (nI k)), (0, .ref mo), (1, .int x), (2, .int y), (3, .int z), (4, .int u)]) hx hb dX3_differ_165 hl (by decide) rfl (fun ls hl => ?_)
                  refine lv_iinc (v := (nI (k + 1))) (lv' := [(6, .int (nI (k + 1))), (5, .int (nI (sp_mn ((oM5 M nn x y z u) 5) x (k + 1)))), (0, .ref mo), (1, .int x), (2, .int y), (3, .int z), (4, .int u)]) hx hb dX3_differ_167 hl (k := 1) rfl (nI_1 k) (by decide) rfl (fun ls hl => ?_)
                  refine lv_goto (tgt := 137) hx hb dX3_differ_170 (by decide) ?_
                  exact ih (k + 1) _ H locs ls ⟨rfl, hkl⟩ (by show nn 4 + 1 - (k + 1) < nn 4 + 1 - k; omega) hG hS (lv_sub hl [0, 1, 2, 3, 4, 5, 6] rfl)
            · have hc : oc5 nn x y z u = 4 := by rw [oc5, if_neg hc0, if_neg hv0, if_neg h47, if_pos h60]
              refine lv_iconst (v := 4) hx hb dX3_differ_63 (by decide) ?_
              refine lv_goto (tgt := 68) hx hb dX3_differ_64 (by decide) ?_
              refine pf_X3_61 S dX3_differ_68 rfl rfl hG hS hM.1 (Nat.le_of_ble_eq_true rfl) (fun H locs hG hS => ?_)
              obtain ⟨G7, hG, hF, hM⟩ : ∃ G1, gh_W E G1 H ∧ gh_fr mdT G G1 ∧ Md E G1 mo ma M fo fi 4 nn := ⟨_, hG, hF.tr (gh_fr.set hM.1 (Or.inl rfl)), hM.setO (th' := 4) (nn' := nn) rfl⟩
              refine lv_aload_n hx hb dX3_differ_71 rfl (lv_at hl 0 rfl) ?_
              refine gf_X3_61 S dX3_differ_72 hG hM.1 rfl ?_
              refine lv_if_le (tgt := 80) hx hb dX3_differ_75 (by decide) (fun h => absurd h (by decide)) (fun _ => ?_)
              refine lv_iconst (v := 0) hx hb dX3_differ_78 (by decide) ?_
              exact g_iret S hr dX3_differ_79 hG hS (by first | exact Nat.le_refl _ | omega) (by first | exact Nat.le_refl _ | omega) ⟨0, rfl, fun q => absurd (hc.symm.trans q) (by decide), mdQ.bad hc (by decide) hM hF⟩
          · have hc : oc5 nn x y z u = 3 := by rw [oc5, if_neg hc0, if_neg hv0, if_pos h47]
            refine lv_iconst (v := 3) hx hb dX3_differ_50 (by decide) ?_
            refine lv_goto (tgt := 68) hx hb dX3_differ_51 (by decide) ?_
            refine pf_X3_61 S dX3_differ_68 rfl rfl hG hS hM.1 (Nat.le_of_ble_eq_true rfl) (fun H locs hG hS => ?_)
            obtain ⟨G8, hG, hF, hM⟩ : ∃ G1, gh_W E G1 H ∧ gh_fr mdT G G1 ∧ Md E G1 mo ma M fo fi 3 nn := ⟨_, hG, hF.tr (gh_fr.set hM.1 (Or.inl rfl)), hM.setO (th' := 3) (nn' := nn) rfl⟩
            refine lv_aload_n hx hb dX3_differ_71 rfl (lv_at hl 0 rfl) ?_
            refine gf_X3_61 S dX3_differ_72 hG hM.1 rfl ?_
            refine lv_if_le (tgt := 80) hx hb dX3_differ_75 (by decide) (fun h => absurd h (by decide)) (fun _ => ?_)
            refine lv_iconst (v := 0) hx hb dX3_differ_78 (by decide) ?_
            exact g_iret S hr dX3_differ_79 hG hS (by first | exact Nat.le_refl _ | omega) (by first | exact Nat.le_refl _ | omega) ⟨0, rfl, fun q => absurd (hc.symm.trans q) (by decide), mdQ.bad hc (by decide) hM hF⟩
        · refine W.eq (g2 := F0 m 39 ls [.int 0, .ref mo]) rfl ?_
          have hc : oc5 nn x y z u = 2 := by rw [oc5, if_neg hc0, if_pos hv]
          refine lv_if_ne (tgt := 46) hx hb dX3_differ_39 (by decide) (fun h => absurd h (by decide)) (fun _ => ?_)
          refine lv_iconst (v := 2) hx hb dX3_differ_42 (by decide) ?_
          refine lv_goto (tgt := 68) hx hb dX3_differ_43 (by decide) ?_
          refine pf_X3_61 S dX3_differ_68 rfl rfl hG hS hM.1 (Nat.le_of_ble_eq_true rfl) (fun H locs hG hS => ?_)
          obtain ⟨G9, hG, hF, hM⟩ : ∃ G1, gh_W E G1 H ∧ gh_fr mdT G G1 ∧ Md E G1 mo ma M fo fi 2 nn := ⟨_, hG, hF.tr (gh_fr.set hM.1 (Or.inl rfl)), hM.setO (th' := 2) (nn' := nn) rfl⟩
          refine lv_aload_n hx hb dX3_differ_71 rfl (lv_at hl 0 rfl) ?_
          refine gf_X3_61 S dX3_differ_72 hG hM.1 rfl ?_
          refine lv_if_le (tgt := 80) hx hb dX3_differ_75 (by decide) (fun h => absurd h (by decide)) (fun _ => ?_)
          refine lv_iconst (v := 0) hx hb dX3_differ_78 (by decide) ?_
          exact g_iret S hr dX3_differ_79 hG hS (by first | exact Nat.le_refl _ | omega) (by first | exact Nat.le_refl _ | omega) ⟨0, rfl, fun q => absurd (hc.symm.trans q) (by decide), mdQ.bad hc (by decide) hM hF⟩
      · refine W.eq (g2 := F0 m 21 ls [.int 0, .ref mo]) rfl ?_
        have hc : oc5 nn x y z u = 1 := by rw [oc5, if_pos (fun q => ht q.2.2)]
        refine lv_if_ne (tgt := 28) hx hb dX3_differ_21 (by decide) (fun h => absurd h (by decide)) (fun _ => ?_)
        refine lv_iconst (v := 1) hx hb dX3_differ_24 (by decide) ?_
        refine lv_goto (tgt := 68) hx hb dX3_differ_25 (by decide) ?_
        refine pf_X3_61 S dX3_differ_68 rfl rfl hG hS hM.1 (Nat.le_of_ble_eq_true rfl) (fun H locs hG hS => ?_)
        obtain ⟨G10, hG, hF, hM⟩ : ∃ G1, gh_W E G1 H ∧ gh_fr mdT G G1 ∧ Md E G1 mo ma M fo fi 1 nn := ⟨_, hG, hF.tr (gh_fr.set hM.1 (Or.inl rfl)), hM.setO (th' := 1) (nn' := nn) rfl⟩
        refine lv_aload_n hx hb dX3_differ_71 rfl (lv_at hl 0 rfl) ?_
        refine gf_X3_61 S dX3_differ_72 hG hM.1 rfl ?_
        refine lv_if_le (tgt := 80) hx hb dX3_differ_75 (by decide) (fun h => absurd h (by decide)) (fun _ => ?_)
        refine lv_iconst (v := 0) hx hb dX3_differ_78 (by decide) ?_
        exact g_iret S hr dX3_differ_79 hG hS (by first | exact Nat.le_refl _ | omega) (by first | exact Nat.le_refl _ | omega) ⟨0, rfl, fun q => absurd (hc.symm.trans q) (by decide), mdQ.bad hc (by decide) hM hF⟩
    · refine W.eq (g2 := F0 m 14 ls [.int 0, .ref mo]) rfl ?_
      have hc : oc5 nn x y z u = 1 := by rw [oc5, if_pos (fun q => hd q.2.1)]
      refine lv_if_eq (tgt := 24) hx hb dX3_differ_14 (by decide) (fun _ => ?_) (fun h => absurd h (by decide))
      refine lv_iconst (v := 1) hx hb dX3_differ_24 (by decide) ?_
      refine lv_goto (tgt := 68) hx hb dX3_differ_25 (by decide) ?_
      refine pf_X3_61 S dX3_differ_68 rfl rfl hG hS hM.1 (Nat.le_of_ble_eq_true rfl) (fun H locs hG hS => ?_)
      obtain ⟨G11, hG, hF, hM⟩ : ∃ G1, gh_W E G1 H ∧ gh_fr mdT G G1 ∧ Md E G1 mo ma M fo fi 1 nn := ⟨_, hG, hF.tr (gh_fr.set hM.1 (Or.inl rfl)), hM.setO (th' := 1) (nn' := nn) rfl⟩
      refine lv_aload_n hx hb dX3_differ_71 rfl (lv_at hl 0 rfl) ?_
      refine gf_X3_61 S dX3_differ_72 hG hM.1 rfl ?_
      refine lv_if_le (tgt := 80) hx hb dX3_differ_75 (by decide) (fun h => absurd h (by decide)) (fun _ => ?_)
      refine lv_iconst (v := 0) hx hb dX3_differ_78 (by decide) ?_
      exact g_iret S hr dX3_differ_79 hG hS (by first | exact Nat.le_refl _ | omega) (by first | exact Nat.le_refl _ | omega) ⟨0, rfl, fun q => absurd (hc.symm.trans q) (by decide), mdQ.bad hc (by decide) hM hF⟩
  · refine W.eq (g2 := F0 m 6 ls [.int 0, .ref mo]) rfl ?_
    have hc : oc5 nn x y z u = 1 := by rw [oc5, if_pos (fun q => hi q.1)]
    refine lv_if_eq (tgt := 24) hx hb dX3_differ_6 (by decide) (fun _ => ?_) (fun h => absurd h (by decide))
    refine lv_iconst (v := 1) hx hb dX3_differ_24 (by decide) ?_
    refine lv_goto (tgt := 68) hx hb dX3_differ_25 (by decide) ?_
    refine pf_X3_61 S dX3_differ_68 rfl rfl hG hS hM.1 (Nat.le_of_ble_eq_true rfl) (fun H locs hG hS => ?_)
    obtain ⟨G12, hG, hF, hM⟩ : ∃ G1, gh_W E G1 H ∧ gh_fr mdT G G1 ∧ Md E G1 mo ma M fo fi 1 nn := ⟨_, hG, hF.tr (gh_fr.set hM.1 (Or.inl rfl)), hM.setO (th' := 1) (nn' := nn) rfl⟩
    refine lv_aload_n hx hb dX3_differ_71 rfl (lv_at hl 0 rfl) ?_
    refine gf_X3_61 S dX3_differ_72 hG hM.1 rfl ?_
    refine lv_if_le (tgt := 80) hx hb dX3_differ_75 (by decide) (fun h => absurd h (by decide)) (fun _ => ?_)
    refine lv_iconst (v := 0) hx hb dX3_differ_78 (by decide) ?_
    exact g_iret S hr dX3_differ_79 hG hS (by first | exact Nat.le_refl _ | omega) (by first | exact Nat.le_refl _ | omega) ⟨0, rfl, fun q => absurd (hc.symm.trans q) (by decide), mdQ.bad hc (by decide) hM hF⟩
set_option maxHeartbeats 4000000 in
set_option maxRecDepth 100000 in
theorem metX3_year (l : Launch) {E : Ev} {G : gh} {mo : Nat} {ma : Nat → Nat} {M : Nat → Nat → Int32} {fo : Nat → Int64} {fi : Nat → Int32} {th : Int32} {nn : Nat → Nat} (x y : Int32) (hM : Md E G mo ma M fo fi th nn) (hwf : sp_wf M nn) : Met l yX3_year (ws_ yX3_year cX3_year 6 (some .long)) ({ frames := 5, cells := 0, slots := 0, locals := 320 }) (gP E G [.ref mo, .int x, .int y]) (gQ E (fun v G' => mdL E G mo ma (oc8 M nn x y) (or8 M nn x y) M nn v G')) 0 0 (ev_A E) := by
  have h16 : nn 1 ≤ 6 := hwf.1.1
  have h10 : nn 2 ≤ 10 := hwf.1.2.1
  have h34 : nn 3 ≤ 4 := hwf.1.2.2.1.2
  have h31 : 1 ≤ nn 3 := hwf.1.2.2.1.1
  have h412 : nn 4 ≤ 12 := hwf.1.2.2.2.1
  have h511 : nn 5 ≤ 11 := hwf.1.2.2.2.2
  refine gMet RX3 (by decide) rfl (Nat.le_of_ble_eq_true rfl) ?_
  intro p e s m below meth c ls hx hb S hr hnm hl hG hS
  have hl : lv_has ls 6 [(0, .ref mo), (1, .int x), (2, .int y)] := hl
  have hF : gh_fr mdT G G := gh_fr.rf
  refine lv_aload_n hx hb dX3_year_0 rfl (lv_at hl 0 rfl) ?_
  refine lv_aload_n hx hb dX3_year_1 rfl (lv_at hl 0 rfl) ?_
  refine lv_iload_n hx hb dX3_year_2 rfl (lv_at hl 1 rfl) ?_
  refine g_call hS (va_runV (As := [.int x]) (rest := [.ref mo]) S.1 (metX3_isScenario l x hM) (cwV 1 S.ts (lw_V q1108 q1110 qs25 q39 q1111) rfl rfl rfl (by decide +kernel) ⟨Nat.le_of_ble_eq_true rfl, Nat.le_of_ble_eq_true rfl⟩) (S.preV hG hS hM.1 rfl) rfl rfl hl.1 rfl (lv_room (Nat.le_of_ble_eq_true rfl)) dX3_year_3 ⟨Nat.le_of_ble_eq_true rfl, Nat.le_of_ble_eq_true rfl⟩) (fun v G1 H locs hp hG hS => ?_)
  refine W.cs (cells' := 0) (slots' := 0) (by first | rfl | omega) (by first | rfl | omega) ?_
  obtain ⟨r, rfl, hr1, rfl⟩ := hp
  rcases hr1 with ⟨rfl, hi⟩ | ⟨rfl, hi⟩
  · refine W.eq (g2 := F0 m 6 ls [.int 1, .ref mo]) rfl ?_
    refine lv_if_eq (tgt := 17) hx hb dX3_year_6 (by decide) (fun h => absurd h (by decide)) (fun _ => ?_)
    refine lv_aload_n hx hb dX3_year_9 rfl (lv_at hl 0 rfl) ?_
    refine lv_iload_n hx hb dX3_year_10 rfl (lv_at hl 2 rfl) ?_
    refine g_call hS (va_runV (As := [.int y]) (rest := [.ref mo]) S.1 (metX3_isLine l y hM) (cwV 1 S.ts (lw_V q1123 q1125 qs27 q39 q1126) rfl rfl rfl (by decide +kernel) ⟨Nat.le_of_ble_eq_true rfl, Nat.le_of_ble_eq_true rfl⟩) (S.preV hG hS hM.1 rfl) rfl rfl hl.1 rfl (lv_room (Nat.le_of_ble_eq_true rfl)) dX3_year_11 ⟨Nat.le_of_ble_eq_true rfl, Nat.le_of_ble_eq_true rfl⟩) (fun v G1 H locs hp hG hS => ?_)
    refine W.cs (cells' := 0) (slots' := 0) (by first | rfl | omega) (by first | rfl | omega) ?_
    obtain ⟨r, rfl, hr1, rfl⟩ := hp
    rcases hr1 with ⟨rfl, hd⟩ | ⟨rfl, hd⟩
    · refine W.eq (g2 := F0 m 14 ls [.int 1, .ref mo]) rfl ?_
      have hc0 : ¬ ¬ (vix (nn 3) x ∧ vix (nn 2) y) := Classical.not_not.mpr ⟨hi, hd⟩
      obtain ⟨i, rfl, hi, ei⟩ := vix.ix hi (by omega)
      obtain ⟨k, rfl, hk, ek⟩ := vix.ix hd (by omega)
      refine lv_if_ne (tgt := 21) hx hb dX3_year_14 (by decide) (fun _ => ?_) (fun h => absurd h (by decide))
      refine lv_iconst (v := 0) hx hb dX3_year_21 (by decide) ?_
      refine pf_X3_61 S dX3_year_22 rfl rfl hG hS hM.1 (Nat.le_of_ble_eq_true rfl) (fun H locs hG hS => ?_)
      obtain ⟨G1, hG, hF, hM⟩ : ∃ G1, gh_W E G1 H ∧ gh_fr mdT G G1 ∧ Md E G1 mo ma M fo fi 0 nn := ⟨_, hG, hF.tr (gh_fr.set hM.1 (Or.inl rfl)), hM.setO (th' := 0) (nn' := nn) rfl⟩
      refine lv_lconst (v := 0) hx hb dX3_year_25 (by decide) ?_
      refine lv_lstore_n (lv' := [(3, .long 0), (0, .ref mo), (1, .int (nI i)), (2, .int (nI k))]) hx hb dX3_year_26 rfl hl (by decide) rfl (fun ls hl => ?_)
      refine lv_iconst (v := 0) hx hb dX3_year_27 (by decide) ?_
      refine lv_istore (lv' := [(5, .int 0), (3, .long 0), (0, .ref mo), (1, .int (nI i)), (2, .int (nI k))]) hx hb dX3_year_28 hl (by decide) rfl (fun ls hl => ?_)
      have hl : lv_has ls 6 [(5, .int (nI 0)), (3, .long 0), (0, .ref mo), (1, .int (nI i)), (2, .int (nI k))] := (lv_sub hl [0, 1, 2, 3, 4] rfl)
      refine g_while (α := Nat × Int64 × Int32 × (Nat → Int64) × (Nat → Int32)) (fun x => 12 - x.1) (fun x G1 => x.1 ≤ 12 ∧ Md E G1 mo ma M x.2.2.2.1 x.2.2.2.2 x.2.2.1 nn ∧ gh_fr mdT G G1 ∧ ((x.2.2.1 = 0 ∧ sp_yr M (nn 4) i k x.1 = some x.2.1) ∨ (x.2.2.1 = 2 ∧ sp_yr M (nn 4) i k 12 = none))) (fun _ => 0) (fun _ => 0) 6 30 (fun x => [(5, .int (nI x.1)), (3, .long x.2.1), (0, .ref mo), (1, .int (nI i)), (2, .int (nI k))]) ?_ (0, 0, 0, fo, fi) G1 H _ ls ⟨Nat.zero_le _, hM, hF, Or.inl ⟨rfl, rfl⟩⟩ hG hS hl
      clear hM hF hG hS hl
      intro x G1 H locs ls ih hI hG hS hl
      obtain ⟨t, sm, th2, fo1, fi1⟩ := x
      obtain ⟨htl, hM, hF, hth⟩ := hI
      have htl : t ≤ 12 := htl
      have hM : Md E G1 mo ma M fo1 fi1 th2 nn := hM
      have hth : (th2 = 0 ∧ sp_yr M (nn 4) i k t = some sm) ∨ (th2 = 2 ∧ sp_yr M (nn 4) i k 12 = none) := hth
      have hl : lv_has ls 6 [(5, .int (nI t)), (3, .long sm), (0, .ref mo), (1, .int (nI i)), (2, .int (nI k))] := hl
      refine lv_iload hx hb dX3_year_30 (lv_at hl 0 rfl) ?_
      refine lv_bipush (v := 12) hx hb dX3_year_32 (by decide) ?_
      refine lv_icmp_ge (tgt := 77) hx hb dX3_year_34 (by decide) (fun h34 => ?_) (fun h34 => ?_)
      · have hend : th2 = 0 → sp_yr M (nn 4) i k 12 = some sm := fun q => by rcases hth with z | z; have e : t = 12 := (by have := (nI_leI (a := 12) (b := t) (by omega) (by omega)).mp h34; omega); rw [← e]; exact z.2; exact absurd (q.symm.trans z.1) (by decide)
        refine lv_aload_n hx hb dX3_year_77 rfl (lv_at hl 2 rfl) ?_
        refine gf_X3_61 S dX3_year_78 hG hM.1 rfl ?_
        refine lv_if_le (tgt := 88) hx hb dX3_year_81 (by decide) (fun h81 => ?_) (fun h81 => ?_)
        · have h0 : th2 = 0 := by rcases hth with q | q; exact q.1; exact absurd (q.1 ▸ h81) (by decide)
          have hs : sp_yr M (nn 4) i k 12 = some sm := hend h0
          have hc : oc8 M nn (nI i) (nI k) = 0 := by rw [oc8, if_neg hc0, ei, ek, hs]; rfl
          subst h0
          refine lv_lload_n hx hb dX3_year_88 rfl (lv_at hl 1 rfl) ?_
          exact g_lret S hr dX3_year_89 hG hS (by first | exact Nat.le_refl _ | omega) (by first | exact Nat.le_refl _ | omega) ⟨_, rfl, fun _ => by rw [or8, ei, ek, hs]; rfl, mdQ.ok hc hM hF⟩
        · have h2 : th2 = 2 ∧ sp_yr M (nn 4) i k 12 = none := by rcases hth with q | q; exact absurd (by rw [q.1]; decide) h81; exact q
          have hc : oc8 M nn (nI i) (nI k) = 2 := by rw [oc8, if_neg hc0, ei, ek, if_pos h2.2]
          obtain ⟨rfl, -⟩ := h2
          refine lv_lconst (v := 0) hx hb dX3_year_84 (by decide) ?_
          refine lv_goto (tgt := 89) hx hb dX3_year_85 (by decide) ?_
          exact g_lret S hr dX3_year_89 hG hS (by first | exact Nat.le_refl _ | omega) (by first | exact Nat.le_refl _ | omega) ⟨0, rfl, fun q => absurd (hc.symm.trans q) (by decide), mdQ.bad hc (by decide) hM hF⟩
      · have ht : t < 12 := Nat.lt_of_not_le fun q => h34 (nI_le (a := 12) (b := t) q (by omega))
        refine lv_aload_n hx hb dX3_year_37 rfl (lv_at hl 2 rfl) ?_
        refine gf_X3_61 S dX3_year_38 hG hM.1 rfl ?_
        refine lv_if_ne (tgt := 77) hx hb dX3_year_41 (by decide) (fun h41 => ?_) (fun h41 => ?_)
        · have hend : th2 = 0 → sp_yr M (nn 4) i k 12 = some sm := fun q => absurd q h41
          refine lv_aload_n hx hb dX3_year_77 rfl (lv_at hl 2 rfl) ?_
          refine gf_X3_61 S dX3_year_78 hG hM.1 rfl ?_
          refine lv_if_le (tgt := 88) hx hb dX3_year_81 (by decide) (fun h81 => ?_) (fun h81 => ?_)
          · have h0 : th2 = 0 := by rcases hth with q | q; exact q.1; exact absurd (q.1 ▸ h81) (by decide)
            have hs : sp_yr M (nn 4) i k 12 = some sm := hend h0
            have hc : oc8 M nn (nI i) (nI k) = 0 := by rw [oc8, if_neg hc0, ei, ek, hs]; rfl
            subst h0
            refine lv_lload_n hx hb dX3_year_88 rfl (lv_at hl 1 rfl) ?_
            exact g_lret S hr dX3_year_89 hG hS (by first | exact Nat.le_refl _ | omega) (by first | exact Nat.le_refl _ | omega) ⟨_, rfl, fun _ => by rw [or8, ei, ek, hs]; rfl, mdQ.ok hc hM hF⟩
          · have h2 : th2 = 2 ∧ sp_yr M (nn 4) i k 12 = none := by rcases hth with q | q; exact absurd (by rw [q.1]; decide) h81; exact q
            have hc : oc8 M nn (nI i) (nI k) = 2 := by rw [oc8, if_neg hc0, ei, ek, if_pos h2.2]
            obtain ⟨rfl, -⟩ := h2
            refine lv_lconst (v := 0) hx hb dX3_year_84 (by decide) ?_
            refine lv_goto (tgt := 89) hx hb dX3_year_85 (by decide) ?_
            exact g_lret S hr dX3_year_89 hG hS (by first | exact Nat.le_refl _ | omega) (by first | exact Nat.le_refl _ | omega) ⟨0, rfl, fun q => absurd (hc.symm.trans q) (by decide), mdQ.bad hc (by decide) hM hF⟩
        · have hs := hth.resolve_right (fun q => absurd (h41.symm.trans q.1) (by decide))
          obtain ⟨rfl, hs⟩ := hs
          refine lv_aload_n hx hb dX3_year_44 rfl (lv_at hl 2 rfl) ?_
          refine lv_iload_n hx hb dX3_year_45 rfl (lv_at hl 3 rfl) ?_
          refine lv_iload_n hx hb dX3_year_46 rfl (lv_at hl 4 rfl) ?_
          refine lv_iload hx hb dX3_year_47 (lv_at hl 0 rfl) ?_
          refine lv_bipush (v := 6) hx hb dX3_year_49 (by decide) ?_
          refine g_call hS (va_runV (As := [.int (nI i), .int (nI k), .int (nI t), .int 6]) (rest := []) S.1 (metX3_finds l i k t 6 hM hwf hi hk ht) (cwV 4 S.ts (lw_V q1085 q1087 qs21 q39 q1088) rfl rfl rfl (by decide +kernel) ⟨Nat.le_of_ble_eq_true rfl, Nat.le_of_ble_eq_true rfl⟩) (S.preV hG hS hM.1 rfl) rfl rfl hl.1 rfl (lv_room (Nat.le_of_ble_eq_true rfl)) dX3_year_51 ⟨Nat.le_of_ble_eq_true rfl, Nat.le_of_ble_eq_true rfl⟩) (fun v G1 H locs hp hG hS => ?_)
          refine W.cs (cells' := 0) (slots' := 0) (by first | rfl | omega) (by first | rfl | omega) ?_
          obtain ⟨r, fo2, fi2, rfl, hM, hF2, hrr⟩ := hp
          have hF := hF.tr hF2
          rcases hrr with ⟨rfl, hfd⟩ | ⟨rfl, hfd⟩
          · refine W.eq (g2 := F0 m 54 ls [.int 1]) rfl ?_
            refine lv_if_ne (tgt := 62) hx hb dX3_year_54 (by decide) (fun _ => ?_) (fun h => absurd h (by decide))
            refine lv_lload_n hx hb dX3_year_62 rfl (lv_at hl 1 rfl) ?_
            refine lv_aload_n hx hb dX3_year_63 rfl (lv_at hl 2 rfl) ?_
            refine gf_X3_57 S dX3_year_64 hG hM.1 rfl ?_
            refine lv_iload_n hx hb dX3_year_67 rfl (lv_at hl 4 rfl) ?_
            refine n_lald S dX3_year_68 hG hM.2.2.2 (gix.mk (show k < 10 by omega) (by decide)) ?_
            refine lv_ladd hx hb dX3_year_69 ?_
            refine lv_lstore_n (lv' := [(3, .long (sm + (fo2 k))), (5, .int (nI t)), (0, .ref mo), (1, .int (nI i)), (2, .int (nI k))]) hx hb dX3_year_70 rfl hl (by decide) rfl (fun ls hl => ?_)
            refine lv_iinc (v := (nI (t + 1))) (lv' := [(5, .int (nI (t + 1))), (3, .long (sm + (fo2 k))), (0, .ref mo), (1, .int (nI i)), (2, .int (nI k))]) hx hb dX3_year_71 hl (k := 1) rfl (nI_1 t) (by decide) rfl (fun ls hl => ?_)
            refine lv_goto (tgt := 30) hx hb dX3_year_74 (by decide) ?_
            exact ih (t + 1, _, 0, fo2, fi2) _ H locs ls ⟨ht, hM, hF, Or.inl ⟨rfl, by show (sp_yr M (nn 4) i k t).bind _ = _; rw [hs]; show (sp_fd M (nn 4) i t sp_al 10 k).bind _ = _; rw [hfd]; rfl⟩⟩ (by show 12 - (t + 1) < 12 - t; omega) hG hS (lv_sub hl [0, 1, 2, 3, 4] rfl)
          · refine W.eq (g2 := F0 m 54 ls [.int 0]) rfl ?_
            have hn : sp_yr M (nn 4) i k 12 = none := by
              have h1 : sp_yr M (nn 4) i k (t + 1) = none := by show (sp_yr M (nn 4) i k t).bind _ = _; rw [hs]; show (sp_fd M (nn 4) i t sp_al 10 k).bind _ = _; rw [hfd]; rfl
              have h2 := sp_yr_none (11 - t) h1
              rw [show t + 1 + (11 - t) = 12 by omega] at h2; exact h2
            refine lv_if_ne (tgt := 62) hx hb dX3_year_54 (by decide) (fun h => absurd h (by decide)) (fun _ => ?_)
            refine lv_aload_n hx hb dX3_year_57 rfl (lv_at hl 2 rfl) ?_
            refine lv_iconst (v := 2) hx hb dX3_year_58 (by decide) ?_
            refine pf_X3_61 S dX3_year_59 rfl rfl hG hS hM.1 (Nat.le_of_ble_eq_true rfl) (fun H locs hG hS => ?_)
            obtain ⟨G2, hG, hF, hM⟩ : ∃ G1, gh_W E G1 H ∧ gh_fr mdT G G1 ∧ Md E G1 mo ma M fo2 fi2 2 nn := ⟨_, hG, hF.tr (gh_fr.set hM.1 (Or.inl rfl)), hM.setO (th' := 2) (nn' := nn) rfl⟩
            refine lv_lload_n hx hb dX3_year_62 rfl (lv_at hl 1 rfl) ?_
            refine lv_aload_n hx hb dX3_year_63 rfl (lv_at hl 2 rfl) ?_
            refine gf_X3_57 S dX3_year_64 hG hM.1 rfl ?_
            refine lv_iload_n hx hb dX3_year_67 rfl (lv_at hl 4 rfl) ?_
            refine n_lald S dX3_year_68 hG hM.2.2.2 (gix.mk (show k < 10 by omega) (by decide)) ?_
            refine lv_ladd hx hb dX3_year_69 ?_
            refine lv_lstore_n (lv' := [(3, .long (sm + (fo2 k))), (5, .int (nI t)), (0, .ref mo), (1, .int (nI i)), (2, .int (nI k))]) hx hb dX3_year_70 rfl hl (by decide) rfl (fun ls hl => ?_)
            refine lv_iinc (v := (nI (t + 1))) (lv' := [(5, .int (nI (t + 1))), (3, .long (sm + (fo2 k))), (0, .ref mo), (1, .int (nI i)), (2, .int (nI k))]) hx hb dX3_year_71 hl (k := 1) rfl (nI_1 t) (by decide) rfl (fun ls hl => ?_)
            refine lv_goto (tgt := 30) hx hb dX3_year_74 (by decide) ?_
            exact ih (t + 1, _, 2, fo2, fi2) _ H locs ls ⟨ht, hM, hF, Or.inr ⟨rfl, hn⟩⟩ (by show 12 - (t + 1) < 12 - t; omega) hG hS (lv_sub hl [0, 1, 2, 3, 4] rfl)
    · refine W.eq (g2 := F0 m 14 ls [.int 0, .ref mo]) rfl ?_
      have hc : oc8 M nn x y = 1 := by rw [oc8, if_pos (fun q => hd q.2)]
      refine lv_if_ne (tgt := 21) hx hb dX3_year_14 (by decide) (fun h => absurd h (by decide)) (fun _ => ?_)
      refine lv_iconst (v := 1) hx hb dX3_year_17 (by decide) ?_
      refine lv_goto (tgt := 22) hx hb dX3_year_18 (by decide) ?_
      refine pf_X3_61 S dX3_year_22 rfl rfl hG hS hM.1 (Nat.le_of_ble_eq_true rfl) (fun H locs hG hS => ?_)
      obtain ⟨G3, hG, hF, hM⟩ : ∃ G1, gh_W E G1 H ∧ gh_fr mdT G G1 ∧ Md E G1 mo ma M fo fi 1 nn := ⟨_, hG, hF.tr (gh_fr.set hM.1 (Or.inl rfl)), hM.setO (th' := 1) (nn' := nn) rfl⟩
      refine lv_lconst (v := 0) hx hb dX3_year_25 (by decide) ?_
      refine lv_lstore_n (lv' := [(3, .long 0), (0, .ref mo), (1, .int x), (2, .int y)]) hx hb dX3_year_26 rfl hl (by decide) rfl (fun ls hl => ?_)
      refine lv_iconst (v := 0) hx hb dX3_year_27 (by decide) ?_
      refine lv_istore (lv' := [(5, .int 0), (3, .long 0), (0, .ref mo), (1, .int x), (2, .int y)]) hx hb dX3_year_28 hl (by decide) rfl (fun ls hl => ?_)
      refine lv_iload hx hb dX3_year_30 (lv_at hl 0 rfl) ?_
      refine lv_bipush (v := 12) hx hb dX3_year_32 (by decide) ?_
      refine lv_icmp_ge (tgt := 77) hx hb dX3_year_34 (by decide) (fun h => absurd h (by decide : ¬ (12 : Int32) ≤ 0)) (fun _ => ?_)
      refine lv_aload_n hx hb dX3_year_37 rfl (lv_at hl 2 rfl) ?_
      refine gf_X3_61 S dX3_year_38 hG hM.1 rfl ?_
      refine lv_if_ne (tgt := 77) hx hb dX3_year_41 (by decide) (fun _ => ?_) (fun h => absurd h (by decide))
      refine lv_aload_n hx hb dX3_year_77 rfl (lv_at hl 2 rfl) ?_
      refine gf_X3_61 S dX3_year_78 hG hM.1 rfl ?_
      refine lv_if_le (tgt := 88) hx hb dX3_year_81 (by decide) (fun h => absurd h (by decide)) (fun _ => ?_)
      refine lv_lconst (v := 0) hx hb dX3_year_84 (by decide) ?_
      refine lv_goto (tgt := 89) hx hb dX3_year_85 (by decide) ?_
      exact g_lret S hr dX3_year_89 hG hS (by first | exact Nat.le_refl _ | omega) (by first | exact Nat.le_refl _ | omega) ⟨0, rfl, fun q => absurd (hc.symm.trans q) (by decide), mdQ.bad hc (by decide) hM hF⟩
  · refine W.eq (g2 := F0 m 6 ls [.int 0, .ref mo]) rfl ?_
    have hc : oc8 M nn x y = 1 := by rw [oc8, if_pos (fun q => hi q.1)]
    refine lv_if_eq (tgt := 17) hx hb dX3_year_6 (by decide) (fun _ => ?_) (fun h => absurd h (by decide))
    refine lv_iconst (v := 1) hx hb dX3_year_17 (by decide) ?_
    refine lv_goto (tgt := 22) hx hb dX3_year_18 (by decide) ?_
    refine pf_X3_61 S dX3_year_22 rfl rfl hG hS hM.1 (Nat.le_of_ble_eq_true rfl) (fun H locs hG hS => ?_)
    obtain ⟨G4, hG, hF, hM⟩ : ∃ G1, gh_W E G1 H ∧ gh_fr mdT G G1 ∧ Md E G1 mo ma M fo fi 1 nn := ⟨_, hG, hF.tr (gh_fr.set hM.1 (Or.inl rfl)), hM.setO (th' := 1) (nn' := nn) rfl⟩
    refine lv_lconst (v := 0) hx hb dX3_year_25 (by decide) ?_
    refine lv_lstore_n (lv' := [(3, .long 0), (0, .ref mo), (1, .int x), (2, .int y)]) hx hb dX3_year_26 rfl hl (by decide) rfl (fun ls hl => ?_)
    refine lv_iconst (v := 0) hx hb dX3_year_27 (by decide) ?_
    refine lv_istore (lv' := [(5, .int 0), (3, .long 0), (0, .ref mo), (1, .int x), (2, .int y)]) hx hb dX3_year_28 hl (by decide) rfl (fun ls hl => ?_)
    refine lv_iload hx hb dX3_year_30 (lv_at hl 0 rfl) ?_
    refine lv_bipush (v := 12) hx hb dX3_year_32 (by decide) ?_
    refine lv_icmp_ge (tgt := 77) hx hb dX3_year_34 (by decide) (fun h => absurd h (by decide : ¬ (12 : Int32) ≤ 0)) (fun _ => ?_)
    refine lv_aload_n hx hb dX3_year_37 rfl (lv_at hl 2 rfl) ?_
    refine gf_X3_61 S dX3_year_38 hG hM.1 rfl ?_
    refine lv_if_ne (tgt := 77) hx hb dX3_year_41 (by decide) (fun _ => ?_) (fun h => absurd h (by decide))
    refine lv_aload_n hx hb dX3_year_77 rfl (lv_at hl 2 rfl) ?_
    refine gf_X3_61 S dX3_year_78 hG hM.1 rfl ?_
    refine lv_if_le (tgt := 88) hx hb dX3_year_81 (by decide) (fun h => absurd h (by decide)) (fun _ => ?_)
    refine lv_lconst (v := 0) hx hb dX3_year_84 (by decide) ?_
    refine lv_goto (tgt := 89) hx hb dX3_year_85 (by decide) ?_
    exact g_lret S hr dX3_year_89 hG hS (by first | exact Nat.le_refl _ | omega) (by first | exact Nat.le_refl _ | omega) ⟨0, rfl, fun q => absurd (hc.symm.trans q) (by decide), mdQ.bad hc (by decide) hM hF⟩
def sp_bs (o : Option Nat) : Int32 := match o with
  | some k => nI k
  | none => -1
theorem sp_fr_lt {P : Nat → Bool} {n s k : Nat} (h : sp_fr P n s = some k) : s ≤ k ∧ k < s + n := by
  induction n generalizing s with
  | zero => cases h
  | succ n ih =>
    unfold sp_fr at h
    split at h
    · cases h; omega
    · have := ih h; omega
theorem nI_m1 (n : Nat) : nI n + (-1) = nI n - 1 := by rw [Int32.sub_eq_add_neg]
theorem nI_m0 {n : Nat} (h : n ≤ 1000) : nI n - 1 < 0 ↔ n = 0 := by
  rw [Int32.lt_iff_toInt_lt, Int32.toInt_zero]
  have h1 := pk_sub_toInt (a := n) (b := 1) (by omega) (by omega)
  rw [show nI 1 = (1 : Int32) from rfl] at h1
  rw [h1]; omega
theorem sk_set {E : Ev} {G : gh} {mo : Nat} {ma : Nat → Nat} {M : tM} {fo : Nat → Int64} {fi : Nat → Int32} {th : Int32} {nn : tN} {d : Nat} {a b : Int32} (hM : Md E G mo ma (va_up M 0 (upd (M 0) d a)) fo fi th nn) : Md E (gh_up G (ma 0) (101, 0, .inl (ev_k E (mtk 0), mln 0, .inl (upd ((va_up M 0 (upd (M 0) d a)) 0) d b)))) mo ma (va_up M 0 (upd (M 0) d b)) fo fi th nn := by
  have h := hM.set 0 (by decide) (upd (upd (M 0) d a) d b)
  have e : (va_up M 0 (upd (M 0) d a)) 0 = upd (M 0) d a := rfl
  rw [e]
  rw [bx_uu] at h
  rw [upd_upd] at h ⊢
  exact h
theorem sk_back {E : Ev} {G : gh} {mo : Nat} {ma : Nat → Nat} {M : tM} {fo : Nat → Int64} {fi : Nat → Int32} {th : Int32} {nn : tN} {d : Nat} {a : Int32} (hM : Md E G mo ma (va_up M 0 (upd (M 0) d a)) fo fi th nn) : Md E (gh_up G (ma 0) (101, 0, .inl (ev_k E (mtk 0), mln 0, .inl (upd ((va_up M 0 (upd (M 0) d a)) 0) d (M 0 d))))) mo ma M fo fi th nn := by
  have h := sk_set (b := M 0 d) hM
  have e : va_up M 0 (upd (M 0) d (M 0 d)) = M := by rw [upd_self, va_self]
  rw [e] at h
  exact h
set_option maxHeartbeats 4000000 in
set_option maxRecDepth 100000 in
theorem metX3_seek (l : Launch) {E : Ev} {G : gh} {mo : Nat} {ma : Nat → Nat} {M : Nat → Nat → Int32} {fo : Nat → Int64} {fi : Nat → Int32} {th : Int32} {nn : Nat → Nat} (x y z u : Int32) (hM : Md E G mo ma M fo fi th nn) (hwf : sp_wf M nn) : Met l yX3_seek (ws_ yX3_seek cX3_seek 8 (some .int)) ({ frames := 5, cells := 0, slots := 0, locals := 320 }) (gP E G [.ref mo, .int x, .int y, .int z, .int u]) (gQ E (fun v G' => mdI E G mo ma (oc10 M nn x y z u) (or10 M nn x y z u) M (M) nn (nn) v G')) 0 0 (ev_A E) := by
  have h16 : nn 1 ≤ 6 := hwf.1.1
  have h10 : nn 2 ≤ 10 := hwf.1.2.1
  have h34 : nn 3 ≤ 4 := hwf.1.2.2.1.2
  have h31 : 1 ≤ nn 3 := hwf.1.2.2.1.1
  have h412 : nn 4 ≤ 12 := hwf.1.2.2.2.1
  have h511 : nn 5 ≤ 11 := hwf.1.2.2.2.2
  refine gMet RX3 (by decide) rfl (Nat.le_of_ble_eq_true rfl) ?_
  intro p e s m below meth c ls hx hb S hr hnm hl hG hS
  have hl : lv_has ls 8 [(0, .ref mo), (1, .int x), (2, .int y), (3, .int z), (4, .int u)] := hl
  have hF : gh_fr mdT G G := gh_fr.rf
  refine lv_aload_n hx hb dX3_seek_0 rfl (lv_at hl 0 rfl) ?_
  refine lv_aload_n hx hb dX3_seek_1 rfl (lv_at hl 0 rfl) ?_
  refine lv_iload_n hx hb dX3_seek_2 rfl (lv_at hl 1 rfl) ?_
  refine g_call hS (va_runV (As := [.int x]) (rest := [.ref mo]) S.1 (metX3_isDriver l x hM) (cwV 1 S.ts (lw_V q1074 q1076 qs19 q39 q1077) rfl rfl rfl (by decide +kernel) ⟨Nat.le_of_ble_eq_true rfl, Nat.le_of_ble_eq_true rfl⟩) (S.preV hG hS hM.1 rfl) rfl rfl hl.1 rfl (lv_room (Nat.le_of_ble_eq_true rfl)) dX3_seek_3 ⟨Nat.le_of_ble_eq_true rfl, Nat.le_of_ble_eq_true rfl⟩) (fun v G1 H locs hp hG hS => ?_)
  refine W.cs (cells' := 0) (slots' := 0) (by first | rfl | omega) (by first | rfl | omega) ?_
  obtain ⟨r, rfl, hr1, rfl⟩ := hp
  rcases hr1 with ⟨rfl, hi⟩ | ⟨rfl, hi⟩
  · refine W.eq (g2 := F0 m 6 ls [.int 1, .ref mo]) rfl ?_
    refine lv_if_eq (tgt := 24) hx hb dX3_seek_6 (by decide) (fun h => absurd h (by decide)) (fun _ => ?_)
    refine lv_aload_n hx hb dX3_seek_9 rfl (lv_at hl 0 rfl) ?_
    refine lv_iload_n hx hb dX3_seek_10 rfl (lv_at hl 2 rfl) ?_
    refine g_call hS (va_runV (As := [.int y]) (rest := [.ref mo]) S.1 (metX3_isLine l y hM) (cwV 1 S.ts (lw_V q1123 q1125 qs27 q39 q1126) rfl rfl rfl (by decide +kernel) ⟨Nat.le_of_ble_eq_true rfl, Nat.le_of_ble_eq_true rfl⟩) (S.preV hG hS hM.1 rfl) rfl rfl hl.1 rfl (lv_room (Nat.le_of_ble_eq_true rfl)) dX3_seek_11 ⟨Nat.le_of_ble_eq_true rfl, Nat.le_of_ble_eq_true rfl⟩) (fun v G1 H locs hp hG hS => ?_)
    refine W.cs (cells' := 0) (slots' := 0) (by first | rfl | omega) (by first | rfl | omega) ?_
    obtain ⟨r, rfl, hr1, rfl⟩ := hp
    rcases hr1 with ⟨rfl, hq⟩ | ⟨rfl, hq⟩
    · refine W.eq (g2 := F0 m 14 ls [.int 1, .ref mo]) rfl ?_
      refine lv_if_eq (tgt := 24) hx hb dX3_seek_14 (by decide) (fun h => absurd h (by decide)) (fun _ => ?_)
      refine lv_iload_n hx hb dX3_seek_17 rfl (lv_at hl 3 rfl) ?_
      refine g_call hS (va_runS (As := [.int z]) (rest := [.ref mo]) S.1 (metX3_isMonth l (E := E) (G := _) z) (va_cwS 1 S.ts (lw_S q1112 q1113 q39 q1114) rfl rfl rfl (by decide +kernel) ⟨Nat.le_of_ble_eq_true rfl, Nat.le_of_ble_eq_true rfl⟩) (S.pre hG hS) rfl rfl hl.1 rfl (lv_room (Nat.le_of_ble_eq_true rfl)) dX3_seek_18 ⟨Nat.le_of_ble_eq_true rfl, Nat.le_of_ble_eq_true rfl⟩) (fun v G1 H locs hp hG hS => ?_)
      refine W.cs (cells' := 0) (slots' := 0) (by first | rfl | omega) (by first | rfl | omega) ?_
      obtain ⟨r, rfl, hr1, rfl⟩ := hp
      rcases hr1 with ⟨rfl, ht⟩ | ⟨rfl, ht⟩
      · refine W.eq (g2 := F0 m 21 ls [.int 1, .ref mo]) rfl ?_
        have hc0 : ¬ ¬ (vix (nn 1) x ∧ vix (nn 2) y ∧ vmo z) := Classical.not_not.mpr ⟨hi, hq, ht⟩
        obtain ⟨d, rfl, hd, ed⟩ := vix.ix hi (by omega)
        obtain ⟨k, rfl, hk, ek⟩ := vix.ix hq (by omega)
        obtain ⟨t, rfl, ht, et⟩ := vmo.ix ht
        refine lv_if_ne (tgt := 28) hx hb dX3_seek_21 (by decide) (fun _ => ?_) (fun h => absurd h (by decide))
        refine lv_iconst (v := 0) hx hb dX3_seek_28 (by decide) ?_
        refine pf_X3_61 S dX3_seek_29 rfl rfl hG hS hM.1 (Nat.le_of_ble_eq_true rfl) (fun H locs hG hS => ?_)
        obtain ⟨G1, hG, hF, hM⟩ : ∃ G1, gh_W E G1 H ∧ gh_fr mdT G G1 ∧ Md E G1 mo ma M fo fi 0 nn := ⟨_, hG, hF.tr (gh_fr.set hM.1 (Or.inl rfl)), hM.setO (th' := 0) (nn' := nn) rfl⟩
        refine lv_aload_n hx hb dX3_seek_32 rfl (lv_at hl 0 rfl) ?_
        refine gf_X3_61 S dX3_seek_33 hG hM.1 rfl ?_
        refine lv_if_le (tgt := 41) hx hb dX3_seek_36 (by decide) (fun _ => ?_) (fun h => absurd h (by decide))
        refine lv_aload_n hx hb dX3_seek_41 rfl (lv_at hl 0 rfl) ?_
        refine gf_X3_7 S dX3_seek_42 hG hM.1 rfl ?_
        refine lv_iload_n hx hb dX3_seek_45 rfl (lv_at hl 1 rfl) ?_
        refine n_iald S dX3_seek_46 hG (hM.arr 0 (by decide)) (gix.mk (show d < 6 by omega) (by decide)) ?_
        refine lv_istore (lv' := [(5, .int (M 0 d)), (0, .ref mo), (1, .int (nI d)), (2, .int (nI k)), (3, .int (nI t)), (4, .int u)]) hx hb dX3_seek_47 hl (by decide) rfl (fun ls hl => ?_)
        refine lv_iconst (v := -1) hx hb dX3_seek_49 (by decide) ?_
        refine lv_istore (lv' := [(6, .int (-1)), (5, .int (M 0 d)), (0, .ref mo), (1, .int (nI d)), (2, .int (nI k)), (3, .int (nI t)), (4, .int u)]) hx hb dX3_seek_50 hl (by decide) rfl (fun ls hl => ?_)
        refine lv_sipush (v := 999) hx hb dX3_seek_52 (by decide) ?_
        refine lv_istore (lv' := [(7, .int 999), (6, .int (-1)), (5, .int (M 0 d)), (0, .ref mo), (1, .int (nI d)), (2, .int (nI k)), (3, .int (nI t)), (4, .int u)]) hx hb dX3_seek_55 hl (by decide) rfl (fun ls hl => ?_)
        have hl : lv_has ls 8 [(7, .int (nI 1000 - 1)), (6, .int (sp_bs (sp_fr (sp_rc M (nn 4) d k t u) (1000 - 1000) 1000))), (5, .int (M 0 d)), (0, .ref mo), (1, .int (nI d)), (2, .int (nI k)), (3, .int (nI t)), (4, .int u)] := (lv_sub hl [0, 1, 2, 3, 4, 5, 6, 7] rfl)
        refine g_while (α := Nat × Int32 × (Nat → Int64) × (Nat → Int32)) (fun x => x.1) (fun x G1 => x.1 ≤ 1000 ∧ Md E G1 mo ma (va_up M 0 (upd (M 0) d x.2.1)) x.2.2.1 x.2.2.2 0 nn ∧ gh_fr mdT G G1) (fun _ => 0) (fun _ => 0) 8 57 (fun x => [(7, .int (nI x.1 - 1)), (6, .int (sp_bs (sp_fr (sp_rc M (nn 4) d k t u) (1000 - x.1) x.1))), (5, .int (M 0 d)), (0, .ref mo), (1, .int (nI d)), (2, .int (nI k)), (3, .int (nI t)), (4, .int u)]) ?_ (1000, M 0 d, fo, fi) G1 H _ ls ⟨Nat.le_refl _, by show Md E _ mo ma (va_up M 0 (upd (M 0) d (M 0 d))) fo fi 0 nn; rw [upd_self, va_self]; exact hM, hF⟩ hG hS hl
        clear hM hF hG hS hl
        intro x G1 H locs ls ih hI hG hS hl
        obtain ⟨n, wv, fo1, fi1⟩ := x
        obtain ⟨hn, hM, hF⟩ := hI
        have hn : n ≤ 1000 := hn
        have hM : Md E G1 mo ma (va_up M 0 (upd (M 0) d wv)) fo1 fi1 0 nn := hM
        have hl : lv_has ls 8 [(7, .int (nI n - 1)), (6, .int (sp_bs (sp_fr (sp_rc M (nn 4) d k t u) (1000 - n) n))), (5, .int (M 0 d)), (0, .ref mo), (1, .int (nI d)), (2, .int (nI k)), (3, .int (nI t)), (4, .int u)] := hl
        refine lv_iload hx hb dX3_seek_57 (lv_at hl 0 rfl) ?_
        refine lv_if_lt (tgt := 105) hx hb dX3_seek_59 (by decide) (fun h59 => ?_) (fun h59 => ?_)
        · have e : n = 0 := (nI_m0 hn).mp h59
          subst e
          have hsk : sp_sk M nn (nI d) (nI k) (nI t) u = (sp_fr (sp_rc M (nn 4) d k t u) 1000 0) := by show sp_fr (sp_rc M (nn 4) (ixN (nI d)) (ixN (nI k)) (ixN (nI t)) u) 1000 0 = _; rw [ed, ek, et]
          refine lv_aload_n hx hb dX3_seek_105 rfl (lv_at hl 3 rfl) ?_
          refine gf_X3_7 S dX3_seek_106 hG hM.1 rfl ?_
          refine lv_iload_n hx hb dX3_seek_109 rfl (lv_at hl 4 rfl) ?_
          refine lv_iload hx hb dX3_seek_110 (lv_at hl 2 rfl) ?_
          refine n_iast S dX3_seek_112 hG hS (hM.arr 0 (by decide)) (gix.mk (show d < 6 by omega) (by decide)) (fun H locs hG hS => ?_)
          obtain ⟨G2, hG, hF, hM⟩ : ∃ G1, gh_W E G1 H ∧ gh_fr mdT G G1 ∧ Md E G1 mo ma M fo1 fi1 0 nn := ⟨_, hG, hF.tr (gh_fr.set (hM.arr 0 (by decide)) (Or.inr (Or.inl rfl))), sk_back hM⟩
          have hl : lv_has ls 8 [(7, .int (nI 0 - 1)), (6, .int (sp_bs (sp_fr (sp_rc M (nn 4) d k t u) 1000 0))), (5, .int (M 0 d)), (0, .ref mo), (1, .int (nI d)), (2, .int (nI k)), (3, .int (nI t)), (4, .int u)] := hl
          cases hS0 : (sp_fr (sp_rc M (nn 4) d k t u) 1000 0) with
          | none =>
            rw [hS0] at hl
            have hl : lv_has ls 8 [(7, .int (nI 0 - 1)), (6, .int (-1)), (5, .int (M 0 d)), (0, .ref mo), (1, .int (nI d)), (2, .int (nI k)), (3, .int (nI t)), (4, .int u)] := hl
            have hc : oc10 M nn (nI d) (nI k) (nI t) u = 2 := by rw [oc10, if_neg hc0, if_pos (hsk.trans hS0)]
            refine lv_aload_n hx hb dX3_seek_113 rfl (lv_at hl 3 rfl) ?_
            refine lv_iload hx hb dX3_seek_114 (lv_at hl 1 rfl) ?_
            refine lv_if_ge (tgt := 123) hx hb dX3_seek_116 (by decide) (fun h => absurd h (by decide)) (fun _ => ?_)
            refine lv_iconst (v := 2) hx hb dX3_seek_119 (by decide) ?_
            refine lv_goto (tgt := 124) hx hb dX3_seek_120 (by decide) ?_
            refine pf_X3_61 S dX3_seek_124 rfl rfl hG hS hM.1 (Nat.le_of_ble_eq_true rfl) (fun H locs hG hS => ?_)
            obtain ⟨G3, hG, hF, hM⟩ : ∃ G1, gh_W E G1 H ∧ gh_fr mdT G G1 ∧ Md E G1 mo ma M fo1 fi1 2 nn := ⟨_, hG, hF.tr (gh_fr.set hM.1 (Or.inl rfl)), hM.setO (th' := 2) (nn' := nn) rfl⟩
            refine lv_aload_n hx hb dX3_seek_127 rfl (lv_at hl 3 rfl) ?_
            refine gf_X3_61 S dX3_seek_128 hG hM.1 rfl ?_
            refine lv_if_le (tgt := 138) hx hb dX3_seek_131 (by decide) (fun h => absurd h (by decide)) (fun _ => ?_)
            refine lv_iconst (v := 0) hx hb dX3_seek_134 (by decide) ?_
            refine lv_goto (tgt := 140) hx hb dX3_seek_135 (by decide) ?_
            exact g_iret S hr dX3_seek_140 hG hS (by first | exact Nat.le_refl _ | omega) (by first | exact Nat.le_refl _ | omega) ⟨0, rfl, fun q => absurd (hc.symm.trans q) (by decide), mdQ.bad hc (by decide) hM hF⟩
          | some v =>
            rw [hS0] at hl
            have hl : lv_has ls 8 [(7, .int (nI 0 - 1)), (6, .int (nI v)), (5, .int (M 0 d)), (0, .ref mo), (1, .int (nI d)), (2, .int (nI k)), (3, .int (nI t)), (4, .int u)] := hl
            have hv9 := sp_fr_lt hS0
            have hc : oc10 M nn (nI d) (nI k) (nI t) u = 0 := by rw [oc10, if_neg hc0, hsk, hS0]; rfl
            refine lv_aload_n hx hb dX3_seek_113 rfl (lv_at hl 3 rfl) ?_
            refine lv_iload hx hb dX3_seek_114 (lv_at hl 1 rfl) ?_
            refine lv_if_ge (tgt := 123) hx hb dX3_seek_116 (by decide) (fun _ => ?_) (fun h => absurd (nI_pos' (n := v) (by omega)) h)
            refine lv_iconst (v := 0) hx hb dX3_seek_123 (by decide) ?_
            refine pf_X3_61 S dX3_seek_124 rfl rfl hG hS hM.1 (Nat.le_of_ble_eq_true rfl) (fun H locs hG hS => ?_)
            obtain ⟨G4, hG, hF, hM⟩ : ∃ G1, gh_W E G1 H ∧ gh_fr mdT G G1 ∧ Md E G1 mo ma M fo1 fi1 0 nn := ⟨_, hG, hF.tr (gh_fr.set hM.1 (Or.inl rfl)), hM.setO (th' := 0) (nn' := nn) rfl⟩
            refine lv_aload_n hx hb dX3_seek_127 rfl (lv_at hl 3 rfl) ?_
            refine gf_X3_61 S dX3_seek_128 hG hM.1 rfl ?_
            refine lv_if_le (tgt := 138) hx hb dX3_seek_131 (by decide) (fun _ => ?_) (fun h => absurd h (by decide))
            refine lv_iload hx hb dX3_seek_138 (lv_at hl 1 rfl) ?_
            exact g_iret S hr dX3_seek_140 hG hS (by first | exact Nat.le_refl _ | omega) (by first | exact Nat.le_refl _ | omega) ⟨_, rfl, fun _ => by rw [or10, hsk, hS0]; rfl, mdQ.ok hc hM hF⟩
        · obtain ⟨n, rfl⟩ : ∃ n', n = n' + 1 := ⟨n - 1, by have : ¬ n = 0 := fun q => h59 ((nI_m0 hn).mpr q); omega⟩
          rw [nI_pred] at hl
          have hl : lv_has ls 8 [(7, .int (nI n)), (6, .int (sp_bs (sp_fr (sp_rc M (nn 4) d k t u) (1000 - (n + 1)) (n + 1)))), (5, .int (M 0 d)), (0, .ref mo), (1, .int (nI d)), (2, .int (nI k)), (3, .int (nI t)), (4, .int u)] := hl
          have hfr : sp_fr (sp_rc M (nn 4) d k t u) (1000 - n) n = if (sp_rc M (nn 4) d k t u) n = true then some n else sp_fr (sp_rc M (nn 4) d k t u) (1000 - (n + 1)) (n + 1) := by
            rw [show 1000 - n = (1000 - (n + 1)) + 1 by omega]; rfl
          refine lv_aload_n hx hb dX3_seek_62 rfl (lv_at hl 3 rfl) ?_
          refine gf_X3_7 S dX3_seek_63 hG hM.1 rfl ?_
          refine lv_iload_n hx hb dX3_seek_66 rfl (lv_at hl 4 rfl) ?_
          refine lv_iload hx hb dX3_seek_67 (lv_at hl 0 rfl) ?_
          refine n_iast S dX3_seek_69 hG hS (hM.arr 0 (by decide)) (gix.mk (show d < 6 by omega) (by decide)) (fun H locs hG hS => ?_)
          obtain ⟨G5, hG, hF, hM⟩ : ∃ G1, gh_W E G1 H ∧ gh_fr mdT G G1 ∧ Md E G1 mo ma (va_up M 0 (upd (M 0) d (nI n))) fo1 fi1 0 nn := ⟨_, hG, hF.tr (gh_fr.set (hM.arr 0 (by decide)) (Or.inr (Or.inl rfl))), sk_set hM⟩
          refine lv_aload_n hx hb dX3_seek_70 rfl (lv_at hl 3 rfl) ?_
          refine lv_iconst (v := 0) hx hb dX3_seek_71 (by decide) ?_
          refine lv_iload_n hx hb dX3_seek_72 rfl (lv_at hl 5 rfl) ?_
          refine lv_iload_n hx hb dX3_seek_73 rfl (lv_at hl 6 rfl) ?_
          refine lv_bipush (v := 6) hx hb dX3_seek_74 (by decide) ?_
          refine g_call hS (va_runV (As := [.int 0, .int (nI k), .int (nI t), .int 6]) (rest := []) S.1 (metX3_finds l 0 k t 6 hM (wf_0 hwf _) (by omega) hk ht) (cwV 4 S.ts (lw_V q1085 q1087 qs21 q39 q1088) rfl rfl rfl (by decide +kernel) ⟨Nat.le_of_ble_eq_true rfl, Nat.le_of_ble_eq_true rfl⟩) (S.preV hG hS hM.1 rfl) rfl rfl hl.1 rfl (lv_room (Nat.le_of_ble_eq_true rfl)) dX3_seek_76 ⟨Nat.le_of_ble_eq_true rfl, Nat.le_of_ble_eq_true rfl⟩) (fun v G1 H locs hp hG hS => ?_)
          refine W.cs (cells' := 0) (slots' := 0) (by first | rfl | omega) (by first | rfl | omega) ?_
          obtain ⟨r, fo2, fi2, rfl, hM, hF2, hrr⟩ := hp
          have hF := hF.tr hF2
          rcases hrr with ⟨rfl, hfd⟩ | ⟨rfl, hfd⟩
          · refine W.eq (g2 := F0 m 79 ls [.int 1]) rfl ?_
            refine lv_if_eq (tgt := 99) hx hb dX3_seek_79 (by decide) (fun h => absurd h (by decide)) (fun _ => ?_)
            refine lv_aload_n hx hb dX3_seek_82 rfl (lv_at hl 3 rfl) ?_
            refine gf_X3_57 S dX3_seek_83 hG hM.1 rfl ?_
            refine lv_iload_n hx hb dX3_seek_86 rfl (lv_at hl 5 rfl) ?_
            refine n_lald S dX3_seek_87 hG hM.2.2.2 (gix.mk (show k < 10 by omega) (by decide)) ?_
            refine lv_iload hx hb dX3_seek_88 (lv_at hl 7 rfl) ?_
            refine lv_i2l (v := u.toInt64) hx hb dX3_seek_90 rfl ?_
            refine W.lcmp hx hb dX3_seek_91 ?_
            refine lv_if_lt (tgt := 99) hx hb dX3_seek_92 (by decide) (fun h92 => ?_) (fun h92 => ?_)
            · have hP : (sp_rc M (nn 4) d k t u) n = false := by unfold sp_rc; rw [hfd]; exact decide_eq_false (Int64.not_le.mpr ((lg_cmp_lt _ _).mp h92))
              refine lv_iinc (v := (nI n - 1)) (lv' := [(7, .int (nI n - 1)), (6, .int (sp_bs (sp_fr (sp_rc M (nn 4) d k t u) (1000 - (n + 1)) (n + 1)))), (5, .int (M 0 d)), (0, .ref mo), (1, .int (nI d)), (2, .int (nI k)), (3, .int (nI t)), (4, .int u)]) hx hb dX3_seek_99 hl (k := 0) rfl (nI_m1 n) (by decide) rfl (fun ls hl => ?_)
              refine lv_goto (tgt := 57) hx hb dX3_seek_102 (by decide) ?_
              refine ih (n, _, fo2, fi2) _ H locs ls ⟨by show n ≤ 1000; omega, hM, hF⟩ (Nat.lt_succ_self _) hG hS ?_
              show lv_has ls 8 [(7, .int (nI n - 1)), (6, .int (sp_bs (sp_fr (sp_rc M (nn 4) d k t u) (1000 - n) n))), (5, .int (M 0 d)), (0, .ref mo), (1, .int (nI d)), (2, .int (nI k)), (3, .int (nI t)), (4, .int u)]; rw [hfr, hP]; exact (lv_sub hl [0, 1, 2, 3, 4, 5, 6, 7] rfl)
            · have hP : (sp_rc M (nn 4) d k t u) n = true := by unfold sp_rc; rw [hfd]; exact decide_eq_true (Int64.not_lt.mp (fun q => h92 ((lg_cmp_lt _ _).mpr q)))
              refine lv_iload hx hb dX3_seek_95 (lv_at hl 0 rfl) ?_
              refine lv_istore (lv' := [(6, .int (nI n)), (7, .int (nI n)), (5, .int (M 0 d)), (0, .ref mo), (1, .int (nI d)), (2, .int (nI k)), (3, .int (nI t)), (4, .int u)]) hx hb dX3_seek_97 hl (by decide) rfl (fun ls hl => ?_)
              refine lv_iinc (v := (nI n - 1)) (lv' := [(7, .int (nI n - 1)), (6, .int (nI n)), (5, .int (M 0 d)), (0, .ref mo), (1, .int (nI d)), (2, .int (nI k)), (3, .int (nI t)), (4, .int u)]) hx hb dX3_seek_99 hl (k := 1) rfl (nI_m1 n) (by decide) rfl (fun ls hl => ?_)
              refine lv_goto (tgt := 57) hx hb dX3_seek_102 (by decide) ?_
              refine ih (n, _, fo2, fi2) _ H locs ls ⟨by show n ≤ 1000; omega, hM, hF⟩ (Nat.lt_succ_self _) hG hS ?_
              show lv_has ls 8 [(7, .int (nI n - 1)), (6, .int (sp_bs (sp_fr (sp_rc M (nn 4) d k t u) (1000 - n) n))), (5, .int (M 0 d)), (0, .ref mo), (1, .int (nI d)), (2, .int (nI k)), (3, .int (nI t)), (4, .int u)]; rw [hfr, hP]; exact (lv_sub hl [0, 1, 2, 3, 4, 5, 6, 7] rfl)
          · refine W.eq (g2 := F0 m 79 ls [.int 0]) rfl ?_
            refine lv_if_eq (tgt := 99) hx hb dX3_seek_79 (by decide) (fun _ => ?_) (fun h => absurd h (by decide))
            have hP : (sp_rc M (nn 4) d k t u) n = false := by unfold sp_rc; rw [hfd]
            refine lv_iinc (v := (nI n - 1)) (lv' := [(7, .int (nI n - 1)), (6, .int (sp_bs (sp_fr (sp_rc M (nn 4) d k t u) (1000 - (n + 1)) (n + 1)))), (5, .int (M 0 d)), (0, .ref mo), (1, .int (nI d)), (2, .int (nI k)), (3, .int (nI t)), (4, .int u)]) hx hb dX3_seek_99 hl (k := 0) rfl (nI_m1 n) (by decide) rfl (fun ls hl => ?_)
            refine lv_goto (tgt := 57) hx hb dX3_seek_102 (by decide) ?_
            refine ih (n, _, fo2, fi2) _ H locs ls ⟨by show n ≤ 1000; omega, hM, hF⟩ (Nat.lt_succ_self _) hG hS ?_
            show lv_has ls 8 [(7, .int (nI n - 1)), (6, .int (sp_bs (sp_fr (sp_rc M (nn 4) d k t u) (1000 - n) n))), (5, .int (M 0 d)), (0, .ref mo), (1, .int (nI d)), (2, .int (nI k)), (3, .int (nI t)), (4, .int u)]; rw [hfr, hP]; exact (lv_sub hl [0, 1, 2, 3, 4, 5, 6, 7] rfl)
      · refine W.eq (g2 := F0 m 21 ls [.int 0, .ref mo]) rfl ?_
        have hc : oc10 M nn x y z u = 1 := by rw [oc10, if_pos (fun q => ht q.2.2)]
        refine lv_if_ne (tgt := 28) hx hb dX3_seek_21 (by decide) (fun h => absurd h (by decide)) (fun _ => ?_)
        refine lv_iconst (v := 1) hx hb dX3_seek_24 (by decide) ?_
        refine lv_goto (tgt := 29) hx hb dX3_seek_25 (by decide) ?_
        refine pf_X3_61 S dX3_seek_29 rfl rfl hG hS hM.1 (Nat.le_of_ble_eq_true rfl) (fun H locs hG hS => ?_)
        obtain ⟨G6, hG, hF, hM⟩ : ∃ G1, gh_W E G1 H ∧ gh_fr mdT G G1 ∧ Md E G1 mo ma M fo fi 1 nn := ⟨_, hG, hF.tr (gh_fr.set hM.1 (Or.inl rfl)), hM.setO (th' := 1) (nn' := nn) rfl⟩
        refine lv_aload_n hx hb dX3_seek_32 rfl (lv_at hl 0 rfl) ?_
        refine gf_X3_61 S dX3_seek_33 hG hM.1 rfl ?_
        refine lv_if_le (tgt := 41) hx hb dX3_seek_36 (by decide) (fun h => absurd h (by decide)) (fun _ => ?_)
        refine lv_iconst (v := 0) hx hb dX3_seek_39 (by decide) ?_
        exact g_iret S hr dX3_seek_40 hG hS (by first | exact Nat.le_refl _ | omega) (by first | exact Nat.le_refl _ | omega) ⟨0, rfl, fun q => absurd (hc.symm.trans q) (by decide), mdQ.bad hc (by decide) hM hF⟩
    · refine W.eq (g2 := F0 m 14 ls [.int 0, .ref mo]) rfl ?_
      have hc : oc10 M nn x y z u = 1 := by rw [oc10, if_pos (fun q => hq q.2.1)]
      refine lv_if_eq (tgt := 24) hx hb dX3_seek_14 (by decide) (fun _ => ?_) (fun h => absurd h (by decide))
      refine lv_iconst (v := 1) hx hb dX3_seek_24 (by decide) ?_
      refine lv_goto (tgt := 29) hx hb dX3_seek_25 (by decide) ?_
      refine pf_X3_61 S dX3_seek_29 rfl rfl hG hS hM.1 (Nat.le_of_ble_eq_true rfl) (fun H locs hG hS => ?_)
      obtain ⟨G7, hG, hF, hM⟩ : ∃ G1, gh_W E G1 H ∧ gh_fr mdT G G1 ∧ Md E G1 mo ma M fo fi 1 nn := ⟨_, hG, hF.tr (gh_fr.set hM.1 (Or.inl rfl)), hM.setO (th' := 1) (nn' := nn) rfl⟩
      refine lv_aload_n hx hb dX3_seek_32 rfl (lv_at hl 0 rfl) ?_
      refine gf_X3_61 S dX3_seek_33 hG hM.1 rfl ?_
      refine lv_if_le (tgt := 41) hx hb dX3_seek_36 (by decide) (fun h => absurd h (by decide)) (fun _ => ?_)
      refine lv_iconst (v := 0) hx hb dX3_seek_39 (by decide) ?_
      exact g_iret S hr dX3_seek_40 hG hS (by first | exact Nat.le_refl _ | omega) (by first | exact Nat.le_refl _ | omega) ⟨0, rfl, fun q => absurd (hc.symm.trans q) (by decide), mdQ.bad hc (by decide) hM hF⟩
  · refine W.eq (g2 := F0 m 6 ls [.int 0, .ref mo]) rfl ?_
    have hc : oc10 M nn x y z u = 1 := by rw [oc10, if_pos (fun q => hi q.1)]
    refine lv_if_eq (tgt := 24) hx hb dX3_seek_6 (by decide) (fun _ => ?_) (fun h => absurd h (by decide))
    refine lv_iconst (v := 1) hx hb dX3_seek_24 (by decide) ?_
    refine lv_goto (tgt := 29) hx hb dX3_seek_25 (by decide) ?_
    refine pf_X3_61 S dX3_seek_29 rfl rfl hG hS hM.1 (Nat.le_of_ble_eq_true rfl) (fun H locs hG hS => ?_)
    obtain ⟨G8, hG, hF, hM⟩ : ∃ G1, gh_W E G1 H ∧ gh_fr mdT G G1 ∧ Md E G1 mo ma M fo fi 1 nn := ⟨_, hG, hF.tr (gh_fr.set hM.1 (Or.inl rfl)), hM.setO (th' := 1) (nn' := nn) rfl⟩
    refine lv_aload_n hx hb dX3_seek_32 rfl (lv_at hl 0 rfl) ?_
    refine gf_X3_61 S dX3_seek_33 hG hM.1 rfl ?_
    refine lv_if_le (tgt := 41) hx hb dX3_seek_36 (by decide) (fun h => absurd h (by decide)) (fun _ => ?_)
    refine lv_iconst (v := 0) hx hb dX3_seek_39 (by decide) ?_
    exact g_iret S hr dX3_seek_40 hG hS (by first | exact Nat.le_refl _ | omega) (by first | exact Nat.le_refl _ | omega) ⟨0, rfl, fun q => absurd (hc.symm.trans q) (by decide), mdQ.bad hc (by decide) hM hF⟩
