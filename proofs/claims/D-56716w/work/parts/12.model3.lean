set_option maxHeartbeats 4000000 in
set_option maxRecDepth 100000 in
theorem metX3_byKind (l : Launch) {E : Ev} {G : gh} {mo : Nat} {ma : Nat → Nat} {M : Nat → Nat → Int32} {fo : Nat → Int64} {fi : Nat → Int32} {th : Int32} {nn : Nat → Nat} (k i t : Nat) (bl : Int32) (hM : Md E G mo ma M fo fi th nn) (hwf : sp_wf M nn) (hk : k < nn 2) (hi : i < nn 3) : Met l yX3_byKind (ws_ yX3_byKind cX3_byKind 9 (some .long)) ({ frames := 2, cells := 0, slots := 0, locals := 120 }) (gP E G [.ref mo, .int (nI k), .int (nI i), .int (nI t), .int bl]) (gQ E (fun v G' => v = some (.long (sp_bv M (nn 4) i t (fun d => decide (nI d < bl)) fo k)) ∧ G = G')) 0 0 (ev_A E) := by
  have h16 : nn 1 ≤ 6 := hwf.1.1
  have h10 : nn 2 ≤ 10 := hwf.1.2.1
  have h34 : nn 3 ≤ 4 := hwf.1.2.2.1.2
  refine gMet RX3 (by decide) rfl (Nat.le_of_ble_eq_true rfl) ?_
  intro p e s m below meth c ls hx hb S hr hnm hl hG hS
  have hl : lv_has ls 9 [(0, .ref mo), (1, .int (nI k)), (2, .int (nI i)), (3, .int (nI t)), (4, .int bl)] := hl
  have hF : gh_fr mdT G G := gh_fr.rf
  refine lv_aload_n hx hb dX3_byKind_0 rfl (lv_at hl 0 rfl) ?_
  refine gf_X3_13 S dX3_byKind_1 hG hM.1 rfl ?_
  refine lv_iload_n hx hb dX3_byKind_4 rfl (lv_at hl 1 rfl) ?_
  refine n_iald S dX3_byKind_5 hG (hM.arr 1 (by decide)) (gix.mk (show k < 10 by omega) (by decide)) ?_
  refine lv_bipush (v := 100) hx hb dX3_byKind_6 (by decide) ?_
  refine lv_icmp_ne (tgt := 27) hx hb dX3_byKind_8 (by decide) (fun h8 => ?_) (fun h8 => ?_)
  · obtain ⟨⟨j1, hj1, e1⟩, ⟨j2, hj2, e2⟩⟩ := (hwf.2.2.1 k hk).2.2 h8
    refine lv_aload_n hx hb dX3_byKind_27 rfl (lv_at hl 0 rfl) ?_
    refine gf_X3_57 S dX3_byKind_28 hG hM.1 rfl ?_
    refine lv_aload_n hx hb dX3_byKind_31 rfl (lv_at hl 0 rfl) ?_
    refine gf_X3_16 S dX3_byKind_32 hG hM.1 rfl ?_
    refine lv_iload_n hx hb dX3_byKind_35 rfl (lv_at hl 1 rfl) ?_
    refine n_iald S dX3_byKind_36 hG (hM.arr 2 (by decide)) (gix.mk (show k < 10 by omega) (by decide)) ?_
    refine n_lald S dX3_byKind_37 hG hM.2.2.2 ⟨e1, show j1 < 10 by omega, by decide⟩ ?_
    refine lv_lstore (lv' := [(5, .long (fo j1)), (0, .ref mo), (1, .int (nI k)), (2, .int (nI i)), (3, .int (nI t)), (4, .int bl)]) hx hb dX3_byKind_38 hl (by decide) rfl (fun ls hl => ?_)
    refine lv_aload_n hx hb dX3_byKind_40 rfl (lv_at hl 1 rfl) ?_
    refine gf_X3_57 S dX3_byKind_41 hG hM.1 rfl ?_
    refine lv_aload_n hx hb dX3_byKind_44 rfl (lv_at hl 1 rfl) ?_
    refine gf_X3_19 S dX3_byKind_45 hG hM.1 rfl ?_
    refine lv_iload_n hx hb dX3_byKind_48 rfl (lv_at hl 2 rfl) ?_
    refine n_iald S dX3_byKind_49 hG (hM.arr 3 (by decide)) (gix.mk (show k < 10 by omega) (by decide)) ?_
    refine n_lald S dX3_byKind_50 hG hM.2.2.2 ⟨e2, show j2 < 10 by omega, by decide⟩ ?_
    refine lv_lstore (lv' := [(7, .long (fo j2)), (5, .long (fo j1)), (0, .ref mo), (1, .int (nI k)), (2, .int (nI i)), (3, .int (nI t)), (4, .int bl)]) hx hb dX3_byKind_51 hl (by decide) rfl (fun ls hl => ?_)
    refine lv_aload_n hx hb dX3_byKind_53 rfl (lv_at hl 2 rfl) ?_
    refine gf_X3_13 S dX3_byKind_54 hG hM.1 rfl ?_
    refine lv_iload_n hx hb dX3_byKind_57 rfl (lv_at hl 3 rfl) ?_
    refine n_iald S dX3_byKind_58 hG (hM.arr 1 (by decide)) (gix.mk (show k < 10 by omega) (by decide)) ?_
    refine lv_bipush (v := 115) hx hb dX3_byKind_59 (by decide) ?_
    refine lv_icmp_ne (tgt := 70) hx hb dX3_byKind_61 (by decide) (fun h61 => ?_) (fun h61 => ?_)
    · refine lv_aload_n hx hb dX3_byKind_70 rfl (lv_at hl 2 rfl) ?_
      refine gf_X3_13 S dX3_byKind_71 hG hM.1 rfl ?_
      refine lv_iload_n hx hb dX3_byKind_74 rfl (lv_at hl 3 rfl) ?_
      refine n_iald S dX3_byKind_75 hG (hM.arr 1 (by decide)) (gix.mk (show k < 10 by omega) (by decide)) ?_
      refine lv_bipush (v := 109) hx hb dX3_byKind_76 (by decide) ?_
      refine lv_icmp_ne (tgt := 89) hx hb dX3_byKind_78 (by decide) (fun h78 => ?_) (fun h78 => ?_)
      · refine lv_lload hx hb dX3_byKind_89 (lv_at hl 1 rfl) ?_
        refine lv_lload hx hb dX3_byKind_91 (lv_at hl 0 rfl) ?_
        refine lv_lmul hx hb dX3_byKind_93 ?_
        refine lv_ldc2 (v := 100) hx hb S.1.2.2.2.1 (S.ts _ q1101) dX3_byKind_94 ?_
        refine lv_ldiv hx hb dX3_byKind_97 (by decide) ?_
        exact g_lret S hr dX3_byKind_98 hG hS (by first | exact Nat.le_refl _ | omega) (by first | exact Nat.le_refl _ | omega) ⟨by rw [sp_bv, if_neg h8, e1, e2, ixN_nI (by omega), ixN_nI (by omega)]; simp only [sp_bk, h61, h78, if_false], rfl⟩
      · refine lv_lload hx hb dX3_byKind_81 (lv_at hl 1 rfl) ?_
        refine lv_lload hx hb dX3_byKind_83 (lv_at hl 0 rfl) ?_
        refine lv_lsub hx hb dX3_byKind_85 ?_
        refine lv_goto (tgt := 98) hx hb dX3_byKind_86 (by decide) ?_
        exact g_lret S hr dX3_byKind_98 hG hS (by first | exact Nat.le_refl _ | omega) (by first | exact Nat.le_refl _ | omega) ⟨by rw [sp_bv, if_neg h8, e1, e2, ixN_nI (by omega), ixN_nI (by omega)]; simp only [sp_bk, h78, if_false, if_true, show ¬ (109 : Int32) = 115 by decide], rfl⟩
    · refine lv_lload hx hb dX3_byKind_64 (lv_at hl 1 rfl) ?_
      refine lv_lload hx hb dX3_byKind_66 (lv_at hl 0 rfl) ?_
      refine lv_ladd hx hb dX3_byKind_68 ?_
      exact g_lret S hr dX3_byKind_69 hG hS (by first | exact Nat.le_refl _ | omega) (by first | exact Nat.le_refl _ | omega) ⟨by rw [sp_bv, if_neg h8, e1, e2, ixN_nI (by omega), ixN_nI (by omega)]; simp only [sp_bk, h61, if_true], rfl⟩
  · obtain ⟨d, hd, e2⟩ := (hwf.2.2.1 k hk).2.1 h8
    refine lv_aload_n hx hb dX3_byKind_11 rfl (lv_at hl 0 rfl) ?_
    refine lv_iload_n hx hb dX3_byKind_12 rfl (lv_at hl 2 rfl) ?_
    refine lv_aload_n hx hb dX3_byKind_13 rfl (lv_at hl 0 rfl) ?_
    refine gf_X3_16 S dX3_byKind_14 hG hM.1 rfl ?_
    refine lv_iload_n hx hb dX3_byKind_17 rfl (lv_at hl 1 rfl) ?_
    refine n_iald S dX3_byKind_18 hG (hM.arr 2 (by decide)) (gix.mk (show k < 10 by omega) (by decide)) ?_
    refine lv_iload_n hx hb dX3_byKind_19 rfl (lv_at hl 3 rfl) ?_
    refine lv_iload hx hb dX3_byKind_20 (lv_at hl 4 rfl) ?_
    refine W.eq (g2 := F0 m 22 ls [.int bl, .int (nI t), .int (nI d), .int (nI i), .ref mo]) (by rw [e2]) ?_
    refine g_call hS (va_runV (As := [.int (nI i), .int (nI d), .int (nI t), .int bl]) (rest := []) S.1 (metX3_valueIn l i d t bl hM hwf hi hd) (cwV 4 S.ts (lw_V q1093 q1095 qs23 q39 q1096) rfl rfl rfl (by decide +kernel) ⟨Nat.le_of_ble_eq_true rfl, Nat.le_of_ble_eq_true rfl⟩) (S.preV hG hS hM.1 rfl) rfl rfl hl.1 rfl (lv_room (Nat.le_of_ble_eq_true rfl)) dX3_byKind_22 ⟨Nat.le_of_ble_eq_true rfl, Nat.le_of_ble_eq_true rfl⟩) (fun v G1 H locs hp hG hS => ?_)
    refine W.cs (cells' := 0) (slots' := 0) (by first | rfl | omega) (by first | rfl | omega) ?_
    obtain ⟨rfl, rfl⟩ := hp
    refine W.eq (g2 := F0 m 25 ls [.int (sp_val M (nn 4) i d t (decide (nI d < bl)))]) rfl ?_
    refine lv_i2l (v := (sp_val M (nn 4) i d t (decide (nI d < bl))).toInt64) hx hb dX3_byKind_25 rfl ?_
    exact g_lret S hr dX3_byKind_26 hG hS (by first | exact Nat.le_refl _ | omega) (by first | exact Nat.le_refl _ | omega) ⟨by rw [sp_bv, if_pos h8, e2, ixN_nI (by omega)], rfl⟩
set_option maxHeartbeats 4000000 in
set_option maxRecDepth 100000 in
theorem metX3_finds (l : Launch) {E : Ev} {G : gh} {mo : Nat} {ma : Nat → Nat} {M : Nat → Nat → Int32} {fo : Nat → Int64} {fi : Nat → Int32} {th : Int32} {nn : Nat → Nat} (i la t : Nat) (bl : Int32) (hM : Md E G mo ma M fo fi th nn) (hwf : sp_wf M nn) (hi : i < nn 3) (hla : la < nn 2) (ht : t < 12) : Met l yX3_finds (ws_ yX3_finds cX3_finds 8 (some .boolean)) ({ frames := 3, cells := 0, slots := 0, locals := 180 }) (gP E G [.ref mo, .int (nI i), .int (nI la), .int (nI t), .int bl]) (gQ E (fun v G' => ∃ (r : Int32) (fo' : Nat → Int64) (fi' : Nat → Int32), v = some (.int r) ∧ Md E G' mo ma M fo' fi' th nn ∧ gh_fr mdT G G' ∧ ((r = 1 ∧ (sp_fd M (nn 4) i t (fun d => decide (nI d < bl)) 10) la = some (fo' la)) ∨ (r = 0 ∧ (sp_fd M (nn 4) i t (fun d => decide (nI d < bl)) 10) la = none)))) 0 0 (ev_A E) := by
  have h16 : nn 1 ≤ 6 := hwf.1.1
  have h10 : nn 2 ≤ 10 := hwf.1.2.1
  have h34 : nn 3 ≤ 4 := hwf.1.2.2.1.2
  refine gMet RX3 (by decide) rfl (Nat.le_of_ble_eq_true rfl) ?_
  intro p e s m below meth c ls hx hb S hr hnm hl hG hS
  have hl : lv_has ls 8 [(0, .ref mo), (1, .int (nI i)), (2, .int (nI la)), (3, .int (nI t)), (4, .int bl)] := hl
  have hF : gh_fr mdT G G := gh_fr.rf
  refine lv_iconst (v := 0) hx hb dX3_finds_0 (by decide) ?_
  refine lv_istore (lv' := [(5, .int 0), (0, .ref mo), (1, .int (nI i)), (2, .int (nI la)), (3, .int (nI t)), (4, .int bl)]) hx hb dX3_finds_1 hl (by decide) rfl (fun ls hl => ?_)
  have hl : lv_has ls 8 [(5, .int (nI 0)), (0, .ref mo), (1, .int (nI i)), (2, .int (nI la)), (3, .int (nI t)), (4, .int bl)] := (lv_sub hl [0, 1, 2, 3, 4, 5] rfl)
  refine g_while (α := Nat × (Nat → Int64) × (Nat → Int32)) (fun x => la + 1 - x.1) (fun x G1 => x.1 ≤ la + 1 ∧ Md E G1 mo ma M x.2.1 x.2.2 th nn ∧ gh_fr mdT G G1 ∧ sp_ok (sp_fd M (nn 4) i t (fun d => decide (nI d < bl)) 10) x.2.1 x.2.2 x.1) (fun _ => 0) (fun _ => 0) 8 3 (fun x => [(5, .int (nI x.1)), (0, .ref mo), (1, .int (nI i)), (2, .int (nI la)), (3, .int (nI t)), (4, .int bl)]) ?_ (0, fo, fi) G s.heap _ ls ⟨Nat.zero_le _, hM, hF, fun j hj => absurd hj (Nat.not_lt_zero _)⟩ hG hS hl
  clear hM hF hG hS hl
  intro x G1 H locs ls ih hI hG hS hl
  obtain ⟨k, fo1, fi1⟩ := x
  obtain ⟨hk, hM, hF, hok⟩ := hI
  have hk : k ≤ la + 1 := hk
  have hM : Md E G1 mo ma M fo1 fi1 th nn := hM
  have hok : sp_ok (sp_fd M (nn 4) i t (fun d => decide (nI d < bl)) 10) fo1 fi1 k := hok
  have hl : lv_has ls 8 [(5, .int (nI k)), (0, .ref mo), (1, .int (nI i)), (2, .int (nI la)), (3, .int (nI t)), (4, .int bl)] := hl
  refine lv_iload hx hb dX3_finds_3 (lv_at hl 0 rfl) ?_
  refine lv_iload_n hx hb dX3_finds_5 rfl (lv_at hl 3 rfl) ?_
  refine lv_icmp_gt (tgt := 173) hx hb dX3_finds_6 (by decide) (fun h6 => ?_) (fun h6 => ?_)
  · have e : k = la + 1 := by have := (nI_ltI (by omega) (by omega)).mp h6; omega
    have hr0 : (fi1 la = 1 ∧ (sp_fd M (nn 4) i t (fun d => decide (nI d < bl)) 10) la = some (fo1 la)) ∨ (fi1 la = 0 ∧ (sp_fd M (nn 4) i t (fun d => decide (nI d < bl)) 10) la = none) := by
      have h := hok la (by omega)
      cases c1 : (sp_fd M (nn 4) i t (fun d => decide (nI d < bl)) 10) la with
      | none => exact Or.inr ⟨h.2 c1, rfl⟩
      | some v => exact Or.inl ⟨(h.1 v c1).2, by rw [(h.1 v c1).1]⟩
    refine lv_aload_n hx hb dX3_finds_173 rfl (lv_at hl 1 rfl) ?_
    refine gf_X3_50 S dX3_finds_174 hG hM.1 rfl ?_
    refine lv_iload_n hx hb dX3_finds_177 rfl (lv_at hl 3 rfl) ?_
    refine n_zald S dX3_finds_178 hG hM.2.2.1 (gix.mk (show la < 10 by omega) (by decide)) ?_
    exact g_zret (by rcases hr0 with h | h <;> rw [h.1] <;> rfl) S hr dX3_finds_179 hG hS (by first | exact Nat.le_refl _ | omega) (by first | exact Nat.le_refl _ | omega) ⟨fi1 la, fo1, fi1, rfl, hM, hF, hr0⟩
  · have hkl : k ≤ la := by rcases Nat.lt_or_ge la k with q | q; exact absurd (nI_lt q (by omega)) h6; exact q
    have hk2 : k < nn 2 := by omega
    refine lv_aload_n hx hb dX3_finds_9 rfl (lv_at hl 1 rfl) ?_
    refine gf_X3_46 S dX3_finds_10 hG hM.1 rfl ?_
    refine lv_iload hx hb dX3_finds_13 (lv_at hl 0 rfl) ?_
    refine lv_iload_n hx hb dX3_finds_15 rfl (lv_at hl 4 rfl) ?_
    refine g_call hS (va_runS (As := [.int (nI k), .int (nI t)]) (rest := [.ref (ma 12)]) S.1 (metX3_at l (E := E) (G := _) (nI k) (nI t)) (va_cwS 2 S.ts (lw_S q1082 q1083 q39 q1084) rfl rfl rfl (by decide +kernel) ⟨Nat.le_of_ble_eq_true rfl, Nat.le_of_ble_eq_true rfl⟩) (S.pre hG hS) rfl rfl hl.1 rfl (lv_room (Nat.le_of_ble_eq_true rfl)) dX3_finds_16 ⟨Nat.le_of_ble_eq_true rfl, Nat.le_of_ble_eq_true rfl⟩) (fun v G1 H locs hp hG hS => ?_)
    refine W.cs (cells' := 0) (slots' := 0) (by first | rfl | omega) (by first | rfl | omega) ?_
    obtain ⟨rfl, rfl⟩ := hp
    refine W.eq (g2 := F0 m 19 ls [.int (nI (12 * k + t)), .ref (ma 12)]) (by rw [← sp_at]; rfl) ?_
    refine n_zald S dX3_finds_19 hG (hM.arr 12 (by decide)) (gix.mk (show 12 * k + t < 120 by omega) (by decide)) ?_
    refine lv_istore (lv' := [(6, .int (M 12 (12 * k + t))), (5, .int (nI k)), (0, .ref mo), (1, .int (nI i)), (2, .int (nI la)), (3, .int (nI t)), (4, .int bl)]) hx hb dX3_finds_20 hl (by decide) rfl (fun ls hl => ?_)
    refine lv_iload hx hb dX3_finds_22 (lv_at hl 0 rfl) ?_
    refine g_joinG _ (fun x : Int32 => (x = 1 ∧ sp_op M fi1 k (12 * k + t)) ∨ (x = 0 ∧ ¬ sp_op M fi1 k (12 * k + t))) (fun x => F0 m 74 ls [.int x]) (fun J => ?_) hG hS (fun x H locs hJ hG hS => ?_)
    · refine lv_if_ne (tgt := 69) hx hb dX3_finds_24 (by decide) (fun h24 => ?_) (fun h24 => ?_)
      · refine lv_iconst (v := 1) hx hb dX3_finds_69 (by decide) ?_
        refine lv_goto (tgt := 74) hx hb dX3_finds_70 (by decide) ?_
        exact J 1 _ _ (Or.inl ⟨rfl, Or.inl h24⟩) hG hS
      · refine lv_aload_n hx hb dX3_finds_27 rfl (lv_at hl 2 rfl) ?_
        refine gf_X3_13 S dX3_finds_28 hG hM.1 rfl ?_
        refine lv_iload hx hb dX3_finds_31 (lv_at hl 1 rfl) ?_
        refine n_iald S dX3_finds_33 hG (hM.arr 1 (by decide)) (gix.mk (show k < 10 by omega) (by decide)) ?_
        refine lv_bipush (v := 100) hx hb dX3_finds_34 (by decide) ?_
        refine lv_icmp_eq (tgt := 69) hx hb dX3_finds_36 (by decide) (fun h36 => ?_) (fun h36 => ?_)
        · refine lv_iconst (v := 1) hx hb dX3_finds_69 (by decide) ?_
          refine lv_goto (tgt := 74) hx hb dX3_finds_70 (by decide) ?_
          exact J 1 _ _ (Or.inl ⟨rfl, Or.inr (Or.inl h36)⟩) hG hS
        · obtain ⟨⟨j1, hj1, e1⟩, ⟨j2, hj2, e2⟩⟩ := (hwf.2.2.1 k hk2).2.2 h36
          have i1 : ixN (M 2 k) = j1 := by rw [e1]; exact ixN_nI (by omega)
          have i2 : ixN (M 3 k) = j2 := by rw [e2]; exact ixN_nI (by omega)
          refine lv_aload_n hx hb dX3_finds_39 rfl (lv_at hl 2 rfl) ?_
          refine gf_X3_50 S dX3_finds_40 hG hM.1 rfl ?_
          refine lv_aload_n hx hb dX3_finds_43 rfl (lv_at hl 2 rfl) ?_
          refine gf_X3_16 S dX3_finds_44 hG hM.1 rfl ?_
          refine lv_iload hx hb dX3_finds_47 (lv_at hl 1 rfl) ?_
          refine n_iald S dX3_finds_49 hG (hM.arr 2 (by decide)) (gix.mk (show k < 10 by omega) (by decide)) ?_
          refine n_zald S dX3_finds_50 hG hM.2.2.1 ⟨e1, show j1 < 10 by omega, by decide⟩ ?_
          refine lv_if_eq (tgt := 73) hx hb dX3_finds_51 (by decide) (fun h51 => ?_) (fun h51 => ?_)
          · refine lv_iconst (v := 0) hx hb dX3_finds_73 (by decide) ?_
            exact J 0 _ _ (Or.inr ⟨rfl, fun q => by rcases q with q | q | q; exact q h24; exact h36 q; exact q.1 (by rw [i1]; exact h51)⟩) hG hS
          · refine lv_aload_n hx hb dX3_finds_54 rfl (lv_at hl 2 rfl) ?_
            refine gf_X3_50 S dX3_finds_55 hG hM.1 rfl ?_
            refine lv_aload_n hx hb dX3_finds_58 rfl (lv_at hl 2 rfl) ?_
            refine gf_X3_19 S dX3_finds_59 hG hM.1 rfl ?_
            refine lv_iload hx hb dX3_finds_62 (lv_at hl 1 rfl) ?_
            refine n_iald S dX3_finds_64 hG (hM.arr 3 (by decide)) (gix.mk (show k < 10 by omega) (by decide)) ?_
            refine n_zald S dX3_finds_65 hG hM.2.2.1 ⟨e2, show j2 < 10 by omega, by decide⟩ ?_
            refine lv_if_eq (tgt := 73) hx hb dX3_finds_66 (by decide) (fun h66 => ?_) (fun h66 => ?_)
            · refine lv_iconst (v := 0) hx hb dX3_finds_73 (by decide) ?_
              exact J 0 _ _ (Or.inr ⟨rfl, fun q => by rcases q with q | q | q; exact q h24; exact h36 q; exact q.2 (by rw [i2]; exact h66)⟩) hG hS
            · refine lv_iconst (v := 1) hx hb dX3_finds_69 (by decide) ?_
              refine lv_goto (tgt := 74) hx hb dX3_finds_70 (by decide) ?_
              exact J 1 _ _ (Or.inl ⟨rfl, Or.inr (Or.inr ⟨by rw [i1]; exact h51, by rw [i2]; exact h66⟩)⟩) hG hS
    · refine lv_istore (lv' := [(7, .int x), (6, .int (M 12 (12 * k + t))), (5, .int (nI k)), (0, .ref mo), (1, .int (nI i)), (2, .int (nI la)), (3, .int (nI t)), (4, .int bl)]) hx hb dX3_finds_74 hl (by decide) rfl (fun ls hl => ?_)
      refine lv_aload_n hx hb dX3_finds_76 rfl (lv_at hl 3 rfl) ?_
      refine gf_X3_57 S dX3_finds_77 hG hM.1 rfl ?_
      refine lv_iload hx hb dX3_finds_80 (lv_at hl 2 rfl) ?_
      refine lv_iload hx hb dX3_finds_82 (lv_at hl 1 rfl) ?_
      refine g_joinG _ (fun y : Int64 => (M 12 (12 * k + t) ≠ 0 → y = (M 9 (12 * k + t)).toInt64) ∧ (M 12 (12 * k + t) = 0 → sp_op M fi1 k (12 * k + t) → y = sp_bv M (nn 4) i t (fun d => decide (nI d < bl)) fo1 k)) (fun y => F0 m 121 ls [.long y, .int (nI k), .ref (ma 15)]) (fun J2 => ?_) hG hS (fun y H locs hJ2 hG hS => ?_)
      · refine lv_if_eq (tgt := 102) hx hb dX3_finds_84 (by decide) (fun h84 => ?_) (fun h84 => ?_)
        · refine lv_iload hx hb dX3_finds_102 (lv_at hl 0 rfl) ?_
          refine lv_if_eq (tgt := 120) hx hb dX3_finds_104 (by decide) (fun h104 => ?_) (fun h104 => ?_)
          · refine lv_lconst (v := 0) hx hb dX3_finds_120 (by decide) ?_
            exact J2 0 _ _ ⟨fun q => absurd h84 q, fun _ q => by rcases hJ with h | h; exact absurd (h104 ▸ h.1) (by decide); exact absurd q h.2⟩ hG hS
          · refine lv_aload_n hx hb dX3_finds_107 rfl (lv_at hl 3 rfl) ?_
            refine lv_iload hx hb dX3_finds_108 (lv_at hl 2 rfl) ?_
            refine lv_iload_n hx hb dX3_finds_110 rfl (lv_at hl 4 rfl) ?_
            refine lv_iload_n hx hb dX3_finds_111 rfl (lv_at hl 6 rfl) ?_
            refine lv_iload hx hb dX3_finds_112 (lv_at hl 7 rfl) ?_
            refine g_call hS (va_runV (As := [.int (nI k), .int (nI i), .int (nI t), .int bl]) (rest := [.int (nI k), .ref (ma 15)]) S.1 (metX3_byKind l k i t bl hM hwf hk2 hi) (cwV 4 S.ts (lw_V q1089 q1091 qs22 q39 q1092) rfl rfl rfl (by decide +kernel) ⟨Nat.le_of_ble_eq_true rfl, Nat.le_of_ble_eq_true rfl⟩) (S.preV hG hS hM.1 rfl) rfl rfl hl.1 rfl (lv_room (Nat.le_of_ble_eq_true rfl)) dX3_finds_114 ⟨Nat.le_of_ble_eq_true rfl, Nat.le_of_ble_eq_true rfl⟩) (fun v G1 H locs hp hG hS => ?_)
            refine W.cs (cells' := 0) (slots' := 0) (by first | rfl | omega) (by first | rfl | omega) ?_
            obtain ⟨rfl, rfl⟩ := hp
            refine W.eq (g2 := F0 m 117 ls [.long (sp_bv M (nn 4) i t (fun d => decide (nI d < bl)) fo1 k), .int (nI k), .ref (ma 15)]) rfl ?_
            refine lv_goto (tgt := 121) hx hb dX3_finds_117 (by decide) ?_
            exact J2 _ _ _ ⟨fun q => absurd h84 q, fun _ _ => rfl⟩ hG hS
        · refine lv_aload_n hx hb dX3_finds_87 rfl (lv_at hl 3 rfl) ?_
          refine gf_X3_37 S dX3_finds_88 hG hM.1 rfl ?_
          refine lv_iload hx hb dX3_finds_91 (lv_at hl 2 rfl) ?_
          refine lv_iload_n hx hb dX3_finds_93 rfl (lv_at hl 6 rfl) ?_
          refine g_call hS (va_runS (As := [.int (nI k), .int (nI t)]) (rest := [.ref (ma 9), .int (nI k), .ref (ma 15)]) S.1 (metX3_at l (E := E) (G := _) (nI k) (nI t)) (va_cwS 2 S.ts (lw_S q1082 q1083 q39 q1084) rfl rfl rfl (by decide +kernel) ⟨Nat.le_of_ble_eq_true rfl, Nat.le_of_ble_eq_true rfl⟩) (S.pre hG hS) rfl rfl hl.1 rfl (lv_room (Nat.le_of_ble_eq_true rfl)) dX3_finds_94 ⟨Nat.le_of_ble_eq_true rfl, Nat.le_of_ble_eq_true rfl⟩) (fun v G1 H locs hp hG hS => ?_)
          refine W.cs (cells' := 0) (slots' := 0) (by first | rfl | omega) (by first | rfl | omega) ?_
          obtain ⟨rfl, rfl⟩ := hp
          refine W.eq (g2 := F0 m 97 ls [.int (nI (12 * k + t)), .ref (ma 9), .int (nI k), .ref (ma 15)]) (by rw [← sp_at]; rfl) ?_
          refine n_iald S dX3_finds_97 hG (hM.arr 9 (by decide)) (gix.mk (show 12 * k + t < 120 by omega) (by decide)) ?_
          refine lv_i2l (v := (M 9 (12 * k + t)).toInt64) hx hb dX3_finds_98 rfl ?_
          refine lv_goto (tgt := 121) hx hb dX3_finds_99 (by decide) ?_
          exact J2 _ _ _ ⟨fun _ => rfl, fun q => absurd q h84⟩ hG hS
      · refine n_last S dX3_finds_121 hG hS hM.2.2.2 (gix.mk (show k < 10 by omega) (by decide)) (fun H locs hG hS => ?_)
        obtain ⟨G2, hG, hF, hM⟩ : ∃ G1, gh_W E G1 H ∧ gh_fr mdT G G1 ∧ Md E G1 mo ma M (vp_updL fo1 k y) fi1 th nn := ⟨_, hG, hF.tr (gh_fr.set hM.2.2.2 (Or.inr (Or.inr (Or.inr rfl)))), hM.setL _⟩
        refine lv_aload_n hx hb dX3_finds_122 rfl (lv_at hl 3 rfl) ?_
        refine gf_X3_50 S dX3_finds_123 hG hM.1 rfl ?_
        refine lv_iload hx hb dX3_finds_126 (lv_at hl 2 rfl) ?_
        refine lv_iload hx hb dX3_finds_128 (lv_at hl 0 rfl) ?_
        refine g_joinG _ (fun z : Int32 => (z = 1 ∧ sp_op M fi1 k (12 * k + t) ∧ sp_in y = true) ∨ (z = 0 ∧ ¬ (sp_op M fi1 k (12 * k + t) ∧ sp_in y = true))) (fun z => F0 m 166 ls [.int z, .int (nI k), .ref (ma 13)]) (fun J3 => ?_) hG hS (fun z H locs hJ3 hG hS => ?_)
        · refine lv_if_eq (tgt := 165) hx hb dX3_finds_130 (by decide) (fun h130 => ?_) (fun h130 => ?_)
          · refine lv_iconst (v := 0) hx hb dX3_finds_165 (by decide) ?_
            exact J3 0 _ _ (Or.inr ⟨rfl, fun q => by rcases hJ with h | h; exact absurd (h130 ▸ h.1) (by decide); exact h.2 q.1⟩) hG hS
          · have e9 : vp_updL fo1 k y k = y := pk_uLs
            refine lv_aload_n hx hb dX3_finds_133 rfl (lv_at hl 3 rfl) ?_
            refine gf_X3_57 S dX3_finds_134 hG hM.1 rfl ?_
            refine lv_iload hx hb dX3_finds_137 (lv_at hl 2 rfl) ?_
            refine n_lald S dX3_finds_139 hG hM.2.2.2 (gix.mk (show k < 10 by omega) (by decide)) ?_
            refine lv_ldc2 (v := (-99999999)) hx hb S.1.2.2.2.1 (S.ts _ q1102) dX3_finds_140 ?_
            refine W.eq (g2 := F0 m 143 ls [.long (-99999999), .long y, .int (nI k), .ref (ma 13)]) (by rw [e9]) ?_
            refine W.lcmp hx hb dX3_finds_143 ?_
            refine lv_if_lt (tgt := 165) hx hb dX3_finds_144 (by decide) (fun h144 => ?_) (fun h144 => ?_)
            · refine lv_iconst (v := 0) hx hb dX3_finds_165 (by decide) ?_
              exact J3 0 _ _ (Or.inr ⟨rfl, fun q => absurd ((lg_cmp_lt _ _).mp h144) ((sp_in_iff y).mp q.2).1⟩) hG hS
            · refine lv_aload_n hx hb dX3_finds_147 rfl (lv_at hl 3 rfl) ?_
              refine gf_X3_57 S dX3_finds_148 hG hM.1 rfl ?_
              refine lv_iload hx hb dX3_finds_151 (lv_at hl 2 rfl) ?_
              refine n_lald S dX3_finds_153 hG hM.2.2.2 (gix.mk (show k < 10 by omega) (by decide)) ?_
              refine lv_ldc2 (v := 99999999) hx hb S.1.2.2.2.1 (S.ts _ q1103) dX3_finds_154 ?_
              refine W.eq (g2 := F0 m 157 ls [.long 99999999, .long y, .int (nI k), .ref (ma 13)]) (by rw [e9]) ?_
              refine W.lcmp hx hb dX3_finds_157 ?_
              refine lv_if_gt (tgt := 165) hx hb dX3_finds_158 (by decide) (fun h158 => ?_) (fun h158 => ?_)
              · refine lv_iconst (v := 0) hx hb dX3_finds_165 (by decide) ?_
                exact J3 0 _ _ (Or.inr ⟨rfl, fun q => absurd ((lg_cmp_gt _ _).mp h158) ((sp_in_iff y).mp q.2).2⟩) hG hS
              · refine lv_iconst (v := 1) hx hb dX3_finds_161 (by decide) ?_
                refine lv_goto (tgt := 166) hx hb dX3_finds_162 (by decide) ?_
                exact J3 1 _ _ (Or.inl ⟨rfl, by rcases hJ with h | h; exact h.2; exact absurd h.1 h130, (sp_in_iff y).mpr ⟨fun q => h144 ((lg_cmp_lt _ _).mpr q), fun q => h158 ((lg_cmp_gt _ _).mpr q)⟩⟩) hG hS
        · refine n_zast S dX3_finds_166 hG hS hM.2.2.1 (gix.mk (show k < 10 by omega) (by decide)) (fun H locs hG hS => ?_)
          obtain ⟨G3, hG, hF, hM⟩ : ∃ G1, gh_W E G1 H ∧ gh_fr mdT G G1 ∧ Md E G1 mo ma M (vp_updL fo1 k y) (upd fi1 k (vp_nar .boolean z)) th nn := ⟨_, hG, hF.tr (gh_fr.set hM.2.2.1 (Or.inr (Or.inr (Or.inl rfl)))), hM.setI _⟩
          refine lv_iinc (v := (nI (k + 1))) (lv' := [(5, .int (nI (k + 1))), (7, .int x), (6, .int (M 12 (12 * k + t))), (0, .ref mo), (1, .int (nI i)), (2, .int (nI la)), (3, .int (nI t)), (4, .int bl)]) hx hb dX3_finds_167 hl (k := 2) rfl (nI_1 k) (by decide) rfl (fun ls hl => ?_)
          refine lv_goto (tgt := 3) hx hb dX3_finds_170 (by decide) ?_
          exact ih (k + 1, _, _) _ H locs ls ⟨by show k + 1 ≤ la + 1; omega, hM, hF, sp_ok_step hwf hk2 ht hok hJ2.1 hJ2.2 hJ3⟩ (by show la + 1 - (k + 1) < la + 1 - k; omega) hG hS (lv_sub hl [0, 3, 4, 5, 6, 7] rfl)
