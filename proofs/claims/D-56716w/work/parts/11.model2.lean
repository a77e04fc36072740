set_option maxHeartbeats 4000000 in
set_option maxRecDepth 100000 in
theorem metX3_checked (l : Launch) {E : Ev} {G : gh} {mo : Nat} {ma : Nat → Nat} {M : Nat → Nat → Int32} {fo : Nat → Int64} {fi : Nat → Int32} {th : Int32} {nn : Nat → Nat} (x : Int32) (hM : Md E G mo ma M fo fi th nn) : Met l yX3_checked (ws_ yX3_checked cX3_checked 2 (some .int)) ({ frames := 0, cells := 0, slots := 0, locals := 0 }) (gP E G [.ref mo, .int x]) (gQ E (fun v G' => v = some (.int (if x = 0 then 1 else 0)) ∧ Md E G' mo ma M fo fi (if x = 0 then 1 else 0) nn ∧ gh_fr mdT G G')) 0 0 (ev_A E) := by
  refine gMet RX3 (by decide) rfl (Nat.le_of_ble_eq_true rfl) ?_
  intro p e s m below meth c ls hx hb S hr hnm hl hG hS
  have hl : lv_has ls 2 [(0, .ref mo), (1, .int x)] := hl
  have hF : gh_fr mdT G G := gh_fr.rf
  refine lv_aload_n hx hb dX3_checked_0 rfl (lv_at hl 0 rfl) ?_
  refine lv_iload_n hx hb dX3_checked_1 rfl (lv_at hl 1 rfl) ?_
  refine lv_if_eq (tgt := 9) hx hb dX3_checked_2 (by decide) (fun h2 => ?_) (fun h2 => ?_)
  · refine lv_iconst (v := 1) hx hb dX3_checked_9 (by decide) ?_
    refine pf_X3_61 S dX3_checked_10 rfl rfl hG hS hM.1 (Nat.le_of_ble_eq_true rfl) (fun H locs hG hS => ?_)
    obtain ⟨G1, hG, hF, hM⟩ : ∃ G1, gh_W E G1 H ∧ gh_fr mdT G G1 ∧ Md E G1 mo ma M fo fi 1 nn := ⟨_, hG, hF.tr (gh_fr.set hM.1 (Or.inl rfl)), hM.setO (th' := 1) (nn' := nn) rfl⟩
    refine lv_aload_n hx hb dX3_checked_13 rfl (lv_at hl 0 rfl) ?_
    refine gf_X3_61 S dX3_checked_14 hG hM.1 rfl ?_
    exact g_iret S hr dX3_checked_17 hG hS (by first | exact Nat.le_refl _ | omega) (by first | exact Nat.le_refl _ | omega) ⟨by rw [if_pos h2], by rw [if_pos h2]; exact hM, hF⟩
  · refine lv_iconst (v := 0) hx hb dX3_checked_5 (by decide) ?_
    refine lv_goto (tgt := 10) hx hb dX3_checked_6 (by decide) ?_
    refine pf_X3_61 S dX3_checked_10 rfl rfl hG hS hM.1 (Nat.le_of_ble_eq_true rfl) (fun H locs hG hS => ?_)
    obtain ⟨G2, hG, hF, hM⟩ : ∃ G1, gh_W E G1 H ∧ gh_fr mdT G G1 ∧ Md E G1 mo ma M fo fi 0 nn := ⟨_, hG, hF.tr (gh_fr.set hM.1 (Or.inl rfl)), hM.setO (th' := 0) (nn' := nn) rfl⟩
    refine lv_aload_n hx hb dX3_checked_13 rfl (lv_at hl 0 rfl) ?_
    refine gf_X3_61 S dX3_checked_14 hG hM.1 rfl ?_
    exact g_iret S hr dX3_checked_17 hG hS (by first | exact Nat.le_refl _ | omega) (by first | exact Nat.le_refl _ | omega) ⟨by rw [if_neg h2], by rw [if_neg h2]; exact hM, hF⟩
set_option maxHeartbeats 4000000 in
set_option maxRecDepth 100000 in
theorem metX3_isUnder (l : Launch) {E : Ev} {G : gh} {mo : Nat} {ma : Nat → Nat} {M : Nat → Nat → Int32} {fo : Nat → Int64} {fi : Nat → Int32} {th : Int32} {nn : Nat → Nat} (i j : Nat) (hM : Md E G mo ma M fo fi th nn) (hpar : M 4 0 = -1 ∧ ∀ k, 0 < k → k < nn 3 → ∃ j, j < k ∧ M 4 k = nI j) (hn3 : nn 3 ≤ 4) (hi : i < nn 3) (hj : j < nn 3) : Met l yX3_isUnder (ws_ yX3_isUnder cX3_isUnder 4 (some .boolean)) ({ frames := 0, cells := 0, slots := 0, locals := 0 }) (gP E G [.ref mo, .int (nI i), .int (nI j)]) (gQ E (fun v G' => ∃ r : Int32, v = some (.int r) ∧ bP (j ∈ sp_ch (M 4) 4 i) r ∧ G = G')) 0 0 (ev_A E) := by
  refine gMet RX3 (by decide) rfl (Nat.le_of_ble_eq_true rfl) ?_
  intro p e s m below meth c ls hx hb S hr hnm hl hG hS
  have hl : lv_has ls 4 [(0, .ref mo), (1, .int (nI i)), (2, .int (nI j))] := hl
  have hF : gh_fr mdT G G := gh_fr.rf
  refine lv_iload_n hx hb dX3_isUnder_0 rfl (lv_at hl 1 rfl) ?_
  refine lv_istore_n (lv' := [(3, .int (nI i)), (0, .ref mo), (1, .int (nI i)), (2, .int (nI j))]) hx hb dX3_isUnder_1 rfl hl (by decide) rfl (fun ls hl => ?_)
  refine g_while (α := Int32) (fun x => if x < 0 then 0 else ixN x + 1) (fun x G1 => G = G1 ∧ ((x < 0 ∧ j ∉ sp_ch (M 4) 4 i) ∨ ∃ i' n', x = nI i' ∧ i' < nn 3 ∧ i' < n' ∧ (j ∈ sp_ch (M 4) 4 i ↔ j ∈ sp_ch (M 4) n' i'))) (fun _ => 0) (fun _ => 0) 4 2 (fun x => [(3, .int x), (0, .ref mo), (1, .int (nI i)), (2, .int (nI j))]) ?_ (nI i) G s.heap _ ls ⟨rfl, Or.inr ⟨i, 4, rfl, hi, by omega, Iff.rfl⟩⟩ hG hS hl
  intro x G1 H locs ls ih hI hG hS hl
  obtain ⟨rfl, hI⟩ := hI
  have hl : lv_has ls 4 [(3, .int x), (0, .ref mo), (1, .int (nI i)), (2, .int (nI j))] := hl
  refine lv_iload_n hx hb dX3_isUnder_2 rfl (lv_at hl 0 rfl) ?_
  refine lv_if_lt (tgt := 21) hx hb dX3_isUnder_3 (by decide) (fun h3 => ?_) (fun h3 => ?_)
  · have hI : j ∉ sp_ch (M 4) 4 i := by
      rcases hI with h | ⟨k, n, rfl, h1, -⟩
      · exact h.2
      · exact absurd h3 (nI_pos (by omega))
    refine lv_iload_n hx hb dX3_isUnder_21 rfl (lv_at hl 0 rfl) ?_
    refine lv_iload_n hx hb dX3_isUnder_22 rfl (lv_at hl 3 rfl) ?_
    refine lv_icmp_ne (tgt := 30) hx hb dX3_isUnder_23 (by decide) (fun _ => ?_) (fun h => absurd h (fun q : x = nI j => nI_pos (n := j) (by omega) (q ▸ h3)))
    refine lv_iconst (v := 0) hx hb dX3_isUnder_30 (by decide) ?_
    exact g_zret rfl S hr dX3_isUnder_31 hG hS (by first | exact Nat.le_refl _ | omega) (by first | exact Nat.le_refl _ | omega) ⟨0, rfl, Or.inr ⟨rfl, hI⟩, rfl⟩
  · obtain ⟨k, n, rfl, hk, hkn, hI⟩ : ∃ i' n', x = nI i' ∧ i' < nn 3 ∧ i' < n' ∧ (j ∈ sp_ch (M 4) 4 i ↔ j ∈ sp_ch (M 4) n' i') := by
      rcases hI with h | h
      · exact absurd h.1 h3
      · exact h
    refine lv_iload_n hx hb dX3_isUnder_6 rfl (lv_at hl 0 rfl) ?_
    refine lv_iload_n hx hb dX3_isUnder_7 rfl (lv_at hl 3 rfl) ?_
    refine lv_icmp_eq (tgt := 21) hx hb dX3_isUnder_8 (by decide) (fun h8 => ?_) (fun h8 => ?_)
    · have e8 : k = j := (nI_eq (by omega) (by omega)).mp h8
      subst e8
      refine lv_iload_n hx hb dX3_isUnder_21 rfl (lv_at hl 0 rfl) ?_
      refine lv_iload_n hx hb dX3_isUnder_22 rfl (lv_at hl 3 rfl) ?_
      refine lv_icmp_ne (tgt := 30) hx hb dX3_isUnder_23 (by decide) (fun h => absurd rfl h) (fun _ => ?_)
      refine lv_iconst (v := 1) hx hb dX3_isUnder_26 (by decide) ?_
      refine lv_goto (tgt := 31) hx hb dX3_isUnder_27 (by decide) ?_
      exact g_zret rfl S hr dX3_isUnder_31 hG hS (by first | exact Nat.le_refl _ | omega) (by first | exact Nat.le_refl _ | omega) ⟨1, rfl, Or.inl ⟨rfl, hI.mpr (sp_un2 (by omega))⟩, rfl⟩
    · have e8 : j ≠ k := fun q => h8 (by rw [q])
      refine lv_aload_n hx hb dX3_isUnder_11 rfl (lv_at hl 1 rfl) ?_
      refine gf_X3_22 S dX3_isUnder_12 hG hM.1 rfl ?_
      refine lv_iload_n hx hb dX3_isUnder_15 rfl (lv_at hl 0 rfl) ?_
      refine n_iald S dX3_isUnder_16 hG (hM.arr 4 (by decide)) (gix.mk (show k < mln 4 by show k < 4; omega) (by decide)) ?_
      refine lv_istore_n (lv' := [(3, .int (M 4 k)), (0, .ref mo), (1, .int (nI i)), (2, .int (nI j))]) hx hb dX3_isUnder_17 rfl hl (by decide) rfl (fun ls hl => ?_)
      refine lv_goto (tgt := 2) hx hb dX3_isUnder_18 (by decide) ?_
      by_cases hk0 : k = 0
      · subst hk0
        have hp : M 4 0 < 0 := by rw [hpar.1]; decide
        exact ih (M 4 0) G H locs ls ⟨rfl, Or.inl ⟨hp, fun q => sp_un0 hp e8 (hI.mp q)⟩⟩ (by rw [if_pos hp, if_neg (nI_pos (by omega))]; omega) hG hS (lv_sub hl [0, 1, 2, 3] rfl)
      · obtain ⟨q, hq, eq⟩ := hpar.2 k (by omega) hk
        obtain ⟨n, rfl⟩ : ∃ n', n = n' + 1 := ⟨n - 1, by omega⟩
        refine ih (M 4 k) G H locs ls ⟨rfl, Or.inr ⟨q, n, eq, by omega, by omega, hI.trans (sp_un1 eq (by omega) e8)⟩⟩ ?_ hG hS (lv_sub hl [0, 1, 2, 3] rfl)
        rw [eq, if_neg (nI_pos (by omega)), if_neg (nI_pos (by omega)), ixN_nI (by omega), ixN_nI (by omega)]; omega
set_option maxHeartbeats 4000000 in
set_option maxRecDepth 100000 in
theorem metX3_valueIn (l : Launch) {E : Ev} {G : gh} {mo : Nat} {ma : Nat → Nat} {M : Nat → Nat → Int32} {fo : Nat → Int64} {fi : Nat → Int32} {th : Int32} {nn : Nat → Nat} (i d t : Nat) (bl : Int32) (hM : Md E G mo ma M fo fi th nn) (hwf : sp_wf M nn) (hi : i < nn 3) (hd : d < nn 1) : Met l yX3_valueIn (ws_ yX3_valueIn cX3_valueIn 7 (some .int)) ({ frames := 1, cells := 0, slots := 0, locals := 60 }) (gP E G [.ref mo, .int (nI i), .int (nI d), .int (nI t), .int bl]) (gQ E (fun v G' => v = some (.int (sp_val M (nn 4) i d t (decide (nI d < bl)))) ∧ G = G')) 0 0 (ev_A E) := by
  have h16 : nn 1 ≤ 6 := hwf.1.1
  have h34 : nn 3 ≤ 4 := hwf.1.2.2.1.2
  refine gMet RX3 (by decide) rfl (Nat.le_of_ble_eq_true rfl) ?_
  intro p e s m below meth c ls hx hb S hr hnm hl hG hS
  have hl : lv_has ls 7 [(0, .ref mo), (1, .int (nI i)), (2, .int (nI d)), (3, .int (nI t)), (4, .int bl)] := hl
  have hF : gh_fr mdT G G := gh_fr.rf
  refine lv_aload_n hx hb dX3_valueIn_0 rfl (lv_at hl 0 rfl) ?_
  refine gf_X3_7 S dX3_valueIn_1 hG hM.1 rfl ?_
  refine lv_iload_n hx hb dX3_valueIn_4 rfl (lv_at hl 2 rfl) ?_
  refine n_iald S dX3_valueIn_5 hG (hM.arr 0 (by decide)) (gix.mk (show d < mln 0 by show d < 6; omega) (by decide)) ?_
  refine lv_istore (lv' := [(5, .int (M 0 d)), (0, .ref mo), (1, .int (nI i)), (2, .int (nI d)), (3, .int (nI t)), (4, .int bl)]) hx hb dX3_valueIn_6 hl (by decide) rfl (fun ls hl => ?_)
  refine lv_iconst (v := 0) hx hb dX3_valueIn_8 (by decide) ?_
  refine lv_istore (lv' := [(6, .int 0), (5, .int (M 0 d)), (0, .ref mo), (1, .int (nI i)), (2, .int (nI d)), (3, .int (nI t)), (4, .int bl)]) hx hb dX3_valueIn_9 hl (by decide) rfl (fun ls hl => ?_)
  have hadd : M 0 d = M 0 d + sp_sum (fun k => decide (nI d < bl) && sp_mt M i d t k) (M 8) 0 := (Int32.add_zero _).symm
  have hl := (lv_sub hl [0, 1, 2, 3, 4, 5, 6] rfl)
  have hl : lv_has ls 7 [(6, .int (nI 0)), (5, .int (M 0 d)), (0, .ref mo), (1, .int (nI i)), (2, .int (nI d)), (3, .int (nI t)), (4, .int bl)] := hl
  rw [hadd] at hl
  refine g_while (α := Nat) (fun k => nn 4 - k) (fun k G1 => G = G1 ∧ k ≤ nn 4) (fun _ => 0) (fun _ => 0) 7 11 (fun k => [(6, .int (nI k)), (5, .int (M 0 d + sp_sum (fun k => decide (nI d < bl) && sp_mt M i d t k) (M 8) k)), (0, .ref mo), (1, .int (nI i)), (2, .int (nI d)), (3, .int (nI t)), (4, .int bl)]) ?_ 0 G s.heap _ ls ⟨rfl, Nat.zero_le _⟩ hG hS hl
  intro k G1 H locs ls ih hI hG hS hl
  obtain ⟨rfl, hk⟩ := hI
  have hl : lv_has ls 7 [(6, .int (nI k)), (5, .int (M 0 d + sp_sum (fun k => decide (nI d < bl) && sp_mt M i d t k) (M 8) k)), (0, .ref mo), (1, .int (nI i)), (2, .int (nI d)), (3, .int (nI t)), (4, .int bl)] := hl
  have h12 : nn 4 ≤ 12 := hwf.1.2.2.2.1
  refine lv_iload hx hb dX3_valueIn_11 (lv_at hl 0 rfl) ?_
  refine lv_aload_n hx hb dX3_valueIn_13 rfl (lv_at hl 2 rfl) ?_
  refine gf_X3_74 S dX3_valueIn_14 hG hM.1 rfl ?_
  refine lv_icmp_ge (tgt := 81) hx hb dX3_valueIn_17 (by decide) (fun h17 => ?_) (fun h17 => ?_)
  · have e : k = nn 4 := by have := (nI_leI (by omega) (by omega)).mp h17; omega
    subst e
    refine lv_iload hx hb dX3_valueIn_81 (lv_at hl 1 rfl) ?_
    exact g_iret S hr dX3_valueIn_83 hG hS (by first | exact Nat.le_refl _ | omega) (by first | exact Nat.le_refl _ | omega) ⟨rfl, rfl⟩
  · have hlt : k < nn 4 := Nat.lt_of_not_le fun q => h17 (nI_le q (by omega))
    obtain ⟨⟨j, hj1, hj, e5⟩, -, -⟩ := hwf.2.2.2.1 k hlt
    refine lv_aload_n hx hb dX3_valueIn_20 rfl (lv_at hl 2 rfl) ?_
    refine gf_X3_28 S dX3_valueIn_21 hG hM.1 rfl ?_
    refine lv_iload hx hb dX3_valueIn_24 (lv_at hl 0 rfl) ?_
    refine n_iald S dX3_valueIn_26 hG (hM.arr 6 (by decide)) (gix.mk (show k < 12 by omega) (by decide)) ?_
    refine lv_iload_n hx hb dX3_valueIn_27 rfl (lv_at hl 4 rfl) ?_
    refine lv_icmp_ne (tgt := 75) hx hb dX3_valueIn_28 (by decide) (fun h28 => ?_) (fun h28 => ?_)
    · have ef : (fun k => decide (nI d < bl) && sp_mt M i d t k) k = false := by simp [sp_mt, h28]
      rw [← sp_sum_f (c := fun k => decide (nI d < bl) && sp_mt M i d t k) (f := M 8) ef] at hl
      refine lv_iinc (v := (nI (k + 1))) (lv' := [(6, .int (nI (k + 1))), (5, .int (M 0 d + sp_sum (fun k => decide (nI d < bl) && sp_mt M i d t k) (M 8) (k + 1))), (0, .ref mo), (1, .int (nI i)), (2, .int (nI d)), (3, .int (nI t)), (4, .int bl)]) hx hb dX3_valueIn_75 hl (k := 0) rfl (nI_1 k) (by decide) rfl (fun ls hl => ?_)
      refine lv_goto (tgt := 11) hx hb dX3_valueIn_78 (by decide) ?_
      exact ih (k + 1) G H locs ls ⟨rfl, hlt⟩ (by omega) hG hS (lv_sub hl [0, 1, 2, 3, 4, 5, 6] rfl)
    · refine lv_iload_n hx hb dX3_valueIn_31 rfl (lv_at hl 4 rfl) ?_
      refine lv_iload hx hb dX3_valueIn_32 (lv_at hl 6 rfl) ?_
      refine lv_icmp_ge (tgt := 75) hx hb dX3_valueIn_34 (by decide) (fun h34 => ?_) (fun h34 => ?_)
      · have ef : (fun k => decide (nI d < bl) && sp_mt M i d t k) k = false := by simp [Int32.not_lt.mpr h34]
        rw [← sp_sum_f (c := fun k => decide (nI d < bl) && sp_mt M i d t k) (f := M 8) ef] at hl
        refine lv_iinc (v := (nI (k + 1))) (lv' := [(6, .int (nI (k + 1))), (5, .int (M 0 d + sp_sum (fun k => decide (nI d < bl) && sp_mt M i d t k) (M 8) (k + 1))), (0, .ref mo), (1, .int (nI i)), (2, .int (nI d)), (3, .int (nI t)), (4, .int bl)]) hx hb dX3_valueIn_75 hl (k := 0) rfl (nI_1 k) (by decide) rfl (fun ls hl => ?_)
        refine lv_goto (tgt := 11) hx hb dX3_valueIn_78 (by decide) ?_
        exact ih (k + 1) G H locs ls ⟨rfl, hlt⟩ (by omega) hG hS (lv_sub hl [0, 1, 2, 3, 4, 5, 6] rfl)
      · refine lv_aload_n hx hb dX3_valueIn_37 rfl (lv_at hl 2 rfl) ?_
        refine gf_X3_31 S dX3_valueIn_38 hG hM.1 rfl ?_
        refine lv_iload hx hb dX3_valueIn_41 (lv_at hl 0 rfl) ?_
        refine n_iald S dX3_valueIn_43 hG (hM.arr 7 (by decide)) (gix.mk (show k < 12 by omega) (by decide)) ?_
        refine lv_iload_n hx hb dX3_valueIn_44 rfl (lv_at hl 5 rfl) ?_
        refine lv_icmp_gt (tgt := 75) hx hb dX3_valueIn_45 (by decide) (fun h45 => ?_) (fun h45 => ?_)
        · have ef : (fun k => decide (nI d < bl) && sp_mt M i d t k) k = false := by simp [sp_mt, Int32.not_le.mpr h45]
          rw [← sp_sum_f (c := fun k => decide (nI d < bl) && sp_mt M i d t k) (f := M 8) ef] at hl
          refine lv_iinc (v := (nI (k + 1))) (lv' := [(6, .int (nI (k + 1))), (5, .int (M 0 d + sp_sum (fun k => decide (nI d < bl) && sp_mt M i d t k) (M 8) (k + 1))), (0, .ref mo), (1, .int (nI i)), (2, .int (nI d)), (3, .int (nI t)), (4, .int bl)]) hx hb dX3_valueIn_75 hl (k := 0) rfl (nI_1 k) (by decide) rfl (fun ls hl => ?_)
          refine lv_goto (tgt := 11) hx hb dX3_valueIn_78 (by decide) ?_
          exact ih (k + 1) G H locs ls ⟨rfl, hlt⟩ (by omega) hG hS (lv_sub hl [0, 1, 2, 3, 4, 5, 6] rfl)
        · refine lv_aload_n hx hb dX3_valueIn_48 rfl (lv_at hl 2 rfl) ?_
          refine lv_iload_n hx hb dX3_valueIn_49 rfl (lv_at hl 3 rfl) ?_
          refine lv_aload_n hx hb dX3_valueIn_50 rfl (lv_at hl 2 rfl) ?_
          refine gf_X3_25 S dX3_valueIn_51 hG hM.1 rfl ?_
          refine lv_iload hx hb dX3_valueIn_54 (lv_at hl 0 rfl) ?_
          refine n_iald S dX3_valueIn_56 hG (hM.arr 5 (by decide)) (gix.mk (show k < 12 by omega) (by decide)) ?_
          rw [e5]
          refine g_call hS (va_runV (As := [.int (nI i), .int (nI j)]) (rest := []) S.1 (metX3_isUnder l i j hM hwf.2.1 hwf.1.2.2.1.2 hi hj) (cwV 2 S.ts (lw_V q1097 q1099 qs24 q39 q1100) rfl rfl rfl (by decide +kernel) ⟨Nat.le_of_ble_eq_true rfl, Nat.le_of_ble_eq_true rfl⟩) (S.preV hG hS hM.1 rfl) rfl rfl hl.1 rfl (lv_room (Nat.le_of_ble_eq_true rfl)) dX3_valueIn_57 ⟨Nat.le_of_ble_eq_true rfl, Nat.le_of_ble_eq_true rfl⟩) (fun v G1 H locs hp hG hS => ?_)
          refine W.cs (cells' := 0) (slots' := 0) (by first | rfl | omega) (by first | rfl | omega) ?_
          obtain ⟨r, rfl, hr1, rfl⟩ := hp
          refine W.eq (g2 := F0 m 60 ls [.int r]) rfl ?_
          refine lv_if_eq (tgt := 75) hx hb dX3_valueIn_60 (by decide) (fun h60 => ?_) (fun h60 => ?_)
          · have ef : (fun k => decide (nI d < bl) && sp_mt M i d t k) k = false := by simp [sp_mt, h28, Int32.not_lt.mp, e5, ixN_nI (show j < 2 ^ 31 by omega)]; rcases hr1 with ⟨q, -⟩ | ⟨-, q⟩; (exact absurd (q ▸ h60) (by decide)); simp [q]
            rw [← sp_sum_f (c := fun k => decide (nI d < bl) && sp_mt M i d t k) (f := M 8) ef] at hl
            refine lv_iinc (v := (nI (k + 1))) (lv' := [(6, .int (nI (k + 1))), (5, .int (M 0 d + sp_sum (fun k => decide (nI d < bl) && sp_mt M i d t k) (M 8) (k + 1))), (0, .ref mo), (1, .int (nI i)), (2, .int (nI d)), (3, .int (nI t)), (4, .int bl)]) hx hb dX3_valueIn_75 hl (k := 0) rfl (nI_1 k) (by decide) rfl (fun ls hl => ?_)
            refine lv_goto (tgt := 11) hx hb dX3_valueIn_78 (by decide) ?_
            exact ih (k + 1) G H locs ls ⟨rfl, hlt⟩ (by omega) hG hS (lv_sub hl [0, 1, 2, 3, 4, 5, 6] rfl)
          · have ht : (fun k => decide (nI d < bl) && sp_mt M i d t k) k = true := by
              rcases hr1 with ⟨-, q⟩ | ⟨q, -⟩
              · simp [sp_mt, h28, h34, e5, ixN_nI (show j < 2 ^ 31 by omega), q, Int32.not_lt.mp h45, Int32.not_le.mp h34]
              · exact absurd q h60
            refine lv_iload hx hb dX3_valueIn_63 (lv_at hl 1 rfl) ?_
            refine lv_aload_n hx hb dX3_valueIn_65 rfl (lv_at hl 2 rfl) ?_
            refine gf_X3_34 S dX3_valueIn_66 hG hM.1 rfl ?_
            refine lv_iload hx hb dX3_valueIn_69 (lv_at hl 0 rfl) ?_
            refine n_iald S dX3_valueIn_71 hG (hM.arr 8 (by decide)) (gix.mk (show k < 12 by omega) (by decide)) ?_
            refine lv_iadd hx hb dX3_valueIn_72 ?_
            refine lv_istore (lv' := [(5, .int ((M 0 d + sp_sum (fun k => decide (nI d < bl) && sp_mt M i d t k) (M 8) k) + (M 8 k))), (6, .int (nI k)), (0, .ref mo), (1, .int (nI i)), (2, .int (nI d)), (3, .int (nI t)), (4, .int bl)]) hx hb dX3_valueIn_73 hl (by decide) rfl (fun ls hl => ?_)
            have hl := (lv_sub hl [1, 0, 2, 3, 4, 5, 6] rfl)
            have hl : lv_has ls 7 [(6, .int (nI k)), (5, .int ((M 0 d + sp_sum (fun k => decide (nI d < bl) && sp_mt M i d t k) (M 8) k) + (M 8 k))), (0, .ref mo), (1, .int (nI i)), (2, .int (nI d)), (3, .int (nI t)), (4, .int bl)] := hl
            rw [Int32.add_assoc, ← sp_sum_t (c := fun k => decide (nI d < bl) && sp_mt M i d t k) (f := M 8) ht] at hl
            refine lv_iinc (v := (nI (k + 1))) (lv' := [(6, .int (nI (k + 1))), (5, .int (M 0 d + sp_sum (fun k => decide (nI d < bl) && sp_mt M i d t k) (M 8) (k + 1))), (0, .ref mo), (1, .int (nI i)), (2, .int (nI d)), (3, .int (nI t)), (4, .int bl)]) hx hb dX3_valueIn_75 hl (k := 0) rfl (nI_1 k) (by decide) rfl (fun ls hl => ?_)
            refine lv_goto (tgt := 11) hx hb dX3_valueIn_78 (by decide) ?_
            exact ih (k + 1) G H locs ls ⟨rfl, hlt⟩ (by omega) hG hS (lv_sub hl [0, 1, 2, 3, 4, 5, 6] rfl)
