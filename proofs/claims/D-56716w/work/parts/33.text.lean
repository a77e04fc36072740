/-! THE TEXT OF THE KINDS -/
set_option maxHeartbeats 4000000 in
set_option maxRecDepth 100000 in
theorem metJ15_isLatin1 (l : Launch) {E : Ev} {G : gh}  : Met l yJ15_isLatin1 (ws_ yJ15_isLatin1 cJ15_isLatin1 1 (some .boolean)) ({ frames := 0, cells := 0, slots := 0, locals := 0 }) (gP E G [.ref (ev_k E 12)]) (gQ E (fun v G' => v = some (.int 1) ∧ G = G')) 0 0 (ev_A E) := by
  refine gMet RJ15 (by decide) rfl (Nat.le_of_ble_eq_true rfl) ?_
  intro p e s m below meth c ls hx hb S hr hnm hl hG hS
  have hl : lv_has ls 1 [(0, .ref (ev_k E 12))] := hl
  refine va_gets hx hb S.2.1.2.2.2.2.2.1.2.2.1 hS S.1.2.2.2.1 (S.ts _ q636) (fun _ h9 => h9) dJ15_isLatin1_0 ?_
  refine lv_if_eq (tgt := 17) hx hb dJ15_isLatin1_3 (by decide) (fun h => absurd h (by decide)) (fun _ => ?_)
  refine lv_aload_n hx hb dJ15_isLatin1_6 rfl (lv_at hl 0 rfl) ?_
  refine vk_getf hx hb (S.2.1.2.2.2.2.2.1.2.1.1 0 (by decide)).2.1 hS S.1.2.2.2.1 (S.ts _ q1240) (fun _ h9 => h9) dJ15_isLatin1_7 ?_
  refine W.eq (g2 := F0 m 10 ls [.int 0]) rfl ?_
  refine lv_if_ne (tgt := 17) hx hb dJ15_isLatin1_10 (by decide) (fun h => absurd h (by decide)) (fun _ => ?_)
  refine lv_iconst (v := 1) hx hb dJ15_isLatin1_13 (by decide) ?_
  refine lv_goto (tgt := 18) hx hb dJ15_isLatin1_14 (by decide) ?_
  exact g_zret rfl S hr dJ15_isLatin1_18 hG hS (by first | exact Nat.le_refl _ | omega) (by first | exact Nat.le_refl _ | omega) ⟨rfl, rfl⟩
set_option maxHeartbeats 4000000 in
set_option maxRecDepth 100000 in
theorem metJ15_coder (l : Launch) {E : Ev} {G : gh}  : Met l yJ15_coder (ws_ yJ15_coder cJ15_coder 1 (some .byte)) ({ frames := 0, cells := 0, slots := 0, locals := 0 }) (gP E G [.ref (ev_k E 12)]) (gQ E (fun v G' => v = some (.int 0) ∧ G = G')) 0 0 (ev_A E) := by
  refine gMet RJ15 (by decide) rfl (Nat.le_of_ble_eq_true rfl) ?_
  intro p e s m below meth c ls hx hb S hr hnm hl hG hS
  have hl : lv_has ls 1 [(0, .ref (ev_k E 12))] := hl
  refine va_gets hx hb S.2.1.2.2.2.2.2.1.2.2.1 hS S.1.2.2.2.1 (S.ts _ q636) (fun _ h9 => h9) dJ15_coder_0 ?_
  refine lv_if_eq (tgt := 13) hx hb dJ15_coder_3 (by decide) (fun h => absurd h (by decide)) (fun _ => ?_)
  refine lv_aload_n hx hb dJ15_coder_6 rfl (lv_at hl 0 rfl) ?_
  refine vk_getf hx hb (S.2.1.2.2.2.2.2.1.2.1.1 0 (by decide)).2.1 hS S.1.2.2.2.1 (S.ts _ q1240) (fun _ h9 => h9) dJ15_coder_7 ?_
  refine W.eq (g2 := F0 m 10 ls [.int 0]) rfl ?_
  refine lv_goto (tgt := 14) hx hb dJ15_coder_10 (by decide) ?_
  exact g_zret rfl S hr dJ15_coder_14 hG hS (by first | exact Nat.le_refl _ | omega) (by first | exact Nat.le_refl _ | omega) ⟨rfl, rfl⟩
set_option maxHeartbeats 4000000 in
set_option maxRecDepth 100000 in
theorem metJ15_length (l : Launch) {E : Ev} {G : gh}  : Met l yJ15_length (ws_ yJ15_length cJ15_length 1 (some .int)) ({ frames := 1, cells := 0, slots := 0, locals := 40 }) (gP E G [.ref (ev_k E 12)]) (gQ E (fun v G' => v = some (.int 4) ∧ G = G')) 0 0 (ev_A E) := by
  refine gMet RJ15 (by decide) rfl (Nat.le_of_ble_eq_true rfl) ?_
  intro p e s m below meth c ls hx hb S hr hnm hl hG hS
  have hl : lv_has ls 1 [(0, .ref (ev_k E 12))] := hl
  refine lv_aload_n hx hb dJ15_length_0 rfl (lv_at hl 0 rfl) ?_
  refine vk_getf hx hb (S.2.1.2.2.2.2.2.1.2.1.1 0 (by decide)).2.2.1 hS S.1.2.2.2.1 (S.ts _ q1241) (fun _ h9 => h9) dJ15_length_1 ?_
  refine W.eq (g2 := F0 m 4 ls [.ref (ev_k E 13)]) rfl ?_
  refine va_tlen hx hb (S.2.1.2.2.2.2.2.1.2.1.1 0 (by decide)).2.2.2 hS (v := 4) rfl dJ15_length_4 ?_
  refine lv_aload_n hx hb dJ15_length_5 rfl (lv_at hl 0 rfl) ?_
  refine g_call hS (va_runV (As := []) (rest := [.int 4]) S.1 (metJ15_coder l (E := E) (G := G)) (cwV 0 S.ts (lw_V q642 q643 q644 q50 q645) rfl rfl rfl (by decide +kernel) ⟨Nat.le_of_ble_eq_true rfl, Nat.le_of_ble_eq_true rfl⟩) (S.preR hG hS (vk_recv S.2.1.2.2.2.2.2.1.2.1 (i := 0) (by decide) hS)) rfl rfl hl.1 rfl (lv_room (Nat.le_of_ble_eq_true rfl)) dJ15_length_6 ⟨Nat.le_of_ble_eq_true rfl, Nat.le_of_ble_eq_true rfl⟩) (fun v G1 H locs hp hG hS => ?_)
  refine W.cs (cells' := 0) (slots' := 0) (by first | rfl | omega) (by first | rfl | omega) ?_
  obtain ⟨rfl, rfl⟩ := hp
  refine W.eq (g2 := F0 m 9 ls [.int 0, .int 4]) rfl ?_
  refine lv_ishr hx hb dJ15_length_9 ?_
  refine W.eq (g2 := F0 m 10 ls [.int 4]) rfl ?_
  exact g_iret S hr dJ15_length_10 hG hS (by first | exact Nat.le_refl _ | omega) (by first | exact Nat.le_refl _ | omega) ⟨rfl, rfl⟩
set_option maxHeartbeats 4000000 in
set_option maxRecDepth 100000 in
theorem metJ20_canEncode (l : Launch) {E : Ev} {G : gh} {x : Int32}  : Met l yJ20_canEncode (ws_ yJ20_canEncode cJ20_canEncode 1 (some .boolean)) ({ frames := 0, cells := 0, slots := 0, locals := 0 }) (gP E G [.int x]) (gQ E (fun v G' => v = some (.int (if 0 ≤ x ∧ x ≤ 255 then 1 else 0)) ∧ G = G')) 0 0 (ev_A E) := by
  refine gMet RJ20 (by decide) rfl (Nat.le_of_ble_eq_true rfl) ?_
  intro p e s m below meth c ls hx hb S hr hnm hl hG hS
  have hl : lv_has ls 1 [(0, .int x)] := hl
  refine lv_iload_n hx hb dJ20_canEncode_0 rfl (lv_at hl 0 rfl) ?_
  refine lv_if_lt (tgt := 15) hx hb dJ20_canEncode_1 (by decide) (fun h1 => ?_) (fun h1 => ?_)
  · refine lv_iconst (v := 0) hx hb dJ20_canEncode_15 (by decide) ?_
    exact g_zret rfl S hr dJ20_canEncode_16 hG hS (by first | exact Nat.le_refl _ | omega) (by first | exact Nat.le_refl _ | omega) ⟨by rw [if_neg (fun q => absurd h1 (Int32.not_lt.mpr q.1))], rfl⟩
  · refine lv_iload_n hx hb dJ20_canEncode_4 rfl (lv_at hl 0 rfl) ?_
    refine lv_sipush (v := 255) hx hb dJ20_canEncode_5 (by decide) ?_
    refine lv_icmp_gt (tgt := 15) hx hb dJ20_canEncode_8 (by decide) (fun h8 => ?_) (fun h8 => ?_)
    · refine lv_iconst (v := 0) hx hb dJ20_canEncode_15 (by decide) ?_
      exact g_zret rfl S hr dJ20_canEncode_16 hG hS (by first | exact Nat.le_refl _ | omega) (by first | exact Nat.le_refl _ | omega) ⟨by rw [if_neg (fun q => absurd q.2 (Int32.not_le.mpr h8))], rfl⟩
    · refine lv_iconst (v := 1) hx hb dJ20_canEncode_11 (by decide) ?_
      refine lv_goto (tgt := 16) hx hb dJ20_canEncode_12 (by decide) ?_
      exact g_zret rfl S hr dJ20_canEncode_16 hG hS (by first | exact Nat.le_refl _ | omega) (by first | exact Nat.le_refl _ | omega) ⟨by rw [if_pos ⟨Int32.not_lt.mp h1, Int32.not_lt.mp h8⟩], rfl⟩
/-- the place of a letter in dsmp -/
def tx_ix (y : Int32) : Int32 := if y = 100 then 0 else if y = 115 then 1 else if y = 109 then 2 else if y = 112 then 3 else -1
set_option maxHeartbeats 4000000 in
set_option maxRecDepth 100000 in
theorem metJ20_indexOfChar (l : Launch) {E : Ev} {G : gh} {x : Int32}  : Met l yJ20_indexOfChar (ws_ yJ20_indexOfChar cJ20_indexOfChar 6 (some .int)) ({ frames := 0, cells := 0, slots := 0, locals := 0 }) (gP E G [.ref (ev_k E 13), .int x, .int 0, .int 4]) (gQ E (fun v G' => v = some (.int (tx_ix x.toInt8.toInt32)) ∧ G = G')) 0 0 (ev_A E) := by
  refine gMet RJ20 (by decide) rfl (Nat.le_of_ble_eq_true rfl) ?_
  intro p e s m below meth c ls hx hb S hr hnm hl hG hS
  have hl : lv_has ls 6 [(0, .ref (ev_k E 13)), (1, .int x), (2, .int 0), (3, .int 4)] := hl
  refine lv_iload_n hx hb dJ20_indexOfChar_0 rfl (lv_at hl 1 rfl) ?_
  refine lv_i2b (v := x.toInt8.toInt32) hx hb dJ20_indexOfChar_1 rfl ?_
  refine lv_istore (lv' := [(4, .int x.toInt8.toInt32), (0, .ref (ev_k E 13)), (1, .int x), (2, .int 0), (3, .int 4)]) hx hb dJ20_indexOfChar_2 hl (by decide) rfl (fun ls hl => ?_)
  refine lv_iload_n hx hb dJ20_indexOfChar_4 rfl (lv_at hl 3 rfl) ?_
  refine lv_istore (lv' := [(5, .int 0), (4, .int x.toInt8.toInt32), (0, .ref (ev_k E 13)), (1, .int x), (2, .int 0), (3, .int 4)]) hx hb dJ20_indexOfChar_5 hl (by decide) rfl (fun ls hl => ?_)
  refine lv_iload hx hb dJ20_indexOfChar_7 (lv_at hl 0 rfl) ?_
  refine lv_iload_n hx hb dJ20_indexOfChar_9 rfl (lv_at hl 5 rfl) ?_
  refine lv_icmp_ge (tgt := 31) hx hb dJ20_indexOfChar_10 (by decide) (fun h => absurd h (by decide)) (fun _ => ?_)
  refine lv_aload_n hx hb dJ20_indexOfChar_13 rfl (lv_at hl 2 rfl) ?_
  refine lv_iload hx hb dJ20_indexOfChar_14 (lv_at hl 0 rfl) ?_
  refine va_tb hx hb (S.2.1.2.2.2.2.2.1.2.1.1 0 (by decide)).2.2.2 hS (i := 0) (vp_in_nI (show 0 < 4 by decide) (by decide)) (v := .int 100) rfl dJ20_indexOfChar_16 ?_
  refine lv_iload hx hb dJ20_indexOfChar_17 (lv_at hl 1 rfl) ?_
  refine lv_icmp_ne (tgt := 25) hx hb dJ20_indexOfChar_19 (by decide) (fun e0 => ?_) (fun e0 => ?_)
  · refine lv_iinc (v := 1) (lv' := [(5, .int 1), (4, .int x.toInt8.toInt32), (0, .ref (ev_k E 13)), (1, .int x), (2, .int 0), (3, .int 4)]) hx hb dJ20_indexOfChar_25 hl (k := 0) rfl (by decide) (by decide) rfl (fun ls hl => ?_)
    refine lv_goto (tgt := 7) hx hb dJ20_indexOfChar_28 (by decide) ?_
    refine lv_iload hx hb dJ20_indexOfChar_7 (lv_at hl 0 rfl) ?_
    refine lv_iload_n hx hb dJ20_indexOfChar_9 rfl (lv_at hl 5 rfl) ?_
    refine lv_icmp_ge (tgt := 31) hx hb dJ20_indexOfChar_10 (by decide) (fun h => absurd h (by decide)) (fun _ => ?_)
    refine lv_aload_n hx hb dJ20_indexOfChar_13 rfl (lv_at hl 2 rfl) ?_
    refine lv_iload hx hb dJ20_indexOfChar_14 (lv_at hl 0 rfl) ?_
    refine va_tb hx hb (S.2.1.2.2.2.2.2.1.2.1.1 0 (by decide)).2.2.2 hS (i := 1) (vp_in_nI (show 1 < 4 by decide) (by decide)) (v := .int 115) rfl dJ20_indexOfChar_16 ?_
    refine lv_iload hx hb dJ20_indexOfChar_17 (lv_at hl 1 rfl) ?_
    refine lv_icmp_ne (tgt := 25) hx hb dJ20_indexOfChar_19 (by decide) (fun e1 => ?_) (fun e1 => ?_)
    · refine lv_iinc (v := 2) (lv' := [(5, .int 2), (4, .int x.toInt8.toInt32), (0, .ref (ev_k E 13)), (1, .int x), (2, .int 0), (3, .int 4)]) hx hb dJ20_indexOfChar_25 hl (k := 0) rfl (by decide) (by decide) rfl (fun ls hl => ?_)
      refine lv_goto (tgt := 7) hx hb dJ20_indexOfChar_28 (by decide) ?_
      refine lv_iload hx hb dJ20_indexOfChar_7 (lv_at hl 0 rfl) ?_
      refine lv_iload_n hx hb dJ20_indexOfChar_9 rfl (lv_at hl 5 rfl) ?_
      refine lv_icmp_ge (tgt := 31) hx hb dJ20_indexOfChar_10 (by decide) (fun h => absurd h (by decide)) (fun _ => ?_)
      refine lv_aload_n hx hb dJ20_indexOfChar_13 rfl (lv_at hl 2 rfl) ?_
      refine lv_iload hx hb dJ20_indexOfChar_14 (lv_at hl 0 rfl) ?_
      refine va_tb hx hb (S.2.1.2.2.2.2.2.1.2.1.1 0 (by decide)).2.2.2 hS (i := 2) (vp_in_nI (show 2 < 4 by decide) (by decide)) (v := .int 109) rfl dJ20_indexOfChar_16 ?_
      refine lv_iload hx hb dJ20_indexOfChar_17 (lv_at hl 1 rfl) ?_
      refine lv_icmp_ne (tgt := 25) hx hb dJ20_indexOfChar_19 (by decide) (fun e2 => ?_) (fun e2 => ?_)
      · refine lv_iinc (v := 3) (lv' := [(5, .int 3), (4, .int x.toInt8.toInt32), (0, .ref (ev_k E 13)), (1, .int x), (2, .int 0), (3, .int 4)]) hx hb dJ20_indexOfChar_25 hl (k := 0) rfl (by decide) (by decide) rfl (fun ls hl => ?_)
        refine lv_goto (tgt := 7) hx hb dJ20_indexOfChar_28 (by decide) ?_
        refine lv_iload hx hb dJ20_indexOfChar_7 (lv_at hl 0 rfl) ?_
        refine lv_iload_n hx hb dJ20_indexOfChar_9 rfl (lv_at hl 5 rfl) ?_
        refine lv_icmp_ge (tgt := 31) hx hb dJ20_indexOfChar_10 (by decide) (fun h => absurd h (by decide)) (fun _ => ?_)
        refine lv_aload_n hx hb dJ20_indexOfChar_13 rfl (lv_at hl 2 rfl) ?_
        refine lv_iload hx hb dJ20_indexOfChar_14 (lv_at hl 0 rfl) ?_
        refine va_tb hx hb (S.2.1.2.2.2.2.2.1.2.1.1 0 (by decide)).2.2.2 hS (i := 3) (vp_in_nI (show 3 < 4 by decide) (by decide)) (v := .int 112) rfl dJ20_indexOfChar_16 ?_
        refine lv_iload hx hb dJ20_indexOfChar_17 (lv_at hl 1 rfl) ?_
        refine lv_icmp_ne (tgt := 25) hx hb dJ20_indexOfChar_19 (by decide) (fun e3 => ?_) (fun e3 => ?_)
        · refine lv_iinc (v := 4) (lv' := [(5, .int 4), (4, .int x.toInt8.toInt32), (0, .ref (ev_k E 13)), (1, .int x), (2, .int 0), (3, .int 4)]) hx hb dJ20_indexOfChar_25 hl (k := 0) rfl (by decide) (by decide) rfl (fun ls hl => ?_)
          refine lv_goto (tgt := 7) hx hb dJ20_indexOfChar_28 (by decide) ?_
          refine lv_iload hx hb dJ20_indexOfChar_7 (lv_at hl 0 rfl) ?_
          refine lv_iload_n hx hb dJ20_indexOfChar_9 rfl (lv_at hl 5 rfl) ?_
          refine lv_icmp_ge (tgt := 31) hx hb dJ20_indexOfChar_10 (by decide) (fun _ => ?_) (fun h => absurd (by decide) h)
          refine lv_iconst (v := -1) hx hb dJ20_indexOfChar_31 (by decide) ?_
          exact g_iret S hr dJ20_indexOfChar_32 hG hS (by first | exact Nat.le_refl _ | omega) (by first | exact Nat.le_refl _ | omega) ⟨by rw [tx_ix, if_neg (fun q => e0 q.symm), if_neg (fun q => e1 q.symm), if_neg (fun q => e2 q.symm), if_neg (fun q => e3 q.symm)], rfl⟩
        · refine lv_iload hx hb dJ20_indexOfChar_22 (lv_at hl 0 rfl) ?_
          exact g_iret S hr dJ20_indexOfChar_24 hG hS (by first | exact Nat.le_refl _ | omega) (by first | exact Nat.le_refl _ | omega) ⟨by rw [tx_ix, if_neg (fun q => e0 q.symm), if_neg (fun q => e1 q.symm), if_neg (fun q => e2 q.symm), if_pos e3.symm], rfl⟩
      · refine lv_iload hx hb dJ20_indexOfChar_22 (lv_at hl 0 rfl) ?_
        exact g_iret S hr dJ20_indexOfChar_24 hG hS (by first | exact Nat.le_refl _ | omega) (by first | exact Nat.le_refl _ | omega) ⟨by rw [tx_ix, if_neg (fun q => e0 q.symm), if_neg (fun q => e1 q.symm), if_pos e2.symm], rfl⟩
    · refine lv_iload hx hb dJ20_indexOfChar_22 (lv_at hl 0 rfl) ?_
      exact g_iret S hr dJ20_indexOfChar_24 hG hS (by first | exact Nat.le_refl _ | omega) (by first | exact Nat.le_refl _ | omega) ⟨by rw [tx_ix, if_neg (fun q => e0 q.symm), if_pos e1.symm], rfl⟩
  · refine lv_iload hx hb dJ20_indexOfChar_22 (lv_at hl 0 rfl) ?_
    exact g_iret S hr dJ20_indexOfChar_24 hG hS (by first | exact Nat.le_refl _ | omega) (by first | exact Nat.le_refl _ | omega) ⟨by rw [tx_ix, if_pos e0.symm], rfl⟩
set_option maxHeartbeats 4000000 in
set_option maxRecDepth 100000 in
theorem metJ20_indexOf (l : Launch) {E : Ev} {G : gh} {x : Int32}  : Met l yJ20_indexOf (ws_ yJ20_indexOf cJ20_indexOf 4 (some .int)) ({ frames := 1, cells := 0, slots := 0, locals := 60 }) (gP E G [.ref (ev_k E 13), .int x, .int 0, .int 4]) (gQ E (fun v G' => v = some (.int (if 0 ≤ x ∧ x ≤ 255 then tx_ix x.toInt8.toInt32 else -1)) ∧ G = G')) 0 0 (ev_A E) := by
  refine gMet RJ20 (by decide) rfl (Nat.le_of_ble_eq_true rfl) ?_
  intro p e s m below meth c ls hx hb S hr hnm hl hG hS
  have hl : lv_has ls 4 [(0, .ref (ev_k E 13)), (1, .int x), (2, .int 0), (3, .int 4)] := hl
  refine lv_iload_n hx hb dJ20_indexOf_0 rfl (lv_at hl 1 rfl) ?_
  refine g_call hS (va_runS (As := [.int x]) (rest := []) S.1 (metJ20_canEncode l (E := E) (G := G) (x := x)) (va_cwS 1 S.ts (lw_S q649 q650 q58 q651) rfl rfl rfl (by decide +kernel) ⟨Nat.le_of_ble_eq_true rfl, Nat.le_of_ble_eq_true rfl⟩) (S.pre hG hS) rfl rfl hl.1 rfl (lv_room (Nat.le_of_ble_eq_true rfl)) dJ20_indexOf_1 ⟨Nat.le_of_ble_eq_true rfl, Nat.le_of_ble_eq_true rfl⟩) (fun v G1 H locs hp hG hS => ?_)
  refine W.cs (cells' := 0) (slots' := 0) (by first | rfl | omega) (by first | rfl | omega) ?_
  obtain ⟨rfl, rfl⟩ := hp
  by_cases hc : 0 ≤ x ∧ x ≤ 255
  · refine W.eq (g2 := F0 m 4 ls [.int 1]) (by rw [if_pos hc]; rfl) ?_
    refine lv_if_ne (tgt := 9) hx hb dJ20_indexOf_4 (by decide) (fun _ => ?_) (fun h => absurd h (by decide))
    refine lv_iload_n hx hb dJ20_indexOf_9 rfl (lv_at hl 2 rfl) ?_
    refine lv_iconst (v := 0) hx hb dJ20_indexOf_10 (by decide) ?_
    refine va_mmax hx hb (S.1.2.2.1.trans hl.1.symm) S.1.2.2.2.1 (S.ts _ q652) (S.ts _ q146) (S.ts _ q36) (S.ts _ q147) (Nat.le_of_ble_eq_true rfl) (Nat.le_of_ble_eq_true rfl) (Nat.le_of_ble_eq_true rfl) (Nat.le_of_ble_eq_true rfl) dJ20_indexOf_11 ?_
    refine W.eq (g2 := F0 m 14 ls [.int 0]) (by rfl) ?_
    refine lv_istore_n (lv' := [(2, .int 0), (0, .ref (ev_k E 13)), (1, .int x), (3, .int 4)]) hx hb dJ20_indexOf_14 rfl hl (by decide) rfl (fun ls hl => ?_)
    refine lv_iload_n hx hb dJ20_indexOf_15 rfl (lv_at hl 3 rfl) ?_
    refine lv_aload_n hx hb dJ20_indexOf_16 rfl (lv_at hl 1 rfl) ?_
    refine va_tlen hx hb (S.2.1.2.2.2.2.2.1.2.1.1 0 (by decide)).2.2.2 hS (v := 4) rfl dJ20_indexOf_17 ?_
    refine va_mmin hx hb (S.1.2.2.1.trans hl.1.symm) S.1.2.2.2.1 (S.ts _ q653) (S.ts _ q184) (S.ts _ q36) (S.ts _ q185) (Nat.le_of_ble_eq_true rfl) (Nat.le_of_ble_eq_true rfl) (Nat.le_of_ble_eq_true rfl) (Nat.le_of_ble_eq_true rfl) dJ20_indexOf_18 ?_
    refine W.eq (g2 := F0 m 21 ls [.int 4]) (by rfl) ?_
    refine lv_istore_n (lv' := [(3, .int 4), (2, .int 0), (0, .ref (ev_k E 13)), (1, .int x)]) hx hb dJ20_indexOf_21 rfl hl (by decide) rfl (fun ls hl => ?_)
    refine lv_iload_n hx hb dJ20_indexOf_22 rfl (lv_at hl 1 rfl) ?_
    refine lv_iload_n hx hb dJ20_indexOf_23 rfl (lv_at hl 0 rfl) ?_
    refine lv_icmp_lt (tgt := 29) hx hb dJ20_indexOf_24 (by decide) (fun _ => ?_) (fun h => absurd (by decide) h)
    refine lv_aload_n hx hb dJ20_indexOf_29 rfl (lv_at hl 2 rfl) ?_
    refine lv_iload_n hx hb dJ20_indexOf_30 rfl (lv_at hl 3 rfl) ?_
    refine lv_iload_n hx hb dJ20_indexOf_31 rfl (lv_at hl 1 rfl) ?_
    refine lv_iload_n hx hb dJ20_indexOf_32 rfl (lv_at hl 0 rfl) ?_
    refine g_call hS (va_runS (As := [.ref (ev_k E 13), .int x, .int 0, .int 4]) (rest := []) S.1 (metJ20_indexOfChar l (E := E) (G := G) (x := x)) (va_cwS 4 S.ts (lw_S q654 q655 q58 q656) rfl rfl rfl (by decide +kernel) ⟨Nat.le_of_ble_eq_true rfl, Nat.le_of_ble_eq_true rfl⟩) (S.pre hG hS) rfl rfl hl.1 rfl (lv_room (Nat.le_of_ble_eq_true rfl)) dJ20_indexOf_33 ⟨Nat.le_of_ble_eq_true rfl, Nat.le_of_ble_eq_true rfl⟩) (fun v G1 H locs hp hG hS => ?_)
    refine W.cs (cells' := 0) (slots' := 0) (by first | rfl | omega) (by first | rfl | omega) ?_
    obtain ⟨rfl, rfl⟩ := hp
    refine W.eq (g2 := F0 m 36 ls [.int (tx_ix x.toInt8.toInt32)]) rfl ?_
    exact g_iret S hr dJ20_indexOf_36 hG hS (by first | exact Nat.le_refl _ | omega) (by first | exact Nat.le_refl _ | omega) ⟨by rw [if_pos hc], rfl⟩
  · refine W.eq (g2 := F0 m 4 ls [.int 0]) (by rw [if_neg hc]; rfl) ?_
    refine lv_if_ne (tgt := 9) hx hb dJ20_indexOf_4 (by decide) (fun h => absurd h (by decide)) (fun _ => ?_)
    refine lv_iconst (v := -1) hx hb dJ20_indexOf_7 (by decide) ?_
    exact g_iret S hr dJ20_indexOf_8 hG hS (by first | exact Nat.le_refl _ | omega) (by first | exact Nat.le_refl _ | omega) ⟨by rw [if_neg hc], rfl⟩
set_option maxHeartbeats 4000000 in
set_option maxRecDepth 100000 in
theorem metJ15_indexOf_2 (l : Launch) {E : Ev} {G : gh} {x : Int32}  : Met l yJ15_indexOf_2 (ws_ yJ15_indexOf_2 cJ15_indexOf_2 3 (some .int)) ({ frames := 2, cells := 0, slots := 0, locals := 100 }) (gP E G [.ref (ev_k E 12), .int x, .int 0]) (gQ E (fun v G' => v = some (.int (if 0 ≤ x ∧ x ≤ 255 then tx_ix x.toInt8.toInt32 else -1)) ∧ G = G')) 0 0 (ev_A E) := by
  refine gMet RJ15 (by decide) rfl (Nat.le_of_ble_eq_true rfl) ?_
  intro p e s m below meth c ls hx hb S hr hnm hl hG hS
  have hl : lv_has ls 3 [(0, .ref (ev_k E 12)), (1, .int x), (2, .int 0)] := hl
  refine lv_aload_n hx hb dJ15_indexOf_2_0 rfl (lv_at hl 0 rfl) ?_
  refine g_call hS (va_runV (As := []) (rest := []) S.1 (metJ15_isLatin1 l (E := E) (G := G)) (cwV 0 S.ts (lw_V q632 q633 q634 q50 q635) rfl rfl rfl (by decide +kernel) ⟨Nat.le_of_ble_eq_true rfl, Nat.le_of_ble_eq_true rfl⟩) (S.preR hG hS (vk_recv S.2.1.2.2.2.2.2.1.2.1 (i := 0) (by decide) hS)) rfl rfl hl.1 rfl (lv_room (Nat.le_of_ble_eq_true rfl)) dJ15_indexOf_2_1 ⟨Nat.le_of_ble_eq_true rfl, Nat.le_of_ble_eq_true rfl⟩) (fun v G1 H locs hp hG hS => ?_)
  refine W.cs (cells' := 0) (slots' := 0) (by first | rfl | omega) (by first | rfl | omega) ?_
  obtain ⟨rfl, rfl⟩ := hp
  refine W.eq (g2 := F0 m 4 ls [.int 1]) rfl ?_
  refine lv_if_eq (tgt := 23) hx hb dJ15_indexOf_2_4 (by decide) (fun h => absurd h (by decide)) (fun _ => ?_)
  refine lv_aload_n hx hb dJ15_indexOf_2_7 rfl (lv_at hl 0 rfl) ?_
  refine vk_getf hx hb (S.2.1.2.2.2.2.2.1.2.1.1 0 (by decide)).2.2.1 hS S.1.2.2.2.1 (S.ts _ q1241) (fun _ h9 => h9) dJ15_indexOf_2_8 ?_
  refine W.eq (g2 := F0 m 11 ls [.ref (ev_k E 13)]) rfl ?_
  refine lv_iload_n hx hb dJ15_indexOf_2_11 rfl (lv_at hl 1 rfl) ?_
  refine lv_iload_n hx hb dJ15_indexOf_2_12 rfl (lv_at hl 2 rfl) ?_
  refine lv_aload_n hx hb dJ15_indexOf_2_13 rfl (lv_at hl 0 rfl) ?_
  refine g_call hS (va_runV (As := []) (rest := [.int 0, .int x, .ref (ev_k E 13)]) S.1 (metJ15_length l (E := E) (G := G)) (cwV 0 S.ts (lw_V q638 q639 q640 q50 q641) rfl rfl rfl (by decide +kernel) ⟨Nat.le_of_ble_eq_true rfl, Nat.le_of_ble_eq_true rfl⟩) (S.preR hG hS (vk_recv S.2.1.2.2.2.2.2.1.2.1 (i := 0) (by decide) hS)) rfl rfl hl.1 rfl (lv_room (Nat.le_of_ble_eq_true rfl)) dJ15_indexOf_2_14 ⟨Nat.le_of_ble_eq_true rfl, Nat.le_of_ble_eq_true rfl⟩) (fun v G1 H locs hp hG hS => ?_)
  refine W.cs (cells' := 0) (slots' := 0) (by first | rfl | omega) (by first | rfl | omega) ?_
  obtain ⟨rfl, rfl⟩ := hp
  refine W.eq (g2 := F0 m 17 ls [.int 4, .int 0, .int x, .ref (ev_k E 13)]) rfl ?_
  refine g_call hS (va_runS (As := [.ref (ev_k E 13), .int x, .int 0, .int 4]) (rest := []) S.1 (metJ20_indexOf l (E := E) (G := G) (x := x)) (va_cwS 4 S.ts (lw_S q646 q647 q58 q648) rfl rfl rfl (by decide +kernel) ⟨Nat.le_of_ble_eq_true rfl, Nat.le_of_ble_eq_true rfl⟩) (S.pre hG hS) rfl rfl hl.1 rfl (lv_room (Nat.le_of_ble_eq_true rfl)) dJ15_indexOf_2_17 ⟨Nat.le_of_ble_eq_true rfl, Nat.le_of_ble_eq_true rfl⟩) (fun v G1 H locs hp hG hS => ?_)
  refine W.cs (cells' := 0) (slots' := 0) (by first | rfl | omega) (by first | rfl | omega) ?_
  obtain ⟨rfl, rfl⟩ := hp
  refine W.eq (g2 := F0 m 20 ls [.int (if 0 ≤ x ∧ x ≤ 255 then tx_ix x.toInt8.toInt32 else -1)]) rfl ?_
  refine lv_goto (tgt := 36) hx hb dJ15_indexOf_2_20 (by decide) ?_
  exact g_iret S hr dJ15_indexOf_2_36 hG hS (by first | exact Nat.le_refl _ | omega) (by first | exact Nat.le_refl _ | omega) ⟨rfl, rfl⟩
set_option maxHeartbeats 4000000 in
set_option maxRecDepth 100000 in
theorem metJ15_indexOf (l : Launch) {E : Ev} {G : gh} {x : Int32}  : Met l yJ15_indexOf (ws_ yJ15_indexOf cJ15_indexOf 2 (some .int)) ({ frames := 3, cells := 0, slots := 0, locals := 140 }) (gP E G [.ref (ev_k E 12), .int x]) (gQ E (fun v G' => v = some (.int (if 0 ≤ x ∧ x ≤ 255 then tx_ix x.toInt8.toInt32 else -1)) ∧ G = G')) 0 0 (ev_A E) := by
  refine gMet RJ15 (by decide) rfl (Nat.le_of_ble_eq_true rfl) ?_
  intro p e s m below meth c ls hx hb S hr hnm hl hG hS
  have hl : lv_has ls 2 [(0, .ref (ev_k E 12)), (1, .int x)] := hl
  refine lv_aload_n hx hb dJ15_indexOf_0 rfl (lv_at hl 0 rfl) ?_
  refine lv_iload_n hx hb dJ15_indexOf_1 rfl (lv_at hl 1 rfl) ?_
  refine lv_iconst (v := 0) hx hb dJ15_indexOf_2 (by decide) ?_
  refine g_call hS (va_runV (As := [.int x, .int 0]) (rest := []) S.1 (metJ15_indexOf_2 l (E := E) (G := G) (x := x)) (cwV 2 S.ts (lw_V q628 q629 q630 q50 q631) rfl rfl rfl (by decide +kernel) ⟨Nat.le_of_ble_eq_true rfl, Nat.le_of_ble_eq_true rfl⟩) (S.preR hG hS (vk_recv S.2.1.2.2.2.2.2.1.2.1 (i := 0) (by decide) hS)) rfl rfl hl.1 rfl (lv_room (Nat.le_of_ble_eq_true rfl)) dJ15_indexOf_3 ⟨Nat.le_of_ble_eq_true rfl, Nat.le_of_ble_eq_true rfl⟩) (fun v G1 H locs hp hG hS => ?_)
  refine W.cs (cells' := 0) (slots' := 0) (by first | rfl | omega) (by first | rfl | omega) ?_
  obtain ⟨rfl, rfl⟩ := hp
  refine W.eq (g2 := F0 m 6 ls [.int (if 0 ≤ x ∧ x ≤ 255 then tx_ix x.toInt8.toInt32 else -1)]) rfl ?_
  exact g_iret S hr dJ15_indexOf_6 hG hS (by first | exact Nat.le_refl _ | omega) (by first | exact Nat.le_refl _ | omega) ⟨rfl, rfl⟩
