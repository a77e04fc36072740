/-! EXCEPTIONS MADE BY HAND -/
theorem ex_u {n d : String} {A : Nat → Prop} {U : State} {H : Heap} (h : vx_Zq Bundle.tN n d A U H) : ∃ u : Value, va_Z Bundle.tN n d u A U H ∧ (u = .null ∨ ∃ t, u = .ref t) := by
  rcases h.1 with h | ⟨t, h⟩
  · exact ⟨_, h, Or.inl rfl⟩
  · exact ⟨_, h, Or.inr ⟨t, rfl⟩⟩
theorem ex_nar {ty : FieldType} {u : Value} (hu : u = .null ∨ ∃ t, u = .ref t) (h1 : narrow ty .null = .null) (h2 : ∀ t, narrow ty (.ref t) = .ref t) : narrow ty u = u := by
  rcases hu with rfl | ⟨t, rfl⟩
  · exact h1
  · exact h2 t
theorem ex_fit {ty : FieldType} {u : Value} (hu : u = .null ∨ ∃ t, u = .ref t) (h1 : fits ty .null = true) (h2 : ∀ t, fits ty (.ref t) = true) : fits ty u = true := by
  rcases hu with rfl | ⟨t, rfl⟩
  · exact h1
  · exact h2 t
set_option maxHeartbeats 4000000 in
set_option maxRecDepth 100000 in
theorem metJ6_init_3_X5 (l : Launch) {E : Ev} {G : gh} {a t i : Nat} {v0 v1 v2 v3 v4 v5 : Value}  (hM : G a = some (t, i, .inr (9, [v0, v1, v2, v3, v4, v5]))) : Met l yJ6_init_3 (ws_ yJ6_init_3 cJ6_init_3 5 none) ({ frames := 1, cells := 0, slots := 0, locals := 30 }) (gP E G [.ref a, .null, .null, .int 0, .int 0]) (gQ E (fun v G' => v = none ∧ ∃ w0 w1 w2 w3 w4 w5, G' = gh_up G a (t, i, .inr (9, [w0, w1, w2, w3, w4, w5])))) 0 0 (ev_A E) := by
  refine gMet RJ6 (by decide) rfl (Nat.le_of_ble_eq_true rfl) ?_
  intro p e s m below meth c ls hx hb S hr hnm hl hG hS
  have hl : lv_has ls 5 [(0, .ref a), (1, .null), (2, .null), (3, .int 0), (4, .int 0)] := hl
  obtain ⟨u1, hu1, hu2⟩ := ex_u S.2.1.2.2.2.1.1
  obtain ⟨p1, hp1, hp2⟩ := ex_u S.2.1.2.2.2.1.2
  refine lv_aload_n hx hb dJ6_init_3_0 rfl (lv_at hl 0 rfl) ?_
  refine W.objInit hx hb S.1.2.2.2.1 (S.ts _ q295) (S.ts _ q72) (S.ts _ q73) rfl (by rw [S.1.2.2.1]; exact hl.1) rfl dJ6_init_3_1 (Nat.le_of_ble_eq_true rfl) (Nat.le_of_ble_eq_true rfl) ?_
  refine W.eq (g2 := F0 m 4 ls []) rfl ?_
  refine lv_aload_n hx hb dJ6_init_3_4 rfl (lv_at hl 0 rfl) ?_
  refine lv_aload_n hx hb dJ6_init_3_5 rfl (lv_at hl 0 rfl) ?_
  refine g_put (ci := 9) (C := RX5) (T := TX5) (N := 6) S in_X5 tyX5 tyX5_ok nmX5 rfl 0 (by decide) (S.ts _ q329) (fun _ h9 => h9) rfl (ty := (.object "java/lang/Throwable")) (by decide +kernel) dJ6_init_3_6 (v := .ref a) rfl rfl hG hS hM (Nat.le_of_ble_eq_true rfl) (fun H locs hG hS => ?_)
  refine lv_aload_n hx hb dJ6_init_3_9 rfl (lv_at hl 0 rfl) ?_
  refine va_gets hx hb hu1 hS S.1.2.2.2.1 (S.ts _ q296) (fun _ h9 => h9) dJ6_init_3_10 ?_
  refine g_put (ci := 9) (C := RX5) (T := TX5) (N := 6) S in_X5 tyX5 tyX5_ok nmX5 rfl 1 (by decide) (S.ts _ q330) (fun _ h9 => h9) rfl (ty := (.array (.object "java/lang/StackTraceElement"))) (by decide +kernel) dJ6_init_3_13 (v := u1) (ex_nar hu2 rfl (fun _ => rfl)) (ex_fit hu2 rfl (fun _ => rfl)) hG hS gh_up_s (Nat.le_of_ble_eq_true rfl) (fun H locs hG hS => ?_)
  rw [gh_up_up] at hG
  refine lv_aload_n hx hb dJ6_init_3_16 rfl (lv_at hl 0 rfl) ?_
  refine va_gets hx hb hp1 hS S.1.2.2.2.1 (S.ts _ q298) (fun _ h9 => h9) dJ6_init_3_17 ?_
  refine g_put (ci := 9) (C := RX5) (T := TX5) (N := 6) S in_X5 tyX5 tyX5_ok nmX5 rfl 2 (by decide) (S.ts _ q331) (fun _ h9 => h9) rfl (ty := (.object "java/util/List")) (by decide +kernel) dJ6_init_3_20 (v := p1) (ex_nar hp2 rfl (fun _ => rfl)) (ex_fit hp2 rfl (fun _ => rfl)) hG hS gh_up_s (Nat.le_of_ble_eq_true rfl) (fun H locs hG hS => ?_)
  rw [gh_up_up] at hG
  refine lv_iload hx hb dJ6_init_3_23 (lv_at hl 4 rfl) ?_
  refine lv_if_eq (tgt := 36) hx hb dJ6_init_3_25 (by decide) (fun _ => ?_) (fun h => absurd h (by decide))
  refine lv_aload_n hx hb dJ6_init_3_36 rfl (lv_at hl 0 rfl) ?_
  refine lv_null hx hb dJ6_init_3_37 ?_
  refine g_put (ci := 9) (C := RX5) (T := TX5) (N := 6) S in_X5 tyX5 tyX5_ok nmX5 rfl 1 (by decide) (S.ts _ q330) (fun _ h9 => h9) rfl (ty := (.array (.object "java/lang/StackTraceElement"))) (by decide +kernel) dJ6_init_3_38 (v := .null) rfl rfl hG hS gh_up_s (Nat.le_of_ble_eq_true rfl) (fun H locs hG hS => ?_)
  rw [gh_up_up] at hG
  refine lv_aload_n hx hb dJ6_init_3_41 rfl (lv_at hl 0 rfl) ?_
  refine lv_aload_nN hx hb dJ6_init_3_42 rfl (lv_at hl 1 rfl) ?_
  refine g_put (ci := 9) (C := RX5) (T := TX5) (N := 6) S in_X5 tyX5 tyX5_ok nmX5 rfl 3 (by decide) (S.ts _ q328) (fun _ h9 => h9) rfl (ty := (.object "java/lang/String")) (by decide +kernel) dJ6_init_3_43 (v := .null) rfl rfl hG hS gh_up_s (Nat.le_of_ble_eq_true rfl) (fun H locs hG hS => ?_)
  rw [gh_up_up] at hG
  refine lv_aload_n hx hb dJ6_init_3_46 rfl (lv_at hl 0 rfl) ?_
  refine lv_aload_nN hx hb dJ6_init_3_47 rfl (lv_at hl 2 rfl) ?_
  refine g_put (ci := 9) (C := RX5) (T := TX5) (N := 6) S in_X5 tyX5 tyX5_ok nmX5 rfl 0 (by decide) (S.ts _ q329) (fun _ h9 => h9) rfl (ty := (.object "java/lang/Throwable")) (by decide +kernel) dJ6_init_3_48 (v := .null) rfl rfl hG hS gh_up_s (Nat.le_of_ble_eq_true rfl) (fun H locs hG hS => ?_)
  rw [gh_up_up] at hG
  refine lv_iload_n hx hb dJ6_init_3_51 rfl (lv_at hl 3 rfl) ?_
  refine lv_if_ne (tgt := 60) hx hb dJ6_init_3_52 (by decide) (fun h => absurd h (by decide)) (fun _ => ?_)
  refine lv_aload_n hx hb dJ6_init_3_55 rfl (lv_at hl 0 rfl) ?_
  refine lv_null hx hb dJ6_init_3_56 ?_
  refine g_put (ci := 9) (C := RX5) (T := TX5) (N := 6) S in_X5 tyX5 tyX5_ok nmX5 rfl 2 (by decide) (S.ts _ q331) (fun _ h9 => h9) rfl (ty := (.object "java/util/List")) (by decide +kernel) dJ6_init_3_57 (v := .null) rfl rfl hG hS gh_up_s (Nat.le_of_ble_eq_true rfl) (fun H locs hG hS => ?_)
  rw [gh_up_up] at hG
  exact g_vret S hr dJ6_init_3_60 hG hS (by first | exact Nat.le_refl _ | omega) (by first | exact Nat.le_refl _ | omega) ⟨rfl, _, _, _, _, _, _, rfl⟩
set_option maxHeartbeats 4000000 in
set_option maxRecDepth 100000 in
theorem metJ7_init_3_X5 (l : Launch) {E : Ev} {G : gh} {a t i : Nat} {v0 v1 v2 v3 v4 v5 : Value}  (hM : G a = some (t, i, .inr (9, [v0, v1, v2, v3, v4, v5]))) : Met l yJ7_init_3 (ws_ yJ7_init_3 cJ7_init_3 5 none) ({ frames := 2, cells := 0, slots := 0, locals := 70 }) (gP E G [.ref a, .null, .null, .int 0, .int 0]) (gQ E (fun v G' => v = none ∧ ∃ w0 w1 w2 w3 w4 w5, G' = gh_up G a (t, i, .inr (9, [w0, w1, w2, w3, w4, w5])))) 0 0 (ev_A E) := by
  refine gMet RJ7 (by decide) rfl (Nat.le_of_ble_eq_true rfl) ?_
  intro p e s m below meth c ls hx hb S hr hnm hl hG hS
  have hl : lv_has ls 5 [(0, .ref a), (1, .null), (2, .null), (3, .int 0), (4, .int 0)] := hl
  refine lv_aload_n hx hb dJ7_init_3_0 rfl (lv_at hl 0 rfl) ?_
  refine lv_aload_nN hx hb dJ7_init_3_1 rfl (lv_at hl 1 rfl) ?_
  refine lv_aload_nN hx hb dJ7_init_3_2 rfl (lv_at hl 2 rfl) ?_
  refine lv_iload_n hx hb dJ7_init_3_3 rfl (lv_at hl 3 rfl) ?_
  refine lv_iload hx hb dJ7_init_3_4 (lv_at hl 4 rfl) ?_
  refine g_call hS (va_runI (As := [.null, .null, .int 0, .int 0]) (rest := []) S.1 (metJ6_init_3_X5 l (E := E) hM) (cwI 4 S.ts (lw_meth q581) rfl rfl rfl (S.ts _ q40) (S.ts _ q579) (S.ts _ q580) rfl (by decide +kernel) ⟨Nat.le_of_ble_eq_true rfl, Nat.le_of_ble_eq_true rfl⟩) (S.pre hG hS) rfl rfl hl.1 rfl (lv_room (Nat.le_of_ble_eq_true rfl)) dJ7_init_3_6 ⟨Nat.le_of_ble_eq_true rfl, Nat.le_of_ble_eq_true rfl⟩) (fun v G1 H locs hp hG hS => ?_)
  refine W.cs (cells' := 0) (slots' := 0) (by first | rfl | omega) (by first | rfl | omega) ?_
  obtain ⟨rfl, w0, w1, w2, w3, w4, w5, rfl⟩ := hp
  refine W.eq (g2 := F0 m 9 ls []) rfl ?_
  exact g_vret S hr dJ7_init_3_9 hG hS (by first | exact Nat.le_refl _ | omega) (by first | exact Nat.le_refl _ | omega) ⟨rfl, w0, w1, w2, w3, w4, w5, rfl⟩
set_option maxHeartbeats 4000000 in
set_option maxRecDepth 100000 in
theorem metX4_init_X5 (l : Launch) {E : Ev} {G : gh} {a t i : Nat} {v0 v1 v2 v3 v4 v5 : Value}  (hM : G a = some (t, i, .inr (9, [v0, v1, v2, v3, v4, v5]))) : Met l yX4_init (ws_ yX4_init cX4_init 1 none) ({ frames := 3, cells := 0, slots := 0, locals := 110 }) (gP E G [.ref a]) (gQ E (fun v G' => v = none ∧ ∃ w0 w1 w2 w3 w4 w5, G' = gh_up G a (t, i, .inr (9, [w0, w1, w2, w3, w4, w5])))) 0 0 (ev_A E) := by
  refine gMet RX4 (by decide) rfl (Nat.le_of_ble_eq_true rfl) ?_
  intro p e s m below meth c ls hx hb S hr hnm hl hG hS
  have hl : lv_has ls 1 [(0, .ref a)] := hl
  refine lv_aload_n hx hb dX4_init_0 rfl (lv_at hl 0 rfl) ?_
  refine lv_null hx hb dX4_init_1 ?_
  refine lv_null hx hb dX4_init_2 ?_
  refine lv_iconst (v := 0) hx hb dX4_init_3 (by decide) ?_
  refine lv_iconst (v := 0) hx hb dX4_init_4 (by decide) ?_
  refine g_call hS (va_runI (As := [.null, .null, .int 0, .int 0]) (rest := []) S.1 (metJ7_init_3_X5 l (E := E) hM) (cwI 4 S.ts (lw_meth q578) rfl rfl rfl (S.ts _ q41) (S.ts _ q576) (S.ts _ q577) rfl (by decide +kernel) ⟨Nat.le_of_ble_eq_true rfl, Nat.le_of_ble_eq_true rfl⟩) (S.pre hG hS) rfl rfl hl.1 rfl (lv_room (Nat.le_of_ble_eq_true rfl)) dX4_init_5 ⟨Nat.le_of_ble_eq_true rfl, Nat.le_of_ble_eq_true rfl⟩) (fun v G1 H locs hp hG hS => ?_)
  refine W.cs (cells' := 0) (slots' := 0) (by first | rfl | omega) (by first | rfl | omega) ?_
  obtain ⟨rfl, w0, w1, w2, w3, w4, w5, rfl⟩ := hp
  refine W.eq (g2 := F0 m 8 ls []) rfl ?_
  exact g_vret S hr dX4_init_8 hG hS (by first | exact Nat.le_refl _ | omega) (by first | exact Nat.le_refl _ | omega) ⟨rfl, w0, w1, w2, w3, w4, w5, rfl⟩
set_option maxHeartbeats 4000000 in
set_option maxRecDepth 100000 in
theorem metX5_init (l : Launch) {E : Ev} {G : gh} {a t i : Nat} {v0 v1 v2 v3 v4 v5 : Value}  (hM : G a = some (t, i, .inr (9, [v0, v1, v2, v3, v4, v5]))) : Met l yX5_init (ws_ yX5_init cX5_init 1 none) ({ frames := 4, cells := 0, slots := 0, locals := 140 }) (gP E G [.ref a]) (gQ E (fun v G' => v = none ∧ ∃ w0 w1 w2 w3 w4 w5, G' = gh_up G a (t, i, .inr (9, [w0, w1, w2, w3, w4, w5])))) 0 0 (ev_A E) := by
  refine gMet RX5 (by decide) rfl (Nat.le_of_ble_eq_true rfl) ?_
  intro p e s m below meth c ls hx hb S hr hnm hl hG hS
  have hl : lv_has ls 1 [(0, .ref a)] := hl
  refine lv_aload_n hx hb dX5_init_0 rfl (lv_at hl 0 rfl) ?_
  refine g_call hS (va_runI (As := []) (rest := []) S.1 (metX4_init_X5 l (E := E) hM) (cwI 0 S.ts (lw_meth q575) rfl rfl rfl (S.ts _ q55) (S.ts _ q573) (S.ts _ q574) rfl (by decide +kernel) ⟨Nat.le_of_ble_eq_true rfl, Nat.le_of_ble_eq_true rfl⟩) (S.pre hG hS) rfl rfl hl.1 rfl (lv_room (Nat.le_of_ble_eq_true rfl)) dX5_init_1 ⟨Nat.le_of_ble_eq_true rfl, Nat.le_of_ble_eq_true rfl⟩) (fun v G1 H locs hp hG hS => ?_)
  refine W.cs (cells' := 0) (slots' := 0) (by first | rfl | omega) (by first | rfl | omega) ?_
  obtain ⟨rfl, w0, w1, w2, w3, w4, w5, rfl⟩ := hp
  refine W.eq (g2 := F0 m 4 ls []) rfl ?_
  exact g_vret S hr dX5_init_4 hG hS (by first | exact Nat.le_refl _ | omega) (by first | exact Nat.le_refl _ | omega) ⟨rfl, w0, w1, w2, w3, w4, w5, rfl⟩
set_option maxHeartbeats 4000000 in
set_option maxRecDepth 100000 in
theorem metJ6_init_3_X6 (l : Launch) {E : Ev} {G : gh} {a t i : Nat} {v0 v1 v2 v3 v4 v5 : Value}  (hM : G a = some (t, i, .inr (10, [v0, v1, v2, v3, v4, v5]))) : Met l yJ6_init_3 (ws_ yJ6_init_3 cJ6_init_3 5 none) ({ frames := 1, cells := 0, slots := 0, locals := 30 }) (gP E G [.ref a, .null, .null, .int 0, .int 0]) (gQ E (fun v G' => v = none ∧ ∃ w0 w1 w2 w3 w4 w5, G' = gh_up G a (t, i, .inr (10, [w0, w1, w2, w3, w4, w5])))) 0 0 (ev_A E) := by
  refine gMet RJ6 (by decide) rfl (Nat.le_of_ble_eq_true rfl) ?_
  intro p e s m below meth c ls hx hb S hr hnm hl hG hS
  have hl : lv_has ls 5 [(0, .ref a), (1, .null), (2, .null), (3, .int 0), (4, .int 0)] := hl
  obtain ⟨u1, hu1, hu2⟩ := ex_u S.2.1.2.2.2.1.1
  obtain ⟨p1, hp1, hp2⟩ := ex_u S.2.1.2.2.2.1.2
  refine lv_aload_n hx hb dJ6_init_3_0 rfl (lv_at hl 0 rfl) ?_
  refine W.objInit hx hb S.1.2.2.2.1 (S.ts _ q295) (S.ts _ q72) (S.ts _ q73) rfl (by rw [S.1.2.2.1]; exact hl.1) rfl dJ6_init_3_1 (Nat.le_of_ble_eq_true rfl) (Nat.le_of_ble_eq_true rfl) ?_
  refine W.eq (g2 := F0 m 4 ls []) rfl ?_
  refine lv_aload_n hx hb dJ6_init_3_4 rfl (lv_at hl 0 rfl) ?_
  refine lv_aload_n hx hb dJ6_init_3_5 rfl (lv_at hl 0 rfl) ?_
  refine g_put (ci := 10) (C := RX6) (T := TX6) (N := 6) S in_X6 tyX6 tyX6_ok nmX6 rfl 0 (by decide) (S.ts _ q329) (fun _ h9 => h9) rfl (ty := (.object "java/lang/Throwable")) (by decide +kernel) dJ6_init_3_6 (v := .ref a) rfl rfl hG hS hM (Nat.le_of_ble_eq_true rfl) (fun H locs hG hS => ?_)
  refine lv_aload_n hx hb dJ6_init_3_9 rfl (lv_at hl 0 rfl) ?_
  refine va_gets hx hb hu1 hS S.1.2.2.2.1 (S.ts _ q296) (fun _ h9 => h9) dJ6_init_3_10 ?_
  refine g_put (ci := 10) (C := RX6) (T := TX6) (N := 6) S in_X6 tyX6 tyX6_ok nmX6 rfl 1 (by decide) (S.ts _ q330) (fun _ h9 => h9) rfl (ty := (.array (.object "java/lang/StackTraceElement"))) (by decide +kernel) dJ6_init_3_13 (v := u1) (ex_nar hu2 rfl (fun _ => rfl)) (ex_fit hu2 rfl (fun _ => rfl)) hG hS gh_up_s (Nat.le_of_ble_eq_true rfl) (fun H locs hG hS => ?_)
  rw [gh_up_up] at hG
  refine lv_aload_n hx hb dJ6_init_3_16 rfl (lv_at hl 0 rfl) ?_
  refine va_gets hx hb hp1 hS S.1.2.2.2.1 (S.ts _ q298) (fun _ h9 => h9) dJ6_init_3_17 ?_
  refine g_put (ci := 10) (C := RX6) (T := TX6) (N := 6) S in_X6 tyX6 tyX6_ok nmX6 rfl 2 (by decide) (S.ts _ q331) (fun _ h9 => h9) rfl (ty := (.object "java/util/List")) (by decide +kernel) dJ6_init_3_20 (v := p1) (ex_nar hp2 rfl (fun _ => rfl)) (ex_fit hp2 rfl (fun _ => rfl)) hG hS gh_up_s (Nat.le_of_ble_eq_true rfl) (fun H locs hG hS => ?_)
  rw [gh_up_up] at hG
  refine lv_iload hx hb dJ6_init_3_23 (lv_at hl 4 rfl) ?_
  refine lv_if_eq (tgt := 36) hx hb dJ6_init_3_25 (by decide) (fun _ => ?_) (fun h => absurd h (by decide))
  refine lv_aload_n hx hb dJ6_init_3_36 rfl (lv_at hl 0 rfl) ?_
  refine lv_null hx hb dJ6_init_3_37 ?_
  refine g_put (ci := 10) (C := RX6) (T := TX6) (N := 6) S in_X6 tyX6 tyX6_ok nmX6 rfl 1 (by decide) (S.ts _ q330) (fun _ h9 => h9) rfl (ty := (.array (.object "java/lang/StackTraceElement"))) (by decide +kernel) dJ6_init_3_38 (v := .null) rfl rfl hG hS gh_up_s (Nat.le_of_ble_eq_true rfl) (fun H locs hG hS => ?_)
  rw [gh_up_up] at hG
  refine lv_aload_n hx hb dJ6_init_3_41 rfl (lv_at hl 0 rfl) ?_
  refine lv_aload_nN hx hb dJ6_init_3_42 rfl (lv_at hl 1 rfl) ?_
  refine g_put (ci := 10) (C := RX6) (T := TX6) (N := 6) S in_X6 tyX6 tyX6_ok nmX6 rfl 3 (by decide) (S.ts _ q328) (fun _ h9 => h9) rfl (ty := (.object "java/lang/String")) (by decide +kernel) dJ6_init_3_43 (v := .null) rfl rfl hG hS gh_up_s (Nat.le_of_ble_eq_true rfl) (fun H locs hG hS => ?_)
  rw [gh_up_up] at hG
  refine lv_aload_n hx hb dJ6_init_3_46 rfl (lv_at hl 0 rfl) ?_
  refine lv_aload_nN hx hb dJ6_init_3_47 rfl (lv_at hl 2 rfl) ?_
  refine g_put (ci := 10) (C := RX6) (T := TX6) (N := 6) S in_X6 tyX6 tyX6_ok nmX6 rfl 0 (by decide) (S.ts _ q329) (fun _ h9 => h9) rfl (ty := (.object "java/lang/Throwable")) (by decide +kernel) dJ6_init_3_48 (v := .null) rfl rfl hG hS gh_up_s (Nat.le_of_ble_eq_true rfl) (fun H locs hG hS => ?_)
  rw [gh_up_up] at hG
  refine lv_iload_n hx hb dJ6_init_3_51 rfl (lv_at hl 3 rfl) ?_
  refine lv_if_ne (tgt := 60) hx hb dJ6_init_3_52 (by decide) (fun h => absurd h (by decide)) (fun _ => ?_)
  refine lv_aload_n hx hb dJ6_init_3_55 rfl (lv_at hl 0 rfl) ?_
  refine lv_null hx hb dJ6_init_3_56 ?_
  refine g_put (ci := 10) (C := RX6) (T := TX6) (N := 6) S in_X6 tyX6 tyX6_ok nmX6 rfl 2 (by decide) (S.ts _ q331) (fun _ h9 => h9) rfl (ty := (.object "java/util/List")) (by decide +kernel) dJ6_init_3_57 (v := .null) rfl rfl hG hS gh_up_s (Nat.le_of_ble_eq_true rfl) (fun H locs hG hS => ?_)
  rw [gh_up_up] at hG
  exact g_vret S hr dJ6_init_3_60 hG hS (by first | exact Nat.le_refl _ | omega) (by first | exact Nat.le_refl _ | omega) ⟨rfl, _, _, _, _, _, _, rfl⟩
set_option maxHeartbeats 4000000 in
set_option maxRecDepth 100000 in
theorem metJ7_init_3_X6 (l : Launch) {E : Ev} {G : gh} {a t i : Nat} {v0 v1 v2 v3 v4 v5 : Value}  (hM : G a = some (t, i, .inr (10, [v0, v1, v2, v3, v4, v5]))) : Met l yJ7_init_3 (ws_ yJ7_init_3 cJ7_init_3 5 none) ({ frames := 2, cells := 0, slots := 0, locals := 70 }) (gP E G [.ref a, .null, .null, .int 0, .int 0]) (gQ E (fun v G' => v = none ∧ ∃ w0 w1 w2 w3 w4 w5, G' = gh_up G a (t, i, .inr (10, [w0, w1, w2, w3, w4, w5])))) 0 0 (ev_A E) := by
  refine gMet RJ7 (by decide) rfl (Nat.le_of_ble_eq_true rfl) ?_
  intro p e s m below meth c ls hx hb S hr hnm hl hG hS
  have hl : lv_has ls 5 [(0, .ref a), (1, .null), (2, .null), (3, .int 0), (4, .int 0)] := hl
  refine lv_aload_n hx hb dJ7_init_3_0 rfl (lv_at hl 0 rfl) ?_
  refine lv_aload_nN hx hb dJ7_init_3_1 rfl (lv_at hl 1 rfl) ?_
  refine lv_aload_nN hx hb dJ7_init_3_2 rfl (lv_at hl 2 rfl) ?_
  refine lv_iload_n hx hb dJ7_init_3_3 rfl (lv_at hl 3 rfl) ?_
  refine lv_iload hx hb dJ7_init_3_4 (lv_at hl 4 rfl) ?_
  refine g_call hS (va_runI (As := [.null, .null, .int 0, .int 0]) (rest := []) S.1 (metJ6_init_3_X6 l (E := E) hM) (cwI 4 S.ts (lw_meth q581) rfl rfl rfl (S.ts _ q40) (S.ts _ q579) (S.ts _ q580) rfl (by decide +kernel) ⟨Nat.le_of_ble_eq_true rfl, Nat.le_of_ble_eq_true rfl⟩) (S.pre hG hS) rfl rfl hl.1 rfl (lv_room (Nat.le_of_ble_eq_true rfl)) dJ7_init_3_6 ⟨Nat.le_of_ble_eq_true rfl, Nat.le_of_ble_eq_true rfl⟩) (fun v G1 H locs hp hG hS => ?_)
  refine W.cs (cells' := 0) (slots' := 0) (by first | rfl | omega) (by first | rfl | omega) ?_
  obtain ⟨rfl, w0, w1, w2, w3, w4, w5, rfl⟩ := hp
  refine W.eq (g2 := F0 m 9 ls []) rfl ?_
  exact g_vret S hr dJ7_init_3_9 hG hS (by first | exact Nat.le_refl _ | omega) (by first | exact Nat.le_refl _ | omega) ⟨rfl, w0, w1, w2, w3, w4, w5, rfl⟩
set_option maxHeartbeats 4000000 in
set_option maxRecDepth 100000 in
theorem metX4_init_X6 (l : Launch) {E : Ev} {G : gh} {a t i : Nat} {v0 v1 v2 v3 v4 v5 : Value}  (hM : G a = some (t, i, .inr (10, [v0, v1, v2, v3, v4, v5]))) : Met l yX4_init (ws_ yX4_init cX4_init 1 none) ({ frames := 3, cells := 0, slots := 0, locals := 110 }) (gP E G [.ref a]) (gQ E (fun v G' => v = none ∧ ∃ w0 w1 w2 w3 w4 w5, G' = gh_up G a (t, i, .inr (10, [w0, w1, w2, w3, w4, w5])))) 0 0 (ev_A E) := by
  refine gMet RX4 (by decide) rfl (Nat.le_of_ble_eq_true rfl) ?_
  intro p e s m below meth c ls hx hb S hr hnm hl hG hS
  have hl : lv_has ls 1 [(0, .ref a)] := hl
  refine lv_aload_n hx hb dX4_init_0 rfl (lv_at hl 0 rfl) ?_
  refine lv_null hx hb dX4_init_1 ?_
  refine lv_null hx hb dX4_init_2 ?_
  refine lv_iconst (v := 0) hx hb dX4_init_3 (by decide) ?_
  refine lv_iconst (v := 0) hx hb dX4_init_4 (by decide) ?_
  refine g_call hS (va_runI (As := [.null, .null, .int 0, .int 0]) (rest := []) S.1 (metJ7_init_3_X6 l (E := E) hM) (cwI 4 S.ts (lw_meth q578) rfl rfl rfl (S.ts _ q41) (S.ts _ q576) (S.ts _ q577) rfl (by decide +kernel) ⟨Nat.le_of_ble_eq_true rfl, Nat.le_of_ble_eq_true rfl⟩) (S.pre hG hS) rfl rfl hl.1 rfl (lv_room (Nat.le_of_ble_eq_true rfl)) dX4_init_5 ⟨Nat.le_of_ble_eq_true rfl, Nat.le_of_ble_eq_true rfl⟩) (fun v G1 H locs hp hG hS => ?_)
  refine W.cs (cells' := 0) (slots' := 0) (by first | rfl | omega) (by first | rfl | omega) ?_
  obtain ⟨rfl, w0, w1, w2, w3, w4, w5, rfl⟩ := hp
  refine W.eq (g2 := F0 m 8 ls []) rfl ?_
  exact g_vret S hr dX4_init_8 hG hS (by first | exact Nat.le_refl _ | omega) (by first | exact Nat.le_refl _ | omega) ⟨rfl, w0, w1, w2, w3, w4, w5, rfl⟩
set_option maxHeartbeats 4000000 in
set_option maxRecDepth 100000 in
theorem metX6_init (l : Launch) {E : Ev} {G : gh} {a t i : Nat} {v0 v1 v2 v3 v4 v5 : Value}  (hM : G a = some (t, i, .inr (10, [v0, v1, v2, v3, v4, v5]))) : Met l yX6_init (ws_ yX6_init cX6_init 1 none) ({ frames := 4, cells := 0, slots := 0, locals := 140 }) (gP E G [.ref a]) (gQ E (fun v G' => v = none ∧ ∃ w0 w1 w2 w3 w4 w5, G' = gh_up G a (t, i, .inr (10, [w0, w1, w2, w3, w4, w5])))) 0 0 (ev_A E) := by
  refine gMet RX6 (by decide) rfl (Nat.le_of_ble_eq_true rfl) ?_
  intro p e s m below meth c ls hx hb S hr hnm hl hG hS
  have hl : lv_has ls 1 [(0, .ref a)] := hl
  refine lv_aload_n hx hb dX6_init_0 rfl (lv_at hl 0 rfl) ?_
  refine g_call hS (va_runI (As := []) (rest := []) S.1 (metX4_init_X6 l (E := E) hM) (cwI 0 S.ts (lw_meth q575) rfl rfl rfl (S.ts _ q55) (S.ts _ q596) (S.ts _ q574) rfl (by decide +kernel) ⟨Nat.le_of_ble_eq_true rfl, Nat.le_of_ble_eq_true rfl⟩) (S.pre hG hS) rfl rfl hl.1 rfl (lv_room (Nat.le_of_ble_eq_true rfl)) dX6_init_1 ⟨Nat.le_of_ble_eq_true rfl, Nat.le_of_ble_eq_true rfl⟩) (fun v G1 H locs hp hG hS => ?_)
  refine W.cs (cells' := 0) (slots' := 0) (by first | rfl | omega) (by first | rfl | omega) ?_
  obtain ⟨rfl, w0, w1, w2, w3, w4, w5, rfl⟩ := hp
  refine W.eq (g2 := F0 m 4 ls []) rfl ?_
  exact g_vret S hr dX6_init_4 hG hS (by first | exact Nat.le_refl _ | omega) (by first | exact Nat.le_refl _ | omega) ⟨rfl, w0, w1, w2, w3, w4, w5, rfl⟩
set_option maxHeartbeats 4000000 in
set_option maxRecDepth 100000 in
theorem metX1_checkedBad (l : Launch) (hl0 : l.stackTraces = false) {E : Ev} {G : gh} {x : Int64}  (hx0 : ¬ sp_in x = true) : vx_Met l yX1_checked (ws_ yX1_checked cX1_checked 2 (some .int)) ({ frames := 5, cells := 1, slots := 6, locals := 200 }) (gP E G [.long x]) (gQ E (fun v G' => False)) (gX E (fun C G' => (C = RX5 ∨ C = RX6) ∧ gh_le G G')) 1 6 (ev_A E) := by
  refine gMetX RX1 (by decide) rfl (Nat.le_of_ble_eq_true rfl) ?_
  intro p e s m below meth c ls hx hb S hr hno hl hG hS
  have hl : lv_has ls 2 [(0, .long x)] := hl
  refine lv_lload_n hx hb dX1_checked_0 rfl (lv_at hl 0 rfl) ?_
  refine lv_ldc2 (v := 99999999) hx hb S.1.2.2.2.1 (S.ts _ q560) dX1_checked_1 ?_
  refine W.lcmp hx hb dX1_checked_4 ?_
  refine lv_if_le (tgt := 16) hx hb dX1_checked_5 (by decide) (fun h5 => ?_) (fun h5 => ?_)
  · refine lv_lload_n hx hb dX1_checked_16 rfl (lv_at hl 0 rfl) ?_
    refine lv_ldc2 (v := (-99999999)) hx hb S.1.2.2.2.1 (S.ts _ q584) dX1_checked_17 ?_
    refine W.lcmp hx hb dX1_checked_20 ?_
    refine lv_if_ge (tgt := 32) hx hb dX1_checked_21 (by decide) (fun h21 => ?_) (fun h21 => ?_)
    · exact absurd ((sp_in_iff x).mpr ⟨fun q => absurd ((lg_cmp_lt _ _).mpr q) (Int32.not_lt.mpr h21), fun q => absurd ((lg_cmp_gt _ _).mpr q) (Int32.not_lt.mpr h5)⟩) hx0
    · refine g_new (ci := 10) (C := RX6) (T := TX6) (N := 6) (fs := [.null, .null, .null, .null, .null, .int 0]) S in_X6 tyX6 tyX6_ok (S.ts _ q506) (S.ts _ q585) (S.ts _ q57) rfl (fun j hj => by match j, hj with | 0, _ => rfl | 1, _ => rfl | 2, _ => rfl | 3, _ => rfl | 4, _ => rfl | 5, _ => rfl | k + 6, hj => exact absurd hj (by omega)) dX1_checked_24 50 0 (Nat.le_of_ble_eq_true rfl) (Nat.le_of_ble_eq_true rfl) hG hS (fun q H hq hG hS => ?_)
      refine W.cs (cells' := 1) (slots' := 6) (by first | rfl | omega) (by first | rfl | omega) ?_
      refine lv_dup hx hb dX1_checked_27 rfl ?_
      refine g_call hS (va_runIN (As := []) (rest := [.ref q]) S.1 (metX6_init l (E := E) gh_up_s) ⟨va_cnB 0 S.ts (lw_meth q595) rfl rfl rfl (S.2.1.W q593 rfl) (S.ts _ q57) (by decide +kernel) ⟨Nat.le_of_ble_eq_true rfl, Nat.le_of_ble_eq_true rfl⟩, rfl, S.ts _ q594⟩ (S.pre hG hS) rfl rfl hl.1 rfl (lv_room (Nat.le_of_ble_eq_true rfl)) dX1_checked_28 ⟨by first | exact Nat.le_of_ble_eq_true rfl | omega, by first | exact Nat.le_of_ble_eq_true rfl | omega⟩) (fun v G1 H locs hp hG hS => ?_)
      refine W.cs (cells' := 1) (slots' := 6) (by first | rfl | omega) (by first | rfl | omega) ?_
      obtain ⟨rfl, w0, w1, w2, w3, w4, w5, rfl⟩ := hp
      refine W.eq (g2 := F0 m 31 ls [.ref q]) rfl ?_
      rw [gh_up_up] at hG
      obtain ⟨cell9, q1, q2, q3, -⟩ := hG.obj (r := (RX6, TX6, 6)) gh_up_s rfl
      exact vx_athrow hx hb dX1_checked_31 (vx_out (fun x h => (hno x h).elim) S.2.2 q1 q3 (by rw [q2]; exact (S.K.1 10 _ rfl).2.1) (fun t ht _ => ⟨⟨_, ⟨Or.inr rfl, gh_fr.new hq⟩, by rw [ht]; exact hG⟩, hS.F ht⟩) hS.2.2 (by first | exact Nat.le_refl _ | omega) (by first | exact Nat.le_refl _ | omega))
  · refine g_new (ci := 9) (C := RX5) (T := TX5) (N := 6) (fs := [.null, .null, .null, .null, .null, .int 0]) S in_X5 tyX5 tyX5_ok (S.ts _ q505) (S.ts _ q561) (S.ts _ q56) rfl (fun j hj => by match j, hj with | 0, _ => rfl | 1, _ => rfl | 2, _ => rfl | 3, _ => rfl | 4, _ => rfl | 5, _ => rfl | k + 6, hj => exact absurd hj (by omega)) dX1_checked_8 50 0 (Nat.le_of_ble_eq_true rfl) (Nat.le_of_ble_eq_true rfl) hG hS (fun q H hq hG hS => ?_)
    refine W.cs (cells' := 1) (slots' := 6) (by first | rfl | omega) (by first | rfl | omega) ?_
    refine lv_dup hx hb dX1_checked_11 rfl ?_
    refine g_call hS (va_runIN (As := []) (rest := [.ref q]) S.1 (metX5_init l (E := E) gh_up_s) ⟨va_cnB 0 S.ts (lw_meth q572) rfl rfl rfl (S.2.1.W q570 rfl) (S.ts _ q56) (by decide +kernel) ⟨Nat.le_of_ble_eq_true rfl, Nat.le_of_ble_eq_true rfl⟩, rfl, S.ts _ q571⟩ (S.pre hG hS) rfl rfl hl.1 rfl (lv_room (Nat.le_of_ble_eq_true rfl)) dX1_checked_12 ⟨by first | exact Nat.le_of_ble_eq_true rfl | omega, by first | exact Nat.le_of_ble_eq_true rfl | omega⟩) (fun v G1 H locs hp hG hS => ?_)
    refine W.cs (cells' := 1) (slots' := 6) (by first | rfl | omega) (by first | rfl | omega) ?_
    obtain ⟨rfl, w0, w1, w2, w3, w4, w5, rfl⟩ := hp
    refine W.eq (g2 := F0 m 15 ls [.ref q]) rfl ?_
    rw [gh_up_up] at hG
    obtain ⟨cell9, q1, q2, q3, -⟩ := hG.obj (r := (RX5, TX5, 6)) gh_up_s rfl
    exact vx_athrow hx hb dX1_checked_15 (vx_out (fun x h => (hno x h).elim) S.2.2 q1 q3 (by rw [q2]; exact (S.K.1 9 _ rfl).2.1) (fun t ht _ => ⟨⟨_, ⟨Or.inl rfl, gh_fr.new hq⟩, by rw [ht]; exact hG⟩, hS.F ht⟩) hS.2.2 (by first | exact Nat.le_refl _ | omega) (by first | exact Nat.le_refl _ | omega))
