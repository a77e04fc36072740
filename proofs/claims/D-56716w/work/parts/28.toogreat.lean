/-! EXCEPTIONS MADE BY HAND -/
theorem ex_u {n d : String} {A : Nat → Prop} {U : State} {H : Heap} (h : vx_Zq Bundle.tN n d A U H) : ∃ u : Value, va_Z Bundle.tN n d u A U H ∧ (u = .null ∨ ∃ t, u = .ref t) := by
  rcases h.1 with h | ⟨t, h⟩
  · exact ⟨_, h, Or.inl rfl⟩
  · exact ⟨_, h, Or.inr ⟨t, rfl⟩⟩
theorem ex_nar {ty : FieldType} {u : Value} (hu : u = .null ∨ ∃ t, u = .ref t) (h1 : narrow ty .null = .null) (h2 : ∀ t, narrow ty (.ref t) = .ref t) : narrow ty u = u := by
  rcases hu with rfl | ⟨t, rfl⟩
  · exact h1
  · exact h2 t
theorem ex_fit {ty : FieldType} {u : Value} (hu : u = .null ∨ ∃ t, u = .ref t) (h1 : fits ty .null = true) (h2 : ∀ t, fits ty (.ref t) = true) : fits ty u = true := by
  rcases hu with rfl | ⟨t, rfl⟩
  · exact h1
  · exact h2 t
set_option maxHeartbeats 4000000 in
set_option maxRecDepth 100000 in
theorem metJ6_init_3_X5 (l : Launch) {E : Ev} {G : gh} {a t i : Nat} {v0 v1 v2 v3 v4 v5 : Value}  (hM : G a = some (t, i, .inr (9, [v0, v1, v2, v3, v4, v5]))) : Met l yJ6_init_3 (ws_ yJ6_init_3 cJ6_init_3 5 none) ({ frames := 1, cells := 0, slots := 0, locals := 30 }) (gP E G [.ref a, .null, .null, .int 0, .int 0]) (gQ E (fun v G' => v = none ∧ ∃ w0 w1 w2 w3 w4 w5, G' = gh_up G a (t, i, .inr (9, [w0, w1, w2, w3, w4, w5])))) 0 0 (ev_A E) := by
  refine gMet RJ6 (by decide) rfl (Nat.le_of_ble_eq_true rfl) ?_
  intro p e s m below meth c ls hx hb S hr hnm hl hG hS
  have hl : lv_has ls 5 [(0, .ref a), (1, .null), (2, .null), (3, .int 0), (4, .int 0)] := hl
  obtain ⟨u1, hu1, hu2⟩ := ex_u S.2.1.2.2.2.1.1
  obtain ⟨p1, hp1, hp2⟩ := ex_u S.2.1.2.2.2.1.2
  refine lv_aload_n hx hb dJ6_init_3_0 rfl (lv_at hl 0 rfl) ?_
  refine W.objInit hx hb S.1.2.2.2.1 (S.ts _ q295) (S.ts _ q72) (S.ts _ q73) rfl (by rw [S.1.2.2.1]; exact hl.1) rfl dJ6_init_3_1 (Nat.le_of_ble_eq_true rfl) (Nat.le_of_ble_eq_true rfl) ?_
  refine W.eq (g2 := F0 m 4 ls []) rfl ?_
  refine lv_aload_n hx hb dJ6_init_3_4 rfl (lv_at hl 0 rfl) ?_
  refine lv_aload_n hx hb dJ6_init_3_5 rfl (lv_at hl 0 rfl) ?_
  refine g_put (ci := 9) (C := RX5) (T := TX5) (N := 6) S in_X5 tyX5 tyX5_ok nmX5 rfl 0 (by decide) (S.ts _ q329) (fun _ h9 => h9) rfl (ty := (.object "java/lang/Throwable")) (by decide +kernel) dJ6_init_3_6 (v := .ref a) rfl rfl hG hS hM (Nat.le_of_ble_eq_true rfl) (fun H locs hG hS => ?_)
  refine lv_aload_n hx hb dJ6_init_3_9 rfl (lv_at hl 0 rfl) ?_
  refine va_gets hx hb hu1 hS S.1.2.2.2.1 (S.ts _ q296) (fun _ h9 => h9) dJ6_init_3_10 ?_
  refine g_put (ci := 9) (C := RX5) (T := TX5) (N := 6) S in_X5 tyX5 tyX5_ok nmX5 rfl 1 (by decide) (S.ts _ q330) (fun _ h9 => h9) rfl (ty := (.array (.object "java/lang/StackTraceElement"))) (by decide +kernel) dJ6_init_3_13 (v := u1) (ex_nar hu2 rfl (fun _ => rfl)) (ex_fit hu2 rfl (fun _ => rfl)) hG hS gh_up_s (Nat.le_of_ble_eq_true rfl) (fun H locs hG hS => ?_)
  rw [gh_up_up] at hG
  refine lv_aload_n hx hb dJ6_init_3_16 rfl (lv_at hl 0 rfl) ?_
  refine va_gets hx hb hp1 hS S.1.2.2.2.1 (S.ts _ q298) (fun _ h9 => h9) dJ6_init_3_17 ?_
  refine g_put (ci := 9) (C := RX5) (T := TX5) (N := 6) S in_X5 tyX5 tyX5_ok nmX5 rfl 2 (by decide) (S.ts _ q331) (fun _ h9 => h9) rfl (ty := (.object "java/util/List")) (by decide +kernel) dJ6_init_3_20 (v := p1) (ex_nar hp2 rfl (fun _ => rfl)) (ex_fit hp2 rfl (fun _ => rfl)) hG hS gh_up_s (Nat.le_of_ble_eq_true rfl) (fun H locs hG hS => ?_)
  rw [gh_up_up] at hG
  refine lv_iload hx hb dJ6_init_3_23 (lv_at hl 4 rfl) ?_
  refine lv_if_eq (tgt := 36) hx hb dJ6_init_3_25 (by decide) (fun _ => ?_) (fun h => absurd h (by decide))
  refine lv_aload_n hx hb dJ6_init_3_36 rfl (lv_at hl 0 rfl) ?_
  refine lv_null hx hb dJ6_init_3_37 ?_
  refine g_put (ci := 9) (C := RX5) (T := TX5) (N := 6) S in_X5 tyX5 tyX5_ok nmX5 rfl 1 (by decide) (S.ts _ q330) (fun _ h9 => h9) rfl (ty := (.array (.object "java/lang/StackTraceElement"))) (by decide +kernel) dJ6_init_3_38 (v := .null) rfl rfl hG hS gh_up_s (Nat.le_of_ble_eq_true rfl) (fun H locs hG hS => ?_)
  rw [gh_up_up] at hG
  refine lv_aload_n hx hb dJ6_init_3_41 rfl (lv_at hl 0 rfl) ?_
  refine lv_aload_nN hx hb dJ6_init_3_42 rfl (lv_at hl 1 rfl) ?_
  refine g_put (ci := 9) (C := RX5) (T := TX5) (N := 6) S in_X5 tyX5 tyX5_ok nmX5 rfl 3 (by decide) (S.ts _ q328) (fun _ h9 => h9) rfl (ty := (.object "java/lang/String")) (by decide +kernel) dJ6_init_3_43 (v := .null) rfl rfl hG hS gh_up_s (Nat.le_of_ble_eq_true rfl) (fun H locs hG hS => ?_)
  rw [gh_up_up] at hG
  refine lv_aload_n hx hb dJ6_init_3_46 rfl (lv_at hl 0 rfl) ?_
  refine lv_aload_nN hx hb dJ6_init_3_47 rfl (lv_at hl 2 rfl) ?_
  refine g_put (ci := 9) (C := RX5) (T := TX5) (N := 6) S in_X5 tyX5 tyX5_ok nmX5 rfl 0 (by decide) (S.ts _ q329) (fun _ h9 => h9) rfl (ty := (.object "java/lang/Throwable")) (by decide +kernel) dJ6_init_3_48 (v := .null) rfl rfl hG hS gh_up_s (Nat.le_of_ble_eq_true rfl) (fun H locs hG hS => ?_)
  rw [gh_up_up] at hG
  refine lv_iload_n hx hb dJ6_init_3_51 rfl (lv_at hl 3 rfl) ?_
  refine lv_if_ne (tgt := 60) hx hb dJ6_init_3_52 (by decide) (fun h => absurd h (by decide)) (fun _ => ?_)
  refine lv_aload_n hx hb dJ6_init_3_55 rfl (lv_at hl 0 rfl) ?_
  refine lv_null hx hb dJ6_init_3_56 ?_
  refine g_put (ci := 9) (C := RX5) (T := TX5) (N := 6) S in_X5 tyX5 tyX5_ok nmX5 rfl 2 (by decide) (S.ts _ q331) (fun _ h9 => h9) rfl (ty := (.object "java/util/List")) (by decide +kernel) dJ6_init_3_57 (v := .null) rfl rfl hG hS gh_up_s (Nat.le_of_ble_eq_true rfl) (fun H locs hG hS => ?_)
  rw [gh_up_up] at hG
  exact g_vret S hr dJ6_init_3_60 hG hS (by first | exact Nat.le_refl _ | omega) (by first | exact Nat.le_refl _ | omega) ⟨rfl, _, _, _, _, _, _, rfl⟩
set_option maxHeartbeats 4000000 in
set_option maxRecDepth 100000 in
theorem metJ7_init_3_X5 (l : Launch) {E : Ev} {G : gh} {a t i : Nat} {v0 v1 v2 v3 v4 v5 : Value}  (hM : G a = some (t, i, .inr (9, [v0, v1, v2, v3, v4, v5]))) : Met l yJ7_init_3 (ws_ yJ7_init_3 cJ7_init_3 5 none) ({ frames := 2, cells := 0, slots := 0, locals := 70 }) (gP E G [.ref a, .null, .null, .int 0, .int 0]) (gQ E (fun v G' => v = none ∧ ∃ w0 w1 w2 w3 w4 w5, G' = gh_up G a (t, i, .inr (9, [w0, w1, w2, w3, w4, w5])))) 0 0 (ev_A E) := by
  refine gMet RJ7 (by decide) rfl (Nat.le_of_ble_eq_true rfl) ?_
  intro p e s m below meth c ls hx hb S hr hnm hl hG hS
  have hl : lv_has ls 5 [(0, .ref a), (1, .null), (2, .null), (3, .int 0), (4, .int 0)] := hl
  refine lv_aload_n hx hb dJ7_init_3_0 rfl (lv_at hl 0 rfl) ?_
  refine lv_aload_nN hx hb dJ7_init_3_1 rfl (lv_at hl 1 rfl) ?_
  refine lv_aload_nN hx hb dJ7_init_3_2 rfl (lv_at hl 2 rfl) ?_
  refine lv_iload_n hx hb dJ7_init_3_3 rfl (lv_at hl 3 rfl) ?_
  refine lv_iload hx hb dJ7_init_3_4 (lv_at hl 4 rfl) ?_
  refine g_call hS (va_runI (As := [.null, .null, .int 0, .int 0]) (rest := []) S.1 (metJ6_init_3_X5 l (E := E) hM) (cwI 4 S.ts (lw_meth q581) rfl rfl rfl (S.ts _ q40) (S.ts _ q579) (S.ts _ q580) rfl (by decide +kernel) ⟨Nat.le_of_ble_eq_true rfl, Nat.le_of_ble_eq_true rfl⟩) (S.pre hG hS) rfl rfl hl.1 rfl (lv_room (Nat.le_of_ble_eq_true rfl)) dJ7_init_3_6 ⟨Nat.le_of_ble_eq_true rfl, Nat.le_of_ble_eq_true rfl⟩) (fun v G1 H locs hp hG hS => ?_)
  refine W.cs (cells' := 0) (slots' := 0) (by first | rfl | omega) (by first | rfl | omega) ?_
  obtain ⟨rfl, w0, w1, w2, w3, w4, w5, rfl⟩ := hp
  refine W.eq (g2 := F0 m 9 ls []) rfl ?_
  exact g_vret S hr dJ7_init_3_9 hG hS (by first | exact Nat.le_refl _ | omega) (by first | exact Nat.le_refl _ | omega) ⟨rfl, w0, w1, w2, w3, w4, w5, rfl⟩
set_option maxHeartbeats 4000000 in
set_option maxRecDepth 100000 in
theorem metX4_init_X5 (l : Launch) {E : Ev} {G : gh} {a t i : Nat} {v0 v1 v2 v3 v4 v5 : Value}  (hM : G a = some (t, i, .inr (9, [v0, v1, v2, v3, v4, v5]))) : Met l yX4_init (ws_ yX4_init cX4_init 1 none) ({ frames := 3, cells := 0, slots := 0, locals := 110 }) (gP E G [.ref a]) (gQ E (fun v G' => v = none ∧ ∃ w0 w1 w2 w3 w4 w5, G' = gh_up G a (t, i, .inr (9, [w0, w1, w2, w3, w4, w5])))) 0 0 (ev_A E) := by
  refine gMet RX4 (by decide) rfl (Nat.le_of_ble_eq_true rfl) ?_
  intro p e s m below meth c ls hx hb S hr hnm hl hG hS
  have hl : lv_has ls 1 [(0, .ref a)] := hl
  refine lv_aload_n hx hb dX4_init_0 rfl (lv_at hl 0 rfl) ?_
  refine lv_null hx hb dX4_init_1 ?_
  refine lv_null hx hb dX4_init_2 ?_
  refine lv_iconst (v := 0) hx hb dX4_init_3 (by decide) ?_
  refine lv_iconst (v := 0) hx hb dX4_init_4 (by decide) ?_
  refine g_call hS (va_runI (As := [.null, .null, .int 0, .int 0]) (rest := []) S.1 (metJ7_init_3_X5 l (E := E) hM) (cwI 4 S.ts (lw_meth q578) rfl rfl rfl (S.ts _ q41) (S.ts _ q576) (S.ts _ q577) rfl (by decide +kernel) ⟨Nat.le_of_ble_eq_true rfl, Nat.le_of_ble_eq_true rfl⟩) (S.pre hG hS) rfl rfl hl.1 rfl (lv_room (Nat.le_of_ble_eq_true rfl)) dX4_init_5 ⟨Nat.le_of_ble_eq_true rfl, Nat.le_of_ble_eq_true rfl⟩) (fun v G1 H locs hp hG hS => ?_)
  refine W.cs (cells' := 0) (slots' := 0) (by first | rfl | omega) (by first | rfl | omega) ?_
  obtain ⟨rfl, w0, w1, w2, w3, w4, w5, rfl⟩ := hp
  refine W.eq (g2 := F0 m 8 ls []) rfl ?_
  exact g_vret S hr dX4_init_8 hG hS (by first | exact Nat.le_refl _ | omega) (by first | exact Nat.le_refl _ | omega) ⟨rfl, w0, w1, w2, w3, w4, w5, rfl⟩
set_option maxHeartbeats 4000000 in
set_option maxRecDepth 100000 in
theorem metX5_init (l : Launch) {E : Ev} {G : gh} {a t i : Nat} {v0 v1 v2 v3 v4 v5 : Value}  (hM : G a = some (t, i, .inr (9, [v0, v1, v2, v3, v4, v5]))) : Met l yX5_init (ws_ yX5_init cX5_init 1 none) ({ frames := 4, cells := 0, slots := 0, locals := 140 }) (gP E G [.ref a]) (gQ E (fun v G' => v = none ∧ ∃ w0 w1 w2 w3 w4 w5, G' = gh_up G a (t, i, .inr (9, [w0, w1, w2, w3, w4, w5])))) 0 0 (ev_A E) := by
  refine gMet RX5 (by decide) rfl (Nat.le_of_ble_eq_true rfl) ?_
  intro p e s m below meth c ls hx hb S hr hnm hl hG hS
  have hl : lv_has ls 1 [(0, .ref a)] := hl
  refine lv_aload_n hx hb dX5_init_0 rfl (lv_at hl 0 rfl) ?_
  refine g_call hS (va_runI (As := []) (rest := []) S.1 (metX4_init_X5 l (E := E) hM) (cwI 0 S.ts (lw_meth q575) rfl rfl rfl (S.ts _ q55) (S.ts _ q573) (S.ts _ q574) rfl (by decide +kernel) ⟨Nat.le_of_ble_eq_true rfl, Nat.le_of_ble_eq_true rfl⟩) (S.pre hG hS) rfl rfl hl.1 rfl (lv_room (Nat.le_of_ble_eq_true rfl)) dX5_init_1 ⟨Nat.le_of_ble_eq_true rfl, Nat.le_of_ble_eq_true rfl⟩) (fun v G1 H locs hp hG hS => ?_)
  refine W.cs (cells' := 0) (slots' := 0) (by first | rfl | omega) (by first | rfl | omega) ?_
  obtain ⟨rfl, w0, w1, w2, w3, w4, w5, rfl⟩ := hp
  refine W.eq (g2 := F0 m 4 ls []) rfl ?_
  exact g_vret S hr dX5_init_4 hG hS (by first | exact Nat.le_refl _ | omega) (by first | exact Nat.le_refl _ | omega) ⟨rfl, w0, w1, w2, w3, w4, w5, rfl⟩
set_option maxHeartbeats 4000000 in
set_option maxRecDepth 100000 in
theorem metJ6_init_3_X6 (l : Launch) {E : Ev} {G : gh} {a t i : Nat} {v0 v1 v2 v3 v4 v5 : Value}  (hM : G a = some (t, i, .inr (10, [v0, v1, v2, v3, v4, v5]))) : Met l yJ6_init_3 (ws_ yJ6_init_3 cJ6_init_3 5 none) ({ frames := 1, cells := 0, slots := 0, locals := 30 }) (gP E G [.ref a, .null, .null, .int 0, .int 0]) (gQ E (fun v G' => v = none ∧ ∃ w0 w1 w2 w3 w4 w5, G' = gh_up G a (t, i, .inr (10, [w0, w1, w2, w3, w4, w5])))) 0 0 (ev_A E) := by
  refine gMet RJ6 (by decide) rfl (Nat.le_of_ble_eq_true rfl) ?_
  intro p e s m below meth c ls hx hb S hr hnm hl hG hS
  have hl : lv_has ls 5 [(0, .ref a), (1, .null), (2, .null), (3, .int 0), (4, .int 0)] := hl
  obtain ⟨u1, hu1, hu2⟩ := ex_u S.2.1.2.2.2.1.1
  obtain ⟨p1, hp1, hp2⟩ := ex_u S.2.1.2.2.2.1.2
  refine lv_aload_n hx hb dJ6_init_3_0 rfl (lv_at hl 0 rfl) ?_
  refine W.objInit hx hb S.1.2.2.2.1 (S.ts _ q295) (S.ts _ q72) (S.ts _ q73) rfl (by rw [S.1.2.2.1]; exact hl.1) rfl dJ6_init_3_1 (Nat.le_of_ble_eq_true rfl) (Nat.le_of_ble_eq_true rfl) ?_
  refine W.eq (g2 := F0 m 4 ls []) rfl ?_
  refine lv_aload_n hx hb dJ6_init_3_4 rfl (lv_at hl 0 rfl) ?_
  refine lv_aload_n hx hb dJ6_init_3_5 rfl (lv_at hl 0 rfl) ?_
  refine g_put (ci := 10) (C := RX6) (T := TX6) (N := 6) S in_X6 tyX6 tyX6_ok nmX6 rfl 0 (by decide) (S.ts _ q329) (fun _ h9 => h9) rfl (ty := (.object "java/lang/Throwable")) (by decide +kernel) dJ6_init_3_6 (v := .ref a) rfl rfl hG hS hM (Nat.le_of_ble_eq_true rfl) (fun H locs hG hS => ?_)
  refine lv_aload_n hx hb dJ6_init_3_9 rfl (lv_at hl 0 rfl) ?_
  refine va_gets hx hb hu1 hS S.1.2.2.2.1 (S.ts _ q296) (fun _ h9 => h9) dJ6_init_3_10 ?_
  refine g_put (ci := 10) (C := RX6) (T := TX6) (N := 6) S in_X6 tyX6 tyX6_ok nmX6 rfl 1 (by decide) (S.ts _ q330) (fun _ h9 => h9) rfl (ty := (.array (.object "java/lang/StackTraceElement"))) (by decide +kernel) dJ6_init_3_13 (v := u1) (ex_nar hu2 rfl (fun _ => rfl)) (ex_fit hu2 rfl (fun _ => rfl)) hG hS gh_up_s (Nat.le_of_ble_eq_true rfl) (fun H locs hG hS => ?_)
  rw [gh_up_up] at hG
  refine lv_aload_n hx hb dJ6_init_3_16 rfl (lv_at hl 0 rfl) ?_
  refine va_gets hx hb hp1 hS S.1.2.2.2.1 (S.ts _ q298) (fun _ h9 => h9) dJ6_init_3_17 ?_
  refine g_put (ci := 10) (C := RX6) (T := TX6) (N := 6) S in_X6 tyX6 tyX6_ok nmX6 rfl 2 (by decide) (S.ts _ q331) (fun _ h9 => h9) rfl (ty := (.object "java/util/List")) (by decide +kernel) dJ6_init_3_20 (v := p1) (ex_nar hp2 rfl (fun _ => rfl)) (ex_fit hp2 rfl (fun _ => rfl)) hG hS gh_up_s (Nat.le_of_ble_eq_true rfl) (fun H locs hG hS => ?_)
  rw [gh_up_up] at hG
  refine lv_iload hx hb dJ6_init_3_23 (lv_at hl 4 rfl) ?_
  refine lv_if_eq (tgt := 36) hx hb dJ6_init_3_25 (by decide) (fun _ => ?_) (fun h => absurd h (by decide))
  refine lv_aload_n hx hb dJ6_init_3_36 rfl (lv_at hl 0 rfl) ?_
  refine lv_null hx hb dJ6_init_3_37 ?_
  refine g_put (ci := 10) (C := RX6) (T := TX6) (N := 6) S in_X6 tyX6 tyX6_ok nmX6 rfl 1 (by decide) (S.ts _ q330) (fun _ h9 => h9) rfl (ty := (.array (.object "java/lang/StackTraceElement"))) (by decide +kernel) dJ6_init_3_38 (v := .null) rfl rfl hG hS gh_up_s (Nat.le_of_ble_eq_true rfl) (fun H locs hG hS => ?_)
  rw [gh_up_up] at hG
  refine lv_aload_n hx hb dJ6_init_3_41 rfl (lv_at hl 0 rfl) ?_
  refine lv_aload_nN hx hb dJ6_init_3_42 rfl (lv_at hl 1 rfl) ?_
  refine g_put (ci := 10) (C := RX6) (T := TX6) (N := 6) S in_X6 tyX6 tyX6_ok nmX6 rfl 3 (by decide) (S.ts _ q328) (fun _ h9 => h9) rfl (ty := (.object "java/lang/String")) (by decide +kernel) dJ6_init_3_43 (v := .null) rfl rfl hG hS gh_up_s (Nat.le_of_ble_eq_true rfl) (fun H locs hG hS => ?_)
  rw [gh_up_up] at hG
  refine lv_aload_n hx hb dJ6_init_3_46 rfl (lv_at hl 0 rfl) ?_
  refine lv_aload_nN hx hb dJ6_init_3_47 rfl (lv_at hl 2 rfl) ?_
  refine g_put (ci := 10) (C := RX6) (T := TX6) (N := 6) S in_X6 tyX6 tyX6_ok nmX6 rfl 0 (by decide) (S.ts _ q329) (fun _ h9 => h9) rfl (ty := (.object "java/lang/Throwable")) (by decide +kernel) dJ6_init_3_48 (v := .null) rfl rfl hG hS gh_up_s (Nat.le_of_ble_eq_true rfl) (fun H locs hG hS => ?_)
  rw [gh_up_up] at hG
  refine lv_iload_n hx hb dJ6_init_3_51 rfl (lv_at hl 3 rfl) ?_
  refine lv_if_ne (tgt := 60) hx hb dJ6_init_3_52 (by decide) (fun h => absurd h (by decide)) (fun _ => ?_)
  refine lv_aload_n hx hb dJ6_init_3_55 rfl (lv_at hl 0 rfl) ?_
  refine lv_null hx hb dJ6_init_3_56 ?_
  refine g_put (ci := 10) (C := RX6) (T := TX6) (N := 6) S in_X6 tyX6 tyX6_ok nmX6 rfl 2 (by decide) (S.ts _ q331) (fun _ h9 => h9) rfl (ty := (.object "java/util/List")) (by decide +kernel) dJ6_init_3_57 (v := .null) rfl rfl hG hS gh_up_s (Nat.le_of_ble_eq_true rfl) (fun H locs hG hS => ?_)
  rw [gh_up_up] at hG
  exact g_vret S hr dJ6_init_3_60 hG hS (by first | exact Nat.le_refl _ | omega) (by first | exact Nat.le_refl _ | omega) ⟨rfl, _, _, _, _, _, _, rfl⟩
set_option maxHeartbeats 4000000 in
set_option maxRecDepth 100000 in
theorem metJ7_init_3_X6 (l : Launch) {E : Ev} {G : gh} {a t i : Nat} {v0 v1 v2 v3 v4 v5 : Value}  (hM : G a = some (t, i, .inr (10, [v0, v1, v2, v3, v4, v5]))) : Met l yJ7_init_3 (ws_ yJ7_init_3 cJ7_init_3 5 none) ({ frames := 2, cells := 0, slots := 0, locals := 70 }) (gP E G [.ref a, .null, .null, .int 0, .int 0]) (gQ E (fun v G' => v = none ∧ ∃ w0 w1 w2 w3 w4 w5, G' = gh_up G a (t, i, .inr (10, [w0, w1, w2, w3, w4, w5])))) 0 0 (ev_A E) := by
  refine gMet RJ7 (by decide) rfl (Nat.le_of_ble_eq_true rfl) ?_
  intro p e s m below meth c ls hx hb S hr hnm hl hG hS
  have hl : lv_has ls 5 [(0, .ref a), (1, .null), (2, .null), (3, .int 0), (4, .int 0)] := hl
  refine lv_aload_n hx hb dJ7_init_3_0 rfl (lv_at hl 0 rfl) ?_
  refine lv_aload_nN hx hb dJ7_init_3_1 rfl (lv_at hl 1 rfl) ?_
  refine lv_aload_nN hx hb dJ7_init_3_2 rfl (lv_at hl 2 rfl) ?_
  refine lv_iload_n hx hb dJ7_init_3_3 rfl (lv_at hl 3 rfl) ?_
  refine lv_iload hx hb dJ7_init_3_4 (lv_at hl 4 rfl) ?_
  refine g_call hS (va_runI (As := [.null, .null, .int 0, .int 0]) (rest := []) S.1 (metJ6_init_3_X6 l (E := E) hM) (cwI 4 S.ts (lw_meth q581) rfl rfl rfl (S.ts _ q40) (S.ts _ q579) (S.ts _ q580) rfl (by decide +kernel) ⟨Nat.le_of_ble_eq_true rfl, Nat.le_of_ble_eq_true rfl⟩) (S.pre hG hS) rfl rfl hl.1 rfl (lv_room (Nat.le_of_ble_eq_true rfl)) dJ7_init_3_6 ⟨Nat.le_of_ble_eq_true rfl, Nat.le_of_ble_eq_true rfl⟩) (fun v G1 H locs hp hG hS => ?_)
  refine W.cs (cells' := 0) (slots' := 0) (by first | rfl | omega) (by first | rfl | omega) ?_
  obtain ⟨rfl, w0, w1, w2, w3, w4, w5, rfl⟩ := hp
  refine W.eq (g2 := F0 m 9 ls []) rfl ?_
  exact g_vret S hr dJ7_init_3_9 hG hS (by first | exact Nat.le_refl _ | omega) (by first | exact Nat.le_refl _ | omega) ⟨rfl, w0, w1, w2, w3, w4, w5, rfl⟩
set_option maxHeartbeats 4000000 in
set_option maxRecDepth 100000 in
theorem metX4_init_X6 (l : Launch) {E : Ev} {G : gh} {a t i : Nat} {v0 v1 v2 v3 v4 v5 : Value}  (hM : G a = some (t, i, .inr (10, [v0, v1, v2, v3, v4, v5]))) : Met l yX4_init (ws_ yX4_init cX4_init 1 none) ({ frames := 3, cells := 0, slots := 0, locals := 110 }) (gP E G [.ref a]) (gQ E (fun v G' => v = none ∧ ∃ w0 w1 w2 w3 w4 w5, G' = gh_up G a (t, i, .inr (10, [w0, w1, w2, w3, w4, w5])))) 0 0 (ev_A E) := by
  refine gMet RX4 (by decide) rfl (Nat.le_of_ble_eq_true rfl) ?_
  intro p e s m below meth c ls hx hb S hr hnm hl hG hS
  have hl : lv_has ls 1 [(0, .ref a)] := hl
  refine lv_aload_n hx hb dX4_init_0 rfl (lv_at hl 0 rfl) ?_
  refine lv_null hx hb dX4_init_1 ?_
  refine lv_null hx hb dX4_init_2 ?_
  refine lv_iconst (v := 0) hx hb dX4_init_3 (by decide) ?_
  refine lv_iconst (v := 0) hx hb dX4_init_4 (by decide) ?_
  refine g_call hS (va_runI (As := [.null, .null, .int 0, .int 0]) (rest := []) S.1 (metJ7_init_3_X6 l (E := E) hM) (cwI 4 S.ts (lw_meth q578) rfl rfl rfl (S.ts _ q41) (S.ts _ q576) (S.ts _ q577) rfl (by decide +kernel) ⟨Nat.le_of_ble_eq_true rfl, Nat.le_of_ble_eq_true rfl⟩) (S.pre hG hS) rfl rfl hl.1 rfl (lv_room (Nat.le_of_ble_eq_true rfl)) dX4_init_5 ⟨Nat.le_of_ble_eq_true rfl, Nat.le_of_ble_eq_true rfl⟩) (fun v G1 H locs hp hG hS => ?_)
  refine W.cs (cells' := 0) (slots' := 0) (by first | rfl | omega) (by first | rfl | omega) ?_
  obtain ⟨rfl, w0, w1, w2, w3, w4, w5, rfl⟩ := hp
  refine W.eq (g2 := F0 m 8 ls []) rfl ?_
  exact g_vret S hr dX4_init_8 hG hS (by first | exact Nat.le_refl _ | omega) (by first | exact Nat.le_refl _ | omega) ⟨rfl, w0, w1, w2, w3, w4, w5, rfl⟩
set_option maxHeartbeats 4000000 in
set_option maxRecDepth 100000 in
theorem metX6_init (l : Launch) {E : Ev} {G : gh} {a t i : Nat} {v0 v1 v2 v3 v4 v5 : Value}  (hM : G a = some (t, i, .inr (10, [v0, v1, v2, v3, v4, v5]))) : Met l yX6_init (ws_ yX6_init cX6_init 1 none) ({ frames := 4, cells := 0, slots := 0, locals := 140 }) (gP E G [.ref a]) (gQ E (fun v G' => v = none ∧ ∃ w0 w1 w2 w3 w4 w5, G' = gh_up G a (t, i, .inr (10, [w0, w1, w2, w3, w4, w5])))) 0 0 (ev_A E) := by
  refine gMet RX6 (by decide) rfl (Nat.le_of_ble_eq_true rfl) ?_
  intro p e s m below meth c ls hx hb S hr hnm hl hG hS
  have hl : lv_has ls 1 [(0, .ref a)] := hl
  refine lv_aload_n hx hb dX6_init_0 rfl (lv_at hl 0 rfl) ?_
  refine g_call hS (va_runI (As := []) (rest := []) S.1 (metX4_init_X6 l (E := E) hM) (cwI 0 S.ts (lw_meth q575) rfl rfl rfl (S.ts _ q55) (S.ts _ q596) (S.ts _ q574) rfl (by decide +kernel) ⟨Nat.le_of_ble_eq_true rfl, Nat.le_of_ble_eq_true rfl⟩) (S.pre hG hS) rfl rfl hl.1 rfl (lv_room (Nat.le_of_ble_eq_true rfl)) dX6_init_1 ⟨Nat.le_of_ble_eq_true rfl, Nat.le_of_ble_eq_true rfl⟩) (fun v G1 H locs hp hG hS => ?_)
  refine W.cs (cells' := 0) (slots' := 0) (by first | rfl | omega) (by first | rfl | omega) ?_
  obtain ⟨rfl, w0, w1, w2, w3, w4, w5, rfl⟩ := hp
  refine W.eq (g2 := F0 m 4 ls []) rfl ?_
  exact g_vret S hr dX6_init_4 hG hS (by first | exact Nat.le_refl _ | omega) (by first | exact Nat.le_refl _ | omega) ⟨rfl, w0, w1, w2, w3, w4, w5, rfl⟩
set_option maxHeartbeats 4000000 in
set_option maxRecDepth 100000 in
theorem metX1_checkedBad (l : Launch) (hl0 : l.stackTraces = false) {E : Ev} {G : gh} {x : Int64}  (hx0 : ¬ sp_in x = true) : vx_Met l yX1_checked (ws_ yX1_checked cX1_checked 2 (some .int)) ({ frames := 5, cells := 1, slots := 6, locals := 200 }) (gP E G [.long x]) (gQ E (fun v G' => False)) (gX E (fun C G' => (C = RX5 ∨ C = RX6) ∧ gh_le G G')) 1 6 (ev_A E) := by
  refine gMetX RX1 (by decide) rfl (Nat.le_of_ble_eq_true rfl) ?_
  intro p e s m below meth c ls hx hb S hr hno hl hG hS
  have hl : lv_has ls 2 [(0, .long x)] := hl
  refine lv_lload_n hx hb dX1_checked_0 rfl (lv_at hl 0 rfl) ?_
  refine lv_ldc2 (v := 99999999) hx hb S.1.2.2.2.1 (S.ts _ q560) dX1_checked_1 ?_
  refine W.lcmp hx hb dX1_checked_4 ?_
  refine lv_if_le (tgt := 16) hx hb dX1_checked_5 (by decide) (fun h5 => ?_) (fun h5 => ?_)
  · refine lv_lload_n hx hb dX1_checked_16 rfl (lv_at hl 0 rfl) ?_
    refine lv_ldc2 (v := (-99999999)) hx hb S.1.2.2.2.1 (S.ts _ q584) dX1_checked_17 ?_
    refine W.lcmp hx hb dX1_checked_20 ?_
    refine lv_if_ge (tgt := 32) hx hb dX1_checked_21 (by decide) (fun h21 => ?_) (fun h21 => ?_)
    · exact absurd ((sp_in_iff x).mpr ⟨fun q => absurd ((lg_cmp_lt _ _).mpr q) (Int32.not_lt.mpr h21), fun q => absurd ((lg_cmp_gt _ _).mpr q) (Int32.not_lt.mpr h5)⟩) hx0
    · refine g_new (ci := 10) (C := RX6) (T := TX6) (N := 6) (fs := [.null, .null, .null, .null, .null, .int 0]) S in_X6 tyX6 tyX6_ok (S.ts _ q506) (S.ts _ q585) (S.ts _ q57) rfl (fun j hj => by match j, hj with | 0, _ => rfl | 1, _ => rfl | 2, _ => rfl | 3, _ => rfl | 4, _ => rfl | 5, _ => rfl | k + 6, hj => exact absurd hj (by omega)) dX1_checked_24 50 0 (Nat.le_of_ble_eq_true rfl) (Nat.le_of_ble_eq_true rfl) hG hS (fun q H hq hG hS => ?_)
      refine W.cs (cells' := 1) (slots' := 6) (by first | rfl | omega) (by first | rfl | omega) ?_
      refine lv_dup hx hb dX1_checked_27 rfl ?_
      refine g_call hS (va_runIN (As := []) (rest := [.ref q]) S.1 (metX6_init l (E := E) gh_up_s) ⟨va_cnB 0 S.ts (lw_meth q595) rfl rfl rfl (S.2.1.W q593 rfl) (S.ts _ q57) (by decide +kernel) ⟨Nat.le_of_ble_eq_true rfl, Nat.le_of_ble_eq_true rfl⟩, rfl, S.ts _ q594⟩ (S.pre hG hS) rfl rfl hl.1 rfl (lv_room (Nat.le_of_ble_eq_true rfl)) dX1_checked_28 ⟨by first | exact Nat.le_of_ble_eq_true rfl | omega, by first | exact Nat.le_of_ble_eq_true rfl | omega⟩) (fun v G1 H locs hp hG hS => ?_)
      refine W.cs (cells' := 1) (slots' := 6) (by first | rfl | omega) (by first | rfl | omega) ?_
      obtain ⟨rfl, w0, w1, w2, w3, w4, w5, rfl⟩ := hp
      refine W.eq (g2 := F0 m 31 ls [.ref q]) rfl ?_
      rw [gh_up_up] at hG
      obtain ⟨cell9, q1, q2, q3, -⟩ := hG.obj (r := (RX6, TX6, 6)) gh_up_s rfl
      exact vx_athrow hx hb dX1_checked_31 (vx_out (fun x h => (hno x h).elim) S.2.2 q1 q3 (by rw [q2]; exact (S.K.1 10 _ rfl).2.1) (fun t ht _ => ⟨⟨_, ⟨Or.inr rfl, gh_fr.new hq⟩, by rw [ht]; exact hG⟩, hS.F ht⟩) hS.2.2 (by first | exact Nat.le_refl _ | omega) (by first | exact Nat.le_refl _ | omega))
  · refine g_new (ci := 9) (C := RX5) (T := TX5) (N := 6) (fs := [.null, .null, .null, .null, .null, .int 0]) S in_X5 tyX5 tyX5_ok (S.ts _ q505) (S.ts _ q561) (S.ts _ q56) rfl (fun j hj => by match j, hj with | 0, _ => rfl | 1, _ => rfl | 2, _ => rfl | 3, _ => rfl | 4, _ => rfl | 5, _ => rfl | k + 6, hj => exact absurd hj (by omega)) dX1_checked_8 50 0 (Nat.le_of_ble_eq_true rfl) (Nat.le_of_ble_eq_true rfl) hG hS (fun q H hq hG hS => ?_)
    refine W.cs (cells' := 1) (slots' := 6) (by first | rfl | omega) (by first | rfl | omega) ?_
    refine lv_dup hx hb dX1_checked_11 rfl ?_
    refine g_call hS (va_runIN (As := []) (rest := [.ref q]) S.1 (metX5_init l (E := E) gh_up_s) ⟨va_cnB 0 S.ts (lw_meth q572) rfl rfl rfl (S.2.1.W q570 rfl) (S.ts _ q56) (by decide +kernel) ⟨Nat.le_of_ble_eq_true rfl, Nat.le_of_ble_eq_true rfl⟩, rfl, S.ts _ q571⟩ (S.pre hG hS) rfl rfl hl.1 rfl (lv_room (Nat.le_of_ble_eq_true rfl)) dX1_checked_12 ⟨by first | exact Nat.le_of_ble_eq_true rfl | omega, by first | exact Nat.le_of_ble_eq_true rfl | omega⟩) (fun v G1 H locs hp hG hS => ?_)
    refine W.cs (cells' := 1) (slots' := 6) (by first | rfl | omega) (by first | rfl | omega) ?_
    obtain ⟨rfl, w0, w1, w2, w3, w4, w5, rfl⟩ := hp
    refine W.eq (g2 := F0 m 15 ls [.ref q]) rfl ?_
    rw [gh_up_up] at hG
    obtain ⟨cell9, q1, q2, q3, -⟩ := hG.obj (r := (RX5, TX5, 6)) gh_up_s rfl
    exact vx_athrow hx hb dX1_checked_15 (vx_out (fun x h => (hno x h).elim) S.2.2 q1 q3 (by rw [q2]; exact (S.K.1 9 _ rfl).2.1) (fun t ht _ => ⟨⟨_, ⟨Or.inl rfl, gh_fr.new hq⟩, by rw [ht]; exact hG⟩, hS.F ht⟩) hS.2.2 (by first | exact Nat.le_refl _ | omega) (by first | exact Nat.le_refl _ | omega))
set_option maxHeartbeats 4000000 in
set_option maxRecDepth 100000 in
theorem metX1_findBad (l : Launch) (hl0 : l.stackTraces = false) {E : Ev} {G : gh} {st vq iv i t : Nat} {M : tM} {nn : tN} {w : cW} {up : Int32} (hC : cS E G st M nn w) (hwf : sp_wf M nn) (hV : G vq = some (50, iv, .inr (12, [.ref st, .int up, .ref (w.fs i)]))) (hi : i < nn 3) (ht : t < 12) : ∀ k, k < nn 2 → sp_fd M (nn 4) i t (fun d => decide (nI d ≤ up)) 10 k = none → vx_Met l yX1_find (ws_ yX1_find cX1_find 5 (some .int)) ({ frames := k + 12, cells := 1, slots := 6, locals := 40 * k + 600 }) (gP E G [.ref st, .ref vq, .ref (w.fl k), .int (nI t)]) (gQ E (fun v G' => False)) (gX E (fun C G' => (C = RX5 ∨ C = RX6) ∧ gh_le G G')) 1 6 (ev_A E) := by
  have h16 : nn 1 ≤ 6 := hwf.1.1
  have h10 : nn 2 ≤ 10 := hwf.1.2.1
  have h34 : nn 3 ≤ 4 := hwf.1.2.2.1.2
  obtain ⟨arl, hMl, hAl⟩ := hC.2.2.2.1
  intro k
  induction k using Nat.strongRecOn with
  | ind k ih =>
    intro hk hz
    refine gMetX RX1 (by decide) rfl (Nat.le_of_ble_eq_true rfl) ?_
    intro p e s m below meth c ls hx hb S hr hno hl hG hS
    have hl : lv_has ls 5 [(0, .ref st), (1, .ref vq), (2, .ref (w.fl k)), (3, .int (nI t))] := hl
    obtain ⟨fo, ac, ap, ot, fa, fp, hO, hot, hfo, hAc, hAp, hfa, hfp⟩ := hC.2.2.2.2 k hk
    have h12 : M 12 (12 * k + t) = 0 := Classical.byContradiction fun q => by rw [sp_fd_A q] at hz; cases hz
    refine lv_aload_n hx hb dX1_find_0 rfl (lv_at hl 2 rfl) ?_
    refine gf_X1_112 S dX1_find_1 hG hO rfl ?_
    refine lv_iload_n hx hb dX1_find_4 rfl (lv_at hl 3 rfl) ?_
    refine n_aald 6 rfl S dX1_find_5 hG hAc (gix.mk ht (by decide)) ?_
    refine W.eq (g2 := F0 m 6 ls [va_rf (fa t)]) rfl ?_
    refine W.eq (g2 := F0 m 6 ls [.null]) (by rw [(hfa t ht).1 h12]; rfl) ?_
    refine lv_ifnullN (tgt := 19) hx hb dX1_find_6 (by decide) ?_
    refine lv_aload_n hx hb dX1_find_19 rfl (lv_at hl 2 rfl) ?_
    refine gf_X1_119 S dX1_find_20 hG hO rfl ?_
    refine lv_bipush (v := 100) hx hb dX1_find_23 (by decide) ?_
    by_cases h2 : M 1 k = 100
    · refine lv_icmp_ne (tgt := 54) hx hb dX1_find_25 (by decide) (fun h => absurd h2 h) (fun _ => ?_)
      refine lv_aload_n hx hb dX1_find_28 rfl (lv_at hl 2 rfl) ?_
      refine gf_X1_123 S dX1_find_29 hG hO rfl ?_
      refine lv_aload_n hx hb dX1_find_32 rfl (lv_at hl 1 rfl) ?_
      refine lv_aload_n hx hb dX1_find_33 rfl (lv_at hl 2 rfl) ?_
      refine gf_X1_127 S dX1_find_34 hG hO rfl ?_
      refine lv_iload_n hx hb dX1_find_37 rfl (lv_at hl 3 rfl) ?_
      obtain ⟨d, hd, e1⟩ := (hwf.2.2.1 k hk).2.1 h2
      have e2 : ixN (M 2 k) = d := by rw [e1]; exact ixN_nI (by omega)
      rw [sp_fd_D h12 h2 e2] at hz
      have hz2 := sp_ck_no hz
      rw [h2] at hfo
      refine W.eq (g2 := F0 m 38 ls [.int (nI t), .int (nI d), .ref vq, .ref fo]) (by rw [e1]) ?_
      refine g_call5 hS (g_view1 (rest := [.ref fo]) S hG hS hl.1 hV (S.recv hG (r := (RX1, TX1, 5)) hC.1 rfl) (metX1_lambda_view_2 l (E := E) (G := G) (i := i) (d := d) (t := t) (up := up) hC hwf hi hd) rfl rfl (fun v G9 h => ⟨_, h.1⟩) (S.ts _ q550) (Nat.le_of_ble_eq_true rfl) dX1_find_38 (by show 4 + 2 ≤ k + 12; omega) (by show 8 + (3 + 11) + (8 + (5 + 11) + 260) ≤ 40 * k + 600; omega) (Nat.le_of_ble_eq_true rfl) (Nat.le_of_ble_eq_true rfl)) (fun v G1 H locs hp hG hS => ?_)
      obtain ⟨rfl, rfl⟩ := hp
      refine W.eq (g2 := F0 m 43 ls [.int (sp_val M (nn 4) i d t (decide (nI d ≤ up))), .ref fo]) rfl ?_
      refine lv_i2l (v := (sp_val M (nn 4) i d t (decide (nI d ≤ up))).toInt64) hx hb dX1_find_43 rfl ?_
      refine lv_lconst (v := 0) hx hb dX1_find_44 (by decide) ?_
      refine g_call5 hS (g_form2 (rest := []) S hG hS hl.1 hfo.k100 (metX1_lambda_formula_0 l (E := E) (G := G) (sp_val M (nn 4) i d t (decide (nI d ≤ up))).toInt64 0) rfl rfl (fun v G9 h => ⟨_, h.1⟩) (S.ts _ q554) (Nat.le_of_ble_eq_true rfl) dX1_find_45 (by show 0 + 2 ≤ k + 12; omega) (by show 8 + (5 + 11) + (8 + (4 + 11) + 0) ≤ 40 * k + 600; omega) (Nat.le_of_ble_eq_true rfl) (Nat.le_of_ble_eq_true rfl)) (fun v G1 H locs hp hG hS => ?_)
      obtain ⟨rfl, rfl⟩ := hp
      refine W.eq (g2 := F0 m 50 ls [.long (sp_val M (nn 4) i d t (decide (nI d ≤ up))).toInt64]) rfl ?_
      refine g_callX hS (vx_runS (As := [.long (sp_val M (nn 4) i d t (decide (nI d ≤ up))).toInt64]) (rest := []) S.1 (metX1_checkedBad l hl0 (E := E) (G := G) hz2) (va_cwS 1 S.ts (lw_S q557 q558 q30 q559) rfl rfl rfl (by decide +kernel) ⟨by show 5 + 1 ≤ k + 12; omega, by show 8 + (2 + 11) + 200 ≤ 40 * k + 600; omega⟩) (S.pre hG hS) rfl rfl hl.1 rfl (lv_room (Nat.le_of_ble_eq_true rfl)) dX1_find_50 ⟨Nat.le_of_ble_eq_true rfl, Nat.le_of_ble_eq_true rfl⟩) (fun C ce q9 G1 H locs hp hG hS hce hcv hcl => ?_) (fun v G1 H locs hp hG hS => ?_)
      · refine vx_widen (k := 1) (n := 6) (by first | exact Nat.le_refl _ | omega) (by first | exact Nat.le_refl _ | omega) ?_
        exact vx_out (fun x h => (hno x h).elim) S.2.2 hce hcv hcl (fun t ht _ => ⟨⟨_, hp, by rw [ht]; exact hG⟩, hS.F ht⟩) hS.2.2 (by first | exact Nat.le_refl _ | omega) (by first | exact Nat.le_refl _ | omega)
      refine W.cs (cells' := 1) (slots' := 6) (by first | rfl | omega) (by first | rfl | omega) ?_
      exact hp.elim
    · refine lv_icmp_ne (tgt := 54) hx hb dX1_find_25 (by decide) (fun _ => ?_) (fun h => absurd h h2)
      refine lv_aload_n hx hb dX1_find_54 rfl (lv_at hl 0 rfl) ?_
      refine lv_aload_n hx hb dX1_find_55 rfl (lv_at hl 1 rfl) ?_
      refine lv_aload_n hx hb dX1_find_56 rfl (lv_at hl 0 rfl) ?_
      refine gf_X1_55 S dX1_find_57 hG hC.1 rfl ?_
      refine lv_aload_n hx hb dX1_find_60 rfl (lv_at hl 2 rfl) ?_
      refine gf_X1_127 S dX1_find_61 hG hO rfl ?_
      obtain ⟨⟨j, hj, e1⟩, j2, hj2, e2⟩ := (hwf.2.2.1 k hk).2.2 h2
      rw [sp_fd_F hwf hk h12 h2 hj hj2 (by rw [e1]; exact ixN_nI (by omega)) (by rw [e2]; exact ixN_nI (by omega))] at hz
      have eot : ot = nI j2 := (hot h2).trans e2
      refine W.eq (g2 := F0 m 64 ls [.int (nI j), .ref w.ll, .ref vq, .ref st]) (by rw [e1]) ?_
      refine g_call5 hS (va_runF (S.K.1 5 _ rfl).2 (As := [.int (nI j)]) (rest := [.ref vq, .ref st]) S.1 (metJ2_get l (E := E) (G := G) hC.2.2.2.1 (i := j) (show j < nn 2 by omega)) (va_cwF 1 S.ts (lw_F q512 q515 q517 q33 q519) rfl rfl rfl (S.2.1.1.2.1 _ (List.mem_of_getElem? (i := 2) rfl)) (by decide +kernel) ⟨by show 2 + 1 ≤ k + 12; omega, by show 8 + (2 + 11) + 80 ≤ 40 * k + 600; omega⟩) (S.preV hG hS hMl rfl) rfl rfl hl.1 rfl (lv_room (Nat.le_of_ble_eq_true rfl)) dX1_find_64 ⟨Nat.le_of_ble_eq_true rfl, Nat.le_of_ble_eq_true rfl⟩) (fun v G1 H locs hp hG hS => ?_)
      refine W.cs (cells' := 0) (slots' := 0) (by first | rfl | omega) (by first | rfl | omega) ?_
      obtain ⟨rfl, rfl⟩ := hp
      refine W.eq (g2 := F0 m 69 ls [.ref (w.fl j), .ref vq, .ref st]) rfl ?_
      obtain ⟨_, _, _, _, _, _, hOj, -⟩ := hC.2.2.2.2 j (show j < nn 2 by omega)
      refine g_castS (nm := "CostStudio$Line") (S.K.1 2 _ rfl).2 S (S.ts _ q340) (S.recv hG (r := (RX7, TX7, 7)) hOj rfl) dX1_find_69 ?_
      refine lv_iload_n hx hb dX1_find_72 rfl (lv_at hl 3 rfl) ?_
      cases hzx : sp_fd M (nn 4) i t (fun d => decide (nI d ≤ up)) 10 j with
      | none =>
        refine g_callX hS (vx_runV (As := [.ref vq, .ref (w.fl j), .int (nI t)]) (rest := []) S.1 (ih j hj (by omega) hzx) (cwV 3 S.ts (lw_V q545 q547 qs12 q30 q548) rfl rfl rfl (by decide +kernel) ⟨by show j + 12 + 1 ≤ k + 12; omega, by show 8 + (5 + 11) + (40 * j + 600) ≤ 40 * k + 600; omega⟩) (S.preV hG hS hC.1 rfl) rfl rfl hl.1 rfl (lv_room (Nat.le_of_ble_eq_true rfl)) dX1_find_73 ⟨Nat.le_of_ble_eq_true rfl, Nat.le_of_ble_eq_true rfl⟩) (fun C ce q9 G1 H locs hp hG hS hce hcv hcl => ?_) (fun v G1 H locs hp hG hS => ?_)
        · refine vx_widen (k := 1) (n := 6) (by first | exact Nat.le_refl _ | omega) (by first | exact Nat.le_refl _ | omega) ?_
          exact vx_out (fun x h => (hno x h).elim) S.2.2 hce hcv hcl (fun t ht _ => ⟨⟨_, hp, by rw [ht]; exact hG⟩, hS.F ht⟩) hS.2.2 (by first | exact Nat.le_refl _ | omega) (by first | exact Nat.le_refl _ | omega)
        refine W.cs (cells' := 1) (slots' := 6) (by first | rfl | omega) (by first | rfl | omega) ?_
        exact hp.elim
      | some x =>
        refine g_call hS (va_runV (As := [.ref vq, .ref (w.fl j), .int (nI t)]) (rest := []) S.1 (metX1_findOk l (E := E) (G := G) hC hwf hV hi ht j (by omega) x hzx) (cwV 3 S.ts (lw_V q545 q547 qs12 q30 q548) rfl rfl rfl (by decide +kernel) ⟨by show j + 12 + 1 ≤ k + 12; omega, by show 8 + (5 + 11) + (40 * j + 600) ≤ 40 * k + 600; omega⟩) (S.preV hG hS hC.1 rfl) rfl rfl hl.1 rfl (lv_room (Nat.le_of_ble_eq_true rfl)) dX1_find_73 ⟨Nat.le_of_ble_eq_true rfl, Nat.le_of_ble_eq_true rfl⟩) (fun v G1 H locs hp hG hS => ?_)
        refine W.cs (cells' := 0) (slots' := 0) (by first | rfl | omega) (by first | rfl | omega) ?_
        obtain ⟨rfl, rfl⟩ := hp
        refine W.eq (g2 := F0 m 76 ls [.int x.toInt32]) rfl ?_
        refine lv_istore (lv' := [(4, .int x.toInt32), (0, .ref st), (1, .ref vq), (2, .ref (w.fl k)), (3, .int (nI t))]) hx hb dX1_find_76 hl (by decide) rfl (fun ls hl => ?_)
        refine lv_aload_n hx hb dX1_find_78 rfl (lv_at hl 3 rfl) ?_
        refine gf_X1_123 S dX1_find_79 hG hO rfl ?_
        refine lv_iload hx hb dX1_find_82 (lv_at hl 0 rfl) ?_
        refine lv_i2l (v := x.toInt32.toInt64) hx hb dX1_find_84 rfl ?_
        refine lv_aload_n hx hb dX1_find_85 rfl (lv_at hl 1 rfl) ?_
        refine lv_aload_n hx hb dX1_find_86 rfl (lv_at hl 2 rfl) ?_
        refine lv_aload_n hx hb dX1_find_87 rfl (lv_at hl 1 rfl) ?_
        refine gf_X1_55 S dX1_find_88 hG hC.1 rfl ?_
        refine lv_aload_n hx hb dX1_find_91 rfl (lv_at hl 3 rfl) ?_
        refine gf_X1_149 S dX1_find_92 hG hO rfl ?_
        refine W.eq (g2 := F0 m 95 ls [.int (nI j2), .ref w.ll, .ref vq, .ref st, .long x.toInt32.toInt64, .ref fo]) (by rw [eot]) ?_
        refine g_call5 hS (va_runF (S.K.1 5 _ rfl).2 (As := [.int (nI j2)]) (rest := [.ref vq, .ref st, .long x.toInt32.toInt64, .ref fo]) S.1 (metJ2_get l (E := E) (G := G) hC.2.2.2.1 (i := j2) (show j2 < nn 2 by omega)) (va_cwF 1 S.ts (lw_F q512 q515 q517 q33 q519) rfl rfl rfl (S.2.1.1.2.1 _ (List.mem_of_getElem? (i := 2) rfl)) (by decide +kernel) ⟨by show 2 + 1 ≤ k + 12; omega, by show 8 + (2 + 11) + 80 ≤ 40 * k + 600; omega⟩) (S.preV hG hS hMl rfl) rfl rfl hl.1 rfl (lv_room (Nat.le_of_ble_eq_true rfl)) dX1_find_95 ⟨Nat.le_of_ble_eq_true rfl, Nat.le_of_ble_eq_true rfl⟩) (fun v G1 H locs hp hG hS => ?_)
        refine W.cs (cells' := 0) (slots' := 0) (by first | rfl | omega) (by first | rfl | omega) ?_
        obtain ⟨rfl, rfl⟩ := hp
        refine W.eq (g2 := F0 m 100 ls [.ref (w.fl j2), .ref vq, .ref st, .long x.toInt32.toInt64, .ref fo]) rfl ?_
        obtain ⟨_, _, _, _, _, _, hOj2, -⟩ := hC.2.2.2.2 j2 (show j2 < nn 2 by omega)
        refine g_castS (nm := "CostStudio$Line") (S.K.1 2 _ rfl).2 S (S.ts _ q340) (S.recv hG (r := (RX7, TX7, 7)) hOj2 rfl) dX1_find_100 ?_
        refine lv_iload_n hx hb dX1_find_103 rfl (lv_at hl 4 rfl) ?_
        cases hzy : sp_fd M (nn 4) i t (fun d => decide (nI d ≤ up)) 10 j2 with
        | none =>
          refine g_callX hS (vx_runV (As := [.ref vq, .ref (w.fl j2), .int (nI t)]) (rest := [.long x.toInt32.toInt64, .ref fo]) S.1 (ih j2 hj2 (by omega) hzy) (cwV 3 S.ts (lw_V q545 q547 qs12 q30 q548) rfl rfl rfl (by decide +kernel) ⟨by show j2 + 12 + 1 ≤ k + 12; omega, by show 8 + (5 + 11) + (40 * j2 + 600) ≤ 40 * k + 600; omega⟩) (S.preV hG hS hC.1 rfl) rfl rfl hl.1 rfl (lv_room (Nat.le_of_ble_eq_true rfl)) dX1_find_104 ⟨Nat.le_of_ble_eq_true rfl, Nat.le_of_ble_eq_true rfl⟩) (fun C ce q9 G1 H locs hp hG hS hce hcv hcl => ?_) (fun v G1 H locs hp hG hS => ?_)
          · refine vx_widen (k := 1) (n := 6) (by first | exact Nat.le_refl _ | omega) (by first | exact Nat.le_refl _ | omega) ?_
            exact vx_out (fun x h => (hno x h).elim) S.2.2 hce hcv hcl (fun t ht _ => ⟨⟨_, hp, by rw [ht]; exact hG⟩, hS.F ht⟩) hS.2.2 (by first | exact Nat.le_refl _ | omega) (by first | exact Nat.le_refl _ | omega)
          refine W.cs (cells' := 1) (slots' := 6) (by first | rfl | omega) (by first | rfl | omega) ?_
          exact hp.elim
        | some y =>
          refine g_call hS (va_runV (As := [.ref vq, .ref (w.fl j2), .int (nI t)]) (rest := [.long x.toInt32.toInt64, .ref fo]) S.1 (metX1_findOk l (E := E) (G := G) hC hwf hV hi ht j2 (by omega) y hzy) (cwV 3 S.ts (lw_V q545 q547 qs12 q30 q548) rfl rfl rfl (by decide +kernel) ⟨by show j2 + 12 + 1 ≤ k + 12; omega, by show 8 + (5 + 11) + (40 * j2 + 600) ≤ 40 * k + 600; omega⟩) (S.preV hG hS hC.1 rfl) rfl rfl hl.1 rfl (lv_room (Nat.le_of_ble_eq_true rfl)) dX1_find_104 ⟨Nat.le_of_ble_eq_true rfl, Nat.le_of_ble_eq_true rfl⟩) (fun v G1 H locs hp hG hS => ?_)
          refine W.cs (cells' := 0) (slots' := 0) (by first | rfl | omega) (by first | rfl | omega) ?_
          obtain ⟨rfl, rfl⟩ := hp
          refine W.eq (g2 := F0 m 107 ls [.int y.toInt32, .long x.toInt32.toInt64, .ref fo]) rfl ?_
          refine lv_i2l (v := y.toInt32.toInt64) hx hb dX1_find_107 rfl ?_
          have hx9 := sp_in_32 (sp_fd_in hwf ht (by omega) hzx)
          have hy9 := sp_in_32 (sp_fd_in hwf ht (by omega) hzy)
          rw [hzx, hzy] at hz
          have hz2 := sp_ck_no hz
          refine W.eq (g2 := F0 m 108 ls [.long y, .long x, .ref fo]) (by rw [hx9, hy9]) ?_
          rcases (hwf.2.2.1 k hk).1 with hkd | hkd | hkd | hkd
          · exact absurd hkd h2
          · rw [hkd] at hfo hz2
            obtain ⟨i9, hfo⟩ := hfo.k115
            refine g_call5 hS (g_form4 (rest := []) S hG hS hl.1 hfo (metX1_lambda_formula_1 l (E := E) (G := G) 1 x y) rfl rfl (fun v G9 h => ⟨_, h.1⟩) (S.ts _ q554) (Nat.le_of_ble_eq_true rfl) dX1_find_108 (by show 0 + 2 ≤ k + 12; omega) (by show 8 + (5 + 11) + (8 + (5 + 11) + 0) ≤ 40 * k + 600; omega) (Nat.le_of_ble_eq_true rfl) (Nat.le_of_ble_eq_true rfl)) (fun v G1 H locs hp hG hS => ?_)
            obtain ⟨rfl, rfl⟩ := hp
            refine W.eq (g2 := F0 m 113 ls [.long (x + (1 : Int32).toInt64 * y)]) rfl ?_
            refine W.eq (g2 := F0 m 113 ls [.long (sp_bk 115 x y)]) (by rw [sp_bk_115]) ?_
            refine g_callX hS (vx_runS (As := [.long (sp_bk 115 x y)]) (rest := []) S.1 (metX1_checkedBad l hl0 (E := E) (G := G) hz2) (va_cwS 1 S.ts (lw_S q557 q558 q30 q559) rfl rfl rfl (by decide +kernel) ⟨by show 5 + 1 ≤ k + 12; omega, by show 8 + (2 + 11) + 200 ≤ 40 * k + 600; omega⟩) (S.pre hG hS) rfl rfl hl.1 rfl (lv_room (Nat.le_of_ble_eq_true rfl)) dX1_find_113 ⟨Nat.le_of_ble_eq_true rfl, Nat.le_of_ble_eq_true rfl⟩) (fun C ce q9 G1 H locs hp hG hS hce hcv hcl => ?_) (fun v G1 H locs hp hG hS => ?_)
            · refine vx_widen (k := 1) (n := 6) (by first | exact Nat.le_refl _ | omega) (by first | exact Nat.le_refl _ | omega) ?_
              exact vx_out (fun x h => (hno x h).elim) S.2.2 hce hcv hcl (fun t ht _ => ⟨⟨_, hp, by rw [ht]; exact hG⟩, hS.F ht⟩) hS.2.2 (by first | exact Nat.le_refl _ | omega) (by first | exact Nat.le_refl _ | omega)
            refine W.cs (cells' := 1) (slots' := 6) (by first | rfl | omega) (by first | rfl | omega) ?_
            exact hp.elim
          · rw [hkd] at hfo hz2
            obtain ⟨i9, hfo⟩ := hfo.k109
            refine g_call5 hS (g_form4 (rest := []) S hG hS hl.1 hfo (metX1_lambda_formula_1 l (E := E) (G := G) (-1) x y) rfl rfl (fun v G9 h => ⟨_, h.1⟩) (S.ts _ q554) (Nat.le_of_ble_eq_true rfl) dX1_find_108 (by show 0 + 2 ≤ k + 12; omega) (by show 8 + (5 + 11) + (8 + (5 + 11) + 0) ≤ 40 * k + 600; omega) (Nat.le_of_ble_eq_true rfl) (Nat.le_of_ble_eq_true rfl)) (fun v G1 H locs hp hG hS => ?_)
            obtain ⟨rfl, rfl⟩ := hp
            refine W.eq (g2 := F0 m 113 ls [.long (x + (-1 : Int32).toInt64 * y)]) rfl ?_
            refine W.eq (g2 := F0 m 113 ls [.long (sp_bk 109 x y)]) (by rw [sp_bk_109]) ?_
            refine g_callX hS (vx_runS (As := [.long (sp_bk 109 x y)]) (rest := []) S.1 (metX1_checkedBad l hl0 (E := E) (G := G) hz2) (va_cwS 1 S.ts (lw_S q557 q558 q30 q559) rfl rfl rfl (by decide +kernel) ⟨by show 5 + 1 ≤ k + 12; omega, by show 8 + (2 + 11) + 200 ≤ 40 * k + 600; omega⟩) (S.pre hG hS) rfl rfl hl.1 rfl (lv_room (Nat.le_of_ble_eq_true rfl)) dX1_find_113 ⟨Nat.le_of_ble_eq_true rfl, Nat.le_of_ble_eq_true rfl⟩) (fun C ce q9 G1 H locs hp hG hS hce hcv hcl => ?_) (fun v G1 H locs hp hG hS => ?_)
            · refine vx_widen (k := 1) (n := 6) (by first | exact Nat.le_refl _ | omega) (by first | exact Nat.le_refl _ | omega) ?_
              exact vx_out (fun x h => (hno x h).elim) S.2.2 hce hcv hcl (fun t ht _ => ⟨⟨_, hp, by rw [ht]; exact hG⟩, hS.F ht⟩) hS.2.2 (by first | exact Nat.le_refl _ | omega) (by first | exact Nat.le_refl _ | omega)
            refine W.cs (cells' := 1) (slots' := 6) (by first | rfl | omega) (by first | rfl | omega) ?_
            exact hp.elim
          · rw [hkd] at hfo hz2
            refine g_call5 hS (g_form3 (rest := []) S hG hS hl.1 hfo.k112 (metX1_product l (E := E) (G := G) x y) rfl rfl (fun v G9 h => ⟨_, h.1⟩) (S.ts _ q554) (Nat.le_of_ble_eq_true rfl) dX1_find_108 (by show 0 + 2 ≤ k + 12; omega) (by show 8 + (5 + 11) + (8 + (4 + 11) + 0) ≤ 40 * k + 600; omega) (Nat.le_of_ble_eq_true rfl) (Nat.le_of_ble_eq_true rfl)) (fun v G1 H locs hp hG hS => ?_)
            obtain ⟨rfl, rfl⟩ := hp
            refine W.eq (g2 := F0 m 113 ls [.long (x * y / 100)]) rfl ?_
            refine W.eq (g2 := F0 m 113 ls [.long (sp_bk 112 x y)]) rfl ?_
            refine g_callX hS (vx_runS (As := [.long (sp_bk 112 x y)]) (rest := []) S.1 (metX1_checkedBad l hl0 (E := E) (G := G) hz2) (va_cwS 1 S.ts (lw_S q557 q558 q30 q559) rfl rfl rfl (by decide +kernel) ⟨by show 5 + 1 ≤ k + 12; omega, by show 8 + (2 + 11) + 200 ≤ 40 * k + 600; omega⟩) (S.pre hG hS) rfl rfl hl.1 rfl (lv_room (Nat.le_of_ble_eq_true rfl)) dX1_find_113 ⟨Nat.le_of_ble_eq_true rfl, Nat.le_of_ble_eq_true rfl⟩) (fun C ce q9 G1 H locs hp hG hS hce hcv hcl => ?_) (fun v G1 H locs hp hG hS => ?_)
            · refine vx_widen (k := 1) (n := 6) (by first | exact Nat.le_refl _ | omega) (by first | exact Nat.le_refl _ | omega) ?_
              exact vx_out (fun x h => (hno x h).elim) S.2.2 hce hcv hcl (fun t ht _ => ⟨⟨_, hp, by rw [ht]; exact hG⟩, hS.F ht⟩) hS.2.2 (by first | exact Nat.le_refl _ | omega) (by first | exact Nat.le_refl _ | omega)
            refine W.cs (cells' := 1) (slots' := 6) (by first | rfl | omega) (by first | rfl | omega) ?_
            exact hp.elim
