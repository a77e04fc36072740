set_option maxHeartbeats 4000000 in
set_option maxRecDepth 100000 in
theorem metJ11_init (l : Launch) {E : Ev} {G : gh} {a : Nat}  : Met l yJ11_init (ws_ yJ11_init cJ11_init 1 none) ({ frames := 1, cells := 0, slots := 0, locals := 40 }) (gP E G [.ref a]) (gQ E (fun v G' => v = none ∧ G = G')) 0 0 (ev_A E) := by
  refine gMet RJ11 (by decide) rfl (Nat.le_of_ble_eq_true rfl) ?_
  intro p e s m below meth c ls hx hb S hr hnm hl hG hS
  have hl : lv_has ls 1 [(0, .ref a)] := hl
  refine lv_aload_n hx hb dJ11_init_0 rfl (lv_at hl 0 rfl) ?_
  refine W.objInit hx hb S.1.2.2.2.1 (S.ts _ q411) (S.ts _ q72) (S.ts _ q73) rfl (by rw [S.1.2.2.1]; exact hl.1) rfl dJ11_init_1 (Nat.le_of_ble_eq_true rfl) (Nat.le_of_ble_eq_true rfl) ?_
  refine W.eq (g2 := F0 m 4 ls []) rfl ?_
  exact g_vret S hr dJ11_init_4 hG hS (by first | exact Nat.le_refl _ | omega) (by first | exact Nat.le_refl _ | omega) ⟨rfl, rfl⟩
set_option maxHeartbeats 4000000 in
set_option maxRecDepth 100000 in
theorem metJ12_init (l : Launch) {E : Ev} {G : gh} {a t i : Nat} {x z : Int32}  (hM : G a = some (t, i, .inr (7, [.int z]))) : Met l yJ12_init (ws_ yJ12_init cJ12_init 2 none) ({ frames := 2, cells := 0, slots := 0, locals := 80 }) (gP E G [.ref a, .int x]) (gQ E (fun v G' => v = none ∧ G' = gh_up G a (t, i, .inr (7, [.int x])))) 0 0 (ev_A E) := by
  refine gMet RJ12 (by decide) rfl (Nat.le_of_ble_eq_true rfl) ?_
  intro p e s m below meth c ls hx hb S hr hnm hl hG hS
  have hl : lv_has ls 2 [(0, .ref a), (1, .int x)] := hl
  refine lv_aload_n hx hb dJ12_init_0 rfl (lv_at hl 0 rfl) ?_
  refine g_call hS (va_runI (As := []) (rest := []) S.1 (metJ11_init l (E := E) (G := G) (a := a)) (cwI 0 S.ts (lw_meth q410) rfl rfl rfl (S.ts _ q45) (S.ts _ q408) (S.ts _ q409) rfl (by decide +kernel) ⟨Nat.le_of_ble_eq_true rfl, Nat.le_of_ble_eq_true rfl⟩) (S.pre hG hS) rfl rfl hl.1 rfl (lv_room (Nat.le_of_ble_eq_true rfl)) dJ12_init_1 ⟨Nat.le_of_ble_eq_true rfl, Nat.le_of_ble_eq_true rfl⟩) (fun v G1 H locs hp hG hS => ?_)
  refine W.cs (cells' := 0) (slots' := 0) (by first | rfl | omega) (by first | rfl | omega) ?_
  obtain ⟨rfl, rfl⟩ := hp
  refine W.eq (g2 := F0 m 4 ls []) rfl ?_
  refine lv_aload_n hx hb dJ12_init_4 rfl (lv_at hl 0 rfl) ?_
  refine lv_iload_n hx hb dJ12_init_5 rfl (lv_at hl 1 rfl) ?_
  refine pf_J12_205 S hnm dJ12_init_6 rfl rfl hG hS hM (Nat.le_of_ble_eq_true rfl) (fun H locs hG hS => ?_)
  exact g_vret S hr dJ12_init_9 hG hS (by first | exact Nat.le_refl _ | omega) (by first | exact Nat.le_refl _ | omega) ⟨rfl, rfl⟩
set_option maxHeartbeats 4000000 in
set_option maxRecDepth 100000 in
theorem metJ12_intValue (l : Launch) {E : Ev} {G : gh} {y : Nat} {x : Int32}  (hi : gInt E G y x) : Met l yJ12_intValue (ws_ yJ12_intValue cJ12_intValue 1 (some .int)) ({ frames := 0, cells := 0, slots := 0, locals := 0 }) (gP E G [.ref y]) (gQ E (fun v G' => v = some (.int x) ∧ G = G')) 0 0 (ev_A E) := by
  refine gMet RJ12 (by decide) rfl (Nat.le_of_ble_eq_true rfl) ?_
  intro p e s m below meth c ls hx hb S hr hnm hl hG hS
  have hl : lv_has ls 1 [(0, .ref y)] := hl
  refine lv_aload_n hx hb dJ12_intValue_0 rfl (lv_at hl 0 rfl) ?_
  refine gi_get (ref := "java/lang/Integer") hi S (S.ts _ q412) dJ12_intValue_1 hG hS ?_
  exact g_iret S hr dJ12_intValue_4 hG hS (by first | exact Nat.le_refl _ | omega) (by first | exact Nat.le_refl _ | omega) ⟨rfl, rfl⟩
theorem jd_cache {x : Int32} (h1 : ¬ x < -128) (h2 : ¬ 127 < x) : ∃ k, k < 256 ∧ x + 128 = nI k ∧ x = vb_c k := by
  have e1 := mt Int32.lt_iff_toInt_lt.mpr h1
  have e2 := mt Int32.lt_iff_toInt_lt.mpr h2
  have m1 : (-128 : Int32).toInt = -128 := by decide
  have m2 : (127 : Int32).toInt = 127 := by decide
  rw [m1] at e1
  rw [m2] at e2
  refine ⟨(x.toInt + 128).toNat, by omega, ?_, ?_⟩
  · refine Int32.toInt_inj.mp ?_
    rw [nI_toInt (by omega), Int32.toInt_add, show (128 : Int32).toInt = 128 from by decide]
    rw [Int.bmod_eq_of_le (by omega) (by omega)]
    omega
  · show x = Int32.ofNat (x.toInt + 128).toNat - 128
    have e3 : x + 128 = Int32.ofNat (x.toInt + 128).toNat := by
      refine Int32.toInt_inj.mp ?_
      show _ = (nI (x.toInt + 128).toNat).toInt
      rw [nI_toInt (by omega), Int32.toInt_add, show (128 : Int32).toInt = 128 from by decide]
      rw [Int.bmod_eq_of_le (by omega) (by omega)]
      omega
    rw [← e3, Int32.add_sub_cancel]
set_option maxHeartbeats 4000000 in
set_option maxRecDepth 100000 in
theorem metJ12_valueOf (l : Launch) {E : Ev} {G : gh} {x : Int32}  : Met l yJ12_valueOf (ws_ yJ12_valueOf cJ12_valueOf 1 (some (.object "java/lang/Integer"))) ({ frames := 3, cells := 1, slots := 1, locals := 160 }) (gP E G [.int x]) (gQ E (fun v G' => ∃ y, v = some (.ref y) ∧ gInt E G' y x ∧ gh_le G G')) 1 1 (ev_A E) := by
  refine gMet RJ12 (by decide) rfl (Nat.le_of_ble_eq_true rfl) ?_
  intro p e s m below meth c ls hx hb S hr hnm hl hG hS
  have hl : lv_has ls 1 [(0, .int x)] := hl
  refine lv_iload_n hx hb dJ12_valueOf_0 rfl (lv_at hl 0 rfl) ?_
  refine lv_bipush (v := -128) hx hb dJ12_valueOf_1 (by decide) ?_
  refine lv_icmp_lt (tgt := 23) hx hb dJ12_valueOf_3 (by decide) (fun h3 => ?_) (fun h3 => ?_)
  · refine g_new (ci := 7) (C := RJ12) (T := TJ12) (N := 1) (fs := [.int 0]) S in_J12 tyJ12 tyJ12_ok (S.ts _ q403) (S.ts _ q404) (S.ts _ q46) rfl (fun j hj => by have : j = 0 := (by omega); subst this; rfl) dJ12_valueOf_23 50 0 (Nat.le_of_ble_eq_true rfl) (Nat.le_of_ble_eq_true rfl) hG hS (fun y H hn hG hS => ?_)
    refine W.cs (cells' := 1) (slots' := 1) rfl rfl ?_
    refine lv_dup hx hb dJ12_valueOf_26 rfl ?_
    refine lv_iload_n hx hb dJ12_valueOf_27 rfl (lv_at hl 0 rfl) ?_
    refine g_call hS (va_runI (As := [.int x]) (rest := [.ref y]) S.1 (metJ12_init l (E := E) (a := y) (x := x) gh_up_s) (cwI 1 S.ts (lw_meth q407) rfl rfl rfl (S.ts _ q46) (S.ts _ q405) (S.ts _ q406) rfl (by decide +kernel) ⟨Nat.le_of_ble_eq_true rfl, Nat.le_of_ble_eq_true rfl⟩) (S.pre hG hS) rfl rfl hl.1 rfl (lv_room (Nat.le_of_ble_eq_true rfl)) dJ12_valueOf_28 ⟨by first | exact Nat.le_of_ble_eq_true rfl | omega, by first | exact Nat.le_of_ble_eq_true rfl | omega⟩) (fun v G1 H locs hp hG hS => ?_)
    refine W.cs (cells' := 1) (slots' := 1) (by first | rfl | omega) (by first | rfl | omega) ?_
    obtain ⟨rfl, rfl⟩ := hp
    refine W.eq (g2 := F0 m 31 ls [.ref y]) rfl ?_
    exact g_aret S hr (Or.inl ⟨_, rfl⟩) dJ12_valueOf_31 (Or.inr ⟨_, rfl⟩) hG hS (by first | exact Nat.le_refl _ | omega) (by first | exact Nat.le_refl _ | omega) ⟨y, rfl, Or.inl ⟨0, gh_up_s⟩, by rw [gh_up_up]; exact gh_fr.new hn⟩
  · refine lv_iload_n hx hb dJ12_valueOf_6 rfl (lv_at hl 0 rfl) ?_
    refine va_gets hx hb S.2.1.2.2.2.2.1.2.2.2.2.2 hS S.1.2.2.2.1 (S.ts _ q399) (fun _ h9 => h9) dJ12_valueOf_7 ?_
    refine lv_icmp_gt (tgt := 23) hx hb dJ12_valueOf_10 (by decide) (fun h10 => ?_) (fun h10 => ?_)
    · refine g_new (ci := 7) (C := RJ12) (T := TJ12) (N := 1) (fs := [.int 0]) S in_J12 tyJ12 tyJ12_ok (S.ts _ q403) (S.ts _ q404) (S.ts _ q46) rfl (fun j hj => by have : j = 0 := (by omega); subst this; rfl) dJ12_valueOf_23 50 0 (Nat.le_of_ble_eq_true rfl) (Nat.le_of_ble_eq_true rfl) hG hS (fun y H hn hG hS => ?_)
      refine W.cs (cells' := 1) (slots' := 1) rfl rfl ?_
      refine lv_dup hx hb dJ12_valueOf_26 rfl ?_
      refine lv_iload_n hx hb dJ12_valueOf_27 rfl (lv_at hl 0 rfl) ?_
      refine g_call hS (va_runI (As := [.int x]) (rest := [.ref y]) S.1 (metJ12_init l (E := E) (a := y) (x := x) gh_up_s) (cwI 1 S.ts (lw_meth q407) rfl rfl rfl (S.ts _ q46) (S.ts _ q405) (S.ts _ q406) rfl (by decide +kernel) ⟨Nat.le_of_ble_eq_true rfl, Nat.le_of_ble_eq_true rfl⟩) (S.pre hG hS) rfl rfl hl.1 rfl (lv_room (Nat.le_of_ble_eq_true rfl)) dJ12_valueOf_28 ⟨by first | exact Nat.le_of_ble_eq_true rfl | omega, by first | exact Nat.le_of_ble_eq_true rfl | omega⟩) (fun v G1 H locs hp hG hS => ?_)
      refine W.cs (cells' := 1) (slots' := 1) (by first | rfl | omega) (by first | rfl | omega) ?_
      obtain ⟨rfl, rfl⟩ := hp
      refine W.eq (g2 := F0 m 31 ls [.ref y]) rfl ?_
      exact g_aret S hr (Or.inl ⟨_, rfl⟩) dJ12_valueOf_31 (Or.inr ⟨_, rfl⟩) hG hS (by first | exact Nat.le_refl _ | omega) (by first | exact Nat.le_refl _ | omega) ⟨y, rfl, Or.inl ⟨0, gh_up_s⟩, by rw [gh_up_up]; exact gh_fr.new hn⟩
    · refine va_gets hx hb S.2.1.2.2.2.2.1.2.2.2.1 hS S.1.2.2.2.1 (S.ts _ q401) (fun _ h9 => h9) dJ12_valueOf_13 ?_
      refine lv_iload_n hx hb dJ12_valueOf_16 rfl (lv_at hl 0 rfl) ?_
      refine lv_sipush (v := 128) hx hb dJ12_valueOf_17 (by decide) ?_
      refine lv_iadd hx hb dJ12_valueOf_20 ?_
      obtain ⟨k, hk, hk1, hk2⟩ := jd_cache h3 h10
      refine vb_tq hx hb S.2.1.2.2.2.2.1.2.2.2.2.1 hS (i := x + 128) (by rw [hk1]; exact vp_in_nI hk (by decide)) (v := .ref (ev_c E k)) (by rw [hk1, nI_clamp (by omega)]) dJ12_valueOf_21 ?_
      exact g_aret S hr (Or.inl ⟨_, rfl⟩) dJ12_valueOf_22 (Or.inr ⟨_, rfl⟩) hG hS (by first | exact Nat.le_refl _ | omega) (by first | exact Nat.le_refl _ | omega) ⟨_, rfl, Or.inr ⟨k, hk, rfl, hk2⟩, gh_fr.rf⟩
set_option maxHeartbeats 4000000 in
set_option maxRecDepth 100000 in
theorem metJ17_checkIndex (l : Launch) {E : Ev} {G : gh} {i n : Nat}  (hi : i < n) (hn : n ≤ 1000) : Met l yJ17_checkIndex (ws_ yJ17_checkIndex cJ17_checkIndex 3 (some .int)) ({ frames := 0, cells := 0, slots := 0, locals := 0 }) (gP E G [.int (nI i), .int (nI n), .null]) (gQ E (fun v G' => v = some (.int (nI i)) ∧ G = G')) 0 0 (ev_A E) := by
  refine gMet RJ17 (by decide) rfl (Nat.le_of_ble_eq_true rfl) ?_
  intro p e s m below meth c ls hx hb S hr hnm hl hG hS
  have hl : lv_has ls 3 [(0, .int (nI i)), (1, .int (nI n)), (2, .null)] := hl
  refine lv_iload_n hx hb dJ17_checkIndex_0 rfl (lv_at hl 0 rfl) ?_
  refine lv_if_lt (tgt := 9) hx hb dJ17_checkIndex_1 (by decide) (fun h => absurd h (nI_pos (by omega))) (fun _ => ?_)
  refine lv_iload_n hx hb dJ17_checkIndex_4 rfl (lv_at hl 0 rfl) ?_
  refine lv_iload_n hx hb dJ17_checkIndex_5 rfl (lv_at hl 1 rfl) ?_
  refine lv_icmp_lt (tgt := 16) hx hb dJ17_checkIndex_6 (by decide) (fun _ => ?_) (fun h => absurd (nI_lt hi (by omega)) h)
  refine lv_iload_n hx hb dJ17_checkIndex_16 rfl (lv_at hl 0 rfl) ?_
  exact g_iret S hr dJ17_checkIndex_17 hG hS (by first | exact Nat.le_refl _ | omega) (by first | exact Nat.le_refl _ | omega) ⟨rfl, rfl⟩
set_option maxHeartbeats 4000000 in
set_option maxRecDepth 100000 in
theorem metJ16_checkIndex (l : Launch) {E : Ev} {G : gh} {i n : Nat}  (hi : i < n) (hn : n ≤ 1000) : Met l yJ16_checkIndex (ws_ yJ16_checkIndex cJ16_checkIndex 2 (some .int)) ({ frames := 1, cells := 0, slots := 0, locals := 40 }) (gP E G [.int (nI i), .int (nI n)]) (gQ E (fun v G' => v = some (.int (nI i)) ∧ G = G')) 0 0 (ev_A E) := by
  refine gMet RJ16 (by decide) rfl (Nat.le_of_ble_eq_true rfl) ?_
  intro p e s m below meth c ls hx hb S hr hnm hl hG hS
  have hl : lv_has ls 2 [(0, .int (nI i)), (1, .int (nI n))] := hl
  refine lv_iload_n hx hb dJ16_checkIndex_0 rfl (lv_at hl 0 rfl) ?_
  refine lv_iload_n hx hb dJ16_checkIndex_1 rfl (lv_at hl 1 rfl) ?_
  refine lv_null hx hb dJ16_checkIndex_2 ?_
  refine g_call hS (va_runS (As := [.int (nI i), .int (nI n), .null]) (rest := []) S.1 (metJ17_checkIndex l (E := E) (G := G) hi hn) (va_cwS 3 S.ts (lw_S q490 q491 q52 q492) rfl rfl rfl (by decide +kernel) ⟨Nat.le_of_ble_eq_true rfl, Nat.le_of_ble_eq_true rfl⟩) (S.pre hG hS) rfl rfl hl.1 rfl (lv_room (Nat.le_of_ble_eq_true rfl)) dJ16_checkIndex_3 ⟨Nat.le_of_ble_eq_true rfl, Nat.le_of_ble_eq_true rfl⟩) (fun v G1 H locs hp hG hS => ?_)
  refine W.cs (cells' := 0) (slots' := 0) (by first | rfl | omega) (by first | rfl | omega) ?_
  obtain ⟨rfl, rfl⟩ := hp
  refine W.eq (g2 := F0 m 6 ls [.int (nI i)]) rfl ?_
  exact g_iret S hr dJ16_checkIndex_6 hG hS (by first | exact Nat.le_refl _ | omega) (by first | exact Nat.le_refl _ | omega) ⟨rfl, rfl⟩
set_option maxHeartbeats 4000000 in
set_option maxRecDepth 100000 in
theorem metJ2_size (l : Launch) {E : Ev} {G : gh} {a r k n : Nat} {f : Nat → Nat} {mc : Int32}  (hL : gLs E G a r k n f mc) : Met l yJ2_size (ws_ yJ2_size cJ2_size 1 (some .int)) ({ frames := 0, cells := 0, slots := 0, locals := 0 }) (gP E G [.ref a]) (gQ E (fun v G' => v = some (.int (nI n)) ∧ G = G')) 0 0 (ev_A E) := by
  have hL0 := hL
  obtain ⟨ar, hM, hA⟩ := hL
  have hz := hA.le_c
  refine gMet RJ2 (by decide) rfl (Nat.le_of_ble_eq_true rfl) ?_
  intro p e s m below meth c ls hx hb S hr hnm hl hG hS
  have hl : lv_has ls 1 [(0, .ref a)] := hl
  refine lv_aload_n hx hb dJ2_size_0 rfl (lv_at hl 0 rfl) ?_
  refine gf_J2_48 S dJ2_size_1 hG hM rfl ?_
  exact g_iret S hr dJ2_size_4 hG hS (by first | exact Nat.le_refl _ | omega) (by first | exact Nat.le_refl _ | omega) ⟨rfl, rfl⟩
set_option maxHeartbeats 4000000 in
set_option maxRecDepth 100000 in
theorem metJ2_isEmpty (l : Launch) {E : Ev} {G : gh} {a r k n : Nat} {f : Nat → Nat} {mc : Int32}  (hL : gLs E G a r k n f mc) : Met l yJ2_isEmpty (ws_ yJ2_isEmpty cJ2_isEmpty 1 (some .boolean)) ({ frames := 0, cells := 0, slots := 0, locals := 0 }) (gP E G [.ref a]) (gQ E (fun v G' => v = some (.int (if n = 0 then 1 else 0)) ∧ G = G')) 0 0 (ev_A E) := by
  have hL0 := hL
  obtain ⟨ar, hM, hA⟩ := hL
  have hz := hA.le_c
  refine gMet RJ2 (by decide) rfl (Nat.le_of_ble_eq_true rfl) ?_
  intro p e s m below meth c ls hx hb S hr hnm hl hG hS
  have hl : lv_has ls 1 [(0, .ref a)] := hl
  refine lv_aload_n hx hb dJ2_isEmpty_0 rfl (lv_at hl 0 rfl) ?_
  refine gf_J2_48 S dJ2_isEmpty_1 hG hM rfl ?_
  refine lv_if_ne (tgt := 11) hx hb dJ2_isEmpty_4 (by decide) (fun h4 => ?_) (fun h4 => ?_)
  · refine lv_iconst (v := 0) hx hb dJ2_isEmpty_11 (by decide) ?_
    exact g_zret rfl S hr dJ2_isEmpty_12 hG hS (by first | exact Nat.le_refl _ | omega) (by first | exact Nat.le_refl _ | omega) ⟨by rw [if_neg (fun q => h4 (by rw [q]; rfl))], rfl⟩
  · refine lv_iconst (v := 1) hx hb dJ2_isEmpty_7 (by decide) ?_
    refine lv_goto (tgt := 12) hx hb dJ2_isEmpty_8 (by decide) ?_
    exact g_zret rfl S hr dJ2_isEmpty_12 hG hS (by first | exact Nat.le_refl _ | omega) (by first | exact Nat.le_refl _ | omega) ⟨by rw [if_pos ((nI_eq (by omega) (by decide)).mp (h4.trans nI_0.symm))], rfl⟩
set_option maxHeartbeats 4000000 in
set_option maxRecDepth 100000 in
theorem metJ2_elementData (l : Launch) {E : Ev} {G : gh} {a r k n : Nat} {f : Nat → Nat} {mc : Int32} {i : Nat}  (hL : gLs E G a r k n f mc) (hi : i < n) : Met l yJ2_elementData (ws_ yJ2_elementData cJ2_elementData 2 (some (.object "java/lang/Object"))) ({ frames := 0, cells := 0, slots := 0, locals := 0 }) (gP E G [.ref a, .int (nI i)]) (gQ E (fun v G' => v = some (.ref (f i)) ∧ G = G')) 0 0 (ev_A E) := by
  have hL0 := hL
  obtain ⟨ar, hM, hA⟩ := hL
  have hz := hA.le_c
  refine gMet RJ2 (by decide) rfl (Nat.le_of_ble_eq_true rfl) ?_
  intro p e s m below meth c ls hx hb S hr hnm hl hG hS
  have hl : lv_has ls 2 [(0, .ref a), (1, .int (nI i))] := hl
  rcases hA with ⟨h0, -⟩ | ⟨cap, g, hA, h1, h2, h3, h4⟩
  · omega
  refine lv_aload_n hx hb dJ2_elementData_0 rfl (lv_at hl 0 rfl) ?_
  refine gf_J2_9 S dJ2_elementData_1 hG hM rfl ?_
  refine lv_iload_n hx hb dJ2_elementData_4 rfl (lv_at hl 1 rfl) ?_
  refine n_aald 5 rfl S dJ2_elementData_5 hG hA (gix.mk (show i < cap by omega) (by omega)) ?_
  refine W.eq (g2 := F0 m 6 ls [.ref (f i)]) (by rw [h4 i hi]; rfl) ?_
  exact g_aret S hr (Or.inl ⟨_, rfl⟩) dJ2_elementData_6 (Or.inr ⟨_, rfl⟩) hG hS (by first | exact Nat.le_refl _ | omega) (by first | exact Nat.le_refl _ | omega) ⟨rfl, rfl⟩
set_option maxHeartbeats 4000000 in
set_option maxRecDepth 100000 in
theorem metJ2_get (l : Launch) {E : Ev} {G : gh} {a r k n : Nat} {f : Nat → Nat} {mc : Int32} {i : Nat}  (hL : gLs E G a r k n f mc) (hi : i < n) : Met l yJ2_get (ws_ yJ2_get cJ2_get 2 (some (.object "java/lang/Object"))) ({ frames := 2, cells := 0, slots := 0, locals := 80 }) (gP E G [.ref a, .int (nI i)]) (gQ E (fun v G' => v = some (.ref (f i)) ∧ G = G')) 0 0 (ev_A E) := by
  have hL0 := hL
  obtain ⟨ar, hM, hA⟩ := hL
  have hz := hA.le_c
  refine gMet RJ2 (by decide) rfl (Nat.le_of_ble_eq_true rfl) ?_
  intro p e s m below meth c ls hx hb S hr hnm hl hG hS
  have hl : lv_has ls 2 [(0, .ref a), (1, .int (nI i))] := hl
  refine lv_iload_n hx hb dJ2_get_0 rfl (lv_at hl 1 rfl) ?_
  refine lv_aload_n hx hb dJ2_get_1 rfl (lv_at hl 0 rfl) ?_
  refine gf_J2_48 S dJ2_get_2 hG hM rfl ?_
  refine g_call hS (va_runS (As := [.int (nI i), .int (nI n)]) (rest := []) S.1 (metJ16_checkIndex l (E := E) (G := G) hi (by omega)) (va_cwS 2 S.ts (lw_S q487 q488 q51 q489) rfl rfl rfl (by decide +kernel) ⟨Nat.le_of_ble_eq_true rfl, Nat.le_of_ble_eq_true rfl⟩) (S.pre hG hS) rfl rfl hl.1 rfl (lv_room (Nat.le_of_ble_eq_true rfl)) dJ2_get_5 ⟨Nat.le_of_ble_eq_true rfl, Nat.le_of_ble_eq_true rfl⟩) (fun v G1 H locs hp hG hS => ?_)
  refine W.cs (cells' := 0) (slots' := 0) (by first | rfl | omega) (by first | rfl | omega) ?_
  obtain ⟨rfl, rfl⟩ := hp
  refine W.eq (g2 := F0 m 8 ls [.int (nI i)]) rfl ?_
  refine lv_pop hx hb dJ2_get_8 rfl ?_
  refine lv_aload_n hx hb dJ2_get_9 rfl (lv_at hl 0 rfl) ?_
  refine lv_iload_n hx hb dJ2_get_10 rfl (lv_at hl 1 rfl) ?_
  refine g_call hS (va_runV (As := [.int (nI i)]) (rest := []) S.1 (metJ2_elementData l (E := E) (G := G) hL0 hi) (cwV 1 S.ts (lw_V q493 q494 q495 q33 q496) rfl rfl rfl (by decide +kernel) ⟨Nat.le_of_ble_eq_true rfl, Nat.le_of_ble_eq_true rfl⟩) (S.preV hG hS hM rfl) rfl rfl hl.1 rfl (lv_room (Nat.le_of_ble_eq_true rfl)) dJ2_get_11 ⟨Nat.le_of_ble_eq_true rfl, Nat.le_of_ble_eq_true rfl⟩) (fun v G1 H locs hp hG hS => ?_)
  refine W.cs (cells' := 0) (slots' := 0) (by first | rfl | omega) (by first | rfl | omega) ?_
  obtain ⟨rfl, rfl⟩ := hp
  refine W.eq (g2 := F0 m 14 ls [.ref (f i)]) rfl ?_
  exact g_aret S hr (Or.inl ⟨_, rfl⟩) dJ2_get_14 (Or.inr ⟨_, rfl⟩) hG hS (by first | exact Nat.le_refl _ | omega) (by first | exact Nat.le_refl _ | omega) ⟨rfl, rfl⟩
set_option maxHeartbeats 4000000 in
set_option maxRecDepth 100000 in
theorem metJ2_set (l : Launch) {E : Ev} {G : gh} {a r k n : Nat} {f : Nat → Nat} {mc : Int32} {i y : Nat}  (hL : gLs E G a r k n f mc) (hi : i < n) (hy : gObj E G y) : Met l yJ2_set (ws_ yJ2_set cJ2_set 4 (some (.object "java/lang/Object"))) ({ frames := 2, cells := 0, slots := 0, locals := 80 }) (gP E G [.ref a, .int (nI i), .ref y]) (gQ E (fun v G' => v = some (.ref (f i)) ∧ gLs E G' a r k n (va_up f i y) mc ∧ gh_fr (gTl r k) G G')) 0 0 (ev_A E) := by
  have hL0 := hL
  obtain ⟨ar, hM, hA⟩ := hL
  have hz := hA.le_c
  refine gMet RJ2 (by decide) rfl (Nat.le_of_ble_eq_true rfl) ?_
  intro p e s m below meth c ls hx hb S hr hnm hl hG hS
  have hl : lv_has ls 4 [(0, .ref a), (1, .int (nI i)), (2, .ref y)] := hl
  refine lv_iload_n hx hb dJ2_set_0 rfl (lv_at hl 1 rfl) ?_
  refine lv_aload_n hx hb dJ2_set_1 rfl (lv_at hl 0 rfl) ?_
  refine gf_J2_48 S dJ2_set_2 hG hM rfl ?_
  refine g_call hS (va_runS (As := [.int (nI i), .int (nI n)]) (rest := []) S.1 (metJ16_checkIndex l (E := E) (G := G) hi (by omega)) (va_cwS 2 S.ts (lw_S q487 q488 q51 q489) rfl rfl rfl (by decide +kernel) ⟨Nat.le_of_ble_eq_true rfl, Nat.le_of_ble_eq_true rfl⟩) (S.pre hG hS) rfl rfl hl.1 rfl (lv_room (Nat.le_of_ble_eq_true rfl)) dJ2_set_5 ⟨Nat.le_of_ble_eq_true rfl, Nat.le_of_ble_eq_true rfl⟩) (fun v G1 H locs hp hG hS => ?_)
  refine W.cs (cells' := 0) (slots' := 0) (by first | rfl | omega) (by first | rfl | omega) ?_
  obtain ⟨rfl, rfl⟩ := hp
  refine W.eq (g2 := F0 m 8 ls [.int (nI i)]) rfl ?_
  refine lv_pop hx hb dJ2_set_8 rfl ?_
  refine lv_aload_n hx hb dJ2_set_9 rfl (lv_at hl 0 rfl) ?_
  refine lv_iload_n hx hb dJ2_set_10 rfl (lv_at hl 1 rfl) ?_
  refine g_call hS (va_runV (As := [.int (nI i)]) (rest := []) S.1 (metJ2_elementData l (E := E) (G := G) hL0 hi) (cwV 1 S.ts (lw_V q493 q494 q495 q33 q496) rfl rfl rfl (by decide +kernel) ⟨Nat.le_of_ble_eq_true rfl, Nat.le_of_ble_eq_true rfl⟩) (S.preV hG hS hM rfl) rfl rfl hl.1 rfl (lv_room (Nat.le_of_ble_eq_true rfl)) dJ2_set_11 ⟨Nat.le_of_ble_eq_true rfl, Nat.le_of_ble_eq_true rfl⟩) (fun v G1 H locs hp hG hS => ?_)
  refine W.cs (cells' := 0) (slots' := 0) (by first | rfl | omega) (by first | rfl | omega) ?_
  obtain ⟨rfl, rfl⟩ := hp
  refine W.eq (g2 := F0 m 14 ls [.ref (f i)]) rfl ?_
  rcases hA with ⟨h0, -⟩ | ⟨cap, g, hA, h1, h2, h3, h4⟩
  · omega
  refine lv_astore_n (lv' := [(3, .ref (f i)), (0, .ref a), (1, .int (nI i)), (2, .ref y)]) hx hb dJ2_set_14 rfl hl (by decide) rfl (fun ls hl => ?_)
  refine lv_aload_n hx hb dJ2_set_15 rfl (lv_at hl 1 rfl) ?_
  refine gf_J2_9 S dJ2_set_16 hG hM rfl ?_
  refine lv_iload_n hx hb dJ2_set_19 rfl (lv_at hl 2 rfl) ?_
  refine lv_aload_n hx hb dJ2_set_20 rfl (lv_at hl 3 rfl) ?_
  refine g_aast S 5 rfl dJ2_set_21 hG hS hA (hy.any S hG hS) (vp_in_nI (show i < cap by omega) (by omega)) (fun H locs hG hS => ?_)
  rw [nI_clamp (show i < 2 ^ 31 by omega)] at hG
  refine lv_aload_n hx hb dJ2_set_22 rfl (lv_at hl 0 rfl) ?_
  exact g_aret S hr (Or.inl ⟨_, rfl⟩) dJ2_set_23 (Or.inr ⟨_, rfl⟩) hG hS (by first | exact Nat.le_refl _ | omega) (by first | exact Nat.le_refl _ | omega) ⟨rfl, ⟨ar, by rw [gh_up_n (gh_ne hM hA (fun q => by cases q))]; exact hM, Or.inr ⟨cap, _, gh_up_s, h1, h2, h3, fun j hj => by by_cases e : j = i; (subst e; rw [va_up_s]; exact if_pos rfl); (rw [va_up_n e]; exact (if_neg e).trans (h4 j hj))⟩⟩, gh_fr.set hA ⟨Or.inr rfl, rfl⟩⟩
set_option maxHeartbeats 4000000 in
set_option maxRecDepth 100000 in
theorem metJ0_init (l : Launch) {E : Ev} {G : gh} {a : Nat}  : Met l yJ0_init (ws_ yJ0_init cJ0_init 1 none) ({ frames := 1, cells := 0, slots := 0, locals := 40 }) (gP E G [.ref a]) (gQ E (fun v G' => v = none ∧ G = G')) 0 0 (ev_A E) := by
  refine gMet RJ0 (by decide) rfl (Nat.le_of_ble_eq_true rfl) ?_
  intro p e s m below meth c ls hx hb S hr hnm hl hG hS
  have hl : lv_has ls 1 [(0, .ref a)] := hl
  refine lv_aload_n hx hb dJ0_init_0 rfl (lv_at hl 0 rfl) ?_
  refine W.objInit hx hb S.1.2.2.2.1 (S.ts _ q85) (S.ts _ q72) (S.ts _ q73) rfl (by rw [S.1.2.2.1]; exact hl.1) rfl dJ0_init_1 (Nat.le_of_ble_eq_true rfl) (Nat.le_of_ble_eq_true rfl) ?_
  refine W.eq (g2 := F0 m 4 ls []) rfl ?_
  exact g_vret S hr dJ0_init_4 hG hS (by first | exact Nat.le_refl _ | omega) (by first | exact Nat.le_refl _ | omega) ⟨rfl, rfl⟩
set_option maxHeartbeats 4000000 in
set_option maxRecDepth 100000 in
theorem metJ1_init (l : Launch) {E : Ev} {G : gh} {a t i : Nat} {x0 : Int32} {x1 x2 : Value}  (hM : G a = some (t, i, .inr (5, [.int x0, x1, x2]))) : Met l yJ1_init (ws_ yJ1_init cJ1_init 1 none) ({ frames := 2, cells := 0, slots := 0, locals := 80 }) (gP E G [.ref a]) (gQ E (fun v G' => v = none ∧ G' = gh_up G a (t, i, .inr (5, [.int 0, x1, x2])))) 0 0 (ev_A E) := by
  refine gMet RJ1 (by decide) rfl (Nat.le_of_ble_eq_true rfl) ?_
  intro p e s m below meth c ls hx hb S hr hnm hl hG hS
  have hl : lv_has ls 1 [(0, .ref a)] := hl
  refine lv_aload_n hx hb dJ1_init_0 rfl (lv_at hl 0 rfl) ?_
  refine g_call hS (va_runI (As := []) (rest := []) S.1 (metJ0_init l (E := E) (G := G) (a := a)) (cwI 0 S.ts (lw_meth q84) rfl rfl rfl (S.ts _ q31) (S.ts _ q82) (S.ts _ q83) rfl (by decide +kernel) ⟨Nat.le_of_ble_eq_true rfl, Nat.le_of_ble_eq_true rfl⟩) (S.pre hG hS) rfl rfl hl.1 rfl (lv_room (Nat.le_of_ble_eq_true rfl)) dJ1_init_1 ⟨Nat.le_of_ble_eq_true rfl, Nat.le_of_ble_eq_true rfl⟩) (fun v G1 H locs hp hG hS => ?_)
  refine W.cs (cells' := 0) (slots' := 0) (by first | rfl | omega) (by first | rfl | omega) ?_
  obtain ⟨rfl, rfl⟩ := hp
  refine W.eq (g2 := F0 m 4 ls []) rfl ?_
  refine lv_aload_n hx hb dJ1_init_4 rfl (lv_at hl 0 rfl) ?_
  refine lv_iconst (v := 0) hx hb dJ1_init_5 (by decide) ?_
  refine g_put (ci := 5) (C := RJ2) (T := TJ2) (N := 3) S in_J2 tyJ2 tyJ2_ok nmJ2 rfl 0 (by decide) (S.ts _ q92) (fun _ h9 => h9) rfl (ty := .int) (by decide +kernel) dJ1_init_6 (v := .int 0) rfl rfl hG hS hM (Nat.le_of_ble_eq_true rfl) (fun H locs hG hS => ?_)
  exact g_vret S hr dJ1_init_9 hG hS (by first | exact Nat.le_refl _ | omega) (by first | exact Nat.le_refl _ | omega) ⟨rfl, rfl⟩
set_option maxHeartbeats 4000000 in
set_option maxRecDepth 100000 in
theorem metJ2_init (l : Launch) {E : Ev} {G : gh} {a r k : Nat} {f : Nat → Nat} {x0 : Int32} {x1 : Value}  (hM : G a = some (r, k, .inr (5, [.int x0, x1, .int 0]))) : Met l yJ2_init (ws_ yJ2_init cJ2_init 1 none) ({ frames := 3, cells := 0, slots := 0, locals := 120 }) (gP E G [.ref a]) (gQ E (fun v G' => v = none ∧ gLs E G' a r k 0 f 0 ∧ gh_fr (gTl r k) G G')) 0 0 (ev_A E) := by
  refine gMet RJ2 (by decide) rfl (Nat.le_of_ble_eq_true rfl) ?_
  intro p e s m below meth c ls hx hb S hr hnm hl hG hS
  have hl : lv_has ls 1 [(0, .ref a)] := hl
  refine lv_aload_n hx hb dJ2_init_0 rfl (lv_at hl 0 rfl) ?_
  refine g_call hS (va_runI (As := []) (rest := []) S.1 (metJ1_init l (E := E) hM) (cwI 0 S.ts (lw_meth q81) rfl rfl rfl (S.ts _ q32) (S.ts _ q79) (S.ts _ q80) rfl (by decide +kernel) ⟨Nat.le_of_ble_eq_true rfl, Nat.le_of_ble_eq_true rfl⟩) (S.pre hG hS) rfl rfl hl.1 rfl (lv_room (Nat.le_of_ble_eq_true rfl)) dJ2_init_1 ⟨Nat.le_of_ble_eq_true rfl, Nat.le_of_ble_eq_true rfl⟩) (fun v G1 H locs hp hG hS => ?_)
  refine W.cs (cells' := 0) (slots' := 0) (by first | rfl | omega) (by first | rfl | omega) ?_
  obtain ⟨rfl, rfl⟩ := hp
  refine W.eq (g2 := F0 m 4 ls []) rfl ?_
  refine lv_aload_n hx hb dJ2_init_4 rfl (lv_at hl 0 rfl) ?_
  refine va_gets hx hb S.2.1.2.2.2.2.1.1 hS S.1.2.2.2.1 (S.ts _ q86) (fun _ h9 => h9) dJ2_init_5 ?_
  refine pf_J2_9 S dJ2_init_8 rfl rfl hG hS gh_up_s (Nat.le_of_ble_eq_true rfl) (fun H locs hG hS => ?_)
  rw [gh_up_up] at hG
  exact g_vret S hr dJ2_init_11 hG hS (by first | exact Nat.le_refl _ | omega) (by first | exact Nat.le_refl _ | omega) ⟨rfl, ⟨_, gh_up_s, Or.inl ⟨rfl, rfl⟩⟩, gh_fr.set hM ⟨Or.inl rfl, rfl⟩⟩
set_option maxHeartbeats 4000000 in
set_option maxRecDepth 100000 in
theorem metJ5_copyOf_2 (l : Launch) {E : Ev} {G : gh} {ar r k n mm : Nat} {g : Nat → Option Nat}  (hA : G ar = some (r, k, .inl (ev_k E 5, n, .inr (.inr (.inr (.inr g)))))) (hel : ∀ i y, i < n → g i = some y → gObj E G y) (hn : n ≤ mm) (hm : mm ≤ 200) : Met l yJ5_copyOf_2 (ws_ yJ5_copyOf_2 cJ5_copyOf_2 4 (some (.array (.object "java/lang/Object")))) ({ frames := 1, cells := 1, slots := 200, locals := 160 }) (gP E G [.ref ar, .int (nI mm), .ref (ev_k E 14)]) (gQ E (fun v G' => ∃ q, v = some (.ref q) ∧ G q = none ∧ G' = gh_up G q (r, k, .inl (ev_k E 5, mm, .inr (.inr (.inr (.inr (va_cpy g (fun _ => none) 0 0 n)))))))) 1 200 (ev_A E) := by
  refine gMet RJ5 (by decide) rfl (Nat.le_of_ble_eq_true rfl) ?_
  intro p e s m below meth c ls hx hb S hr hnm hl hG hS
  have hl : lv_has ls 4 [(0, .ref ar), (1, .int (nI mm)), (2, .ref (ev_k E 14))] := hl
  refine lv_aload_n hx hb dJ5_copyOf_2_0 rfl (lv_at hl 2 rfl) ?_
  refine va_ldcM hx hb S.1.2.2.2.1 (S.ts _ q180) S.2.1.2.2.2.2.2.1.2.2.2.2 dJ5_copyOf_2_1 ?_
  refine lv_acmp_ne (rx := some (ev_k E 14)) (ry := some (ev_k E 14)) (tgt := 13) hx hb dJ5_copyOf_2_3 (by decide) (fun h => absurd rfl h) (fun _ => ?_)
  refine lv_iload_n hx hb dJ5_copyOf_2_6 rfl (lv_at hl 1 rfl) ?_
  refine g_newq S (S.ts _ q182) S.2.1.1.2.2.1.1 5 rfl dJ5_copyOf_2_7 r k (N' := mm) (nI_pos (by omega)) (nI_clamp (by omega)) (by omega) (Nat.le_of_ble_eq_true rfl) (show 0 + mm ≤ 200 by omega) hG hS (fun q H hq hG hS => ?_)
  refine W.cs (cells' := 1) (slots' := mm) rfl (by omega) ?_
  have hA1 := gh_fr.at (gh_fr.new (c := (r, k, .inl (ev_k E 5, mm, .inr (.inr (.inr (.inr (fun _ => none))))))) hq) hA
  refine lv_goto (tgt := 24) hx hb dJ5_copyOf_2_10 (by decide) ?_
  refine lv_astore_n (lv' := [(3, .ref q), (0, .ref ar), (1, .int (nI mm)), (2, .ref (ev_k E 14))]) hx hb dJ5_copyOf_2_24 rfl hl (by decide) rfl (fun ls hl => ?_)
  refine lv_aload_n hx hb dJ5_copyOf_2_25 rfl (lv_at hl 1 rfl) ?_
  refine lv_iconst (v := 0) hx hb dJ5_copyOf_2_26 (by decide) ?_
  refine lv_aload_n hx hb dJ5_copyOf_2_27 rfl (lv_at hl 0 rfl) ?_
  refine lv_iconst (v := 0) hx hb dJ5_copyOf_2_28 (by decide) ?_
  refine lv_aload_n hx hb dJ5_copyOf_2_29 rfl (lv_at hl 1 rfl) ?_
  refine g_alen S 5 rfl dJ5_copyOf_2_30 hG hA1 ?_
  refine lv_iload_n hx hb dJ5_copyOf_2_31 rfl (lv_at hl 2 rfl) ?_
  refine va_mmin hx hb (S.1.2.2.1.trans hl.1.symm) S.1.2.2.2.1 (S.ts _ q183) (S.ts _ q184) (S.ts _ q36) (S.ts _ q185) (Nat.le_of_ble_eq_true rfl) (Nat.le_of_ble_eq_true rfl) (by first | omega | exact Nat.le_of_ble_eq_true rfl) (by first | omega | exact (show _ ≤ 200 by omega)) dJ5_copyOf_2_32 ?_
  refine W.eq (g2 := F0 m 35 ls [.int (nI n), .int 0, .ref q, .int 0, .ref ar]) (by rw [if_neg (nI_nlt hn (by omega))]) ?_
  refine g_copyM 5 rfl S (S.1.2.2.1.trans hl.1.symm) (S.ts _ q186) (S.ts _ q188) (S.ts _ q187) (S.ts _ q38) dJ5_copyOf_2_35 hG hS hA1 gh_up_s (N := n) rfl (Nat.le_refl _) hn (by omega) (fun i hi y hy => (gObj.le (hel i y hi hy) (gh_fr.new hq)).any S hG hS) (Nat.le_of_ble_eq_true rfl) (Nat.le_of_ble_eq_true rfl) (fun H locs hG hS => ?_)
  rw [gh_up_up] at hG
  refine lv_aload_n hx hb dJ5_copyOf_2_38 rfl (lv_at hl 0 rfl) ?_
  exact g_aret S hr (Or.inr ⟨_, rfl⟩) dJ5_copyOf_2_39 (Or.inr ⟨_, rfl⟩) hG hS (by first | exact Nat.le_refl _ | omega) (by first | exact Nat.le_refl _ | omega) ⟨q, rfl, hq, rfl⟩
set_option maxHeartbeats 4000000 in
set_option maxRecDepth 100000 in
theorem metJ5_copyOf (l : Launch) {E : Ev} {G : gh} {ar r k n mm : Nat} {g : Nat → Option Nat}  (hA : G ar = some (r, k, .inl (ev_k E 5, n, .inr (.inr (.inr (.inr g)))))) (hel : ∀ i y, i < n → g i = some y → gObj E G y) (hn : n ≤ mm) (hm : mm ≤ 200) : Met l yJ5_copyOf (ws_ yJ5_copyOf cJ5_copyOf 2 (some (.array (.object "java/lang/Object")))) ({ frames := 2, cells := 1, slots := 200, locals := 320 }) (gP E G [.ref ar, .int (nI mm)]) (gQ E (fun v G' => ∃ q, v = some (.ref q) ∧ G q = none ∧ G' = gh_up G q (r, k, .inl (ev_k E 5, mm, .inr (.inr (.inr (.inr (va_cpy g (fun _ => none) 0 0 n)))))))) 1 200 (ev_A E) := by
  refine gMet RJ5 (by decide) rfl (Nat.le_of_ble_eq_true rfl) ?_
  intro p e s m below meth c ls hx hb S hr hnm hl hG hS
  have hl : lv_has ls 2 [(0, .ref ar), (1, .int (nI mm))] := hl
  refine lv_aload_n hx hb dJ5_copyOf_0 rfl (lv_at hl 0 rfl) ?_
  refine lv_iload_n hx hb dJ5_copyOf_1 rfl (lv_at hl 1 rfl) ?_
  refine lv_aload_n hx hb dJ5_copyOf_2 rfl (lv_at hl 0 rfl) ?_
  obtain ⟨_, _, -, -, -, hKA⟩ := (S.K.2 5 _ rfl).2
  refine va_getC hx hb (S.1.2.2.1.trans hl.1.symm) S.1.2.2.2.1 (S.ts _ q155) (va_Nw.use rfl (S.2.1.W q1230 rfl)) (S.ts _ q1229) (S.ts _ q156) (S.ts _ q176) S.2.1.2.2.2.2.2.1.2.2.2.2 ⟨_, hG.arr hA, rfl, hKA⟩ (Nat.le_of_ble_eq_true rfl) (Nat.le_of_ble_eq_true rfl) dJ5_copyOf_3 ?_
  refine g_call hS (va_runS (As := [.ref ar, .int (nI mm), .ref (ev_k E 14)]) (rest := []) S.1 (metJ5_copyOf_2 l (E := E) (G := G) hA hel hn hm) (va_cwS 3 S.ts (lw_S q177 q178 q37 q179) rfl rfl rfl (by decide +kernel) ⟨Nat.le_of_ble_eq_true rfl, Nat.le_of_ble_eq_true rfl⟩) (S.pre hG hS) rfl rfl hl.1 rfl (lv_room (Nat.le_of_ble_eq_true rfl)) dJ5_copyOf_6 ⟨Nat.le_of_ble_eq_true rfl, Nat.le_of_ble_eq_true rfl⟩) (fun v G1 H locs hp hG hS => ?_)
  refine W.cs (cells' := 1) (slots' := 200) (by first | rfl | omega) (by first | rfl | omega) ?_
  obtain ⟨q, rfl, hq, rfl⟩ := hp
  refine W.eq (g2 := F0 m 9 ls [.ref q]) rfl ?_
  exact g_aret S hr (Or.inr ⟨_, rfl⟩) dJ5_copyOf_9 (Or.inr ⟨_, rfl⟩) hG hS (by first | exact Nat.le_refl _ | omega) (by first | exact Nat.le_refl _ | omega) ⟨q, rfl, hq, rfl⟩
theorem jd_grow {n : Nat} (hn : n ≤ 120) : nI n + (if nI 1 < nI (n / 2) then nI (n / 2) else nI 1) = nI (n + max 1 (n / 2)) := by
  have h : ∀ k : Fin 121, nI k.1 + (if nI 1 < nI (k.1 / 2) then nI (k.1 / 2) else nI 1) = nI (k.1 + max 1 (k.1 / 2)) := by decide +kernel
  exact h ⟨n, by omega⟩
theorem jd_half {n : Nat} (hn : n ≤ 120) : nI n >>> (1 &&& 31) = nI (n / 2) := by
  have h : ∀ k : Fin 121, nI k.1 >>> (1 &&& 31) = nI (k.1 / 2) := by decide +kernel
  exact h ⟨n, by omega⟩
theorem jd_one {n : Nat} (hn : n ≤ 120) : nI (n + 1) - nI n = nI 1 := by
  have h : ∀ k : Fin 121, nI (k.1 + 1) - nI k.1 = nI 1 := by decide +kernel
  exact h ⟨n, by omega⟩
set_option maxHeartbeats 4000000 in
set_option maxRecDepth 100000 in
theorem metJ3_newLength (l : Launch) {E : Ev} {G : gh} {n : Nat}  (hn : n ≤ 120) : Met l yJ3_newLength (ws_ yJ3_newLength cJ3_newLength 4 (some .int)) ({ frames := 1, cells := 0, slots := 0, locals := 60 }) (gP E G [.int (nI n), .int (nI 1), .int (nI (n / 2))]) (gQ E (fun v G' => v = some (.int (nI (n + max 1 (n / 2)))) ∧ G = G')) 0 0 (ev_A E) := by
  refine gMet RJ3 (by decide) rfl (Nat.le_of_ble_eq_true rfl) ?_
  intro p e s m below meth c ls hx hb S hr hnm hl hG hS
  have hl : lv_has ls 4 [(0, .int (nI n)), (1, .int (nI 1)), (2, .int (nI (n / 2)))] := hl
  refine lv_iload_n hx hb dJ3_newLength_0 rfl (lv_at hl 0 rfl) ?_
  refine lv_iload_n hx hb dJ3_newLength_1 rfl (lv_at hl 1 rfl) ?_
  refine lv_iload_n hx hb dJ3_newLength_2 rfl (lv_at hl 2 rfl) ?_
  refine va_mmax hx hb (S.1.2.2.1.trans hl.1.symm) S.1.2.2.2.1 (S.ts _ q145) (S.ts _ q146) (S.ts _ q36) (S.ts _ q147) (Nat.le_of_ble_eq_true rfl) (Nat.le_of_ble_eq_true rfl) (Nat.le_of_ble_eq_true rfl) (Nat.le_of_ble_eq_true rfl) dJ3_newLength_3 ?_
  have hL : n + max 1 (n / 2) ≤ 200 ∧ 0 < n + max 1 (n / 2) := by omega
  refine lv_iadd hx hb dJ3_newLength_6 ?_
  refine W.eq (g2 := F0 m 7 ls [.int (nI (n + max 1 (n / 2)))]) (by rw [jd_grow hn]) ?_
  refine lv_istore_n (lv' := [(3, .int (nI (n + max 1 (n / 2)))), (0, .int (nI n)), (1, .int (nI 1)), (2, .int (nI (n / 2)))]) hx hb dJ3_newLength_7 rfl hl (by decide) rfl (fun ls hl => ?_)
  refine lv_iconst (v := 0) hx hb dJ3_newLength_8 (by decide) ?_
  refine lv_iload_n hx hb dJ3_newLength_9 rfl (lv_at hl 0 rfl) ?_
  refine lv_icmp_ge (tgt := 21) hx hb dJ3_newLength_10 (by decide) (fun h => absurd h (nI_nle hL.2 (by omega))) (fun _ => ?_)
  refine lv_iload_n hx hb dJ3_newLength_13 rfl (lv_at hl 0 rfl) ?_
  refine lv_ldc (v := 2147483639) hx hb S.1.2.2.2.1 (S.ts _ q148) dJ3_newLength_14 ?_
  refine lv_icmp_gt (tgt := 21) hx hb dJ3_newLength_16 (by decide) (fun h => absurd h (by rw [show (2147483639 : Int32) = nI 2147483639 from by decide]; exact nI_nlt (by omega) (by decide))) (fun _ => ?_)
  refine lv_iload_n hx hb dJ3_newLength_19 rfl (lv_at hl 0 rfl) ?_
  exact g_iret S hr dJ3_newLength_20 hG hS (by first | exact Nat.le_refl _ | omega) (by first | exact Nat.le_refl _ | omega) ⟨rfl, rfl⟩
set_option maxHeartbeats 4000000 in
set_option maxRecDepth 100000 in
theorem metJ2_grow_2 (l : Launch) {E : Ev} {G : gh} {a ar r k n : Nat} {f : Nat → Nat} {mc : Int32}  (hM : G a = some (r, k, .inr (5, [.int mc, .ref ar, .int (nI n)]))) (hn : n < 120) (hc : (n = 0 ∧ ar = ev_k E 10) ∨ ∃ g, 1 ≤ n ∧ G ar = some (r + 1, k, .inl (ev_k E 5, n, .inr (.inr (.inr (.inr g))))) ∧ (∀ i, i < n → g i = some (f i)) ∧ ∀ i, i < n → gObj E G (f i)) : Met l yJ2_grow_2 (ws_ yJ2_grow_2 cJ2_grow_2 4 (some (.array (.object "java/lang/Object")))) ({ frames := 3, cells := 1, slots := 200, locals := 520 }) (gP E G [.ref a, .int (nI (n + 1))]) (gQ E (fun v G' => ∃ q cap g, v = some (.ref q) ∧ G q = none ∧ G' = gh_up (gh_up G q (r + 1, k, .inl (ev_k E 5, cap, .inr (.inr (.inr (.inr g)))))) a (r, k, .inr (5, [.int mc, .ref q, .int (nI n)])) ∧ n < cap ∧ cap ≤ 200 ∧ ∀ i, i < n → g i = some (f i))) 1 200 (ev_A E) := by
  refine gMet RJ2 (by decide) rfl (Nat.le_of_ble_eq_true rfl) ?_
  intro p e s m below meth c ls hx hb S hr hnm hl hG hS
  have hl : lv_has ls 4 [(0, .ref a), (1, .int (nI (n + 1)))] := hl
  rcases hc with ⟨h0, rfl⟩ | ⟨g, h1, hA, hf, hel⟩
  · refine lv_aload_n hx hb dJ2_grow_2_0 rfl (lv_at hl 0 rfl) ?_
    refine gf_J2_9 S dJ2_grow_2_1 hG hM rfl ?_
    refine va_tlen hx hb S.2.1.2.2.2.2.1.2.1 hS (v := 0) rfl dJ2_grow_2_4 ?_
    refine lv_istore_n (lv' := [(2, .int 0), (0, .ref a), (1, .int (nI (n + 1)))]) hx hb dJ2_grow_2_5 rfl hl (by decide) rfl (fun ls hl => ?_)
    refine lv_iload_n hx hb dJ2_grow_2_6 rfl (lv_at hl 0 rfl) ?_
    refine lv_if_gt (tgt := 20) hx hb dJ2_grow_2_7 (by decide) (fun h => absurd h (by decide)) (fun _ => ?_)
    refine lv_aload_n hx hb dJ2_grow_2_10 rfl (lv_at hl 1 rfl) ?_
    refine gf_J2_9 S dJ2_grow_2_11 hG hM rfl ?_
    refine va_gets hx hb S.2.1.2.2.2.2.1.1 hS S.1.2.2.2.1 (S.ts _ q86) (fun _ h9 => h9) dJ2_grow_2_14 ?_
    refine lv_acmp_eq (rx := some (ev_k E 10)) (ry := some (ev_k E 10)) (tgt := 45) hx hb dJ2_grow_2_17 (by decide) (fun _ => ?_) (fun h => absurd rfl h)
    refine lv_aload_n hx hb dJ2_grow_2_45 rfl (lv_at hl 1 rfl) ?_
    refine lv_bipush (v := 10) hx hb dJ2_grow_2_46 (by decide) ?_
    refine lv_iload_n hx hb dJ2_grow_2_48 rfl (lv_at hl 2 rfl) ?_
    refine va_mmax hx hb (S.1.2.2.1.trans hl.1.symm) S.1.2.2.2.1 (S.ts _ q189) (S.ts _ q146) (S.ts _ q36) (S.ts _ q147) (Nat.le_of_ble_eq_true rfl) (Nat.le_of_ble_eq_true rfl) (Nat.le_of_ble_eq_true rfl) (Nat.le_of_ble_eq_true rfl) dJ2_grow_2_49 ?_
    refine W.eq (g2 := F0 m 52 ls [.int (nI 10), .ref a]) (by rw [h0]; rfl) ?_
    refine g_newq S (S.ts _ q190) S.2.1.1.2.2.1.1 5 rfl dJ2_grow_2_52 (r + 1) k (N' := 10) (nI_pos (by decide)) (nI_clamp (by decide)) (by decide) (Nat.le_of_ble_eq_true rfl) (Nat.le_of_ble_eq_true rfl) hG hS (fun q H hq hG hS => ?_)
    refine W.cs (cells' := 1) (slots' := 10) rfl rfl ?_
    refine lv_dup_x1 hx hb dJ2_grow_2_55 rfl rfl ?_
    refine pf_J2_9 S dJ2_grow_2_56 rfl rfl hG hS (gh_fr.at (gh_fr.new hq) hM) (Nat.le_of_ble_eq_true rfl) (fun H locs hG hS => ?_)
    exact g_aret S hr (Or.inr ⟨_, rfl⟩) dJ2_grow_2_59 (Or.inr ⟨_, rfl⟩) hG hS (by first | exact Nat.le_refl _ | omega) (by first | exact Nat.le_refl _ | omega) ⟨q, 10, _, rfl, hq, rfl, by omega, by decide, fun i hi => by omega⟩
  · refine lv_aload_n hx hb dJ2_grow_2_0 rfl (lv_at hl 0 rfl) ?_
    refine gf_J2_9 S dJ2_grow_2_1 hG hM rfl ?_
    refine g_alen S 5 rfl dJ2_grow_2_4 hG hA ?_
    refine lv_istore_n (lv' := [(2, .int (nI n)), (0, .ref a), (1, .int (nI (n + 1)))]) hx hb dJ2_grow_2_5 rfl hl (by decide) rfl (fun ls hl => ?_)
    refine lv_iload_n hx hb dJ2_grow_2_6 rfl (lv_at hl 0 rfl) ?_
    refine lv_if_gt (tgt := 20) hx hb dJ2_grow_2_7 (by decide) (fun _ => ?_) (fun h => absurd (Int32.lt_iff_toInt_lt.mpr (by rw [nI_toInt (by omega)]; show (0 : Int) < _; omega)) h)
    refine lv_iload_n hx hb dJ2_grow_2_20 rfl (lv_at hl 0 rfl) ?_
    refine lv_iload_n hx hb dJ2_grow_2_21 rfl (lv_at hl 2 rfl) ?_
    refine lv_iload_n hx hb dJ2_grow_2_22 rfl (lv_at hl 0 rfl) ?_
    refine lv_isub hx hb dJ2_grow_2_23 ?_
    refine lv_iload_n hx hb dJ2_grow_2_24 rfl (lv_at hl 0 rfl) ?_
    refine lv_iconst (v := 1) hx hb dJ2_grow_2_25 (by decide) ?_
    refine lv_ishr hx hb dJ2_grow_2_26 ?_
    refine W.eq (g2 := F0 m 27 ls [.int (nI (n / 2)), .int (nI 1), .int (nI n)]) (by rw [jd_half (by omega), jd_one (by omega)]) ?_
    refine g_call hS (va_runS (As := [.int (nI n), .int (nI 1), .int (nI (n / 2))]) (rest := []) S.1 (metJ3_newLength l (E := E) (G := G) (n := n) (by omega)) (va_cwS 3 S.ts (lw_S q142 q143 q35 q144) rfl rfl rfl (by decide +kernel) ⟨Nat.le_of_ble_eq_true rfl, Nat.le_of_ble_eq_true rfl⟩) (S.pre hG hS) rfl rfl hl.1 rfl (lv_room (Nat.le_of_ble_eq_true rfl)) dJ2_grow_2_27 ⟨Nat.le_of_ble_eq_true rfl, Nat.le_of_ble_eq_true rfl⟩) (fun v G1 H locs hp hG hS => ?_)
    refine W.cs (cells' := 0) (slots' := 0) (by first | rfl | omega) (by first | rfl | omega) ?_
    obtain ⟨rfl, rfl⟩ := hp
    refine W.eq (g2 := F0 m 30 ls [.int (nI (n + max 1 (n / 2)))]) rfl ?_
    refine lv_istore_n (lv' := [(3, .int (nI (n + max 1 (n / 2)))), (2, .int (nI n)), (0, .ref a), (1, .int (nI (n + 1)))]) hx hb dJ2_grow_2_30 rfl hl (by decide) rfl (fun ls hl => ?_)
    refine lv_aload_n hx hb dJ2_grow_2_31 rfl (lv_at hl 2 rfl) ?_
    refine lv_aload_n hx hb dJ2_grow_2_32 rfl (lv_at hl 2 rfl) ?_
    refine gf_J2_9 S dJ2_grow_2_33 hG hM rfl ?_
    refine lv_iload_n hx hb dJ2_grow_2_36 rfl (lv_at hl 0 rfl) ?_
    refine g_call hS (va_runS (As := [.ref ar, .int (nI (n + max 1 (n / 2)))]) (rest := [.ref a]) S.1 (metJ5_copyOf l (E := E) (G := G) hA (fun i y hi hy => by rw [hf i hi] at hy; cases hy; exact hel i hi) (mm := n + max 1 (n / 2)) (by omega) (by omega)) (va_cwS 2 S.ts (lw_S q152 q153 q37 q154) rfl rfl rfl (by decide +kernel) ⟨Nat.le_of_ble_eq_true rfl, Nat.le_of_ble_eq_true rfl⟩) (S.pre hG hS) rfl rfl hl.1 rfl (lv_room (Nat.le_of_ble_eq_true rfl)) dJ2_grow_2_37 ⟨Nat.le_of_ble_eq_true rfl, Nat.le_of_ble_eq_true rfl⟩) (fun v G1 H locs hp hG hS => ?_)
    refine W.cs (cells' := 1) (slots' := 200) (by first | rfl | omega) (by first | rfl | omega) ?_
    obtain ⟨q, rfl, hq, rfl⟩ := hp
    refine W.eq (g2 := F0 m 40 ls [.ref q, .ref a]) rfl ?_
    refine lv_dup_x1 hx hb dJ2_grow_2_40 rfl rfl ?_
    refine pf_J2_9 S dJ2_grow_2_41 rfl rfl hG hS (gh_fr.at (gh_fr.new hq) hM) (Nat.le_of_ble_eq_true rfl) (fun H locs hG hS => ?_)
    exact g_aret S hr (Or.inr ⟨_, rfl⟩) dJ2_grow_2_44 (Or.inr ⟨_, rfl⟩) hG hS (by first | exact Nat.le_refl _ | omega) (by first | exact Nat.le_refl _ | omega) ⟨q, _, _, rfl, hq, rfl, by omega, by omega, fun i hi => (if_pos ⟨Nat.zero_le _, by omega⟩).trans (by rw [Nat.zero_add, Nat.sub_zero]; exact hf i hi)⟩
set_option maxHeartbeats 4000000 in
set_option maxRecDepth 100000 in
theorem metJ2_grow (l : Launch) {E : Ev} {G : gh} {a ar r k n : Nat} {f : Nat → Nat} {mc : Int32}  (hM : G a = some (r, k, .inr (5, [.int mc, .ref ar, .int (nI n)]))) (hn : n < 120) (hc : (n = 0 ∧ ar = ev_k E 10) ∨ ∃ g, 1 ≤ n ∧ G ar = some (r + 1, k, .inl (ev_k E 5, n, .inr (.inr (.inr (.inr g))))) ∧ (∀ i, i < n → g i = some (f i)) ∧ ∀ i, i < n → gObj E G (f i)) : Met l yJ2_grow (ws_ yJ2_grow cJ2_grow 1 (some (.array (.object "java/lang/Object")))) ({ frames := 4, cells := 1, slots := 200, locals := 580 }) (gP E G [.ref a]) (gQ E (fun v G' => ∃ q cap g, v = some (.ref q) ∧ G q = none ∧ G' = gh_up (gh_up G q (r + 1, k, .inl (ev_k E 5, cap, .inr (.inr (.inr (.inr g)))))) a (r, k, .inr (5, [.int mc, .ref q, .int (nI n)])) ∧ n < cap ∧ cap ≤ 200 ∧ ∀ i, i < n → g i = some (f i))) 1 200 (ev_A E) := by
  refine gMet RJ2 (by decide) rfl (Nat.le_of_ble_eq_true rfl) ?_
  intro p e s m below meth c ls hx hb S hr hnm hl hG hS
  have hl : lv_has ls 1 [(0, .ref a)] := hl
  refine lv_aload_n hx hb dJ2_grow_0 rfl (lv_at hl 0 rfl) ?_
  refine lv_aload_n hx hb dJ2_grow_1 rfl (lv_at hl 0 rfl) ?_
  refine gf_J2_48 S dJ2_grow_2 hG hM rfl ?_
  refine lv_iconst (v := 1) hx hb dJ2_grow_5 (by decide) ?_
  refine lv_iadd hx hb dJ2_grow_6 ?_
  refine W.eq (g2 := F0 m 7 ls [.int (nI (n + 1)), .ref a]) (by rw [nI_succ]) ?_
  refine g_call hS (va_runV (As := [.int (nI (n + 1))]) (rest := []) S.1 (metJ2_grow_2 l (E := E) (G := G) hM hn hc) (cwV 1 S.ts (lw_V q138 q140 qs2 q33 q141) rfl rfl rfl (by decide +kernel) ⟨Nat.le_of_ble_eq_true rfl, Nat.le_of_ble_eq_true rfl⟩) (S.preV hG hS hM rfl) rfl rfl hl.1 rfl (lv_room (Nat.le_of_ble_eq_true rfl)) dJ2_grow_7 ⟨Nat.le_of_ble_eq_true rfl, Nat.le_of_ble_eq_true rfl⟩) (fun v G1 H locs hp hG hS => ?_)
  refine W.cs (cells' := 1) (slots' := 200) (by first | rfl | omega) (by first | rfl | omega) ?_
  obtain ⟨q, cap, g, rfl, hq, rfl, h1, h2, h3⟩ := hp
  refine W.eq (g2 := F0 m 10 ls [.ref q]) rfl ?_
  exact g_aret S hr (Or.inr ⟨_, rfl⟩) dJ2_grow_10 (Or.inr ⟨_, rfl⟩) hG hS (by first | exact Nat.le_refl _ | omega) (by first | exact Nat.le_refl _ | omega) ⟨q, cap, g, rfl, hq, rfl, h1, h2, h3⟩
theorem jd_keep {E : Ev} {G : gh} {a q y r k : Nat} {x x2 : List Value} {c : gC} (h : gObj E G y) (hq : G q = none) (hM : G a = some (r, k, .inr (5, x))) : gObj E (gh_up (gh_up G q c) a (r, k, .inr (5, x2))) y := by
  have h1 := h.le (gh_fr.new (S := fun _ _ => False) (c := c) hq)
  have hM1 := gh_fr.at (gh_fr.new (c := c) hq) hM
  rcases h1 with ⟨t, i, ci, fs, h1, hc⟩ | ⟨v, ⟨i, h1⟩ | h1⟩
  · refine Or.inl ⟨t, i, ci, fs, ?_, hc⟩
    rw [gh_up_n (gh_ne h1 hM1 (fun q => by cases q; omega))]
    exact h1
  · refine Or.inr ⟨v, Or.inl ⟨i, ?_⟩⟩
    rw [gh_up_n (gh_ne h1 hM1 (fun q => by cases q))]
    exact h1
  · exact Or.inr ⟨v, Or.inr h1⟩
set_option maxHeartbeats 4000000 in
set_option maxRecDepth 100000 in
theorem metJ2_add_2 (l : Launch) {E : Ev} {G : gh} {a ar r k n y : Nat} {f : Nat → Nat} {mc : Int32}  (hM : G a = some (r, k, .inr (5, [.int mc, .ref ar, .int (nI n)]))) (hA : gAr E G ar r k n f) (hn : n < 120) (hel : ∀ i, i < n → gObj E G (f i)) (hy : gObj E G y) : Met l yJ2_add_2 (ws_ yJ2_add_2 cJ2_add_2 4 none) ({ frames := 5, cells := 1, slots := 200, locals := 660 }) (gP E G [.ref a, .ref y, .ref ar, .int (nI n)]) (gQ E (fun v G' => v = none ∧ gLs E G' a r k (n + 1) (va_up f n y) mc ∧ gh_fr (gTl r k) G G')) 1 200 (ev_A E) := by
  refine gMet RJ2 (by decide) rfl (Nat.le_of_ble_eq_true rfl) ?_
  intro p e s m below meth c ls hx hb S hr hnm hl hG hS
  have hl : lv_has ls 4 [(0, .ref a), (1, .ref y), (2, .ref ar), (3, .int (nI n))] := hl
  refine g_joinH (E := E) (fun (x : Nat × Nat × (Nat → Option Nat)) (G1 : gh) => gh_fr (gTl r k) G G1 ∧ gObj E G1 y ∧ G1 a = some (r, k, .inr (5, [.int mc, .ref x.1, .int (nI n)])) ∧ G1 x.1 = some (r + 1, k, .inl (ev_k E 5, x.2.1, .inr (.inr (.inr (.inr x.2.2))))) ∧ n < x.2.1 ∧ x.2.1 ≤ 200 ∧ ∀ i, i < n → x.2.2 i = some (f i)) 1 200 4 11 (fun x => [(2, .ref x.1), (0, .ref a), (1, .ref y), (3, .int (nI n))]) (fun _ => []) (fun Jn => ?_) (fun x G1 H locs ls hp hG hS hl => ?_)
  · rcases hA with ⟨h0, rfl⟩ | ⟨cap, g, hA, h1, h2, h3, h4⟩
    · refine lv_iload_n hx hb dJ2_add_2_0 rfl (lv_at hl 3 rfl) ?_
      refine lv_aload_n hx hb dJ2_add_2_1 rfl (lv_at hl 2 rfl) ?_
      refine va_tlen hx hb S.2.1.2.2.2.2.1.2.1 hS (v := 0) rfl dJ2_add_2_2 ?_
      refine lv_icmp_ne (tgt := 11) hx hb dJ2_add_2_3 (by decide) (fun h => absurd (show nI n = 0 by rw [h0]; rfl) h) (fun _ => ?_)
      refine lv_aload_n hx hb dJ2_add_2_6 rfl (lv_at hl 0 rfl) ?_
      refine g_call hS (va_runV (As := []) (rest := []) S.1 (metJ2_grow l (E := E) (G := G) (f := f) hM hn (Or.inl ⟨h0, rfl⟩)) (cwV 0 S.ts (lw_V q134 q136 qs1 q33 q137) rfl rfl rfl (by decide +kernel) ⟨Nat.le_of_ble_eq_true rfl, Nat.le_of_ble_eq_true rfl⟩) (S.preV hG hS hM rfl) rfl rfl hl.1 rfl (lv_room (Nat.le_of_ble_eq_true rfl)) dJ2_add_2_7 ⟨Nat.le_of_ble_eq_true rfl, Nat.le_of_ble_eq_true rfl⟩) (fun v G1 H locs hp hG hS => ?_)
      refine W.cs (cells' := 1) (slots' := 200) (by first | rfl | omega) (by first | rfl | omega) ?_
      obtain ⟨q, cap1, g1, rfl, hq, rfl, k1, k2, k3⟩ := hp
      refine W.eq (g2 := F0 m 10 ls [.ref q]) rfl ?_
      refine lv_astore_n (lv' := [(2, .ref q), (0, .ref a), (1, .ref y), (3, .int (nI n))]) hx hb dJ2_add_2_10 rfl hl (by decide) rfl (fun ls hl => ?_)
      have hqa : a ≠ q := fun e => by rw [e, hq] at hM; cases hM
      exact Jn (q, cap1, g1) _ H locs ls ⟨(gh_fr.new hq).tr (gh_fr.set (gh_fr.at (gh_fr.new hq) hM) ⟨Or.inl rfl, rfl⟩), jd_keep hy hq hM, gh_up_s, by rw [gh_up_n (Ne.symm hqa)]; exact gh_up_s, k1, k2, k3⟩ hG hS hl
    · refine lv_iload_n hx hb dJ2_add_2_0 rfl (lv_at hl 3 rfl) ?_
      refine lv_aload_n hx hb dJ2_add_2_1 rfl (lv_at hl 2 rfl) ?_
      refine g_alen S 5 rfl dJ2_add_2_2 hG hA ?_
      refine lv_icmp_ne (tgt := 11) hx hb dJ2_add_2_3 (by decide) (fun h9 => ?_) (fun h9 => ?_)
      · refine W.widen (k := 1) (n := 200) ?_ ?_ (Jn (ar, cap, g) G _ _ ls ⟨gh_fr.rf, hy, hM, hA, (by have : n ≠ cap := fun q => h9 (by rw [q]); show n < cap; omega), h3, h4⟩ hG hS (lv_sub hl [2, 0, 1, 3] rfl)) <;> decide
      · have hcap : n = cap := (nI_eq (by omega) (by omega)).mp (by simpa using h9)
        subst hcap
        refine lv_aload_n hx hb dJ2_add_2_6 rfl (lv_at hl 0 rfl) ?_
        refine g_call hS (va_runV (As := []) (rest := []) S.1 (metJ2_grow l (E := E) (G := G) (f := f) hM hn (Or.inr ⟨g, h2, hA, h4, hel⟩)) (cwV 0 S.ts (lw_V q134 q136 qs1 q33 q137) rfl rfl rfl (by decide +kernel) ⟨Nat.le_of_ble_eq_true rfl, Nat.le_of_ble_eq_true rfl⟩) (S.preV hG hS hM rfl) rfl rfl hl.1 rfl (lv_room (Nat.le_of_ble_eq_true rfl)) dJ2_add_2_7 ⟨Nat.le_of_ble_eq_true rfl, Nat.le_of_ble_eq_true rfl⟩) (fun v G1 H locs hp hG hS => ?_)
        refine W.cs (cells' := 1) (slots' := 200) (by first | rfl | omega) (by first | rfl | omega) ?_
        obtain ⟨q, cap1, g1, rfl, hq, rfl, k1, k2, k3⟩ := hp
        refine W.eq (g2 := F0 m 10 ls [.ref q]) rfl ?_
        refine lv_astore_n (lv' := [(2, .ref q), (0, .ref a), (1, .ref y), (3, .int (nI n))]) hx hb dJ2_add_2_10 rfl hl (by decide) rfl (fun ls hl => ?_)
        have hqa : a ≠ q := fun e => by rw [e, hq] at hM; cases hM
        exact Jn (q, cap1, g1) _ H locs ls ⟨(gh_fr.new hq).tr (gh_fr.set (gh_fr.at (gh_fr.new hq) hM) ⟨Or.inl rfl, rfl⟩), jd_keep hy hq hM, gh_up_s, by rw [gh_up_n (Ne.symm hqa)]; exact gh_up_s, k1, k2, k3⟩ hG hS hl
  · obtain ⟨ar2, cap, g⟩ := x
    obtain ⟨hF, hy, hM, hA, h1, h2, h4⟩ := hp
    change n < cap at h1
    change cap ≤ 200 at h2
    change G1 ar2 = some (r + 1, k, .inl (ev_k E 5, cap, .inr (.inr (.inr (.inr g))))) at hA
    change G1 a = some (r, k, .inr (5, [.int mc, .ref ar2, .int (nI n)])) at hM
    change ∀ i, i < n → g i = some (f i) at h4
    refine lv_aload_n hx hb dJ2_add_2_11 rfl (lv_at hl 0 rfl) ?_
    refine lv_iload_n hx hb dJ2_add_2_12 rfl (lv_at hl 3 rfl) ?_
    refine lv_aload_n hx hb dJ2_add_2_13 rfl (lv_at hl 2 rfl) ?_
    refine g_aast S 5 rfl dJ2_add_2_14 hG hS hA (hy.any S hG hS) (vp_in_nI h1 (by omega)) (fun H locs hG hS => ?_)
    rw [nI_clamp (show n < 2 ^ 31 by omega)] at hG
    have hne := gh_ne hM hA (fun q => by cases q)
    refine lv_aload_n hx hb dJ2_add_2_15 rfl (lv_at hl 1 rfl) ?_
    refine lv_iload_n hx hb dJ2_add_2_16 rfl (lv_at hl 3 rfl) ?_
    refine lv_iconst (v := 1) hx hb dJ2_add_2_17 (by decide) ?_
    refine lv_iadd hx hb dJ2_add_2_18 ?_
    refine pf_J2_48 S dJ2_add_2_19 rfl rfl hG hS (show gh_up G1 ar2 _ a = _ by rw [gh_up_n hne]; exact hM) (Nat.le_of_ble_eq_true rfl) (fun H locs hG hS => ?_)
    exact g_vret S hr dJ2_add_2_22 hG hS (by first | exact Nat.le_refl _ | omega) (by first | exact Nat.le_refl _ | omega) ⟨rfl, ⟨ar2, by rw [gh_up_s, nI_succ]; rfl, Or.inr ⟨cap, _, by rw [gh_up_n (Ne.symm hne)]; exact gh_up_s, h1, by omega, h2, fun j hj => by by_cases e : j = n; (subst e; rw [va_up_s]; exact if_pos rfl); (rw [va_up_n e]; exact (if_neg e).trans (h4 j (by omega)))⟩⟩, hF.tr ((gh_fr.set hA ⟨Or.inr rfl, rfl⟩).tr (gh_fr.set (show gh_up G1 ar2 _ a = _ by rw [gh_up_n hne]; exact hM) ⟨Or.inl rfl, rfl⟩))⟩
theorem jd_keep1 {E : Ev} {G : gh} {a y r k : Nat} {x x2 : List Value} (h : gObj E G y) (hM : G a = some (r, k, .inr (5, x))) : gObj E (gh_up G a (r, k, .inr (5, x2))) y := by
  rcases h with ⟨t, i, ci, fs, h1, hc⟩ | ⟨v, ⟨i, h1⟩ | h1⟩
  · refine Or.inl ⟨t, i, ci, fs, ?_, hc⟩
    rw [gh_up_n (gh_ne h1 hM (fun q => by cases q; omega))]
    exact h1
  · refine Or.inr ⟨v, Or.inl ⟨i, ?_⟩⟩
    rw [gh_up_n (gh_ne h1 hM (fun q => by cases q))]
    exact h1
  · exact Or.inr ⟨v, Or.inr h1⟩
set_option maxHeartbeats 4000000 in
set_option maxRecDepth 100000 in
theorem metJ2_add (l : Launch) {E : Ev} {G : gh} {a r k n y : Nat} {f : Nat → Nat} {mc : Int32}  (hL : gLs E G a r k n f mc) (hn : n < 120) (hel : ∀ i, i < n → gObj E G (f i)) (hy : gObj E G y) : Met l yJ2_add (ws_ yJ2_add cJ2_add 2 (some .boolean)) ({ frames := 6, cells := 1, slots := 200, locals := 740 }) (gP E G [.ref a, .ref y]) (gQ E (fun v G' => v = some (.int 1) ∧ gLs E G' a r k (n + 1) (va_up f n y) (mc + 1) ∧ gh_fr (gTl r k) G G')) 1 200 (ev_A E) := by
  obtain ⟨ar, hM, hA⟩ := hL
  refine gMet RJ2 (by decide) rfl (Nat.le_of_ble_eq_true rfl) ?_
  intro p e s m below meth c ls hx hb S hr hnm hl hG hS
  have hl : lv_has ls 2 [(0, .ref a), (1, .ref y)] := hl
  refine lv_aload_n hx hb dJ2_add_0 rfl (lv_at hl 0 rfl) ?_
  refine lv_dup hx hb dJ2_add_1 rfl ?_
  refine gf_J2_63 S dJ2_add_2 hG hM rfl ?_
  refine lv_iconst (v := 1) hx hb dJ2_add_5 (by decide) ?_
  refine lv_iadd hx hb dJ2_add_6 ?_
  refine pf_J2_63 S dJ2_add_7 rfl rfl hG hS hM (Nat.le_of_ble_eq_true rfl) (fun H locs hG hS => ?_)
  obtain ⟨G1, hG, hF, hM1, hA1, hy1, hel1⟩ : ∃ G1, gh_W E G1 H ∧ gh_fr (gTl r k) G G1 ∧ G1 a = some (r, k, .inr (5, [.int (mc + 1), .ref ar, .int (nI n)])) ∧ gAr E G1 ar r k n f ∧ gObj E G1 y ∧ ∀ i, i < n → gObj E G1 (f i) := ⟨_, hG, gh_fr.set hM ⟨Or.inl rfl, rfl⟩, gh_up_s, hA.set hM, jd_keep1 hy hM, fun i hi => jd_keep1 (hel i hi) hM⟩
  refine lv_aload_n hx hb dJ2_add_10 rfl (lv_at hl 0 rfl) ?_
  refine lv_aload_n hx hb dJ2_add_11 rfl (lv_at hl 1 rfl) ?_
  refine lv_aload_n hx hb dJ2_add_12 rfl (lv_at hl 0 rfl) ?_
  refine gf_J2_9 S dJ2_add_13 hG hM1 rfl ?_
  refine lv_aload_n hx hb dJ2_add_16 rfl (lv_at hl 0 rfl) ?_
  refine gf_J2_48 S dJ2_add_17 hG hM1 rfl ?_
  refine g_call hS (va_runV (As := [.ref y, .ref ar, .int (nI n)]) (rest := []) S.1 (metJ2_add_2 l (E := E) (G := G1) hM1 hA1 hn hel1 hy1) (cwV 3 S.ts (lw_V q130 q132 qs0 q33 q133) rfl rfl rfl (by decide +kernel) ⟨Nat.le_of_ble_eq_true rfl, Nat.le_of_ble_eq_true rfl⟩) (S.preV hG hS hM1 rfl) rfl rfl hl.1 rfl (lv_room (Nat.le_of_ble_eq_true rfl)) dJ2_add_20 ⟨Nat.le_of_ble_eq_true rfl, Nat.le_of_ble_eq_true rfl⟩) (fun v G1 H locs hp hG hS => ?_)
  refine W.cs (cells' := 1) (slots' := 200) (by first | rfl | omega) (by first | rfl | omega) ?_
  obtain ⟨rfl, hL, hF2⟩ := hp
  refine W.eq (g2 := F0 m 23 ls []) rfl ?_
  refine lv_iconst (v := 1) hx hb dJ2_add_23 (by decide) ?_
  exact g_zret rfl S hr dJ2_add_24 hG hS (by first | exact Nat.le_refl _ | omega) (by first | exact Nat.le_refl _ | omega) ⟨rfl, hL, hF.tr hF2⟩
/-- what an iterator changes -/
def gT62 : Nat → Nat → Prop := fun t _ => t = 62
set_option maxHeartbeats 4000000 in
set_option maxRecDepth 100000 in
theorem metJ18_init (l : Launch) {E : Ev} {G : gh} {q i a r k n ar : Nat} {mc : Int32}  (hM : G a = some (r, k, .inr (5, [.int mc, .ref ar, .int (nI n)]))) (hq : G q = some (62, i, .inr (6, [.int 0, .int 0, .int 0, .null]))) : Met l yJ18_init (ws_ yJ18_init cJ18_init 2 none) ({ frames := 1, cells := 0, slots := 0, locals := 40 }) (gP E G [.ref q, .ref a]) (gQ E (fun v G' => v = none ∧ gIt E G' q 0 a mc ∧ gh_fr gT62 G G')) 0 0 (ev_A E) := by
  refine gMet RJ18 (by decide) rfl (Nat.le_of_ble_eq_true rfl) ?_
  intro p e s m below meth c ls hx hb S hr hnm hl hG hS
  have hl : lv_has ls 2 [(0, .ref q), (1, .ref a)] := hl
  refine lv_aload_n hx hb dJ18_init_0 rfl (lv_at hl 0 rfl) ?_
  refine lv_aload_n hx hb dJ18_init_1 rfl (lv_at hl 1 rfl) ?_
  refine pf_J18_1 S hnm dJ18_init_2 rfl rfl hG hS hq (Nat.le_of_ble_eq_true rfl) (fun H locs hG hS => ?_)
  have hF : gh_fr gT62 G G := gh_fr.rf
  obtain ⟨G1, hG, hF, hq, hM⟩ : ∃ G1, gh_W E G1 H ∧ gh_fr gT62 G G1 ∧ G1 q = some (62, i, .inr (6, [.int 0, .int 0, .int 0, .ref a])) ∧ G1 a = some (r, k, .inr (5, [.int mc, .ref ar, .int (nI n)])) := ⟨_, hG, hF.tr (gh_fr.set hq rfl), gh_up_s, by rw [gh_up_n (gh_ne hM hq (fun q => by cases q))]; exact hM⟩
  refine lv_aload_n hx hb dJ18_init_5 rfl (lv_at hl 0 rfl) ?_
  refine W.objInit hx hb S.1.2.2.2.1 (S.ts _ q233) (S.ts _ q72) (S.ts _ q73) rfl (by rw [S.1.2.2.1]; exact hl.1) rfl dJ18_init_6 (Nat.le_of_ble_eq_true rfl) (Nat.le_of_ble_eq_true rfl) ?_
  refine W.eq (g2 := F0 m 9 ls []) rfl ?_
  refine lv_aload_n hx hb dJ18_init_9 rfl (lv_at hl 0 rfl) ?_
  refine lv_iconst (v := -1) hx hb dJ18_init_10 (by decide) ?_
  refine pf_J18_13 S dJ18_init_11 rfl rfl hG hS hq (Nat.le_of_ble_eq_true rfl) (fun H locs hG hS => ?_)
  obtain ⟨G1, hG, hF, hq, hM⟩ : ∃ G1, gh_W E G1 H ∧ gh_fr gT62 G G1 ∧ G1 q = some (62, i, .inr (6, [.int 0, .int (-1), .int 0, .ref a])) ∧ G1 a = some (r, k, .inr (5, [.int mc, .ref ar, .int (nI n)])) := ⟨_, hG, hF.tr (gh_fr.set hq rfl), gh_up_s, by rw [gh_up_n (gh_ne hM hq (fun q => by cases q))]; exact hM⟩
  refine lv_aload_n hx hb dJ18_init_14 rfl (lv_at hl 0 rfl) ?_
  refine lv_aload_n hx hb dJ18_init_15 rfl (lv_at hl 0 rfl) ?_
  refine gf_J18_1 S dJ18_init_16 hG hq rfl ?_
  refine gf_J18_17 S dJ18_init_19 hG hM rfl ?_
  refine pf_J18_22 S dJ18_init_22 rfl rfl hG hS hq (Nat.le_of_ble_eq_true rfl) (fun H locs hG hS => ?_)
  obtain ⟨G1, hG, hF, hq, hM⟩ : ∃ G1, gh_W E G1 H ∧ gh_fr gT62 G G1 ∧ G1 q = some (62, i, .inr (6, [.int 0, .int (-1), .int mc, .ref a])) ∧ G1 a = some (r, k, .inr (5, [.int mc, .ref ar, .int (nI n)])) := ⟨_, hG, hF.tr (gh_fr.set hq rfl), gh_up_s, by rw [gh_up_n (gh_ne hM hq (fun q => by cases q))]; exact hM⟩
  exact g_vret S hr dJ18_init_25 hG hS (by first | exact Nat.le_refl _ | omega) (by first | exact Nat.le_refl _ | omega) ⟨rfl, ⟨i, -1, hq⟩, hF⟩
set_option maxHeartbeats 4000000 in
set_option maxRecDepth 100000 in
theorem metJ2_iterator (l : Launch) {E : Ev} {G : gh} {a r k n : Nat} {f : Nat → Nat} {mc : Int32}  (hL : gLs E G a r k n f mc) : Met l yJ2_iterator (ws_ yJ2_iterator cJ2_iterator 1 (some (.object "java/util/Iterator"))) ({ frames := 2, cells := 1, slots := 4, locals := 100 }) (gP E G [.ref a]) (gQ E (fun v G' => ∃ q, v = some (.ref q) ∧ gIt E G' q 0 a mc ∧ gh_fr gT62 G G')) 1 4 (ev_A E) := by
  obtain ⟨ar, hM, hA⟩ := hL
  refine gMet RJ2 (by decide) rfl (Nat.le_of_ble_eq_true rfl) ?_
  intro p e s m below meth c ls hx hb S hr hnm hl hG hS
  have hl : lv_has ls 1 [(0, .ref a)] := hl
  refine g_new (ci := 6) (C := RJ18) (T := TJ18) (N := 4) (fs := [.int 0, .int 0, .int 0, .null]) S in_J18 tyJ18 tyJ18_ok (S.ts _ q228) (S.ts _ q229) (S.ts _ q53) rfl (fun j hj => by (have : j = 0 ∨ j = 1 ∨ j = 2 ∨ j = 3 := (by omega)); rcases this with rfl | rfl | rfl | rfl <;> rfl) dJ2_iterator_0 62 0 (Nat.le_of_ble_eq_true rfl) (Nat.le_of_ble_eq_true rfl) hG hS (fun q H hn hG hS => ?_)
  refine W.cs (cells' := 1) (slots' := 4) rfl rfl ?_
  refine lv_dup hx hb dJ2_iterator_3 rfl ?_
  refine lv_aload_n hx hb dJ2_iterator_4 rfl (lv_at hl 0 rfl) ?_
  refine g_call hS (va_runI (As := [.ref a]) (rest := [.ref q]) S.1 (metJ18_init l (E := E) (gh_fr.at (gh_fr.new hn) hM) gh_up_s) (cwI 1 S.ts (lw_meth q232) rfl rfl rfl (S.ts _ q53) (S.ts _ q230) (S.ts _ q231) rfl (by decide +kernel) ⟨Nat.le_of_ble_eq_true rfl, Nat.le_of_ble_eq_true rfl⟩) (S.pre hG hS) rfl rfl hl.1 rfl (lv_room (Nat.le_of_ble_eq_true rfl)) dJ2_iterator_5 ⟨by first | exact Nat.le_of_ble_eq_true rfl | omega, by first | exact Nat.le_of_ble_eq_true rfl | omega⟩) (fun v G1 H locs hp hG hS => ?_)
  refine W.cs (cells' := 1) (slots' := 4) (by first | rfl | omega) (by first | rfl | omega) ?_
  obtain ⟨rfl, hI, hF⟩ := hp
  refine W.eq (g2 := F0 m 8 ls [.ref q]) rfl ?_
  exact g_aret S hr (Or.inl ⟨_, rfl⟩) dJ2_iterator_8 (Or.inr ⟨_, rfl⟩) hG hS (by first | exact Nat.le_refl _ | omega) (by first | exact Nat.le_refl _ | omega) ⟨q, rfl, hI, (gh_fr.new hn).tr hF⟩
set_option maxHeartbeats 4000000 in
set_option maxRecDepth 100000 in
theorem metJ18_hasNext (l : Launch) {E : Ev} {G : gh} {q i a r k n : Nat} {f : Nat → Nat} {mc : Int32}  (hI : gIt E G q i a mc) (hL : gLs E G a r k n f mc) (hi : i ≤ n) : Met l yJ18_hasNext (ws_ yJ18_hasNext cJ18_hasNext 1 (some .boolean)) ({ frames := 0, cells := 0, slots := 0, locals := 0 }) (gP E G [.ref q]) (gQ E (fun v G' => v = some (.int (if i = n then 0 else 1)) ∧ G = G')) 0 0 (ev_A E) := by
  obtain ⟨ar, hM, hA⟩ := hL
  obtain ⟨ki, lr, hq⟩ := hI
  have hz := hA.le_c
  refine gMet RJ18 (by decide) rfl (Nat.le_of_ble_eq_true rfl) ?_
  intro p e s m below meth c ls hx hb S hr hnm hl hG hS
  have hl : lv_has ls 1 [(0, .ref q)] := hl
  refine lv_aload_n hx hb dJ18_hasNext_0 rfl (lv_at hl 0 rfl) ?_
  refine gf_J18_25 S dJ18_hasNext_1 hG hq rfl ?_
  refine lv_aload_n hx hb dJ18_hasNext_4 rfl (lv_at hl 0 rfl) ?_
  refine gf_J18_1 S dJ18_hasNext_5 hG hq rfl ?_
  refine gf_J18_28 S dJ18_hasNext_8 hG hM rfl ?_
  refine lv_icmp_eq (tgt := 18) hx hb dJ18_hasNext_11 (by decide) (fun h5 => ?_) (fun h5 => ?_)
  · refine lv_iconst (v := 0) hx hb dJ18_hasNext_18 (by decide) ?_
    exact g_zret rfl S hr dJ18_hasNext_19 hG hS (by first | exact Nat.le_refl _ | omega) (by first | exact Nat.le_refl _ | omega) ⟨by rw [if_pos ((nI_eq (by omega) (by omega)).mp h5)], rfl⟩
  · refine lv_iconst (v := 1) hx hb dJ18_hasNext_14 (by decide) ?_
    refine lv_goto (tgt := 19) hx hb dJ18_hasNext_15 (by decide) ?_
    exact g_zret rfl S hr dJ18_hasNext_19 hG hS (by first | exact Nat.le_refl _ | omega) (by first | exact Nat.le_refl _ | omega) ⟨by rw [if_neg (fun q => h5 (by rw [q]))], rfl⟩
set_option maxHeartbeats 4000000 in
set_option maxRecDepth 100000 in
theorem metJ18_checkForComodification (l : Launch) {E : Ev} {G : gh} {q i a r k n : Nat} {f : Nat → Nat} {mc : Int32}  (hI : gIt E G q i a mc) (hL : gLs E G a r k n f mc) : Met l yJ18_checkForComodification (ws_ yJ18_checkForComodification cJ18_checkForComodification 1 none) ({ frames := 0, cells := 0, slots := 0, locals := 0 }) (gP E G [.ref q]) (gQ E (fun v G' => v = none ∧ G = G')) 0 0 (ev_A E) := by
  obtain ⟨ar, hM, hA⟩ := hL
  obtain ⟨ki, lr, hq⟩ := hI
  have hz := hA.le_c
  refine gMet RJ18 (by decide) rfl (Nat.le_of_ble_eq_true rfl) ?_
  intro p e s m below meth c ls hx hb S hr hnm hl hG hS
  have hl : lv_has ls 1 [(0, .ref q)] := hl
  refine lv_aload_n hx hb dJ18_checkForComodification_0 rfl (lv_at hl 0 rfl) ?_
  refine gf_J18_1 S dJ18_checkForComodification_1 hG hq rfl ?_
  refine gf_J18_17 S dJ18_checkForComodification_4 hG hM rfl ?_
  refine lv_aload_n hx hb dJ18_checkForComodification_7 rfl (lv_at hl 0 rfl) ?_
  refine gf_J18_22 S dJ18_checkForComodification_8 hG hq rfl ?_
  refine lv_icmp_eq (tgt := 22) hx hb dJ18_checkForComodification_11 (by decide) (fun _ => ?_) (fun h => absurd rfl h)
  exact g_vret S hr dJ18_checkForComodification_22 hG hS (by first | exact Nat.le_refl _ | omega) (by first | exact Nat.le_refl _ | omega) ⟨rfl, rfl⟩
set_option maxHeartbeats 4000000 in
set_option maxRecDepth 100000 in
theorem metJ18_next (l : Launch) {E : Ev} {G : gh} {q i a r k n : Nat} {f : Nat → Nat} {mc : Int32}  (hI : gIt E G q i a mc) (hL : gLs E G a r k n f mc) (hi : i < n) : Met l yJ18_next (ws_ yJ18_next cJ18_next 3 (some (.object "java/lang/Object"))) ({ frames := 1, cells := 0, slots := 0, locals := 40 }) (gP E G [.ref q]) (gQ E (fun v G' => v = some (.ref (f i)) ∧ gIt E G' q (i + 1) a mc ∧ gh_fr gT62 G G')) 0 0 (ev_A E) := by
  have hI0 := hI
  have hL0 := hL
  obtain ⟨ar, hM, hA⟩ := hL
  obtain ⟨ki, lr, hq⟩ := hI
  have hz := hA.le_c
  refine gMet RJ18 (by decide) rfl (Nat.le_of_ble_eq_true rfl) ?_
  intro p e s m below meth c ls hx hb S hr hnm hl hG hS
  have hl : lv_has ls 3 [(0, .ref q)] := hl
  refine lv_aload_n hx hb dJ18_next_0 rfl (lv_at hl 0 rfl) ?_
  refine g_call hS (va_runV (As := []) (rest := []) S.1 (metJ18_checkForComodification l (E := E) (G := G) hI0 hL0) (cwV 0 S.ts (lw_V q266 q267 q268 q53 q269) rfl rfl rfl (by decide +kernel) ⟨Nat.le_of_ble_eq_true rfl, Nat.le_of_ble_eq_true rfl⟩) (S.preV hG hS hq rfl) rfl rfl hl.1 rfl (lv_room (Nat.le_of_ble_eq_true rfl)) dJ18_next_1 ⟨Nat.le_of_ble_eq_true rfl, Nat.le_of_ble_eq_true rfl⟩) (fun v G1 H locs hp hG hS => ?_)
  refine W.cs (cells' := 0) (slots' := 0) (by first | rfl | omega) (by first | rfl | omega) ?_
  obtain ⟨rfl, rfl⟩ := hp
  refine W.eq (g2 := F0 m 4 ls []) rfl ?_
  rcases hA with ⟨h0, -⟩ | ⟨cap, g, hA, h1, h2, h3, h4⟩
  · omega
  refine lv_aload_n hx hb dJ18_next_4 rfl (lv_at hl 0 rfl) ?_
  refine gf_J18_25 S dJ18_next_5 hG hq rfl ?_
  refine lv_istore_n (lv' := [(1, .int (nI i)), (0, .ref q)]) hx hb dJ18_next_8 rfl hl (by decide) rfl (fun ls hl => ?_)
  refine lv_iload_n hx hb dJ18_next_9 rfl (lv_at hl 0 rfl) ?_
  refine lv_aload_n hx hb dJ18_next_10 rfl (lv_at hl 1 rfl) ?_
  refine gf_J18_1 S dJ18_next_11 hG hq rfl ?_
  refine gf_J18_28 S dJ18_next_14 hG hM rfl ?_
  refine lv_icmp_lt (tgt := 28) hx hb dJ18_next_17 (by decide) (fun _ => ?_) (fun h => absurd (nI_lt hi (by omega)) h)
  refine lv_aload_n hx hb dJ18_next_28 rfl (lv_at hl 1 rfl) ?_
  refine gf_J18_1 S dJ18_next_29 hG hq rfl ?_
  refine gf_J18_37 S dJ18_next_32 hG hM rfl ?_
  refine lv_astore_n (lv' := [(2, .ref ar), (1, .int (nI i)), (0, .ref q)]) hx hb dJ18_next_35 rfl hl (by decide) rfl (fun ls hl => ?_)
  refine lv_iload_n hx hb dJ18_next_36 rfl (lv_at hl 1 rfl) ?_
  refine lv_aload_n hx hb dJ18_next_37 rfl (lv_at hl 0 rfl) ?_
  refine g_alen S 5 rfl dJ18_next_38 hG hA ?_
  refine lv_icmp_lt (tgt := 50) hx hb dJ18_next_39 (by decide) (fun _ => ?_) (fun h => absurd (nI_lt (by omega) (by omega)) h)
  refine lv_aload_n hx hb dJ18_next_50 rfl (lv_at hl 2 rfl) ?_
  refine lv_iload_n hx hb dJ18_next_51 rfl (lv_at hl 1 rfl) ?_
  refine lv_iconst (v := 1) hx hb dJ18_next_52 (by decide) ?_
  refine lv_iadd hx hb dJ18_next_53 ?_
  refine pf_J18_25 S dJ18_next_54 rfl rfl hG hS hq (Nat.le_of_ble_eq_true rfl) (fun H locs hG hS => ?_)
  refine lv_aload_n hx hb dJ18_next_57 rfl (lv_at hl 0 rfl) ?_
  refine lv_aload_n hx hb dJ18_next_58 rfl (lv_at hl 2 rfl) ?_
  refine lv_iload_n hx hb dJ18_next_59 rfl (lv_at hl 1 rfl) ?_
  refine lv_dup_x1 hx hb dJ18_next_60 rfl rfl ?_
  refine pf_J18_13 S dJ18_next_61 rfl rfl hG hS gh_up_s (Nat.le_of_ble_eq_true rfl) (fun H locs hG hS => ?_)
  rw [gh_up_up] at hG
  have hAq : ar ≠ q := gh_ne hA hq (fun q => by cases q)
  refine n_aald 5 rfl S dJ18_next_64 hG (show gh_up G q _ ar = _ by rw [gh_up_n hAq]; exact hA) (gix.mk (show i < cap by omega) (by omega)) ?_
  refine W.eq (g2 := F0 m 65 ls [.ref (f i)]) (by rw [h4 i hi]; rfl) ?_
  exact g_aret S hr (Or.inl ⟨_, rfl⟩) dJ18_next_65 (Or.inr ⟨_, rfl⟩) hG hS (by first | exact Nat.le_refl _ | omega) (by first | exact Nat.le_refl _ | omega) ⟨rfl, ⟨ki, nI i, by rw [gh_up_s, nI_succ]; rfl⟩, gh_fr.set hq rfl⟩
