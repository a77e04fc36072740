/-! A STUDIO ON THE GHOST HEAP -/
/-- where a studio's parts lie -/
def cW : Type := (Nat × Nat × Nat) × ((Nat → Nat) × (Nat → Nat) × (Nat → Nat)) × Int32 × Int32 × Int32
def cW.dl (w : cW) : Nat := w.1.1
def cW.sl (w : cW) : Nat := w.1.2.1
def cW.ll (w : cW) : Nat := w.1.2.2
def cW.fd (w : cW) : Nat → Nat := w.2.1.1
def cW.fs (w : cW) : Nat → Nat := w.2.1.2.1
def cW.fl (w : cW) : Nat → Nat := w.2.1.2.2
def cW.md (w : cW) : Int32 := w.2.2.1
def cW.ms (w : cW) : Int32 := w.2.2.2.1
def cW.ml (w : cW) : Int32 := w.2.2.2.2
/-- the differences of scenario k, in their order -/
def cs_ds (M : tM) (nx k : Nat) : List Nat := (List.range nx).filter fun x => decide (M 5 x = nI k)
/-- scenario k -/
def cs_S (E : Ev) (G : gh) (M : tM) (nx : Nat) (fs : Nat → Nat) (k : Nat) : Prop := ∃ (dk : Nat) (fx : Nat → Nat) (mc : Int32), G (fs k) = some (7, k, .inr (1, [if k = 0 then .null else .ref (fs (ixN (M 4 k))), .ref dk])) ∧ gLs E G dk 8 k (cs_ds M nx k).length fx mc ∧
  ∀ j x, (cs_ds M nx k)[j]? = some x → G (fx j) = some (10, x, .inr (3, [.int (M 6 x), .int (M 7 x), .int (M 8 x)]))
/-- line k -/
def cs_L (E : Ev) (G : gh) (M : tM) (fl : Nat → Nat) (k : Nat) : Prop := ∃ (fo ac ap : Nat) (ot : Int32) (fa fp : Nat → Option Nat), G (fl k) = some (11, k, .inr (2, [.int (nI k), .int (M 1 k), .int (M 2 k), .int ot, .ref fo, .ref ac, .ref ap])) ∧ (M 1 k ≠ 100 → ot = M 3 k) ∧ gFm E G (M 1 k) fo ∧
  G ac = some (12, k, .inl (ev_k E 6, 12, .inr (.inr (.inr (.inr fa))))) ∧ G ap = some (13, k, .inl (ev_k E 7, 12, .inr (.inr (.inr (.inr fp))))) ∧
  (∀ t, t < 12 → (M 12 (12 * k + t) = 0 → fa t = none) ∧ (M 12 (12 * k + t) ≠ 0 → ∃ y, fa t = some y ∧ gInt E G y (M 9 (12 * k + t)))) ∧
  ∀ t, t < 12 → (M 14 (12 * k + t) = 45 → fp t = none) ∧ (M 14 (12 * k + t) ≠ 45 → ∃ y, fp t = some y ∧ G y = some (14, 12 * k + t, .inr (4, [.int (M 10 (12 * k + t)), .int (M 11 (12 * k + t)), .int (if M 14 (12 * k + t) = 111 then 1 else 0)])))
def cS (E : Ev) (G : gh) (st : Nat) (M : tM) (nn : tN) (w : cW) : Prop := G st = some (0, 0, .inr (0, [.ref w.dl, .ref w.sl, .ref w.ll, .int (nI (nn 4)), .int (nI (nn 5))])) ∧ (gLs E G w.dl 1 0 (nn 1) w.fd w.md ∧ ∀ i, i < nn 1 → gInt E G (w.fd i) (M 0 i)) ∧
  (gLs E G w.sl 3 0 (nn 3) w.fs w.ms ∧ ∀ k, k < nn 3 → cs_S E G M (nn 4) w.fs k) ∧ gLs E G w.ll 5 0 (nn 2) w.fl w.ml ∧ ∀ k, k < nn 2 → cs_L E G M w.fl k
theorem cs_S.mono {E : Ev} {G G' : gh} {M : tM} {nx : Nat} {fs : Nat → Nat} {k : Nat} {T : Nat → Nat → Prop} (h : cs_S E G M nx fs k) (hf : gh_fr T G G') (h7 : ¬ T 7 k) (h8 : ¬ T 8 k) (h9 : ¬ T 9 k) (h10 : ∀ x, ¬ T 10 x) : cs_S E G' M nx fs k := by
  obtain ⟨dk, fx, mc, a, b, c⟩ := h
  exact ⟨dk, fx, mc, hf _ _ _ _ a h7, b.mono hf h8 h9, fun j x hj => hf _ _ _ _ (c j x hj) (h10 x)⟩
theorem cs_L.mono {E : Ev} {G G' : gh} {M : tM} {fl : Nat → Nat} {k : Nat} {T : Nat → Nat → Prop} (h : cs_L E G M fl k) (hf : gh_fr T G G') (h11 : ¬ T 11 k) (h12 : ¬ T 12 k) (h13 : ¬ T 13 k) (h14 : ∀ t, t < 12 → ¬ T 14 (12 * k + t)) (h50 : ∀ i, ¬ T 50 i) : cs_L E G' M fl k := by
  obtain ⟨fo, ac, ap, ot, fa, fp, a, b, c, d, e, f, g⟩ := h
  refine ⟨fo, ac, ap, ot, fa, fp, hf _ _ _ _ a h11, b, c.mono hf h50, hf _ _ _ _ d h12, hf _ _ _ _ e h13, fun t ht => ⟨(f t ht).1, fun h => ?_⟩, fun t ht => ⟨(g t ht).1, fun h => ?_⟩⟩
  · obtain ⟨y, h1, h2⟩ := (f t ht).2 h
    exact ⟨y, h1, h2.mono hf h50⟩
  · obtain ⟨y, h1, h2⟩ := (g t ht).2 h
    exact ⟨y, h1, hf _ _ _ _ h2 (h14 t ht)⟩
theorem cS.mono {E : Ev} {G G' : gh} {st : Nat} {M : tM} {nn : tN} {w : cW} {T : Nat → Nat → Prop} (h : cS E G st M nn w) (hf : gh_fr T G G') (hT : ∀ t i, T t i → 60 ≤ t) : cS E G' st M nn w := by
  have n : ∀ t i, t < 60 → ¬ T t i := fun t i ht q => by have := hT t i q; omega
  obtain ⟨a, ⟨b, b2⟩, ⟨c, c2⟩, d, d2⟩ := h
  exact ⟨hf _ _ _ _ a (n _ _ (by decide)), ⟨b.mono hf (n _ _ (by decide)) (n _ _ (by decide)), fun i hi => (b2 i hi).mono hf (fun j => n _ j (by decide))⟩, ⟨c.mono hf (n _ _ (by decide)) (n _ _ (by decide)), fun k hk => (c2 k hk).mono hf (n _ _ (by decide)) (n _ _ (by decide)) (n _ _ (by decide)) (fun x => n _ x (by decide))⟩,
    d.mono hf (n _ _ (by decide)) (n _ _ (by decide)), fun k hk => (d2 k hk).mono hf (n _ _ (by decide)) (n _ _ (by decide)) (n _ _ (by decide)) (fun t _ => n _ _ (by decide)) (fun j => n _ j (by decide))⟩
/-- what calls change that only look: garbage, lists and iterators of the moment -/
def gT6 : Nat → Nat → Prop := fun t _ => t = 60 ∨ t = 61 ∨ t = 62
theorem gT6_60 : ∀ t i, gT6 t i → 60 ≤ t := fun t i h => by rcases h with h | h | h <;> omega
theorem gT62_6 {G G' : gh} (h : gh_fr gT62 G G') : gh_fr gT6 G G' := h.mono (fun t i q => Or.inr (Or.inr q))
theorem cs_vix {n : Nat} {x : Int32} (hn : n ≤ 1000) : (0 ≤ x ∧ x < nI n) ↔ vix n x := by
  have h1 : (nI n - 1).toInt = (n : Int) - 1 := by
    rw [Int32.toInt_sub, nI_toInt (by omega), show (1 : Int32).toInt = 1 from by decide]
    exact Int.bmod_eq_of_le (by omega) (by omega)
  unfold vix
  rw [Int32.lt_iff_toInt_lt, Int32.le_iff_toInt_le, Int32.le_iff_toInt_le, nI_toInt (by omega), h1]
  omega
theorem cs_vmo {x : Int32} : (0 ≤ x ∧ x < 12) ↔ vmo x := by
  have h := cs_vix (n := 12) (x := x) (by decide)
  exact h
set_option maxHeartbeats 4000000 in
set_option maxRecDepth 100000 in
theorem metX1_requireDriver (l : Launch) (hl0 : l.stackTraces = false) {E : Ev} {G : gh} {st : Nat} {M : tM} {nn : tN} {w : cW} {x : Int32}  (hC : cS E G st M nn w) (hwf : sp_wf M nn) : vx_Met l yX1_requireDriver (ws_ yX1_requireDriver cX1_requireDriver 2 none) ({ frames := 7, cells := 1, slots := 6, locals := 160 }) (gP E G [.ref st, .int x]) (gQ E (fun v G' => v = none ∧ G = G' ∧ vix (nn 1) x)) (gX E (fun C G' => C = "java/lang/IndexOutOfBoundsException" ∧ G = G' ∧ ¬ vix (nn 1) x)) 1 6 (ev_A E) := by
  have h16 : nn 1 ≤ 6 := hwf.1.1
  have h10 : nn 2 ≤ 10 := hwf.1.2.1
  have h34 : nn 3 ≤ 4 := hwf.1.2.2.1.2
  have h31 : 1 ≤ nn 3 := hwf.1.2.2.1.1
  obtain ⟨ard, hMd, hAd⟩ := hC.2.1.1
  obtain ⟨ars, hMs, hAs⟩ := hC.2.2.1.1
  obtain ⟨arl, hMl, hAl⟩ := hC.2.2.2.1
  refine gMetX RX1 (by decide) rfl (Nat.le_of_ble_eq_true rfl) ?_
  intro p e s m below meth c ls hx hb S hr hno hl hG hS
  have hl : lv_has ls 2 [(0, .ref st), (1, .int x)] := hl
  refine lv_iload_n hx hb dX1_requireDriver_0 rfl (lv_at hl 1 rfl) ?_
  refine lv_aload_n hx hb dX1_requireDriver_1 rfl (lv_at hl 0 rfl) ?_
  refine gf_X1_48 S dX1_requireDriver_2 hG hC.1 rfl ?_
  refine g_call5 hS (va_runF (S.K.1 5 _ rfl).2 (As := []) (rest := [.int x]) S.1 (metJ2_size l (E := E) (G := G) hC.2.1.1) (va_cwF 0 S.ts (lw_F q370 q373 q375 q33 q377) rfl rfl rfl (S.2.1.1.2.1 _ (List.mem_of_getElem? (i := 1) rfl)) (by decide +kernel) ⟨Nat.le_of_ble_eq_true rfl, Nat.le_of_ble_eq_true rfl⟩) (S.preV hG hS hMd rfl) rfl rfl hl.1 rfl (lv_room (Nat.le_of_ble_eq_true rfl)) dX1_requireDriver_5 ⟨Nat.le_of_ble_eq_true rfl, Nat.le_of_ble_eq_true rfl⟩) (fun v G1 H locs hp hG hS => ?_)
  refine W.cs (cells' := 0) (slots' := 0) (by first | rfl | omega) (by first | rfl | omega) ?_
  obtain ⟨rfl, rfl⟩ := hp
  refine W.eq (g2 := F0 m 10 ls [.int (nI (nn 1)), .int x]) rfl ?_
  refine g_callX hS (vx_runS (As := [.int x, .int (nI (nn 1))]) (rest := []) S.1 (metX1_requireIndex l hl0 (E := E) (G := G) x (nI (nn 1))) (va_cwS 2 S.ts (lw_S q460 q461 q30 q462) rfl rfl rfl (by decide +kernel) ⟨Nat.le_of_ble_eq_true rfl, Nat.le_of_ble_eq_true rfl⟩) (S.pre hG hS) rfl rfl hl.1 rfl (lv_room (Nat.le_of_ble_eq_true rfl)) dX1_requireDriver_10 ⟨Nat.le_of_ble_eq_true rfl, Nat.le_of_ble_eq_true rfl⟩) (fun C ce q9 G1 H locs hp hG hS hce hcv hcl => ?_) (fun v G1 H locs hp hG hS => ?_)
  · refine vx_widen (k := 1) (n := 6) (by first | exact Nat.le_refl _ | omega) (by first | exact Nat.le_refl _ | omega) ?_
    obtain ⟨rfl, rfl, hb2⟩ := hp
    exact vx_out (fun x h => (hno x h).elim) S.2.2 hce hcv hcl (fun t ht _ => ⟨⟨_, ⟨rfl, rfl, fun q => hb2 ((cs_vix (by omega)).mpr q)⟩, by rw [ht]; exact hG⟩, hS.F ht⟩) hS.2.2 (by first | exact Nat.le_refl _ | omega) (by first | exact Nat.le_refl _ | omega)
  refine W.cs (cells' := 1) (slots' := 6) (by first | rfl | omega) (by first | rfl | omega) ?_
  obtain ⟨rfl, rfl, hx1⟩ := hp
  refine W.eq (g2 := F0 m 13 ls []) rfl ?_
  refine vx_ret ?_
  exact g_vret S hr dX1_requireDriver_13 hG hS (by first | exact Nat.le_refl _ | omega) (by first | exact Nat.le_refl _ | omega) ⟨rfl, rfl, (cs_vix (by omega)).mp hx1⟩
set_option maxHeartbeats 4000000 in
set_option maxRecDepth 100000 in
theorem metX1_requireMonth (l : Launch) (hl0 : l.stackTraces = false) {E : Ev} {G : gh} {x : Int32}  : vx_Met l yX1_requireMonth (ws_ yX1_requireMonth cX1_requireMonth 1 none) ({ frames := 7, cells := 1, slots := 6, locals := 160 }) (gP E G [.int x]) (gQ E (fun v G' => v = none ∧ G = G' ∧ vmo x)) (gX E (fun C G' => C = "java/lang/IndexOutOfBoundsException" ∧ G = G' ∧ ¬ vmo x)) 1 6 (ev_A E) := by
  refine gMetX RX1 (by decide) rfl (Nat.le_of_ble_eq_true rfl) ?_
  intro p e s m below meth c ls hx hb S hr hno hl hG hS
  have hl : lv_has ls 1 [(0, .int x)] := hl
  refine lv_iload_n hx hb dX1_requireMonth_0 rfl (lv_at hl 0 rfl) ?_
  refine lv_bipush (v := 12) hx hb dX1_requireMonth_1 (by decide) ?_
  refine g_callX hS (vx_runS (As := [.int x, .int 12]) (rest := []) S.1 (metX1_requireIndex l hl0 (E := E) (G := G) x 12) (va_cwS 2 S.ts (lw_S q460 q461 q30 q462) rfl rfl rfl (by decide +kernel) ⟨Nat.le_of_ble_eq_true rfl, Nat.le_of_ble_eq_true rfl⟩) (S.pre hG hS) rfl rfl hl.1 rfl (lv_room (Nat.le_of_ble_eq_true rfl)) dX1_requireMonth_3 ⟨Nat.le_of_ble_eq_true rfl, Nat.le_of_ble_eq_true rfl⟩) (fun C ce q9 G1 H locs hp hG hS hce hcv hcl => ?_) (fun v G1 H locs hp hG hS => ?_)
  · refine vx_widen (k := 1) (n := 6) (by first | exact Nat.le_refl _ | omega) (by first | exact Nat.le_refl _ | omega) ?_
    obtain ⟨rfl, rfl, hb2⟩ := hp
    exact vx_out (fun x h => (hno x h).elim) S.2.2 hce hcv hcl (fun t ht _ => ⟨⟨_, ⟨rfl, rfl, fun q => hb2 (cs_vmo.mpr q)⟩, by rw [ht]; exact hG⟩, hS.F ht⟩) hS.2.2 (by first | exact Nat.le_refl _ | omega) (by first | exact Nat.le_refl _ | omega)
  refine W.cs (cells' := 1) (slots' := 6) (by first | rfl | omega) (by first | rfl | omega) ?_
  obtain ⟨rfl, rfl, hx1⟩ := hp
  refine W.eq (g2 := F0 m 6 ls []) rfl ?_
  refine vx_ret ?_
  exact g_vret S hr dX1_requireMonth_6 hG hS (by first | exact Nat.le_refl _ | omega) (by first | exact Nat.le_refl _ | omega) ⟨rfl, rfl, cs_vmo.mp hx1⟩
set_option maxHeartbeats 4000000 in
set_option maxRecDepth 100000 in
theorem metX1_scenarioAt (l : Launch) (hl0 : l.stackTraces = false) {E : Ev} {G : gh} {st : Nat} {M : tM} {nn : tN} {w : cW} {x : Int32}  (hC : cS E G st M nn w) (hwf : sp_wf M nn) : vx_Met l yX1_scenarioAt (ws_ yX1_scenarioAt cX1_scenarioAt 2 (some (.object "CostStudio$Scenario"))) ({ frames := 7, cells := 1, slots := 6, locals := 160 }) (gP E G [.ref st, .int x]) (gQ E (fun v G' => ∃ k, x = nI k ∧ k < nn 3 ∧ v = some (.ref (w.fs k)) ∧ G = G')) (gX E (fun C G' => C = "java/lang/IndexOutOfBoundsException" ∧ G = G' ∧ ¬ vix (nn 3) x)) 1 6 (ev_A E) := by
  have h16 : nn 1 ≤ 6 := hwf.1.1
  have h10 : nn 2 ≤ 10 := hwf.1.2.1
  have h34 : nn 3 ≤ 4 := hwf.1.2.2.1.2
  have h31 : 1 ≤ nn 3 := hwf.1.2.2.1.1
  obtain ⟨ard, hMd, hAd⟩ := hC.2.1.1
  obtain ⟨ars, hMs, hAs⟩ := hC.2.2.1.1
  obtain ⟨arl, hMl, hAl⟩ := hC.2.2.2.1
  refine gMetX RX1 (by decide) rfl (Nat.le_of_ble_eq_true rfl) ?_
  intro p e s m below meth c ls hx hb S hr hno hl hG hS
  have hl : lv_has ls 2 [(0, .ref st), (1, .int x)] := hl
  refine lv_iload_n hx hb dX1_scenarioAt_0 rfl (lv_at hl 1 rfl) ?_
  refine lv_aload_n hx hb dX1_scenarioAt_1 rfl (lv_at hl 0 rfl) ?_
  refine gf_X1_52 S dX1_scenarioAt_2 hG hC.1 rfl ?_
  refine g_call5 hS (va_runF (S.K.1 5 _ rfl).2 (As := []) (rest := [.int x]) S.1 (metJ2_size l (E := E) (G := G) hC.2.2.1.1) (va_cwF 0 S.ts (lw_F q370 q373 q375 q33 q377) rfl rfl rfl (S.2.1.1.2.1 _ (List.mem_of_getElem? (i := 1) rfl)) (by decide +kernel) ⟨Nat.le_of_ble_eq_true rfl, Nat.le_of_ble_eq_true rfl⟩) (S.preV hG hS hMs rfl) rfl rfl hl.1 rfl (lv_room (Nat.le_of_ble_eq_true rfl)) dX1_scenarioAt_5 ⟨Nat.le_of_ble_eq_true rfl, Nat.le_of_ble_eq_true rfl⟩) (fun v G1 H locs hp hG hS => ?_)
  refine W.cs (cells' := 0) (slots' := 0) (by first | rfl | omega) (by first | rfl | omega) ?_
  obtain ⟨rfl, rfl⟩ := hp
  refine W.eq (g2 := F0 m 10 ls [.int (nI (nn 3)), .int x]) rfl ?_
  refine g_callX hS (vx_runS (As := [.int x, .int (nI (nn 3))]) (rest := []) S.1 (metX1_requireIndex l hl0 (E := E) (G := G) x (nI (nn 3))) (va_cwS 2 S.ts (lw_S q460 q461 q30 q462) rfl rfl rfl (by decide +kernel) ⟨Nat.le_of_ble_eq_true rfl, Nat.le_of_ble_eq_true rfl⟩) (S.pre hG hS) rfl rfl hl.1 rfl (lv_room (Nat.le_of_ble_eq_true rfl)) dX1_scenarioAt_10 ⟨Nat.le_of_ble_eq_true rfl, Nat.le_of_ble_eq_true rfl⟩) (fun C ce q9 G1 H locs hp hG hS hce hcv hcl => ?_) (fun v G1 H locs hp hG hS => ?_)
  · refine vx_widen (k := 1) (n := 6) (by first | exact Nat.le_refl _ | omega) (by first | exact Nat.le_refl _ | omega) ?_
    obtain ⟨rfl, rfl, hb2⟩ := hp
    exact vx_out (fun x h => (hno x h).elim) S.2.2 hce hcv hcl (fun t ht _ => ⟨⟨_, ⟨rfl, rfl, fun q => hb2 ((cs_vix (by omega)).mpr q)⟩, by rw [ht]; exact hG⟩, hS.F ht⟩) hS.2.2 (by first | exact Nat.le_refl _ | omega) (by first | exact Nat.le_refl _ | omega)
  refine W.cs (cells' := 1) (slots' := 6) (by first | rfl | omega) (by first | rfl | omega) ?_
  obtain ⟨rfl, rfl, hx1⟩ := hp
  refine W.eq (g2 := F0 m 13 ls []) rfl ?_
  obtain ⟨k, hxk, hk, -⟩ := vix.ix ((cs_vix (by omega)).mp hx1) (by omega)
  subst hxk
  refine lv_aload_n hx hb dX1_scenarioAt_13 rfl (lv_at hl 0 rfl) ?_
  refine gf_X1_52 S dX1_scenarioAt_14 hG hC.1 rfl ?_
  refine lv_iload_n hx hb dX1_scenarioAt_17 rfl (lv_at hl 1 rfl) ?_
  refine g_call5 hS (va_runF (S.K.1 5 _ rfl).2 (As := [.int (nI k)]) (rest := []) S.1 (metJ2_get l (E := E) (G := G) hC.2.2.1.1 (i := k) hk) (va_cwF 1 S.ts (lw_F q512 q515 q517 q33 q519) rfl rfl rfl (S.2.1.1.2.1 _ (List.mem_of_getElem? (i := 2) rfl)) (by decide +kernel) ⟨Nat.le_of_ble_eq_true rfl, Nat.le_of_ble_eq_true rfl⟩) (S.preV hG hS hMs rfl) rfl rfl hl.1 rfl (lv_room (Nat.le_of_ble_eq_true rfl)) dX1_scenarioAt_18 ⟨by first | exact Nat.le_of_ble_eq_true rfl | omega, by first | exact Nat.le_of_ble_eq_true rfl | omega⟩) (fun v G1 H locs hp hG hS => ?_)
  refine W.cs (cells' := 1) (slots' := 6) (by first | rfl | omega) (by first | rfl | omega) ?_
  obtain ⟨rfl, rfl⟩ := hp
  refine W.eq (g2 := F0 m 23 ls [.ref (w.fs k)]) rfl ?_
  obtain ⟨dk, fx, mcx, hO, -⟩ := hC.2.2.1.2 k hk
  refine g_castS (nm := "CostStudio$Scenario") (S.K.1 1 _ rfl).2 S (S.ts _ q103) (S.recv hG (r := (RX2, TX2, 2)) hO rfl) dX1_scenarioAt_23 ?_
  refine vx_ret ?_
  exact g_aret S hr (Or.inl ⟨_, rfl⟩) dX1_scenarioAt_26 (Or.inr ⟨_, rfl⟩) hG hS (by first | exact Nat.le_refl _ | omega) (by first | exact Nat.le_refl _ | omega) ⟨k, rfl, hk, rfl, rfl⟩
set_option maxHeartbeats 4000000 in
set_option maxRecDepth 100000 in
theorem metX1_lineAt (l : Launch) (hl0 : l.stackTraces = false) {E : Ev} {G : gh} {st : Nat} {M : tM} {nn : tN} {w : cW} {x : Int32}  (hC : cS E G st M nn w) (hwf : sp_wf M nn) : vx_Met l yX1_lineAt (ws_ yX1_lineAt cX1_lineAt 2 (some (.object "CostStudio$Line"))) ({ frames := 7, cells := 1, slots := 6, locals := 160 }) (gP E G [.ref st, .int x]) (gQ E (fun v G' => ∃ k, x = nI k ∧ k < nn 2 ∧ v = some (.ref (w.fl k)) ∧ G = G')) (gX E (fun C G' => C = "java/lang/IndexOutOfBoundsException" ∧ G = G' ∧ ¬ vix (nn 2) x)) 1 6 (ev_A E) := by
  have h16 : nn 1 ≤ 6 := hwf.1.1
  have h10 : nn 2 ≤ 10 := hwf.1.2.1
  have h34 : nn 3 ≤ 4 := hwf.1.2.2.1.2
  have h31 : 1 ≤ nn 3 := hwf.1.2.2.1.1
  obtain ⟨ard, hMd, hAd⟩ := hC.2.1.1
  obtain ⟨ars, hMs, hAs⟩ := hC.2.2.1.1
  obtain ⟨arl, hMl, hAl⟩ := hC.2.2.2.1
  refine gMetX RX1 (by decide) rfl (Nat.le_of_ble_eq_true rfl) ?_
  intro p e s m below meth c ls hx hb S hr hno hl hG hS
  have hl : lv_has ls 2 [(0, .ref st), (1, .int x)] := hl
  refine lv_iload_n hx hb dX1_lineAt_0 rfl (lv_at hl 1 rfl) ?_
  refine lv_aload_n hx hb dX1_lineAt_1 rfl (lv_at hl 0 rfl) ?_
  refine gf_X1_55 S dX1_lineAt_2 hG hC.1 rfl ?_
  refine g_call5 hS (va_runF (S.K.1 5 _ rfl).2 (As := []) (rest := [.int x]) S.1 (metJ2_size l (E := E) (G := G) hC.2.2.2.1) (va_cwF 0 S.ts (lw_F q370 q373 q375 q33 q377) rfl rfl rfl (S.2.1.1.2.1 _ (List.mem_of_getElem? (i := 1) rfl)) (by decide +kernel) ⟨Nat.le_of_ble_eq_true rfl, Nat.le_of_ble_eq_true rfl⟩) (S.preV hG hS hMl rfl) rfl rfl hl.1 rfl (lv_room (Nat.le_of_ble_eq_true rfl)) dX1_lineAt_5 ⟨Nat.le_of_ble_eq_true rfl, Nat.le_of_ble_eq_true rfl⟩) (fun v G1 H locs hp hG hS => ?_)
  refine W.cs (cells' := 0) (slots' := 0) (by first | rfl | omega) (by first | rfl | omega) ?_
  obtain ⟨rfl, rfl⟩ := hp
  refine W.eq (g2 := F0 m 10 ls [.int (nI (nn 2)), .int x]) rfl ?_
  refine g_callX hS (vx_runS (As := [.int x, .int (nI (nn 2))]) (rest := []) S.1 (metX1_requireIndex l hl0 (E := E) (G := G) x (nI (nn 2))) (va_cwS 2 S.ts (lw_S q460 q461 q30 q462) rfl rfl rfl (by decide +kernel) ⟨Nat.le_of_ble_eq_true rfl, Nat.le_of_ble_eq_true rfl⟩) (S.pre hG hS) rfl rfl hl.1 rfl (lv_room (Nat.le_of_ble_eq_true rfl)) dX1_lineAt_10 ⟨Nat.le_of_ble_eq_true rfl, Nat.le_of_ble_eq_true rfl⟩) (fun C ce q9 G1 H locs hp hG hS hce hcv hcl => ?_) (fun v G1 H locs hp hG hS => ?_)
  · refine vx_widen (k := 1) (n := 6) (by first | exact Nat.le_refl _ | omega) (by first | exact Nat.le_refl _ | omega) ?_
    obtain ⟨rfl, rfl, hb2⟩ := hp
    exact vx_out (fun x h => (hno x h).elim) S.2.2 hce hcv hcl (fun t ht _ => ⟨⟨_, ⟨rfl, rfl, fun q => hb2 ((cs_vix (by omega)).mpr q)⟩, by rw [ht]; exact hG⟩, hS.F ht⟩) hS.2.2 (by first | exact Nat.le_refl _ | omega) (by first | exact Nat.le_refl _ | omega)
  refine W.cs (cells' := 1) (slots' := 6) (by first | rfl | omega) (by first | rfl | omega) ?_
  obtain ⟨rfl, rfl, hx1⟩ := hp
  refine W.eq (g2 := F0 m 13 ls []) rfl ?_
  obtain ⟨k, hxk, hk, -⟩ := vix.ix ((cs_vix (by omega)).mp hx1) (by omega)
  subst hxk
  refine lv_aload_n hx hb dX1_lineAt_13 rfl (lv_at hl 0 rfl) ?_
  refine gf_X1_55 S dX1_lineAt_14 hG hC.1 rfl ?_
  refine lv_iload_n hx hb dX1_lineAt_17 rfl (lv_at hl 1 rfl) ?_
  refine g_call5 hS (va_runF (S.K.1 5 _ rfl).2 (As := [.int (nI k)]) (rest := []) S.1 (metJ2_get l (E := E) (G := G) hC.2.2.2.1 (i := k) hk) (va_cwF 1 S.ts (lw_F q512 q515 q517 q33 q519) rfl rfl rfl (S.2.1.1.2.1 _ (List.mem_of_getElem? (i := 2) rfl)) (by decide +kernel) ⟨Nat.le_of_ble_eq_true rfl, Nat.le_of_ble_eq_true rfl⟩) (S.preV hG hS hMl rfl) rfl rfl hl.1 rfl (lv_room (Nat.le_of_ble_eq_true rfl)) dX1_lineAt_18 ⟨by first | exact Nat.le_of_ble_eq_true rfl | omega, by first | exact Nat.le_of_ble_eq_true rfl | omega⟩) (fun v G1 H locs hp hG hS => ?_)
  refine W.cs (cells' := 1) (slots' := 6) (by first | rfl | omega) (by first | rfl | omega) ?_
  obtain ⟨rfl, rfl⟩ := hp
  refine W.eq (g2 := F0 m 23 ls [.ref (w.fl k)]) rfl ?_
  obtain ⟨fo, ac, ap, ot, fa, fp, hO, -⟩ := hC.2.2.2.2 k hk
  refine g_castS (nm := "CostStudio$Line") (S.K.1 2 _ rfl).2 S (S.ts _ q340) (S.recv hG (r := (RX7, TX7, 7)) hO rfl) dX1_lineAt_23 ?_
  refine vx_ret ?_
  exact g_aret S hr (Or.inl ⟨_, rfl⟩) dX1_lineAt_26 (Or.inr ⟨_, rfl⟩) hG hS (by first | exact Nat.le_refl _ | omega) (by first | exact Nat.le_refl _ | omega) ⟨k, rfl, hk, rfl, rfl⟩
set_option maxHeartbeats 4000000 in
set_option maxRecDepth 100000 in
theorem metX1_lineFor (l : Launch) (hl0 : l.stackTraces = false) {E : Ev} {G : gh} {st : Nat} {M : tM} {nn : tN} {w : cW} {x y : Int32}  (hC : cS E G st M nn w) (hwf : sp_wf M nn) : vx_Met l yX1_lineFor (ws_ yX1_lineFor cX1_lineFor 4 (some (.object "CostStudio$Line"))) ({ frames := 8, cells := 2, slots := 12, locals := 200 }) (gP E G [.ref st, .int x, .int y]) (gQ E (fun v G' => ∃ k t, x = nI k ∧ k < nn 2 ∧ y = nI t ∧ t < 12 ∧ v = some (.ref (w.fl k)) ∧ G = G')) (gX E (fun C G' => C = "java/lang/IndexOutOfBoundsException" ∧ G = G' ∧ ¬ (vix (nn 2) x ∧ vmo y))) 2 12 (ev_A E) := by
  have h16 : nn 1 ≤ 6 := hwf.1.1
  have h10 : nn 2 ≤ 10 := hwf.1.2.1
  have h34 : nn 3 ≤ 4 := hwf.1.2.2.1.2
  have h31 : 1 ≤ nn 3 := hwf.1.2.2.1.1
  obtain ⟨ard, hMd, hAd⟩ := hC.2.1.1
  obtain ⟨ars, hMs, hAs⟩ := hC.2.2.1.1
  obtain ⟨arl, hMl, hAl⟩ := hC.2.2.2.1
  refine gMetX RX1 (by decide) rfl (Nat.le_of_ble_eq_true rfl) ?_
  intro p e s m below meth c ls hx hb S hr hno hl hG hS
  have hl : lv_has ls 4 [(0, .ref st), (1, .int x), (2, .int y)] := hl
  refine lv_aload_n hx hb dX1_lineFor_0 rfl (lv_at hl 0 rfl) ?_
  refine lv_iload_n hx hb dX1_lineFor_1 rfl (lv_at hl 1 rfl) ?_
  refine g_callX hS (vx_runV (As := [.int x]) (rest := []) S.1 (metX1_lineAt l hl0 (E := E) (G := G) (x := x) hC hwf) (cwV 1 S.ts (lw_V q815 q817 qs15 q30 q818) rfl rfl rfl (by decide +kernel) ⟨Nat.le_of_ble_eq_true rfl, Nat.le_of_ble_eq_true rfl⟩) (S.preV hG hS hC.1 rfl) rfl rfl hl.1 rfl (lv_room (Nat.le_of_ble_eq_true rfl)) dX1_lineFor_2 ⟨Nat.le_of_ble_eq_true rfl, Nat.le_of_ble_eq_true rfl⟩) (fun C ce q9 G1 H locs hp hG hS hce hcv hcl => ?_) (fun v G1 H locs hp hG hS => ?_)
  · refine vx_widen (k := 1) (n := 6) (by first | exact Nat.le_refl _ | omega) (by first | exact Nat.le_refl _ | omega) ?_
    obtain ⟨rfl, rfl, hb2⟩ := hp
    exact vx_out (fun x h => (hno x h).elim) S.2.2 hce hcv hcl (fun t ht _ => ⟨⟨_, ⟨rfl, rfl, fun q => hb2 q.1⟩, by rw [ht]; exact hG⟩, hS.F ht⟩) hS.2.2 (by first | exact Nat.le_refl _ | omega) (by first | exact Nat.le_refl _ | omega)
  refine W.cs (cells' := 1) (slots' := 6) (by first | rfl | omega) (by first | rfl | omega) ?_
  obtain ⟨k, hxk, hk, rfl, rfl⟩ := hp
  refine W.eq (g2 := F0 m 5 ls [.ref (w.fl k)]) rfl ?_
  refine lv_astore_n (lv' := [(3, .ref (w.fl k)), (0, .ref st), (1, .int x), (2, .int y)]) hx hb dX1_lineFor_5 rfl hl (by decide) rfl (fun ls hl => ?_)
  refine lv_iload_n hx hb dX1_lineFor_6 rfl (lv_at hl 3 rfl) ?_
  refine g_callX hS (vx_runS (As := [.int y]) (rest := []) S.1 (metX1_requireMonth l hl0 (E := E) (G := G) (x := y)) (va_cwS 1 S.ts (lw_S q613 q614 q30 q615) rfl rfl rfl (by decide +kernel) ⟨Nat.le_of_ble_eq_true rfl, Nat.le_of_ble_eq_true rfl⟩) (S.pre hG hS) rfl rfl hl.1 rfl (lv_room (Nat.le_of_ble_eq_true rfl)) dX1_lineFor_7 ⟨by first | exact Nat.le_of_ble_eq_true rfl | omega, by first | exact Nat.le_of_ble_eq_true rfl | omega⟩) (fun C ce q9 G1 H locs hp hG hS hce hcv hcl => ?_) (fun v G1 H locs hp hG hS => ?_)
  · refine vx_widen (k := 2) (n := 12) (by first | exact Nat.le_refl _ | omega) (by first | exact Nat.le_refl _ | omega) ?_
    obtain ⟨rfl, rfl, hb2⟩ := hp
    exact vx_out (fun x h => (hno x h).elim) S.2.2 hce hcv hcl (fun t ht _ => ⟨⟨_, ⟨rfl, rfl, fun q => hb2 q.2⟩, by rw [ht]; exact hG⟩, hS.F ht⟩) hS.2.2 (by first | exact Nat.le_refl _ | omega) (by first | exact Nat.le_refl _ | omega)
  refine W.cs (cells' := 2) (slots' := 12) (by first | rfl | omega) (by first | rfl | omega) ?_
  obtain ⟨rfl, rfl, hy1⟩ := hp
  refine W.eq (g2 := F0 m 10 ls []) rfl ?_
  obtain ⟨t, hyt, ht, -⟩ := vmo.ix hy1
  refine lv_aload_n hx hb dX1_lineFor_10 rfl (lv_at hl 0 rfl) ?_
  refine vx_ret ?_
  exact g_aret S hr (Or.inl ⟨_, rfl⟩) dX1_lineFor_11 (Or.inr ⟨_, rfl⟩) hG hS (by first | exact Nat.le_refl _ | omega) (by first | exact Nat.le_refl _ | omega) ⟨k, t, hxk, hk, hyt, ht, rfl, rfl⟩
set_option maxHeartbeats 4000000 in
set_option maxRecDepth 100000 in
theorem metX1_month (l : Launch) {E : Ev} {G : gh} {st : Nat} {M : tM} {nn : tN} {w : cW}  (hC : cS E G st M nn w) : Met l yX1_month (ws_ yX1_month cX1_month 1 (some .int)) ({ frames := 0, cells := 0, slots := 0, locals := 0 }) (gP E G [.ref st]) (gQ E (fun v G' => v = some (.int (nI (nn 5))) ∧ G = G')) 0 0 (ev_A E) := by
  refine gMet RX1 (by decide) rfl (Nat.le_of_ble_eq_true rfl) ?_
  intro p e s m below meth c ls hx hb S hr hnm hl hG hS
  have hl : lv_has ls 1 [(0, .ref st)] := hl
  refine lv_aload_n hx hb dX1_month_0 rfl (lv_at hl 0 rfl) ?_
  refine gf_X1_264 S dX1_month_1 hG hC.1 rfl ?_
  exact g_iret S hr dX1_month_4 hG hS (by first | exact Nat.le_refl _ | omega) (by first | exact Nat.le_refl _ | omega) ⟨rfl, rfl⟩
set_option maxHeartbeats 4000000 in
set_option maxRecDepth 100000 in
theorem metX1_base (l : Launch) {E : Ev} {G : gh} {st : Nat} {M : tM} {nn : tN} {w : cW}  (hC : cS E G st M nn w) (hwf : sp_wf M nn) : Met l yX1_base (ws_ yX1_base cX1_base 1 (some (.object "CostStudio$View"))) ({ frames := 4, cells := 1, slots := 3, locals := 3150 }) (gP E G [.ref st]) (gQ E (fun v G' => ∃ q, v = some (.ref q) ∧ G q = none ∧ G' = gh_up G q (50, 0, .inr (12, [.ref st, .int 6, .ref (w.fs 0)])))) 1 3 (ev_A E) := by
  have h16 : nn 1 ≤ 6 := hwf.1.1
  have h10 : nn 2 ≤ 10 := hwf.1.2.1
  have h34 : nn 3 ≤ 4 := hwf.1.2.2.1.2
  have h31 : 1 ≤ nn 3 := hwf.1.2.2.1.1
  obtain ⟨ard, hMd, hAd⟩ := hC.2.1.1
  obtain ⟨ars, hMs, hAs⟩ := hC.2.2.1.1
  obtain ⟨arl, hMl, hAl⟩ := hC.2.2.2.1
  refine gMet RX1 (by decide) rfl (Nat.le_of_ble_eq_true rfl) ?_
  intro p e s m below meth c ls hx hb S hr hnm hl hG hS
  have hl : lv_has ls 1 [(0, .ref st)] := hl
  refine lv_aload_n hx hb dX1_base_0 rfl (lv_at hl 0 rfl) ?_
  refine lv_aload_n hx hb dX1_base_1 rfl (lv_at hl 0 rfl) ?_
  refine gf_X1_52 S dX1_base_2 hG hC.1 rfl ?_
  refine lv_iconst (v := 0) hx hb dX1_base_5 (by decide) ?_
  refine W.eq (g2 := F0 m 6 ls [.int (nI 0), .ref w.sl, .ref st]) rfl ?_
  refine g_call5 hS (va_runF (S.K.1 5 _ rfl).2 (As := [.int (nI 0)]) (rest := [.ref st]) S.1 (metJ2_get l (E := E) (G := G) hC.2.2.1.1 (i := 0) (show 0 < nn 3 by omega)) (va_cwF 1 S.ts (lw_F q512 q515 q517 q33 q519) rfl rfl rfl (S.2.1.1.2.1 _ (List.mem_of_getElem? (i := 2) rfl)) (by decide +kernel) ⟨Nat.le_of_ble_eq_true rfl, Nat.le_of_ble_eq_true rfl⟩) (S.preV hG hS hMs rfl) rfl rfl hl.1 rfl (lv_room (Nat.le_of_ble_eq_true rfl)) dX1_base_6 ⟨Nat.le_of_ble_eq_true rfl, Nat.le_of_ble_eq_true rfl⟩) (fun v G1 H locs hp hG hS => ?_)
  refine W.cs (cells' := 0) (slots' := 0) (by first | rfl | omega) (by first | rfl | omega) ?_
  obtain ⟨rfl, rfl⟩ := hp
  refine W.eq (g2 := F0 m 11 ls [.ref (w.fs 0), .ref st]) rfl ?_
  obtain ⟨dk, fx, mcx, hO, -⟩ := hC.2.2.1.2 0 (by omega)
  refine g_castS (nm := "CostStudio$Scenario") (S.K.1 1 _ rfl).2 S (S.ts _ q103) (S.recv hG (r := (RX2, TX2, 2)) hO rfl) dX1_base_11 ?_
  refine g_call hS (va_runV (As := [.ref (w.fs 0)]) (rest := []) S.1 (metX1_view l (E := E) (G := G) (sc := w.fs 0) hC.1) (cwV 1 S.ts (lw_V q520 q522 qs9 q30 q523) rfl rfl rfl (by decide +kernel) ⟨Nat.le_of_ble_eq_true rfl, Nat.le_of_ble_eq_true rfl⟩) (S.preV hG hS hC.1 rfl) rfl rfl hl.1 rfl (lv_room (Nat.le_of_ble_eq_true rfl)) dX1_base_14 ⟨Nat.le_of_ble_eq_true rfl, Nat.le_of_ble_eq_true rfl⟩) (fun v G1 H locs hp hG hS => ?_)
  refine W.cs (cells' := 1) (slots' := 3) (by first | rfl | omega) (by first | rfl | omega) ?_
  obtain ⟨q, rfl, hq, rfl⟩ := hp
  refine W.eq (g2 := F0 m 17 ls [.ref q]) rfl ?_
  exact g_aret S hr (Or.inl ⟨_, rfl⟩) dX1_base_17 (Or.inr ⟨_, rfl⟩) hG hS (by first | exact Nat.le_refl _ | omega) (by first | exact Nat.le_refl _ | omega) ⟨q, rfl, hq, rfl⟩
