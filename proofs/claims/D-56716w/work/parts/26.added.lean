/-! THE DIFFERENCES' SUM, AS THE COMPONENT ADDS IT -/
def cs_f (M : tM) (d t : Nat) (x : Nat) : Int32 := if M 6 x = nI d then (if M 7 x ≤ nI t then M 8 x else 0) else 0
def cs_fs (f : Nat → Int32) : List Nat → Int32
  | [] => 0
  | x :: r => f x + cs_fs f r
theorem cs_fs_app (f : Nat → Int32) (a b : List Nat) : cs_fs f (a ++ b) = cs_fs f a + cs_fs f b := by
  induction a with
  | nil => simp [cs_fs]
  | cons x r ih => simp only [List.cons_append, cs_fs, ih, Int32.add_assoc]
theorem cs_fs_take {f : Nat → Int32} {L : List Nat} {j x : Nat} (h : L[j]? = some x) : cs_fs f (L.take (j + 1)) = cs_fs f (L.take j) + f x := by
  rw [List.take_succ, h, cs_fs_app]
  simp [cs_fs]
theorem cs_fs_ds (f : Nat → Int32) (M : tM) (nx k : Nat) : cs_fs f (cs_ds M nx k) = sp_sum (fun x => decide (M 5 x = nI k)) f nx := by
  induction nx with
  | zero => rfl
  | succ n ih =>
    unfold cs_ds at ih ⊢
    rw [List.range_succ, List.filter_append, cs_fs_app, ih]
    by_cases h : M 5 n = nI k
    · simp [sp_sum, h, cs_fs]
    · simp [sp_sum, h, cs_fs]
def cs_ct (M : tM) (nx d t : Nat) : Nat → Nat → Int32
  | 0, _ => 0
  | n + 1, i => cs_fs (cs_f M d t) (cs_ds M nx i) + (if M 4 i < 0 then 0 else cs_ct M nx d t n (ixN (M 4 i)))
theorem cs_sum2 {c c1 c2 : Nat → Bool} {f g : Nat → Int32} {nx : Nat} (h : ∀ k, k < nx → (if c k = true then f k else 0) = (if c1 k = true then g k else 0) + (if c2 k = true then f k else 0)) : sp_sum c f nx = sp_sum c1 g nx + sp_sum c2 f nx := by
  induction nx with
  | zero => rfl
  | succ n ih =>
    simp only [sp_sum]
    rw [ih (fun k hk => h k (by omega)), h n (Nat.lt_succ_self _)]
    ac_rfl
theorem cs_sum1 {c c1 : Nat → Bool} {f g : Nat → Int32} {nx : Nat} (h : ∀ k, k < nx → (if c k = true then f k else 0) = (if c1 k = true then g k else 0)) : sp_sum c f nx = sp_sum c1 g nx := by
  induction nx with
  | zero => rfl
  | succ n ih =>
    simp only [sp_sum]
    rw [ih (fun k hk => h k (by omega)), h n (Nat.lt_succ_self _)]
theorem sp_ch_le {M : tM} {nn : tN} (hwf : sp_wf M nn) {j : Nat} : ∀ (n i : Nat), i < nn 3 → j ∈ sp_ch (M 4) n i → j ≤ i := by
  intro n
  induction n with
  | zero => intro i _ h; simp [sp_ch] at h
  | succ n ih =>
    intro i hi h
    have h34 : nn 3 ≤ 4 := hwf.1.2.2.1.2
    by_cases hp : M 4 i < 0
    · simp only [sp_ch, hp, if_true, List.mem_cons, List.not_mem_nil, or_false] at h
      omega
    · simp only [sp_ch, hp, if_false, List.mem_cons] at h
      rcases h with h | h
      · omega
      · by_cases h0 : i = 0
        · subst h0
          exact absurd (by rw [hwf.2.1.1]; decide) hp
        · obtain ⟨q, hq, e⟩ := hwf.2.1.2 i (by omega) hi
          rw [e, ixN_nI (by omega)] at h
          have := ih q (by omega) h
          omega
theorem cs_ct_eq {M : tM} {nn : tN} (hwf : sp_wf M nn) {d t : Nat} : ∀ (n i : Nat), i < n → i < nn 3 → cs_ct M (nn 4) d t n i = sp_sum (fun k => decide (M 6 k = nI d) && (decide (M 7 k ≤ nI t) && decide (ixN (M 5 k) ∈ sp_ch (M 4) n i))) (M 8) (nn 4) := by
  intro n
  induction n with
  | zero => intro i h; exact absurd h (Nat.not_lt_zero _)
  | succ n ih =>
    intro i hin hi
    have h34 : nn 3 ≤ 4 := hwf.1.2.2.1.2
    have five : ∀ k, k < nn 4 → ∃ j, j < nn 3 ∧ M 5 k = nI j ∧ ixN (M 5 k) = j ∧ (M 5 k = nI i ↔ j = i) := fun k hk => by
      obtain ⟨⟨j, -, hj, e⟩, -⟩ := hwf.2.2.2.1 k hk
      exact ⟨j, hj, e, by rw [e]; exact ixN_nI (by omega), by rw [e]; exact nI_eq (by omega) (by omega)⟩
    rw [cs_ct, cs_fs_ds]
    by_cases hp : M 4 i < 0
    · rw [if_pos hp, Int32.add_zero]
      symm
      refine cs_sum1 (fun k hk => ?_)
      obtain ⟨j, hj, e, e2, e3⟩ := five k hk
      have hm : (ixN (M 5 k) ∈ sp_ch (M 4) (n + 1) i) ↔ M 5 k = nI i := by
        rw [e3, e2]
        simp [sp_ch, hp]
      simp only [hm, cs_f]
      by_cases a : M 6 k = nI d <;> by_cases b : M 7 k ≤ nI t <;> by_cases c : M 5 k = nI i <;> simp [a, b, c]
    · have h0 : i ≠ 0 := fun q => hp (by rw [q, hwf.2.1.1]; decide)
      obtain ⟨q, hq, eq⟩ := hwf.2.1.2 i (by omega) hi
      have e4 : ixN (M 4 i) = q := by rw [eq]; exact ixN_nI (by omega)
      rw [if_neg hp, e4, ih q (by omega) (by omega)]
      symm
      refine cs_sum2 (fun k hk => ?_)
      obtain ⟨j, hj, e, e2, e3⟩ := five k hk
      have hm : (ixN (M 5 k) ∈ sp_ch (M 4) (n + 1) i) ↔ (M 5 k = nI i ∨ ixN (M 5 k) ∈ sp_ch (M 4) n q) := by
        rw [e3, e2]
        simp [sp_ch, hp, e4]
      have hx : M 5 k = nI i → ¬ ixN (M 5 k) ∈ sp_ch (M 4) n q := fun h9 h8 => by
        have := sp_ch_le hwf n q (by omega) h8
        rw [e2, e3.mp h9] at this
        omega
      simp only [hm, cs_f]
      by_cases c : M 5 k = nI i
      · have d9 := hx c
        rw [c] at d9
        by_cases a : M 6 k = nI d <;> by_cases b : M 7 k ≤ nI t <;> simp [a, b, c, d9]
      · by_cases a : M 6 k = nI d <;> by_cases b : M 7 k ≤ nI t <;> by_cases d9 : ixN (M 5 k) ∈ sp_ch (M 4) n q <;> simp [a, b, c, d9]
set_option maxHeartbeats 4000000 in
set_option maxRecDepth 100000 in
theorem metX2_added (l : Launch) {E : Ev} {G : gh} {st : Nat} {M : tM} {nn : tN} {w : cW} {i d t : Nat}  (hC : cS E G st M nn w) (hwf : sp_wf M nn) (hi : i < nn 3) : Met l yX2_added (ws_ yX2_added cX2_added 7 (some .int)) ({ frames := 3, cells := 0, slots := 0, locals := 150 }) (gP E G [.ref (w.fs i), .int (nI d), .int (nI t)]) (gQ E (fun v G' => v = some (.int (sp_sum (sp_mt M i d t) (M 8) (nn 4))) ∧ G = G')) 0 0 (ev_A E) := by
  have h16 : nn 1 ≤ 6 := hwf.1.1
  have h10 : nn 2 ≤ 10 := hwf.1.2.1
  have h34 : nn 3 ≤ 4 := hwf.1.2.2.1.2
  have h31 : 1 ≤ nn 3 := hwf.1.2.2.1.1
  obtain ⟨ard, hMd, hAd⟩ := hC.2.1.1
  obtain ⟨ars, hMs, hAs⟩ := hC.2.2.1.1
  obtain ⟨arl, hMl, hAl⟩ := hC.2.2.2.1
  refine gMet RX2 (by decide) rfl (Nat.le_of_ble_eq_true rfl) ?_
  intro p e s m below meth c ls hx hb S hr hnm hl hG hS
  have hl : lv_has ls 7 [(0, .ref (w.fs i)), (1, .int (nI d)), (2, .int (nI t))] := hl
  have hwf0 := hwf
  refine lv_iconst (v := 0) hx hb dX2_added_0 (by decide) ?_
  refine lv_istore_n (lv' := [(3, .int 0), (0, .ref (w.fs i)), (1, .int (nI d)), (2, .int (nI t))]) hx hb dX2_added_1 rfl hl (by decide) rfl (fun ls hl => ?_)
  refine lv_aload_n hx hb dX2_added_2 rfl (lv_at hl 1 rfl) ?_
  refine lv_astore (lv' := [(4, .ref (w.fs i)), (3, .int 0), (0, .ref (w.fs i)), (1, .int (nI d)), (2, .int (nI t))]) hx hb dX2_added_3 hl (by decide) rfl (fun ls hl => ?_)
  have hl : lv_has ls 7 [(3, .int 0), (4, .ref (w.fs i)), (0, .ref (w.fs i)), (1, .int (nI d)), (2, .int (nI t))] := (lv_sub hl [1, 0, 2, 3, 4] rfl)
  refine g_while (E := E) (α := Option Nat × Int32) (fun x => match x.1 with | none => 0 | some k => k + 1) (fun x G1 => G = G1 ∧ match x.1 with | none => x.2 = cs_ct M (nn 4) d t 4 i | some k => k < nn 3 ∧ ∃ n, k < n ∧ x.2 + cs_ct M (nn 4) d t n k = cs_ct M (nn 4) d t 4 i) (fun _ => 0) (fun _ => 0) 7 5 (fun x => [(3, .int x.2), (4, match x.1 with | none => .null | some k => .ref (w.fs k)), (0, .ref (w.fs i)), (1, .int (nI d)), (2, .int (nI t))]) ?_ (some i, 0) G s.heap _ ls ⟨rfl, hi, 4, by omega, Int32.zero_add _⟩ hG hS hl
  intro x G1 H locs ls ihO hI hG hS hl
  obtain ⟨cur, acc⟩ := x
  obtain ⟨rfl, hI⟩ := hI
  rcases cur with _ | k
  · have hl : lv_has ls 7 [(3, .int acc), (4, .null), (0, .ref (w.fs i)), (1, .int (nI d)), (2, .int (nI t))] := hl
    refine lv_aloadN hx hb dX2_added_5 (lv_at hl 1 rfl) ?_
    refine lv_ifnullN (tgt := 91) hx hb dX2_added_7 (by decide) ?_
    refine lv_iload_n hx hb dX2_added_91 rfl (lv_at hl 0 rfl) ?_
    exact g_iret S hr dX2_added_92 hG hS (by first | exact Nat.le_refl _ | omega) (by first | exact Nat.le_refl _ | omega) ⟨by rw [show acc = cs_ct M (nn 4) d t 4 i from hI, cs_ct_eq hwf 4 i (by omega) hi]; rfl, rfl⟩
  · obtain ⟨hk, n, hkn, hacc⟩ := hI
    have hl : lv_has ls 7 [(3, .int acc), (4, .ref (w.fs k)), (0, .ref (w.fs i)), (1, .int (nI d)), (2, .int (nI t))] := hl
    obtain ⟨dk, fx, mcx, hO, hL, hD⟩ := hC.2.2.1.2 k hk
    obtain ⟨arx, hMx, hAx⟩ := id hL
    have hlen := hAx.le_c
    refine lv_aload hx hb dX2_added_5 (lv_at hl 1 rfl) ?_
    refine lv_ifnull hx hb dX2_added_7 ?_
    refine lv_iconst (v := 0) hx hb dX2_added_10 (by decide) ?_
    refine lv_istore (lv' := [(5, .int 0), (3, .int acc), (4, .ref (w.fs k)), (0, .ref (w.fs i)), (1, .int (nI d)), (2, .int (nI t))]) hx hb dX2_added_11 hl (by decide) rfl (fun ls hl => ?_)
    have hl : lv_has ls 7 [(3, .int (acc + cs_fs (cs_f M d t) ((cs_ds M (nn 4) k).take (0)))), (5, .int (nI (0))), (4, .ref (w.fs k)), (0, .ref (w.fs i)), (1, .int (nI d)), (2, .int (nI t))] := by rw [show acc + cs_fs (cs_f M d t) ((cs_ds M (nn 4) k).take 0) = acc from Int32.add_zero _]; exact (lv_sub hl [1, 0, 2, 3, 4, 5] rfl)
    refine g_while (E := E) (α := Nat) (fun j => (cs_ds M (nn 4) k).length - j) (fun j G1 => G = G1 ∧ j ≤ (cs_ds M (nn 4) k).length) (fun _ => 0) (fun _ => 0) 7 13 (fun j => [(3, .int (acc + cs_fs (cs_f M d t) ((cs_ds M (nn 4) k).take (j)))), (5, .int (nI (j))), (4, .ref (w.fs k)), (0, .ref (w.fs i)), (1, .int (nI d)), (2, .int (nI t))]) ?_ 0 G H _ ls ⟨rfl, Nat.zero_le _⟩ hG hS hl
    clear hG hS hl
    intro j G1 H locs ls ih hI hG hS hl
    obtain ⟨rfl, hj⟩ := hI
    have hl : lv_has ls 7 [(3, .int (acc + cs_fs (cs_f M d t) ((cs_ds M (nn 4) k).take (j)))), (5, .int (nI (j))), (4, .ref (w.fs k)), (0, .ref (w.fs i)), (1, .int (nI d)), (2, .int (nI t))] := hl
    refine lv_iload hx hb dX2_added_13 (lv_at hl 1 rfl) ?_
    refine lv_aload hx hb dX2_added_15 (lv_at hl 2 rfl) ?_
    refine gf_X2_10 S dX2_added_17 hG hO rfl ?_
    refine g_call5 hS (va_runF (S.K.1 5 _ rfl).2 (As := []) (rest := [.int (nI (j))]) S.1 (metJ2_size l (E := E) (G := G) hL) (va_cwF 0 S.ts (lw_F q541 q373 q375 q33 q377) rfl rfl rfl (S.2.1.1.2.1 _ (List.mem_of_getElem? (i := 1) rfl)) (by decide +kernel) ⟨Nat.le_of_ble_eq_true rfl, Nat.le_of_ble_eq_true rfl⟩) (S.preV hG hS hMx rfl) rfl rfl hl.1 rfl (lv_room (Nat.le_of_ble_eq_true rfl)) dX2_added_20 ⟨Nat.le_of_ble_eq_true rfl, Nat.le_of_ble_eq_true rfl⟩) (fun v G1 H locs hp hG hS => ?_)
    refine W.cs (cells' := 0) (slots' := 0) (by first | rfl | omega) (by first | rfl | omega) ?_
    obtain ⟨rfl, rfl⟩ := hp
    refine W.eq (g2 := F0 m 25 ls [.int (nI (cs_ds M (nn 4) k).length), .int (nI (j))]) rfl ?_
    refine lv_icmp_ge (tgt := 81) hx hb dX2_added_25 (by decide) (fun h25 => ?_) (fun h25 => ?_)
    · have hje : j = (cs_ds M (nn 4) k).length := by
        rcases Nat.lt_or_ge j (cs_ds M (nn 4) k).length with q | q
        · exact absurd h25 (nI_ge q (by omega))
        · omega
      subst hje
      rw [List.take_length] at hl
      obtain ⟨n, rfl⟩ : ∃ n', n = n' + 1 := ⟨n - 1, by omega⟩
      rw [cs_ct] at hacc
      refine lv_aload hx hb dX2_added_81 (lv_at hl 2 rfl) ?_
      refine gf_X2_16 S dX2_added_83 hG hO rfl ?_
      by_cases hk0 : k = 0
      · refine W.eq (g2 := F0 m 86 ls [.null]) (by rw [if_pos hk0]) ?_
        refine lv_astoreN (lv' := [(4, .null), (3, .int (acc + cs_fs (cs_f M d t) (cs_ds M (nn 4) k))), (5, .int (nI (cs_ds M (nn 4) k).length)), (0, .ref (w.fs i)), (1, .int (nI d)), (2, .int (nI t))]) hx hb dX2_added_86 hl (by decide) rfl (fun ls hl => ?_)
        refine lv_goto (tgt := 5) hx hb dX2_added_88 (by decide) ?_
        exact ihO (none, acc + cs_fs (cs_f M d t) (cs_ds M (nn 4) k)) G H locs ls ⟨rfl, by rw [if_pos (by rw [hk0, hwf.2.1.1]; decide), Int32.add_zero] at hacc; exact hacc⟩ (Nat.succ_pos _) hG hS (lv_sub hl [1, 0, 3, 4, 5] rfl)
      · obtain ⟨q, hq, eq⟩ := hwf.2.1.2 k (by omega) hk
        have e4 : ixN (M 4 k) = q := by rw [eq]; exact ixN_nI (by omega)
        refine W.eq (g2 := F0 m 86 ls [.ref (w.fs q)]) (by rw [if_neg hk0, e4]) ?_
        refine lv_astore (lv' := [(4, .ref (w.fs q)), (3, .int (acc + cs_fs (cs_f M d t) (cs_ds M (nn 4) k))), (5, .int (nI (cs_ds M (nn 4) k).length)), (0, .ref (w.fs i)), (1, .int (nI d)), (2, .int (nI t))]) hx hb dX2_added_86 hl (by decide) rfl (fun ls hl => ?_)
        refine lv_goto (tgt := 5) hx hb dX2_added_88 (by decide) ?_
        exact ihO (some q, acc + cs_fs (cs_f M d t) (cs_ds M (nn 4) k)) G H locs ls ⟨rfl, by omega, n, by omega, by rw [if_neg (by rw [eq]; exact nI_pos (by omega)), e4, ← Int32.add_assoc] at hacc; exact hacc⟩ (by show q + 1 < k + 1; omega) hG hS (lv_sub hl [1, 0, 3, 4, 5] rfl)
    · have hlt : j < (cs_ds M (nn 4) k).length := by
        rcases Nat.lt_or_ge j (cs_ds M (nn 4) k).length with q | q
        · exact q
        · exact absurd (nI_le q (by omega)) h25
      obtain ⟨x, hx1⟩ : ∃ x, (cs_ds M (nn 4) k)[j]? = some x := ⟨_, List.getElem?_eq_getElem hlt⟩
      have hDx := hD j x hx1
      refine lv_aload hx hb dX2_added_28 (lv_at hl 2 rfl) ?_
      refine gf_X2_10 S dX2_added_30 hG hO rfl ?_
      refine lv_iload hx hb dX2_added_33 (lv_at hl 1 rfl) ?_
      refine g_call5 hS (va_runF (S.K.1 5 _ rfl).2 (As := [.int (nI (j))]) (rest := []) S.1 (metJ2_get l (E := E) (G := G) hL (i := j) hlt) (va_cwF 1 S.ts (lw_F q543 q515 q517 q33 q519) rfl rfl rfl (S.2.1.1.2.1 _ (List.mem_of_getElem? (i := 2) rfl)) (by decide +kernel) ⟨Nat.le_of_ble_eq_true rfl, Nat.le_of_ble_eq_true rfl⟩) (S.preV hG hS hMx rfl) rfl rfl hl.1 rfl (lv_room (Nat.le_of_ble_eq_true rfl)) dX2_added_35 ⟨Nat.le_of_ble_eq_true rfl, Nat.le_of_ble_eq_true rfl⟩) (fun v G1 H locs hp hG hS => ?_)
      refine W.cs (cells' := 0) (slots' := 0) (by first | rfl | omega) (by first | rfl | omega) ?_
      obtain ⟨rfl, rfl⟩ := hp
      refine W.eq (g2 := F0 m 40 ls [.ref (fx j)]) rfl ?_
      refine g_castS (nm := "CostStudio$Difference") (S.K.1 3 _ rfl).2 S (S.ts _ q544) (S.recv hG (r := (RX8, TX8, 3)) hDx rfl) dX2_added_40 ?_
      refine lv_astore (lv' := [(6, .ref (fx j)), (3, .int (acc + cs_fs (cs_f M d t) ((cs_ds M (nn 4) k).take (j)))), (5, .int (nI (j))), (4, .ref (w.fs k)), (0, .ref (w.fs i)), (1, .int (nI d)), (2, .int (nI t))]) hx hb dX2_added_43 hl (by decide) rfl (fun ls hl => ?_)
      refine lv_iload_n hx hb dX2_added_45 rfl (lv_at hl 1 rfl) ?_
      refine lv_aload hx hb dX2_added_46 (lv_at hl 0 rfl) ?_
      refine gf_X2_32 S dX2_added_48 hG hDx rfl ?_
      refine lv_iload_n hx hb dX2_added_51 rfl (lv_at hl 5 rfl) ?_
      refine lv_icmp_ne (tgt := 72) hx hb dX2_added_52 (by decide) (fun h52 => ?_) (fun h52 => ?_)
      · refine lv_iconst (v := 0) hx hb dX2_added_72 (by decide) ?_
        refine lv_iadd hx hb dX2_added_73 ?_
        refine lv_istore_n (lv' := [(3, .int ((acc + cs_fs (cs_f M d t) ((cs_ds M (nn 4) k).take (j))) + 0)), (6, .ref (fx j)), (5, .int (nI (j))), (4, .ref (w.fs k)), (0, .ref (w.fs i)), (1, .int (nI d)), (2, .int (nI t))]) hx hb dX2_added_74 rfl hl (by decide) rfl (fun ls hl => ?_)
        refine lv_iinc (v := ((nI (j)) + 1)) (lv' := [(5, .int ((nI (j)) + 1)), (3, .int ((acc + cs_fs (cs_f M d t) ((cs_ds M (nn 4) k).take (j))) + 0)), (6, .ref (fx j)), (4, .ref (w.fs k)), (0, .ref (w.fs i)), (1, .int (nI d)), (2, .int (nI t))]) hx hb dX2_added_75 hl (k := 2) rfl rfl (by decide) rfl (fun ls hl => ?_)
        refine lv_goto (tgt := 13) hx hb dX2_added_78 (by decide) ?_
        exact ih (j + 1) G H locs ls ⟨rfl, hlt⟩ (by omega) hG hS (by rw [cs_fs_take hx1, nI_succ, ← Int32.add_assoc, show cs_f M d t x = 0 from if_neg h52]; exact (lv_sub hl [1, 0, 3, 4, 5, 6] rfl))
      · refine lv_aload hx hb dX2_added_55 (lv_at hl 0 rfl) ?_
        refine gf_X2_36 S dX2_added_57 hG hDx rfl ?_
        refine lv_iload_n hx hb dX2_added_60 rfl (lv_at hl 6 rfl) ?_
        refine lv_icmp_gt (tgt := 72) hx hb dX2_added_61 (by decide) (fun h61 => ?_) (fun h61 => ?_)
        · refine lv_iconst (v := 0) hx hb dX2_added_72 (by decide) ?_
          refine lv_iadd hx hb dX2_added_73 ?_
          refine lv_istore_n (lv' := [(3, .int ((acc + cs_fs (cs_f M d t) ((cs_ds M (nn 4) k).take (j))) + 0)), (6, .ref (fx j)), (5, .int (nI (j))), (4, .ref (w.fs k)), (0, .ref (w.fs i)), (1, .int (nI d)), (2, .int (nI t))]) hx hb dX2_added_74 rfl hl (by decide) rfl (fun ls hl => ?_)
          refine lv_iinc (v := ((nI (j)) + 1)) (lv' := [(5, .int ((nI (j)) + 1)), (3, .int ((acc + cs_fs (cs_f M d t) ((cs_ds M (nn 4) k).take (j))) + 0)), (6, .ref (fx j)), (4, .ref (w.fs k)), (0, .ref (w.fs i)), (1, .int (nI d)), (2, .int (nI t))]) hx hb dX2_added_75 hl (k := 2) rfl rfl (by decide) rfl (fun ls hl => ?_)
          refine lv_goto (tgt := 13) hx hb dX2_added_78 (by decide) ?_
          exact ih (j + 1) G H locs ls ⟨rfl, hlt⟩ (by omega) hG hS (by rw [cs_fs_take hx1, nI_succ, ← Int32.add_assoc, show cs_f M d t x = 0 from (if_pos h52).trans (if_neg (Int32.not_le.mpr h61))]; exact (lv_sub hl [1, 0, 3, 4, 5, 6] rfl))
        · refine lv_aload hx hb dX2_added_64 (lv_at hl 0 rfl) ?_
          refine gf_X2_39 S dX2_added_66 hG hDx rfl ?_
          refine lv_goto (tgt := 73) hx hb dX2_added_69 (by decide) ?_
          refine lv_iadd hx hb dX2_added_73 ?_
          refine lv_istore_n (lv' := [(3, .int ((acc + cs_fs (cs_f M d t) ((cs_ds M (nn 4) k).take (j))) + (M 8 x))), (6, .ref (fx j)), (5, .int (nI (j))), (4, .ref (w.fs k)), (0, .ref (w.fs i)), (1, .int (nI d)), (2, .int (nI t))]) hx hb dX2_added_74 rfl hl (by decide) rfl (fun ls hl => ?_)
          refine lv_iinc (v := ((nI (j)) + 1)) (lv' := [(5, .int ((nI (j)) + 1)), (3, .int ((acc + cs_fs (cs_f M d t) ((cs_ds M (nn 4) k).take (j))) + (M 8 x))), (6, .ref (fx j)), (4, .ref (w.fs k)), (0, .ref (w.fs i)), (1, .int (nI d)), (2, .int (nI t))]) hx hb dX2_added_75 hl (k := 2) rfl rfl (by decide) rfl (fun ls hl => ?_)
          refine lv_goto (tgt := 13) hx hb dX2_added_78 (by decide) ?_
          exact ih (j + 1) G H locs ls ⟨rfl, hlt⟩ (by omega) hG hS (by rw [cs_fs_take hx1, nI_succ, ← Int32.add_assoc, show cs_f M d t x = M 8 x from (if_pos h52).trans (if_pos (Int32.not_lt.mp h61))]; exact (lv_sub hl [1, 0, 3, 4, 5, 6] rfl))
