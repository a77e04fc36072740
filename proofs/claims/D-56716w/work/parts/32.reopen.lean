/-! ALL APPROVALS ARE LOOKED AT -/
def gT14 : Nat → Nat → Prop := fun a _ => a = 14 ∨ a = 62
theorem sp_st_14 {M : tM} {nx n q : Nat} (h : n ≤ q) : sp_st (va_up M 14 (sp_ap M nx n)) nx q = sp_st M nx q := by
  have e : va_up M 14 (sp_ap M nx n) 14 q = M 14 q := by
    show sp_ap M nx n q = M 14 q
    unfold sp_ap
    rw [if_neg (by omega)]
  unfold sp_st
  rw [e, sp_fd_14]
  rfl
theorem sp_ap_q {M : tM} {nx q : Nat} : va_up M 14 (sp_ap M nx q) 14 q = M 14 q := sp_ap_at
theorem va_up_upd {M : tM} {f g : Nat → Int32} (h : g = f) : va_up (va_up M 14 f) 14 g = va_up M 14 f := by
  subst h
  funext i
  unfold va_up
  split <;> rfl
theorem va_up_2 {M : tM} {f g : Nat → Int32} : va_up (va_up M 14 f) 14 g = va_up M 14 g := by
  funext i
  unfold va_up
  split <;> rfl
set_option maxHeartbeats 4000000 in
set_option maxRecDepth 100000 in
theorem metX1_reopen (l : Launch) {E : Ev} {G : gh} (hl0 : l.stackTraces = false) {st : Nat} {M : tM} {nn : tN} {w : cW}  (hC : cS E G st M nn w) (hwf : sp_wf M nn) : Met l yX1_reopen (ws_ yX1_reopen cX1_reopen 5 (some .int)) ({ frames := 32, cells := 241, slots := 1084, locals := 4200 }) (gP E G [.ref st]) (gQ E (fun v G' => v = some (.int (nI (sp_ct M (nn 4) (12 * nn 2)))) ∧ cS E G' st (va_up M 14 (sp_ap M (nn 4) (12 * nn 2))) nn w ∧ gh_fr gT14 G G')) 241 1084 (ev_A E) := by
  have h16 : nn 1 ≤ 6 := hwf.1.1
  have h10 : nn 2 ≤ 10 := hwf.1.2.1
  have h34 : nn 3 ≤ 4 := hwf.1.2.2.1.2
  have h31 : 1 ≤ nn 3 := hwf.1.2.2.1.1
  obtain ⟨ard, hMd, hAd⟩ := hC.2.1.1
  obtain ⟨ars, hMs, hAs⟩ := hC.2.2.1.1
  obtain ⟨arl, hMl, hAl⟩ := hC.2.2.2.1
  refine gMet RX1 (by decide) rfl (Nat.le_of_ble_eq_true rfl) ?_
  intro p e s m below meth c ls hx hb S hr hnm hl hG hS
  have hl : lv_has ls 5 [(0, .ref st)] := hl
  refine lv_iconst (v := 0) hx hb dX1_reopen_0 (by decide) ?_
  refine lv_istore_n (lv' := [(1, .int 0), (0, .ref st)]) hx hb dX1_reopen_1 rfl hl (by decide) rfl (fun ls hl => ?_)
  refine lv_aload_n hx hb dX1_reopen_2 rfl (lv_at hl 1 rfl) ?_
  refine gf_X1_55 S dX1_reopen_3 hG hC.1 rfl ?_
  refine g_call5 hS (va_runF (S.K.1 5 _ rfl).2 (As := []) (rest := []) S.1 (metJ2_iterator l (E := E) (G := G) hC.2.2.2.1) (va_cwF 0 S.ts (lw_F q220 q223 q225 q33 q227) rfl rfl rfl (S.2.1.1.2.1 _ (List.mem_of_getElem? (i := 4) rfl)) (by decide +kernel) ⟨Nat.le_of_ble_eq_true rfl, Nat.le_of_ble_eq_true rfl⟩) (S.preV hG hS hMl rfl) rfl rfl hl.1 rfl (lv_room (Nat.le_of_ble_eq_true rfl)) dX1_reopen_6 ⟨Nat.le_of_ble_eq_true rfl, Nat.le_of_ble_eq_true rfl⟩) (fun v G1 H locs hp hG hS => ?_)
  refine W.cs (cells' := 1) (slots' := 4) (by first | rfl | omega) (by first | rfl | omega) ?_
  obtain ⟨q, rfl, hI, hF⟩ := hp
  refine W.eq (g2 := F0 m 11 ls [.ref q]) rfl ?_
  have hC := hC.mono hF (fun t i h => by have : t = 62 := h; omega)
  have hF : gh_fr gT14 G G1 := hF.mono (fun t i h => Or.inr h)
  refine lv_astore_n (lv' := [(2, .ref q), (1, .int 0), (0, .ref st)]) hx hb dX1_reopen_11 rfl hl (by decide) rfl (fun ls hl => ?_)
  have hl : lv_has ls 5 [(1, .int (nI (sp_ct M (nn 4) (12 * (0))))), (2, .ref q), (0, .ref st)] := (lv_sub hl [1, 0, 2] rfl)
  refine g_while (E := E) (α := Nat) (fun k => nn 2 - k) (fun k G1 => k ≤ nn 2 ∧ cS E G1 st (va_up M 14 (sp_ap M (nn 4) (12 * k))) nn w ∧ gIt E G1 q k w.ll w.ml ∧ gh_fr gT14 G G1) (fun k => 1 + 24 * k) (fun k => 4 + 108 * k) 5 12 (fun k => [(1, .int (nI (sp_ct M (nn 4) (12 * (k))))), (2, .ref q), (0, .ref st)]) ?_ 0 G1 H _ ls ⟨Nat.zero_le _, by show cS E G1 st (va_up M 14 (sp_ap M (nn 4) (0))) nn w; rw [sp_ap_0]; exact hC, hI, hF⟩ hG hS hl
  clear hG hS hl hF hI hC
  intro k G2 H locs ls ihO hI9 hG hS hl
  obtain ⟨hk, hC, hI, hF⟩ := hI9
  have hI0 := hI
  obtain ⟨ki, lr, hq⟩ := hI
  obtain ⟨arl, hMl, hAl⟩ := hC.2.2.2.1
  have hl : lv_has ls 5 [(1, .int (nI (sp_ct M (nn 4) (12 * (k))))), (2, .ref q), (0, .ref st)] := hl
  refine lv_aload_n hx hb dX1_reopen_12 rfl (lv_at hl 1 rfl) ?_
  refine g_call5 hS (va_runF (S.K.1 6 _ rfl).2 (As := []) (rest := []) S.1 (metJ18_hasNext l (E := E) (G := G2) hI0 hC.2.2.2.1 hk) (va_cwF 0 S.ts (lw_F q248 q252 q254 q53 q256) rfl rfl rfl (S.2.1.1.2.1 _ (List.mem_of_getElem? (i := 6) rfl)) (by decide +kernel) ⟨Nat.le_of_ble_eq_true rfl, Nat.le_of_ble_eq_true rfl⟩) (S.preV hG hS hq rfl) rfl rfl hl.1 rfl (lv_room (Nat.le_of_ble_eq_true rfl)) dX1_reopen_13 ⟨by first | exact Nat.le_of_ble_eq_true rfl | (show _ ≤ 241; omega), by first | exact Nat.le_of_ble_eq_true rfl | (show _ ≤ 1084; omega)⟩) (fun v G1 H locs hp hG hS => ?_)
  refine W.cs (cells' := (1 + 24 * k)) (slots' := (4 + 108 * k)) (by first | rfl | omega) (by first | rfl | omega) ?_
  obtain ⟨rfl, rfl⟩ := hp
  by_cases hkn : k = nn 2
  · refine W.eq (g2 := F0 m 18 ls [.int 0]) (by rw [if_pos hkn]; rfl) ?_
    refine lv_if_eq (tgt := 97) hx hb dX1_reopen_18 (by decide) (fun _ => ?_) (fun h => absurd h (by decide))
    subst hkn
    refine lv_iload_n hx hb dX1_reopen_97 rfl (lv_at hl 0 rfl) ?_
    exact g_iret S hr dX1_reopen_98 hG hS (by first | exact Nat.le_refl _ | omega) (by first | exact Nat.le_refl _ | omega) ⟨rfl, hC, hF⟩
  · refine W.eq (g2 := F0 m 18 ls [.int 1]) (by rw [if_neg hkn]; rfl) ?_
    refine lv_if_eq (tgt := 97) hx hb dX1_reopen_18 (by decide) (fun h => absurd h (by decide)) (fun _ => ?_)
    have hk2 : k < nn 2 := by omega
    refine lv_aload_n hx hb dX1_reopen_21 rfl (lv_at hl 1 rfl) ?_
    refine g_call5 hS (va_runF (S.K.1 6 _ rfl).2 (As := []) (rest := []) S.1 (metJ18_next l (E := E) (G := G2) hI0 hC.2.2.2.1 hk2) (va_cwF 0 S.ts (lw_F q258 q261 q263 q53 q265) rfl rfl rfl (S.2.1.1.2.1 _ (List.mem_of_getElem? (i := 7) rfl)) (by decide +kernel) ⟨Nat.le_of_ble_eq_true rfl, Nat.le_of_ble_eq_true rfl⟩) (S.preV hG hS hq rfl) rfl rfl hl.1 rfl (lv_room (Nat.le_of_ble_eq_true rfl)) dX1_reopen_22 ⟨by first | exact Nat.le_of_ble_eq_true rfl | (show _ ≤ 241; omega), by first | exact Nat.le_of_ble_eq_true rfl | (show _ ≤ 1084; omega)⟩) (fun v G1 H locs hp hG hS => ?_)
    refine W.cs (cells' := (1 + 24 * k)) (slots' := (4 + 108 * k)) (by first | rfl | omega) (by first | rfl | omega) ?_
    obtain ⟨rfl, hI, hF2⟩ := hp
    refine W.eq (g2 := F0 m 27 ls [.ref (w.fl k)]) rfl ?_
    have hC := hC.mono hF2 (fun t i h => by have : t = 62 := h; omega)
    have hF := hF.tr (hF2.mono (fun t i h => Or.inr h))
    clear hF2 hq hMl
    obtain ⟨_, _, _, _, _, _, hOc, -⟩ := hC.2.2.2.2 k hk2
    refine g_castS (nm := "CostStudio$Line") (S.K.1 2 _ rfl).2 S (S.ts _ q340) (S.recv hG (r := (RX7, TX7, 7)) hOc rfl) dX1_reopen_27 ?_
    refine lv_astore_n (lv' := [(3, .ref (w.fl k)), (1, .int (nI (sp_ct M (nn 4) (12 * (k))))), (2, .ref q), (0, .ref st)]) hx hb dX1_reopen_30 rfl hl (by decide) rfl (fun ls hl => ?_)
    refine lv_iconst (v := 0) hx hb dX1_reopen_31 (by decide) ?_
    refine lv_istore (lv' := [(4, .int 0), (3, .ref (w.fl k)), (1, .int (nI (sp_ct M (nn 4) (12 * (k))))), (2, .ref q), (0, .ref st)]) hx hb dX1_reopen_32 hl (by decide) rfl (fun ls hl => ?_)
    have hl : lv_has ls 5 [(4, .int (nI (0))), (1, .int (nI (sp_ct M (nn 4) (12 * k + (0))))), (3, .ref (w.fl k)), (2, .ref q), (0, .ref st)] := (lv_sub hl [0, 2, 1, 3, 4] rfl)
    refine g_while (E := E) (α := Nat) (fun t => 12 - t) (fun t G1 => t ≤ 12 ∧ cS E G1 st (va_up M 14 (sp_ap M (nn 4) (12 * k + t))) nn w ∧ gIt E G1 q (k + 1) w.ll w.ml ∧ gh_fr gT14 G G1) (fun t => 1 + 24 * k + 2 * t) (fun t => 4 + 108 * k + 9 * t) 5 34 (fun t => [(4, .int (nI (t))), (1, .int (nI (sp_ct M (nn 4) (12 * k + (t))))), (3, .ref (w.fl k)), (2, .ref q), (0, .ref st)]) ?_ 0 _ H _ ls ⟨Nat.zero_le _, hC, hI, hF⟩ hG hS hl
    clear hG hS hl hF hI hC hOc
    intro t G3 H locs ls ih hI9 hG hS hl
    obtain ⟨ht, hC, hI, hF⟩ := hI9
    have hl : lv_has ls 5 [(4, .int (nI (t))), (1, .int (nI (sp_ct M (nn 4) (12 * k + (t))))), (3, .ref (w.fl k)), (2, .ref q), (0, .ref st)] := hl
    refine lv_iload hx hb dX1_reopen_34 (lv_at hl 0 rfl) ?_
    refine lv_bipush (v := 12) hx hb dX1_reopen_36 (by decide) ?_
    refine lv_icmp_ge (tgt := 94) hx hb dX1_reopen_38 (by decide) (fun h38 => ?_) (fun h38 => ?_)
    · have ht12 : t = 12 := by
        rcases Nat.lt_or_ge t 12 with a | a
        · exact absurd h38 (nI_ge a (by decide))
        · omega
      subst ht12
      refine lv_goto (tgt := 12) hx hb dX1_reopen_94 (by decide) ?_
      exact W.cs (cells' := 1 + 24 * (k + 1)) (slots' := 4 + 108 * (k + 1)) (by omega) (by omega) (ihO (k + 1) G3 H locs ls ⟨hk2, hC, hI, hF⟩ (by omega) hG hS (lv_sub hl [1, 3, 4] rfl))
    · have ht12 : t < 12 := by
        rcases Nat.lt_or_ge t 12 with a | a
        · exact a
        · exact absurd (nI_le a (by omega)) h38
      have hst9 := sp_st_14 (M := M) (nx := nn 4) (Nat.le_refl (12 * k + t))
      have e14 : va_up M 14 (sp_ap M (nn 4) (12 * k + t)) 14 (12 * k + t) = M 14 (12 * k + t) := sp_ap_at
      obtain ⟨fo, ac, ap, ot, fa, fp, hO, hot, hfo, hAc, hAp, hfa, hfp⟩ := hC.2.2.2.2 k hk2
      have hfp := hfp t ht12
      rw [e14] at hfp
      refine lv_aload_n hx hb dX1_reopen_41 rfl (lv_at hl 2 rfl) ?_
      refine gf_X1_202 S dX1_reopen_42 hG hO rfl ?_
      refine lv_iload hx hb dX1_reopen_45 (lv_at hl 0 rfl) ?_
      refine n_aald 7 rfl S dX1_reopen_47 hG hAp (gix.mk ht12 (by decide)) ?_
      by_cases h45 : M 14 (12 * k + t) = 45
      · refine W.eq (g2 := F0 m 48 ls [.null]) (by rw [hfp.1 h45]; rfl) ?_
        refine lv_ifnullN (tgt := 88) hx hb dX1_reopen_48 (by decide) ?_
        refine lv_iinc (v := ((nI (t)) + 1)) (lv' := [(4, .int ((nI (t)) + 1)), (1, .int (nI (sp_ct M (nn 4) (12 * k + (t))))), (3, .ref (w.fl k)), (2, .ref q), (0, .ref st)]) hx hb dX1_reopen_88 hl (k := 0) rfl rfl (by decide) rfl (fun ls hl => ?_)
        refine lv_goto (tgt := 34) hx hb dX1_reopen_91 (by decide) ?_
        have hs0 : sp_st M (nn 4) (12 * k + t) = false := by unfold sp_st; rw [h45]; rfl
        exact W.widen (k := 1 + 24 * k + 2 * (t + 1)) (n := 4 + 108 * k + 9 * (t + 1)) (by omega) (by omega) (ih (t + 1) G3 _ _ ls ⟨ht12, by rw [show 12 * k + (t + 1) = 12 * k + t + 1 from rfl, sp_ap_f hs0]; exact hC, hI, hF⟩ (by omega) hG hS (by rw [show 12 * k + (t + 1) = 12 * k + t + 1 from rfl, sp_ct_f hs0, nI_succ]; exact (lv_sub hl [0, 1, 2, 3, 4] rfl)))
      · obtain ⟨ya, hya, hyb⟩ := hfp.2 h45
        refine W.eq (g2 := F0 m 48 ls [.ref ya]) (by rw [hya]; rfl) ?_
        refine lv_ifnull hx hb dX1_reopen_48 ?_
        refine lv_aload_n hx hb dX1_reopen_51 rfl (lv_at hl 2 rfl) ?_
        refine gf_X1_202 S dX1_reopen_52 hG hO rfl ?_
        refine lv_iload hx hb dX1_reopen_55 (lv_at hl 0 rfl) ?_
        refine n_aald 7 rfl S dX1_reopen_57 hG hAp (gix.mk ht12 (by decide)) ?_
        refine W.eq (g2 := F0 m 58 ls [.ref ya]) (by rw [hya]; rfl) ?_
        rcases (hwf.2.2.2.2 (12 * k + t) (by omega)).1 with h | h97 | h111
        · exact absurd h h45
        · rw [h97] at hyb
          refine gf_X1_226 S dX1_reopen_58 hG hyb rfl ?_
          refine lv_if_ne (tgt := 88) hx hb dX1_reopen_61 (by decide) (fun h => absurd h (by decide)) (fun _ => ?_)
          refine lv_aload_n hx hb dX1_reopen_64 rfl (lv_at hl 4 rfl) ?_
          refine lv_aload_n hx hb dX1_reopen_65 rfl (lv_at hl 2 rfl) ?_
          refine lv_iload hx hb dX1_reopen_66 (lv_at hl 0 rfl) ?_
          refine g_call hS (vx_runVW (As := [.ref (w.fl k), .int (nI (t))]) (rest := []) S.1 (metX1_hasDrifted l hl0 (E := E) (G := G3) hC (sp_ap_wf hwf (by omega)) hk2 ht12 (e14.trans h97)) (vx_cwVW 2 S.ts (lw_VW q501 q503 qs7 q30 q504) rfl rfl rfl (by decide +kernel) ⟨Nat.le_of_ble_eq_true rfl, Nat.le_of_ble_eq_true rfl⟩) (S.preV hG hS hC.1 rfl) rfl rfl hl.1 rfl (lv_room (Nat.le_of_ble_eq_true rfl)) dX1_reopen_68 ⟨by first | exact Nat.le_of_ble_eq_true rfl | (show _ ≤ 241; omega), by first | exact Nat.le_of_ble_eq_true rfl | (show _ ≤ 1084; omega)⟩) (fun v G1 H locs hp hG hS => ?_)
          refine W.cs (cells' := ((1 + 24 * k + 2 * t) + 2)) (slots' := ((4 + 108 * k + 9 * t) + 9)) (by first | rfl | omega) (by first | rfl | omega) ?_
          obtain ⟨rfl, hF2⟩ := hp
          rw [show sp_st (va_up M 14 (sp_ap M (nn 4) (12 * k + t))) (nn 4) (12 * k + t) = sp_st M (nn 4) (12 * k + t) from hst9]
          have hC := hC.mono hF2 (fun _ _ z => z.elim)
          have hI := hI.mono hF2 (fun _ z => z)
          have hF := hF.tr hF2.le
          have hyb := hF2.at hyb
          have hO := hF2.at hO
          have hAp := hF2.at hAp
          by_cases hs : sp_st M (nn 4) (12 * k + t) = true
          · refine W.eq (g2 := F0 m 71 ls [.int 1]) (by rw [if_pos hs]; rfl) ?_
            refine lv_if_eq (tgt := 88) hx hb dX1_reopen_71 (by decide) (fun h => absurd h (by decide)) (fun _ => ?_)
            refine lv_aload_n hx hb dX1_reopen_74 rfl (lv_at hl 2 rfl) ?_
            refine gf_X1_202 S dX1_reopen_75 hG hO rfl ?_
            refine lv_iload hx hb dX1_reopen_78 (lv_at hl 0 rfl) ?_
            refine n_aald 7 rfl S dX1_reopen_80 hG hAp (gix.mk ht12 (by decide)) ?_
            refine W.eq (g2 := F0 m 81 ls [.ref ya]) (by rw [hya]; rfl) ?_
            refine lv_iconst (v := 1) hx hb dX1_reopen_81 (by decide) ?_
            refine pf_X1_226 S dX1_reopen_82 rfl rfl hG hS hyb (Nat.le_of_ble_eq_true rfl) (fun H locs hG hS => ?_)
            refine lv_iinc (v := ((nI (sp_ct M (nn 4) (12 * k + (t)))) + 1)) (lv' := [(1, .int ((nI (sp_ct M (nn 4) (12 * k + (t)))) + 1)), (4, .int (nI (t))), (3, .ref (w.fl k)), (2, .ref q), (0, .ref st)]) hx hb dX1_reopen_85 hl (k := 1) rfl rfl (by decide) rfl (fun ls hl => ?_)
            refine lv_iinc (v := ((nI (t)) + 1)) (lv' := [(4, .int ((nI (t)) + 1)), (1, .int ((nI (sp_ct M (nn 4) (12 * k + (t)))) + 1)), (3, .ref (w.fl k)), (2, .ref q), (0, .ref st)]) hx hb dX1_reopen_88 hl (k := 1) rfl rfl (by decide) rfl (fun ls hl => ?_)
            refine lv_goto (tgt := 34) hx hb dX1_reopen_91 (by decide) ?_
            have hC2 := hC.opn ht12 hO hAp hya hyb (by rw [e14]; exact h45)
            rw [va_up_2, show upd (va_up M 14 (sp_ap M (nn 4) (12 * k + t)) 14) (12 * k + t) 111 = sp_ap M (nn 4) (12 * k + t + 1) from (sp_ap_t hs).symm] at hC2
            have hfr : gh_fr gT14 G1 _ := gh_fr.set (c := (14, 12 * k + t, .inr (4, [.int (M 10 (12 * k + t)), .int (M 11 (12 * k + t)), .int 1]))) hyb (Or.inl rfl)
            exact W.cs (cells' := 1 + 24 * k + 2 * (t + 1)) (slots' := 4 + 108 * k + 9 * (t + 1)) (by omega) (by omega) (ih (t + 1) _ _ _ ls ⟨ht12, hC2, hI.mono (gh_fr.set (S := fun a _ => a = 14) hyb rfl) (fun _ z => by cases z), hF.tr hfr⟩ (by omega) hG hS (by rw [show 12 * k + (t + 1) = 12 * k + t + 1 from rfl, sp_ct_t hs, nI_succ, nI_succ]; exact (lv_sub hl [0, 1, 2, 3, 4] rfl)))
          · refine W.eq (g2 := F0 m 71 ls [.int 0]) (by rw [if_neg hs]; rfl) ?_
            refine lv_if_eq (tgt := 88) hx hb dX1_reopen_71 (by decide) (fun _ => ?_) (fun h => absurd h (by decide))
            refine lv_iinc (v := ((nI (t)) + 1)) (lv' := [(4, .int ((nI (t)) + 1)), (1, .int (nI (sp_ct M (nn 4) (12 * k + (t))))), (3, .ref (w.fl k)), (2, .ref q), (0, .ref st)]) hx hb dX1_reopen_88 hl (k := 0) rfl rfl (by decide) rfl (fun ls hl => ?_)
            refine lv_goto (tgt := 34) hx hb dX1_reopen_91 (by decide) ?_
            have hs0 : sp_st M (nn 4) (12 * k + t) = false := Bool.eq_false_iff.mpr hs
            exact W.widen (k := 1 + 24 * k + 2 * (t + 1)) (n := 4 + 108 * k + 9 * (t + 1)) (by omega) (by omega) (ih (t + 1) G1 _ _ ls ⟨ht12, by rw [show 12 * k + (t + 1) = 12 * k + t + 1 from rfl, sp_ap_f hs0]; exact hC, hI, hF⟩ (by omega) hG hS (by rw [show 12 * k + (t + 1) = 12 * k + t + 1 from rfl, sp_ct_f hs0, nI_succ]; exact (lv_sub hl [0, 1, 2, 3, 4] rfl)))
        · rw [h111] at hyb
          refine gf_X1_226 S dX1_reopen_58 hG hyb rfl ?_
          refine lv_if_ne (tgt := 88) hx hb dX1_reopen_61 (by decide) (fun _ => ?_) (fun h => absurd h (by decide))
          refine lv_iinc (v := ((nI (t)) + 1)) (lv' := [(4, .int ((nI (t)) + 1)), (1, .int (nI (sp_ct M (nn 4) (12 * k + (t))))), (3, .ref (w.fl k)), (2, .ref q), (0, .ref st)]) hx hb dX1_reopen_88 hl (k := 0) rfl rfl (by decide) rfl (fun ls hl => ?_)
          refine lv_goto (tgt := 34) hx hb dX1_reopen_91 (by decide) ?_
          have hs0 : sp_st M (nn 4) (12 * k + t) = false := by unfold sp_st; rw [h111]; rfl
          exact W.widen (k := 1 + 24 * k + 2 * (t + 1)) (n := 4 + 108 * k + 9 * (t + 1)) (by omega) (by omega) (ih (t + 1) G3 _ _ ls ⟨ht12, by rw [show 12 * k + (t + 1) = 12 * k + t + 1 from rfl, sp_ap_f hs0]; exact hC, hI, hF⟩ (by omega) hG hS (by rw [show 12 * k + (t + 1) = 12 * k + t + 1 from rfl, sp_ct_f hs0, nI_succ]; exact (lv_sub hl [0, 1, 2, 3, 4] rfl)))
