/-! CONTRACTS of the model's glow. Printed by gen/p46.py -/
set_option maxRecDepth 100000
set_option maxHeartbeats 4000000 in
set_option maxRecDepth 100000 in
theorem k_glow (l : Launch) (E : EnvT) (G : Gh) (y : Nat) (M : MA) (th : Int32) (σ : Sy) (hMR : MRep E G y M th σ) (hO : CnOk σ.1) (d : Nat) (hd : d < σ.1.2.1.1) : Met l yX3_glow (ws_ yX3_glow cX3_glow 5 none) ({ frames := 1, cells := 0, slots := 0, locals := 23 } : Room) (cP E G [.ref y, .int (nI d)]) (cV E (fun G' => MRep E G' y M th (setDm σ d (dps (σ.1.2.1.2 d))) ∧ Fr (Ow 4) G G')) 0 0 (eA E) := by
  obtain ⟨la, sk, ta, sw, nb⟩ := M
  obtain ⟨⟨⟨tk, ck, rn, an, sp, ln, lf⟩, ⟨nd, dm⟩, ⟨nc, km⟩⟩, ⟨nu, uq⟩, ⟨ns, st⟩⟩ := σ
  refine g_met (rm := ({ frames := 1, cells := 0, slots := 0, locals := 23 } : Room)) (av := [.ref y, .int (nI d)]) (lv := [(0, .ref y), (1, .int (nI d))]) (by decide) (Nat.le_of_ble_eq_true rfl) rfl ?_
  intro p e s m below meth c ls hx hb hr hlk hml hin hts hown hE hI hL hS hl
  have hMR0 := hMR
  obtain ⟨hy, hla, hsk, hta, hsw, hnb⟩ := hMR0
  have hy : G y = some ((4, 0, 0), mO th (nI nd) (nI ns) (nI nu) la sk ta sw nb) := hy
  have hla : G la = some ((4, 1, 0), iO E 40 (lampF dm)) := hla
  have hsk : G sk = some ((4, 2, 0), iO E 40 (skyF st)) := hsk
  have hta : G ta = some ((4, 3, 0), iO E 36 (tailF km)) := hta
  have hsw : G sw = some ((4, 4, 0), iO E 96 (showF uq)) := hsw
  have hnb : G nb = some ((4, 5, 0), iO E 8 (numF (tk, ck, rn, an, sp, ln, lf) nc)) := hnb
  have hFr : Fr (Ow 4) G G := Fr.rf
  have hd : d < nd := hd
  have hnd : nd ≤ 8 := hO.nd
  obtain ⟨hq, hp, hlv, ham, hlf⟩ := hO.dm d hd
  refine lv_aload_n hx hb dX3_glow_0 rfl (lv_at hl 0 rfl) ?_
  refine lv_iload_n hx hb dX3_glow_1 rfl (lv_at hl 1 rfl) ?_
  refine lv_iconst (v := 2) hx hb dX3_glow_2 (by decide) ?_
  refine g_ci0 (G := G) (v := lampF dm (5 * d + 2)) hS (va_runV (As := [.int (nI d), .int 2]) (rest := []) ⟨hx, hb, hml, hown, hts⟩ (k_la l E G y (la, sk, ta, sw, nb) _ ((((tk, ck, rn, an, sp, ln, lf), (nd, dm), (nc, km)), (nu, uq), (ns, st)) : Sy) hMR d 2 (by omega) (by decide)) (cwV 2 hts (lw_V q896 q898 qs15 q36 q899) rfl rfl rfl (by decide +kernel) ⟨Nat.le_of_ble_eq_true rfl, Nat.le_of_ble_eq_true rfl⟩) (g_preV hE hI (g_recv hE hI hy rfl)) rfl rfl hl.1 rfl (lv_room (Nat.le_of_ble_eq_true rfl)) dX3_glow_3 ⟨Nat.le_of_ble_eq_true rfl, Nat.le_of_ble_eq_true rfl⟩) (fun H locs hI hS => ?_)
  rw [lampF_2]
  refine lv_aload_n hx hb dX3_glow_6 rfl (lv_at hl 0 rfl) ?_
  refine lv_iload_n hx hb dX3_glow_7 rfl (lv_at hl 1 rfl) ?_
  refine lv_iconst (v := 1) hx hb dX3_glow_8 (by decide) ?_
  refine g_ci0 (G := G) (v := lampF dm (5 * d + 1)) hS (va_runV (As := [.int (nI d), .int 1]) (rest := [.int ((dm d).2.2.2.1)]) ⟨hx, hb, hml, hown, hts⟩ (k_la l E G y (la, sk, ta, sw, nb) _ ((((tk, ck, rn, an, sp, ln, lf), (nd, dm), (nc, km)), (nu, uq), (ns, st)) : Sy) hMR d 1 (by omega) (by decide)) (cwV 2 hts (lw_V q896 q898 qs15 q36 q899) rfl rfl rfl (by decide +kernel) ⟨Nat.le_of_ble_eq_true rfl, Nat.le_of_ble_eq_true rfl⟩) (g_preV hE hI (g_recv hE hI hy rfl)) rfl rfl hl.1 rfl (lv_room (Nat.le_of_ble_eq_true rfl)) dX3_glow_9 ⟨Nat.le_of_ble_eq_true rfl, Nat.le_of_ble_eq_true rfl⟩) (fun H locs hI hS => ?_)
  rw [lampF_1]
  refine lv_isub hx hb dX3_glow_12 ?_
  refine lv_istore_n (lv' := [(2, .int ((dm d).2.2.2.1 - (dm d).2.2.1)), (0, .ref y), (1, .int (nI d))]) hx hb dX3_glow_13 rfl hl (by decide) rfl (fun ls hl => ?_)
  refine lv_aload_n hx hb dX3_glow_14 rfl (lv_at hl 1 rfl) ?_
  refine lv_iload_n hx hb dX3_glow_15 rfl (lv_at hl 2 rfl) ?_
  refine lv_iconst (v := 1) hx hb dX3_glow_16 (by decide) ?_
  refine g_ci0 (G := G) (v := lampF dm (5 * d + 1)) hS (va_runV (As := [.int (nI d), .int 1]) (rest := []) ⟨hx, hb, hml, hown, hts⟩ (k_la l E G y (la, sk, ta, sw, nb) _ ((((tk, ck, rn, an, sp, ln, lf), (nd, dm), (nc, km)), (nu, uq), (ns, st)) : Sy) hMR d 1 (by omega) (by decide)) (cwV 2 hts (lw_V q896 q898 qs15 q36 q899) rfl rfl rfl (by decide +kernel) ⟨Nat.le_of_ble_eq_true rfl, Nat.le_of_ble_eq_true rfl⟩) (g_preV hE hI (g_recv hE hI hy rfl)) rfl rfl hl.1 rfl (lv_room (Nat.le_of_ble_eq_true rfl)) dX3_glow_17 ⟨Nat.le_of_ble_eq_true rfl, Nat.le_of_ble_eq_true rfl⟩) (fun H locs hI hS => ?_)
  rw [lampF_1]
  refine lv_aload_n hx hb dX3_glow_20 rfl (lv_at hl 1 rfl) ?_
  refine lv_iload_n hx hb dX3_glow_21 rfl (lv_at hl 2 rfl) ?_
  refine lv_iconst (v := 3) hx hb dX3_glow_22 (by decide) ?_
  refine g_ci0 (G := G) (v := lampF dm (5 * d + 3)) hS (va_runV (As := [.int (nI d), .int 3]) (rest := [.int ((dm d).2.2.1)]) ⟨hx, hb, hml, hown, hts⟩ (k_la l E G y (la, sk, ta, sw, nb) _ ((((tk, ck, rn, an, sp, ln, lf), (nd, dm), (nc, km)), (nu, uq), (ns, st)) : Sy) hMR d 3 (by omega) (by decide)) (cwV 2 hts (lw_V q896 q898 qs15 q36 q899) rfl rfl rfl (by decide +kernel) ⟨Nat.le_of_ble_eq_true rfl, Nat.le_of_ble_eq_true rfl⟩) (g_preV hE hI (g_recv hE hI hy rfl)) rfl rfl hl.1 rfl (lv_room (Nat.le_of_ble_eq_true rfl)) dX3_glow_23 ⟨Nat.le_of_ble_eq_true rfl, Nat.le_of_ble_eq_true rfl⟩) (fun H locs hI hS => ?_)
  rw [lampF_3]
  refine lv_ineg hx hb dX3_glow_26 ?_
  refine lv_aload_n hx hb dX3_glow_27 rfl (lv_at hl 1 rfl) ?_
  refine lv_iload_n hx hb dX3_glow_28 rfl (lv_at hl 2 rfl) ?_
  refine lv_iconst (v := 3) hx hb dX3_glow_29 (by decide) ?_
  refine g_ci0 (G := G) (v := lampF dm (5 * d + 3)) hS (va_runV (As := [.int (nI d), .int 3]) (rest := [.int (-(dm d).2.1), .int ((dm d).2.2.1)]) ⟨hx, hb, hml, hown, hts⟩ (k_la l E G y (la, sk, ta, sw, nb) _ ((((tk, ck, rn, an, sp, ln, lf), (nd, dm), (nc, km)), (nu, uq), (ns, st)) : Sy) hMR d 3 (by omega) (by decide)) (cwV 2 hts (lw_V q896 q898 qs15 q36 q899) rfl rfl rfl (by decide +kernel) ⟨Nat.le_of_ble_eq_true rfl, Nat.le_of_ble_eq_true rfl⟩) (g_preV hE hI (g_recv hE hI hy rfl)) rfl rfl hl.1 rfl (lv_room (Nat.le_of_ble_eq_true rfl)) dX3_glow_30 ⟨Nat.le_of_ble_eq_true rfl, Nat.le_of_ble_eq_true rfl⟩) (fun H locs hI hS => ?_)
  rw [lampF_3]
  refine lv_iload_n hx hb dX3_glow_33 rfl (lv_at hl 0 rfl) ?_
  refine va_mmin hx hb (hml.trans hl.1.symm) hown (hts _ q948) (hts _ q477) (hts _ q44) (hts _ q478) (Nat.le_of_ble_eq_true rfl) (Nat.le_of_ble_eq_true rfl) (Nat.le_of_ble_eq_true rfl) (Nat.le_of_ble_eq_true rfl) dX3_glow_34 ?_
  refine va_mmax hx hb (hml.trans hl.1.symm) hown (hts _ q949) (hts _ q440) (hts _ q44) (hts _ q441) (Nat.le_of_ble_eq_true rfl) (Nat.le_of_ble_eq_true rfl) (Nat.le_of_ble_eq_true rfl) (Nat.le_of_ble_eq_true rfl) dX3_glow_37 ?_
  refine lv_iadd hx hb dX3_glow_40 ?_
  refine lv_istore_n (lv' := [(3, .int ((dm d).2.2.1 + (if (-(dm d).2.1) < (if ((dm d).2.2.2.1 - (dm d).2.2.1) < (dm d).2.1 then ((dm d).2.2.2.1 - (dm d).2.2.1) else (dm d).2.1) then (if ((dm d).2.2.2.1 - (dm d).2.2.1) < (dm d).2.1 then ((dm d).2.2.2.1 - (dm d).2.2.1) else (dm d).2.1) else (-(dm d).2.1)))), (2, .int ((dm d).2.2.2.1 - (dm d).2.2.1)), (0, .ref y), (1, .int (nI d))]) hx hb dX3_glow_41 rfl hl (by decide) rfl (fun ls hl => ?_)
  have eL := glow_lv hp hlv ham
  dsimp only at eL
  have hl : lv_has ls 5 [(3, .int (lvGo (dm d).2.1 (dm d).2.2.1 (dm d).2.2.2.1)), (2, .int ((dm d).2.2.2.1 - (dm d).2.2.1)), (0, .ref y), (1, .int (nI d))] := by rw [← eL]; exact hl
  refine lv_iconst (v := 0) hx hb dX3_glow_42 (by decide) ?_
  refine lv_aload_n hx hb dX3_glow_43 rfl (lv_at hl 2 rfl) ?_
  refine lv_iload_n hx hb dX3_glow_44 rfl (lv_at hl 3 rfl) ?_
  refine lv_iconst (v := 4) hx hb dX3_glow_45 (by decide) ?_
  refine g_ci0 (G := G) (v := lampF dm (5 * d + 4)) hS (va_runV (As := [.int (nI d), .int 4]) (rest := [.int 0]) ⟨hx, hb, hml, hown, hts⟩ (k_la l E G y (la, sk, ta, sw, nb) _ ((((tk, ck, rn, an, sp, ln, lf), (nd, dm), (nc, km)), (nu, uq), (ns, st)) : Sy) hMR d 4 (by omega) (by decide)) (cwV 2 hts (lw_V q896 q898 qs15 q36 q899) rfl rfl rfl (by decide +kernel) ⟨Nat.le_of_ble_eq_true rfl, Nat.le_of_ble_eq_true rfl⟩) (g_preV hE hI (g_recv hE hI hy rfl)) rfl rfl hl.1 rfl (lv_room (Nat.le_of_ble_eq_true rfl)) dX3_glow_46 ⟨Nat.le_of_ble_eq_true rfl, Nat.le_of_ble_eq_true rfl⟩) (fun H locs hI hS => ?_)
  rw [lampF_4]
  refine lv_iload_n hx hb dX3_glow_49 rfl (lv_at hl 0 rfl) ?_
  refine lv_bipush (v := 10) hx hb dX3_glow_50 (by decide) ?_
  refine lv_idiv hx hb dX3_glow_52 (by decide) ?_
  refine lv_isub hx hb dX3_glow_53 ?_
  refine va_mmax hx hb (hml.trans hl.1.symm) hown (hts _ q949) (hts _ q440) (hts _ q44) (hts _ q441) (Nat.le_of_ble_eq_true rfl) (Nat.le_of_ble_eq_true rfl) (Nat.le_of_ble_eq_true rfl) (Nat.le_of_ble_eq_true rfl) dX3_glow_54 ?_
  refine lv_istore (lv' := [(4, .int (if 0 < ((dm d).2.2.2.2 - ((lvGo (dm d).2.1 (dm d).2.2.1 (dm d).2.2.2.1) / 10)) then ((dm d).2.2.2.2 - ((lvGo (dm d).2.1 (dm d).2.2.1 (dm d).2.2.2.1) / 10)) else 0)), (3, .int (lvGo (dm d).2.1 (dm d).2.2.1 (dm d).2.2.2.1)), (2, .int ((dm d).2.2.2.1 - (dm d).2.2.1)), (0, .ref y), (1, .int (nI d))]) hx hb dX3_glow_57 hl (by decide) rfl (fun ls hl => ?_)
  have hl : lv_has ls 5 [(4, .int (lfGo (lvGo (dm d).2.1 (dm d).2.2.1 (dm d).2.2.2.1) (dm d).2.2.2.2)), (3, .int (lvGo (dm d).2.1 (dm d).2.2.1 (dm d).2.2.2.1)), (2, .int ((dm d).2.2.2.1 - (dm d).2.2.1)), (0, .ref y), (1, .int (nI d))] := hl
  refine lv_aload_n hx hb dX3_glow_59 rfl (lv_at hl 3 rfl) ?_
  refine lv_iload_n hx hb dX3_glow_60 rfl (lv_at hl 4 rfl) ?_
  refine lv_iconst (v := 4) hx hb dX3_glow_61 (by decide) ?_
  refine lv_iload hx hb dX3_glow_62 (lv_at hl 0 rfl) ?_
  refine g_cv hS (va_runV (As := [.int (nI d), .int 4, .int (lfGo (lvGo (dm d).2.1 (dm d).2.2.1 (dm d).2.2.2.1) (dm d).2.2.2.2)]) (rest := []) ⟨hx, hb, hml, hown, hts⟩ (k_put l E G y (la, sk, ta, sw, nb) _ ((((tk, ck, rn, an, sp, ln, lf), (nd, dm), (nc, km)), (nu, uq), (ns, st)) : Sy) hMR d 4 (lfGo (lvGo (dm d).2.1 (dm d).2.2.1 (dm d).2.2.2.1) (dm d).2.2.2.2) (by omega) (by decide)) (cwV 3 hts (lw_V q900 q902 qs16 q36 q903) rfl rfl rfl (by decide +kernel) ⟨Nat.le_of_ble_eq_true rfl, Nat.le_of_ble_eq_true rfl⟩) (g_preV hE hI (g_recv hE hI hy rfl)) rfl rfl hl.1 rfl (lv_room (Nat.le_of_ble_eq_true rfl)) dX3_glow_64 ⟨Nat.le_of_ble_eq_true rfl, Nat.le_of_ble_eq_true rfl⟩) (fun G2 H locs hp hI hS => ?_)
  obtain ⟨hM2, hF2⟩ := hp
  have hFr := Fr.trans hFr hF2
  refine lv_aload_n hx hb dX3_glow_67 rfl (lv_at hl 3 rfl) ?_
  refine lv_iload_n hx hb dX3_glow_68 rfl (lv_at hl 4 rfl) ?_
  refine lv_iconst (v := 1) hx hb dX3_glow_69 (by decide) ?_
  refine lv_iload hx hb dX3_glow_70 (lv_at hl 0 rfl) ?_
  refine lv_if_ne (tgt := 79) hx hb dX3_glow_72 (by decide) (fun c1 => ?_) (fun c1 => ?_)
  · refine lv_iload_n hx hb dX3_glow_79 rfl (lv_at hl 1 rfl) ?_
    refine g_cv hS (va_runV (As := [.int (nI d), .int 1, .int (lvGo (dm d).2.1 (dm d).2.2.1 (dm d).2.2.2.1)]) (rest := []) ⟨hx, hb, hml, hown, hts⟩ (k_put l E G2 y (la, sk, ta, sw, nb) _ _ hM2 d 1 (lvGo (dm d).2.1 (dm d).2.2.1 (dm d).2.2.2.1) (by omega) (by decide)) (cwV 3 hts (lw_V q900 q902 qs16 q36 q903) rfl rfl rfl (by decide +kernel) ⟨Nat.le_of_ble_eq_true rfl, Nat.le_of_ble_eq_true rfl⟩) (g_preV hE hI (g_recv hE hI hM2.1 rfl)) rfl rfl hl.1 rfl (lv_room (Nat.le_of_ble_eq_true rfl)) dX3_glow_80 ⟨Nat.le_of_ble_eq_true rfl, Nat.le_of_ble_eq_true rfl⟩) (fun G3 H locs hp hI hS => ?_)
    obtain ⟨hM3, hF3⟩ := hp
    have hFr := Fr.trans hFr hF3
    unfold setDm at hM3
    dsimp only at hM3
    rw [va_up_self, va_up_up] at hM3
    exact g_vret hx hb hr hlk hI hS dX3_glow_83 (Nat.le_of_ble_eq_true rfl) (Nat.le_of_ble_eq_true rfl) (⟨by unfold setDm dps lvEnd; dsimp only; rw [if_neg c1]; exact hM3, hFr⟩)
  · refine lv_iconst (v := 0) hx hb dX3_glow_75 (by decide) ?_
    refine lv_goto (tgt := 80) hx hb dX3_glow_76 (by decide) ?_
    refine g_cv hS (va_runV (As := [.int (nI d), .int 1, .int 0]) (rest := []) ⟨hx, hb, hml, hown, hts⟩ (k_put l E G2 y (la, sk, ta, sw, nb) _ _ hM2 d 1 0 (by omega) (by decide)) (cwV 3 hts (lw_V q900 q902 qs16 q36 q903) rfl rfl rfl (by decide +kernel) ⟨Nat.le_of_ble_eq_true rfl, Nat.le_of_ble_eq_true rfl⟩) (g_preV hE hI (g_recv hE hI hM2.1 rfl)) rfl rfl hl.1 rfl (lv_room (Nat.le_of_ble_eq_true rfl)) dX3_glow_80 ⟨Nat.le_of_ble_eq_true rfl, Nat.le_of_ble_eq_true rfl⟩) (fun G3 H locs hp hI hS => ?_)
    obtain ⟨hM3, hF3⟩ := hp
    have hFr := Fr.trans hFr hF3
    unfold setDm at hM3
    dsimp only at hM3
    rw [va_up_self, va_up_up] at hM3
    exact g_vret hx hb hr hlk hI hS dX3_glow_83 (Nat.le_of_ble_eq_true rfl) (Nat.le_of_ble_eq_true rfl) (⟨by unfold setDm dps lvEnd; dsimp only; rw [if_pos c1]; exact hM3, hFr⟩)
