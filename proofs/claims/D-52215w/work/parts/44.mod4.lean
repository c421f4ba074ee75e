/-! CONTRACTS of the model's writers: star, isCue, run, jump, fade, lamp. Printed by gen/p44.py -/
set_option maxRecDepth 100000
set_option maxHeartbeats 4000000 in
set_option maxRecDepth 100000 in
theorem k_star (l : Launch) (E : EnvT) (G : Gh) (y : Nat) (M : MA) (th : Int32) (σ : Sy) (hMR : MRep E G y M th σ) (hO : OkS σ) (p0 p1 : Int32) : Met l yX3_star (ws_ yX3_star cX3_star 3 (some .int)) ({ frames := 1, cells := 0, slots := 0, locals := 22 } : Room) (cP E G [.ref y, .int p0, .int p1]) (cI E (fun r G' => (staR σ.2.2.1 p0 p1 = 0 → r = nI σ.2.2.1) ∧ MRep E G' y M (staR σ.2.2.1 p0 p1) (if staR σ.2.2.1 p0 p1 = 0 then staS σ p0 p1 else σ) ∧ Fr (Ow 4) G G')) 0 0 (eA E) := by
  obtain ⟨la, sk, ta, sw, nb⟩ := M
  obtain ⟨⟨⟨tk, ck, rn, an, sp, ln, lf⟩, ⟨nd, dm⟩, ⟨nc, km⟩⟩, ⟨nu, uq⟩, ⟨ns, st⟩⟩ := σ
  refine g_met (rm := ({ frames := 1, cells := 0, slots := 0, locals := 22 } : Room)) (av := [.ref y, .int p0, .int p1]) (lv := [(0, .ref y), (1, .int p0), (2, .int p1)]) (by decide) (Nat.le_of_ble_eq_true rfl) rfl ?_
  intro p e s m below meth c ls hx hb hr hlk hml hin hts hown hE hI hL hS hl
  have hMR0 := hMR
  obtain ⟨hy, hla, hsk, hta, hsw, hnb⟩ := hMR0
  have hy : G y = some ((4, 0, 0), mO th (nI nd) (nI ns) (nI nu) la sk ta sw nb) := hy
  have hla : G la = some ((4, 1, 0), iO E 40 (lampF dm)) := hla
  have hsk : G sk = some ((4, 2, 0), iO E 40 (skyF st)) := hsk
  have hta : G ta = some ((4, 3, 0), iO E 36 (tailF km)) := hta
  have hsw : G sw = some ((4, 4, 0), iO E 96 (showF uq)) := hsw
  have hnb : G nb = some ((4, 5, 0), iO E 8 (numF (tk, ck, rn, an, sp, ln, lf) nc)) := hnb
  have hFr : Fr (Ow 4) G G := Fr.rf
  refine lv_aload_n hx hb dX3_star_0 rfl (lv_at hl 0 rfl) ?_
  refine lv_iconst (v := 0) hx hb dX3_star_1 (by decide) ?_
  refine g_put (C := RX3) (T := TX3) (N := 9) (v := .int 0) (ty := .int) (fs' := [.int 0, .int (nI nd), .int (nI ns), .int (nI nu), .ref la, .ref sk, .ref ta, .ref sw, .ref nb]) hx hb hts in_X3 tyX3 tyX3_ok nmX3 hown hE hI hS hL hy rfl 0 (by decide) q843 (fun _ h9 => h9) rfl (by decide +kernel) rfl rfl (Nat.le_of_ble_eq_true rfl) rfl dX3_star_2 (fun H locs hI hS => ?_)
  have hla := gU_o (x := ((4, 0, 0), .inr (7, [.int 0, .int (nI nd), .int (nI ns), .int (nI nu), .ref la, .ref sk, .ref ta, .ref sw, .ref nb]))) hy hla (by simp)
  have hsk := gU_o (x := ((4, 0, 0), .inr (7, [.int 0, .int (nI nd), .int (nI ns), .int (nI nu), .ref la, .ref sk, .ref ta, .ref sw, .ref nb]))) hy hsk (by simp)
  have hta := gU_o (x := ((4, 0, 0), .inr (7, [.int 0, .int (nI nd), .int (nI ns), .int (nI nu), .ref la, .ref sk, .ref ta, .ref sw, .ref nb]))) hy hta (by simp)
  have hsw := gU_o (x := ((4, 0, 0), .inr (7, [.int 0, .int (nI nd), .int (nI ns), .int (nI nu), .ref la, .ref sk, .ref ta, .ref sw, .ref nb]))) hy hsw (by simp)
  have hnb := gU_o (x := ((4, 0, 0), .inr (7, [.int 0, .int (nI nd), .int (nI ns), .int (nI nu), .ref la, .ref sk, .ref ta, .ref sw, .ref nb]))) hy hnb (by simp)
  have hFr : Fr (Ow 4) G (gU G y ((4, 0, 0), .inr (7, [.int 0, .int (nI nd), .int (nI ns), .int (nI nu), .ref la, .ref sk, .ref ta, .ref sw, .ref nb]))) := Fr.trans hFr (Fr.put (x := ((4, 0, 0), .inr (7, [.int 0, .int (nI nd), .int (nI ns), .int (nI nu), .ref la, .ref sk, .ref ta, .ref sw, .ref nb]))) hy rfl)
  have hy : (gU G y ((4, 0, 0), .inr (7, [.int 0, .int (nI nd), .int (nI ns), .int (nI nu), .ref la, .ref sk, .ref ta, .ref sw, .ref nb]))) y = some ((4, 0, 0), .inr (7, [.int 0, .int (nI nd), .int (nI ns), .int (nI nu), .ref la, .ref sk, .ref ta, .ref sw, .ref nb])) := gU_self
  obtain ⟨G0, hMR, hFr, hI⟩ : ∃ G0, MRep E G0 y (la, sk, ta, sw, nb) 0 ((((tk, ck, rn, an, sp, ln, lf), (nd, dm), (nc, km)), (nu, uq), (ns, st)) : Sy) ∧ Fr (Ow 4) G G0 ∧ Inv E G0 H := ⟨_, ⟨hy, hla, hsk, hta, hsw, hnb⟩, hFr, hI⟩
  have hMR0 := hMR
  obtain ⟨hy, hla, hsk, hta, hsw, hnb⟩ := hMR0
  have hy : G0 y = some ((4, 0, 0), mO 0 (nI nd) (nI ns) (nI nu) la sk ta sw nb) := hy
  have hla : G0 la = some ((4, 1, 0), iO E 40 (lampF dm)) := hla
  have hsk : G0 sk = some ((4, 2, 0), iO E 40 (skyF st)) := hsk
  have hta : G0 ta = some ((4, 3, 0), iO E 36 (tailF km)) := hta
  have hsw : G0 sw = some ((4, 4, 0), iO E 96 (showF uq)) := hsw
  have hnb : G0 nb = some ((4, 5, 0), iO E 8 (numF (tk, ck, rn, an, sp, ln, lf) nc)) := hnb
  have hnd : nd ≤ 8 := hO.cn.nd
  have hnc : nc ≤ 12 := hO.cn.nc
  have hnu : nu ≤ 24 := hO.nu
  have hns : ns ≤ 20 := hO.ns
  refine lv_iload_n hx hb dX3_star_5 rfl (lv_at hl 1 rfl) ?_
  refine lv_iconst (v := 0) hx hb dX3_star_6 (by decide) ?_
  refine lv_sipush (v := 359) hx hb dX3_star_7 (by decide) ?_
  refine g_ci0 (G := G0) (v := isInV p0 0 359) hS (va_runS (As := [.int p0, .int 0, .int 359]) (rest := []) ⟨hx, hb, hml, hown, hts⟩ (k_isIn l E G0 p0 0 359) (va_cwS 3 hts (lw_S q880 q881 q36 q882) rfl rfl rfl (by decide +kernel) ⟨Nat.le_of_ble_eq_true rfl, Nat.le_of_ble_eq_true rfl⟩) (g_preS hE hI) rfl rfl hl.1 rfl (lv_room (Nat.le_of_ble_eq_true rfl)) dX3_star_10 ⟨Nat.le_of_ble_eq_true rfl, Nat.le_of_ble_eq_true rfl⟩) (fun H locs hI hS => ?_)
  refine lv_if_eq (tgt := 26) hx hb dX3_star_13 (by decide) (fun c1 => ?_) (fun c1 => ?_)
  · refine lv_aload_n hx hb dX3_star_26 rfl (lv_at hl 0 rfl) ?_
    refine lv_iconst (v := 1) hx hb dX3_star_27 (by decide) ?_
    refine g_ci hS (va_runV (As := [.int 1]) (rest := []) ⟨hx, hb, hml, hown, hts⟩ (k_fail l E G0 y (la, sk, ta, sw, nb) _ ((((tk, ck, rn, an, sp, ln, lf), (nd, dm), (nc, km)), (nu, uq), (ns, st)) : Sy) hMR 1) (cwV 1 hts (lw_V q883 q885 qs13 q36 q886) rfl rfl rfl (by decide +kernel) ⟨Nat.le_of_ble_eq_true rfl, Nat.le_of_ble_eq_true rfl⟩) (g_preV hE hI (g_recv hE hI hy rfl)) rfl rfl hl.1 rfl (lv_room (Nat.le_of_ble_eq_true rfl)) dX3_star_28 ⟨Nat.le_of_ble_eq_true rfl, Nat.le_of_ble_eq_true rfl⟩) (fun r G1 H locs hp hI hS => ?_)
    obtain ⟨-, hM1, hF1⟩ := hp
    have hcode : staR ns p0 p1 = 1 := if_pos c1
    exact g_iret hx hb hr hlk hI hS dX3_star_31 (Nat.le_of_ble_eq_true rfl) (Nat.le_of_ble_eq_true rfl) (⟨fun z => absurd (hcode.symm.trans z) (by decide), by rw [hcode, if_neg (by decide)]; exact hM1, Fr.trans hFr hF1⟩)
  · refine lv_iload_n hx hb dX3_star_16 rfl (lv_at hl 2 rfl) ?_
    refine lv_iconst (v := 1) hx hb dX3_star_17 (by decide) ?_
    refine lv_bipush (v := 9) hx hb dX3_star_18 (by decide) ?_
    refine g_ci0 (G := G0) (v := isInV p1 1 9) hS (va_runS (As := [.int p1, .int 1, .int 9]) (rest := []) ⟨hx, hb, hml, hown, hts⟩ (k_isIn l E G0 p1 1 9) (va_cwS 3 hts (lw_S q880 q881 q36 q882) rfl rfl rfl (by decide +kernel) ⟨Nat.le_of_ble_eq_true rfl, Nat.le_of_ble_eq_true rfl⟩) (g_preS hE hI) rfl rfl hl.1 rfl (lv_room (Nat.le_of_ble_eq_true rfl)) dX3_star_20 ⟨Nat.le_of_ble_eq_true rfl, Nat.le_of_ble_eq_true rfl⟩) (fun H locs hI hS => ?_)
    refine lv_if_ne (tgt := 32) hx hb dX3_star_23 (by decide) (fun c2 => ?_) (fun c2 => ?_)
    · refine lv_aload_n hx hb dX3_star_32 rfl (lv_at hl 0 rfl) ?_
      refine g_get (C := RX3) (T := TX3) (N := 9) (v := .int (nI ns)) hx hb hts in_X3 hown hE hI hy rfl 2 (by decide) q845 (fun _ h9 => h9) rfl dX3_star_33 ?_
      refine lv_bipush (v := 20) hx hb dX3_star_36 (by decide) ?_
      refine lv_icmp_ne (tgt := 47) hx hb dX3_star_38 (by decide) (fun c3 => ?_) (fun c3 => ?_)
      · have hn : ns < 20 := Nat.lt_of_le_of_ne hns (fun z => c3 (by rw [z]; rfl))
        have hcode : staR ns p0 p1 = 0 := (if_neg c1).trans ((if_neg c2).trans (if_pos hn))
        refine lv_aload_n hx hb dX3_star_47 rfl (lv_at hl 0 rfl) ?_
        refine g_get (C := RX3) (T := TX3) (N := 9) (v := .ref sk) hx hb hts in_X3 hown hE hI hy rfl 5 (by decide) q848 (fun _ h9 => h9) rfl dX3_star_48 ?_
        refine lv_iconst (v := 2) hx hb dX3_star_51 (by decide) ?_
        refine lv_aload_n hx hb dX3_star_52 rfl (lv_at hl 0 rfl) ?_
        refine g_get (C := RX3) (T := TX3) (N := 9) (v := .int (nI ns)) hx hb hts in_X3 hown hE hI hy rfl 2 (by decide) q845 (fun _ h9 => h9) rfl dX3_star_53 ?_
        refine lv_imul hx hb dX3_star_56 ?_
        refine lv_iload_n hx hb dX3_star_57 rfl (lv_at hl 1 rfl) ?_
        refine g_iast hx hb hE hI hS hL hsk (i := (2 * nI ns)) (x := p0) (2 * ns + 0) (ix0 2 ns) (by omega) (by decide) dX3_star_58 (fun H locs hI hS => ?_)
        have hy := gU_o (x := ((4, 2, 0), .inl (eC E 0, 40, .inl (upd (skyF st) (2 * ns + 0) p0)))) hsk hy (by simp)
        have hla := gU_o (x := ((4, 2, 0), .inl (eC E 0, 40, .inl (upd (skyF st) (2 * ns + 0) p0)))) hsk hla (by simp)
        have hta := gU_o (x := ((4, 2, 0), .inl (eC E 0, 40, .inl (upd (skyF st) (2 * ns + 0) p0)))) hsk hta (by simp)
        have hsw := gU_o (x := ((4, 2, 0), .inl (eC E 0, 40, .inl (upd (skyF st) (2 * ns + 0) p0)))) hsk hsw (by simp)
        have hnb := gU_o (x := ((4, 2, 0), .inl (eC E 0, 40, .inl (upd (skyF st) (2 * ns + 0) p0)))) hsk hnb (by simp)
        have hFr : Fr (Ow 4) G (gU G0 sk ((4, 2, 0), .inl (eC E 0, 40, .inl (upd (skyF st) (2 * ns + 0) p0)))) := Fr.trans hFr (Fr.put (x := ((4, 2, 0), .inl (eC E 0, 40, .inl (upd (skyF st) (2 * ns + 0) p0)))) hsk rfl)
        have hsk : (gU G0 sk ((4, 2, 0), .inl (eC E 0, 40, .inl (upd (skyF st) (2 * ns + 0) p0)))) sk = some ((4, 2, 0), .inl (eC E 0, 40, .inl (upd (skyF st) (2 * ns + 0) p0))) := gU_self
        refine lv_aload_n hx hb dX3_star_59 rfl (lv_at hl 0 rfl) ?_
        refine g_get (C := RX3) (T := TX3) (N := 9) (v := .ref sk) hx hb hts in_X3 hown hE hI hy rfl 5 (by decide) q848 (fun _ h9 => h9) rfl dX3_star_60 ?_
        refine lv_iconst (v := 2) hx hb dX3_star_63 (by decide) ?_
        refine lv_aload_n hx hb dX3_star_64 rfl (lv_at hl 0 rfl) ?_
        refine g_get (C := RX3) (T := TX3) (N := 9) (v := .int (nI ns)) hx hb hts in_X3 hown hE hI hy rfl 2 (by decide) q845 (fun _ h9 => h9) rfl dX3_star_65 ?_
        refine lv_imul hx hb dX3_star_68 ?_
        refine lv_iconst (v := 1) hx hb dX3_star_69 (by decide) ?_
        refine lv_iadd hx hb dX3_star_70 ?_
        refine lv_iload_n hx hb dX3_star_71 rfl (lv_at hl 2 rfl) ?_
        refine g_iast hx hb hE hI hS hL hsk (i := ((2 * nI ns) + 1)) (x := p1) (2 * ns + 1) (ix 2 ns 1) (by omega) (by decide) dX3_star_72 (fun H locs hI hS => ?_)
        have hy := gU_o (x := ((4, 2, 0), .inl (eC E 0, 40, .inl (upd (upd (skyF st) (2 * ns + 0) p0) (2 * ns + 1) p1)))) hsk hy (by simp)
        have hla := gU_o (x := ((4, 2, 0), .inl (eC E 0, 40, .inl (upd (upd (skyF st) (2 * ns + 0) p0) (2 * ns + 1) p1)))) hsk hla (by simp)
        have hta := gU_o (x := ((4, 2, 0), .inl (eC E 0, 40, .inl (upd (upd (skyF st) (2 * ns + 0) p0) (2 * ns + 1) p1)))) hsk hta (by simp)
        have hsw := gU_o (x := ((4, 2, 0), .inl (eC E 0, 40, .inl (upd (upd (skyF st) (2 * ns + 0) p0) (2 * ns + 1) p1)))) hsk hsw (by simp)
        have hnb := gU_o (x := ((4, 2, 0), .inl (eC E 0, 40, .inl (upd (upd (skyF st) (2 * ns + 0) p0) (2 * ns + 1) p1)))) hsk hnb (by simp)
        have hFr : Fr (Ow 4) G (gU (gU G0 sk ((4, 2, 0), .inl (eC E 0, 40, .inl (upd (skyF st) (2 * ns + 0) p0)))) sk ((4, 2, 0), .inl (eC E 0, 40, .inl (upd (upd (skyF st) (2 * ns + 0) p0) (2 * ns + 1) p1)))) := Fr.trans hFr (Fr.put (x := ((4, 2, 0), .inl (eC E 0, 40, .inl (upd (upd (skyF st) (2 * ns + 0) p0) (2 * ns + 1) p1)))) hsk rfl)
        have hsk : (gU (gU G0 sk ((4, 2, 0), .inl (eC E 0, 40, .inl (upd (skyF st) (2 * ns + 0) p0)))) sk ((4, 2, 0), .inl (eC E 0, 40, .inl (upd (upd (skyF st) (2 * ns + 0) p0) (2 * ns + 1) p1)))) sk = some ((4, 2, 0), .inl (eC E 0, 40, .inl (upd (upd (skyF st) (2 * ns + 0) p0) (2 * ns + 1) p1))) := gU_self
        refine lv_aload_n hx hb dX3_star_73 rfl (lv_at hl 0 rfl) ?_
        refine lv_dup hx hb dX3_star_74 rfl ?_
        refine g_get (C := RX3) (T := TX3) (N := 9) (v := .int (nI ns)) hx hb hts in_X3 hown hE hI hy rfl 2 (by decide) q845 (fun _ h9 => h9) rfl dX3_star_75 ?_
        refine lv_iconst (v := 1) hx hb dX3_star_78 (by decide) ?_
        refine lv_iadd hx hb dX3_star_79 ?_
        refine g_put (C := RX3) (T := TX3) (N := 9) (v := .int (nI ns + 1)) (ty := .int) (fs' := [.int 0, .int (nI nd), .int (nI ns + 1), .int (nI nu), .ref la, .ref sk, .ref ta, .ref sw, .ref nb]) hx hb hts in_X3 tyX3 tyX3_ok nmX3 hown hE hI hS hL hy rfl 2 (by decide) q845 (fun _ h9 => h9) rfl (by decide +kernel) rfl rfl (Nat.le_of_ble_eq_true rfl) rfl dX3_star_80 (fun H locs hI hS => ?_)
        have hla := gU_o (x := ((4, 0, 0), .inr (7, [.int 0, .int (nI nd), .int (nI ns + 1), .int (nI nu), .ref la, .ref sk, .ref ta, .ref sw, .ref nb]))) hy hla (by simp)
        have hsk := gU_o (x := ((4, 0, 0), .inr (7, [.int 0, .int (nI nd), .int (nI ns + 1), .int (nI nu), .ref la, .ref sk, .ref ta, .ref sw, .ref nb]))) hy hsk (by simp)
        have hta := gU_o (x := ((4, 0, 0), .inr (7, [.int 0, .int (nI nd), .int (nI ns + 1), .int (nI nu), .ref la, .ref sk, .ref ta, .ref sw, .ref nb]))) hy hta (by simp)
        have hsw := gU_o (x := ((4, 0, 0), .inr (7, [.int 0, .int (nI nd), .int (nI ns + 1), .int (nI nu), .ref la, .ref sk, .ref ta, .ref sw, .ref nb]))) hy hsw (by simp)
        have hnb := gU_o (x := ((4, 0, 0), .inr (7, [.int 0, .int (nI nd), .int (nI ns + 1), .int (nI nu), .ref la, .ref sk, .ref ta, .ref sw, .ref nb]))) hy hnb (by simp)
        have hFr : Fr (Ow 4) G (gU (gU (gU G0 sk ((4, 2, 0), .inl (eC E 0, 40, .inl (upd (skyF st) (2 * ns + 0) p0)))) sk ((4, 2, 0), .inl (eC E 0, 40, .inl (upd (upd (skyF st) (2 * ns + 0) p0) (2 * ns + 1) p1)))) y ((4, 0, 0), .inr (7, [.int 0, .int (nI nd), .int (nI ns + 1), .int (nI nu), .ref la, .ref sk, .ref ta, .ref sw, .ref nb]))) := Fr.trans hFr (Fr.put (x := ((4, 0, 0), .inr (7, [.int 0, .int (nI nd), .int (nI ns + 1), .int (nI nu), .ref la, .ref sk, .ref ta, .ref sw, .ref nb]))) hy rfl)
        have hy : (gU (gU (gU G0 sk ((4, 2, 0), .inl (eC E 0, 40, .inl (upd (skyF st) (2 * ns + 0) p0)))) sk ((4, 2, 0), .inl (eC E 0, 40, .inl (upd (upd (skyF st) (2 * ns + 0) p0) (2 * ns + 1) p1)))) y ((4, 0, 0), .inr (7, [.int 0, .int (nI nd), .int (nI ns + 1), .int (nI nu), .ref la, .ref sk, .ref ta, .ref sw, .ref nb]))) y = some ((4, 0, 0), .inr (7, [.int 0, .int (nI nd), .int (nI ns + 1), .int (nI nu), .ref la, .ref sk, .ref ta, .ref sw, .ref nb])) := gU_self
        refine lv_aload_n hx hb dX3_star_83 rfl (lv_at hl 0 rfl) ?_
        refine g_get (C := RX3) (T := TX3) (N := 9) (v := .int (nI ns + 1)) hx hb hts in_X3 hown hE hI hy rfl 2 (by decide) q845 (fun _ h9 => h9) rfl dX3_star_84 ?_
        refine lv_iconst (v := 1) hx hb dX3_star_87 (by decide) ?_
        refine lv_isub hx hb dX3_star_88 ?_
        have hM2 : MRep E (gU (gU (gU G0 sk ((4, 2, 0), .inl (eC E 0, 40, .inl (upd (skyF st) (2 * ns + 0) p0)))) sk ((4, 2, 0), .inl (eC E 0, 40, .inl (upd (upd (skyF st) (2 * ns + 0) p0) (2 * ns + 1) p1)))) y ((4, 0, 0), .inr (7, [.int 0, .int (nI nd), .int (nI ns + 1), .int (nI nu), .ref la, .ref sk, .ref ta, .ref sw, .ref nb]))) y (la, sk, ta, sw, nb) 0 (staS ((((tk, ck, rn, an, sp, ln, lf), (nd, dm), (nc, km)), (nu, uq), (ns, st)) : Sy) p0 p1) := ⟨by show (gU (gU (gU G0 sk ((4, 2, 0), .inl (eC E 0, 40, .inl (upd (skyF st) (2 * ns + 0) p0)))) sk ((4, 2, 0), .inl (eC E 0, 40, .inl (upd (upd (skyF st) (2 * ns + 0) p0) (2 * ns + 1) p1)))) y ((4, 0, 0), .inr (7, [.int 0, .int (nI nd), .int (nI ns + 1), .int (nI nu), .ref la, .ref sk, .ref ta, .ref sw, .ref nb]))) y = some ((4, 0, 0), mO 0 (nI nd) (nI (ns + 1)) (nI nu) la sk ta sw nb); rw [← nI_1]; exact hy, hla, by show (gU (gU (gU G0 sk ((4, 2, 0), .inl (eC E 0, 40, .inl (upd (skyF st) (2 * ns + 0) p0)))) sk ((4, 2, 0), .inl (eC E 0, 40, .inl (upd (upd (skyF st) (2 * ns + 0) p0) (2 * ns + 1) p1)))) y ((4, 0, 0), .inr (7, [.int 0, .int (nI nd), .int (nI ns + 1), .int (nI nu), .ref la, .ref sk, .ref ta, .ref sw, .ref nb]))) sk = some ((4, 2, 0), iO E 40 (skyF (va_up st ns (p0, p1)))); rw [← skyF_up]; exact hsk, hta, hsw, hnb⟩
        exact g_iret hx hb hr hlk hI hS dX3_star_89 (Nat.le_of_ble_eq_true rfl) (Nat.le_of_ble_eq_true rfl) (⟨fun _ => by rw [nI_1, nI_pred], by rw [hcode, if_pos rfl]; exact hM2, hFr⟩)
      · refine lv_aload_n hx hb dX3_star_41 rfl (lv_at hl 0 rfl) ?_
        refine lv_iconst (v := 2) hx hb dX3_star_42 (by decide) ?_
        refine g_ci hS (va_runV (As := [.int 2]) (rest := []) ⟨hx, hb, hml, hown, hts⟩ (k_fail l E G0 y (la, sk, ta, sw, nb) _ ((((tk, ck, rn, an, sp, ln, lf), (nd, dm), (nc, km)), (nu, uq), (ns, st)) : Sy) hMR 2) (cwV 1 hts (lw_V q883 q885 qs13 q36 q886) rfl rfl rfl (by decide +kernel) ⟨Nat.le_of_ble_eq_true rfl, Nat.le_of_ble_eq_true rfl⟩) (g_preV hE hI (g_recv hE hI hy rfl)) rfl rfl hl.1 rfl (lv_room (Nat.le_of_ble_eq_true rfl)) dX3_star_43 ⟨Nat.le_of_ble_eq_true rfl, Nat.le_of_ble_eq_true rfl⟩) (fun r G1 H locs hp hI hS => ?_)
        obtain ⟨-, hM1, hF1⟩ := hp
        have hcode : staR ns p0 p1 = 2 := (if_neg c1).trans ((if_neg c2).trans (if_neg (fun z => Nat.ne_of_lt z ((nI_eq (b := 20) (by omega) (by decide)).mp c3))))
        exact g_iret hx hb hr hlk hI hS dX3_star_46 (Nat.le_of_ble_eq_true rfl) (Nat.le_of_ble_eq_true rfl) (⟨fun z => absurd (hcode.symm.trans z) (by decide), by rw [hcode, if_neg (by decide)]; exact hM1, Fr.trans hFr hF1⟩)
    · refine lv_aload_n hx hb dX3_star_26 rfl (lv_at hl 0 rfl) ?_
      refine lv_iconst (v := 1) hx hb dX3_star_27 (by decide) ?_
      refine g_ci hS (va_runV (As := [.int 1]) (rest := []) ⟨hx, hb, hml, hown, hts⟩ (k_fail l E G0 y (la, sk, ta, sw, nb) _ ((((tk, ck, rn, an, sp, ln, lf), (nd, dm), (nc, km)), (nu, uq), (ns, st)) : Sy) hMR 1) (cwV 1 hts (lw_V q883 q885 qs13 q36 q886) rfl rfl rfl (by decide +kernel) ⟨Nat.le_of_ble_eq_true rfl, Nat.le_of_ble_eq_true rfl⟩) (g_preV hE hI (g_recv hE hI hy rfl)) rfl rfl hl.1 rfl (lv_room (Nat.le_of_ble_eq_true rfl)) dX3_star_28 ⟨Nat.le_of_ble_eq_true rfl, Nat.le_of_ble_eq_true rfl⟩) (fun r G1 H locs hp hI hS => ?_)
      obtain ⟨-, hM1, hF1⟩ := hp
      have hcode : staR ns p0 p1 = 1 := (if_neg c1).trans (if_pos c2)
      exact g_iret hx hb hr hlk hI hS dX3_star_31 (Nat.le_of_ble_eq_true rfl) (Nat.le_of_ble_eq_true rfl) (⟨fun z => absurd (hcode.symm.trans z) (by decide), by rw [hcode, if_neg (by decide)]; exact hM1, Fr.trans hFr hF1⟩)
def icV (nd : Nat) (kd a b : Int32) : Int32 := if isInV kd 0 4 = 0 then 0 else takesV nd kd.toNatClampNeg a b
theorem icV_0 (nd : Nat) (a b : Int32) : icV nd 0 a b = (if isInV a 0 (nI nd - 1) = 0 then 0 else if isInV b 0 100 = 0 then 0 else 1 : Int32) := by
  unfold icV
  rw [if_neg (by decide), show (0 : Int32).toNatClampNeg = 0 by decide]
  rfl
theorem icV_1 (nd : Nat) (a b : Int32) : icV nd 1 a b = (if a = 0 then (if isInV b (-30) 30 = 0 then 0 else 1) else 0 : Int32) := by
  unfold icV
  rw [if_neg (by decide), show (1 : Int32).toNatClampNeg = 1 by decide]
  rfl
theorem icV_2 (nd : Nat) (a b : Int32) : icV nd 2 a b = (if isInV a 0 359 = 0 then 0 else if isInV b (-20) 20 = 0 then 0 else 1 : Int32) := by
  unfold icV
  rw [if_neg (by decide), show (2 : Int32).toNatClampNeg = 2 by decide]
  rfl
theorem icV_3 (nd : Nat) (a b : Int32) : icV nd 3 a b = (if isInV a 0 99 = 0 then 0 else if isInV b 1 60 = 0 then 0 else 1 : Int32) := by
  unfold icV
  rw [if_neg (by decide), show (3 : Int32).toNatClampNeg = 3 by decide]
  rfl
theorem icV_4 (nd : Nat) (a b : Int32) : icV nd 4 a b = (if a = 0 then (if b = 0 then 1 else 0) else 0 : Int32) := by
  unfold icV
  rw [if_neg (by decide), show (4 : Int32).toNatClampNeg = 4 by decide]
  rfl
set_option maxHeartbeats 4000000 in
set_option maxRecDepth 100000 in
theorem k_isCue (l : Launch) (E : EnvT) (G : Gh) (y : Nat) (M : MA) (th : Int32) (σ : Sy) (hMR : MRep E G y M th σ) (kd a b : Int32) : Met l yX3_isCue (ws_ yX3_isCue cX3_isCue 4 (some .boolean)) ({ frames := 2, cells := 0, slots := 0, locals := 43 } : Room) (cP E G [.ref y, .int kd, .int a, .int b]) (cI E (fun r G' => r = icV σ.1.2.1.1 kd a b ∧ G' = G)) 0 0 (eA E) := by
  obtain ⟨la, sk, ta, sw, nb⟩ := M
  obtain ⟨⟨⟨tk, ck, rn, an, sp, ln, lf⟩, ⟨nd, dm⟩, ⟨nc, km⟩⟩, ⟨nu, uq⟩, ⟨ns, st⟩⟩ := σ
  refine g_met (rm := ({ frames := 2, cells := 0, slots := 0, locals := 43 } : Room)) (av := [.ref y, .int kd, .int a, .int b]) (lv := [(0, .ref y), (1, .int kd), (2, .int a), (3, .int b)]) (by decide) (Nat.le_of_ble_eq_true rfl) rfl ?_
  intro p e s m below meth c ls hx hb hr hlk hml hin hts hown hE hI hL hS hl
  have hMR0 := hMR
  obtain ⟨hy, hla, hsk, hta, hsw, hnb⟩ := hMR0
  have hy : G y = some ((4, 0, 0), mO th (nI nd) (nI ns) (nI nu) la sk ta sw nb) := hy
  have hla : G la = some ((4, 1, 0), iO E 40 (lampF dm)) := hla
  have hsk : G sk = some ((4, 2, 0), iO E 40 (skyF st)) := hsk
  have hta : G ta = some ((4, 3, 0), iO E 36 (tailF km)) := hta
  have hsw : G sw = some ((4, 4, 0), iO E 96 (showF uq)) := hsw
  have hnb : G nb = some ((4, 5, 0), iO E 8 (numF (tk, ck, rn, an, sp, ln, lf) nc)) := hnb
  have hFr : Fr (Ow 4) G G := Fr.rf
  refine lv_iload_n hx hb dX3_isCue_0 rfl (lv_at hl 1 rfl) ?_
  by_cases z0 : kd = 0
  · subst z0
    refine lv_tableIn (tgt := 36) hx hb dX3_isCue_1 (by decide) (by decide) rfl (by decide) ?_
    refine lv_aload_n hx hb dX3_isCue_36 rfl (lv_at hl 0 rfl) ?_
    refine lv_iload_n hx hb dX3_isCue_37 rfl (lv_at hl 2 rfl) ?_
    refine g_ci0 (G := G) (v := isInV a 0 (nI nd - 1)) hS (va_runV (As := [.int a]) (rest := []) ⟨hx, hb, hml, hown, hts⟩ (k_isDim l E G y (la, sk, ta, sw, nb) _ ((((tk, ck, rn, an, sp, ln, lf), (nd, dm), (nc, km)), (nu, uq), (ns, st)) : Sy) hMR a) (cwV 1 hts (lw_V q892 q894 qs14 q36 q895) rfl rfl rfl (by decide +kernel) ⟨Nat.le_of_ble_eq_true rfl, Nat.le_of_ble_eq_true rfl⟩) (g_preV hE hI (g_recv hE hI hy rfl)) rfl rfl hl.1 rfl (lv_room (Nat.le_of_ble_eq_true rfl)) dX3_isCue_38 ⟨Nat.le_of_ble_eq_true rfl, Nat.le_of_ble_eq_true rfl⟩) (fun H locs hI hS => ?_)
    refine lv_if_eq (tgt := 58) hx hb dX3_isCue_41 (by decide) (fun c1 => ?_) (fun c1 => ?_)
    · refine lv_iconst (v := 0) hx hb dX3_isCue_58 (by decide) ?_
      exact g_zret hx hb hr hlk hI hS dX3_isCue_59 (Nat.le_of_ble_eq_true rfl) (Nat.le_of_ble_eq_true rfl) rfl (⟨by rw [icV_0, if_pos c1], rfl⟩)
    · refine lv_iload_n hx hb dX3_isCue_44 rfl (lv_at hl 3 rfl) ?_
      refine lv_iconst (v := 0) hx hb dX3_isCue_45 (by decide) ?_
      refine lv_bipush (v := 100) hx hb dX3_isCue_46 (by decide) ?_
      refine g_ci0 (G := G) (v := isInV b 0 100) hS (va_runS (As := [.int b, .int 0, .int 100]) (rest := []) ⟨hx, hb, hml, hown, hts⟩ (k_isIn l E G b 0 100) (va_cwS 3 hts (lw_S q880 q881 q36 q882) rfl rfl rfl (by decide +kernel) ⟨Nat.le_of_ble_eq_true rfl, Nat.le_of_ble_eq_true rfl⟩) (g_preS hE hI) rfl rfl hl.1 rfl (lv_room (Nat.le_of_ble_eq_true rfl)) dX3_isCue_48 ⟨Nat.le_of_ble_eq_true rfl, Nat.le_of_ble_eq_true rfl⟩) (fun H locs hI hS => ?_)
      refine lv_if_eq (tgt := 58) hx hb dX3_isCue_51 (by decide) (fun c2 => ?_) (fun c2 => ?_)
      · refine lv_iconst (v := 0) hx hb dX3_isCue_58 (by decide) ?_
        exact g_zret hx hb hr hlk hI hS dX3_isCue_59 (Nat.le_of_ble_eq_true rfl) (Nat.le_of_ble_eq_true rfl) rfl (⟨by rw [icV_0, if_neg c1, if_pos c2], rfl⟩)
      · refine lv_iconst (v := 1) hx hb dX3_isCue_54 (by decide) ?_
        refine lv_goto (tgt := 59) hx hb dX3_isCue_55 (by decide) ?_
        exact g_zret hx hb hr hlk hI hS dX3_isCue_59 (Nat.le_of_ble_eq_true rfl) (Nat.le_of_ble_eq_true rfl) rfl (⟨by rw [icV_0, if_neg c1, if_neg c2], rfl⟩)
  · by_cases z1 : kd = 1
    · subst z1
      refine lv_tableIn (tgt := 60) hx hb dX3_isCue_1 (by decide) (by decide) rfl (by decide) ?_
      refine lv_iload_n hx hb dX3_isCue_60 rfl (lv_at hl 2 rfl) ?_
      refine lv_if_ne (tgt := 79) hx hb dX3_isCue_61 (by decide) (fun c1 => ?_) (fun c1 => ?_)
      · refine lv_iconst (v := 0) hx hb dX3_isCue_79 (by decide) ?_
        exact g_zret hx hb hr hlk hI hS dX3_isCue_80 (Nat.le_of_ble_eq_true rfl) (Nat.le_of_ble_eq_true rfl) rfl (⟨by rw [icV_1, if_neg c1], rfl⟩)
      · refine lv_iload_n hx hb dX3_isCue_64 rfl (lv_at hl 3 rfl) ?_
        refine lv_bipush (v := -30) hx hb dX3_isCue_65 (by decide) ?_
        refine lv_bipush (v := 30) hx hb dX3_isCue_67 (by decide) ?_
        refine g_ci0 (G := G) (v := isInV b (-30) 30) hS (va_runS (As := [.int b, .int (-30), .int 30]) (rest := []) ⟨hx, hb, hml, hown, hts⟩ (k_isIn l E G b (-30) 30) (va_cwS 3 hts (lw_S q880 q881 q36 q882) rfl rfl rfl (by decide +kernel) ⟨Nat.le_of_ble_eq_true rfl, Nat.le_of_ble_eq_true rfl⟩) (g_preS hE hI) rfl rfl hl.1 rfl (lv_room (Nat.le_of_ble_eq_true rfl)) dX3_isCue_69 ⟨Nat.le_of_ble_eq_true rfl, Nat.le_of_ble_eq_true rfl⟩) (fun H locs hI hS => ?_)
        refine lv_if_eq (tgt := 79) hx hb dX3_isCue_72 (by decide) (fun c2 => ?_) (fun c2 => ?_)
        · refine lv_iconst (v := 0) hx hb dX3_isCue_79 (by decide) ?_
          exact g_zret hx hb hr hlk hI hS dX3_isCue_80 (Nat.le_of_ble_eq_true rfl) (Nat.le_of_ble_eq_true rfl) rfl (⟨by rw [icV_1, if_pos c1, if_pos c2], rfl⟩)
        · refine lv_iconst (v := 1) hx hb dX3_isCue_75 (by decide) ?_
          refine lv_goto (tgt := 80) hx hb dX3_isCue_76 (by decide) ?_
          exact g_zret hx hb hr hlk hI hS dX3_isCue_80 (Nat.le_of_ble_eq_true rfl) (Nat.le_of_ble_eq_true rfl) rfl (⟨by rw [icV_1, if_pos c1, if_neg c2], rfl⟩)
    · by_cases z2 : kd = 2
      · subst z2
        refine lv_tableIn (tgt := 81) hx hb dX3_isCue_1 (by decide) (by decide) rfl (by decide) ?_
        refine lv_iload_n hx hb dX3_isCue_81 rfl (lv_at hl 2 rfl) ?_
        refine lv_iconst (v := 0) hx hb dX3_isCue_82 (by decide) ?_
        refine lv_sipush (v := 359) hx hb dX3_isCue_83 (by decide) ?_
        refine g_ci0 (G := G) (v := isInV a 0 359) hS (va_runS (As := [.int a, .int 0, .int 359]) (rest := []) ⟨hx, hb, hml, hown, hts⟩ (k_isIn l E G a 0 359) (va_cwS 3 hts (lw_S q880 q881 q36 q882) rfl rfl rfl (by decide +kernel) ⟨Nat.le_of_ble_eq_true rfl, Nat.le_of_ble_eq_true rfl⟩) (g_preS hE hI) rfl rfl hl.1 rfl (lv_room (Nat.le_of_ble_eq_true rfl)) dX3_isCue_86 ⟨Nat.le_of_ble_eq_true rfl, Nat.le_of_ble_eq_true rfl⟩) (fun H locs hI hS => ?_)
        refine lv_if_eq (tgt := 107) hx hb dX3_isCue_89 (by decide) (fun c1 => ?_) (fun c1 => ?_)
        · refine lv_iconst (v := 0) hx hb dX3_isCue_107 (by decide) ?_
          exact g_zret hx hb hr hlk hI hS dX3_isCue_108 (Nat.le_of_ble_eq_true rfl) (Nat.le_of_ble_eq_true rfl) rfl (⟨by rw [icV_2, if_pos c1], rfl⟩)
        · refine lv_iload_n hx hb dX3_isCue_92 rfl (lv_at hl 3 rfl) ?_
          refine lv_bipush (v := -20) hx hb dX3_isCue_93 (by decide) ?_
          refine lv_bipush (v := 20) hx hb dX3_isCue_95 (by decide) ?_
          refine g_ci0 (G := G) (v := isInV b (-20) 20) hS (va_runS (As := [.int b, .int (-20), .int 20]) (rest := []) ⟨hx, hb, hml, hown, hts⟩ (k_isIn l E G b (-20) 20) (va_cwS 3 hts (lw_S q880 q881 q36 q882) rfl rfl rfl (by decide +kernel) ⟨Nat.le_of_ble_eq_true rfl, Nat.le_of_ble_eq_true rfl⟩) (g_preS hE hI) rfl rfl hl.1 rfl (lv_room (Nat.le_of_ble_eq_true rfl)) dX3_isCue_97 ⟨Nat.le_of_ble_eq_true rfl, Nat.le_of_ble_eq_true rfl⟩) (fun H locs hI hS => ?_)
          refine lv_if_eq (tgt := 107) hx hb dX3_isCue_100 (by decide) (fun c2 => ?_) (fun c2 => ?_)
          · refine lv_iconst (v := 0) hx hb dX3_isCue_107 (by decide) ?_
            exact g_zret hx hb hr hlk hI hS dX3_isCue_108 (Nat.le_of_ble_eq_true rfl) (Nat.le_of_ble_eq_true rfl) rfl (⟨by rw [icV_2, if_neg c1, if_pos c2], rfl⟩)
          · refine lv_iconst (v := 1) hx hb dX3_isCue_103 (by decide) ?_
            refine lv_goto (tgt := 108) hx hb dX3_isCue_104 (by decide) ?_
            exact g_zret hx hb hr hlk hI hS dX3_isCue_108 (Nat.le_of_ble_eq_true rfl) (Nat.le_of_ble_eq_true rfl) rfl (⟨by rw [icV_2, if_neg c1, if_neg c2], rfl⟩)
      · by_cases z3 : kd = 3
        · subst z3
          refine lv_tableIn (tgt := 109) hx hb dX3_isCue_1 (by decide) (by decide) rfl (by decide) ?_
          refine lv_iload_n hx hb dX3_isCue_109 rfl (lv_at hl 2 rfl) ?_
          refine lv_iconst (v := 0) hx hb dX3_isCue_110 (by decide) ?_
          refine lv_bipush (v := 99) hx hb dX3_isCue_111 (by decide) ?_
          refine g_ci0 (G := G) (v := isInV a 0 99) hS (va_runS (As := [.int a, .int 0, .int 99]) (rest := []) ⟨hx, hb, hml, hown, hts⟩ (k_isIn l E G a 0 99) (va_cwS 3 hts (lw_S q880 q881 q36 q882) rfl rfl rfl (by decide +kernel) ⟨Nat.le_of_ble_eq_true rfl, Nat.le_of_ble_eq_true rfl⟩) (g_preS hE hI) rfl rfl hl.1 rfl (lv_room (Nat.le_of_ble_eq_true rfl)) dX3_isCue_113 ⟨Nat.le_of_ble_eq_true rfl, Nat.le_of_ble_eq_true rfl⟩) (fun H locs hI hS => ?_)
          refine lv_if_eq (tgt := 133) hx hb dX3_isCue_116 (by decide) (fun c1 => ?_) (fun c1 => ?_)
          · refine lv_iconst (v := 0) hx hb dX3_isCue_133 (by decide) ?_
            exact g_zret hx hb hr hlk hI hS dX3_isCue_134 (Nat.le_of_ble_eq_true rfl) (Nat.le_of_ble_eq_true rfl) rfl (⟨by rw [icV_3, if_pos c1], rfl⟩)
          · refine lv_iload_n hx hb dX3_isCue_119 rfl (lv_at hl 3 rfl) ?_
            refine lv_iconst (v := 1) hx hb dX3_isCue_120 (by decide) ?_
            refine lv_bipush (v := 60) hx hb dX3_isCue_121 (by decide) ?_
            refine g_ci0 (G := G) (v := isInV b 1 60) hS (va_runS (As := [.int b, .int 1, .int 60]) (rest := []) ⟨hx, hb, hml, hown, hts⟩ (k_isIn l E G b 1 60) (va_cwS 3 hts (lw_S q880 q881 q36 q882) rfl rfl rfl (by decide +kernel) ⟨Nat.le_of_ble_eq_true rfl, Nat.le_of_ble_eq_true rfl⟩) (g_preS hE hI) rfl rfl hl.1 rfl (lv_room (Nat.le_of_ble_eq_true rfl)) dX3_isCue_123 ⟨Nat.le_of_ble_eq_true rfl, Nat.le_of_ble_eq_true rfl⟩) (fun H locs hI hS => ?_)
            refine lv_if_eq (tgt := 133) hx hb dX3_isCue_126 (by decide) (fun c2 => ?_) (fun c2 => ?_)
            · refine lv_iconst (v := 0) hx hb dX3_isCue_133 (by decide) ?_
              exact g_zret hx hb hr hlk hI hS dX3_isCue_134 (Nat.le_of_ble_eq_true rfl) (Nat.le_of_ble_eq_true rfl) rfl (⟨by rw [icV_3, if_neg c1, if_pos c2], rfl⟩)
            · refine lv_iconst (v := 1) hx hb dX3_isCue_129 (by decide) ?_
              refine lv_goto (tgt := 134) hx hb dX3_isCue_130 (by decide) ?_
              exact g_zret hx hb hr hlk hI hS dX3_isCue_134 (Nat.le_of_ble_eq_true rfl) (Nat.le_of_ble_eq_true rfl) rfl (⟨by rw [icV_3, if_neg c1, if_neg c2], rfl⟩)
        · by_cases z4 : kd = 4
          · subst z4
            refine lv_tableIn (tgt := 135) hx hb dX3_isCue_1 (by decide) (by decide) rfl (by decide) ?_
            refine lv_iload_n hx hb dX3_isCue_135 rfl (lv_at hl 2 rfl) ?_
            refine lv_if_ne (tgt := 147) hx hb dX3_isCue_136 (by decide) (fun c1 => ?_) (fun c1 => ?_)
            · refine lv_iconst (v := 0) hx hb dX3_isCue_147 (by decide) ?_
              exact g_zret hx hb hr hlk hI hS dX3_isCue_148 (Nat.le_of_ble_eq_true rfl) (Nat.le_of_ble_eq_true rfl) rfl (⟨by rw [icV_4, if_neg c1], rfl⟩)
            · refine lv_iload_n hx hb dX3_isCue_139 rfl (lv_at hl 3 rfl) ?_
              refine lv_if_ne (tgt := 147) hx hb dX3_isCue_140 (by decide) (fun c2 => ?_) (fun c2 => ?_)
              · refine lv_iconst (v := 0) hx hb dX3_isCue_147 (by decide) ?_
                exact g_zret hx hb hr hlk hI hS dX3_isCue_148 (Nat.le_of_ble_eq_true rfl) (Nat.le_of_ble_eq_true rfl) rfl (⟨by rw [icV_4, if_pos c1, if_neg c2], rfl⟩)
              · refine lv_iconst (v := 1) hx hb dX3_isCue_143 (by decide) ?_
                refine lv_goto (tgt := 148) hx hb dX3_isCue_144 (by decide) ?_
                exact g_zret hx hb hr hlk hI hS dX3_isCue_148 (Nat.le_of_ble_eq_true rfl) (Nat.le_of_ble_eq_true rfl) rfl (⟨by rw [icV_4, if_pos c1, if_pos c2], rfl⟩)
          · have ht9 : kd.toInt < 0 ∨ 4 < kd.toInt := by have := lv_neT z0 (a := 0) (by decide); have := lv_neT z1 (a := 1) (by decide); have := lv_neT z2 (a := 2) (by decide); have := lv_neT z3 (a := 3) (by decide); have := lv_neT z4 (a := 4) (by decide); omega
            refine lv_tableOut (tgt := 149) hx hb dX3_isCue_1 ht9 (by decide) ?_
            have h0 : isInV kd 0 4 = 0 := Classical.byContradiction (fun h => by
              obtain ⟨j, hj, e9⟩ := isIn_idx (n := 4) (by decide) h
              rcases (show j = 0 ∨ j = 1 ∨ j = 2 ∨ j = 3 ∨ j = 4 by omega) with rfl | rfl | rfl | rfl | rfl
              · exact z0 (e9.trans (by decide))
              · exact z1 (e9.trans (by decide))
              · exact z2 (e9.trans (by decide))
              · exact z3 (e9.trans (by decide))
              · exact z4 (e9.trans (by decide)))
            refine lv_iconst (v := 0) hx hb dX3_isCue_149 (by decide) ?_
            exact g_zret hx hb hr hlk hI hS dX3_isCue_150 (Nat.le_of_ble_eq_true rfl) (Nat.le_of_ble_eq_true rfl) rfl (⟨by unfold icV; rw [if_pos h0], rfl⟩)
set_option maxHeartbeats 4000000 in
set_option maxRecDepth 100000 in
theorem k_run (l : Launch) (E : EnvT) (G : Gh) (y : Nat) (M : MA) (th : Int32) (σ : Sy) (hMR : MRep E G y M th σ) (hO : OkS σ) : Met l yX3_run (ws_ yX3_run cX3_run 1 (some .boolean)) ({ frames := 0, cells := 0, slots := 0, locals := 0 } : Room) (cP E G [.ref y]) (cI E (fun r G' => r = runV σ.1.1.2.2.1 ∧ MRep E G' y M 0 (runSy σ) ∧ Fr (Ow 4) G G')) 0 0 (eA E) := by
  obtain ⟨la, sk, ta, sw, nb⟩ := M
  obtain ⟨⟨⟨tk, ck, rn, an, sp, ln, lf⟩, ⟨nd, dm⟩, ⟨nc, km⟩⟩, ⟨nu, uq⟩, ⟨ns, st⟩⟩ := σ
  refine g_met (rm := ({ frames := 0, cells := 0, slots := 0, locals := 0 } : Room)) (av := [.ref y]) (lv := [(0, .ref y)]) (by decide) (Nat.le_of_ble_eq_true rfl) rfl ?_
  intro p e s m below meth c ls hx hb hr hlk hml hin hts hown hE hI hL hS hl
  have hMR0 := hMR
  obtain ⟨hy, hla, hsk, hta, hsw, hnb⟩ := hMR0
  have hy : G y = some ((4, 0, 0), mO th (nI nd) (nI ns) (nI nu) la sk ta sw nb) := hy
  have hla : G la = some ((4, 1, 0), iO E 40 (lampF dm)) := hla
  have hsk : G sk = some ((4, 2, 0), iO E 40 (skyF st)) := hsk
  have hta : G ta = some ((4, 3, 0), iO E 36 (tailF km)) := hta
  have hsw : G sw = some ((4, 4, 0), iO E 96 (showF uq)) := hsw
  have hnb : G nb = some ((4, 5, 0), iO E 8 (numF (tk, ck, rn, an, sp, ln, lf) nc)) := hnb
  have hFr : Fr (Ow 4) G G := Fr.rf
  refine lv_aload_n hx hb dX3_run_0 rfl (lv_at hl 0 rfl) ?_
  refine lv_iconst (v := 0) hx hb dX3_run_1 (by decide) ?_
  refine g_put (C := RX3) (T := TX3) (N := 9) (v := .int 0) (ty := .int) (fs' := [.int 0, .int (nI nd), .int (nI ns), .int (nI nu), .ref la, .ref sk, .ref ta, .ref sw, .ref nb]) hx hb hts in_X3 tyX3 tyX3_ok nmX3 hown hE hI hS hL hy rfl 0 (by decide) q843 (fun _ h9 => h9) rfl (by decide +kernel) rfl rfl (Nat.le_of_ble_eq_true rfl) rfl dX3_run_2 (fun H locs hI hS => ?_)
  have hla := gU_o (x := ((4, 0, 0), .inr (7, [.int 0, .int (nI nd), .int (nI ns), .int (nI nu), .ref la, .ref sk, .ref ta, .ref sw, .ref nb]))) hy hla (by simp)
  have hsk := gU_o (x := ((4, 0, 0), .inr (7, [.int 0, .int (nI nd), .int (nI ns), .int (nI nu), .ref la, .ref sk, .ref ta, .ref sw, .ref nb]))) hy hsk (by simp)
  have hta := gU_o (x := ((4, 0, 0), .inr (7, [.int 0, .int (nI nd), .int (nI ns), .int (nI nu), .ref la, .ref sk, .ref ta, .ref sw, .ref nb]))) hy hta (by simp)
  have hsw := gU_o (x := ((4, 0, 0), .inr (7, [.int 0, .int (nI nd), .int (nI ns), .int (nI nu), .ref la, .ref sk, .ref ta, .ref sw, .ref nb]))) hy hsw (by simp)
  have hnb := gU_o (x := ((4, 0, 0), .inr (7, [.int 0, .int (nI nd), .int (nI ns), .int (nI nu), .ref la, .ref sk, .ref ta, .ref sw, .ref nb]))) hy hnb (by simp)
  have hFr : Fr (Ow 4) G (gU G y ((4, 0, 0), .inr (7, [.int 0, .int (nI nd), .int (nI ns), .int (nI nu), .ref la, .ref sk, .ref ta, .ref sw, .ref nb]))) := Fr.trans hFr (Fr.put (x := ((4, 0, 0), .inr (7, [.int 0, .int (nI nd), .int (nI ns), .int (nI nu), .ref la, .ref sk, .ref ta, .ref sw, .ref nb]))) hy rfl)
  have hy : (gU G y ((4, 0, 0), .inr (7, [.int 0, .int (nI nd), .int (nI ns), .int (nI nu), .ref la, .ref sk, .ref ta, .ref sw, .ref nb]))) y = some ((4, 0, 0), .inr (7, [.int 0, .int (nI nd), .int (nI ns), .int (nI nu), .ref la, .ref sk, .ref ta, .ref sw, .ref nb])) := gU_self
  obtain ⟨G0, hMR, hFr, hI⟩ : ∃ G0, MRep E G0 y (la, sk, ta, sw, nb) 0 ((((tk, ck, rn, an, sp, ln, lf), (nd, dm), (nc, km)), (nu, uq), (ns, st)) : Sy) ∧ Fr (Ow 4) G G0 ∧ Inv E G0 H := ⟨_, ⟨hy, hla, hsk, hta, hsw, hnb⟩, hFr, hI⟩
  have hMR0 := hMR
  obtain ⟨hy, hla, hsk, hta, hsw, hnb⟩ := hMR0
  have hy : G0 y = some ((4, 0, 0), mO 0 (nI nd) (nI ns) (nI nu) la sk ta sw nb) := hy
  have hla : G0 la = some ((4, 1, 0), iO E 40 (lampF dm)) := hla
  have hsk : G0 sk = some ((4, 2, 0), iO E 40 (skyF st)) := hsk
  have hta : G0 ta = some ((4, 3, 0), iO E 36 (tailF km)) := hta
  have hsw : G0 sw = some ((4, 4, 0), iO E 96 (showF uq)) := hsw
  have hnb : G0 nb = some ((4, 5, 0), iO E 8 (numF (tk, ck, rn, an, sp, ln, lf) nc)) := hnb
  have hnd : nd ≤ 8 := hO.cn.nd
  have hnc : nc ≤ 12 := hO.cn.nc
  have hnu : nu ≤ 24 := hO.nu
  have hns : ns ≤ 20 := hO.ns
  have er : 1 - rn = runV rn := by rcases hO.cn.rn with z | z <;> (have z : rn = _ := z; rw [z]; decide)
  refine lv_aload_n hx hb dX3_run_5 rfl (lv_at hl 0 rfl) ?_
  refine g_get (C := RX3) (T := TX3) (N := 9) (v := .ref nb) hx hb hts in_X3 hown hE hI hy rfl 8 (by decide) q851 (fun _ h9 => h9) rfl dX3_run_6 ?_
  refine lv_iconst (v := 2) hx hb dX3_run_9 (by decide) ?_
  refine lv_iconst (v := 1) hx hb dX3_run_10 (by decide) ?_
  refine lv_aload_n hx hb dX3_run_11 rfl (lv_at hl 0 rfl) ?_
  refine g_get (C := RX3) (T := TX3) (N := 9) (v := .ref nb) hx hb hts in_X3 hown hE hI hy rfl 8 (by decide) q851 (fun _ h9 => h9) rfl dX3_run_12 ?_
  refine lv_iconst (v := 2) hx hb dX3_run_15 (by decide) ?_
  refine g_iald hx hb hE hI hnb (i := 2) 2 rfl (by decide) (by decide) dX3_run_16 ?_
  rw [show numF (tk, ck, rn, an, sp, ln, lf) nc 2 = rn from rfl]
  refine lv_isub hx hb dX3_run_17 ?_
  refine g_iast hx hb hE hI hS hL hnb (i := 2) (x := (1 - rn)) 2 rfl (by decide) (by decide) dX3_run_18 (fun H locs hI hS => ?_)
  have hI : Inv E (gU G0 nb ((4, 5, 0), .inl (eC E 0, 8, .inl (numF (tk, ck, (1 - rn), an, sp, ln, lf) nc)))) H := by have z := hI; rw [numF_up2] at z; exact z
  have hy := gU_o (x := ((4, 5, 0), .inl (eC E 0, 8, .inl (numF (tk, ck, (1 - rn), an, sp, ln, lf) nc)))) hnb hy (by simp)
  have hla := gU_o (x := ((4, 5, 0), .inl (eC E 0, 8, .inl (numF (tk, ck, (1 - rn), an, sp, ln, lf) nc)))) hnb hla (by simp)
  have hsk := gU_o (x := ((4, 5, 0), .inl (eC E 0, 8, .inl (numF (tk, ck, (1 - rn), an, sp, ln, lf) nc)))) hnb hsk (by simp)
  have hta := gU_o (x := ((4, 5, 0), .inl (eC E 0, 8, .inl (numF (tk, ck, (1 - rn), an, sp, ln, lf) nc)))) hnb hta (by simp)
  have hsw := gU_o (x := ((4, 5, 0), .inl (eC E 0, 8, .inl (numF (tk, ck, (1 - rn), an, sp, ln, lf) nc)))) hnb hsw (by simp)
  have hFr : Fr (Ow 4) G (gU G0 nb ((4, 5, 0), .inl (eC E 0, 8, .inl (numF (tk, ck, (1 - rn), an, sp, ln, lf) nc)))) := Fr.trans hFr (Fr.put (x := ((4, 5, 0), .inl (eC E 0, 8, .inl (numF (tk, ck, (1 - rn), an, sp, ln, lf) nc)))) hnb rfl)
  have hnb : (gU G0 nb ((4, 5, 0), .inl (eC E 0, 8, .inl (numF (tk, ck, (1 - rn), an, sp, ln, lf) nc)))) nb = some ((4, 5, 0), .inl (eC E 0, 8, .inl (numF (tk, ck, (1 - rn), an, sp, ln, lf) nc))) := gU_self
  refine lv_aload_n hx hb dX3_run_19 rfl (lv_at hl 0 rfl) ?_
  refine g_get (C := RX3) (T := TX3) (N := 9) (v := .ref nb) hx hb hts in_X3 hown hE hI hy rfl 8 (by decide) q851 (fun _ h9 => h9) rfl dX3_run_20 ?_
  refine lv_iconst (v := 2) hx hb dX3_run_23 (by decide) ?_
  refine g_iald hx hb hE hI hnb (i := 2) 2 rfl (by decide) (by decide) dX3_run_24 ?_
  rw [show numF (tk, ck, (1 - rn), an, sp, ln, lf) nc 2 = (1 - rn) from rfl]
  refine lv_iconst (v := 1) hx hb dX3_run_25 (by decide) ?_
  refine lv_icmp_ne (tgt := 33) hx hb dX3_run_26 (by decide) (fun c1 => ?_) (fun c1 => ?_)
  · refine lv_iconst (v := 0) hx hb dX3_run_33 (by decide) ?_
    exact g_zret hx hb hr hlk hI hS dX3_run_34 (Nat.le_of_ble_eq_true rfl) (Nat.le_of_ble_eq_true rfl) rfl (⟨by show 0 = runV rn; rw [er] at c1; rcases hO.cn.rn with z | z <;> (have z : rn = _ := z; rw [z] at c1 ⊢; first | rfl | exact absurd rfl c1), ⟨hy, hla, hsk, hta, hsw, by show _ = some ((4, 5, 0), iO E 8 (numF (tk, ck, runV rn, an, sp, ln, lf) nc)); rw [← er]; exact hnb⟩, hFr⟩)
  · refine lv_iconst (v := 1) hx hb dX3_run_29 (by decide) ?_
    refine lv_goto (tgt := 34) hx hb dX3_run_30 (by decide) ?_
    exact g_zret hx hb hr hlk hI hS dX3_run_34 (Nat.le_of_ble_eq_true rfl) (Nat.le_of_ble_eq_true rfl) rfl (⟨er ▸ c1.symm, ⟨hy, hla, hsk, hta, hsw, by show _ = some ((4, 5, 0), iO E 8 (numF (tk, ck, runV rn, an, sp, ln, lf) nc)); rw [← er]; exact hnb⟩, hFr⟩)
set_option maxHeartbeats 4000000 in
set_option maxRecDepth 100000 in
theorem k_jump (l : Launch) (E : EnvT) (G : Gh) (y : Nat) (M : MA) (th : Int32) (σ : Sy) (hMR : MRep E G y M th σ) (hO : OkS σ) (t : Int32) : Met l yX3_jump (ws_ yX3_jump cX3_jump 3 (some .int)) ({ frames := 1, cells := 0, slots := 0, locals := 22 } : Room) (cP E G [.ref y, .int t]) (cI E (fun r G' => (jumR t = 0 → r = σ.1.1.2.1) ∧ MRep E G' y M (jumR t) (if jumR t = 0 then jumS σ t else σ) ∧ Fr (Ow 4) G G')) 0 0 (eA E) := by
  obtain ⟨la, sk, ta, sw, nb⟩ := M
  obtain ⟨⟨⟨tk, ck, rn, an, sp, ln, lf⟩, ⟨nd, dm⟩, ⟨nc, km⟩⟩, ⟨nu, uq⟩, ⟨ns, st⟩⟩ := σ
  refine g_met (rm := ({ frames := 1, cells := 0, slots := 0, locals := 22 } : Room)) (av := [.ref y, .int t]) (lv := [(0, .ref y), (1, .int t)]) (by decide) (Nat.le_of_ble_eq_true rfl) rfl ?_
  intro p e s m below meth c ls hx hb hr hlk hml hin hts hown hE hI hL hS hl
  have hMR0 := hMR
  obtain ⟨hy, hla, hsk, hta, hsw, hnb⟩ := hMR0
  have hy : G y = some ((4, 0, 0), mO th (nI nd) (nI ns) (nI nu) la sk ta sw nb) := hy
  have hla : G la = some ((4, 1, 0), iO E 40 (lampF dm)) := hla
  have hsk : G sk = some ((4, 2, 0), iO E 40 (skyF st)) := hsk
  have hta : G ta = some ((4, 3, 0), iO E 36 (tailF km)) := hta
  have hsw : G sw = some ((4, 4, 0), iO E 96 (showF uq)) := hsw
  have hnb : G nb = some ((4, 5, 0), iO E 8 (numF (tk, ck, rn, an, sp, ln, lf) nc)) := hnb
  have hFr : Fr (Ow 4) G G := Fr.rf
  refine lv_aload_n hx hb dX3_jump_0 rfl (lv_at hl 0 rfl) ?_
  refine lv_iconst (v := 0) hx hb dX3_jump_1 (by decide) ?_
  refine g_put (C := RX3) (T := TX3) (N := 9) (v := .int 0) (ty := .int) (fs' := [.int 0, .int (nI nd), .int (nI ns), .int (nI nu), .ref la, .ref sk, .ref ta, .ref sw, .ref nb]) hx hb hts in_X3 tyX3 tyX3_ok nmX3 hown hE hI hS hL hy rfl 0 (by decide) q843 (fun _ h9 => h9) rfl (by decide +kernel) rfl rfl (Nat.le_of_ble_eq_true rfl) rfl dX3_jump_2 (fun H locs hI hS => ?_)
  have hla := gU_o (x := ((4, 0, 0), .inr (7, [.int 0, .int (nI nd), .int (nI ns), .int (nI nu), .ref la, .ref sk, .ref ta, .ref sw, .ref nb]))) hy hla (by simp)
  have hsk := gU_o (x := ((4, 0, 0), .inr (7, [.int 0, .int (nI nd), .int (nI ns), .int (nI nu), .ref la, .ref sk, .ref ta, .ref sw, .ref nb]))) hy hsk (by simp)
  have hta := gU_o (x := ((4, 0, 0), .inr (7, [.int 0, .int (nI nd), .int (nI ns), .int (nI nu), .ref la, .ref sk, .ref ta, .ref sw, .ref nb]))) hy hta (by simp)
  have hsw := gU_o (x := ((4, 0, 0), .inr (7, [.int 0, .int (nI nd), .int (nI ns), .int (nI nu), .ref la, .ref sk, .ref ta, .ref sw, .ref nb]))) hy hsw (by simp)
  have hnb := gU_o (x := ((4, 0, 0), .inr (7, [.int 0, .int (nI nd), .int (nI ns), .int (nI nu), .ref la, .ref sk, .ref ta, .ref sw, .ref nb]))) hy hnb (by simp)
  have hFr : Fr (Ow 4) G (gU G y ((4, 0, 0), .inr (7, [.int 0, .int (nI nd), .int (nI ns), .int (nI nu), .ref la, .ref sk, .ref ta, .ref sw, .ref nb]))) := Fr.trans hFr (Fr.put (x := ((4, 0, 0), .inr (7, [.int 0, .int (nI nd), .int (nI ns), .int (nI nu), .ref la, .ref sk, .ref ta, .ref sw, .ref nb]))) hy rfl)
  have hy : (gU G y ((4, 0, 0), .inr (7, [.int 0, .int (nI nd), .int (nI ns), .int (nI nu), .ref la, .ref sk, .ref ta, .ref sw, .ref nb]))) y = some ((4, 0, 0), .inr (7, [.int 0, .int (nI nd), .int (nI ns), .int (nI nu), .ref la, .ref sk, .ref ta, .ref sw, .ref nb])) := gU_self
  obtain ⟨G0, hMR, hFr, hI⟩ : ∃ G0, MRep E G0 y (la, sk, ta, sw, nb) 0 ((((tk, ck, rn, an, sp, ln, lf), (nd, dm), (nc, km)), (nu, uq), (ns, st)) : Sy) ∧ Fr (Ow 4) G G0 ∧ Inv E G0 H := ⟨_, ⟨hy, hla, hsk, hta, hsw, hnb⟩, hFr, hI⟩
  have hMR0 := hMR
  obtain ⟨hy, hla, hsk, hta, hsw, hnb⟩ := hMR0
  have hy : G0 y = some ((4, 0, 0), mO 0 (nI nd) (nI ns) (nI nu) la sk ta sw nb) := hy
  have hla : G0 la = some ((4, 1, 0), iO E 40 (lampF dm)) := hla
  have hsk : G0 sk = some ((4, 2, 0), iO E 40 (skyF st)) := hsk
  have hta : G0 ta = some ((4, 3, 0), iO E 36 (tailF km)) := hta
  have hsw : G0 sw = some ((4, 4, 0), iO E 96 (showF uq)) := hsw
  have hnb : G0 nb = some ((4, 5, 0), iO E 8 (numF (tk, ck, rn, an, sp, ln, lf) nc)) := hnb
  have hnd : nd ≤ 8 := hO.cn.nd
  have hnc : nc ≤ 12 := hO.cn.nc
  have hnu : nu ≤ 24 := hO.nu
  have hns : ns ≤ 20 := hO.ns
  refine lv_iload_n hx hb dX3_jump_5 rfl (lv_at hl 1 rfl) ?_
  refine lv_iconst (v := 0) hx hb dX3_jump_6 (by decide) ?_
  refine lv_sipush (v := 1000) hx hb dX3_jump_7 (by decide) ?_
  refine g_ci0 (G := G0) (v := isInV t 0 1000) hS (va_runS (As := [.int t, .int 0, .int 1000]) (rest := []) ⟨hx, hb, hml, hown, hts⟩ (k_isIn l E G0 t 0 1000) (va_cwS 3 hts (lw_S q880 q881 q36 q882) rfl rfl rfl (by decide +kernel) ⟨Nat.le_of_ble_eq_true rfl, Nat.le_of_ble_eq_true rfl⟩) (g_preS hE hI) rfl rfl hl.1 rfl (lv_room (Nat.le_of_ble_eq_true rfl)) dX3_jump_10 ⟨Nat.le_of_ble_eq_true rfl, Nat.le_of_ble_eq_true rfl⟩) (fun H locs hI hS => ?_)
  refine lv_if_ne (tgt := 22) hx hb dX3_jump_13 (by decide) (fun c1 => ?_) (fun c1 => ?_)
  · have hcode : jumR t = 0 := if_neg c1
    refine lv_aload_n hx hb dX3_jump_22 rfl (lv_at hl 0 rfl) ?_
    refine g_get (C := RX3) (T := TX3) (N := 9) (v := .ref nb) hx hb hts in_X3 hown hE hI hy rfl 8 (by decide) q851 (fun _ h9 => h9) rfl dX3_jump_23 ?_
    refine lv_iconst (v := 1) hx hb dX3_jump_26 (by decide) ?_
    refine g_iald hx hb hE hI hnb (i := 1) 1 rfl (by decide) (by decide) dX3_jump_27 ?_
    rw [show numF (tk, ck, rn, an, sp, ln, lf) nc 1 = ck from rfl]
    refine lv_istore_n (lv' := [(2, .int ck), (0, .ref y), (1, .int t)]) hx hb dX3_jump_28 rfl hl (by decide) rfl (fun ls hl => ?_)
    refine lv_aload_n hx hb dX3_jump_29 rfl (lv_at hl 1 rfl) ?_
    refine g_get (C := RX3) (T := TX3) (N := 9) (v := .ref nb) hx hb hts in_X3 hown hE hI hy rfl 8 (by decide) q851 (fun _ h9 => h9) rfl dX3_jump_30 ?_
    refine lv_iconst (v := 1) hx hb dX3_jump_33 (by decide) ?_
    refine lv_iload_n hx hb dX3_jump_34 rfl (lv_at hl 2 rfl) ?_
    refine g_iast hx hb hE hI hS hL hnb (i := 1) (x := t) 1 rfl (by decide) (by decide) dX3_jump_35 (fun H locs hI hS => ?_)
    have hI : Inv E (gU G0 nb ((4, 5, 0), .inl (eC E 0, 8, .inl (numF (tk, t, rn, an, sp, ln, lf) nc)))) H := by have z := hI; rw [numF_up1] at z; exact z
    have hy := gU_o (x := ((4, 5, 0), .inl (eC E 0, 8, .inl (numF (tk, t, rn, an, sp, ln, lf) nc)))) hnb hy (by simp)
    have hla := gU_o (x := ((4, 5, 0), .inl (eC E 0, 8, .inl (numF (tk, t, rn, an, sp, ln, lf) nc)))) hnb hla (by simp)
    have hsk := gU_o (x := ((4, 5, 0), .inl (eC E 0, 8, .inl (numF (tk, t, rn, an, sp, ln, lf) nc)))) hnb hsk (by simp)
    have hta := gU_o (x := ((4, 5, 0), .inl (eC E 0, 8, .inl (numF (tk, t, rn, an, sp, ln, lf) nc)))) hnb hta (by simp)
    have hsw := gU_o (x := ((4, 5, 0), .inl (eC E 0, 8, .inl (numF (tk, t, rn, an, sp, ln, lf) nc)))) hnb hsw (by simp)
    have hFr : Fr (Ow 4) G (gU G0 nb ((4, 5, 0), .inl (eC E 0, 8, .inl (numF (tk, t, rn, an, sp, ln, lf) nc)))) := Fr.trans hFr (Fr.put (x := ((4, 5, 0), .inl (eC E 0, 8, .inl (numF (tk, t, rn, an, sp, ln, lf) nc)))) hnb rfl)
    have hnb : (gU G0 nb ((4, 5, 0), .inl (eC E 0, 8, .inl (numF (tk, t, rn, an, sp, ln, lf) nc)))) nb = some ((4, 5, 0), .inl (eC E 0, 8, .inl (numF (tk, t, rn, an, sp, ln, lf) nc))) := gU_self
    refine lv_iload_n hx hb dX3_jump_36 rfl (lv_at hl 0 rfl) ?_
    exact g_iret hx hb hr hlk hI hS dX3_jump_37 (Nat.le_of_ble_eq_true rfl) (Nat.le_of_ble_eq_true rfl) (⟨fun _ => rfl, by rw [hcode, if_pos rfl]; exact ⟨hy, hla, hsk, hta, hsw, hnb⟩, hFr⟩)
  · refine lv_aload_n hx hb dX3_jump_16 rfl (lv_at hl 0 rfl) ?_
    refine lv_iconst (v := 1) hx hb dX3_jump_17 (by decide) ?_
    refine g_ci hS (va_runV (As := [.int 1]) (rest := []) ⟨hx, hb, hml, hown, hts⟩ (k_fail l E G0 y (la, sk, ta, sw, nb) _ ((((tk, ck, rn, an, sp, ln, lf), (nd, dm), (nc, km)), (nu, uq), (ns, st)) : Sy) hMR 1) (cwV 1 hts (lw_V q883 q885 qs13 q36 q886) rfl rfl rfl (by decide +kernel) ⟨Nat.le_of_ble_eq_true rfl, Nat.le_of_ble_eq_true rfl⟩) (g_preV hE hI (g_recv hE hI hy rfl)) rfl rfl hl.1 rfl (lv_room (Nat.le_of_ble_eq_true rfl)) dX3_jump_18 ⟨Nat.le_of_ble_eq_true rfl, Nat.le_of_ble_eq_true rfl⟩) (fun r G1 H locs hp hI hS => ?_)
    obtain ⟨-, hM1, hF1⟩ := hp
    have hcode : jumR t = 1 := if_pos c1
    exact g_iret hx hb hr hlk hI hS dX3_jump_21 (Nat.le_of_ble_eq_true rfl) (Nat.le_of_ble_eq_true rfl) (⟨fun z => absurd (hcode.symm.trans z) (by decide), by rw [hcode, if_neg (by decide)]; exact hM1, Fr.trans hFr hF1⟩)
set_option maxHeartbeats 4000000 in
set_option maxRecDepth 100000 in
theorem k_fade (l : Launch) (E : EnvT) (G : Gh) (y : Nat) (M : MA) (th : Int32) (σ : Sy) (hMR : MRep E G y M th σ) (hO : OkS σ) (d z : Int32) : Met l yX3_fade (ws_ yX3_fade cX3_fade 4 (some .int)) ({ frames := 2, cells := 0, slots := 0, locals := 43 } : Room) (cP E G [.ref y, .int d, .int z]) (cI E (fun r G' => (fadR σ.1.2.1.1 d z = 0 → r = (σ.1.2.1.2 d.toNatClampNeg).2.2.2.1) ∧ MRep E G' y M (fadR σ.1.2.1.1 d z) (if fadR σ.1.2.1.1 d z = 0 then fadS σ d z else σ) ∧ Fr (Ow 4) G G')) 0 0 (eA E) := by
  obtain ⟨la, sk, ta, sw, nb⟩ := M
  obtain ⟨⟨⟨tk, ck, rn, an, sp, ln, lf⟩, ⟨nd, dm⟩, ⟨nc, km⟩⟩, ⟨nu, uq⟩, ⟨ns, st⟩⟩ := σ
  refine g_met (rm := ({ frames := 2, cells := 0, slots := 0, locals := 43 } : Room)) (av := [.ref y, .int d, .int z]) (lv := [(0, .ref y), (1, .int d), (2, .int z)]) (by decide) (Nat.le_of_ble_eq_true rfl) rfl ?_
  intro p e s m below meth c ls hx hb hr hlk hml hin hts hown hE hI hL hS hl
  have hMR0 := hMR
  obtain ⟨hy, hla, hsk, hta, hsw, hnb⟩ := hMR0
  have hy : G y = some ((4, 0, 0), mO th (nI nd) (nI ns) (nI nu) la sk ta sw nb) := hy
  have hla : G la = some ((4, 1, 0), iO E 40 (lampF dm)) := hla
  have hsk : G sk = some ((4, 2, 0), iO E 40 (skyF st)) := hsk
  have hta : G ta = some ((4, 3, 0), iO E 36 (tailF km)) := hta
  have hsw : G sw = some ((4, 4, 0), iO E 96 (showF uq)) := hsw
  have hnb : G nb = some ((4, 5, 0), iO E 8 (numF (tk, ck, rn, an, sp, ln, lf) nc)) := hnb
  have hFr : Fr (Ow 4) G G := Fr.rf
  refine lv_aload_n hx hb dX3_fade_0 rfl (lv_at hl 0 rfl) ?_
  refine lv_iconst (v := 0) hx hb dX3_fade_1 (by decide) ?_
  refine g_put (C := RX3) (T := TX3) (N := 9) (v := .int 0) (ty := .int) (fs' := [.int 0, .int (nI nd), .int (nI ns), .int (nI nu), .ref la, .ref sk, .ref ta, .ref sw, .ref nb]) hx hb hts in_X3 tyX3 tyX3_ok nmX3 hown hE hI hS hL hy rfl 0 (by decide) q843 (fun _ h9 => h9) rfl (by decide +kernel) rfl rfl (Nat.le_of_ble_eq_true rfl) rfl dX3_fade_2 (fun H locs hI hS => ?_)
  have hla := gU_o (x := ((4, 0, 0), .inr (7, [.int 0, .int (nI nd), .int (nI ns), .int (nI nu), .ref la, .ref sk, .ref ta, .ref sw, .ref nb]))) hy hla (by simp)
  have hsk := gU_o (x := ((4, 0, 0), .inr (7, [.int 0, .int (nI nd), .int (nI ns), .int (nI nu), .ref la, .ref sk, .ref ta, .ref sw, .ref nb]))) hy hsk (by simp)
  have hta := gU_o (x := ((4, 0, 0), .inr (7, [.int 0, .int (nI nd), .int (nI ns), .int (nI nu), .ref la, .ref sk, .ref ta, .ref sw, .ref nb]))) hy hta (by simp)
  have hsw := gU_o (x := ((4, 0, 0), .inr (7, [.int 0, .int (nI nd), .int (nI ns), .int (nI nu), .ref la, .ref sk, .ref ta, .ref sw, .ref nb]))) hy hsw (by simp)
  have hnb := gU_o (x := ((4, 0, 0), .inr (7, [.int 0, .int (nI nd), .int (nI ns), .int (nI nu), .ref la, .ref sk, .ref ta, .ref sw, .ref nb]))) hy hnb (by simp)
  have hFr : Fr (Ow 4) G (gU G y ((4, 0, 0), .inr (7, [.int 0, .int (nI nd), .int (nI ns), .int (nI nu), .ref la, .ref sk, .ref ta, .ref sw, .ref nb]))) := Fr.trans hFr (Fr.put (x := ((4, 0, 0), .inr (7, [.int 0, .int (nI nd), .int (nI ns), .int (nI nu), .ref la, .ref sk, .ref ta, .ref sw, .ref nb]))) hy rfl)
  have hy : (gU G y ((4, 0, 0), .inr (7, [.int 0, .int (nI nd), .int (nI ns), .int (nI nu), .ref la, .ref sk, .ref ta, .ref sw, .ref nb]))) y = some ((4, 0, 0), .inr (7, [.int 0, .int (nI nd), .int (nI ns), .int (nI nu), .ref la, .ref sk, .ref ta, .ref sw, .ref nb])) := gU_self
  obtain ⟨G0, hMR, hFr, hI⟩ : ∃ G0, MRep E G0 y (la, sk, ta, sw, nb) 0 ((((tk, ck, rn, an, sp, ln, lf), (nd, dm), (nc, km)), (nu, uq), (ns, st)) : Sy) ∧ Fr (Ow 4) G G0 ∧ Inv E G0 H := ⟨_, ⟨hy, hla, hsk, hta, hsw, hnb⟩, hFr, hI⟩
  have hMR0 := hMR
  obtain ⟨hy, hla, hsk, hta, hsw, hnb⟩ := hMR0
  have hy : G0 y = some ((4, 0, 0), mO 0 (nI nd) (nI ns) (nI nu) la sk ta sw nb) := hy
  have hla : G0 la = some ((4, 1, 0), iO E 40 (lampF dm)) := hla
  have hsk : G0 sk = some ((4, 2, 0), iO E 40 (skyF st)) := hsk
  have hta : G0 ta = some ((4, 3, 0), iO E 36 (tailF km)) := hta
  have hsw : G0 sw = some ((4, 4, 0), iO E 96 (showF uq)) := hsw
  have hnb : G0 nb = some ((4, 5, 0), iO E 8 (numF (tk, ck, rn, an, sp, ln, lf) nc)) := hnb
  have hnd : nd ≤ 8 := hO.cn.nd
  have hnc : nc ≤ 12 := hO.cn.nc
  have hnu : nu ≤ 24 := hO.nu
  have hns : ns ≤ 20 := hO.ns
  refine lv_aload_n hx hb dX3_fade_5 rfl (lv_at hl 0 rfl) ?_
  refine lv_iload_n hx hb dX3_fade_6 rfl (lv_at hl 1 rfl) ?_
  refine g_ci0 (G := G0) (v := isInV d 0 (nI nd - 1)) hS (va_runV (As := [.int d]) (rest := []) ⟨hx, hb, hml, hown, hts⟩ (k_isDim l E G0 y (la, sk, ta, sw, nb) _ ((((tk, ck, rn, an, sp, ln, lf), (nd, dm), (nc, km)), (nu, uq), (ns, st)) : Sy) hMR d) (cwV 1 hts (lw_V q892 q894 qs14 q36 q895) rfl rfl rfl (by decide +kernel) ⟨Nat.le_of_ble_eq_true rfl, Nat.le_of_ble_eq_true rfl⟩) (g_preV hE hI (g_recv hE hI hy rfl)) rfl rfl hl.1 rfl (lv_room (Nat.le_of_ble_eq_true rfl)) dX3_fade_7 ⟨Nat.le_of_ble_eq_true rfl, Nat.le_of_ble_eq_true rfl⟩) (fun H locs hI hS => ?_)
  refine lv_if_ne (tgt := 19) hx hb dX3_fade_10 (by decide) (fun c1 => ?_) (fun c1 => ?_)
  · have h1 : ¬ outI d nd := fun z => c1 ((outI_in (by omega)).mpr z)
    refine lv_iload_n hx hb dX3_fade_19 rfl (lv_at hl 2 rfl) ?_
    refine lv_iconst (v := 0) hx hb dX3_fade_20 (by decide) ?_
    refine lv_bipush (v := 100) hx hb dX3_fade_21 (by decide) ?_
    refine g_ci0 (G := G0) (v := isInV z 0 100) hS (va_runS (As := [.int z, .int 0, .int 100]) (rest := []) ⟨hx, hb, hml, hown, hts⟩ (k_isIn l E G0 z 0 100) (va_cwS 3 hts (lw_S q880 q881 q36 q882) rfl rfl rfl (by decide +kernel) ⟨Nat.le_of_ble_eq_true rfl, Nat.le_of_ble_eq_true rfl⟩) (g_preS hE hI) rfl rfl hl.1 rfl (lv_room (Nat.le_of_ble_eq_true rfl)) dX3_fade_23 ⟨Nat.le_of_ble_eq_true rfl, Nat.le_of_ble_eq_true rfl⟩) (fun H locs hI hS => ?_)
    refine lv_if_ne (tgt := 35) hx hb dX3_fade_26 (by decide) (fun c2 => ?_) (fun c2 => ?_)
    · have hcode : fadR nd d z = 0 := (if_neg h1).trans (if_neg c2)
      obtain ⟨k, hk, e_k⟩ := outI_no (n := nd) (by omega) h1
      subst e_k
      have c_k : (nI k).toNatClampNeg = k := nI_clamp (by omega)
      refine lv_aload_n hx hb dX3_fade_35 rfl (lv_at hl 0 rfl) ?_
      refine lv_iload_n hx hb dX3_fade_36 rfl (lv_at hl 1 rfl) ?_
      refine lv_iconst (v := 2) hx hb dX3_fade_37 (by decide) ?_
      refine g_ci0 (G := G0) (v := lampF dm (5 * k + 2)) hS (va_runV (As := [.int (nI k), .int 2]) (rest := []) ⟨hx, hb, hml, hown, hts⟩ (k_la l E G0 y (la, sk, ta, sw, nb) _ ((((tk, ck, rn, an, sp, ln, lf), (nd, dm), (nc, km)), (nu, uq), (ns, st)) : Sy) hMR k 2 (by omega) (by decide)) (cwV 2 hts (lw_V q896 q898 qs15 q36 q899) rfl rfl rfl (by decide +kernel) ⟨Nat.le_of_ble_eq_true rfl, Nat.le_of_ble_eq_true rfl⟩) (g_preV hE hI (g_recv hE hI hy rfl)) rfl rfl hl.1 rfl (lv_room (Nat.le_of_ble_eq_true rfl)) dX3_fade_38 ⟨Nat.le_of_ble_eq_true rfl, Nat.le_of_ble_eq_true rfl⟩) (fun H locs hI hS => ?_)
      rw [lampF_2]
      refine lv_istore_n (lv' := [(3, .int ((dm k).2.2.2.1)), (0, .ref y), (1, .int (nI k)), (2, .int z)]) hx hb dX3_fade_41 rfl hl (by decide) rfl (fun ls hl => ?_)
      refine lv_aload_n hx hb dX3_fade_42 rfl (lv_at hl 1 rfl) ?_
      refine lv_iload_n hx hb dX3_fade_43 rfl (lv_at hl 2 rfl) ?_
      refine lv_iconst (v := 2) hx hb dX3_fade_44 (by decide) ?_
      refine lv_iload_n hx hb dX3_fade_45 rfl (lv_at hl 3 rfl) ?_
      refine g_cv hS (va_runV (As := [.int (nI k), .int 2, .int z]) (rest := []) ⟨hx, hb, hml, hown, hts⟩ (k_put l E G0 y (la, sk, ta, sw, nb) _ ((((tk, ck, rn, an, sp, ln, lf), (nd, dm), (nc, km)), (nu, uq), (ns, st)) : Sy) hMR k 2 z (by omega) (by decide)) (cwV 3 hts (lw_V q900 q902 qs16 q36 q903) rfl rfl rfl (by decide +kernel) ⟨Nat.le_of_ble_eq_true rfl, Nat.le_of_ble_eq_true rfl⟩) (g_preV hE hI (g_recv hE hI hy rfl)) rfl rfl hl.1 rfl (lv_room (Nat.le_of_ble_eq_true rfl)) dX3_fade_46 ⟨Nat.le_of_ble_eq_true rfl, Nat.le_of_ble_eq_true rfl⟩) (fun G2 H locs hp hI hS => ?_)
      obtain ⟨hM2, hF2⟩ := hp
      have hFr := Fr.trans hFr hF2
      refine lv_iload_n hx hb dX3_fade_49 rfl (lv_at hl 0 rfl) ?_
      exact g_iret hx hb hr hlk hI hS dX3_fade_50 (Nat.le_of_ble_eq_true rfl) (Nat.le_of_ble_eq_true rfl) (⟨fun _ => by rw [c_k], by rw [hcode, if_pos rfl]; exact by unfold fadS; rw [c_k]; exact hM2, hFr⟩)
    · refine lv_aload_n hx hb dX3_fade_29 rfl (lv_at hl 0 rfl) ?_
      refine lv_iconst (v := 2) hx hb dX3_fade_30 (by decide) ?_
      refine g_ci hS (va_runV (As := [.int 2]) (rest := []) ⟨hx, hb, hml, hown, hts⟩ (k_fail l E G0 y (la, sk, ta, sw, nb) _ ((((tk, ck, rn, an, sp, ln, lf), (nd, dm), (nc, km)), (nu, uq), (ns, st)) : Sy) hMR 2) (cwV 1 hts (lw_V q883 q885 qs13 q36 q886) rfl rfl rfl (by decide +kernel) ⟨Nat.le_of_ble_eq_true rfl, Nat.le_of_ble_eq_true rfl⟩) (g_preV hE hI (g_recv hE hI hy rfl)) rfl rfl hl.1 rfl (lv_room (Nat.le_of_ble_eq_true rfl)) dX3_fade_31 ⟨Nat.le_of_ble_eq_true rfl, Nat.le_of_ble_eq_true rfl⟩) (fun r G1 H locs hp hI hS => ?_)
      obtain ⟨-, hM1, hF1⟩ := hp
      have hcode : fadR nd d z = 2 := (if_neg h1).trans (if_pos c2)
      exact g_iret hx hb hr hlk hI hS dX3_fade_34 (Nat.le_of_ble_eq_true rfl) (Nat.le_of_ble_eq_true rfl) (⟨fun z => absurd (hcode.symm.trans z) (by decide), by rw [hcode, if_neg (by decide)]; exact hM1, Fr.trans hFr hF1⟩)
  · refine lv_aload_n hx hb dX3_fade_13 rfl (lv_at hl 0 rfl) ?_
    refine lv_iconst (v := 1) hx hb dX3_fade_14 (by decide) ?_
    refine g_ci hS (va_runV (As := [.int 1]) (rest := []) ⟨hx, hb, hml, hown, hts⟩ (k_fail l E G0 y (la, sk, ta, sw, nb) _ ((((tk, ck, rn, an, sp, ln, lf), (nd, dm), (nc, km)), (nu, uq), (ns, st)) : Sy) hMR 1) (cwV 1 hts (lw_V q883 q885 qs13 q36 q886) rfl rfl rfl (by decide +kernel) ⟨Nat.le_of_ble_eq_true rfl, Nat.le_of_ble_eq_true rfl⟩) (g_preV hE hI (g_recv hE hI hy rfl)) rfl rfl hl.1 rfl (lv_room (Nat.le_of_ble_eq_true rfl)) dX3_fade_15 ⟨Nat.le_of_ble_eq_true rfl, Nat.le_of_ble_eq_true rfl⟩) (fun r G1 H locs hp hI hS => ?_)
    obtain ⟨-, hM1, hF1⟩ := hp
    have hcode : fadR nd d z = 1 := if_pos ((outI_in (by omega)).mp c1)
    exact g_iret hx hb hr hlk hI hS dX3_fade_18 (Nat.le_of_ble_eq_true rfl) (Nat.le_of_ble_eq_true rfl) (⟨fun z => absurd (hcode.symm.trans z) (by decide), by rw [hcode, if_neg (by decide)]; exact hM1, Fr.trans hFr hF1⟩)
set_option maxHeartbeats 4000000 in
set_option maxRecDepth 100000 in
theorem k_lamp (l : Launch) (E : EnvT) (G : Gh) (y : Nat) (M : MA) (th : Int32) (σ : Sy) (hMR : MRep E G y M th σ) (hO : OkS σ) (d z : Int32) : Met l yX3_lamp (ws_ yX3_lamp cX3_lamp 4 (some .int)) ({ frames := 2, cells := 0, slots := 0, locals := 43 } : Room) (cP E G [.ref y, .int d, .int z]) (cI E (fun r G' => (lamR σ.1.2.1.1 d z = 0 → r = (σ.1.2.1.2 d.toNatClampNeg).2.2.2.2) ∧ MRep E G' y M (lamR σ.1.2.1.1 d z) (if lamR σ.1.2.1.1 d z = 0 then lamS σ d z else σ) ∧ Fr (Ow 4) G G')) 0 0 (eA E) := by
  obtain ⟨la, sk, ta, sw, nb⟩ := M
  obtain ⟨⟨⟨tk, ck, rn, an, sp, ln, lf⟩, ⟨nd, dm⟩, ⟨nc, km⟩⟩, ⟨nu, uq⟩, ⟨ns, st⟩⟩ := σ
  refine g_met (rm := ({ frames := 2, cells := 0, slots := 0, locals := 43 } : Room)) (av := [.ref y, .int d, .int z]) (lv := [(0, .ref y), (1, .int d), (2, .int z)]) (by decide) (Nat.le_of_ble_eq_true rfl) rfl ?_
  intro p e s m below meth c ls hx hb hr hlk hml hin hts hown hE hI hL hS hl
  have hMR0 := hMR
  obtain ⟨hy, hla, hsk, hta, hsw, hnb⟩ := hMR0
  have hy : G y = some ((4, 0, 0), mO th (nI nd) (nI ns) (nI nu) la sk ta sw nb) := hy
  have hla : G la = some ((4, 1, 0), iO E 40 (lampF dm)) := hla
  have hsk : G sk = some ((4, 2, 0), iO E 40 (skyF st)) := hsk
  have hta : G ta = some ((4, 3, 0), iO E 36 (tailF km)) := hta
  have hsw : G sw = some ((4, 4, 0), iO E 96 (showF uq)) := hsw
  have hnb : G nb = some ((4, 5, 0), iO E 8 (numF (tk, ck, rn, an, sp, ln, lf) nc)) := hnb
  have hFr : Fr (Ow 4) G G := Fr.rf
  refine lv_aload_n hx hb dX3_lamp_0 rfl (lv_at hl 0 rfl) ?_
  refine lv_iconst (v := 0) hx hb dX3_lamp_1 (by decide) ?_
  refine g_put (C := RX3) (T := TX3) (N := 9) (v := .int 0) (ty := .int) (fs' := [.int 0, .int (nI nd), .int (nI ns), .int (nI nu), .ref la, .ref sk, .ref ta, .ref sw, .ref nb]) hx hb hts in_X3 tyX3 tyX3_ok nmX3 hown hE hI hS hL hy rfl 0 (by decide) q843 (fun _ h9 => h9) rfl (by decide +kernel) rfl rfl (Nat.le_of_ble_eq_true rfl) rfl dX3_lamp_2 (fun H locs hI hS => ?_)
  have hla := gU_o (x := ((4, 0, 0), .inr (7, [.int 0, .int (nI nd), .int (nI ns), .int (nI nu), .ref la, .ref sk, .ref ta, .ref sw, .ref nb]))) hy hla (by simp)
  have hsk := gU_o (x := ((4, 0, 0), .inr (7, [.int 0, .int (nI nd), .int (nI ns), .int (nI nu), .ref la, .ref sk, .ref ta, .ref sw, .ref nb]))) hy hsk (by simp)
  have hta := gU_o (x := ((4, 0, 0), .inr (7, [.int 0, .int (nI nd), .int (nI ns), .int (nI nu), .ref la, .ref sk, .ref ta, .ref sw, .ref nb]))) hy hta (by simp)
  have hsw := gU_o (x := ((4, 0, 0), .inr (7, [.int 0, .int (nI nd), .int (nI ns), .int (nI nu), .ref la, .ref sk, .ref ta, .ref sw, .ref nb]))) hy hsw (by simp)
  have hnb := gU_o (x := ((4, 0, 0), .inr (7, [.int 0, .int (nI nd), .int (nI ns), .int (nI nu), .ref la, .ref sk, .ref ta, .ref sw, .ref nb]))) hy hnb (by simp)
  have hFr : Fr (Ow 4) G (gU G y ((4, 0, 0), .inr (7, [.int 0, .int (nI nd), .int (nI ns), .int (nI nu), .ref la, .ref sk, .ref ta, .ref sw, .ref nb]))) := Fr.trans hFr (Fr.put (x := ((4, 0, 0), .inr (7, [.int 0, .int (nI nd), .int (nI ns), .int (nI nu), .ref la, .ref sk, .ref ta, .ref sw, .ref nb]))) hy rfl)
  have hy : (gU G y ((4, 0, 0), .inr (7, [.int 0, .int (nI nd), .int (nI ns), .int (nI nu), .ref la, .ref sk, .ref ta, .ref sw, .ref nb]))) y = some ((4, 0, 0), .inr (7, [.int 0, .int (nI nd), .int (nI ns), .int (nI nu), .ref la, .ref sk, .ref ta, .ref sw, .ref nb])) := gU_self
  obtain ⟨G0, hMR, hFr, hI⟩ : ∃ G0, MRep E G0 y (la, sk, ta, sw, nb) 0 ((((tk, ck, rn, an, sp, ln, lf), (nd, dm), (nc, km)), (nu, uq), (ns, st)) : Sy) ∧ Fr (Ow 4) G G0 ∧ Inv E G0 H := ⟨_, ⟨hy, hla, hsk, hta, hsw, hnb⟩, hFr, hI⟩
  have hMR0 := hMR
  obtain ⟨hy, hla, hsk, hta, hsw, hnb⟩ := hMR0
  have hy : G0 y = some ((4, 0, 0), mO 0 (nI nd) (nI ns) (nI nu) la sk ta sw nb) := hy
  have hla : G0 la = some ((4, 1, 0), iO E 40 (lampF dm)) := hla
  have hsk : G0 sk = some ((4, 2, 0), iO E 40 (skyF st)) := hsk
  have hta : G0 ta = some ((4, 3, 0), iO E 36 (tailF km)) := hta
  have hsw : G0 sw = some ((4, 4, 0), iO E 96 (showF uq)) := hsw
  have hnb : G0 nb = some ((4, 5, 0), iO E 8 (numF (tk, ck, rn, an, sp, ln, lf) nc)) := hnb
  have hnd : nd ≤ 8 := hO.cn.nd
  have hnc : nc ≤ 12 := hO.cn.nc
  have hnu : nu ≤ 24 := hO.nu
  have hns : ns ≤ 20 := hO.ns
  refine lv_aload_n hx hb dX3_lamp_5 rfl (lv_at hl 0 rfl) ?_
  refine lv_iload_n hx hb dX3_lamp_6 rfl (lv_at hl 1 rfl) ?_
  refine g_ci0 (G := G0) (v := isInV d 0 (nI nd - 1)) hS (va_runV (As := [.int d]) (rest := []) ⟨hx, hb, hml, hown, hts⟩ (k_isDim l E G0 y (la, sk, ta, sw, nb) _ ((((tk, ck, rn, an, sp, ln, lf), (nd, dm), (nc, km)), (nu, uq), (ns, st)) : Sy) hMR d) (cwV 1 hts (lw_V q892 q894 qs14 q36 q895) rfl rfl rfl (by decide +kernel) ⟨Nat.le_of_ble_eq_true rfl, Nat.le_of_ble_eq_true rfl⟩) (g_preV hE hI (g_recv hE hI hy rfl)) rfl rfl hl.1 rfl (lv_room (Nat.le_of_ble_eq_true rfl)) dX3_lamp_7 ⟨Nat.le_of_ble_eq_true rfl, Nat.le_of_ble_eq_true rfl⟩) (fun H locs hI hS => ?_)
  refine lv_if_ne (tgt := 19) hx hb dX3_lamp_10 (by decide) (fun c1 => ?_) (fun c1 => ?_)
  · have h1 : ¬ outI d nd := fun z => c1 ((outI_in (by omega)).mpr z)
    refine lv_iload_n hx hb dX3_lamp_19 rfl (lv_at hl 2 rfl) ?_
    refine lv_iconst (v := 0) hx hb dX3_lamp_20 (by decide) ?_
    refine lv_sipush (v := 9999) hx hb dX3_lamp_21 (by decide) ?_
    refine g_ci0 (G := G0) (v := isInV z 0 9999) hS (va_runS (As := [.int z, .int 0, .int 9999]) (rest := []) ⟨hx, hb, hml, hown, hts⟩ (k_isIn l E G0 z 0 9999) (va_cwS 3 hts (lw_S q880 q881 q36 q882) rfl rfl rfl (by decide +kernel) ⟨Nat.le_of_ble_eq_true rfl, Nat.le_of_ble_eq_true rfl⟩) (g_preS hE hI) rfl rfl hl.1 rfl (lv_room (Nat.le_of_ble_eq_true rfl)) dX3_lamp_24 ⟨Nat.le_of_ble_eq_true rfl, Nat.le_of_ble_eq_true rfl⟩) (fun H locs hI hS => ?_)
    refine lv_if_ne (tgt := 36) hx hb dX3_lamp_27 (by decide) (fun c2 => ?_) (fun c2 => ?_)
    · have hcode : lamR nd d z = 0 := (if_neg h1).trans (if_neg c2)
      obtain ⟨k, hk, e_k⟩ := outI_no (n := nd) (by omega) h1
      subst e_k
      have c_k : (nI k).toNatClampNeg = k := nI_clamp (by omega)
      refine lv_aload_n hx hb dX3_lamp_36 rfl (lv_at hl 0 rfl) ?_
      refine lv_iload_n hx hb dX3_lamp_37 rfl (lv_at hl 1 rfl) ?_
      refine lv_iconst (v := 4) hx hb dX3_lamp_38 (by decide) ?_
      refine g_ci0 (G := G0) (v := lampF dm (5 * k + 4)) hS (va_runV (As := [.int (nI k), .int 4]) (rest := []) ⟨hx, hb, hml, hown, hts⟩ (k_la l E G0 y (la, sk, ta, sw, nb) _ ((((tk, ck, rn, an, sp, ln, lf), (nd, dm), (nc, km)), (nu, uq), (ns, st)) : Sy) hMR k 4 (by omega) (by decide)) (cwV 2 hts (lw_V q896 q898 qs15 q36 q899) rfl rfl rfl (by decide +kernel) ⟨Nat.le_of_ble_eq_true rfl, Nat.le_of_ble_eq_true rfl⟩) (g_preV hE hI (g_recv hE hI hy rfl)) rfl rfl hl.1 rfl (lv_room (Nat.le_of_ble_eq_true rfl)) dX3_lamp_39 ⟨Nat.le_of_ble_eq_true rfl, Nat.le_of_ble_eq_true rfl⟩) (fun H locs hI hS => ?_)
      rw [lampF_4]
      refine lv_istore_n (lv' := [(3, .int ((dm k).2.2.2.2)), (0, .ref y), (1, .int (nI k)), (2, .int z)]) hx hb dX3_lamp_42 rfl hl (by decide) rfl (fun ls hl => ?_)
      refine lv_aload_n hx hb dX3_lamp_43 rfl (lv_at hl 1 rfl) ?_
      refine lv_iload_n hx hb dX3_lamp_44 rfl (lv_at hl 2 rfl) ?_
      refine lv_iconst (v := 4) hx hb dX3_lamp_45 (by decide) ?_
      refine lv_iload_n hx hb dX3_lamp_46 rfl (lv_at hl 3 rfl) ?_
      refine g_cv hS (va_runV (As := [.int (nI k), .int 4, .int z]) (rest := []) ⟨hx, hb, hml, hown, hts⟩ (k_put l E G0 y (la, sk, ta, sw, nb) _ ((((tk, ck, rn, an, sp, ln, lf), (nd, dm), (nc, km)), (nu, uq), (ns, st)) : Sy) hMR k 4 z (by omega) (by decide)) (cwV 3 hts (lw_V q900 q902 qs16 q36 q903) rfl rfl rfl (by decide +kernel) ⟨Nat.le_of_ble_eq_true rfl, Nat.le_of_ble_eq_true rfl⟩) (g_preV hE hI (g_recv hE hI hy rfl)) rfl rfl hl.1 rfl (lv_room (Nat.le_of_ble_eq_true rfl)) dX3_lamp_47 ⟨Nat.le_of_ble_eq_true rfl, Nat.le_of_ble_eq_true rfl⟩) (fun G2 H locs hp hI hS => ?_)
      obtain ⟨hM2, hF2⟩ := hp
      have hFr := Fr.trans hFr hF2
      refine lv_iload_n hx hb dX3_lamp_50 rfl (lv_at hl 3 rfl) ?_
      refine lv_if_ne (tgt := 61) hx hb dX3_lamp_51 (by decide) (fun c3 => ?_) (fun c3 => ?_)
      · refine lv_iload_n hx hb dX3_lamp_61 rfl (lv_at hl 0 rfl) ?_
        exact g_iret hx hb hr hlk hI hS dX3_lamp_62 (Nat.le_of_ble_eq_true rfl) (Nat.le_of_ble_eq_true rfl) (⟨fun _ => by rw [c_k], by rw [hcode, if_pos rfl]; exact by unfold lamS lvEnd; rw [c_k, if_neg c3]; exact hM2, hFr⟩)
      · refine lv_aload_n hx hb dX3_lamp_54 rfl (lv_at hl 1 rfl) ?_
        refine lv_iload_n hx hb dX3_lamp_55 rfl (lv_at hl 2 rfl) ?_
        refine lv_iconst (v := 1) hx hb dX3_lamp_56 (by decide) ?_
        refine lv_iconst (v := 0) hx hb dX3_lamp_57 (by decide) ?_
        refine g_cv hS (va_runV (As := [.int (nI k), .int 1, .int 0]) (rest := []) ⟨hx, hb, hml, hown, hts⟩ (k_put l E G2 y (la, sk, ta, sw, nb) _ _ hM2 k 1 0 (by omega) (by decide)) (cwV 3 hts (lw_V q900 q902 qs16 q36 q903) rfl rfl rfl (by decide +kernel) ⟨Nat.le_of_ble_eq_true rfl, Nat.le_of_ble_eq_true rfl⟩) (g_preV hE hI (g_recv hE hI hM2.1 rfl)) rfl rfl hl.1 rfl (lv_room (Nat.le_of_ble_eq_true rfl)) dX3_lamp_58 ⟨Nat.le_of_ble_eq_true rfl, Nat.le_of_ble_eq_true rfl⟩) (fun G3 H locs hp hI hS => ?_)
        obtain ⟨hM3, hF3⟩ := hp
        have hFr := Fr.trans hFr hF3
        unfold setDm at hM3
        dsimp only at hM3
        rw [va_up_self, va_up_up] at hM3
        refine lv_iload_n hx hb dX3_lamp_61 rfl (lv_at hl 0 rfl) ?_
        exact g_iret hx hb hr hlk hI hS dX3_lamp_62 (Nat.le_of_ble_eq_true rfl) (Nat.le_of_ble_eq_true rfl) (⟨fun _ => by rw [c_k], by rw [hcode, if_pos rfl]; exact by unfold lamS lvEnd setDm; rw [c_k, if_pos c3]; exact hM3, hFr⟩)
    · refine lv_aload_n hx hb dX3_lamp_30 rfl (lv_at hl 0 rfl) ?_
      refine lv_iconst (v := 2) hx hb dX3_lamp_31 (by decide) ?_
      refine g_ci hS (va_runV (As := [.int 2]) (rest := []) ⟨hx, hb, hml, hown, hts⟩ (k_fail l E G0 y (la, sk, ta, sw, nb) _ ((((tk, ck, rn, an, sp, ln, lf), (nd, dm), (nc, km)), (nu, uq), (ns, st)) : Sy) hMR 2) (cwV 1 hts (lw_V q883 q885 qs13 q36 q886) rfl rfl rfl (by decide +kernel) ⟨Nat.le_of_ble_eq_true rfl, Nat.le_of_ble_eq_true rfl⟩) (g_preV hE hI (g_recv hE hI hy rfl)) rfl rfl hl.1 rfl (lv_room (Nat.le_of_ble_eq_true rfl)) dX3_lamp_32 ⟨Nat.le_of_ble_eq_true rfl, Nat.le_of_ble_eq_true rfl⟩) (fun r G1 H locs hp hI hS => ?_)
      obtain ⟨-, hM1, hF1⟩ := hp
      have hcode : lamR nd d z = 2 := (if_neg h1).trans (if_pos c2)
      exact g_iret hx hb hr hlk hI hS dX3_lamp_35 (Nat.le_of_ble_eq_true rfl) (Nat.le_of_ble_eq_true rfl) (⟨fun z => absurd (hcode.symm.trans z) (by decide), by rw [hcode, if_neg (by decide)]; exact hM1, Fr.trans hFr hF1⟩)
  · refine lv_aload_n hx hb dX3_lamp_13 rfl (lv_at hl 0 rfl) ?_
    refine lv_iconst (v := 1) hx hb dX3_lamp_14 (by decide) ?_
    refine g_ci hS (va_runV (As := [.int 1]) (rest := []) ⟨hx, hb, hml, hown, hts⟩ (k_fail l E G0 y (la, sk, ta, sw, nb) _ ((((tk, ck, rn, an, sp, ln, lf), (nd, dm), (nc, km)), (nu, uq), (ns, st)) : Sy) hMR 1) (cwV 1 hts (lw_V q883 q885 qs13 q36 q886) rfl rfl rfl (by decide +kernel) ⟨Nat.le_of_ble_eq_true rfl, Nat.le_of_ble_eq_true rfl⟩) (g_preV hE hI (g_recv hE hI hy rfl)) rfl rfl hl.1 rfl (lv_room (Nat.le_of_ble_eq_true rfl)) dX3_lamp_15 ⟨Nat.le_of_ble_eq_true rfl, Nat.le_of_ble_eq_true rfl⟩) (fun r G1 H locs hp hI hS => ?_)
    obtain ⟨-, hM1, hF1⟩ := hp
    have hcode : lamR nd d z = 1 := if_pos ((outI_in (by omega)).mp c1)
    exact g_iret hx hb hr hlk hI hS dX3_lamp_18 (Nat.le_of_ble_eq_true rfl) (Nat.le_of_ble_eq_true rfl) (⟨fun z => absurd (hcode.symm.trans z) (by decide), by rw [hcode, if_neg (by decide)]; exact hM1, Fr.trans hFr hF1⟩)
