/-! CONTRACTS of the model's writers: dimmer, cue. Printed by gen/p45.py -/
set_option maxRecDepth 100000
set_option maxHeartbeats 4000000 in
set_option maxRecDepth 100000 in
theorem k_dimmer (l : Launch) (E : EnvT) (G : Gh) (y : Nat) (M : MA) (th : Int32) (σ : Sy) (hMR : MRep E G y M th σ) (hO : OkS σ) (p0 p1 p2 : Int32) : Met l yX3_dimmer (ws_ yX3_dimmer cX3_dimmer 5 (some .int)) ({ frames := 1, cells := 1, slots := 5, locals := 40 } : Room) (cP E G [.ref y, .int p0, .int p1, .int p2]) (cI E (fun r G' => (dimR σ.1.2.1.1 p0 p1 p2 = 0 → r = nI σ.1.2.1.1) ∧ MRep E G' y M (dimR σ.1.2.1.1 p0 p1 p2) (if dimR σ.1.2.1.1 p0 p1 p2 = 0 then dimS σ p0 p1 p2 else σ) ∧ Fr (fun t => t.1 = 4 ∨ t.1 = 5) G G')) 1 5 (eA E) := by
  obtain ⟨la, sk, ta, sw, nb⟩ := M
  obtain ⟨⟨⟨tk, ck, rn, an, sp, ln, lf⟩, ⟨nd, dm⟩, ⟨nc, km⟩⟩, ⟨nu, uq⟩, ⟨ns, st⟩⟩ := σ
  refine g_met (rm := ({ frames := 1, cells := 1, slots := 5, locals := 40 } : Room)) (av := [.ref y, .int p0, .int p1, .int p2]) (lv := [(0, .ref y), (1, .int p0), (2, .int p1), (3, .int p2)]) (by decide) (Nat.le_of_ble_eq_true rfl) rfl ?_
  intro p e s m below meth c ls hx hb hr hlk hml hin hts hown hE hI hL hS hl
  have hMR0 := hMR
  obtain ⟨hy, hla, hsk, hta, hsw, hnb⟩ := hMR0
  have hy : G y = some ((4, 0, 0), mO th (nI nd) (nI ns) (nI nu) la sk ta sw nb) := hy
  have hla : G la = some ((4, 1, 0), iO E 40 (lampF dm)) := hla
  have hsk : G sk = some ((4, 2, 0), iO E 40 (skyF st)) := hsk
  have hta : G ta = some ((4, 3, 0), iO E 36 (tailF km)) := hta
  have hsw : G sw = some ((4, 4, 0), iO E 96 (showF uq)) := hsw
  have hnb : G nb = some ((4, 5, 0), iO E 8 (numF (tk, ck, rn, an, sp, ln, lf) nc)) := hnb
  have hFr : Fr (Ow 4) G G := Fr.rf
  refine lv_aload_n hx hb dX3_dimmer_0 rfl (lv_at hl 0 rfl) ?_
  refine lv_iconst (v := 0) hx hb dX3_dimmer_1 (by decide) ?_
  refine g_put (C := RX3) (T := TX3) (N := 9) (v := .int 0) (ty := .int) (fs' := [.int 0, .int (nI nd), .int (nI ns), .int (nI nu), .ref la, .ref sk, .ref ta, .ref sw, .ref nb]) hx hb hts in_X3 tyX3 tyX3_ok nmX3 hown hE hI hS hL hy rfl 0 (by decide) q843 (fun _ h9 => h9) rfl (by decide +kernel) rfl rfl (Nat.le_of_ble_eq_true rfl) rfl dX3_dimmer_2 (fun H locs hI hS => ?_)
  have hla := gU_o (x := ((4, 0, 0), .inr (7, [.int 0, .int (nI nd), .int (nI ns), .int (nI nu), .ref la, .ref sk, .ref ta, .ref sw, .ref nb]))) hy hla (by simp)
  have hsk := gU_o (x := ((4, 0, 0), .inr (7, [.int 0, .int (nI nd), .int (nI ns), .int (nI nu), .ref la, .ref sk, .ref ta, .ref sw, .ref nb]))) hy hsk (by simp)
  have hta := gU_o (x := ((4, 0, 0), .inr (7, [.int 0, .int (nI nd), .int (nI ns), .int (nI nu), .ref la, .ref sk, .ref ta, .ref sw, .ref nb]))) hy hta (by simp)
  have hsw := gU_o (x := ((4, 0, 0), .inr (7, [.int 0, .int (nI nd), .int (nI ns), .int (nI nu), .ref la, .ref sk, .ref ta, .ref sw, .ref nb]))) hy hsw (by simp)
  have hnb := gU_o (x := ((4, 0, 0), .inr (7, [.int 0, .int (nI nd), .int (nI ns), .int (nI nu), .ref la, .ref sk, .ref ta, .ref sw, .ref nb]))) hy hnb (by simp)
  have hFr : Fr (Ow 4) G (gU G y ((4, 0, 0), .inr (7, [.int 0, .int (nI nd), .int (nI ns), .int (nI nu), .ref la, .ref sk, .ref ta, .ref sw, .ref nb]))) := Fr.trans hFr (Fr.put (x := ((4, 0, 0), .inr (7, [.int 0, .int (nI nd), .int (nI ns), .int (nI nu), .ref la, .ref sk, .ref ta, .ref sw, .ref nb]))) hy rfl)
  have hy : (gU G y ((4, 0, 0), .inr (7, [.int 0, .int (nI nd), .int (nI ns), .int (nI nu), .ref la, .ref sk, .ref ta, .ref sw, .ref nb]))) y = some ((4, 0, 0), .inr (7, [.int 0, .int (nI nd), .int (nI ns), .int (nI nu), .ref la, .ref sk, .ref ta, .ref sw, .ref nb])) := gU_self
  obtain ⟨G0, hMR, hFr, hI⟩ : ∃ G0, MRep E G0 y (la, sk, ta, sw, nb) 0 ((((tk, ck, rn, an, sp, ln, lf), (nd, dm), (nc, km)), (nu, uq), (ns, st)) : Sy) ∧ Fr (Ow 4) G G0 ∧ Inv E G0 H := ⟨_, ⟨hy, hla, hsk, hta, hsw, hnb⟩, hFr, hI⟩
  have hMR0 := hMR
  obtain ⟨hy, hla, hsk, hta, hsw, hnb⟩ := hMR0
  have hy : G0 y = some ((4, 0, 0), mO 0 (nI nd) (nI ns) (nI nu) la sk ta sw nb) := hy
  have hla : G0 la = some ((4, 1, 0), iO E 40 (lampF dm)) := hla
  have hsk : G0 sk = some ((4, 2, 0), iO E 40 (skyF st)) := hsk
  have hta : G0 ta = some ((4, 3, 0), iO E 36 (tailF km)) := hta
  have hsw : G0 sw = some ((4, 4, 0), iO E 96 (showF uq)) := hsw
  have hnb : G0 nb = some ((4, 5, 0), iO E 8 (numF (tk, ck, rn, an, sp, ln, lf) nc)) := hnb
  have hnd : nd ≤ 8 := hO.cn.nd
  have hnc : nc ≤ 12 := hO.cn.nc
  have hnu : nu ≤ 24 := hO.nu
  have hns : ns ≤ 20 := hO.ns
  refine lv_iload_n hx hb dX3_dimmer_5 rfl (lv_at hl 1 rfl) ?_
  refine lv_iconst (v := 0) hx hb dX3_dimmer_6 (by decide) ?_
  refine lv_bipush (v := 11) hx hb dX3_dimmer_7 (by decide) ?_
  refine g_ci0 (G := G0) (v := isInV p0 0 11) hS (va_runS (As := [.int p0, .int 0, .int 11]) (rest := []) ⟨hx, hb, hml, hown, hts⟩ (k_isIn l E G0 p0 0 11) (va_cwS 3 hts (lw_S q880 q881 q36 q882) rfl rfl rfl (by decide +kernel) ⟨Nat.le_of_ble_eq_true rfl, Nat.le_of_ble_eq_true rfl⟩) (g_preS hE hI) rfl rfl hl.1 rfl (lv_room (Nat.le_of_ble_eq_true rfl)) dX3_dimmer_9 ⟨Nat.le_of_ble_eq_true rfl, Nat.le_of_ble_eq_true rfl⟩) (fun H locs hI hS => ?_)
  refine lv_if_eq (tgt := 36) hx hb dX3_dimmer_12 (by decide) (fun c1 => ?_) (fun c1 => ?_)
  · refine lv_aload_n hx hb dX3_dimmer_36 rfl (lv_at hl 0 rfl) ?_
    refine lv_iconst (v := 1) hx hb dX3_dimmer_37 (by decide) ?_
    refine g_ci hS (va_runV (As := [.int 1]) (rest := []) ⟨hx, hb, hml, hown, hts⟩ (k_fail l E G0 y (la, sk, ta, sw, nb) _ ((((tk, ck, rn, an, sp, ln, lf), (nd, dm), (nc, km)), (nu, uq), (ns, st)) : Sy) hMR 1) (cwV 1 hts (lw_V q883 q885 qs13 q36 q886) rfl rfl rfl (by decide +kernel) ⟨Nat.le_of_ble_eq_true rfl, Nat.le_of_ble_eq_true rfl⟩) (g_preV hE hI (g_recv hE hI hy rfl)) rfl rfl hl.1 rfl (lv_room (Nat.le_of_ble_eq_true rfl)) dX3_dimmer_38 ⟨Nat.le_of_ble_eq_true rfl, Nat.le_of_ble_eq_true rfl⟩) (fun r G1 H locs hp hI hS => ?_)
    obtain ⟨-, hM1, hF1⟩ := hp
    have hcode : dimR nd p0 p1 p2 = 1 := if_pos c1
    exact g_iret hx hb hr hlk hI hS dX3_dimmer_41 (Nat.le_of_ble_eq_true rfl) (Nat.le_of_ble_eq_true rfl) (⟨fun z => absurd (hcode.symm.trans z) (by decide), by rw [hcode, if_neg (by decide)]; exact hM1, (Fr.trans hFr hF1).mono (fun t z => Or.inl z)⟩)
  · refine lv_iload_n hx hb dX3_dimmer_15 rfl (lv_at hl 2 rfl) ?_
    refine lv_iconst (v := 1) hx hb dX3_dimmer_16 (by decide) ?_
    refine lv_bipush (v := 50) hx hb dX3_dimmer_17 (by decide) ?_
    refine g_ci0 (G := G0) (v := isInV p1 1 50) hS (va_runS (As := [.int p1, .int 1, .int 50]) (rest := []) ⟨hx, hb, hml, hown, hts⟩ (k_isIn l E G0 p1 1 50) (va_cwS 3 hts (lw_S q880 q881 q36 q882) rfl rfl rfl (by decide +kernel) ⟨Nat.le_of_ble_eq_true rfl, Nat.le_of_ble_eq_true rfl⟩) (g_preS hE hI) rfl rfl hl.1 rfl (lv_room (Nat.le_of_ble_eq_true rfl)) dX3_dimmer_19 ⟨Nat.le_of_ble_eq_true rfl, Nat.le_of_ble_eq_true rfl⟩) (fun H locs hI hS => ?_)
    refine lv_if_eq (tgt := 36) hx hb dX3_dimmer_22 (by decide) (fun c2 => ?_) (fun c2 => ?_)
    · refine lv_aload_n hx hb dX3_dimmer_36 rfl (lv_at hl 0 rfl) ?_
      refine lv_iconst (v := 1) hx hb dX3_dimmer_37 (by decide) ?_
      refine g_ci hS (va_runV (As := [.int 1]) (rest := []) ⟨hx, hb, hml, hown, hts⟩ (k_fail l E G0 y (la, sk, ta, sw, nb) _ ((((tk, ck, rn, an, sp, ln, lf), (nd, dm), (nc, km)), (nu, uq), (ns, st)) : Sy) hMR 1) (cwV 1 hts (lw_V q883 q885 qs13 q36 q886) rfl rfl rfl (by decide +kernel) ⟨Nat.le_of_ble_eq_true rfl, Nat.le_of_ble_eq_true rfl⟩) (g_preV hE hI (g_recv hE hI hy rfl)) rfl rfl hl.1 rfl (lv_room (Nat.le_of_ble_eq_true rfl)) dX3_dimmer_38 ⟨Nat.le_of_ble_eq_true rfl, Nat.le_of_ble_eq_true rfl⟩) (fun r G1 H locs hp hI hS => ?_)
      obtain ⟨-, hM1, hF1⟩ := hp
      have hcode : dimR nd p0 p1 p2 = 1 := (if_neg c1).trans (if_pos c2)
      exact g_iret hx hb hr hlk hI hS dX3_dimmer_41 (Nat.le_of_ble_eq_true rfl) (Nat.le_of_ble_eq_true rfl) (⟨fun z => absurd (hcode.symm.trans z) (by decide), by rw [hcode, if_neg (by decide)]; exact hM1, (Fr.trans hFr hF1).mono (fun t z => Or.inl z)⟩)
    · refine lv_iload_n hx hb dX3_dimmer_25 rfl (lv_at hl 3 rfl) ?_
      refine lv_iconst (v := 0) hx hb dX3_dimmer_26 (by decide) ?_
      refine lv_sipush (v := 9999) hx hb dX3_dimmer_27 (by decide) ?_
      refine g_ci0 (G := G0) (v := isInV p2 0 9999) hS (va_runS (As := [.int p2, .int 0, .int 9999]) (rest := []) ⟨hx, hb, hml, hown, hts⟩ (k_isIn l E G0 p2 0 9999) (va_cwS 3 hts (lw_S q880 q881 q36 q882) rfl rfl rfl (by decide +kernel) ⟨Nat.le_of_ble_eq_true rfl, Nat.le_of_ble_eq_true rfl⟩) (g_preS hE hI) rfl rfl hl.1 rfl (lv_room (Nat.le_of_ble_eq_true rfl)) dX3_dimmer_30 ⟨Nat.le_of_ble_eq_true rfl, Nat.le_of_ble_eq_true rfl⟩) (fun H locs hI hS => ?_)
      refine lv_if_ne (tgt := 42) hx hb dX3_dimmer_33 (by decide) (fun c3 => ?_) (fun c3 => ?_)
      · refine lv_aload_n hx hb dX3_dimmer_42 rfl (lv_at hl 0 rfl) ?_
        refine g_get (C := RX3) (T := TX3) (N := 9) (v := .int (nI nd)) hx hb hts in_X3 hown hE hI hy rfl 1 (by decide) q844 (fun _ h9 => h9) rfl dX3_dimmer_43 ?_
        refine lv_bipush (v := 8) hx hb dX3_dimmer_46 (by decide) ?_
        refine lv_icmp_ne (tgt := 57) hx hb dX3_dimmer_48 (by decide) (fun c4 => ?_) (fun c4 => ?_)
        · have hn : nd < 8 := Nat.lt_of_le_of_ne hnd (fun z => c4 (by rw [z]; rfl))
          have hcode : dimR nd p0 p1 p2 = 0 := (if_neg c1).trans ((if_neg c2).trans ((if_neg c3).trans (if_pos hn)))
          have hFr : Fr (fun t => t.1 = 4 ∨ t.1 = 5) G G0 := hFr.mono (fun t z => Or.inl z)
          refine lv_iconst (v := 5) hx hb dX3_dimmer_57 (by decide) ?_
          refine g_newi (5, 0, 0) hx hb hts hE hI hS hL 5 rfl (by decide) (Nat.le_of_ble_eq_true rfl) (Nat.le_of_ble_eq_true rfl) dX3_dimmer_58 (fun q H hnq hI hS => ?_)
          have ne2 : y ≠ q := g_fne hnq hy
          have hy := gU_ne (x := ((5, 0, 0), .inl (eC E 0, 5, .inl (fun _ => 0)))) ne2 hy
          have ne3 : la ≠ q := g_fne hnq hla
          have hla := gU_ne (x := ((5, 0, 0), .inl (eC E 0, 5, .inl (fun _ => 0)))) ne3 hla
          have ne4 : sk ≠ q := g_fne hnq hsk
          have hsk := gU_ne (x := ((5, 0, 0), .inl (eC E 0, 5, .inl (fun _ => 0)))) ne4 hsk
          have ne5 : ta ≠ q := g_fne hnq hta
          have hta := gU_ne (x := ((5, 0, 0), .inl (eC E 0, 5, .inl (fun _ => 0)))) ne5 hta
          have ne6 : sw ≠ q := g_fne hnq hsw
          have hsw := gU_ne (x := ((5, 0, 0), .inl (eC E 0, 5, .inl (fun _ => 0)))) ne6 hsw
          have ne7 : nb ≠ q := g_fne hnq hnb
          have hnb := gU_ne (x := ((5, 0, 0), .inl (eC E 0, 5, .inl (fun _ => 0)))) ne7 hnb
          have hFr : Fr (fun t => t.1 = 4 ∨ t.1 = 5) G (gU G0 q ((5, 0, 0), .inl (eC E 0, 5, .inl (fun _ => 0)))) := Fr.trans hFr (Fr.new (x := ((5, 0, 0), .inl (eC E 0, 5, .inl (fun _ => 0)))) hnq)
          have h_q : (gU G0 q ((5, 0, 0), .inl (eC E 0, 5, .inl (fun _ => 0)))) q = some ((5, 0, 0), .inl (eC E 0, 5, .inl (fun _ => 0))) := gU_self
          refine lv_dup hx hb dX3_dimmer_60 rfl ?_
          refine lv_iconst (v := 0) hx hb dX3_dimmer_61 (by decide) ?_
          refine lv_iload_n hx hb dX3_dimmer_62 rfl (lv_at hl 1 rfl) ?_
          refine g_iast hx hb hE hI hS hL h_q (i := 0) (x := p0) 0 rfl (by decide) (by decide) dX3_dimmer_63 (fun H locs hI hS => ?_)
          have hy := gU_ne (x := ((5, 0, 0), .inl (eC E 0, 5, .inl (upd (fun _ => 0) 0 p0)))) ne2 hy
          have hla := gU_ne (x := ((5, 0, 0), .inl (eC E 0, 5, .inl (upd (fun _ => 0) 0 p0)))) ne3 hla
          have hsk := gU_ne (x := ((5, 0, 0), .inl (eC E 0, 5, .inl (upd (fun _ => 0) 0 p0)))) ne4 hsk
          have hta := gU_ne (x := ((5, 0, 0), .inl (eC E 0, 5, .inl (upd (fun _ => 0) 0 p0)))) ne5 hta
          have hsw := gU_ne (x := ((5, 0, 0), .inl (eC E 0, 5, .inl (upd (fun _ => 0) 0 p0)))) ne6 hsw
          have hnb := gU_ne (x := ((5, 0, 0), .inl (eC E 0, 5, .inl (upd (fun _ => 0) 0 p0)))) ne7 hnb
          have hFr : Fr (fun t => t.1 = 4 ∨ t.1 = 5) G (gU (gU G0 q ((5, 0, 0), .inl (eC E 0, 5, .inl (fun _ => 0)))) q ((5, 0, 0), .inl (eC E 0, 5, .inl (upd (fun _ => 0) 0 p0)))) := Fr.trans hFr (Fr.put (x := ((5, 0, 0), .inl (eC E 0, 5, .inl (upd (fun _ => 0) 0 p0)))) h_q (by simp))
          have h_q : (gU (gU G0 q ((5, 0, 0), .inl (eC E 0, 5, .inl (fun _ => 0)))) q ((5, 0, 0), .inl (eC E 0, 5, .inl (upd (fun _ => 0) 0 p0)))) q = some ((5, 0, 0), .inl (eC E 0, 5, .inl (upd (fun _ => 0) 0 p0))) := gU_self
          refine lv_dup hx hb dX3_dimmer_64 rfl ?_
          refine lv_iconst (v := 1) hx hb dX3_dimmer_65 (by decide) ?_
          refine lv_iconst (v := 0) hx hb dX3_dimmer_66 (by decide) ?_
          refine g_iast hx hb hE hI hS hL h_q (i := 1) (x := 0) 1 rfl (by decide) (by decide) dX3_dimmer_67 (fun H locs hI hS => ?_)
          have hy := gU_ne (x := ((5, 0, 0), .inl (eC E 0, 5, .inl (upd (upd (fun _ => 0) 0 p0) 1 0)))) ne2 hy
          have hla := gU_ne (x := ((5, 0, 0), .inl (eC E 0, 5, .inl (upd (upd (fun _ => 0) 0 p0) 1 0)))) ne3 hla
          have hsk := gU_ne (x := ((5, 0, 0), .inl (eC E 0, 5, .inl (upd (upd (fun _ => 0) 0 p0) 1 0)))) ne4 hsk
          have hta := gU_ne (x := ((5, 0, 0), .inl (eC E 0, 5, .inl (upd (upd (fun _ => 0) 0 p0) 1 0)))) ne5 hta
          have hsw := gU_ne (x := ((5, 0, 0), .inl (eC E 0, 5, .inl (upd (upd (fun _ => 0) 0 p0) 1 0)))) ne6 hsw
          have hnb := gU_ne (x := ((5, 0, 0), .inl (eC E 0, 5, .inl (upd (upd (fun _ => 0) 0 p0) 1 0)))) ne7 hnb
          have hFr : Fr (fun t => t.1 = 4 ∨ t.1 = 5) G (gU (gU (gU G0 q ((5, 0, 0), .inl (eC E 0, 5, .inl (fun _ => 0)))) q ((5, 0, 0), .inl (eC E 0, 5, .inl (upd (fun _ => 0) 0 p0)))) q ((5, 0, 0), .inl (eC E 0, 5, .inl (upd (upd (fun _ => 0) 0 p0) 1 0)))) := Fr.trans hFr (Fr.put (x := ((5, 0, 0), .inl (eC E 0, 5, .inl (upd (upd (fun _ => 0) 0 p0) 1 0)))) h_q (by simp))
          have h_q : (gU (gU (gU G0 q ((5, 0, 0), .inl (eC E 0, 5, .inl (fun _ => 0)))) q ((5, 0, 0), .inl (eC E 0, 5, .inl (upd (fun _ => 0) 0 p0)))) q ((5, 0, 0), .inl (eC E 0, 5, .inl (upd (upd (fun _ => 0) 0 p0) 1 0)))) q = some ((5, 0, 0), .inl (eC E 0, 5, .inl (upd (upd (fun _ => 0) 0 p0) 1 0))) := gU_self
          refine lv_dup hx hb dX3_dimmer_68 rfl ?_
          refine lv_iconst (v := 2) hx hb dX3_dimmer_69 (by decide) ?_
          refine lv_iconst (v := 0) hx hb dX3_dimmer_70 (by decide) ?_
          refine g_iast hx hb hE hI hS hL h_q (i := 2) (x := 0) 2 rfl (by decide) (by decide) dX3_dimmer_71 (fun H locs hI hS => ?_)
          have hy := gU_ne (x := ((5, 0, 0), .inl (eC E 0, 5, .inl (upd (upd (upd (fun _ => 0) 0 p0) 1 0) 2 0)))) ne2 hy
          have hla := gU_ne (x := ((5, 0, 0), .inl (eC E 0, 5, .inl (upd (upd (upd (fun _ => 0) 0 p0) 1 0) 2 0)))) ne3 hla
          have hsk := gU_ne (x := ((5, 0, 0), .inl (eC E 0, 5, .inl (upd (upd (upd (fun _ => 0) 0 p0) 1 0) 2 0)))) ne4 hsk
          have hta := gU_ne (x := ((5, 0, 0), .inl (eC E 0, 5, .inl (upd (upd (upd (fun _ => 0) 0 p0) 1 0) 2 0)))) ne5 hta
          have hsw := gU_ne (x := ((5, 0, 0), .inl (eC E 0, 5, .inl (upd (upd (upd (fun _ => 0) 0 p0) 1 0) 2 0)))) ne6 hsw
          have hnb := gU_ne (x := ((5, 0, 0), .inl (eC E 0, 5, .inl (upd (upd (upd (fun _ => 0) 0 p0) 1 0) 2 0)))) ne7 hnb
          have hFr : Fr (fun t => t.1 = 4 ∨ t.1 = 5) G (gU (gU (gU (gU G0 q ((5, 0, 0), .inl (eC E 0, 5, .inl (fun _ => 0)))) q ((5, 0, 0), .inl (eC E 0, 5, .inl (upd (fun _ => 0) 0 p0)))) q ((5, 0, 0), .inl (eC E 0, 5, .inl (upd (upd (fun _ => 0) 0 p0) 1 0)))) q ((5, 0, 0), .inl (eC E 0, 5, .inl (upd (upd (upd (fun _ => 0) 0 p0) 1 0) 2 0)))) := Fr.trans hFr (Fr.put (x := ((5, 0, 0), .inl (eC E 0, 5, .inl (upd (upd (upd (fun _ => 0) 0 p0) 1 0) 2 0)))) h_q (by simp))
          have h_q : (gU (gU (gU (gU G0 q ((5, 0, 0), .inl (eC E 0, 5, .inl (fun _ => 0)))) q ((5, 0, 0), .inl (eC E 0, 5, .inl (upd (fun _ => 0) 0 p0)))) q ((5, 0, 0), .inl (eC E 0, 5, .inl (upd (upd (fun _ => 0) 0 p0) 1 0)))) q ((5, 0, 0), .inl (eC E 0, 5, .inl (upd (upd (upd (fun _ => 0) 0 p0) 1 0) 2 0)))) q = some ((5, 0, 0), .inl (eC E 0, 5, .inl (upd (upd (upd (fun _ => 0) 0 p0) 1 0) 2 0))) := gU_self
          refine lv_dup hx hb dX3_dimmer_72 rfl ?_
          refine lv_iconst (v := 3) hx hb dX3_dimmer_73 (by decide) ?_
          refine lv_iload_n hx hb dX3_dimmer_74 rfl (lv_at hl 2 rfl) ?_
          refine g_iast hx hb hE hI hS hL h_q (i := 3) (x := p1) 3 rfl (by decide) (by decide) dX3_dimmer_75 (fun H locs hI hS => ?_)
          have hy := gU_ne (x := ((5, 0, 0), .inl (eC E 0, 5, .inl (upd (upd (upd (upd (fun _ => 0) 0 p0) 1 0) 2 0) 3 p1)))) ne2 hy
          have hla := gU_ne (x := ((5, 0, 0), .inl (eC E 0, 5, .inl (upd (upd (upd (upd (fun _ => 0) 0 p0) 1 0) 2 0) 3 p1)))) ne3 hla
          have hsk := gU_ne (x := ((5, 0, 0), .inl (eC E 0, 5, .inl (upd (upd (upd (upd (fun _ => 0) 0 p0) 1 0) 2 0) 3 p1)))) ne4 hsk
          have hta := gU_ne (x := ((5, 0, 0), .inl (eC E 0, 5, .inl (upd (upd (upd (upd (fun _ => 0) 0 p0) 1 0) 2 0) 3 p1)))) ne5 hta
          have hsw := gU_ne (x := ((5, 0, 0), .inl (eC E 0, 5, .inl (upd (upd (upd (upd (fun _ => 0) 0 p0) 1 0) 2 0) 3 p1)))) ne6 hsw
          have hnb := gU_ne (x := ((5, 0, 0), .inl (eC E 0, 5, .inl (upd (upd (upd (upd (fun _ => 0) 0 p0) 1 0) 2 0) 3 p1)))) ne7 hnb
          have hFr : Fr (fun t => t.1 = 4 ∨ t.1 = 5) G (gU (gU (gU (gU (gU G0 q ((5, 0, 0), .inl (eC E 0, 5, .inl (fun _ => 0)))) q ((5, 0, 0), .inl (eC E 0, 5, .inl (upd (fun _ => 0) 0 p0)))) q ((5, 0, 0), .inl (eC E 0, 5, .inl (upd (upd (fun _ => 0) 0 p0) 1 0)))) q ((5, 0, 0), .inl (eC E 0, 5, .inl (upd (upd (upd (fun _ => 0) 0 p0) 1 0) 2 0)))) q ((5, 0, 0), .inl (eC E 0, 5, .inl (upd (upd (upd (upd (fun _ => 0) 0 p0) 1 0) 2 0) 3 p1)))) := Fr.trans hFr (Fr.put (x := ((5, 0, 0), .inl (eC E 0, 5, .inl (upd (upd (upd (upd (fun _ => 0) 0 p0) 1 0) 2 0) 3 p1)))) h_q (by simp))
          have h_q : (gU (gU (gU (gU (gU G0 q ((5, 0, 0), .inl (eC E 0, 5, .inl (fun _ => 0)))) q ((5, 0, 0), .inl (eC E 0, 5, .inl (upd (fun _ => 0) 0 p0)))) q ((5, 0, 0), .inl (eC E 0, 5, .inl (upd (upd (fun _ => 0) 0 p0) 1 0)))) q ((5, 0, 0), .inl (eC E 0, 5, .inl (upd (upd (upd (fun _ => 0) 0 p0) 1 0) 2 0)))) q ((5, 0, 0), .inl (eC E 0, 5, .inl (upd (upd (upd (upd (fun _ => 0) 0 p0) 1 0) 2 0) 3 p1)))) q = some ((5, 0, 0), .inl (eC E 0, 5, .inl (upd (upd (upd (upd (fun _ => 0) 0 p0) 1 0) 2 0) 3 p1))) := gU_self
          refine lv_dup hx hb dX3_dimmer_76 rfl ?_
          refine lv_iconst (v := 4) hx hb dX3_dimmer_77 (by decide) ?_
          refine lv_iload_n hx hb dX3_dimmer_78 rfl (lv_at hl 3 rfl) ?_
          refine g_iast hx hb hE hI hS hL h_q (i := 4) (x := p2) 4 rfl (by decide) (by decide) dX3_dimmer_79 (fun H locs hI hS => ?_)
          have hy := gU_ne (x := ((5, 0, 0), .inl (eC E 0, 5, .inl (upd (upd (upd (upd (upd (fun _ => 0) 0 p0) 1 0) 2 0) 3 p1) 4 p2)))) ne2 hy
          have hla := gU_ne (x := ((5, 0, 0), .inl (eC E 0, 5, .inl (upd (upd (upd (upd (upd (fun _ => 0) 0 p0) 1 0) 2 0) 3 p1) 4 p2)))) ne3 hla
          have hsk := gU_ne (x := ((5, 0, 0), .inl (eC E 0, 5, .inl (upd (upd (upd (upd (upd (fun _ => 0) 0 p0) 1 0) 2 0) 3 p1) 4 p2)))) ne4 hsk
          have hta := gU_ne (x := ((5, 0, 0), .inl (eC E 0, 5, .inl (upd (upd (upd (upd (upd (fun _ => 0) 0 p0) 1 0) 2 0) 3 p1) 4 p2)))) ne5 hta
          have hsw := gU_ne (x := ((5, 0, 0), .inl (eC E 0, 5, .inl (upd (upd (upd (upd (upd (fun _ => 0) 0 p0) 1 0) 2 0) 3 p1) 4 p2)))) ne6 hsw
          have hnb := gU_ne (x := ((5, 0, 0), .inl (eC E 0, 5, .inl (upd (upd (upd (upd (upd (fun _ => 0) 0 p0) 1 0) 2 0) 3 p1) 4 p2)))) ne7 hnb
          have hFr : Fr (fun t => t.1 = 4 ∨ t.1 = 5) G (gU (gU (gU (gU (gU (gU G0 q ((5, 0, 0), .inl (eC E 0, 5, .inl (fun _ => 0)))) q ((5, 0, 0), .inl (eC E 0, 5, .inl (upd (fun _ => 0) 0 p0)))) q ((5, 0, 0), .inl (eC E 0, 5, .inl (upd (upd (fun _ => 0) 0 p0) 1 0)))) q ((5, 0, 0), .inl (eC E 0, 5, .inl (upd (upd (upd (fun _ => 0) 0 p0) 1 0) 2 0)))) q ((5, 0, 0), .inl (eC E 0, 5, .inl (upd (upd (upd (upd (fun _ => 0) 0 p0) 1 0) 2 0) 3 p1)))) q ((5, 0, 0), .inl (eC E 0, 5, .inl (upd (upd (upd (upd (upd (fun _ => 0) 0 p0) 1 0) 2 0) 3 p1) 4 p2)))) := Fr.trans hFr (Fr.put (x := ((5, 0, 0), .inl (eC E 0, 5, .inl (upd (upd (upd (upd (upd (fun _ => 0) 0 p0) 1 0) 2 0) 3 p1) 4 p2)))) h_q (by simp))
          have h_q : (gU (gU (gU (gU (gU (gU G0 q ((5, 0, 0), .inl (eC E 0, 5, .inl (fun _ => 0)))) q ((5, 0, 0), .inl (eC E 0, 5, .inl (upd (fun _ => 0) 0 p0)))) q ((5, 0, 0), .inl (eC E 0, 5, .inl (upd (upd (fun _ => 0) 0 p0) 1 0)))) q ((5, 0, 0), .inl (eC E 0, 5, .inl (upd (upd (upd (fun _ => 0) 0 p0) 1 0) 2 0)))) q ((5, 0, 0), .inl (eC E 0, 5, .inl (upd (upd (upd (upd (fun _ => 0) 0 p0) 1 0) 2 0) 3 p1)))) q ((5, 0, 0), .inl (eC E 0, 5, .inl (upd (upd (upd (upd (upd (fun _ => 0) 0 p0) 1 0) 2 0) 3 p1) 4 p2)))) q = some ((5, 0, 0), .inl (eC E 0, 5, .inl (upd (upd (upd (upd (upd (fun _ => 0) 0 p0) 1 0) 2 0) 3 p1) 4 p2))) := gU_self
          refine lv_astore (lv' := [(4, .ref q), (0, .ref y), (1, .int p0), (2, .int p1), (3, .int p2)]) hx hb dX3_dimmer_80 hl (by decide) rfl (fun ls hl => ?_)
          refine lv_aload hx hb dX3_dimmer_82 (lv_at hl 0 rfl) ?_
          refine lv_iconst (v := 0) hx hb dX3_dimmer_84 (by decide) ?_
          refine lv_aload_n hx hb dX3_dimmer_85 rfl (lv_at hl 1 rfl) ?_
          refine g_get (C := RX3) (T := TX3) (N := 9) (v := .ref la) hx hb hts in_X3 hown hE hI hy rfl 4 (by decide) q847 (fun _ h9 => h9) rfl dX3_dimmer_86 ?_
          refine lv_iconst (v := 5) hx hb dX3_dimmer_89 (by decide) ?_
          refine lv_aload_n hx hb dX3_dimmer_90 rfl (lv_at hl 1 rfl) ?_
          refine g_get (C := RX3) (T := TX3) (N := 9) (v := .int (nI nd)) hx hb hts in_X3 hown hE hI hy rfl 1 (by decide) q844 (fun _ h9 => h9) rfl dX3_dimmer_91 ?_
          refine lv_imul hx hb dX3_dimmer_94 ?_
          refine lv_iconst (v := 5) hx hb dX3_dimmer_95 (by decide) ?_
          refine g_copyi hx hb (hml.trans hl.1.symm) hts hown q887 q481 q480 q46 hE hI hS hL h_q hla 0 (5 * nd) 5 rfl (ix0 5 nd) rfl (by omega) (by omega) (by decide) (by decide) (Nat.le_of_ble_eq_true rfl) (Nat.le_of_ble_eq_true rfl) dX3_dimmer_96 (fun H locs hI hS => ?_)
          have hI : Inv E (gU (gU (gU (gU (gU (gU (gU G0 q ((5, 0, 0), .inl (eC E 0, 5, .inl (fun _ => 0)))) q ((5, 0, 0), .inl (eC E 0, 5, .inl (upd (fun _ => 0) 0 p0)))) q ((5, 0, 0), .inl (eC E 0, 5, .inl (upd (upd (fun _ => 0) 0 p0) 1 0)))) q ((5, 0, 0), .inl (eC E 0, 5, .inl (upd (upd (upd (fun _ => 0) 0 p0) 1 0) 2 0)))) q ((5, 0, 0), .inl (eC E 0, 5, .inl (upd (upd (upd (upd (fun _ => 0) 0 p0) 1 0) 2 0) 3 p1)))) q ((5, 0, 0), .inl (eC E 0, 5, .inl (upd (upd (upd (upd (upd (fun _ => 0) 0 p0) 1 0) 2 0) 3 p1) 4 p2)))) la ((4, 1, 0), .inl (eC E 0, 40, .inl (lampF (va_up dm nd (p0, p1, 0, 0, p2)))))) H := by have z := hI; rw [cpy_lamp] at z; exact z
          have hy := gU_o (x := ((4, 1, 0), .inl (eC E 0, 40, .inl (lampF (va_up dm nd (p0, p1, 0, 0, p2)))))) hla hy (by simp)
          have hsk := gU_o (x := ((4, 1, 0), .inl (eC E 0, 40, .inl (lampF (va_up dm nd (p0, p1, 0, 0, p2)))))) hla hsk (by simp)
          have hta := gU_o (x := ((4, 1, 0), .inl (eC E 0, 40, .inl (lampF (va_up dm nd (p0, p1, 0, 0, p2)))))) hla hta (by simp)
          have hsw := gU_o (x := ((4, 1, 0), .inl (eC E 0, 40, .inl (lampF (va_up dm nd (p0, p1, 0, 0, p2)))))) hla hsw (by simp)
          have hnb := gU_o (x := ((4, 1, 0), .inl (eC E 0, 40, .inl (lampF (va_up dm nd (p0, p1, 0, 0, p2)))))) hla hnb (by simp)
          have h_q := gU_ne (x := ((4, 1, 0), .inl (eC E 0, 40, .inl (lampF (va_up dm nd (p0, p1, 0, 0, p2)))))) ne3.symm h_q
          have hFr : Fr (fun t => t.1 = 4 ∨ t.1 = 5) G (gU (gU (gU (gU (gU (gU (gU G0 q ((5, 0, 0), .inl (eC E 0, 5, .inl (fun _ => 0)))) q ((5, 0, 0), .inl (eC E 0, 5, .inl (upd (fun _ => 0) 0 p0)))) q ((5, 0, 0), .inl (eC E 0, 5, .inl (upd (upd (fun _ => 0) 0 p0) 1 0)))) q ((5, 0, 0), .inl (eC E 0, 5, .inl (upd (upd (upd (fun _ => 0) 0 p0) 1 0) 2 0)))) q ((5, 0, 0), .inl (eC E 0, 5, .inl (upd (upd (upd (upd (fun _ => 0) 0 p0) 1 0) 2 0) 3 p1)))) q ((5, 0, 0), .inl (eC E 0, 5, .inl (upd (upd (upd (upd (upd (fun _ => 0) 0 p0) 1 0) 2 0) 3 p1) 4 p2)))) la ((4, 1, 0), .inl (eC E 0, 40, .inl (lampF (va_up dm nd (p0, p1, 0, 0, p2)))))) := Fr.trans hFr (Fr.put (x := ((4, 1, 0), .inl (eC E 0, 40, .inl (lampF (va_up dm nd (p0, p1, 0, 0, p2)))))) hla (by simp))
          have hla : (gU (gU (gU (gU (gU (gU (gU G0 q ((5, 0, 0), .inl (eC E 0, 5, .inl (fun _ => 0)))) q ((5, 0, 0), .inl (eC E 0, 5, .inl (upd (fun _ => 0) 0 p0)))) q ((5, 0, 0), .inl (eC E 0, 5, .inl (upd (upd (fun _ => 0) 0 p0) 1 0)))) q ((5, 0, 0), .inl (eC E 0, 5, .inl (upd (upd (upd (fun _ => 0) 0 p0) 1 0) 2 0)))) q ((5, 0, 0), .inl (eC E 0, 5, .inl (upd (upd (upd (upd (fun _ => 0) 0 p0) 1 0) 2 0) 3 p1)))) q ((5, 0, 0), .inl (eC E 0, 5, .inl (upd (upd (upd (upd (upd (fun _ => 0) 0 p0) 1 0) 2 0) 3 p1) 4 p2)))) la ((4, 1, 0), .inl (eC E 0, 40, .inl (lampF (va_up dm nd (p0, p1, 0, 0, p2)))))) la = some ((4, 1, 0), .inl (eC E 0, 40, .inl (lampF (va_up dm nd (p0, p1, 0, 0, p2))))) := gU_self
          refine lv_aload_n hx hb dX3_dimmer_99 rfl (lv_at hl 1 rfl) ?_
          refine lv_dup hx hb dX3_dimmer_100 rfl ?_
          refine g_get (C := RX3) (T := TX3) (N := 9) (v := .int (nI nd)) hx hb hts in_X3 hown hE hI hy rfl 1 (by decide) q844 (fun _ h9 => h9) rfl dX3_dimmer_101 ?_
          refine lv_iconst (v := 1) hx hb dX3_dimmer_104 (by decide) ?_
          refine lv_iadd hx hb dX3_dimmer_105 ?_
          refine g_put (C := RX3) (T := TX3) (N := 9) (v := .int (nI nd + 1)) (ty := .int) (fs' := [.int 0, .int (nI nd + 1), .int (nI ns), .int (nI nu), .ref la, .ref sk, .ref ta, .ref sw, .ref nb]) hx hb hts in_X3 tyX3 tyX3_ok nmX3 hown hE hI hS hL hy rfl 1 (by decide) q844 (fun _ h9 => h9) rfl (by decide +kernel) rfl rfl (Nat.le_of_ble_eq_true rfl) rfl dX3_dimmer_106 (fun H locs hI hS => ?_)
          have hla := gU_o (x := ((4, 0, 0), .inr (7, [.int 0, .int (nI nd + 1), .int (nI ns), .int (nI nu), .ref la, .ref sk, .ref ta, .ref sw, .ref nb]))) hy hla (by simp)
          have hsk := gU_o (x := ((4, 0, 0), .inr (7, [.int 0, .int (nI nd + 1), .int (nI ns), .int (nI nu), .ref la, .ref sk, .ref ta, .ref sw, .ref nb]))) hy hsk (by simp)
          have hta := gU_o (x := ((4, 0, 0), .inr (7, [.int 0, .int (nI nd + 1), .int (nI ns), .int (nI nu), .ref la, .ref sk, .ref ta, .ref sw, .ref nb]))) hy hta (by simp)
          have hsw := gU_o (x := ((4, 0, 0), .inr (7, [.int 0, .int (nI nd + 1), .int (nI ns), .int (nI nu), .ref la, .ref sk, .ref ta, .ref sw, .ref nb]))) hy hsw (by simp)
          have hnb := gU_o (x := ((4, 0, 0), .inr (7, [.int 0, .int (nI nd + 1), .int (nI ns), .int (nI nu), .ref la, .ref sk, .ref ta, .ref sw, .ref nb]))) hy hnb (by simp)
          have h_q := gU_ne (x := ((4, 0, 0), .inr (7, [.int 0, .int (nI nd + 1), .int (nI ns), .int (nI nu), .ref la, .ref sk, .ref ta, .ref sw, .ref nb]))) ne2.symm h_q
          have hFr : Fr (fun t => t.1 = 4 ∨ t.1 = 5) G (gU (gU (gU (gU (gU (gU (gU (gU G0 q ((5, 0, 0), .inl (eC E 0, 5, .inl (fun _ => 0)))) q ((5, 0, 0), .inl (eC E 0, 5, .inl (upd (fun _ => 0) 0 p0)))) q ((5, 0, 0), .inl (eC E 0, 5, .inl (upd (upd (fun _ => 0) 0 p0) 1 0)))) q ((5, 0, 0), .inl (eC E 0, 5, .inl (upd (upd (upd (fun _ => 0) 0 p0) 1 0) 2 0)))) q ((5, 0, 0), .inl (eC E 0, 5, .inl (upd (upd (upd (upd (fun _ => 0) 0 p0) 1 0) 2 0) 3 p1)))) q ((5, 0, 0), .inl (eC E 0, 5, .inl (upd (upd (upd (upd (upd (fun _ => 0) 0 p0) 1 0) 2 0) 3 p1) 4 p2)))) la ((4, 1, 0), .inl (eC E 0, 40, .inl (lampF (va_up dm nd (p0, p1, 0, 0, p2)))))) y ((4, 0, 0), .inr (7, [.int 0, .int (nI nd + 1), .int (nI ns), .int (nI nu), .ref la, .ref sk, .ref ta, .ref sw, .ref nb]))) := Fr.trans hFr (Fr.put (x := ((4, 0, 0), .inr (7, [.int 0, .int (nI nd + 1), .int (nI ns), .int (nI nu), .ref la, .ref sk, .ref ta, .ref sw, .ref nb]))) hy (by simp))
          have hy : (gU (gU (gU (gU (gU (gU (gU (gU G0 q ((5, 0, 0), .inl (eC E 0, 5, .inl (fun _ => 0)))) q ((5, 0, 0), .inl (eC E 0, 5, .inl (upd (fun _ => 0) 0 p0)))) q ((5, 0, 0), .inl (eC E 0, 5, .inl (upd (upd (fun _ => 0) 0 p0) 1 0)))) q ((5, 0, 0), .inl (eC E 0, 5, .inl (upd (upd (upd (fun _ => 0) 0 p0) 1 0) 2 0)))) q ((5, 0, 0), .inl (eC E 0, 5, .inl (upd (upd (upd (upd (fun _ => 0) 0 p0) 1 0) 2 0) 3 p1)))) q ((5, 0, 0), .inl (eC E 0, 5, .inl (upd (upd (upd (upd (upd (fun _ => 0) 0 p0) 1 0) 2 0) 3 p1) 4 p2)))) la ((4, 1, 0), .inl (eC E 0, 40, .inl (lampF (va_up dm nd (p0, p1, 0, 0, p2)))))) y ((4, 0, 0), .inr (7, [.int 0, .int (nI nd + 1), .int (nI ns), .int (nI nu), .ref la, .ref sk, .ref ta, .ref sw, .ref nb]))) y = some ((4, 0, 0), .inr (7, [.int 0, .int (nI nd + 1), .int (nI ns), .int (nI nu), .ref la, .ref sk, .ref ta, .ref sw, .ref nb])) := gU_self
          refine lv_aload_n hx hb dX3_dimmer_109 rfl (lv_at hl 1 rfl) ?_
          refine g_get (C := RX3) (T := TX3) (N := 9) (v := .int (nI nd + 1)) hx hb hts in_X3 hown hE hI hy rfl 1 (by decide) q844 (fun _ h9 => h9) rfl dX3_dimmer_110 ?_
          refine lv_iconst (v := 1) hx hb dX3_dimmer_113 (by decide) ?_
          refine lv_isub hx hb dX3_dimmer_114 ?_
          have hM2 : MRep E (gU (gU (gU (gU (gU (gU (gU (gU G0 q ((5, 0, 0), .inl (eC E 0, 5, .inl (fun _ => 0)))) q ((5, 0, 0), .inl (eC E 0, 5, .inl (upd (fun _ => 0) 0 p0)))) q ((5, 0, 0), .inl (eC E 0, 5, .inl (upd (upd (fun _ => 0) 0 p0) 1 0)))) q ((5, 0, 0), .inl (eC E 0, 5, .inl (upd (upd (upd (fun _ => 0) 0 p0) 1 0) 2 0)))) q ((5, 0, 0), .inl (eC E 0, 5, .inl (upd (upd (upd (upd (fun _ => 0) 0 p0) 1 0) 2 0) 3 p1)))) q ((5, 0, 0), .inl (eC E 0, 5, .inl (upd (upd (upd (upd (upd (fun _ => 0) 0 p0) 1 0) 2 0) 3 p1) 4 p2)))) la ((4, 1, 0), .inl (eC E 0, 40, .inl (lampF (va_up dm nd (p0, p1, 0, 0, p2)))))) y ((4, 0, 0), .inr (7, [.int 0, .int (nI nd + 1), .int (nI ns), .int (nI nu), .ref la, .ref sk, .ref ta, .ref sw, .ref nb]))) y (la, sk, ta, sw, nb) 0 (dimS ((((tk, ck, rn, an, sp, ln, lf), (nd, dm), (nc, km)), (nu, uq), (ns, st)) : Sy) p0 p1 p2) := ⟨by show (gU (gU (gU (gU (gU (gU (gU (gU G0 q ((5, 0, 0), .inl (eC E 0, 5, .inl (fun _ => 0)))) q ((5, 0, 0), .inl (eC E 0, 5, .inl (upd (fun _ => 0) 0 p0)))) q ((5, 0, 0), .inl (eC E 0, 5, .inl (upd (upd (fun _ => 0) 0 p0) 1 0)))) q ((5, 0, 0), .inl (eC E 0, 5, .inl (upd (upd (upd (fun _ => 0) 0 p0) 1 0) 2 0)))) q ((5, 0, 0), .inl (eC E 0, 5, .inl (upd (upd (upd (upd (fun _ => 0) 0 p0) 1 0) 2 0) 3 p1)))) q ((5, 0, 0), .inl (eC E 0, 5, .inl (upd (upd (upd (upd (upd (fun _ => 0) 0 p0) 1 0) 2 0) 3 p1) 4 p2)))) la ((4, 1, 0), .inl (eC E 0, 40, .inl (lampF (va_up dm nd (p0, p1, 0, 0, p2)))))) y ((4, 0, 0), .inr (7, [.int 0, .int (nI nd + 1), .int (nI ns), .int (nI nu), .ref la, .ref sk, .ref ta, .ref sw, .ref nb]))) y = some ((4, 0, 0), mO 0 (nI (nd + 1)) (nI ns) (nI nu) la sk ta sw nb); rw [← nI_1]; exact hy, hla, hsk, hta, hsw, hnb⟩
          exact g_iret hx hb hr hlk hI hS dX3_dimmer_115 (Nat.le_of_ble_eq_true rfl) (Nat.le_of_ble_eq_true rfl) (⟨fun _ => by rw [nI_1, nI_pred], by rw [hcode, if_pos rfl]; exact hM2, hFr⟩)
        · refine lv_aload_n hx hb dX3_dimmer_51 rfl (lv_at hl 0 rfl) ?_
          refine lv_iconst (v := 2) hx hb dX3_dimmer_52 (by decide) ?_
          refine g_ci hS (va_runV (As := [.int 2]) (rest := []) ⟨hx, hb, hml, hown, hts⟩ (k_fail l E G0 y (la, sk, ta, sw, nb) _ ((((tk, ck, rn, an, sp, ln, lf), (nd, dm), (nc, km)), (nu, uq), (ns, st)) : Sy) hMR 2) (cwV 1 hts (lw_V q883 q885 qs13 q36 q886) rfl rfl rfl (by decide +kernel) ⟨Nat.le_of_ble_eq_true rfl, Nat.le_of_ble_eq_true rfl⟩) (g_preV hE hI (g_recv hE hI hy rfl)) rfl rfl hl.1 rfl (lv_room (Nat.le_of_ble_eq_true rfl)) dX3_dimmer_53 ⟨Nat.le_of_ble_eq_true rfl, Nat.le_of_ble_eq_true rfl⟩) (fun r G1 H locs hp hI hS => ?_)
          obtain ⟨-, hM1, hF1⟩ := hp
          have hcode : dimR nd p0 p1 p2 = 2 := (if_neg c1).trans ((if_neg c2).trans ((if_neg c3).trans (if_neg (fun z => Nat.ne_of_lt z ((nI_eq (b := 8) (by omega) (by decide)).mp c4)))))
          exact g_iret hx hb hr hlk hI hS dX3_dimmer_56 (Nat.le_of_ble_eq_true rfl) (Nat.le_of_ble_eq_true rfl) (⟨fun z => absurd (hcode.symm.trans z) (by decide), by rw [hcode, if_neg (by decide)]; exact hM1, (Fr.trans hFr hF1).mono (fun t z => Or.inl z)⟩)
      · refine lv_aload_n hx hb dX3_dimmer_36 rfl (lv_at hl 0 rfl) ?_
        refine lv_iconst (v := 1) hx hb dX3_dimmer_37 (by decide) ?_
        refine g_ci hS (va_runV (As := [.int 1]) (rest := []) ⟨hx, hb, hml, hown, hts⟩ (k_fail l E G0 y (la, sk, ta, sw, nb) _ ((((tk, ck, rn, an, sp, ln, lf), (nd, dm), (nc, km)), (nu, uq), (ns, st)) : Sy) hMR 1) (cwV 1 hts (lw_V q883 q885 qs13 q36 q886) rfl rfl rfl (by decide +kernel) ⟨Nat.le_of_ble_eq_true rfl, Nat.le_of_ble_eq_true rfl⟩) (g_preV hE hI (g_recv hE hI hy rfl)) rfl rfl hl.1 rfl (lv_room (Nat.le_of_ble_eq_true rfl)) dX3_dimmer_38 ⟨Nat.le_of_ble_eq_true rfl, Nat.le_of_ble_eq_true rfl⟩) (fun r G1 H locs hp hI hS => ?_)
        obtain ⟨-, hM1, hF1⟩ := hp
        have hcode : dimR nd p0 p1 p2 = 1 := (if_neg c1).trans ((if_neg c2).trans (if_pos c3))
        exact g_iret hx hb hr hlk hI hS dX3_dimmer_41 (Nat.le_of_ble_eq_true rfl) (Nat.le_of_ble_eq_true rfl) (⟨fun z => absurd (hcode.symm.trans z) (by decide), by rw [hcode, if_neg (by decide)]; exact hM1, (Fr.trans hFr hF1).mono (fun t z => Or.inl z)⟩)
set_option maxHeartbeats 4000000 in
set_option maxRecDepth 100000 in
theorem k_cue (l : Launch) (E : EnvT) (G : Gh) (y : Nat) (M : MA) (th : Int32) (σ : Sy) (hMR : MRep E G y M th σ) (hO : OkS σ) (tm kd a b : Int32) : Met l yX3_cue (ws_ yX3_cue cX3_cue 6 (some .int)) ({ frames := 3, cells := 1, slots := 4, locals := 66 } : Room) (cP E G [.ref y, .int tm, .int kd, .int a, .int b]) (cI E (fun r G' => (cueR σ.1.2.1.1 σ.2.1.1 tm kd a b = 0 → r = nI σ.2.1.1) ∧ MRep E G' y M (cueR σ.1.2.1.1 σ.2.1.1 tm kd a b) (if cueR σ.1.2.1.1 σ.2.1.1 tm kd a b = 0 then cueS σ tm kd a b else σ) ∧ Fr (fun t => t.1 = 4 ∨ t.1 = 5) G G')) 1 4 (eA E) := by
  obtain ⟨la, sk, ta, sw, nb⟩ := M
  obtain ⟨⟨⟨tk, ck, rn, an, sp, ln, lf⟩, ⟨nd, dm⟩, ⟨nc, km⟩⟩, ⟨nu, uq⟩, ⟨ns, st⟩⟩ := σ
  refine g_met (rm := ({ frames := 3, cells := 1, slots := 4, locals := 66 } : Room)) (av := [.ref y, .int tm, .int kd, .int a, .int b]) (lv := [(0, .ref y), (1, .int tm), (2, .int kd), (3, .int a), (4, .int b)]) (by decide) (Nat.le_of_ble_eq_true rfl) rfl ?_
  intro p e s m below meth c ls hx hb hr hlk hml hin hts hown hE hI hL hS hl
  have hMR0 := hMR
  obtain ⟨hy, hla, hsk, hta, hsw, hnb⟩ := hMR0
  have hy : G y = some ((4, 0, 0), mO th (nI nd) (nI ns) (nI nu) la sk ta sw nb) := hy
  have hla : G la = some ((4, 1, 0), iO E 40 (lampF dm)) := hla
  have hsk : G sk = some ((4, 2, 0), iO E 40 (skyF st)) := hsk
  have hta : G ta = some ((4, 3, 0), iO E 36 (tailF km)) := hta
  have hsw : G sw = some ((4, 4, 0), iO E 96 (showF uq)) := hsw
  have hnb : G nb = some ((4, 5, 0), iO E 8 (numF (tk, ck, rn, an, sp, ln, lf) nc)) := hnb
  have hFr : Fr (Ow 4) G G := Fr.rf
  refine lv_aload_n hx hb dX3_cue_0 rfl (lv_at hl 0 rfl) ?_
  refine lv_iconst (v := 0) hx hb dX3_cue_1 (by decide) ?_
  refine g_put (C := RX3) (T := TX3) (N := 9) (v := .int 0) (ty := .int) (fs' := [.int 0, .int (nI nd), .int (nI ns), .int (nI nu), .ref la, .ref sk, .ref ta, .ref sw, .ref nb]) hx hb hts in_X3 tyX3 tyX3_ok nmX3 hown hE hI hS hL hy rfl 0 (by decide) q843 (fun _ h9 => h9) rfl (by decide +kernel) rfl rfl (Nat.le_of_ble_eq_true rfl) rfl dX3_cue_2 (fun H locs hI hS => ?_)
  have hla := gU_o (x := ((4, 0, 0), .inr (7, [.int 0, .int (nI nd), .int (nI ns), .int (nI nu), .ref la, .ref sk, .ref ta, .ref sw, .ref nb]))) hy hla (by simp)
  have hsk := gU_o (x := ((4, 0, 0), .inr (7, [.int 0, .int (nI nd), .int (nI ns), .int (nI nu), .ref la, .ref sk, .ref ta, .ref sw, .ref nb]))) hy hsk (by simp)
  have hta := gU_o (x := ((4, 0, 0), .inr (7, [.int 0, .int (nI nd), .int (nI ns), .int (nI nu), .ref la, .ref sk, .ref ta, .ref sw, .ref nb]))) hy hta (by simp)
  have hsw := gU_o (x := ((4, 0, 0), .inr (7, [.int 0, .int (nI nd), .int (nI ns), .int (nI nu), .ref la, .ref sk, .ref ta, .ref sw, .ref nb]))) hy hsw (by simp)
  have hnb := gU_o (x := ((4, 0, 0), .inr (7, [.int 0, .int (nI nd), .int (nI ns), .int (nI nu), .ref la, .ref sk, .ref ta, .ref sw, .ref nb]))) hy hnb (by simp)
  have hFr : Fr (Ow 4) G (gU G y ((4, 0, 0), .inr (7, [.int 0, .int (nI nd), .int (nI ns), .int (nI nu), .ref la, .ref sk, .ref ta, .ref sw, .ref nb]))) := Fr.trans hFr (Fr.put (x := ((4, 0, 0), .inr (7, [.int 0, .int (nI nd), .int (nI ns), .int (nI nu), .ref la, .ref sk, .ref ta, .ref sw, .ref nb]))) hy rfl)
  have hy : (gU G y ((4, 0, 0), .inr (7, [.int 0, .int (nI nd), .int (nI ns), .int (nI nu), .ref la, .ref sk, .ref ta, .ref sw, .ref nb]))) y = some ((4, 0, 0), .inr (7, [.int 0, .int (nI nd), .int (nI ns), .int (nI nu), .ref la, .ref sk, .ref ta, .ref sw, .ref nb])) := gU_self
  obtain ⟨G0, hMR, hFr, hI⟩ : ∃ G0, MRep E G0 y (la, sk, ta, sw, nb) 0 ((((tk, ck, rn, an, sp, ln, lf), (nd, dm), (nc, km)), (nu, uq), (ns, st)) : Sy) ∧ Fr (Ow 4) G G0 ∧ Inv E G0 H := ⟨_, ⟨hy, hla, hsk, hta, hsw, hnb⟩, hFr, hI⟩
  have hMR0 := hMR
  obtain ⟨hy, hla, hsk, hta, hsw, hnb⟩ := hMR0
  have hy : G0 y = some ((4, 0, 0), mO 0 (nI nd) (nI ns) (nI nu) la sk ta sw nb) := hy
  have hla : G0 la = some ((4, 1, 0), iO E 40 (lampF dm)) := hla
  have hsk : G0 sk = some ((4, 2, 0), iO E 40 (skyF st)) := hsk
  have hta : G0 ta = some ((4, 3, 0), iO E 36 (tailF km)) := hta
  have hsw : G0 sw = some ((4, 4, 0), iO E 96 (showF uq)) := hsw
  have hnb : G0 nb = some ((4, 5, 0), iO E 8 (numF (tk, ck, rn, an, sp, ln, lf) nc)) := hnb
  have hnd : nd ≤ 8 := hO.cn.nd
  have hnc : nc ≤ 12 := hO.cn.nc
  have hnu : nu ≤ 24 := hO.nu
  have hns : ns ≤ 20 := hO.ns
  refine lv_iload_n hx hb dX3_cue_5 rfl (lv_at hl 1 rfl) ?_
  refine lv_iconst (v := 0) hx hb dX3_cue_6 (by decide) ?_
  refine lv_sipush (v := 999) hx hb dX3_cue_7 (by decide) ?_
  refine g_ci0 (G := G0) (v := isInV tm 0 999) hS (va_runS (As := [.int tm, .int 0, .int 999]) (rest := []) ⟨hx, hb, hml, hown, hts⟩ (k_isIn l E G0 tm 0 999) (va_cwS 3 hts (lw_S q880 q881 q36 q882) rfl rfl rfl (by decide +kernel) ⟨Nat.le_of_ble_eq_true rfl, Nat.le_of_ble_eq_true rfl⟩) (g_preS hE hI) rfl rfl hl.1 rfl (lv_room (Nat.le_of_ble_eq_true rfl)) dX3_cue_10 ⟨Nat.le_of_ble_eq_true rfl, Nat.le_of_ble_eq_true rfl⟩) (fun H locs hI hS => ?_)
  refine lv_if_eq (tgt := 27) hx hb dX3_cue_13 (by decide) (fun c1 => ?_) (fun c1 => ?_)
  · refine lv_aload_n hx hb dX3_cue_27 rfl (lv_at hl 0 rfl) ?_
    refine lv_iconst (v := 1) hx hb dX3_cue_28 (by decide) ?_
    refine g_ci hS (va_runV (As := [.int 1]) (rest := []) ⟨hx, hb, hml, hown, hts⟩ (k_fail l E G0 y (la, sk, ta, sw, nb) _ ((((tk, ck, rn, an, sp, ln, lf), (nd, dm), (nc, km)), (nu, uq), (ns, st)) : Sy) hMR 1) (cwV 1 hts (lw_V q883 q885 qs13 q36 q886) rfl rfl rfl (by decide +kernel) ⟨Nat.le_of_ble_eq_true rfl, Nat.le_of_ble_eq_true rfl⟩) (g_preV hE hI (g_recv hE hI hy rfl)) rfl rfl hl.1 rfl (lv_room (Nat.le_of_ble_eq_true rfl)) dX3_cue_29 ⟨Nat.le_of_ble_eq_true rfl, Nat.le_of_ble_eq_true rfl⟩) (fun r G1 H locs hp hI hS => ?_)
    obtain ⟨-, hM1, hF1⟩ := hp
    have hcode : cueR nd nu tm kd a b = 1 := if_pos c1
    exact g_iret hx hb hr hlk hI hS dX3_cue_32 (Nat.le_of_ble_eq_true rfl) (Nat.le_of_ble_eq_true rfl) (⟨fun z => absurd (hcode.symm.trans z) (by decide), by rw [hcode, if_neg (by decide)]; exact hM1, (Fr.trans hFr hF1).mono (fun t z => Or.inl z)⟩)
  · refine lv_aload_n hx hb dX3_cue_16 rfl (lv_at hl 0 rfl) ?_
    refine lv_iload_n hx hb dX3_cue_17 rfl (lv_at hl 2 rfl) ?_
    refine lv_iload_n hx hb dX3_cue_18 rfl (lv_at hl 3 rfl) ?_
    refine lv_iload hx hb dX3_cue_19 (lv_at hl 4 rfl) ?_
    refine g_ci0 (G := G0) (v := icV nd kd a b) hS (va_runV (As := [.int kd, .int a, .int b]) (rest := []) ⟨hx, hb, hml, hown, hts⟩ (k_isCue l E G0 y (la, sk, ta, sw, nb) _ ((((tk, ck, rn, an, sp, ln, lf), (nd, dm), (nc, km)), (nu, uq), (ns, st)) : Sy) hMR kd a b) (cwV 3 hts (lw_V q912 q914 qs17 q36 q915) rfl rfl rfl (by decide +kernel) ⟨Nat.le_of_ble_eq_true rfl, Nat.le_of_ble_eq_true rfl⟩) (g_preV hE hI (g_recv hE hI hy rfl)) rfl rfl hl.1 rfl (lv_room (Nat.le_of_ble_eq_true rfl)) dX3_cue_21 ⟨Nat.le_of_ble_eq_true rfl, Nat.le_of_ble_eq_true rfl⟩) (fun H locs hI hS => ?_)
    refine lv_if_ne (tgt := 33) hx hb dX3_cue_24 (by decide) (fun c2 => ?_) (fun c2 => ?_)
    · have c3 : ¬ isInV kd 0 4 = 0 := fun z => c2 (by unfold icV; rw [if_pos z])
      have c5 : ¬ takesV nd kd.toNatClampNeg a b = 0 := fun z => c2 (by unfold icV; rw [if_neg c3]; exact z)
      refine lv_aload_n hx hb dX3_cue_33 rfl (lv_at hl 0 rfl) ?_
      refine g_get (C := RX3) (T := TX3) (N := 9) (v := .int (nI nu)) hx hb hts in_X3 hown hE hI hy rfl 3 (by decide) q846 (fun _ h9 => h9) rfl dX3_cue_34 ?_
      refine lv_bipush (v := 24) hx hb dX3_cue_37 (by decide) ?_
      refine lv_icmp_ne (tgt := 48) hx hb dX3_cue_39 (by decide) (fun c4 => ?_) (fun c4 => ?_)
      · have hn : nu < 24 := Nat.lt_of_le_of_ne hnu (fun z => c4 (by rw [z]; rfl))
        have hcode : cueR nd nu tm kd a b = 0 := (if_neg c1).trans ((if_neg c3).trans ((if_neg c5).trans (if_pos hn)))
        obtain ⟨k0, hk0, ek0⟩ := isIn_idx (n := 4) (by decide) c3
        have ck0 : kd.toNatClampNeg = k0 := by rw [ek0]; exact nI_clamp (by omega)
        have hFr : Fr (fun t => t.1 = 4 ∨ t.1 = 5) G G0 := hFr.mono (fun t z => Or.inl z)
        refine lv_iconst (v := 4) hx hb dX3_cue_48 (by decide) ?_
        refine g_newi (5, 0, 0) hx hb hts hE hI hS hL 4 rfl (by decide) (Nat.le_of_ble_eq_true rfl) (Nat.le_of_ble_eq_true rfl) dX3_cue_49 (fun q H hnq hI hS => ?_)
        have ne2 : y ≠ q := g_fne hnq hy
        have hy := gU_ne (x := ((5, 0, 0), .inl (eC E 0, 4, .inl (fun _ => 0)))) ne2 hy
        have ne3 : la ≠ q := g_fne hnq hla
        have hla := gU_ne (x := ((5, 0, 0), .inl (eC E 0, 4, .inl (fun _ => 0)))) ne3 hla
        have ne4 : sk ≠ q := g_fne hnq hsk
        have hsk := gU_ne (x := ((5, 0, 0), .inl (eC E 0, 4, .inl (fun _ => 0)))) ne4 hsk
        have ne5 : ta ≠ q := g_fne hnq hta
        have hta := gU_ne (x := ((5, 0, 0), .inl (eC E 0, 4, .inl (fun _ => 0)))) ne5 hta
        have ne6 : sw ≠ q := g_fne hnq hsw
        have hsw := gU_ne (x := ((5, 0, 0), .inl (eC E 0, 4, .inl (fun _ => 0)))) ne6 hsw
        have ne7 : nb ≠ q := g_fne hnq hnb
        have hnb := gU_ne (x := ((5, 0, 0), .inl (eC E 0, 4, .inl (fun _ => 0)))) ne7 hnb
        have hFr : Fr (fun t => t.1 = 4 ∨ t.1 = 5) G (gU G0 q ((5, 0, 0), .inl (eC E 0, 4, .inl (fun _ => 0)))) := Fr.trans hFr (Fr.new (x := ((5, 0, 0), .inl (eC E 0, 4, .inl (fun _ => 0)))) hnq)
        have h_q : (gU G0 q ((5, 0, 0), .inl (eC E 0, 4, .inl (fun _ => 0)))) q = some ((5, 0, 0), .inl (eC E 0, 4, .inl (fun _ => 0))) := gU_self
        refine lv_dup hx hb dX3_cue_51 rfl ?_
        refine lv_iconst (v := 0) hx hb dX3_cue_52 (by decide) ?_
        refine lv_iload_n hx hb dX3_cue_53 rfl (lv_at hl 1 rfl) ?_
        refine g_iast hx hb hE hI hS hL h_q (i := 0) (x := tm) 0 rfl (by decide) (by decide) dX3_cue_54 (fun H locs hI hS => ?_)
        have hy := gU_ne (x := ((5, 0, 0), .inl (eC E 0, 4, .inl (upd (fun _ => 0) 0 tm)))) ne2 hy
        have hla := gU_ne (x := ((5, 0, 0), .inl (eC E 0, 4, .inl (upd (fun _ => 0) 0 tm)))) ne3 hla
        have hsk := gU_ne (x := ((5, 0, 0), .inl (eC E 0, 4, .inl (upd (fun _ => 0) 0 tm)))) ne4 hsk
        have hta := gU_ne (x := ((5, 0, 0), .inl (eC E 0, 4, .inl (upd (fun _ => 0) 0 tm)))) ne5 hta
        have hsw := gU_ne (x := ((5, 0, 0), .inl (eC E 0, 4, .inl (upd (fun _ => 0) 0 tm)))) ne6 hsw
        have hnb := gU_ne (x := ((5, 0, 0), .inl (eC E 0, 4, .inl (upd (fun _ => 0) 0 tm)))) ne7 hnb
        have hFr : Fr (fun t => t.1 = 4 ∨ t.1 = 5) G (gU (gU G0 q ((5, 0, 0), .inl (eC E 0, 4, .inl (fun _ => 0)))) q ((5, 0, 0), .inl (eC E 0, 4, .inl (upd (fun _ => 0) 0 tm)))) := Fr.trans hFr (Fr.put (x := ((5, 0, 0), .inl (eC E 0, 4, .inl (upd (fun _ => 0) 0 tm)))) h_q (by simp))
        have h_q : (gU (gU G0 q ((5, 0, 0), .inl (eC E 0, 4, .inl (fun _ => 0)))) q ((5, 0, 0), .inl (eC E 0, 4, .inl (upd (fun _ => 0) 0 tm)))) q = some ((5, 0, 0), .inl (eC E 0, 4, .inl (upd (fun _ => 0) 0 tm))) := gU_self
        refine lv_dup hx hb dX3_cue_55 rfl ?_
        refine lv_iconst (v := 1) hx hb dX3_cue_56 (by decide) ?_
        refine lv_iload_n hx hb dX3_cue_57 rfl (lv_at hl 2 rfl) ?_
        refine g_iast hx hb hE hI hS hL h_q (i := 1) (x := kd) 1 rfl (by decide) (by decide) dX3_cue_58 (fun H locs hI hS => ?_)
        have hy := gU_ne (x := ((5, 0, 0), .inl (eC E 0, 4, .inl (upd (upd (fun _ => 0) 0 tm) 1 kd)))) ne2 hy
        have hla := gU_ne (x := ((5, 0, 0), .inl (eC E 0, 4, .inl (upd (upd (fun _ => 0) 0 tm) 1 kd)))) ne3 hla
        have hsk := gU_ne (x := ((5, 0, 0), .inl (eC E 0, 4, .inl (upd (upd (fun _ => 0) 0 tm) 1 kd)))) ne4 hsk
        have hta := gU_ne (x := ((5, 0, 0), .inl (eC E 0, 4, .inl (upd (upd (fun _ => 0) 0 tm) 1 kd)))) ne5 hta
        have hsw := gU_ne (x := ((5, 0, 0), .inl (eC E 0, 4, .inl (upd (upd (fun _ => 0) 0 tm) 1 kd)))) ne6 hsw
        have hnb := gU_ne (x := ((5, 0, 0), .inl (eC E 0, 4, .inl (upd (upd (fun _ => 0) 0 tm) 1 kd)))) ne7 hnb
        have hFr : Fr (fun t => t.1 = 4 ∨ t.1 = 5) G (gU (gU (gU G0 q ((5, 0, 0), .inl (eC E 0, 4, .inl (fun _ => 0)))) q ((5, 0, 0), .inl (eC E 0, 4, .inl (upd (fun _ => 0) 0 tm)))) q ((5, 0, 0), .inl (eC E 0, 4, .inl (upd (upd (fun _ => 0) 0 tm) 1 kd)))) := Fr.trans hFr (Fr.put (x := ((5, 0, 0), .inl (eC E 0, 4, .inl (upd (upd (fun _ => 0) 0 tm) 1 kd)))) h_q (by simp))
        have h_q : (gU (gU (gU G0 q ((5, 0, 0), .inl (eC E 0, 4, .inl (fun _ => 0)))) q ((5, 0, 0), .inl (eC E 0, 4, .inl (upd (fun _ => 0) 0 tm)))) q ((5, 0, 0), .inl (eC E 0, 4, .inl (upd (upd (fun _ => 0) 0 tm) 1 kd)))) q = some ((5, 0, 0), .inl (eC E 0, 4, .inl (upd (upd (fun _ => 0) 0 tm) 1 kd))) := gU_self
        refine lv_dup hx hb dX3_cue_59 rfl ?_
        refine lv_iconst (v := 2) hx hb dX3_cue_60 (by decide) ?_
        refine lv_iload_n hx hb dX3_cue_61 rfl (lv_at hl 3 rfl) ?_
        refine g_iast hx hb hE hI hS hL h_q (i := 2) (x := a) 2 rfl (by decide) (by decide) dX3_cue_62 (fun H locs hI hS => ?_)
        have hy := gU_ne (x := ((5, 0, 0), .inl (eC E 0, 4, .inl (upd (upd (upd (fun _ => 0) 0 tm) 1 kd) 2 a)))) ne2 hy
        have hla := gU_ne (x := ((5, 0, 0), .inl (eC E 0, 4, .inl (upd (upd (upd (fun _ => 0) 0 tm) 1 kd) 2 a)))) ne3 hla
        have hsk := gU_ne (x := ((5, 0, 0), .inl (eC E 0, 4, .inl (upd (upd (upd (fun _ => 0) 0 tm) 1 kd) 2 a)))) ne4 hsk
        have hta := gU_ne (x := ((5, 0, 0), .inl (eC E 0, 4, .inl (upd (upd (upd (fun _ => 0) 0 tm) 1 kd) 2 a)))) ne5 hta
        have hsw := gU_ne (x := ((5, 0, 0), .inl (eC E 0, 4, .inl (upd (upd (upd (fun _ => 0) 0 tm) 1 kd) 2 a)))) ne6 hsw
        have hnb := gU_ne (x := ((5, 0, 0), .inl (eC E 0, 4, .inl (upd (upd (upd (fun _ => 0) 0 tm) 1 kd) 2 a)))) ne7 hnb
        have hFr : Fr (fun t => t.1 = 4 ∨ t.1 = 5) G (gU (gU (gU (gU G0 q ((5, 0, 0), .inl (eC E 0, 4, .inl (fun _ => 0)))) q ((5, 0, 0), .inl (eC E 0, 4, .inl (upd (fun _ => 0) 0 tm)))) q ((5, 0, 0), .inl (eC E 0, 4, .inl (upd (upd (fun _ => 0) 0 tm) 1 kd)))) q ((5, 0, 0), .inl (eC E 0, 4, .inl (upd (upd (upd (fun _ => 0) 0 tm) 1 kd) 2 a)))) := Fr.trans hFr (Fr.put (x := ((5, 0, 0), .inl (eC E 0, 4, .inl (upd (upd (upd (fun _ => 0) 0 tm) 1 kd) 2 a)))) h_q (by simp))
        have h_q : (gU (gU (gU (gU G0 q ((5, 0, 0), .inl (eC E 0, 4, .inl (fun _ => 0)))) q ((5, 0, 0), .inl (eC E 0, 4, .inl (upd (fun _ => 0) 0 tm)))) q ((5, 0, 0), .inl (eC E 0, 4, .inl (upd (upd (fun _ => 0) 0 tm) 1 kd)))) q ((5, 0, 0), .inl (eC E 0, 4, .inl (upd (upd (upd (fun _ => 0) 0 tm) 1 kd) 2 a)))) q = some ((5, 0, 0), .inl (eC E 0, 4, .inl (upd (upd (upd (fun _ => 0) 0 tm) 1 kd) 2 a))) := gU_self
        refine lv_dup hx hb dX3_cue_63 rfl ?_
        refine lv_iconst (v := 3) hx hb dX3_cue_64 (by decide) ?_
        refine lv_iload hx hb dX3_cue_65 (lv_at hl 4 rfl) ?_
        refine g_iast hx hb hE hI hS hL h_q (i := 3) (x := b) 3 rfl (by decide) (by decide) dX3_cue_67 (fun H locs hI hS => ?_)
        have hy := gU_ne (x := ((5, 0, 0), .inl (eC E 0, 4, .inl (upd (upd (upd (upd (fun _ => 0) 0 tm) 1 kd) 2 a) 3 b)))) ne2 hy
        have hla := gU_ne (x := ((5, 0, 0), .inl (eC E 0, 4, .inl (upd (upd (upd (upd (fun _ => 0) 0 tm) 1 kd) 2 a) 3 b)))) ne3 hla
        have hsk := gU_ne (x := ((5, 0, 0), .inl (eC E 0, 4, .inl (upd (upd (upd (upd (fun _ => 0) 0 tm) 1 kd) 2 a) 3 b)))) ne4 hsk
        have hta := gU_ne (x := ((5, 0, 0), .inl (eC E 0, 4, .inl (upd (upd (upd (upd (fun _ => 0) 0 tm) 1 kd) 2 a) 3 b)))) ne5 hta
        have hsw := gU_ne (x := ((5, 0, 0), .inl (eC E 0, 4, .inl (upd (upd (upd (upd (fun _ => 0) 0 tm) 1 kd) 2 a) 3 b)))) ne6 hsw
        have hnb := gU_ne (x := ((5, 0, 0), .inl (eC E 0, 4, .inl (upd (upd (upd (upd (fun _ => 0) 0 tm) 1 kd) 2 a) 3 b)))) ne7 hnb
        have hFr : Fr (fun t => t.1 = 4 ∨ t.1 = 5) G (gU (gU (gU (gU (gU G0 q ((5, 0, 0), .inl (eC E 0, 4, .inl (fun _ => 0)))) q ((5, 0, 0), .inl (eC E 0, 4, .inl (upd (fun _ => 0) 0 tm)))) q ((5, 0, 0), .inl (eC E 0, 4, .inl (upd (upd (fun _ => 0) 0 tm) 1 kd)))) q ((5, 0, 0), .inl (eC E 0, 4, .inl (upd (upd (upd (fun _ => 0) 0 tm) 1 kd) 2 a)))) q ((5, 0, 0), .inl (eC E 0, 4, .inl (upd (upd (upd (upd (fun _ => 0) 0 tm) 1 kd) 2 a) 3 b)))) := Fr.trans hFr (Fr.put (x := ((5, 0, 0), .inl (eC E 0, 4, .inl (upd (upd (upd (upd (fun _ => 0) 0 tm) 1 kd) 2 a) 3 b)))) h_q (by simp))
        have h_q : (gU (gU (gU (gU (gU G0 q ((5, 0, 0), .inl (eC E 0, 4, .inl (fun _ => 0)))) q ((5, 0, 0), .inl (eC E 0, 4, .inl (upd (fun _ => 0) 0 tm)))) q ((5, 0, 0), .inl (eC E 0, 4, .inl (upd (upd (fun _ => 0) 0 tm) 1 kd)))) q ((5, 0, 0), .inl (eC E 0, 4, .inl (upd (upd (upd (fun _ => 0) 0 tm) 1 kd) 2 a)))) q ((5, 0, 0), .inl (eC E 0, 4, .inl (upd (upd (upd (upd (fun _ => 0) 0 tm) 1 kd) 2 a) 3 b)))) q = some ((5, 0, 0), .inl (eC E 0, 4, .inl (upd (upd (upd (upd (fun _ => 0) 0 tm) 1 kd) 2 a) 3 b))) := gU_self
        refine lv_astore (lv' := [(5, .ref q), (0, .ref y), (1, .int tm), (2, .int kd), (3, .int a), (4, .int b)]) hx hb dX3_cue_68 hl (by decide) rfl (fun ls hl => ?_)
        refine lv_aload hx hb dX3_cue_70 (lv_at hl 0 rfl) ?_
        refine lv_iconst (v := 0) hx hb dX3_cue_72 (by decide) ?_
        refine lv_aload_n hx hb dX3_cue_73 rfl (lv_at hl 1 rfl) ?_
        refine g_get (C := RX3) (T := TX3) (N := 9) (v := .ref sw) hx hb hts in_X3 hown hE hI hy rfl 7 (by decide) q850 (fun _ h9 => h9) rfl dX3_cue_74 ?_
        refine lv_iconst (v := 4) hx hb dX3_cue_77 (by decide) ?_
        refine lv_aload_n hx hb dX3_cue_78 rfl (lv_at hl 1 rfl) ?_
        refine g_get (C := RX3) (T := TX3) (N := 9) (v := .int (nI nu)) hx hb hts in_X3 hown hE hI hy rfl 3 (by decide) q846 (fun _ h9 => h9) rfl dX3_cue_79 ?_
        refine lv_imul hx hb dX3_cue_82 ?_
        refine lv_iconst (v := 4) hx hb dX3_cue_83 (by decide) ?_
        refine g_copyi hx hb (hml.trans hl.1.symm) hts hown q887 q481 q480 q46 hE hI hS hL h_q hsw 0 (4 * nu) 4 rfl (ix0 4 nu) rfl (by omega) (by omega) (by decide) (by decide) (Nat.le_of_ble_eq_true rfl) (Nat.le_of_ble_eq_true rfl) dX3_cue_84 (fun H locs hI hS => ?_)
        have hI : Inv E (gU (gU (gU (gU (gU (gU G0 q ((5, 0, 0), .inl (eC E 0, 4, .inl (fun _ => 0)))) q ((5, 0, 0), .inl (eC E 0, 4, .inl (upd (fun _ => 0) 0 tm)))) q ((5, 0, 0), .inl (eC E 0, 4, .inl (upd (upd (fun _ => 0) 0 tm) 1 kd)))) q ((5, 0, 0), .inl (eC E 0, 4, .inl (upd (upd (upd (fun _ => 0) 0 tm) 1 kd) 2 a)))) q ((5, 0, 0), .inl (eC E 0, 4, .inl (upd (upd (upd (upd (fun _ => 0) 0 tm) 1 kd) 2 a) 3 b)))) sw ((4, 4, 0), .inl (eC E 0, 96, .inl (showF (va_up uq nu (tm, k0, a, b)))))) H := by rw [ek0]; have z := hI; rw [ek0, cpy_show] at z; exact z
        have hy := gU_o (x := ((4, 4, 0), .inl (eC E 0, 96, .inl (showF (va_up uq nu (tm, k0, a, b)))))) hsw hy (by simp)
        have hla := gU_o (x := ((4, 4, 0), .inl (eC E 0, 96, .inl (showF (va_up uq nu (tm, k0, a, b)))))) hsw hla (by simp)
        have hsk := gU_o (x := ((4, 4, 0), .inl (eC E 0, 96, .inl (showF (va_up uq nu (tm, k0, a, b)))))) hsw hsk (by simp)
        have hta := gU_o (x := ((4, 4, 0), .inl (eC E 0, 96, .inl (showF (va_up uq nu (tm, k0, a, b)))))) hsw hta (by simp)
        have hnb := gU_o (x := ((4, 4, 0), .inl (eC E 0, 96, .inl (showF (va_up uq nu (tm, k0, a, b)))))) hsw hnb (by simp)
        have h_q := gU_ne (x := ((4, 4, 0), .inl (eC E 0, 96, .inl (showF (va_up uq nu (tm, k0, a, b)))))) ne6.symm h_q
        have hFr : Fr (fun t => t.1 = 4 ∨ t.1 = 5) G (gU (gU (gU (gU (gU (gU G0 q ((5, 0, 0), .inl (eC E 0, 4, .inl (fun _ => 0)))) q ((5, 0, 0), .inl (eC E 0, 4, .inl (upd (fun _ => 0) 0 tm)))) q ((5, 0, 0), .inl (eC E 0, 4, .inl (upd (upd (fun _ => 0) 0 tm) 1 kd)))) q ((5, 0, 0), .inl (eC E 0, 4, .inl (upd (upd (upd (fun _ => 0) 0 tm) 1 kd) 2 a)))) q ((5, 0, 0), .inl (eC E 0, 4, .inl (upd (upd (upd (upd (fun _ => 0) 0 tm) 1 kd) 2 a) 3 b)))) sw ((4, 4, 0), .inl (eC E 0, 96, .inl (showF (va_up uq nu (tm, k0, a, b)))))) := Fr.trans hFr (Fr.put (x := ((4, 4, 0), .inl (eC E 0, 96, .inl (showF (va_up uq nu (tm, k0, a, b)))))) hsw (by simp))
        have hsw : (gU (gU (gU (gU (gU (gU G0 q ((5, 0, 0), .inl (eC E 0, 4, .inl (fun _ => 0)))) q ((5, 0, 0), .inl (eC E 0, 4, .inl (upd (fun _ => 0) 0 tm)))) q ((5, 0, 0), .inl (eC E 0, 4, .inl (upd (upd (fun _ => 0) 0 tm) 1 kd)))) q ((5, 0, 0), .inl (eC E 0, 4, .inl (upd (upd (upd (fun _ => 0) 0 tm) 1 kd) 2 a)))) q ((5, 0, 0), .inl (eC E 0, 4, .inl (upd (upd (upd (upd (fun _ => 0) 0 tm) 1 kd) 2 a) 3 b)))) sw ((4, 4, 0), .inl (eC E 0, 96, .inl (showF (va_up uq nu (tm, k0, a, b)))))) sw = some ((4, 4, 0), .inl (eC E 0, 96, .inl (showF (va_up uq nu (tm, k0, a, b))))) := gU_self
        refine lv_aload_n hx hb dX3_cue_87 rfl (lv_at hl 1 rfl) ?_
        refine lv_dup hx hb dX3_cue_88 rfl ?_
        refine g_get (C := RX3) (T := TX3) (N := 9) (v := .int (nI nu)) hx hb hts in_X3 hown hE hI hy rfl 3 (by decide) q846 (fun _ h9 => h9) rfl dX3_cue_89 ?_
        refine lv_iconst (v := 1) hx hb dX3_cue_92 (by decide) ?_
        refine lv_iadd hx hb dX3_cue_93 ?_
        refine g_put (C := RX3) (T := TX3) (N := 9) (v := .int (nI nu + 1)) (ty := .int) (fs' := [.int 0, .int (nI nd), .int (nI ns), .int (nI nu + 1), .ref la, .ref sk, .ref ta, .ref sw, .ref nb]) hx hb hts in_X3 tyX3 tyX3_ok nmX3 hown hE hI hS hL hy rfl 3 (by decide) q846 (fun _ h9 => h9) rfl (by decide +kernel) rfl rfl (Nat.le_of_ble_eq_true rfl) rfl dX3_cue_94 (fun H locs hI hS => ?_)
        have hla := gU_o (x := ((4, 0, 0), .inr (7, [.int 0, .int (nI nd), .int (nI ns), .int (nI nu + 1), .ref la, .ref sk, .ref ta, .ref sw, .ref nb]))) hy hla (by simp)
        have hsk := gU_o (x := ((4, 0, 0), .inr (7, [.int 0, .int (nI nd), .int (nI ns), .int (nI nu + 1), .ref la, .ref sk, .ref ta, .ref sw, .ref nb]))) hy hsk (by simp)
        have hta := gU_o (x := ((4, 0, 0), .inr (7, [.int 0, .int (nI nd), .int (nI ns), .int (nI nu + 1), .ref la, .ref sk, .ref ta, .ref sw, .ref nb]))) hy hta (by simp)
        have hsw := gU_o (x := ((4, 0, 0), .inr (7, [.int 0, .int (nI nd), .int (nI ns), .int (nI nu + 1), .ref la, .ref sk, .ref ta, .ref sw, .ref nb]))) hy hsw (by simp)
        have hnb := gU_o (x := ((4, 0, 0), .inr (7, [.int 0, .int (nI nd), .int (nI ns), .int (nI nu + 1), .ref la, .ref sk, .ref ta, .ref sw, .ref nb]))) hy hnb (by simp)
        have h_q := gU_ne (x := ((4, 0, 0), .inr (7, [.int 0, .int (nI nd), .int (nI ns), .int (nI nu + 1), .ref la, .ref sk, .ref ta, .ref sw, .ref nb]))) ne2.symm h_q
        have hFr : Fr (fun t => t.1 = 4 ∨ t.1 = 5) G (gU (gU (gU (gU (gU (gU (gU G0 q ((5, 0, 0), .inl (eC E 0, 4, .inl (fun _ => 0)))) q ((5, 0, 0), .inl (eC E 0, 4, .inl (upd (fun _ => 0) 0 tm)))) q ((5, 0, 0), .inl (eC E 0, 4, .inl (upd (upd (fun _ => 0) 0 tm) 1 kd)))) q ((5, 0, 0), .inl (eC E 0, 4, .inl (upd (upd (upd (fun _ => 0) 0 tm) 1 kd) 2 a)))) q ((5, 0, 0), .inl (eC E 0, 4, .inl (upd (upd (upd (upd (fun _ => 0) 0 tm) 1 kd) 2 a) 3 b)))) sw ((4, 4, 0), .inl (eC E 0, 96, .inl (showF (va_up uq nu (tm, k0, a, b)))))) y ((4, 0, 0), .inr (7, [.int 0, .int (nI nd), .int (nI ns), .int (nI nu + 1), .ref la, .ref sk, .ref ta, .ref sw, .ref nb]))) := Fr.trans hFr (Fr.put (x := ((4, 0, 0), .inr (7, [.int 0, .int (nI nd), .int (nI ns), .int (nI nu + 1), .ref la, .ref sk, .ref ta, .ref sw, .ref nb]))) hy (by simp))
        have hy : (gU (gU (gU (gU (gU (gU (gU G0 q ((5, 0, 0), .inl (eC E 0, 4, .inl (fun _ => 0)))) q ((5, 0, 0), .inl (eC E 0, 4, .inl (upd (fun _ => 0) 0 tm)))) q ((5, 0, 0), .inl (eC E 0, 4, .inl (upd (upd (fun _ => 0) 0 tm) 1 kd)))) q ((5, 0, 0), .inl (eC E 0, 4, .inl (upd (upd (upd (fun _ => 0) 0 tm) 1 kd) 2 a)))) q ((5, 0, 0), .inl (eC E 0, 4, .inl (upd (upd (upd (upd (fun _ => 0) 0 tm) 1 kd) 2 a) 3 b)))) sw ((4, 4, 0), .inl (eC E 0, 96, .inl (showF (va_up uq nu (tm, k0, a, b)))))) y ((4, 0, 0), .inr (7, [.int 0, .int (nI nd), .int (nI ns), .int (nI nu + 1), .ref la, .ref sk, .ref ta, .ref sw, .ref nb]))) y = some ((4, 0, 0), .inr (7, [.int 0, .int (nI nd), .int (nI ns), .int (nI nu + 1), .ref la, .ref sk, .ref ta, .ref sw, .ref nb])) := gU_self
        refine lv_aload_n hx hb dX3_cue_97 rfl (lv_at hl 1 rfl) ?_
        refine g_get (C := RX3) (T := TX3) (N := 9) (v := .int (nI nu + 1)) hx hb hts in_X3 hown hE hI hy rfl 3 (by decide) q846 (fun _ h9 => h9) rfl dX3_cue_98 ?_
        refine lv_iconst (v := 1) hx hb dX3_cue_101 (by decide) ?_
        refine lv_isub hx hb dX3_cue_102 ?_
        have hM2 : MRep E (gU (gU (gU (gU (gU (gU (gU G0 q ((5, 0, 0), .inl (eC E 0, 4, .inl (fun _ => 0)))) q ((5, 0, 0), .inl (eC E 0, 4, .inl (upd (fun _ => 0) 0 tm)))) q ((5, 0, 0), .inl (eC E 0, 4, .inl (upd (upd (fun _ => 0) 0 tm) 1 kd)))) q ((5, 0, 0), .inl (eC E 0, 4, .inl (upd (upd (upd (fun _ => 0) 0 tm) 1 kd) 2 a)))) q ((5, 0, 0), .inl (eC E 0, 4, .inl (upd (upd (upd (upd (fun _ => 0) 0 tm) 1 kd) 2 a) 3 b)))) sw ((4, 4, 0), .inl (eC E 0, 96, .inl (showF (va_up uq nu (tm, k0, a, b)))))) y ((4, 0, 0), .inr (7, [.int 0, .int (nI nd), .int (nI ns), .int (nI nu + 1), .ref la, .ref sk, .ref ta, .ref sw, .ref nb]))) y (la, sk, ta, sw, nb) 0 (cueS ((((tk, ck, rn, an, sp, ln, lf), (nd, dm), (nc, km)), (nu, uq), (ns, st)) : Sy) tm kd a b) := ⟨by show (gU (gU (gU (gU (gU (gU (gU G0 q ((5, 0, 0), .inl (eC E 0, 4, .inl (fun _ => 0)))) q ((5, 0, 0), .inl (eC E 0, 4, .inl (upd (fun _ => 0) 0 tm)))) q ((5, 0, 0), .inl (eC E 0, 4, .inl (upd (upd (fun _ => 0) 0 tm) 1 kd)))) q ((5, 0, 0), .inl (eC E 0, 4, .inl (upd (upd (upd (fun _ => 0) 0 tm) 1 kd) 2 a)))) q ((5, 0, 0), .inl (eC E 0, 4, .inl (upd (upd (upd (upd (fun _ => 0) 0 tm) 1 kd) 2 a) 3 b)))) sw ((4, 4, 0), .inl (eC E 0, 96, .inl (showF (va_up uq nu (tm, k0, a, b)))))) y ((4, 0, 0), .inr (7, [.int 0, .int (nI nd), .int (nI ns), .int (nI nu + 1), .ref la, .ref sk, .ref ta, .ref sw, .ref nb]))) y = some ((4, 0, 0), mO 0 (nI nd) (nI ns) (nI (nu + 1)) la sk ta sw nb); rw [← nI_1]; exact hy, hla, hsk, hta, by show (gU (gU (gU (gU (gU (gU (gU G0 q ((5, 0, 0), .inl (eC E 0, 4, .inl (fun _ => 0)))) q ((5, 0, 0), .inl (eC E 0, 4, .inl (upd (fun _ => 0) 0 tm)))) q ((5, 0, 0), .inl (eC E 0, 4, .inl (upd (upd (fun _ => 0) 0 tm) 1 kd)))) q ((5, 0, 0), .inl (eC E 0, 4, .inl (upd (upd (upd (fun _ => 0) 0 tm) 1 kd) 2 a)))) q ((5, 0, 0), .inl (eC E 0, 4, .inl (upd (upd (upd (upd (fun _ => 0) 0 tm) 1 kd) 2 a) 3 b)))) sw ((4, 4, 0), .inl (eC E 0, 96, .inl (showF (va_up uq nu (tm, k0, a, b)))))) y ((4, 0, 0), .inr (7, [.int 0, .int (nI nd), .int (nI ns), .int (nI nu + 1), .ref la, .ref sk, .ref ta, .ref sw, .ref nb]))) sw = some ((4, 4, 0), iO E 96 (showF (va_up uq nu (tm, kd.toNatClampNeg, a, b)))); rw [ck0]; exact hsw, hnb⟩
        exact g_iret hx hb hr hlk hI hS dX3_cue_103 (Nat.le_of_ble_eq_true rfl) (Nat.le_of_ble_eq_true rfl) (⟨fun _ => by rw [nI_1, nI_pred], by rw [hcode, if_pos rfl]; exact hM2, hFr⟩)
      · refine lv_aload_n hx hb dX3_cue_42 rfl (lv_at hl 0 rfl) ?_
        refine lv_iconst (v := 2) hx hb dX3_cue_43 (by decide) ?_
        refine g_ci hS (va_runV (As := [.int 2]) (rest := []) ⟨hx, hb, hml, hown, hts⟩ (k_fail l E G0 y (la, sk, ta, sw, nb) _ ((((tk, ck, rn, an, sp, ln, lf), (nd, dm), (nc, km)), (nu, uq), (ns, st)) : Sy) hMR 2) (cwV 1 hts (lw_V q883 q885 qs13 q36 q886) rfl rfl rfl (by decide +kernel) ⟨Nat.le_of_ble_eq_true rfl, Nat.le_of_ble_eq_true rfl⟩) (g_preV hE hI (g_recv hE hI hy rfl)) rfl rfl hl.1 rfl (lv_room (Nat.le_of_ble_eq_true rfl)) dX3_cue_44 ⟨Nat.le_of_ble_eq_true rfl, Nat.le_of_ble_eq_true rfl⟩) (fun r G1 H locs hp hI hS => ?_)
        obtain ⟨-, hM1, hF1⟩ := hp
        have hcode : cueR nd nu tm kd a b = 2 := (if_neg c1).trans ((if_neg c3).trans ((if_neg c5).trans (if_neg (fun z => Nat.ne_of_lt z ((nI_eq (b := 24) (by omega) (by decide)).mp c4)))))
        exact g_iret hx hb hr hlk hI hS dX3_cue_47 (Nat.le_of_ble_eq_true rfl) (Nat.le_of_ble_eq_true rfl) (⟨fun z => absurd (hcode.symm.trans z) (by decide), by rw [hcode, if_neg (by decide)]; exact hM1, (Fr.trans hFr hF1).mono (fun t z => Or.inl z)⟩)
    · have hc9 : cueR nd nu tm kd a b = 1 := by
        unfold cueR
        rw [if_neg c1]
        unfold icV at c2
        by_cases z : isInV kd 0 4 = 0
        · rw [if_pos z]
        · rw [if_neg z] at c2
          rw [if_neg z, if_pos c2]
      refine lv_aload_n hx hb dX3_cue_27 rfl (lv_at hl 0 rfl) ?_
      refine lv_iconst (v := 1) hx hb dX3_cue_28 (by decide) ?_
      refine g_ci hS (va_runV (As := [.int 1]) (rest := []) ⟨hx, hb, hml, hown, hts⟩ (k_fail l E G0 y (la, sk, ta, sw, nb) _ ((((tk, ck, rn, an, sp, ln, lf), (nd, dm), (nc, km)), (nu, uq), (ns, st)) : Sy) hMR 1) (cwV 1 hts (lw_V q883 q885 qs13 q36 q886) rfl rfl rfl (by decide +kernel) ⟨Nat.le_of_ble_eq_true rfl, Nat.le_of_ble_eq_true rfl⟩) (g_preV hE hI (g_recv hE hI hy rfl)) rfl rfl hl.1 rfl (lv_room (Nat.le_of_ble_eq_true rfl)) dX3_cue_29 ⟨Nat.le_of_ble_eq_true rfl, Nat.le_of_ble_eq_true rfl⟩) (fun r G1 H locs hp hI hS => ?_)
      obtain ⟨-, hM1, hF1⟩ := hp
      have hcode : cueR nd nu tm kd a b = 1 := hc9
      exact g_iret hx hb hr hlk hI hS dX3_cue_32 (Nat.le_of_ble_eq_true rfl) (Nat.le_of_ble_eq_true rfl) (⟨fun z => absurd (hcode.symm.trans z) (by decide), by rw [hcode, if_neg (by decide)]; exact hM1, (Fr.trans hFr hF1).mono (fun t z => Or.inl z)⟩)
