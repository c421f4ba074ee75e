/-! CONTRACTS of the model's reading methods. Printed by gen/p42.py -/
set_option maxRecDepth 100000
set_option maxHeartbeats 4000000 in
set_option maxRecDepth 100000 in
theorem k_stands (l : Launch) (E : EnvT) (G : Gh) (y : Nat) (M : MA) (th : Int32) (σ : Sy) (hMR : MRep E G y M th σ) (hO : OkS σ) (i : Nat) (hi : i < σ.2.2.1) : Met l yX3_stands (ws_ yX3_stands cX3_stands 2 (some .int)) ({ frames := 0, cells := 0, slots := 0, locals := 0 } : Room) (cP E G [.ref y, .int (nI i)]) (cI E (fun r G' => r = rnd ((σ.2.2.2 i).1 + σ.1.1.2.2.2.1) ∧ G' = G)) 0 0 (eA E) := by
  obtain ⟨la, sk, ta, sw, nb⟩ := M
  obtain ⟨⟨⟨tk, ck, rn, an, sp, ln, lf⟩, ⟨nd, dm⟩, ⟨nc, km⟩⟩, ⟨nu, uq⟩, ⟨ns, st⟩⟩ := σ
  refine g_met (rm := ({ frames := 0, cells := 0, slots := 0, locals := 0 } : Room)) (av := [.ref y, .int (nI i)]) (lv := [(0, .ref y), (1, .int (nI i))]) (by decide) (Nat.le_of_ble_eq_true rfl) rfl ?_
  intro p e s m below meth c ls hx hb hr hlk hml hin hts hown hE hI hL hS hl
  have hMR0 := hMR
  obtain ⟨hy, hla, hsk, hta, hsw, hnb⟩ := hMR0
  have hy : G y = some ((4, 0, 0), mO th (nI nd) (nI ns) (nI nu) la sk ta sw nb) := hy
  have hla : G la = some ((4, 1, 0), iO E 40 (lampF dm)) := hla
  have hsk : G sk = some ((4, 2, 0), iO E 40 (skyF st)) := hsk
  have hta : G ta = some ((4, 3, 0), iO E 36 (tailF km)) := hta
  have hsw : G sw = some ((4, 4, 0), iO E 96 (showF uq)) := hsw
  have hnb : G nb = some ((4, 5, 0), iO E 8 (numF (tk, ck, rn, an, sp, ln, lf) nc)) := hnb
  have hFr : Fr (Ow 4) G G := Fr.rf
  have hnd : nd ≤ 8 := hO.cn.nd
  have hnc : nc ≤ 12 := hO.cn.nc
  have hnu : nu ≤ 24 := hO.nu
  have hns : ns ≤ 20 := hO.ns
  have hi : i < ns := hi
  obtain ⟨a, ha, ea⟩ := hO.st i hi
  obtain ⟨b, hb2, eb⟩ := hO.cn.an
  have ea : (st i).1 = nI a := ea
  have eb : an = nI b := eb
  refine lv_aload_n hx hb dX3_stands_0 rfl (lv_at hl 0 rfl) ?_
  refine g_get (C := RX3) (T := TX3) (N := 9) (v := .ref sk) hx hb hts in_X3 hown hE hI hy rfl 5 (by decide) q848 (fun _ h9 => h9) rfl dX3_stands_1 ?_
  refine lv_iconst (v := 2) hx hb dX3_stands_4 (by decide) ?_
  refine lv_iload_n hx hb dX3_stands_5 rfl (lv_at hl 1 rfl) ?_
  refine lv_imul hx hb dX3_stands_6 ?_
  refine g_iald hx hb hE hI hsk (i := (2 * nI i)) (2 * i + 0) (ix0 2 i) (by omega) (by decide) dX3_stands_7 ?_
  rw [skyF_0]
  refine lv_aload_n hx hb dX3_stands_8 rfl (lv_at hl 0 rfl) ?_
  refine g_get (C := RX3) (T := TX3) (N := 9) (v := .ref nb) hx hb hts in_X3 hown hE hI hy rfl 8 (by decide) q851 (fun _ h9 => h9) rfl dX3_stands_9 ?_
  refine lv_iconst (v := 5) hx hb dX3_stands_12 (by decide) ?_
  refine g_iald hx hb hE hI hnb (i := 5) 5 rfl (by decide) (by decide) dX3_stands_13 ?_
  rw [show numF (tk, ck, rn, an, sp, ln, lf) nc 5 = an from rfl]
  refine lv_iadd hx hb dX3_stands_14 ?_
  refine lv_sipush (v := 360) hx hb dX3_stands_15 (by decide) ?_
  refine lv_irem hx hb dX3_stands_18 (by decide) ?_
  exact g_iret hx hb hr hlk hI hS dX3_stands_19 (Nat.le_of_ble_eq_true rfl) (Nat.le_of_ble_eq_true rfl) (⟨by show _ = rnd ((st i).1 + an); rw [ea, eb, ang_add ha hb2], rfl⟩)
set_option maxHeartbeats 4000000 in
set_option maxRecDepth 100000 in
theorem k_isSeen (l : Launch) (E : EnvT) (G : Gh) (y : Nat) (M : MA) (th : Int32) (σ : Sy) (hMR : MRep E G y M th σ) (hO : OkS σ) (a : Nat) (ha : a < 360) (lt : Int32) : Met l yX3_isSeen (ws_ yX3_isSeen cX3_isSeen 3 (some .boolean)) ({ frames := 2, cells := 0, slots := 0, locals := 46 } : Room) (cP E G [.ref y, .int (nI a), .int lt]) (cI E (fun r G' => r = seenV σ.1.2.1.2 σ.1.2.1.1 (nI a) lt ∧ G' = G)) 0 0 (eA E) := by
  obtain ⟨la, sk, ta, sw, nb⟩ := M
  obtain ⟨⟨⟨tk, ck, rn, an, sp, ln, lf⟩, ⟨nd, dm⟩, ⟨nc, km⟩⟩, ⟨nu, uq⟩, ⟨ns, st⟩⟩ := σ
  refine g_met (rm := ({ frames := 2, cells := 0, slots := 0, locals := 46 } : Room)) (av := [.ref y, .int (nI a), .int lt]) (lv := [(0, .ref y), (1, .int (nI a)), (2, .int lt)]) (by decide) (Nat.le_of_ble_eq_true rfl) rfl ?_
  intro p e s m below meth c ls hx hb hr hlk hml hin hts hown hE hI hL hS hl
  have hMR0 := hMR
  obtain ⟨hy, hla, hsk, hta, hsw, hnb⟩ := hMR0
  have hy : G y = some ((4, 0, 0), mO th (nI nd) (nI ns) (nI nu) la sk ta sw nb) := hy
  have hla : G la = some ((4, 1, 0), iO E 40 (lampF dm)) := hla
  have hsk : G sk = some ((4, 2, 0), iO E 40 (skyF st)) := hsk
  have hta : G ta = some ((4, 3, 0), iO E 36 (tailF km)) := hta
  have hsw : G sw = some ((4, 4, 0), iO E 96 (showF uq)) := hsw
  have hnb : G nb = some ((4, 5, 0), iO E 8 (numF (tk, ck, rn, an, sp, ln, lf) nc)) := hnb
  have hFr : Fr (Ow 4) G G := Fr.rf
  refine lv_bipush (v := 10) hx hb dX3_isSeen_0 (by decide) ?_
  refine lv_iload_n hx hb dX3_isSeen_2 rfl (lv_at hl 2 rfl) ?_
  refine lv_imul hx hb dX3_isSeen_3 ?_
  refine lv_aload_n hx hb dX3_isSeen_4 rfl (lv_at hl 0 rfl) ?_
  refine lv_iload_n hx hb dX3_isSeen_5 rfl (lv_at hl 1 rfl) ?_
  refine lv_bipush (v := 30) hx hb dX3_isSeen_6 (by decide) ?_
  refine lv_idiv hx hb dX3_isSeen_8 (by decide) ?_
  rw [d30 a ha]
  refine g_ci0 (G := G) (v := glS dm (nI (a / 30)) nd) hS (va_runV (As := [.int (nI (a / 30))]) (rest := [.int (10 * lt)]) ⟨hx, hb, hml, hown, hts⟩ (k_glareOf l E G y (la, sk, ta, sw, nb) _ ((((tk, ck, rn, an, sp, ln, lf), (nd, dm), (nc, km)), (nu, uq), (ns, st)) : Sy) hMR hO.cn (a / 30) (by omega)) (cwV 1 hts (lw_V q961 q963 qs22 q36 q964) rfl rfl rfl (by decide +kernel) ⟨Nat.le_of_ble_eq_true rfl, Nat.le_of_ble_eq_true rfl⟩) (g_preV hE hI (g_recv hE hI hy rfl)) rfl rfl hl.1 rfl (lv_room (Nat.le_of_ble_eq_true rfl)) dX3_isSeen_9 ⟨Nat.le_of_ble_eq_true rfl, Nat.le_of_ble_eq_true rfl⟩) (fun H locs hI hS => ?_)
  refine lv_icmp_le (tgt := 19) hx hb dX3_isSeen_12 (by decide) (fun c1 => ?_) (fun c1 => ?_)
  · refine lv_iconst (v := 0) hx hb dX3_isSeen_19 (by decide) ?_
    exact g_zret hx hb hr hlk hI hS dX3_isSeen_20 (Nat.le_of_ble_eq_true rfl) (Nat.le_of_ble_eq_true rfl) rfl (⟨by show _ = seenV dm nd (nI a) lt; unfold seenV; rw [d30 a ha, if_pos c1], rfl⟩)
  · refine lv_iconst (v := 1) hx hb dX3_isSeen_15 (by decide) ?_
    refine lv_goto (tgt := 20) hx hb dX3_isSeen_16 (by decide) ?_
    exact g_zret hx hb hr hlk hI hS dX3_isSeen_20 (Nat.le_of_ble_eq_true rfl) (Nat.le_of_ble_eq_true rfl) rfl (⟨by show _ = seenV dm nd (nI a) lt; unfold seenV; rw [d30 a ha, if_neg c1], rfl⟩)
set_option maxHeartbeats 4000000 in
set_option maxRecDepth 100000 in
theorem k_sTold (l : Launch) (E : EnvT) (G : Gh) (y : Nat) (M : MA) (th : Int32) (σ : Sy) (hMR : MRep E G y M th σ) (hO : OkS σ) (i v : Nat) (hi : i < σ.2.2.1) (hv : v < 4) : Met l yX3_starTold (ws_ yX3_starTold cX3_starTold 3 (some .int)) ({ frames := 3, cells := 0, slots := 0, locals := 68 } : Room) (cP E G [.ref y, .int (nI i), .int (nI v)]) (cI E (fun r G' => r = sTold σ.1.2.1.2 σ.1.2.1.1 σ.1.1.2.2.2.1 (σ.2.2.2 i) (nI v) ∧ G' = G)) 0 0 (eA E) := by
  obtain ⟨la, sk, ta, sw, nb⟩ := M
  obtain ⟨⟨⟨tk, ck, rn, an, sp, ln, lf⟩, ⟨nd, dm⟩, ⟨nc, km⟩⟩, ⟨nu, uq⟩, ⟨ns, st⟩⟩ := σ
  refine g_met (rm := ({ frames := 3, cells := 0, slots := 0, locals := 68 } : Room)) (av := [.ref y, .int (nI i), .int (nI v)]) (lv := [(0, .ref y), (1, .int (nI i)), (2, .int (nI v))]) (by decide) (Nat.le_of_ble_eq_true rfl) rfl ?_
  intro p e s m below meth c ls hx hb hr hlk hml hin hts hown hE hI hL hS hl
  have hMR0 := hMR
  obtain ⟨hy, hla, hsk, hta, hsw, hnb⟩ := hMR0
  have hy : G y = some ((4, 0, 0), mO th (nI nd) (nI ns) (nI nu) la sk ta sw nb) := hy
  have hla : G la = some ((4, 1, 0), iO E 40 (lampF dm)) := hla
  have hsk : G sk = some ((4, 2, 0), iO E 40 (skyF st)) := hsk
  have hta : G ta = some ((4, 3, 0), iO E 36 (tailF km)) := hta
  have hsw : G sw = some ((4, 4, 0), iO E 96 (showF uq)) := hsw
  have hnb : G nb = some ((4, 5, 0), iO E 8 (numF (tk, ck, rn, an, sp, ln, lf) nc)) := hnb
  have hFr : Fr (Ow 4) G G := Fr.rf
  have hnd : nd ≤ 8 := hO.cn.nd
  have hnc : nc ≤ 12 := hO.cn.nc
  have hnu : nu ≤ 24 := hO.nu
  have hns : ns ≤ 20 := hO.ns
  have hi : i < ns := hi
  obtain ⟨a, ha, ea⟩ := hO.st i hi
  have ea : (st i).1 = nI a := ea
  obtain ⟨b, hb2, eb⟩ := hO.cn.an
  have eb : an = nI b := eb
  rcases (show v = 0 ∨ v = 1 ∨ v = 2 ∨ v = 3 by omega) with hv9 | hv9 | hv9 | hv9
  · subst hv9
    have hl : lv_has ls 3 [(0, .ref y), (1, .int (nI i)), (2, .int 0)] := hl
    refine lv_iload_n hx hb dX3_starTold_0 rfl (lv_at hl 2 rfl) ?_
    refine lv_iconst (v := 2) hx hb dX3_starTold_1 (by decide) ?_
    refine lv_icmp_ge (tgt := 18) hx hb dX3_starTold_2 (by decide) (fun c1 => ?_) (fun c1 => ?_)
    · exact absurd c1 (by decide)
    · refine lv_aload_n hx hb dX3_starTold_5 rfl (lv_at hl 0 rfl) ?_
      refine g_get (C := RX3) (T := TX3) (N := 9) (v := .ref sk) hx hb hts in_X3 hown hE hI hy rfl 5 (by decide) q848 (fun _ h9 => h9) rfl dX3_starTold_6 ?_
      refine lv_iconst (v := 2) hx hb dX3_starTold_9 (by decide) ?_
      refine lv_iload_n hx hb dX3_starTold_10 rfl (lv_at hl 1 rfl) ?_
      refine lv_imul hx hb dX3_starTold_11 ?_
      refine lv_iload_n hx hb dX3_starTold_12 rfl (lv_at hl 2 rfl) ?_
      refine lv_iadd hx hb dX3_starTold_13 ?_
      refine g_iald hx hb hE hI hsk (i := ((2 * nI i) + 0)) (2 * i + 0) (ix 2 i 0) (by omega) (by decide) dX3_starTold_14 ?_
      rw [skyF_0]
      refine lv_goto (tgt := 58) hx hb dX3_starTold_15 (by decide) ?_
      exact g_iret hx hb hr hlk hI hS dX3_starTold_58 (Nat.le_of_ble_eq_true rfl) (Nat.le_of_ble_eq_true rfl) (⟨rfl, rfl⟩)
  · subst hv9
    have hl : lv_has ls 3 [(0, .ref y), (1, .int (nI i)), (2, .int 1)] := hl
    refine lv_iload_n hx hb dX3_starTold_0 rfl (lv_at hl 2 rfl) ?_
    refine lv_iconst (v := 2) hx hb dX3_starTold_1 (by decide) ?_
    refine lv_icmp_ge (tgt := 18) hx hb dX3_starTold_2 (by decide) (fun c1 => ?_) (fun c1 => ?_)
    · exact absurd c1 (by decide)
    · refine lv_aload_n hx hb dX3_starTold_5 rfl (lv_at hl 0 rfl) ?_
      refine g_get (C := RX3) (T := TX3) (N := 9) (v := .ref sk) hx hb hts in_X3 hown hE hI hy rfl 5 (by decide) q848 (fun _ h9 => h9) rfl dX3_starTold_6 ?_
      refine lv_iconst (v := 2) hx hb dX3_starTold_9 (by decide) ?_
      refine lv_iload_n hx hb dX3_starTold_10 rfl (lv_at hl 1 rfl) ?_
      refine lv_imul hx hb dX3_starTold_11 ?_
      refine lv_iload_n hx hb dX3_starTold_12 rfl (lv_at hl 2 rfl) ?_
      refine lv_iadd hx hb dX3_starTold_13 ?_
      refine g_iald hx hb hE hI hsk (i := ((2 * nI i) + 1)) (2 * i + 1) (ix 2 i 1) (by omega) (by decide) dX3_starTold_14 ?_
      rw [skyF_1]
      refine lv_goto (tgt := 58) hx hb dX3_starTold_15 (by decide) ?_
      exact g_iret hx hb hr hlk hI hS dX3_starTold_58 (Nat.le_of_ble_eq_true rfl) (Nat.le_of_ble_eq_true rfl) (⟨rfl, rfl⟩)
  · subst hv9
    have hl : lv_has ls 3 [(0, .ref y), (1, .int (nI i)), (2, .int 2)] := hl
    refine lv_iload_n hx hb dX3_starTold_0 rfl (lv_at hl 2 rfl) ?_
    refine lv_iconst (v := 2) hx hb dX3_starTold_1 (by decide) ?_
    refine lv_icmp_ge (tgt := 18) hx hb dX3_starTold_2 (by decide) (fun c1 => ?_) (fun c1 => ?_)
    · refine lv_iload_n hx hb dX3_starTold_18 rfl (lv_at hl 2 rfl) ?_
      refine lv_iconst (v := 2) hx hb dX3_starTold_19 (by decide) ?_
      refine lv_icmp_ne (tgt := 31) hx hb dX3_starTold_20 (by decide) (fun c2 => ?_) (fun c2 => ?_)
      · exact absurd rfl c2
      · refine lv_aload_n hx hb dX3_starTold_23 rfl (lv_at hl 0 rfl) ?_
        refine lv_iload_n hx hb dX3_starTold_24 rfl (lv_at hl 1 rfl) ?_
        refine g_ci0 (G := G) (v := rnd ((st i).1 + an)) hS (va_runV (As := [.int (nI i)]) (rest := []) ⟨hx, hb, hml, hown, hts⟩ (k_stands l E G y (la, sk, ta, sw, nb) _ ((((tk, ck, rn, an, sp, ln, lf), (nd, dm), (nc, km)), (nu, uq), (ns, st)) : Sy) hMR hO i hi) (cwV 1 hts (lw_V q973 q975 qs24 q36 q976) rfl rfl rfl (by decide +kernel) ⟨Nat.le_of_ble_eq_true rfl, Nat.le_of_ble_eq_true rfl⟩) (g_preV hE hI (g_recv hE hI hy rfl)) rfl rfl hl.1 rfl (lv_room (Nat.le_of_ble_eq_true rfl)) dX3_starTold_25 ⟨Nat.le_of_ble_eq_true rfl, Nat.le_of_ble_eq_true rfl⟩) (fun H locs hI hS => ?_)
        refine lv_goto (tgt := 58) hx hb dX3_starTold_28 (by decide) ?_
        exact g_iret hx hb hr hlk hI hS dX3_starTold_58 (Nat.le_of_ble_eq_true rfl) (Nat.le_of_ble_eq_true rfl) (⟨rfl, rfl⟩)
    · exact absurd c1 (by decide)
  · subst hv9
    have hl : lv_has ls 3 [(0, .ref y), (1, .int (nI i)), (2, .int 3)] := hl
    refine lv_iload_n hx hb dX3_starTold_0 rfl (lv_at hl 2 rfl) ?_
    refine lv_iconst (v := 2) hx hb dX3_starTold_1 (by decide) ?_
    refine lv_icmp_ge (tgt := 18) hx hb dX3_starTold_2 (by decide) (fun c1 => ?_) (fun c1 => ?_)
    · refine lv_iload_n hx hb dX3_starTold_18 rfl (lv_at hl 2 rfl) ?_
      refine lv_iconst (v := 2) hx hb dX3_starTold_19 (by decide) ?_
      refine lv_icmp_ne (tgt := 31) hx hb dX3_starTold_20 (by decide) (fun c2 => ?_) (fun c2 => ?_)
      · refine lv_aload_n hx hb dX3_starTold_31 rfl (lv_at hl 0 rfl) ?_
        refine lv_aload_n hx hb dX3_starTold_32 rfl (lv_at hl 0 rfl) ?_
        refine lv_iload_n hx hb dX3_starTold_33 rfl (lv_at hl 1 rfl) ?_
        refine g_ci0 (G := G) (v := rnd ((st i).1 + an)) hS (va_runV (As := [.int (nI i)]) (rest := [.ref y]) ⟨hx, hb, hml, hown, hts⟩ (k_stands l E G y (la, sk, ta, sw, nb) _ ((((tk, ck, rn, an, sp, ln, lf), (nd, dm), (nc, km)), (nu, uq), (ns, st)) : Sy) hMR hO i hi) (cwV 1 hts (lw_V q973 q975 qs24 q36 q976) rfl rfl rfl (by decide +kernel) ⟨Nat.le_of_ble_eq_true rfl, Nat.le_of_ble_eq_true rfl⟩) (g_preV hE hI (g_recv hE hI hy rfl)) rfl rfl hl.1 rfl (lv_room (Nat.le_of_ble_eq_true rfl)) dX3_starTold_34 ⟨Nat.le_of_ble_eq_true rfl, Nat.le_of_ble_eq_true rfl⟩) (fun H locs hI hS => ?_)
        refine lv_aload_n hx hb dX3_starTold_37 rfl (lv_at hl 0 rfl) ?_
        refine g_get (C := RX3) (T := TX3) (N := 9) (v := .ref sk) hx hb hts in_X3 hown hE hI hy rfl 5 (by decide) q848 (fun _ h9 => h9) rfl dX3_starTold_38 ?_
        refine lv_iconst (v := 2) hx hb dX3_starTold_41 (by decide) ?_
        refine lv_iload_n hx hb dX3_starTold_42 rfl (lv_at hl 1 rfl) ?_
        refine lv_imul hx hb dX3_starTold_43 ?_
        refine lv_iconst (v := 1) hx hb dX3_starTold_44 (by decide) ?_
        refine lv_iadd hx hb dX3_starTold_45 ?_
        refine g_iald hx hb hE hI hsk (i := ((2 * nI i) + 1)) (2 * i + 1) (ix 2 i 1) (by omega) (by decide) dX3_starTold_46 ?_
        rw [skyF_1]
        obtain ⟨a2, ha2, ea2⟩ := rnd_ang (a + b + 360) (by omega)
        have ea2 : rnd ((st i).1 + an) = nI a2 := by rw [← ea2, ea, eb, nI_add, ← nI_add (a + b) 360]; congr 1; exact (Int32.add_sub_cancel _ _).symm
        have es : starV dm nd an (st i) = seenV dm nd (nI a2) (st i).2 := by unfold starV; rw [ea2]
        rw [ea2]
        refine g_ci0 (G := G) (v := seenV dm nd (nI a2) (st i).2) hS (va_runV (As := [.int (nI a2), .int ((st i).2)]) (rest := []) ⟨hx, hb, hml, hown, hts⟩ (k_isSeen l E G y (la, sk, ta, sw, nb) _ ((((tk, ck, rn, an, sp, ln, lf), (nd, dm), (nc, km)), (nu, uq), (ns, st)) : Sy) hMR hO a2 ha2 (st i).2) (cwV 2 hts (lw_V q977 q979 qs25 q36 q980) rfl rfl rfl (by decide +kernel) ⟨Nat.le_of_ble_eq_true rfl, Nat.le_of_ble_eq_true rfl⟩) (g_preV hE hI (g_recv hE hI hy rfl)) rfl rfl hl.1 rfl (lv_room (Nat.le_of_ble_eq_true rfl)) dX3_starTold_47 ⟨Nat.le_of_ble_eq_true rfl, Nat.le_of_ble_eq_true rfl⟩) (fun H locs hI hS => ?_)
        refine lv_if_eq (tgt := 57) hx hb dX3_starTold_50 (by decide) (fun c3 => ?_) (fun c3 => ?_)
        · refine lv_iconst (v := 0) hx hb dX3_starTold_57 (by decide) ?_
          exact g_iret hx hb hr hlk hI hS dX3_starTold_58 (Nat.le_of_ble_eq_true rfl) (Nat.le_of_ble_eq_true rfl) (⟨by show _ = sTold dm nd an (st i) 3; rw [sTold_3, es, if_pos c3], rfl⟩)
        · refine lv_iconst (v := 1) hx hb dX3_starTold_53 (by decide) ?_
          refine lv_goto (tgt := 58) hx hb dX3_starTold_54 (by decide) ?_
          exact g_iret hx hb hr hlk hI hS dX3_starTold_58 (Nat.le_of_ble_eq_true rfl) (Nat.le_of_ble_eq_true rfl) (⟨by show _ = sTold dm nd an (st i) 3; rw [sTold_3, es, if_neg c3], rfl⟩)
      · exact absurd c2 (by decide)
    · exact absurd c1 (by decide)
set_option maxHeartbeats 4000000 in
set_option maxRecDepth 100000 in
theorem k_kTold (l : Launch) (E : EnvT) (G : Gh) (y : Nat) (M : MA) (th : Int32) (σ : Sy) (hMR : MRep E G y M th σ) (hO : OkS σ) (i v : Nat) (hi : i < σ.1.2.2.1) (hv : v < 4) : Met l yX3_cometTold (ws_ yX3_cometTold cX3_cometTold 3 (some .int)) ({ frames := 3, cells := 0, slots := 0, locals := 68 } : Room) (cP E G [.ref y, .int (nI i), .int (nI v)]) (cI E (fun r G' => r = kTold σ.1.2.1.2 σ.1.2.1.1 (σ.1.2.2.2 i) (nI v) ∧ G' = G)) 0 0 (eA E) := by
  obtain ⟨la, sk, ta, sw, nb⟩ := M
  obtain ⟨⟨⟨tk, ck, rn, an, sp, ln, lf⟩, ⟨nd, dm⟩, ⟨nc, km⟩⟩, ⟨nu, uq⟩, ⟨ns, st⟩⟩ := σ
  refine g_met (rm := ({ frames := 3, cells := 0, slots := 0, locals := 68 } : Room)) (av := [.ref y, .int (nI i), .int (nI v)]) (lv := [(0, .ref y), (1, .int (nI i)), (2, .int (nI v))]) (by decide) (Nat.le_of_ble_eq_true rfl) rfl ?_
  intro p e s m below meth c ls hx hb hr hlk hml hin hts hown hE hI hL hS hl
  have hMR0 := hMR
  obtain ⟨hy, hla, hsk, hta, hsw, hnb⟩ := hMR0
  have hy : G y = some ((4, 0, 0), mO th (nI nd) (nI ns) (nI nu) la sk ta sw nb) := hy
  have hla : G la = some ((4, 1, 0), iO E 40 (lampF dm)) := hla
  have hsk : G sk = some ((4, 2, 0), iO E 40 (skyF st)) := hsk
  have hta : G ta = some ((4, 3, 0), iO E 36 (tailF km)) := hta
  have hsw : G sw = some ((4, 4, 0), iO E 96 (showF uq)) := hsw
  have hnb : G nb = some ((4, 5, 0), iO E 8 (numF (tk, ck, rn, an, sp, ln, lf) nc)) := hnb
  have hFr : Fr (Ow 4) G G := Fr.rf
  have hnd : nd ≤ 8 := hO.cn.nd
  have hnc : nc ≤ 12 := hO.cn.nc
  have hnu : nu ≤ 24 := hO.nu
  have hns : ns ≤ 20 := hO.ns
  have hi : i < nc := hi
  obtain ⟨-, ⟨a, ha, ea⟩, hl0, -⟩ := hO.cn.km i hi
  have ea : (km i).2.1 = nI a := ea
  have hl0 : 0 ≤ (km i).2.2.toInt := hl0
  rcases (show v = 0 ∨ v = 1 ∨ v = 2 ∨ v = 3 by omega) with hv9 | hv9 | hv9 | hv9
  · subst hv9
    have hl : lv_has ls 3 [(0, .ref y), (1, .int (nI i)), (2, .int 0)] := hl
    refine lv_iload_n hx hb dX3_cometTold_0 rfl (lv_at hl 2 rfl) ?_
    refine lv_iconst (v := 3) hx hb dX3_cometTold_1 (by decide) ?_
    refine lv_icmp_ge (tgt := 18) hx hb dX3_cometTold_2 (by decide) (fun c1 => ?_) (fun c1 => ?_)
    · exact absurd c1 (by decide)
    · refine lv_aload_n hx hb dX3_cometTold_5 rfl (lv_at hl 0 rfl) ?_
      refine g_get (C := RX3) (T := TX3) (N := 9) (v := .ref ta) hx hb hts in_X3 hown hE hI hy rfl 6 (by decide) q849 (fun _ h9 => h9) rfl dX3_cometTold_6 ?_
      refine lv_iconst (v := 3) hx hb dX3_cometTold_9 (by decide) ?_
      refine lv_iload_n hx hb dX3_cometTold_10 rfl (lv_at hl 1 rfl) ?_
      refine lv_imul hx hb dX3_cometTold_11 ?_
      refine lv_iload_n hx hb dX3_cometTold_12 rfl (lv_at hl 2 rfl) ?_
      refine lv_iadd hx hb dX3_cometTold_13 ?_
      refine g_iald hx hb hE hI hta (i := ((3 * nI i) + 0)) (3 * i + 0) (ix 3 i 0) (by omega) (by decide) dX3_cometTold_14 ?_
      rw [tailF_0]
      refine lv_goto (tgt := 55) hx hb dX3_cometTold_15 (by decide) ?_
      exact g_iret hx hb hr hlk hI hS dX3_cometTold_55 (Nat.le_of_ble_eq_true rfl) (Nat.le_of_ble_eq_true rfl) (⟨rfl, rfl⟩)
  · subst hv9
    have hl : lv_has ls 3 [(0, .ref y), (1, .int (nI i)), (2, .int 1)] := hl
    refine lv_iload_n hx hb dX3_cometTold_0 rfl (lv_at hl 2 rfl) ?_
    refine lv_iconst (v := 3) hx hb dX3_cometTold_1 (by decide) ?_
    refine lv_icmp_ge (tgt := 18) hx hb dX3_cometTold_2 (by decide) (fun c1 => ?_) (fun c1 => ?_)
    · exact absurd c1 (by decide)
    · refine lv_aload_n hx hb dX3_cometTold_5 rfl (lv_at hl 0 rfl) ?_
      refine g_get (C := RX3) (T := TX3) (N := 9) (v := .ref ta) hx hb hts in_X3 hown hE hI hy rfl 6 (by decide) q849 (fun _ h9 => h9) rfl dX3_cometTold_6 ?_
      refine lv_iconst (v := 3) hx hb dX3_cometTold_9 (by decide) ?_
      refine lv_iload_n hx hb dX3_cometTold_10 rfl (lv_at hl 1 rfl) ?_
      refine lv_imul hx hb dX3_cometTold_11 ?_
      refine lv_iload_n hx hb dX3_cometTold_12 rfl (lv_at hl 2 rfl) ?_
      refine lv_iadd hx hb dX3_cometTold_13 ?_
      refine g_iald hx hb hE hI hta (i := ((3 * nI i) + 1)) (3 * i + 1) (ix 3 i 1) (by omega) (by decide) dX3_cometTold_14 ?_
      rw [tailF_1]
      refine lv_goto (tgt := 55) hx hb dX3_cometTold_15 (by decide) ?_
      exact g_iret hx hb hr hlk hI hS dX3_cometTold_55 (Nat.le_of_ble_eq_true rfl) (Nat.le_of_ble_eq_true rfl) (⟨rfl, rfl⟩)
  · subst hv9
    have hl : lv_has ls 3 [(0, .ref y), (1, .int (nI i)), (2, .int 2)] := hl
    refine lv_iload_n hx hb dX3_cometTold_0 rfl (lv_at hl 2 rfl) ?_
    refine lv_iconst (v := 3) hx hb dX3_cometTold_1 (by decide) ?_
    refine lv_icmp_ge (tgt := 18) hx hb dX3_cometTold_2 (by decide) (fun c1 => ?_) (fun c1 => ?_)
    · exact absurd c1 (by decide)
    · refine lv_aload_n hx hb dX3_cometTold_5 rfl (lv_at hl 0 rfl) ?_
      refine g_get (C := RX3) (T := TX3) (N := 9) (v := .ref ta) hx hb hts in_X3 hown hE hI hy rfl 6 (by decide) q849 (fun _ h9 => h9) rfl dX3_cometTold_6 ?_
      refine lv_iconst (v := 3) hx hb dX3_cometTold_9 (by decide) ?_
      refine lv_iload_n hx hb dX3_cometTold_10 rfl (lv_at hl 1 rfl) ?_
      refine lv_imul hx hb dX3_cometTold_11 ?_
      refine lv_iload_n hx hb dX3_cometTold_12 rfl (lv_at hl 2 rfl) ?_
      refine lv_iadd hx hb dX3_cometTold_13 ?_
      refine g_iald hx hb hE hI hta (i := ((3 * nI i) + 2)) (3 * i + 2) (ix 3 i 2) (by omega) (by decide) dX3_cometTold_14 ?_
      rw [tailF_2]
      refine lv_goto (tgt := 55) hx hb dX3_cometTold_15 (by decide) ?_
      exact g_iret hx hb hr hlk hI hS dX3_cometTold_55 (Nat.le_of_ble_eq_true rfl) (Nat.le_of_ble_eq_true rfl) (⟨rfl, rfl⟩)
  · subst hv9
    have hl : lv_has ls 3 [(0, .ref y), (1, .int (nI i)), (2, .int 3)] := hl
    refine lv_iload_n hx hb dX3_cometTold_0 rfl (lv_at hl 2 rfl) ?_
    refine lv_iconst (v := 3) hx hb dX3_cometTold_1 (by decide) ?_
    refine lv_icmp_ge (tgt := 18) hx hb dX3_cometTold_2 (by decide) (fun c1 => ?_) (fun c1 => ?_)
    · refine lv_aload_n hx hb dX3_cometTold_18 rfl (lv_at hl 0 rfl) ?_
      refine g_get (C := RX3) (T := TX3) (N := 9) (v := .ref ta) hx hb hts in_X3 hown hE hI hy rfl 6 (by decide) q849 (fun _ h9 => h9) rfl dX3_cometTold_19 ?_
      refine lv_iconst (v := 3) hx hb dX3_cometTold_22 (by decide) ?_
      refine lv_iload_n hx hb dX3_cometTold_23 rfl (lv_at hl 1 rfl) ?_
      refine lv_imul hx hb dX3_cometTold_24 ?_
      refine lv_iconst (v := 2) hx hb dX3_cometTold_25 (by decide) ?_
      refine lv_iadd hx hb dX3_cometTold_26 ?_
      refine g_iald hx hb hE hI hta (i := ((3 * nI i) + 2)) (3 * i + 2) (ix 3 i 2) (by omega) (by decide) dX3_cometTold_27 ?_
      rw [tailF_2]
      refine lv_if_le (tgt := 54) hx hb dX3_cometTold_28 (by decide) (fun c2 => ?_) (fun c2 => ?_)
      · have z0 := (le0 hl0).mp c2
        refine lv_iconst (v := 0) hx hb dX3_cometTold_54 (by decide) ?_
        exact g_iret hx hb hr hlk hI hS dX3_cometTold_55 (Nat.le_of_ble_eq_true rfl) (Nat.le_of_ble_eq_true rfl) (⟨by show _ = kTold dm nd (km i) 3; rw [kTold_3, show comeV dm nd (km i) = 0 by unfold comeV goneV; rw [z0]; rfl]; rfl, rfl⟩)
      · have z0 : ¬ (km i).2.2 = 0 := fun z => c2 ((le0 hl0).mpr z)
        have es : comeV dm nd (km i) = if seenV dm nd (nI a) 6 = 0 then 0 else 1 := by unfold comeV goneV; rw [if_neg z0, if_pos rfl, ea]
        refine lv_aload_n hx hb dX3_cometTold_31 rfl (lv_at hl 0 rfl) ?_
        refine lv_aload_n hx hb dX3_cometTold_32 rfl (lv_at hl 0 rfl) ?_
        refine g_get (C := RX3) (T := TX3) (N := 9) (v := .ref ta) hx hb hts in_X3 hown hE hI hy rfl 6 (by decide) q849 (fun _ h9 => h9) rfl dX3_cometTold_33 ?_
        refine lv_iconst (v := 3) hx hb dX3_cometTold_36 (by decide) ?_
        refine lv_iload_n hx hb dX3_cometTold_37 rfl (lv_at hl 1 rfl) ?_
        refine lv_imul hx hb dX3_cometTold_38 ?_
        refine lv_iconst (v := 0) hx hb dX3_cometTold_39 (by decide) ?_
        refine lv_iadd hx hb dX3_cometTold_40 ?_
        refine g_iald hx hb hE hI hta (i := ((3 * nI i) + 0)) (3 * i + 0) (ix 3 i 0) (by omega) (by decide) dX3_cometTold_41 ?_
        rw [tailF_0]
        rw [ea]
        refine lv_bipush (v := 6) hx hb dX3_cometTold_42 (by decide) ?_
        refine g_ci0 (G := G) (v := seenV dm nd (nI a) 6) hS (va_runV (As := [.int (nI a), .int 6]) (rest := []) ⟨hx, hb, hml, hown, hts⟩ (k_isSeen l E G y (la, sk, ta, sw, nb) _ ((((tk, ck, rn, an, sp, ln, lf), (nd, dm), (nc, km)), (nu, uq), (ns, st)) : Sy) hMR hO a ha 6) (cwV 2 hts (lw_V q977 q979 qs25 q36 q980) rfl rfl rfl (by decide +kernel) ⟨Nat.le_of_ble_eq_true rfl, Nat.le_of_ble_eq_true rfl⟩) (g_preV hE hI (g_recv hE hI hy rfl)) rfl rfl hl.1 rfl (lv_room (Nat.le_of_ble_eq_true rfl)) dX3_cometTold_44 ⟨Nat.le_of_ble_eq_true rfl, Nat.le_of_ble_eq_true rfl⟩) (fun H locs hI hS => ?_)
        refine lv_if_eq (tgt := 54) hx hb dX3_cometTold_47 (by decide) (fun c3 => ?_) (fun c3 => ?_)
        · refine lv_iconst (v := 0) hx hb dX3_cometTold_54 (by decide) ?_
          exact g_iret hx hb hr hlk hI hS dX3_cometTold_55 (Nat.le_of_ble_eq_true rfl) (Nat.le_of_ble_eq_true rfl) (⟨by show _ = kTold dm nd (km i) 3; rw [kTold_3, es, if_pos c3]; rfl, rfl⟩)
        · refine lv_iconst (v := 1) hx hb dX3_cometTold_50 (by decide) ?_
          refine lv_goto (tgt := 55) hx hb dX3_cometTold_51 (by decide) ?_
          exact g_iret hx hb hr hlk hI hS dX3_cometTold_55 (Nat.le_of_ble_eq_true rfl) (Nat.le_of_ble_eq_true rfl) (⟨by show _ = kTold dm nd (km i) 3; rw [kTold_3, es, if_neg c3]; rfl, rfl⟩)
    · exact absurd c1 (by decide)
set_option maxHeartbeats 4000000 in
set_option maxRecDepth 100000 in
theorem k_told (l : Launch) (E : EnvT) (G : Gh) (y : Nat) (M : MA) (th : Int32) (σ : Sy) (hMR : MRep E G y M th σ) (hO : OkS σ) (i j : Int32) : Met l yX3_told (ws_ yX3_told cX3_told 3 (some .int)) ({ frames := 2, cells := 0, slots := 0, locals := 43 } : Room) (cP E G [.ref y, .int i, .int j]) (cI E (fun r G' => (idxR σ.1.2.1.1 i 5 j = 0 → r = toldV (σ.1.2.1.2 i.toNatClampNeg) j) ∧ MRep E G' y M (idxR σ.1.2.1.1 i 5 j) σ ∧ Fr (Ow 4) G G')) 0 0 (eA E) := by
  obtain ⟨la, sk, ta, sw, nb⟩ := M
  obtain ⟨⟨⟨tk, ck, rn, an, sp, ln, lf⟩, ⟨nd, dm⟩, ⟨nc, km⟩⟩, ⟨nu, uq⟩, ⟨ns, st⟩⟩ := σ
  refine g_met (rm := ({ frames := 2, cells := 0, slots := 0, locals := 43 } : Room)) (av := [.ref y, .int i, .int j]) (lv := [(0, .ref y), (1, .int i), (2, .int j)]) (by decide) (Nat.le_of_ble_eq_true rfl) rfl ?_
  intro p e s m below meth c ls hx hb hr hlk hml hin hts hown hE hI hL hS hl
  have hMR0 := hMR
  obtain ⟨hy, hla, hsk, hta, hsw, hnb⟩ := hMR0
  have hy : G y = some ((4, 0, 0), mO th (nI nd) (nI ns) (nI nu) la sk ta sw nb) := hy
  have hla : G la = some ((4, 1, 0), iO E 40 (lampF dm)) := hla
  have hsk : G sk = some ((4, 2, 0), iO E 40 (skyF st)) := hsk
  have hta : G ta = some ((4, 3, 0), iO E 36 (tailF km)) := hta
  have hsw : G sw = some ((4, 4, 0), iO E 96 (showF uq)) := hsw
  have hnb : G nb = some ((4, 5, 0), iO E 8 (numF (tk, ck, rn, an, sp, ln, lf) nc)) := hnb
  have hFr : Fr (Ow 4) G G := Fr.rf
  refine lv_aload_n hx hb dX3_told_0 rfl (lv_at hl 0 rfl) ?_
  refine lv_iconst (v := 0) hx hb dX3_told_1 (by decide) ?_
  refine g_put (C := RX3) (T := TX3) (N := 9) (v := .int 0) (ty := .int) (fs' := [.int 0, .int (nI nd), .int (nI ns), .int (nI nu), .ref la, .ref sk, .ref ta, .ref sw, .ref nb]) hx hb hts in_X3 tyX3 tyX3_ok nmX3 hown hE hI hS hL hy rfl 0 (by decide) q843 (fun _ h9 => h9) rfl (by decide +kernel) rfl rfl (Nat.le_of_ble_eq_true rfl) rfl dX3_told_2 (fun H locs hI hS => ?_)
  have hla := gU_o (x := ((4, 0, 0), .inr (7, [.int 0, .int (nI nd), .int (nI ns), .int (nI nu), .ref la, .ref sk, .ref ta, .ref sw, .ref nb]))) hy hla (by simp)
  have hsk := gU_o (x := ((4, 0, 0), .inr (7, [.int 0, .int (nI nd), .int (nI ns), .int (nI nu), .ref la, .ref sk, .ref ta, .ref sw, .ref nb]))) hy hsk (by simp)
  have hta := gU_o (x := ((4, 0, 0), .inr (7, [.int 0, .int (nI nd), .int (nI ns), .int (nI nu), .ref la, .ref sk, .ref ta, .ref sw, .ref nb]))) hy hta (by simp)
  have hsw := gU_o (x := ((4, 0, 0), .inr (7, [.int 0, .int (nI nd), .int (nI ns), .int (nI nu), .ref la, .ref sk, .ref ta, .ref sw, .ref nb]))) hy hsw (by simp)
  have hnb := gU_o (x := ((4, 0, 0), .inr (7, [.int 0, .int (nI nd), .int (nI ns), .int (nI nu), .ref la, .ref sk, .ref ta, .ref sw, .ref nb]))) hy hnb (by simp)
  have hFr : Fr (Ow 4) G (gU G y ((4, 0, 0), .inr (7, [.int 0, .int (nI nd), .int (nI ns), .int (nI nu), .ref la, .ref sk, .ref ta, .ref sw, .ref nb]))) := Fr.trans hFr (Fr.put (x := ((4, 0, 0), .inr (7, [.int 0, .int (nI nd), .int (nI ns), .int (nI nu), .ref la, .ref sk, .ref ta, .ref sw, .ref nb]))) hy rfl)
  have hy : (gU G y ((4, 0, 0), .inr (7, [.int 0, .int (nI nd), .int (nI ns), .int (nI nu), .ref la, .ref sk, .ref ta, .ref sw, .ref nb]))) y = some ((4, 0, 0), .inr (7, [.int 0, .int (nI nd), .int (nI ns), .int (nI nu), .ref la, .ref sk, .ref ta, .ref sw, .ref nb])) := gU_self
  obtain ⟨G0, hMR, hFr, hI⟩ : ∃ G0, MRep E G0 y (la, sk, ta, sw, nb) 0 ((((tk, ck, rn, an, sp, ln, lf), (nd, dm), (nc, km)), (nu, uq), (ns, st)) : Sy) ∧ Fr (Ow 4) G G0 ∧ Inv E G0 H := ⟨_, ⟨hy, hla, hsk, hta, hsw, hnb⟩, hFr, hI⟩
  have hMR0 := hMR
  obtain ⟨hy, hla, hsk, hta, hsw, hnb⟩ := hMR0
  have hy : G0 y = some ((4, 0, 0), mO 0 (nI nd) (nI ns) (nI nu) la sk ta sw nb) := hy
  have hla : G0 la = some ((4, 1, 0), iO E 40 (lampF dm)) := hla
  have hsk : G0 sk = some ((4, 2, 0), iO E 40 (skyF st)) := hsk
  have hta : G0 ta = some ((4, 3, 0), iO E 36 (tailF km)) := hta
  have hsw : G0 sw = some ((4, 4, 0), iO E 96 (showF uq)) := hsw
  have hnb : G0 nb = some ((4, 5, 0), iO E 8 (numF (tk, ck, rn, an, sp, ln, lf) nc)) := hnb
  have hnd : nd ≤ 8 := hO.cn.nd
  have hnc : nc ≤ 12 := hO.cn.nc
  have hnu : nu ≤ 24 := hO.nu
  have hns : ns ≤ 20 := hO.ns
  refine lv_aload_n hx hb dX3_told_5 rfl (lv_at hl 0 rfl) ?_
  refine lv_iload_n hx hb dX3_told_6 rfl (lv_at hl 1 rfl) ?_
  refine g_ci0 (G := G0) (v := isInV i 0 (nI nd - 1)) hS (va_runV (As := [.int i]) (rest := []) ⟨hx, hb, hml, hown, hts⟩ (k_isDim l E G0 y (la, sk, ta, sw, nb) _ ((((tk, ck, rn, an, sp, ln, lf), (nd, dm), (nc, km)), (nu, uq), (ns, st)) : Sy) hMR i) (cwV 1 hts (lw_V q892 q894 qs14 q36 q895) rfl rfl rfl (by decide +kernel) ⟨Nat.le_of_ble_eq_true rfl, Nat.le_of_ble_eq_true rfl⟩) (g_preV hE hI (g_recv hE hI hy rfl)) rfl rfl hl.1 rfl (lv_room (Nat.le_of_ble_eq_true rfl)) dX3_told_7 ⟨Nat.le_of_ble_eq_true rfl, Nat.le_of_ble_eq_true rfl⟩) (fun H locs hI hS => ?_)
  refine lv_if_eq (tgt := 31) hx hb dX3_told_10 (by decide) (fun c1 => ?_) (fun c1 => ?_)
  · refine lv_aload_n hx hb dX3_told_31 rfl (lv_at hl 0 rfl) ?_
    refine lv_iconst (v := 1) hx hb dX3_told_32 (by decide) ?_
    refine g_ci hS (va_runV (As := [.int 1]) (rest := []) ⟨hx, hb, hml, hown, hts⟩ (k_fail l E G0 y (la, sk, ta, sw, nb) _ ((((tk, ck, rn, an, sp, ln, lf), (nd, dm), (nc, km)), (nu, uq), (ns, st)) : Sy) hMR 1) (cwV 1 hts (lw_V q883 q885 qs13 q36 q886) rfl rfl rfl (by decide +kernel) ⟨Nat.le_of_ble_eq_true rfl, Nat.le_of_ble_eq_true rfl⟩) (g_preV hE hI (g_recv hE hI hy rfl)) rfl rfl hl.1 rfl (lv_room (Nat.le_of_ble_eq_true rfl)) dX3_told_33 ⟨Nat.le_of_ble_eq_true rfl, Nat.le_of_ble_eq_true rfl⟩) (fun r G1 H locs hp hI hS => ?_)
    obtain ⟨-, hM1, hF1⟩ := hp
    have hcode : idxR nd i 5 j = 1 := if_pos ((outI_in (by omega)).mp c1)
    exact g_iret hx hb hr hlk hI hS dX3_told_36 (Nat.le_of_ble_eq_true rfl) (Nat.le_of_ble_eq_true rfl) (⟨fun z => absurd (hcode.symm.trans z) (by decide), by rw [hcode]; exact hM1, Fr.trans hFr hF1⟩)
  · have h1 : ¬ outI i nd := fun z => c1 ((outI_in (by omega)).mpr z)
    refine lv_iload_n hx hb dX3_told_13 rfl (lv_at hl 2 rfl) ?_
    refine lv_iconst (v := 0) hx hb dX3_told_14 (by decide) ?_
    refine lv_iconst (v := 4) hx hb dX3_told_15 (by decide) ?_
    refine g_ci0 (G := G0) (v := isInV j 0 4) hS (va_runS (As := [.int j, .int 0, .int 4]) (rest := []) ⟨hx, hb, hml, hown, hts⟩ (k_isIn l E G0 j 0 4) (va_cwS 3 hts (lw_S q880 q881 q36 q882) rfl rfl rfl (by decide +kernel) ⟨Nat.le_of_ble_eq_true rfl, Nat.le_of_ble_eq_true rfl⟩) (g_preS hE hI) rfl rfl hl.1 rfl (lv_room (Nat.le_of_ble_eq_true rfl)) dX3_told_16 ⟨Nat.le_of_ble_eq_true rfl, Nat.le_of_ble_eq_true rfl⟩) (fun H locs hI hS => ?_)
    refine lv_if_eq (tgt := 31) hx hb dX3_told_19 (by decide) (fun c2 => ?_) (fun c2 => ?_)
    · refine lv_aload_n hx hb dX3_told_31 rfl (lv_at hl 0 rfl) ?_
      refine lv_iconst (v := 1) hx hb dX3_told_32 (by decide) ?_
      refine g_ci hS (va_runV (As := [.int 1]) (rest := []) ⟨hx, hb, hml, hown, hts⟩ (k_fail l E G0 y (la, sk, ta, sw, nb) _ ((((tk, ck, rn, an, sp, ln, lf), (nd, dm), (nc, km)), (nu, uq), (ns, st)) : Sy) hMR 1) (cwV 1 hts (lw_V q883 q885 qs13 q36 q886) rfl rfl rfl (by decide +kernel) ⟨Nat.le_of_ble_eq_true rfl, Nat.le_of_ble_eq_true rfl⟩) (g_preV hE hI (g_recv hE hI hy rfl)) rfl rfl hl.1 rfl (lv_room (Nat.le_of_ble_eq_true rfl)) dX3_told_33 ⟨Nat.le_of_ble_eq_true rfl, Nat.le_of_ble_eq_true rfl⟩) (fun r G1 H locs hp hI hS => ?_)
      obtain ⟨-, hM1, hF1⟩ := hp
      have hcode : idxR nd i 5 j = 1 := (if_neg h1).trans (if_pos ((outI_l (n := 5) (by decide) (by decide)).mp c2))
      exact g_iret hx hb hr hlk hI hS dX3_told_36 (Nat.le_of_ble_eq_true rfl) (Nat.le_of_ble_eq_true rfl) (⟨fun z => absurd (hcode.symm.trans z) (by decide), by rw [hcode]; exact hM1, Fr.trans hFr hF1⟩)
    · have h2 : ¬ outI j 5 := fun z => c2 ((outI_l (n := 5) (by decide) (by decide)).mpr z)
      have hcode : idxR nd i 5 j = 0 := (if_neg h1).trans (if_neg h2)
      obtain ⟨k, hk, e_k⟩ := outI_no (n := nd) (by omega) h1
      subst e_k
      have c_k : (nI k).toNatClampNeg = k := nI_clamp (by omega)
      obtain ⟨v, hv, e_v⟩ := outI_no (n := 5) (by omega) h2
      subst e_v
      have c_v : (nI v).toNatClampNeg = v := nI_clamp (by omega)
      refine lv_aload_n hx hb dX3_told_22 rfl (lv_at hl 0 rfl) ?_
      refine lv_iload_n hx hb dX3_told_23 rfl (lv_at hl 1 rfl) ?_
      refine lv_iload_n hx hb dX3_told_24 rfl (lv_at hl 2 rfl) ?_
      refine g_ci0 (G := G0) (v := lampF dm (5 * k + v)) hS (va_runV (As := [.int (nI k), .int (nI v)]) (rest := []) ⟨hx, hb, hml, hown, hts⟩ (k_la l E G0 y (la, sk, ta, sw, nb) _ ((((tk, ck, rn, an, sp, ln, lf), (nd, dm), (nc, km)), (nu, uq), (ns, st)) : Sy) hMR k v (by omega) hv) (cwV 2 hts (lw_V q896 q898 qs15 q36 q899) rfl rfl rfl (by decide +kernel) ⟨Nat.le_of_ble_eq_true rfl, Nat.le_of_ble_eq_true rfl⟩) (g_preV hE hI (g_recv hE hI hy rfl)) rfl rfl hl.1 rfl (lv_room (Nat.le_of_ble_eq_true rfl)) dX3_told_25 ⟨Nat.le_of_ble_eq_true rfl, Nat.le_of_ble_eq_true rfl⟩) (fun H locs hI hS => ?_)
      refine lv_goto (tgt := 36) hx hb dX3_told_28 (by decide) ?_
      exact g_iret hx hb hr hlk hI hS dX3_told_36 (Nat.le_of_ble_eq_true rfl) (Nat.le_of_ble_eq_true rfl) (⟨fun _ => by rw [c_k]; exact lampF_t dm k v hv, by rw [hcode]; exact hMR, hFr⟩)
set_option maxHeartbeats 4000000 in
set_option maxRecDepth 100000 in
theorem k_about (l : Launch) (E : EnvT) (G : Gh) (y : Nat) (M : MA) (th : Int32) (σ : Sy) (hMR : MRep E G y M th σ) (hO : OkS σ) (i j : Int32) : Met l yX3_about (ws_ yX3_about cX3_about 3 (some .int)) ({ frames := 4, cells := 0, slots := 0, locals := 90 } : Room) (cP E G [.ref y, .int i, .int j]) (cI E (fun r G' => (idxR σ.2.2.1 i 4 j = 0 → r = sTold σ.1.2.1.2 σ.1.2.1.1 σ.1.1.2.2.2.1 (σ.2.2.2 i.toNatClampNeg) j) ∧ MRep E G' y M (idxR σ.2.2.1 i 4 j) σ ∧ Fr (Ow 4) G G')) 0 0 (eA E) := by
  obtain ⟨la, sk, ta, sw, nb⟩ := M
  obtain ⟨⟨⟨tk, ck, rn, an, sp, ln, lf⟩, ⟨nd, dm⟩, ⟨nc, km⟩⟩, ⟨nu, uq⟩, ⟨ns, st⟩⟩ := σ
  refine g_met (rm := ({ frames := 4, cells := 0, slots := 0, locals := 90 } : Room)) (av := [.ref y, .int i, .int j]) (lv := [(0, .ref y), (1, .int i), (2, .int j)]) (by decide) (Nat.le_of_ble_eq_true rfl) rfl ?_
  intro p e s m below meth c ls hx hb hr hlk hml hin hts hown hE hI hL hS hl
  have hMR0 := hMR
  obtain ⟨hy, hla, hsk, hta, hsw, hnb⟩ := hMR0
  have hy : G y = some ((4, 0, 0), mO th (nI nd) (nI ns) (nI nu) la sk ta sw nb) := hy
  have hla : G la = some ((4, 1, 0), iO E 40 (lampF dm)) := hla
  have hsk : G sk = some ((4, 2, 0), iO E 40 (skyF st)) := hsk
  have hta : G ta = some ((4, 3, 0), iO E 36 (tailF km)) := hta
  have hsw : G sw = some ((4, 4, 0), iO E 96 (showF uq)) := hsw
  have hnb : G nb = some ((4, 5, 0), iO E 8 (numF (tk, ck, rn, an, sp, ln, lf) nc)) := hnb
  have hFr : Fr (Ow 4) G G := Fr.rf
  refine lv_aload_n hx hb dX3_about_0 rfl (lv_at hl 0 rfl) ?_
  refine lv_iconst (v := 0) hx hb dX3_about_1 (by decide) ?_
  refine g_put (C := RX3) (T := TX3) (N := 9) (v := .int 0) (ty := .int) (fs' := [.int 0, .int (nI nd), .int (nI ns), .int (nI nu), .ref la, .ref sk, .ref ta, .ref sw, .ref nb]) hx hb hts in_X3 tyX3 tyX3_ok nmX3 hown hE hI hS hL hy rfl 0 (by decide) q843 (fun _ h9 => h9) rfl (by decide +kernel) rfl rfl (Nat.le_of_ble_eq_true rfl) rfl dX3_about_2 (fun H locs hI hS => ?_)
  have hla := gU_o (x := ((4, 0, 0), .inr (7, [.int 0, .int (nI nd), .int (nI ns), .int (nI nu), .ref la, .ref sk, .ref ta, .ref sw, .ref nb]))) hy hla (by simp)
  have hsk := gU_o (x := ((4, 0, 0), .inr (7, [.int 0, .int (nI nd), .int (nI ns), .int (nI nu), .ref la, .ref sk, .ref ta, .ref sw, .ref nb]))) hy hsk (by simp)
  have hta := gU_o (x := ((4, 0, 0), .inr (7, [.int 0, .int (nI nd), .int (nI ns), .int (nI nu), .ref la, .ref sk, .ref ta, .ref sw, .ref nb]))) hy hta (by simp)
  have hsw := gU_o (x := ((4, 0, 0), .inr (7, [.int 0, .int (nI nd), .int (nI ns), .int (nI nu), .ref la, .ref sk, .ref ta, .ref sw, .ref nb]))) hy hsw (by simp)
  have hnb := gU_o (x := ((4, 0, 0), .inr (7, [.int 0, .int (nI nd), .int (nI ns), .int (nI nu), .ref la, .ref sk, .ref ta, .ref sw, .ref nb]))) hy hnb (by simp)
  have hFr : Fr (Ow 4) G (gU G y ((4, 0, 0), .inr (7, [.int 0, .int (nI nd), .int (nI ns), .int (nI nu), .ref la, .ref sk, .ref ta, .ref sw, .ref nb]))) := Fr.trans hFr (Fr.put (x := ((4, 0, 0), .inr (7, [.int 0, .int (nI nd), .int (nI ns), .int (nI nu), .ref la, .ref sk, .ref ta, .ref sw, .ref nb]))) hy rfl)
  have hy : (gU G y ((4, 0, 0), .inr (7, [.int 0, .int (nI nd), .int (nI ns), .int (nI nu), .ref la, .ref sk, .ref ta, .ref sw, .ref nb]))) y = some ((4, 0, 0), .inr (7, [.int 0, .int (nI nd), .int (nI ns), .int (nI nu), .ref la, .ref sk, .ref ta, .ref sw, .ref nb])) := gU_self
  obtain ⟨G0, hMR, hFr, hI⟩ : ∃ G0, MRep E G0 y (la, sk, ta, sw, nb) 0 ((((tk, ck, rn, an, sp, ln, lf), (nd, dm), (nc, km)), (nu, uq), (ns, st)) : Sy) ∧ Fr (Ow 4) G G0 ∧ Inv E G0 H := ⟨_, ⟨hy, hla, hsk, hta, hsw, hnb⟩, hFr, hI⟩
  have hMR0 := hMR
  obtain ⟨hy, hla, hsk, hta, hsw, hnb⟩ := hMR0
  have hy : G0 y = some ((4, 0, 0), mO 0 (nI nd) (nI ns) (nI nu) la sk ta sw nb) := hy
  have hla : G0 la = some ((4, 1, 0), iO E 40 (lampF dm)) := hla
  have hsk : G0 sk = some ((4, 2, 0), iO E 40 (skyF st)) := hsk
  have hta : G0 ta = some ((4, 3, 0), iO E 36 (tailF km)) := hta
  have hsw : G0 sw = some ((4, 4, 0), iO E 96 (showF uq)) := hsw
  have hnb : G0 nb = some ((4, 5, 0), iO E 8 (numF (tk, ck, rn, an, sp, ln, lf) nc)) := hnb
  have hnd : nd ≤ 8 := hO.cn.nd
  have hnc : nc ≤ 12 := hO.cn.nc
  have hnu : nu ≤ 24 := hO.nu
  have hns : ns ≤ 20 := hO.ns
  refine lv_iload_n hx hb dX3_about_5 rfl (lv_at hl 1 rfl) ?_
  refine lv_iconst (v := 0) hx hb dX3_about_6 (by decide) ?_
  refine lv_aload_n hx hb dX3_about_7 rfl (lv_at hl 0 rfl) ?_
  refine g_get (C := RX3) (T := TX3) (N := 9) (v := .int (nI ns)) hx hb hts in_X3 hown hE hI hy rfl 2 (by decide) q845 (fun _ h9 => h9) rfl dX3_about_8 ?_
  refine lv_iconst (v := 1) hx hb dX3_about_11 (by decide) ?_
  refine lv_isub hx hb dX3_about_12 ?_
  refine g_ci0 (G := G0) (v := isInV i 0 (nI ns - 1)) hS (va_runS (As := [.int i, .int 0, .int (nI ns - 1)]) (rest := []) ⟨hx, hb, hml, hown, hts⟩ (k_isIn l E G0 i 0 (nI ns - 1)) (va_cwS 3 hts (lw_S q880 q881 q36 q882) rfl rfl rfl (by decide +kernel) ⟨Nat.le_of_ble_eq_true rfl, Nat.le_of_ble_eq_true rfl⟩) (g_preS hE hI) rfl rfl hl.1 rfl (lv_room (Nat.le_of_ble_eq_true rfl)) dX3_about_13 ⟨Nat.le_of_ble_eq_true rfl, Nat.le_of_ble_eq_true rfl⟩) (fun H locs hI hS => ?_)
  refine lv_if_eq (tgt := 37) hx hb dX3_about_16 (by decide) (fun c1 => ?_) (fun c1 => ?_)
  · refine lv_aload_n hx hb dX3_about_37 rfl (lv_at hl 0 rfl) ?_
    refine lv_iconst (v := 1) hx hb dX3_about_38 (by decide) ?_
    refine g_ci hS (va_runV (As := [.int 1]) (rest := []) ⟨hx, hb, hml, hown, hts⟩ (k_fail l E G0 y (la, sk, ta, sw, nb) _ ((((tk, ck, rn, an, sp, ln, lf), (nd, dm), (nc, km)), (nu, uq), (ns, st)) : Sy) hMR 1) (cwV 1 hts (lw_V q883 q885 qs13 q36 q886) rfl rfl rfl (by decide +kernel) ⟨Nat.le_of_ble_eq_true rfl, Nat.le_of_ble_eq_true rfl⟩) (g_preV hE hI (g_recv hE hI hy rfl)) rfl rfl hl.1 rfl (lv_room (Nat.le_of_ble_eq_true rfl)) dX3_about_39 ⟨Nat.le_of_ble_eq_true rfl, Nat.le_of_ble_eq_true rfl⟩) (fun r G1 H locs hp hI hS => ?_)
    obtain ⟨-, hM1, hF1⟩ := hp
    have hcode : idxR ns i 4 j = 1 := if_pos ((outI_in (by omega)).mp c1)
    exact g_iret hx hb hr hlk hI hS dX3_about_42 (Nat.le_of_ble_eq_true rfl) (Nat.le_of_ble_eq_true rfl) (⟨fun z => absurd (hcode.symm.trans z) (by decide), by rw [hcode]; exact hM1, Fr.trans hFr hF1⟩)
  · have h1 : ¬ outI i ns := fun z => c1 ((outI_in (by omega)).mpr z)
    refine lv_iload_n hx hb dX3_about_19 rfl (lv_at hl 2 rfl) ?_
    refine lv_iconst (v := 0) hx hb dX3_about_20 (by decide) ?_
    refine lv_iconst (v := 3) hx hb dX3_about_21 (by decide) ?_
    refine g_ci0 (G := G0) (v := isInV j 0 3) hS (va_runS (As := [.int j, .int 0, .int 3]) (rest := []) ⟨hx, hb, hml, hown, hts⟩ (k_isIn l E G0 j 0 3) (va_cwS 3 hts (lw_S q880 q881 q36 q882) rfl rfl rfl (by decide +kernel) ⟨Nat.le_of_ble_eq_true rfl, Nat.le_of_ble_eq_true rfl⟩) (g_preS hE hI) rfl rfl hl.1 rfl (lv_room (Nat.le_of_ble_eq_true rfl)) dX3_about_22 ⟨Nat.le_of_ble_eq_true rfl, Nat.le_of_ble_eq_true rfl⟩) (fun H locs hI hS => ?_)
    refine lv_if_eq (tgt := 37) hx hb dX3_about_25 (by decide) (fun c2 => ?_) (fun c2 => ?_)
    · refine lv_aload_n hx hb dX3_about_37 rfl (lv_at hl 0 rfl) ?_
      refine lv_iconst (v := 1) hx hb dX3_about_38 (by decide) ?_
      refine g_ci hS (va_runV (As := [.int 1]) (rest := []) ⟨hx, hb, hml, hown, hts⟩ (k_fail l E G0 y (la, sk, ta, sw, nb) _ ((((tk, ck, rn, an, sp, ln, lf), (nd, dm), (nc, km)), (nu, uq), (ns, st)) : Sy) hMR 1) (cwV 1 hts (lw_V q883 q885 qs13 q36 q886) rfl rfl rfl (by decide +kernel) ⟨Nat.le_of_ble_eq_true rfl, Nat.le_of_ble_eq_true rfl⟩) (g_preV hE hI (g_recv hE hI hy rfl)) rfl rfl hl.1 rfl (lv_room (Nat.le_of_ble_eq_true rfl)) dX3_about_39 ⟨Nat.le_of_ble_eq_true rfl, Nat.le_of_ble_eq_true rfl⟩) (fun r G1 H locs hp hI hS => ?_)
      obtain ⟨-, hM1, hF1⟩ := hp
      have hcode : idxR ns i 4 j = 1 := (if_neg h1).trans (if_pos ((outI_l (n := 4) (by decide) (by decide)).mp c2))
      exact g_iret hx hb hr hlk hI hS dX3_about_42 (Nat.le_of_ble_eq_true rfl) (Nat.le_of_ble_eq_true rfl) (⟨fun z => absurd (hcode.symm.trans z) (by decide), by rw [hcode]; exact hM1, Fr.trans hFr hF1⟩)
    · have h2 : ¬ outI j 4 := fun z => c2 ((outI_l (n := 4) (by decide) (by decide)).mpr z)
      have hcode : idxR ns i 4 j = 0 := (if_neg h1).trans (if_neg h2)
      obtain ⟨k, hk, e_k⟩ := outI_no (n := ns) (by omega) h1
      subst e_k
      have c_k : (nI k).toNatClampNeg = k := nI_clamp (by omega)
      obtain ⟨v, hv, e_v⟩ := outI_no (n := 4) (by omega) h2
      subst e_v
      have c_v : (nI v).toNatClampNeg = v := nI_clamp (by omega)
      refine lv_aload_n hx hb dX3_about_28 rfl (lv_at hl 0 rfl) ?_
      refine lv_iload_n hx hb dX3_about_29 rfl (lv_at hl 1 rfl) ?_
      refine lv_iload_n hx hb dX3_about_30 rfl (lv_at hl 2 rfl) ?_
      refine g_ci0 (G := G0) (v := sTold dm nd an (st k) (nI v)) hS (va_runV (As := [.int (nI k), .int (nI v)]) (rest := []) ⟨hx, hb, hml, hown, hts⟩ (k_sTold l E G0 y (la, sk, ta, sw, nb) _ ((((tk, ck, rn, an, sp, ln, lf), (nd, dm), (nc, km)), (nu, uq), (ns, st)) : Sy) hMR hO k v hk hv) (cwV 2 hts (lw_V q969 q971 qs23 q36 q972) rfl rfl rfl (by decide +kernel) ⟨Nat.le_of_ble_eq_true rfl, Nat.le_of_ble_eq_true rfl⟩) (g_preV hE hI (g_recv hE hI hy rfl)) rfl rfl hl.1 rfl (lv_room (Nat.le_of_ble_eq_true rfl)) dX3_about_31 ⟨Nat.le_of_ble_eq_true rfl, Nat.le_of_ble_eq_true rfl⟩) (fun H locs hI hS => ?_)
      refine lv_goto (tgt := 42) hx hb dX3_about_34 (by decide) ?_
      exact g_iret hx hb hr hlk hI hS dX3_about_42 (Nat.le_of_ble_eq_true rfl) (Nat.le_of_ble_eq_true rfl) (⟨fun _ => by rw [c_k], by rw [hcode]; exact hMR, hFr⟩)
set_option maxHeartbeats 4000000 in
set_option maxRecDepth 100000 in
theorem k_comet (l : Launch) (E : EnvT) (G : Gh) (y : Nat) (M : MA) (th : Int32) (σ : Sy) (hMR : MRep E G y M th σ) (hO : OkS σ) (i j : Int32) : Met l yX3_comet (ws_ yX3_comet cX3_comet 3 (some .int)) ({ frames := 4, cells := 0, slots := 0, locals := 90 } : Room) (cP E G [.ref y, .int i, .int j]) (cI E (fun r G' => (idxR σ.1.2.2.1 i 4 j = 0 → r = kTold σ.1.2.1.2 σ.1.2.1.1 (σ.1.2.2.2 i.toNatClampNeg) j) ∧ MRep E G' y M (idxR σ.1.2.2.1 i 4 j) σ ∧ Fr (Ow 4) G G')) 0 0 (eA E) := by
  obtain ⟨la, sk, ta, sw, nb⟩ := M
  obtain ⟨⟨⟨tk, ck, rn, an, sp, ln, lf⟩, ⟨nd, dm⟩, ⟨nc, km⟩⟩, ⟨nu, uq⟩, ⟨ns, st⟩⟩ := σ
  refine g_met (rm := ({ frames := 4, cells := 0, slots := 0, locals := 90 } : Room)) (av := [.ref y, .int i, .int j]) (lv := [(0, .ref y), (1, .int i), (2, .int j)]) (by decide) (Nat.le_of_ble_eq_true rfl) rfl ?_
  intro p e s m below meth c ls hx hb hr hlk hml hin hts hown hE hI hL hS hl
  have hMR0 := hMR
  obtain ⟨hy, hla, hsk, hta, hsw, hnb⟩ := hMR0
  have hy : G y = some ((4, 0, 0), mO th (nI nd) (nI ns) (nI nu) la sk ta sw nb) := hy
  have hla : G la = some ((4, 1, 0), iO E 40 (lampF dm)) := hla
  have hsk : G sk = some ((4, 2, 0), iO E 40 (skyF st)) := hsk
  have hta : G ta = some ((4, 3, 0), iO E 36 (tailF km)) := hta
  have hsw : G sw = some ((4, 4, 0), iO E 96 (showF uq)) := hsw
  have hnb : G nb = some ((4, 5, 0), iO E 8 (numF (tk, ck, rn, an, sp, ln, lf) nc)) := hnb
  have hFr : Fr (Ow 4) G G := Fr.rf
  refine lv_aload_n hx hb dX3_comet_0 rfl (lv_at hl 0 rfl) ?_
  refine lv_iconst (v := 0) hx hb dX3_comet_1 (by decide) ?_
  refine g_put (C := RX3) (T := TX3) (N := 9) (v := .int 0) (ty := .int) (fs' := [.int 0, .int (nI nd), .int (nI ns), .int (nI nu), .ref la, .ref sk, .ref ta, .ref sw, .ref nb]) hx hb hts in_X3 tyX3 tyX3_ok nmX3 hown hE hI hS hL hy rfl 0 (by decide) q843 (fun _ h9 => h9) rfl (by decide +kernel) rfl rfl (Nat.le_of_ble_eq_true rfl) rfl dX3_comet_2 (fun H locs hI hS => ?_)
  have hla := gU_o (x := ((4, 0, 0), .inr (7, [.int 0, .int (nI nd), .int (nI ns), .int (nI nu), .ref la, .ref sk, .ref ta, .ref sw, .ref nb]))) hy hla (by simp)
  have hsk := gU_o (x := ((4, 0, 0), .inr (7, [.int 0, .int (nI nd), .int (nI ns), .int (nI nu), .ref la, .ref sk, .ref ta, .ref sw, .ref nb]))) hy hsk (by simp)
  have hta := gU_o (x := ((4, 0, 0), .inr (7, [.int 0, .int (nI nd), .int (nI ns), .int (nI nu), .ref la, .ref sk, .ref ta, .ref sw, .ref nb]))) hy hta (by simp)
  have hsw := gU_o (x := ((4, 0, 0), .inr (7, [.int 0, .int (nI nd), .int (nI ns), .int (nI nu), .ref la, .ref sk, .ref ta, .ref sw, .ref nb]))) hy hsw (by simp)
  have hnb := gU_o (x := ((4, 0, 0), .inr (7, [.int 0, .int (nI nd), .int (nI ns), .int (nI nu), .ref la, .ref sk, .ref ta, .ref sw, .ref nb]))) hy hnb (by simp)
  have hFr : Fr (Ow 4) G (gU G y ((4, 0, 0), .inr (7, [.int 0, .int (nI nd), .int (nI ns), .int (nI nu), .ref la, .ref sk, .ref ta, .ref sw, .ref nb]))) := Fr.trans hFr (Fr.put (x := ((4, 0, 0), .inr (7, [.int 0, .int (nI nd), .int (nI ns), .int (nI nu), .ref la, .ref sk, .ref ta, .ref sw, .ref nb]))) hy rfl)
  have hy : (gU G y ((4, 0, 0), .inr (7, [.int 0, .int (nI nd), .int (nI ns), .int (nI nu), .ref la, .ref sk, .ref ta, .ref sw, .ref nb]))) y = some ((4, 0, 0), .inr (7, [.int 0, .int (nI nd), .int (nI ns), .int (nI nu), .ref la, .ref sk, .ref ta, .ref sw, .ref nb])) := gU_self
  obtain ⟨G0, hMR, hFr, hI⟩ : ∃ G0, MRep E G0 y (la, sk, ta, sw, nb) 0 ((((tk, ck, rn, an, sp, ln, lf), (nd, dm), (nc, km)), (nu, uq), (ns, st)) : Sy) ∧ Fr (Ow 4) G G0 ∧ Inv E G0 H := ⟨_, ⟨hy, hla, hsk, hta, hsw, hnb⟩, hFr, hI⟩
  have hMR0 := hMR
  obtain ⟨hy, hla, hsk, hta, hsw, hnb⟩ := hMR0
  have hy : G0 y = some ((4, 0, 0), mO 0 (nI nd) (nI ns) (nI nu) la sk ta sw nb) := hy
  have hla : G0 la = some ((4, 1, 0), iO E 40 (lampF dm)) := hla
  have hsk : G0 sk = some ((4, 2, 0), iO E 40 (skyF st)) := hsk
  have hta : G0 ta = some ((4, 3, 0), iO E 36 (tailF km)) := hta
  have hsw : G0 sw = some ((4, 4, 0), iO E 96 (showF uq)) := hsw
  have hnb : G0 nb = some ((4, 5, 0), iO E 8 (numF (tk, ck, rn, an, sp, ln, lf) nc)) := hnb
  have hnd : nd ≤ 8 := hO.cn.nd
  have hnc : nc ≤ 12 := hO.cn.nc
  have hnu : nu ≤ 24 := hO.nu
  have hns : ns ≤ 20 := hO.ns
  refine lv_iload_n hx hb dX3_comet_5 rfl (lv_at hl 1 rfl) ?_
  refine lv_iconst (v := 0) hx hb dX3_comet_6 (by decide) ?_
  refine lv_aload_n hx hb dX3_comet_7 rfl (lv_at hl 0 rfl) ?_
  refine g_get (C := RX3) (T := TX3) (N := 9) (v := .ref nb) hx hb hts in_X3 hown hE hI hy rfl 8 (by decide) q851 (fun _ h9 => h9) rfl dX3_comet_8 ?_
  refine lv_bipush (v := 7) hx hb dX3_comet_11 (by decide) ?_
  refine g_iald hx hb hE hI hnb (i := 7) 7 rfl (by decide) (by decide) dX3_comet_13 ?_
  rw [show numF (tk, ck, rn, an, sp, ln, lf) nc 7 = nI nc from rfl]
  refine lv_iconst (v := 1) hx hb dX3_comet_14 (by decide) ?_
  refine lv_isub hx hb dX3_comet_15 ?_
  refine g_ci0 (G := G0) (v := isInV i 0 (nI nc - 1)) hS (va_runS (As := [.int i, .int 0, .int (nI nc - 1)]) (rest := []) ⟨hx, hb, hml, hown, hts⟩ (k_isIn l E G0 i 0 (nI nc - 1)) (va_cwS 3 hts (lw_S q880 q881 q36 q882) rfl rfl rfl (by decide +kernel) ⟨Nat.le_of_ble_eq_true rfl, Nat.le_of_ble_eq_true rfl⟩) (g_preS hE hI) rfl rfl hl.1 rfl (lv_room (Nat.le_of_ble_eq_true rfl)) dX3_comet_16 ⟨Nat.le_of_ble_eq_true rfl, Nat.le_of_ble_eq_true rfl⟩) (fun H locs hI hS => ?_)
  refine lv_if_eq (tgt := 40) hx hb dX3_comet_19 (by decide) (fun c1 => ?_) (fun c1 => ?_)
  · refine lv_aload_n hx hb dX3_comet_40 rfl (lv_at hl 0 rfl) ?_
    refine lv_iconst (v := 1) hx hb dX3_comet_41 (by decide) ?_
    refine g_ci hS (va_runV (As := [.int 1]) (rest := []) ⟨hx, hb, hml, hown, hts⟩ (k_fail l E G0 y (la, sk, ta, sw, nb) _ ((((tk, ck, rn, an, sp, ln, lf), (nd, dm), (nc, km)), (nu, uq), (ns, st)) : Sy) hMR 1) (cwV 1 hts (lw_V q883 q885 qs13 q36 q886) rfl rfl rfl (by decide +kernel) ⟨Nat.le_of_ble_eq_true rfl, Nat.le_of_ble_eq_true rfl⟩) (g_preV hE hI (g_recv hE hI hy rfl)) rfl rfl hl.1 rfl (lv_room (Nat.le_of_ble_eq_true rfl)) dX3_comet_42 ⟨Nat.le_of_ble_eq_true rfl, Nat.le_of_ble_eq_true rfl⟩) (fun r G1 H locs hp hI hS => ?_)
    obtain ⟨-, hM1, hF1⟩ := hp
    have hcode : idxR nc i 4 j = 1 := if_pos ((outI_in (by omega)).mp c1)
    exact g_iret hx hb hr hlk hI hS dX3_comet_45 (Nat.le_of_ble_eq_true rfl) (Nat.le_of_ble_eq_true rfl) (⟨fun z => absurd (hcode.symm.trans z) (by decide), by rw [hcode]; exact hM1, Fr.trans hFr hF1⟩)
  · have h1 : ¬ outI i nc := fun z => c1 ((outI_in (by omega)).mpr z)
    refine lv_iload_n hx hb dX3_comet_22 rfl (lv_at hl 2 rfl) ?_
    refine lv_iconst (v := 0) hx hb dX3_comet_23 (by decide) ?_
    refine lv_iconst (v := 3) hx hb dX3_comet_24 (by decide) ?_
    refine g_ci0 (G := G0) (v := isInV j 0 3) hS (va_runS (As := [.int j, .int 0, .int 3]) (rest := []) ⟨hx, hb, hml, hown, hts⟩ (k_isIn l E G0 j 0 3) (va_cwS 3 hts (lw_S q880 q881 q36 q882) rfl rfl rfl (by decide +kernel) ⟨Nat.le_of_ble_eq_true rfl, Nat.le_of_ble_eq_true rfl⟩) (g_preS hE hI) rfl rfl hl.1 rfl (lv_room (Nat.le_of_ble_eq_true rfl)) dX3_comet_25 ⟨Nat.le_of_ble_eq_true rfl, Nat.le_of_ble_eq_true rfl⟩) (fun H locs hI hS => ?_)
    refine lv_if_eq (tgt := 40) hx hb dX3_comet_28 (by decide) (fun c2 => ?_) (fun c2 => ?_)
    · refine lv_aload_n hx hb dX3_comet_40 rfl (lv_at hl 0 rfl) ?_
      refine lv_iconst (v := 1) hx hb dX3_comet_41 (by decide) ?_
      refine g_ci hS (va_runV (As := [.int 1]) (rest := []) ⟨hx, hb, hml, hown, hts⟩ (k_fail l E G0 y (la, sk, ta, sw, nb) _ ((((tk, ck, rn, an, sp, ln, lf), (nd, dm), (nc, km)), (nu, uq), (ns, st)) : Sy) hMR 1) (cwV 1 hts (lw_V q883 q885 qs13 q36 q886) rfl rfl rfl (by decide +kernel) ⟨Nat.le_of_ble_eq_true rfl, Nat.le_of_ble_eq_true rfl⟩) (g_preV hE hI (g_recv hE hI hy rfl)) rfl rfl hl.1 rfl (lv_room (Nat.le_of_ble_eq_true rfl)) dX3_comet_42 ⟨Nat.le_of_ble_eq_true rfl, Nat.le_of_ble_eq_true rfl⟩) (fun r G1 H locs hp hI hS => ?_)
      obtain ⟨-, hM1, hF1⟩ := hp
      have hcode : idxR nc i 4 j = 1 := (if_neg h1).trans (if_pos ((outI_l (n := 4) (by decide) (by decide)).mp c2))
      exact g_iret hx hb hr hlk hI hS dX3_comet_45 (Nat.le_of_ble_eq_true rfl) (Nat.le_of_ble_eq_true rfl) (⟨fun z => absurd (hcode.symm.trans z) (by decide), by rw [hcode]; exact hM1, Fr.trans hFr hF1⟩)
    · have h2 : ¬ outI j 4 := fun z => c2 ((outI_l (n := 4) (by decide) (by decide)).mpr z)
      have hcode : idxR nc i 4 j = 0 := (if_neg h1).trans (if_neg h2)
      obtain ⟨k, hk, e_k⟩ := outI_no (n := nc) (by omega) h1
      subst e_k
      have c_k : (nI k).toNatClampNeg = k := nI_clamp (by omega)
      obtain ⟨v, hv, e_v⟩ := outI_no (n := 4) (by omega) h2
      subst e_v
      have c_v : (nI v).toNatClampNeg = v := nI_clamp (by omega)
      refine lv_aload_n hx hb dX3_comet_31 rfl (lv_at hl 0 rfl) ?_
      refine lv_iload_n hx hb dX3_comet_32 rfl (lv_at hl 1 rfl) ?_
      refine lv_iload_n hx hb dX3_comet_33 rfl (lv_at hl 2 rfl) ?_
      refine g_ci0 (G := G0) (v := kTold dm nd (km k) (nI v)) hS (va_runV (As := [.int (nI k), .int (nI v)]) (rest := []) ⟨hx, hb, hml, hown, hts⟩ (k_kTold l E G0 y (la, sk, ta, sw, nb) _ ((((tk, ck, rn, an, sp, ln, lf), (nd, dm), (nc, km)), (nu, uq), (ns, st)) : Sy) hMR hO k v hk hv) (cwV 2 hts (lw_V q985 q987 qs26 q36 q988) rfl rfl rfl (by decide +kernel) ⟨Nat.le_of_ble_eq_true rfl, Nat.le_of_ble_eq_true rfl⟩) (g_preV hE hI (g_recv hE hI hy rfl)) rfl rfl hl.1 rfl (lv_room (Nat.le_of_ble_eq_true rfl)) dX3_comet_34 ⟨Nat.le_of_ble_eq_true rfl, Nat.le_of_ble_eq_true rfl⟩) (fun H locs hI hS => ?_)
      refine lv_goto (tgt := 45) hx hb dX3_comet_37 (by decide) ?_
      exact g_iret hx hb hr hlk hI hS dX3_comet_45 (Nat.le_of_ble_eq_true rfl) (Nat.le_of_ble_eq_true rfl) (⟨fun _ => by rw [c_k], by rw [hcode]; exact hMR, hFr⟩)
set_option maxHeartbeats 4000000 in
set_option maxRecDepth 100000 in
theorem k_glare (l : Launch) (E : EnvT) (G : Gh) (y : Nat) (M : MA) (th : Int32) (σ : Sy) (hMR : MRep E G y M th σ) (hO : OkS σ) (i : Int32) : Met l yX3_glare (ws_ yX3_glare cX3_glare 2 (some .int)) ({ frames := 2, cells := 0, slots := 0, locals := 46 } : Room) (cP E G [.ref y, .int i]) (cI E (fun r G' => (oneR 12 i = 0 → r = glS σ.1.2.1.2 i σ.1.2.1.1) ∧ MRep E G' y M (oneR 12 i) σ ∧ Fr (Ow 4) G G')) 0 0 (eA E) := by
  obtain ⟨la, sk, ta, sw, nb⟩ := M
  obtain ⟨⟨⟨tk, ck, rn, an, sp, ln, lf⟩, ⟨nd, dm⟩, ⟨nc, km⟩⟩, ⟨nu, uq⟩, ⟨ns, st⟩⟩ := σ
  refine g_met (rm := ({ frames := 2, cells := 0, slots := 0, locals := 46 } : Room)) (av := [.ref y, .int i]) (lv := [(0, .ref y), (1, .int i)]) (by decide) (Nat.le_of_ble_eq_true rfl) rfl ?_
  intro p e s m below meth c ls hx hb hr hlk hml hin hts hown hE hI hL hS hl
  have hMR0 := hMR
  obtain ⟨hy, hla, hsk, hta, hsw, hnb⟩ := hMR0
  have hy : G y = some ((4, 0, 0), mO th (nI nd) (nI ns) (nI nu) la sk ta sw nb) := hy
  have hla : G la = some ((4, 1, 0), iO E 40 (lampF dm)) := hla
  have hsk : G sk = some ((4, 2, 0), iO E 40 (skyF st)) := hsk
  have hta : G ta = some ((4, 3, 0), iO E 36 (tailF km)) := hta
  have hsw : G sw = some ((4, 4, 0), iO E 96 (showF uq)) := hsw
  have hnb : G nb = some ((4, 5, 0), iO E 8 (numF (tk, ck, rn, an, sp, ln, lf) nc)) := hnb
  have hFr : Fr (Ow 4) G G := Fr.rf
  refine lv_aload_n hx hb dX3_glare_0 rfl (lv_at hl 0 rfl) ?_
  refine lv_iconst (v := 0) hx hb dX3_glare_1 (by decide) ?_
  refine g_put (C := RX3) (T := TX3) (N := 9) (v := .int 0) (ty := .int) (fs' := [.int 0, .int (nI nd), .int (nI ns), .int (nI nu), .ref la, .ref sk, .ref ta, .ref sw, .ref nb]) hx hb hts in_X3 tyX3 tyX3_ok nmX3 hown hE hI hS hL hy rfl 0 (by decide) q843 (fun _ h9 => h9) rfl (by decide +kernel) rfl rfl (Nat.le_of_ble_eq_true rfl) rfl dX3_glare_2 (fun H locs hI hS => ?_)
  have hla := gU_o (x := ((4, 0, 0), .inr (7, [.int 0, .int (nI nd), .int (nI ns), .int (nI nu), .ref la, .ref sk, .ref ta, .ref sw, .ref nb]))) hy hla (by simp)
  have hsk := gU_o (x := ((4, 0, 0), .inr (7, [.int 0, .int (nI nd), .int (nI ns), .int (nI nu), .ref la, .ref sk, .ref ta, .ref sw, .ref nb]))) hy hsk (by simp)
  have hta := gU_o (x := ((4, 0, 0), .inr (7, [.int 0, .int (nI nd), .int (nI ns), .int (nI nu), .ref la, .ref sk, .ref ta, .ref sw, .ref nb]))) hy hta (by simp)
  have hsw := gU_o (x := ((4, 0, 0), .inr (7, [.int 0, .int (nI nd), .int (nI ns), .int (nI nu), .ref la, .ref sk, .ref ta, .ref sw, .ref nb]))) hy hsw (by simp)
  have hnb := gU_o (x := ((4, 0, 0), .inr (7, [.int 0, .int (nI nd), .int (nI ns), .int (nI nu), .ref la, .ref sk, .ref ta, .ref sw, .ref nb]))) hy hnb (by simp)
  have hFr : Fr (Ow 4) G (gU G y ((4, 0, 0), .inr (7, [.int 0, .int (nI nd), .int (nI ns), .int (nI nu), .ref la, .ref sk, .ref ta, .ref sw, .ref nb]))) := Fr.trans hFr (Fr.put (x := ((4, 0, 0), .inr (7, [.int 0, .int (nI nd), .int (nI ns), .int (nI nu), .ref la, .ref sk, .ref ta, .ref sw, .ref nb]))) hy rfl)
  have hy : (gU G y ((4, 0, 0), .inr (7, [.int 0, .int (nI nd), .int (nI ns), .int (nI nu), .ref la, .ref sk, .ref ta, .ref sw, .ref nb]))) y = some ((4, 0, 0), .inr (7, [.int 0, .int (nI nd), .int (nI ns), .int (nI nu), .ref la, .ref sk, .ref ta, .ref sw, .ref nb])) := gU_self
  obtain ⟨G0, hMR, hFr, hI⟩ : ∃ G0, MRep E G0 y (la, sk, ta, sw, nb) 0 ((((tk, ck, rn, an, sp, ln, lf), (nd, dm), (nc, km)), (nu, uq), (ns, st)) : Sy) ∧ Fr (Ow 4) G G0 ∧ Inv E G0 H := ⟨_, ⟨hy, hla, hsk, hta, hsw, hnb⟩, hFr, hI⟩
  have hMR0 := hMR
  obtain ⟨hy, hla, hsk, hta, hsw, hnb⟩ := hMR0
  have hy : G0 y = some ((4, 0, 0), mO 0 (nI nd) (nI ns) (nI nu) la sk ta sw nb) := hy
  have hla : G0 la = some ((4, 1, 0), iO E 40 (lampF dm)) := hla
  have hsk : G0 sk = some ((4, 2, 0), iO E 40 (skyF st)) := hsk
  have hta : G0 ta = some ((4, 3, 0), iO E 36 (tailF km)) := hta
  have hsw : G0 sw = some ((4, 4, 0), iO E 96 (showF uq)) := hsw
  have hnb : G0 nb = some ((4, 5, 0), iO E 8 (numF (tk, ck, rn, an, sp, ln, lf) nc)) := hnb
  have hnd : nd ≤ 8 := hO.cn.nd
  have hnc : nc ≤ 12 := hO.cn.nc
  have hnu : nu ≤ 24 := hO.nu
  have hns : ns ≤ 20 := hO.ns
  refine lv_iload_n hx hb dX3_glare_5 rfl (lv_at hl 1 rfl) ?_
  refine lv_iconst (v := 0) hx hb dX3_glare_6 (by decide) ?_
  refine lv_bipush (v := 11) hx hb dX3_glare_7 (by decide) ?_
  refine g_ci0 (G := G0) (v := isInV i 0 11) hS (va_runS (As := [.int i, .int 0, .int 11]) (rest := []) ⟨hx, hb, hml, hown, hts⟩ (k_isIn l E G0 i 0 11) (va_cwS 3 hts (lw_S q880 q881 q36 q882) rfl rfl rfl (by decide +kernel) ⟨Nat.le_of_ble_eq_true rfl, Nat.le_of_ble_eq_true rfl⟩) (g_preS hE hI) rfl rfl hl.1 rfl (lv_room (Nat.le_of_ble_eq_true rfl)) dX3_glare_9 ⟨Nat.le_of_ble_eq_true rfl, Nat.le_of_ble_eq_true rfl⟩) (fun H locs hI hS => ?_)
  refine lv_if_eq (tgt := 23) hx hb dX3_glare_12 (by decide) (fun c1 => ?_) (fun c1 => ?_)
  · refine lv_aload_n hx hb dX3_glare_23 rfl (lv_at hl 0 rfl) ?_
    refine lv_iconst (v := 1) hx hb dX3_glare_24 (by decide) ?_
    refine g_ci hS (va_runV (As := [.int 1]) (rest := []) ⟨hx, hb, hml, hown, hts⟩ (k_fail l E G0 y (la, sk, ta, sw, nb) _ ((((tk, ck, rn, an, sp, ln, lf), (nd, dm), (nc, km)), (nu, uq), (ns, st)) : Sy) hMR 1) (cwV 1 hts (lw_V q883 q885 qs13 q36 q886) rfl rfl rfl (by decide +kernel) ⟨Nat.le_of_ble_eq_true rfl, Nat.le_of_ble_eq_true rfl⟩) (g_preV hE hI (g_recv hE hI hy rfl)) rfl rfl hl.1 rfl (lv_room (Nat.le_of_ble_eq_true rfl)) dX3_glare_25 ⟨Nat.le_of_ble_eq_true rfl, Nat.le_of_ble_eq_true rfl⟩) (fun r G1 H locs hp hI hS => ?_)
    obtain ⟨-, hM1, hF1⟩ := hp
    have hcode : oneR 12 i = 1 := if_pos ((outI_l (n := 12) (by decide) (by decide)).mp c1)
    exact g_iret hx hb hr hlk hI hS dX3_glare_28 (Nat.le_of_ble_eq_true rfl) (Nat.le_of_ble_eq_true rfl) (⟨fun z => absurd (hcode.symm.trans z) (by decide), by rw [hcode]; exact hM1, Fr.trans hFr hF1⟩)
  · have h1 : ¬ outI i 12 := fun z => c1 ((outI_l (n := 12) (by decide) (by decide)).mpr z)
    have hcode : oneR 12 i = 0 := if_neg h1
    obtain ⟨k, hk, e_k⟩ := outI_no (n := 12) (by omega) h1
    subst e_k
    have c_k : (nI k).toNatClampNeg = k := nI_clamp (by omega)
    refine lv_aload_n hx hb dX3_glare_15 rfl (lv_at hl 0 rfl) ?_
    refine lv_iload_n hx hb dX3_glare_16 rfl (lv_at hl 1 rfl) ?_
    refine g_ci0 (G := G0) (v := glS dm (nI k) nd) hS (va_runV (As := [.int (nI k)]) (rest := []) ⟨hx, hb, hml, hown, hts⟩ (k_glareOf l E G0 y (la, sk, ta, sw, nb) _ ((((tk, ck, rn, an, sp, ln, lf), (nd, dm), (nc, km)), (nu, uq), (ns, st)) : Sy) hMR hO.cn k hk) (cwV 1 hts (lw_V q961 q963 qs22 q36 q964) rfl rfl rfl (by decide +kernel) ⟨Nat.le_of_ble_eq_true rfl, Nat.le_of_ble_eq_true rfl⟩) (g_preV hE hI (g_recv hE hI hy rfl)) rfl rfl hl.1 rfl (lv_room (Nat.le_of_ble_eq_true rfl)) dX3_glare_17 ⟨Nat.le_of_ble_eq_true rfl, Nat.le_of_ble_eq_true rfl⟩) (fun H locs hI hS => ?_)
    refine lv_goto (tgt := 28) hx hb dX3_glare_20 (by decide) ?_
    exact g_iret hx hb hr hlk hI hS dX3_glare_28 (Nat.le_of_ble_eq_true rfl) (Nat.le_of_ble_eq_true rfl) (⟨fun _ => rfl, by rw [hcode]; exact hMR, hFr⟩)
set_option maxHeartbeats 4000000 in
set_option maxRecDepth 100000 in
theorem k_counted (l : Launch) (E : EnvT) (G : Gh) (y : Nat) (M : MA) (th : Int32) (σ : Sy) (hMR : MRep E G y M th σ) (hO : OkS σ) (v : Nat) (hv : v < 13) : Met l yX3_counted (ws_ yX3_counted cX3_counted 4 (some .int)) ({ frames := 4, cells := 0, slots := 0, locals := 90 } : Room) (cP E G [.ref y, .int (nI v)]) (cI E (fun r G' => r = cntV σ.1 σ.2.1.1 σ.2.2.1 σ.2.2.2 (nI v) ∧ G' = G)) 0 0 (eA E) := by
  obtain ⟨la, sk, ta, sw, nb⟩ := M
  obtain ⟨⟨⟨tk, ck, rn, an, sp, ln, lf⟩, ⟨nd, dm⟩, ⟨nc, km⟩⟩, ⟨nu, uq⟩, ⟨ns, st⟩⟩ := σ
  refine g_met (rm := ({ frames := 4, cells := 0, slots := 0, locals := 90 } : Room)) (av := [.ref y, .int (nI v)]) (lv := [(0, .ref y), (1, .int (nI v))]) (by decide) (Nat.le_of_ble_eq_true rfl) rfl ?_
  intro p e s m below meth c ls hx hb hr hlk hml hin hts hown hE hI hL hS hl
  have hMR0 := hMR
  obtain ⟨hy, hla, hsk, hta, hsw, hnb⟩ := hMR0
  have hy : G y = some ((4, 0, 0), mO th (nI nd) (nI ns) (nI nu) la sk ta sw nb) := hy
  have hla : G la = some ((4, 1, 0), iO E 40 (lampF dm)) := hla
  have hsk : G sk = some ((4, 2, 0), iO E 40 (skyF st)) := hsk
  have hta : G ta = some ((4, 3, 0), iO E 36 (tailF km)) := hta
  have hsw : G sw = some ((4, 4, 0), iO E 96 (showF uq)) := hsw
  have hnb : G nb = some ((4, 5, 0), iO E 8 (numF (tk, ck, rn, an, sp, ln, lf) nc)) := hnb
  have hFr : Fr (Ow 4) G G := Fr.rf
  have hnd : nd ≤ 8 := hO.cn.nd
  have hnc : nc ≤ 12 := hO.cn.nc
  have hnu : nu ≤ 24 := hO.nu
  have hns : ns ≤ 20 := hO.ns
  rcases (show v = 0 ∨ v = 1 ∨ v = 2 ∨ v = 3 ∨ v = 4 ∨ v = 5 ∨ v = 6 ∨ v = 7 ∨ v = 8 ∨ v = 9 ∨ v = 10 ∨ v = 11 ∨ v = 12 by omega) with hv9 | hv9 | hv9 | hv9 | hv9 | hv9 | hv9 | hv9 | hv9 | hv9 | hv9 | hv9 | hv9
  · subst hv9
    have hl : lv_has ls 4 [(0, .ref y), (1, .int 0)] := hl
    refine lv_iconst (v := 0) hx hb dX3_counted_0 (by decide) ?_
    refine lv_istore_n (lv' := [(2, .int 0), (0, .ref y), (1, .int 0)]) hx hb dX3_counted_1 rfl hl (by decide) rfl (fun ls hl => ?_)
    refine lv_iload_n hx hb dX3_counted_2 rfl (lv_at hl 2 rfl) ?_
    refine lv_tableIn (tgt := 52) hx hb dX3_counted_3 (by decide) (by decide) rfl (by decide) ?_
    refine lv_aload_n hx hb dX3_counted_52 rfl (lv_at hl 1 rfl) ?_
    refine g_get (C := RX3) (T := TX3) (N := 9) (v := .ref nb) hx hb hts in_X3 hown hE hI hy rfl 8 (by decide) q851 (fun _ h9 => h9) rfl dX3_counted_53 ?_
    refine lv_iconst (v := 0) hx hb dX3_counted_56 (by decide) ?_
    refine g_iald hx hb hE hI hnb (i := 0) 0 rfl (by decide) (by decide) dX3_counted_57 ?_
    rw [show numF (tk, ck, rn, an, sp, ln, lf) nc 0 = tk from rfl]
    exact g_iret hx hb hr hlk hI hS dX3_counted_58 (Nat.le_of_ble_eq_true rfl) (Nat.le_of_ble_eq_true rfl) (⟨rfl, rfl⟩)
  · subst hv9
    have hl : lv_has ls 4 [(0, .ref y), (1, .int 1)] := hl
    refine lv_iconst (v := 0) hx hb dX3_counted_0 (by decide) ?_
    refine lv_istore_n (lv' := [(2, .int 0), (0, .ref y), (1, .int 1)]) hx hb dX3_counted_1 rfl hl (by decide) rfl (fun ls hl => ?_)
    refine lv_iload_n hx hb dX3_counted_2 rfl (lv_at hl 2 rfl) ?_
    refine lv_tableIn (tgt := 59) hx hb dX3_counted_3 (by decide) (by decide) rfl (by decide) ?_
    refine lv_aload_n hx hb dX3_counted_59 rfl (lv_at hl 1 rfl) ?_
    refine g_get (C := RX3) (T := TX3) (N := 9) (v := .ref nb) hx hb hts in_X3 hown hE hI hy rfl 8 (by decide) q851 (fun _ h9 => h9) rfl dX3_counted_60 ?_
    refine lv_iconst (v := 1) hx hb dX3_counted_63 (by decide) ?_
    refine g_iald hx hb hE hI hnb (i := 1) 1 rfl (by decide) (by decide) dX3_counted_64 ?_
    rw [show numF (tk, ck, rn, an, sp, ln, lf) nc 1 = ck from rfl]
    exact g_iret hx hb hr hlk hI hS dX3_counted_65 (Nat.le_of_ble_eq_true rfl) (Nat.le_of_ble_eq_true rfl) (⟨rfl, rfl⟩)
  · subst hv9
    have hl : lv_has ls 4 [(0, .ref y), (1, .int 2)] := hl
    refine lv_iconst (v := 0) hx hb dX3_counted_0 (by decide) ?_
    refine lv_istore_n (lv' := [(2, .int 0), (0, .ref y), (1, .int 2)]) hx hb dX3_counted_1 rfl hl (by decide) rfl (fun ls hl => ?_)
    refine lv_iload_n hx hb dX3_counted_2 rfl (lv_at hl 2 rfl) ?_
    refine lv_tableIn (tgt := 66) hx hb dX3_counted_3 (by decide) (by decide) rfl (by decide) ?_
    refine lv_aload_n hx hb dX3_counted_66 rfl (lv_at hl 1 rfl) ?_
    refine g_get (C := RX3) (T := TX3) (N := 9) (v := .ref nb) hx hb hts in_X3 hown hE hI hy rfl 8 (by decide) q851 (fun _ h9 => h9) rfl dX3_counted_67 ?_
    refine lv_iconst (v := 2) hx hb dX3_counted_70 (by decide) ?_
    refine g_iald hx hb hE hI hnb (i := 2) 2 rfl (by decide) (by decide) dX3_counted_71 ?_
    rw [show numF (tk, ck, rn, an, sp, ln, lf) nc 2 = rn from rfl]
    exact g_iret hx hb hr hlk hI hS dX3_counted_72 (Nat.le_of_ble_eq_true rfl) (Nat.le_of_ble_eq_true rfl) (⟨by show rn = if rn = 0 then 0 else 1; rcases hO.cn.rn with z | z <;> (have z : rn = _ := z; rw [z]; rfl), rfl⟩)
  · subst hv9
    have hl : lv_has ls 4 [(0, .ref y), (1, .int 3)] := hl
    refine lv_iconst (v := 0) hx hb dX3_counted_0 (by decide) ?_
    refine lv_istore_n (lv' := [(2, .int 0), (0, .ref y), (1, .int 3)]) hx hb dX3_counted_1 rfl hl (by decide) rfl (fun ls hl => ?_)
    refine lv_iload_n hx hb dX3_counted_2 rfl (lv_at hl 2 rfl) ?_
    refine lv_tableIn (tgt := 73) hx hb dX3_counted_3 (by decide) (by decide) rfl (by decide) ?_
    refine lv_aload_n hx hb dX3_counted_73 rfl (lv_at hl 1 rfl) ?_
    refine g_get (C := RX3) (T := TX3) (N := 9) (v := .int (nI nd)) hx hb hts in_X3 hown hE hI hy rfl 1 (by decide) q844 (fun _ h9 => h9) rfl dX3_counted_74 ?_
    exact g_iret hx hb hr hlk hI hS dX3_counted_77 (Nat.le_of_ble_eq_true rfl) (Nat.le_of_ble_eq_true rfl) (⟨rfl, rfl⟩)
  · subst hv9
    have hl : lv_has ls 4 [(0, .ref y), (1, .int 4)] := hl
    refine lv_iconst (v := 0) hx hb dX3_counted_0 (by decide) ?_
    refine lv_istore_n (lv' := [(2, .int 0), (0, .ref y), (1, .int 4)]) hx hb dX3_counted_1 rfl hl (by decide) rfl (fun ls hl => ?_)
    refine lv_iload_n hx hb dX3_counted_2 rfl (lv_at hl 2 rfl) ?_
    refine lv_tableIn (tgt := 78) hx hb dX3_counted_3 (by decide) (by decide) rfl (by decide) ?_
    refine lv_aload_n hx hb dX3_counted_78 rfl (lv_at hl 1 rfl) ?_
    refine g_get (C := RX3) (T := TX3) (N := 9) (v := .int (nI ns)) hx hb hts in_X3 hown hE hI hy rfl 2 (by decide) q845 (fun _ h9 => h9) rfl dX3_counted_79 ?_
    exact g_iret hx hb hr hlk hI hS dX3_counted_82 (Nat.le_of_ble_eq_true rfl) (Nat.le_of_ble_eq_true rfl) (⟨rfl, rfl⟩)
  · subst hv9
    have hl : lv_has ls 4 [(0, .ref y), (1, .int 5)] := hl
    refine lv_iconst (v := 0) hx hb dX3_counted_0 (by decide) ?_
    refine lv_istore_n (lv' := [(2, .int 0), (0, .ref y), (1, .int 5)]) hx hb dX3_counted_1 rfl hl (by decide) rfl (fun ls hl => ?_)
    refine lv_iload_n hx hb dX3_counted_2 rfl (lv_at hl 2 rfl) ?_
    refine lv_tableIn (tgt := 83) hx hb dX3_counted_3 (by decide) (by decide) rfl (by decide) ?_
    refine lv_aload_n hx hb dX3_counted_83 rfl (lv_at hl 1 rfl) ?_
    refine g_get (C := RX3) (T := TX3) (N := 9) (v := .ref nb) hx hb hts in_X3 hown hE hI hy rfl 8 (by decide) q851 (fun _ h9 => h9) rfl dX3_counted_84 ?_
    refine lv_bipush (v := 7) hx hb dX3_counted_87 (by decide) ?_
    refine g_iald hx hb hE hI hnb (i := 7) 7 rfl (by decide) (by decide) dX3_counted_89 ?_
    rw [show numF (tk, ck, rn, an, sp, ln, lf) nc 7 = nI nc from rfl]
    exact g_iret hx hb hr hlk hI hS dX3_counted_90 (Nat.le_of_ble_eq_true rfl) (Nat.le_of_ble_eq_true rfl) (⟨rfl, rfl⟩)
  · subst hv9
    have hl : lv_has ls 4 [(0, .ref y), (1, .int 6)] := hl
    refine lv_iconst (v := 0) hx hb dX3_counted_0 (by decide) ?_
    refine lv_istore_n (lv' := [(2, .int 0), (0, .ref y), (1, .int 6)]) hx hb dX3_counted_1 rfl hl (by decide) rfl (fun ls hl => ?_)
    refine lv_iload_n hx hb dX3_counted_2 rfl (lv_at hl 2 rfl) ?_
    refine lv_tableIn (tgt := 91) hx hb dX3_counted_3 (by decide) (by decide) rfl (by decide) ?_
    refine lv_aload_n hx hb dX3_counted_91 rfl (lv_at hl 1 rfl) ?_
    refine g_get (C := RX3) (T := TX3) (N := 9) (v := .int (nI nu)) hx hb hts in_X3 hown hE hI hy rfl 3 (by decide) q846 (fun _ h9 => h9) rfl dX3_counted_92 ?_
    exact g_iret hx hb hr hlk hI hS dX3_counted_95 (Nat.le_of_ble_eq_true rfl) (Nat.le_of_ble_eq_true rfl) (⟨rfl, rfl⟩)
  · subst hv9
    have hl : lv_has ls 4 [(0, .ref y), (1, .int 7)] := hl
    refine lv_iconst (v := 0) hx hb dX3_counted_0 (by decide) ?_
    refine lv_istore_n (lv' := [(2, .int 0), (0, .ref y), (1, .int 7)]) hx hb dX3_counted_1 rfl hl (by decide) rfl (fun ls hl => ?_)
    refine lv_iload_n hx hb dX3_counted_2 rfl (lv_at hl 2 rfl) ?_
    refine lv_tableIn (tgt := 96) hx hb dX3_counted_3 (by decide) (by decide) rfl (by decide) ?_
    refine lv_iconst (v := 0) hx hb dX3_counted_96 (by decide) ?_
    refine lv_istore_n (lv' := [(3, .int 0), (2, .int 0), (0, .ref y), (1, .int 7)]) hx hb dX3_counted_97 rfl hl (by decide) rfl (fun ls hl => ?_)
    refine g_loop1 (A1 := Nat) (fun i H locs ls => i ≤ ns ∧ Inv E G H ∧ va_S (eA E) s.heap H locs ∧ lv_has ls 4 [(0, .ref y), (2, .int (stS dm nd an st i)), (3, .int (nI i))]) (fun i => 0) (fun i => 0) (fun i => ns - i) ?_ 0 _ _ _ ⟨Nat.zero_le _, hI, hS, lv_sub hl [2, 1, 0] rfl⟩
    intro i ih1 H locs ls hst
    obtain ⟨hi, hI, hS, hl⟩ := hst
    refine lv_iload_n hx hb dX3_counted_98 rfl (lv_at hl 2 rfl) ?_
    refine lv_aload_n hx hb dX3_counted_99 rfl (lv_at hl 0 rfl) ?_
    refine g_get (C := RX3) (T := TX3) (N := 9) (v := .int (nI ns)) hx hb hts in_X3 hown hE hI hy rfl 2 (by decide) q845 (fun _ h9 => h9) rfl dX3_counted_100 ?_
    refine lv_icmp_ge (tgt := 121) hx hb dX3_counted_103 (by decide) (fun c1 => ?_) (fun c1 => ?_)
    · have ei : i = ns := (Nat.lt_or_ge i ns).elim (fun z => absurd c1 (nI_ge z (by omega))) (fun z => by omega)
      refine lv_iload_n hx hb dX3_counted_121 rfl (lv_at hl 1 rfl) ?_
      exact g_iret hx hb hr hlk hI hS dX3_counted_122 (Nat.le_of_ble_eq_true rfl) (Nat.le_of_ble_eq_true rfl) (⟨by rw [ei]; rfl, rfl⟩)
    · have hlt : i < ns := (Nat.lt_or_ge i ns).elim id (fun z => absurd (nI_le z (by omega)) c1)
      refine lv_iload_n hx hb dX3_counted_106 rfl (lv_at hl 1 rfl) ?_
      refine lv_aload_n hx hb dX3_counted_107 rfl (lv_at hl 0 rfl) ?_
      refine lv_iload_n hx hb dX3_counted_108 rfl (lv_at hl 2 rfl) ?_
      refine lv_iconst (v := 3) hx hb dX3_counted_109 (by decide) ?_
      refine g_ci0 (G := G) (v := sTold dm nd an (st i) (nI 3)) hS (va_runV (As := [.int (nI i), .int 3]) (rest := [.int (stS dm nd an st i)]) ⟨hx, hb, hml, hown, hts⟩ (k_sTold l E G y (la, sk, ta, sw, nb) _ ((((tk, ck, rn, an, sp, ln, lf), (nd, dm), (nc, km)), (nu, uq), (ns, st)) : Sy) hMR hO i 3 hlt (by decide)) (cwV 2 hts (lw_V q969 q971 qs23 q36 q972) rfl rfl rfl (by decide +kernel) ⟨Nat.le_of_ble_eq_true rfl, Nat.le_of_ble_eq_true rfl⟩) (g_preV hE hI (g_recv hE hI hy rfl)) rfl rfl hl.1 rfl (lv_room (Nat.le_of_ble_eq_true rfl)) dX3_counted_110 ⟨Nat.le_of_ble_eq_true rfl, Nat.le_of_ble_eq_true rfl⟩) (fun H locs hI hS => ?_)
      refine lv_iadd hx hb dX3_counted_113 ?_
      refine lv_istore_n (lv' := [(2, .int ((stS dm nd an st i) + sTold dm nd an (st i) (nI 3))), (0, .ref y), (3, .int (nI i))]) hx hb dX3_counted_114 rfl hl (by decide) rfl (fun ls hl => ?_)
      refine lv_iinc (v := nI (i + 1)) (lv' := [(3, .int (nI (i + 1))), (2, .int ((stS dm nd an st i) + sTold dm nd an (st i) (nI 3))), (0, .ref y)]) hx hb dX3_counted_115 hl (k := 2) rfl (nI_1 (i)) (by decide) rfl (fun ls hl => ?_)
      refine lv_goto (tgt := 98) hx hb dX3_counted_118 (by decide) ?_
      have hl : lv_has ls 4 [(3, .int (nI (i + 1))), (2, .int (stS dm nd an st (i + 1))), (0, .ref y)] := hl
      exact ih1 (i + 1) _ _ _ (by omega) ⟨hlt, hI, hS, lv_sub hl [2, 1, 0] rfl⟩
  · subst hv9
    have hl : lv_has ls 4 [(0, .ref y), (1, .int 8)] := hl
    refine lv_iconst (v := 0) hx hb dX3_counted_0 (by decide) ?_
    refine lv_istore_n (lv' := [(2, .int 0), (0, .ref y), (1, .int 8)]) hx hb dX3_counted_1 rfl hl (by decide) rfl (fun ls hl => ?_)
    refine lv_iload_n hx hb dX3_counted_2 rfl (lv_at hl 2 rfl) ?_
    refine lv_tableIn (tgt := 123) hx hb dX3_counted_3 (by decide) (by decide) rfl (by decide) ?_
    refine lv_iconst (v := 0) hx hb dX3_counted_123 (by decide) ?_
    refine lv_istore_n (lv' := [(3, .int 0), (2, .int 0), (0, .ref y), (1, .int 8)]) hx hb dX3_counted_124 rfl hl (by decide) rfl (fun ls hl => ?_)
    refine g_loop1 (A1 := Nat) (fun i H locs ls => i ≤ nc ∧ Inv E G H ∧ va_S (eA E) s.heap H locs ∧ lv_has ls 4 [(0, .ref y), (2, .int (kmS dm nd km i)), (3, .int (nI i))]) (fun i => 0) (fun i => 0) (fun i => nc - i) ?_ 0 _ _ _ ⟨Nat.zero_le _, hI, hS, lv_sub hl [2, 1, 0] rfl⟩
    intro i ih2 H locs ls hst
    obtain ⟨hi, hI, hS, hl⟩ := hst
    refine lv_iload_n hx hb dX3_counted_125 rfl (lv_at hl 2 rfl) ?_
    refine lv_aload_n hx hb dX3_counted_126 rfl (lv_at hl 0 rfl) ?_
    refine g_get (C := RX3) (T := TX3) (N := 9) (v := .ref nb) hx hb hts in_X3 hown hE hI hy rfl 8 (by decide) q851 (fun _ h9 => h9) rfl dX3_counted_127 ?_
    refine lv_bipush (v := 7) hx hb dX3_counted_130 (by decide) ?_
    refine g_iald hx hb hE hI hnb (i := 7) 7 rfl (by decide) (by decide) dX3_counted_132 ?_
    rw [show numF (tk, ck, rn, an, sp, ln, lf) nc 7 = nI nc from rfl]
    refine lv_icmp_ge (tgt := 151) hx hb dX3_counted_133 (by decide) (fun c1 => ?_) (fun c1 => ?_)
    · have ei : i = nc := (Nat.lt_or_ge i nc).elim (fun z => absurd c1 (nI_ge z (by omega))) (fun z => by omega)
      refine lv_iload_n hx hb dX3_counted_151 rfl (lv_at hl 1 rfl) ?_
      exact g_iret hx hb hr hlk hI hS dX3_counted_152 (Nat.le_of_ble_eq_true rfl) (Nat.le_of_ble_eq_true rfl) (⟨by rw [ei]; rfl, rfl⟩)
    · have hlt : i < nc := (Nat.lt_or_ge i nc).elim id (fun z => absurd (nI_le z (by omega)) c1)
      refine lv_iload_n hx hb dX3_counted_136 rfl (lv_at hl 1 rfl) ?_
      refine lv_aload_n hx hb dX3_counted_137 rfl (lv_at hl 0 rfl) ?_
      refine lv_iload_n hx hb dX3_counted_138 rfl (lv_at hl 2 rfl) ?_
      refine lv_iconst (v := 3) hx hb dX3_counted_139 (by decide) ?_
      refine g_ci0 (G := G) (v := kTold dm nd (km i) (nI 3)) hS (va_runV (As := [.int (nI i), .int 3]) (rest := [.int (kmS dm nd km i)]) ⟨hx, hb, hml, hown, hts⟩ (k_kTold l E G y (la, sk, ta, sw, nb) _ ((((tk, ck, rn, an, sp, ln, lf), (nd, dm), (nc, km)), (nu, uq), (ns, st)) : Sy) hMR hO i 3 hlt (by decide)) (cwV 2 hts (lw_V q985 q987 qs26 q36 q988) rfl rfl rfl (by decide +kernel) ⟨Nat.le_of_ble_eq_true rfl, Nat.le_of_ble_eq_true rfl⟩) (g_preV hE hI (g_recv hE hI hy rfl)) rfl rfl hl.1 rfl (lv_room (Nat.le_of_ble_eq_true rfl)) dX3_counted_140 ⟨Nat.le_of_ble_eq_true rfl, Nat.le_of_ble_eq_true rfl⟩) (fun H locs hI hS => ?_)
      refine lv_iadd hx hb dX3_counted_143 ?_
      refine lv_istore_n (lv' := [(2, .int ((kmS dm nd km i) + kTold dm nd (km i) (nI 3))), (0, .ref y), (3, .int (nI i))]) hx hb dX3_counted_144 rfl hl (by decide) rfl (fun ls hl => ?_)
      refine lv_iinc (v := nI (i + 1)) (lv' := [(3, .int (nI (i + 1))), (2, .int ((kmS dm nd km i) + kTold dm nd (km i) (nI 3))), (0, .ref y)]) hx hb dX3_counted_145 hl (k := 2) rfl (nI_1 (i)) (by decide) rfl (fun ls hl => ?_)
      refine lv_goto (tgt := 125) hx hb dX3_counted_148 (by decide) ?_
      have hl : lv_has ls 4 [(3, .int (nI (i + 1))), (2, .int (kmS dm nd km (i + 1))), (0, .ref y)] := hl
      exact ih2 (i + 1) _ _ _ (by omega) ⟨hlt, hI, hS, lv_sub hl [2, 1, 0] rfl⟩
  · subst hv9
    have hl : lv_has ls 4 [(0, .ref y), (1, .int 9)] := hl
    refine lv_iconst (v := 0) hx hb dX3_counted_0 (by decide) ?_
    refine lv_istore_n (lv' := [(2, .int 0), (0, .ref y), (1, .int 9)]) hx hb dX3_counted_1 rfl hl (by decide) rfl (fun ls hl => ?_)
    refine lv_iload_n hx hb dX3_counted_2 rfl (lv_at hl 2 rfl) ?_
    refine lv_tableOut (tgt := 153) hx hb dX3_counted_3 (by decide) (by decide) ?_
    refine lv_aload_n hx hb dX3_counted_153 rfl (lv_at hl 1 rfl) ?_
    refine g_get (C := RX3) (T := TX3) (N := 9) (v := .ref nb) hx hb hts in_X3 hown hE hI hy rfl 8 (by decide) q851 (fun _ h9 => h9) rfl dX3_counted_154 ?_
    refine lv_iload_n hx hb dX3_counted_157 rfl (lv_at hl 2 rfl) ?_
    refine lv_bipush (v := 6) hx hb dX3_counted_158 (by decide) ?_
    refine lv_isub hx hb dX3_counted_160 ?_
    refine g_iald hx hb hE hI hnb (i := 9 - 6) 3 (by decide) (by decide) (by decide) dX3_counted_161 ?_
    exact g_iret hx hb hr hlk hI hS dX3_counted_162 (Nat.le_of_ble_eq_true rfl) (Nat.le_of_ble_eq_true rfl) (⟨rfl, rfl⟩)
  · subst hv9
    have hl : lv_has ls 4 [(0, .ref y), (1, .int 10)] := hl
    refine lv_iconst (v := 0) hx hb dX3_counted_0 (by decide) ?_
    refine lv_istore_n (lv' := [(2, .int 0), (0, .ref y), (1, .int 10)]) hx hb dX3_counted_1 rfl hl (by decide) rfl (fun ls hl => ?_)
    refine lv_iload_n hx hb dX3_counted_2 rfl (lv_at hl 2 rfl) ?_
    refine lv_tableOut (tgt := 153) hx hb dX3_counted_3 (by decide) (by decide) ?_
    refine lv_aload_n hx hb dX3_counted_153 rfl (lv_at hl 1 rfl) ?_
    refine g_get (C := RX3) (T := TX3) (N := 9) (v := .ref nb) hx hb hts in_X3 hown hE hI hy rfl 8 (by decide) q851 (fun _ h9 => h9) rfl dX3_counted_154 ?_
    refine lv_iload_n hx hb dX3_counted_157 rfl (lv_at hl 2 rfl) ?_
    refine lv_bipush (v := 6) hx hb dX3_counted_158 (by decide) ?_
    refine lv_isub hx hb dX3_counted_160 ?_
    refine g_iald hx hb hE hI hnb (i := 10 - 6) 4 (by decide) (by decide) (by decide) dX3_counted_161 ?_
    exact g_iret hx hb hr hlk hI hS dX3_counted_162 (Nat.le_of_ble_eq_true rfl) (Nat.le_of_ble_eq_true rfl) (⟨rfl, rfl⟩)
  · subst hv9
    have hl : lv_has ls 4 [(0, .ref y), (1, .int 11)] := hl
    refine lv_iconst (v := 0) hx hb dX3_counted_0 (by decide) ?_
    refine lv_istore_n (lv' := [(2, .int 0), (0, .ref y), (1, .int 11)]) hx hb dX3_counted_1 rfl hl (by decide) rfl (fun ls hl => ?_)
    refine lv_iload_n hx hb dX3_counted_2 rfl (lv_at hl 2 rfl) ?_
    refine lv_tableOut (tgt := 153) hx hb dX3_counted_3 (by decide) (by decide) ?_
    refine lv_aload_n hx hb dX3_counted_153 rfl (lv_at hl 1 rfl) ?_
    refine g_get (C := RX3) (T := TX3) (N := 9) (v := .ref nb) hx hb hts in_X3 hown hE hI hy rfl 8 (by decide) q851 (fun _ h9 => h9) rfl dX3_counted_154 ?_
    refine lv_iload_n hx hb dX3_counted_157 rfl (lv_at hl 2 rfl) ?_
    refine lv_bipush (v := 6) hx hb dX3_counted_158 (by decide) ?_
    refine lv_isub hx hb dX3_counted_160 ?_
    refine g_iald hx hb hE hI hnb (i := 11 - 6) 5 (by decide) (by decide) (by decide) dX3_counted_161 ?_
    exact g_iret hx hb hr hlk hI hS dX3_counted_162 (Nat.le_of_ble_eq_true rfl) (Nat.le_of_ble_eq_true rfl) (⟨rfl, rfl⟩)
  · subst hv9
    have hl : lv_has ls 4 [(0, .ref y), (1, .int 12)] := hl
    refine lv_iconst (v := 0) hx hb dX3_counted_0 (by decide) ?_
    refine lv_istore_n (lv' := [(2, .int 0), (0, .ref y), (1, .int 12)]) hx hb dX3_counted_1 rfl hl (by decide) rfl (fun ls hl => ?_)
    refine lv_iload_n hx hb dX3_counted_2 rfl (lv_at hl 2 rfl) ?_
    refine lv_tableOut (tgt := 153) hx hb dX3_counted_3 (by decide) (by decide) ?_
    refine lv_aload_n hx hb dX3_counted_153 rfl (lv_at hl 1 rfl) ?_
    refine g_get (C := RX3) (T := TX3) (N := 9) (v := .ref nb) hx hb hts in_X3 hown hE hI hy rfl 8 (by decide) q851 (fun _ h9 => h9) rfl dX3_counted_154 ?_
    refine lv_iload_n hx hb dX3_counted_157 rfl (lv_at hl 2 rfl) ?_
    refine lv_bipush (v := 6) hx hb dX3_counted_158 (by decide) ?_
    refine lv_isub hx hb dX3_counted_160 ?_
    refine g_iald hx hb hE hI hnb (i := 12 - 6) 6 (by decide) (by decide) (by decide) dX3_counted_161 ?_
    exact g_iret hx hb hr hlk hI hS dX3_counted_162 (Nat.le_of_ble_eq_true rfl) (Nat.le_of_ble_eq_true rfl) (⟨rfl, rfl⟩)
set_option maxHeartbeats 4000000 in
set_option maxRecDepth 100000 in
theorem k_count (l : Launch) (E : EnvT) (G : Gh) (y : Nat) (M : MA) (th : Int32) (σ : Sy) (hMR : MRep E G y M th σ) (hO : OkS σ) (i : Int32) : Met l yX3_count (ws_ yX3_count cX3_count 2 (some .int)) ({ frames := 5, cells := 0, slots := 0, locals := 113 } : Room) (cP E G [.ref y, .int i]) (cI E (fun r G' => (oneR 13 i = 0 → r = cntV σ.1 σ.2.1.1 σ.2.2.1 σ.2.2.2 i) ∧ MRep E G' y M (oneR 13 i) σ ∧ Fr (Ow 4) G G')) 0 0 (eA E) := by
  obtain ⟨la, sk, ta, sw, nb⟩ := M
  obtain ⟨⟨⟨tk, ck, rn, an, sp, ln, lf⟩, ⟨nd, dm⟩, ⟨nc, km⟩⟩, ⟨nu, uq⟩, ⟨ns, st⟩⟩ := σ
  refine g_met (rm := ({ frames := 5, cells := 0, slots := 0, locals := 113 } : Room)) (av := [.ref y, .int i]) (lv := [(0, .ref y), (1, .int i)]) (by decide) (Nat.le_of_ble_eq_true rfl) rfl ?_
  intro p e s m below meth c ls hx hb hr hlk hml hin hts hown hE hI hL hS hl
  have hMR0 := hMR
  obtain ⟨hy, hla, hsk, hta, hsw, hnb⟩ := hMR0
  have hy : G y = some ((4, 0, 0), mO th (nI nd) (nI ns) (nI nu) la sk ta sw nb) := hy
  have hla : G la = some ((4, 1, 0), iO E 40 (lampF dm)) := hla
  have hsk : G sk = some ((4, 2, 0), iO E 40 (skyF st)) := hsk
  have hta : G ta = some ((4, 3, 0), iO E 36 (tailF km)) := hta
  have hsw : G sw = some ((4, 4, 0), iO E 96 (showF uq)) := hsw
  have hnb : G nb = some ((4, 5, 0), iO E 8 (numF (tk, ck, rn, an, sp, ln, lf) nc)) := hnb
  have hFr : Fr (Ow 4) G G := Fr.rf
  refine lv_aload_n hx hb dX3_count_0 rfl (lv_at hl 0 rfl) ?_
  refine lv_iconst (v := 0) hx hb dX3_count_1 (by decide) ?_
  refine g_put (C := RX3) (T := TX3) (N := 9) (v := .int 0) (ty := .int) (fs' := [.int 0, .int (nI nd), .int (nI ns), .int (nI nu), .ref la, .ref sk, .ref ta, .ref sw, .ref nb]) hx hb hts in_X3 tyX3 tyX3_ok nmX3 hown hE hI hS hL hy rfl 0 (by decide) q843 (fun _ h9 => h9) rfl (by decide +kernel) rfl rfl (Nat.le_of_ble_eq_true rfl) rfl dX3_count_2 (fun H locs hI hS => ?_)
  have hla := gU_o (x := ((4, 0, 0), .inr (7, [.int 0, .int (nI nd), .int (nI ns), .int (nI nu), .ref la, .ref sk, .ref ta, .ref sw, .ref nb]))) hy hla (by simp)
  have hsk := gU_o (x := ((4, 0, 0), .inr (7, [.int 0, .int (nI nd), .int (nI ns), .int (nI nu), .ref la, .ref sk, .ref ta, .ref sw, .ref nb]))) hy hsk (by simp)
  have hta := gU_o (x := ((4, 0, 0), .inr (7, [.int 0, .int (nI nd), .int (nI ns), .int (nI nu), .ref la, .ref sk, .ref ta, .ref sw, .ref nb]))) hy hta (by simp)
  have hsw := gU_o (x := ((4, 0, 0), .inr (7, [.int 0, .int (nI nd), .int (nI ns), .int (nI nu), .ref la, .ref sk, .ref ta, .ref sw, .ref nb]))) hy hsw (by simp)
  have hnb := gU_o (x := ((4, 0, 0), .inr (7, [.int 0, .int (nI nd), .int (nI ns), .int (nI nu), .ref la, .ref sk, .ref ta, .ref sw, .ref nb]))) hy hnb (by simp)
  have hFr : Fr (Ow 4) G (gU G y ((4, 0, 0), .inr (7, [.int 0, .int (nI nd), .int (nI ns), .int (nI nu), .ref la, .ref sk, .ref ta, .ref sw, .ref nb]))) := Fr.trans hFr (Fr.put (x := ((4, 0, 0), .inr (7, [.int 0, .int (nI nd), .int (nI ns), .int (nI nu), .ref la, .ref sk, .ref ta, .ref sw, .ref nb]))) hy rfl)
  have hy : (gU G y ((4, 0, 0), .inr (7, [.int 0, .int (nI nd), .int (nI ns), .int (nI nu), .ref la, .ref sk, .ref ta, .ref sw, .ref nb]))) y = some ((4, 0, 0), .inr (7, [.int 0, .int (nI nd), .int (nI ns), .int (nI nu), .ref la, .ref sk, .ref ta, .ref sw, .ref nb])) := gU_self
  obtain ⟨G0, hMR, hFr, hI⟩ : ∃ G0, MRep E G0 y (la, sk, ta, sw, nb) 0 ((((tk, ck, rn, an, sp, ln, lf), (nd, dm), (nc, km)), (nu, uq), (ns, st)) : Sy) ∧ Fr (Ow 4) G G0 ∧ Inv E G0 H := ⟨_, ⟨hy, hla, hsk, hta, hsw, hnb⟩, hFr, hI⟩
  have hMR0 := hMR
  obtain ⟨hy, hla, hsk, hta, hsw, hnb⟩ := hMR0
  have hy : G0 y = some ((4, 0, 0), mO 0 (nI nd) (nI ns) (nI nu) la sk ta sw nb) := hy
  have hla : G0 la = some ((4, 1, 0), iO E 40 (lampF dm)) := hla
  have hsk : G0 sk = some ((4, 2, 0), iO E 40 (skyF st)) := hsk
  have hta : G0 ta = some ((4, 3, 0), iO E 36 (tailF km)) := hta
  have hsw : G0 sw = some ((4, 4, 0), iO E 96 (showF uq)) := hsw
  have hnb : G0 nb = some ((4, 5, 0), iO E 8 (numF (tk, ck, rn, an, sp, ln, lf) nc)) := hnb
  have hnd : nd ≤ 8 := hO.cn.nd
  have hnc : nc ≤ 12 := hO.cn.nc
  have hnu : nu ≤ 24 := hO.nu
  have hns : ns ≤ 20 := hO.ns
  refine lv_iload_n hx hb dX3_count_5 rfl (lv_at hl 1 rfl) ?_
  refine lv_iconst (v := 0) hx hb dX3_count_6 (by decide) ?_
  refine lv_bipush (v := 12) hx hb dX3_count_7 (by decide) ?_
  refine g_ci0 (G := G0) (v := isInV i 0 12) hS (va_runS (As := [.int i, .int 0, .int 12]) (rest := []) ⟨hx, hb, hml, hown, hts⟩ (k_isIn l E G0 i 0 12) (va_cwS 3 hts (lw_S q880 q881 q36 q882) rfl rfl rfl (by decide +kernel) ⟨Nat.le_of_ble_eq_true rfl, Nat.le_of_ble_eq_true rfl⟩) (g_preS hE hI) rfl rfl hl.1 rfl (lv_room (Nat.le_of_ble_eq_true rfl)) dX3_count_9 ⟨Nat.le_of_ble_eq_true rfl, Nat.le_of_ble_eq_true rfl⟩) (fun H locs hI hS => ?_)
  refine lv_if_eq (tgt := 23) hx hb dX3_count_12 (by decide) (fun c1 => ?_) (fun c1 => ?_)
  · refine lv_aload_n hx hb dX3_count_23 rfl (lv_at hl 0 rfl) ?_
    refine lv_iconst (v := 1) hx hb dX3_count_24 (by decide) ?_
    refine g_ci hS (va_runV (As := [.int 1]) (rest := []) ⟨hx, hb, hml, hown, hts⟩ (k_fail l E G0 y (la, sk, ta, sw, nb) _ ((((tk, ck, rn, an, sp, ln, lf), (nd, dm), (nc, km)), (nu, uq), (ns, st)) : Sy) hMR 1) (cwV 1 hts (lw_V q883 q885 qs13 q36 q886) rfl rfl rfl (by decide +kernel) ⟨Nat.le_of_ble_eq_true rfl, Nat.le_of_ble_eq_true rfl⟩) (g_preV hE hI (g_recv hE hI hy rfl)) rfl rfl hl.1 rfl (lv_room (Nat.le_of_ble_eq_true rfl)) dX3_count_25 ⟨Nat.le_of_ble_eq_true rfl, Nat.le_of_ble_eq_true rfl⟩) (fun r G1 H locs hp hI hS => ?_)
    obtain ⟨-, hM1, hF1⟩ := hp
    have hcode : oneR 13 i = 1 := if_pos ((outI_l (n := 13) (by decide) (by decide)).mp c1)
    exact g_iret hx hb hr hlk hI hS dX3_count_28 (Nat.le_of_ble_eq_true rfl) (Nat.le_of_ble_eq_true rfl) (⟨fun z => absurd (hcode.symm.trans z) (by decide), by rw [hcode]; exact hM1, Fr.trans hFr hF1⟩)
  · have h1 : ¬ outI i 13 := fun z => c1 ((outI_l (n := 13) (by decide) (by decide)).mpr z)
    have hcode : oneR 13 i = 0 := if_neg h1
    obtain ⟨k, hk, e_k⟩ := outI_no (n := 13) (by omega) h1
    subst e_k
    have c_k : (nI k).toNatClampNeg = k := nI_clamp (by omega)
    refine lv_aload_n hx hb dX3_count_15 rfl (lv_at hl 0 rfl) ?_
    refine lv_iload_n hx hb dX3_count_16 rfl (lv_at hl 1 rfl) ?_
    refine g_ci0 (G := G0) (v := cntV ((tk, ck, rn, an, sp, ln, lf), (nd, dm), (nc, km)) nu ns st (nI k)) hS (va_runV (As := [.int (nI k)]) (rest := []) ⟨hx, hb, hml, hown, hts⟩ (k_counted l E G0 y (la, sk, ta, sw, nb) _ ((((tk, ck, rn, an, sp, ln, lf), (nd, dm), (nc, km)), (nu, uq), (ns, st)) : Sy) hMR hO k hk) (cwV 1 hts (lw_V q993 q995 qs27 q36 q996) rfl rfl rfl (by decide +kernel) ⟨Nat.le_of_ble_eq_true rfl, Nat.le_of_ble_eq_true rfl⟩) (g_preV hE hI (g_recv hE hI hy rfl)) rfl rfl hl.1 rfl (lv_room (Nat.le_of_ble_eq_true rfl)) dX3_count_17 ⟨Nat.le_of_ble_eq_true rfl, Nat.le_of_ble_eq_true rfl⟩) (fun H locs hI hS => ?_)
    refine lv_goto (tgt := 28) hx hb dX3_count_20 (by decide) ?_
    exact g_iret hx hb hr hlk hI hS dX3_count_28 (Nat.le_of_ble_eq_true rfl) (Nat.le_of_ble_eq_true rfl) (⟨fun _ => rfl, by rw [hcode]; exact hMR, hFr⟩)
