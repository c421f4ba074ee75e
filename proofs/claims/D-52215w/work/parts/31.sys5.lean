/-! CONTRACTS of StarConsole: told, glare, about, comet. Printed by gen/p31.py -/
set_option maxRecDepth 100000
set_option maxHeartbeats 4000000 in
set_option maxRecDepth 100000 in
theorem m_dTold (l : Launch) (E : EnvT) (G : Gh) (h : Nat) (t : Tg) (d : Dm) (hg : G h = some (t, dOt d)) (what : Int32) : Met l yX1_dimmerTold (ws_ yX1_dimmerTold cX1_dimmerTold 2 (some .int)) ({ frames := 0, cells := 0, slots := 0, locals := 0 } : Room) (cP E G [.ref h, .int what]) (cI E (fun r G' => r = toldV d what ∧ G' = G)) 0 0 (eA E) := by
  refine g_met (rm := ({ frames := 0, cells := 0, slots := 0, locals := 0 } : Room)) (av := [.ref h, .int what]) (lv := [(0, .ref h), (1, .int what)]) (by decide) (Nat.le_of_ble_eq_true rfl) rfl ?_
  intro p e s m below meth c ls hx hb hr hlk hml hin hts hown hE hI hL hS hl
  refine lv_iload_n hx hb dX1_dimmerTold_0 rfl (lv_at hl 1 rfl) ?_
  by_cases z0 : what = 0
  · subst z0
    refine lv_tableIn (tgt := 32) hx hb dX1_dimmerTold_1 (by decide) (by decide) rfl (by decide) ?_
    refine lv_aload_n hx hb dX1_dimmerTold_32 rfl (lv_at hl 0 rfl) ?_
    refine g_get (C := RX4) (T := TX4) (N := 5) (v := .int d.1) hx hb hts in_X4 hown hE hI hg rfl 0 (by decide) q399 (fun _ h9 => h9) rfl dX1_dimmerTold_33 ?_
    exact g_iret hx hb hr hlk hI hS dX1_dimmerTold_36 (Nat.le_of_ble_eq_true rfl) (Nat.le_of_ble_eq_true rfl) (⟨(if_pos rfl).symm, rfl⟩)
  · by_cases z1 : what = 1
    · subst z1
      refine lv_tableIn (tgt := 37) hx hb dX1_dimmerTold_1 (by decide) (by decide) rfl (by decide) ?_
      refine lv_aload_n hx hb dX1_dimmerTold_37 rfl (lv_at hl 0 rfl) ?_
      refine g_getN (C := RX4) (T := TX4) (N := 5) (v := .int d.2.2.1) hx hb hts in_X4 hown hE hI hg rfl 2 (by decide) q403 (fun _ h9 => h9) rfl dX1_dimmerTold_38 ?_
      exact g_iret hx hb hr hlk hI hS dX1_dimmerTold_41 (Nat.le_of_ble_eq_true rfl) (Nat.le_of_ble_eq_true rfl) (⟨rfl, rfl⟩)
    · by_cases z2 : what = 2
      · subst z2
        refine lv_tableIn (tgt := 42) hx hb dX1_dimmerTold_1 (by decide) (by decide) rfl (by decide) ?_
        refine lv_aload_n hx hb dX1_dimmerTold_42 rfl (lv_at hl 0 rfl) ?_
        refine g_getN (C := RX4) (T := TX4) (N := 5) (v := .int d.2.2.2.1) hx hb hts in_X4 hown hE hI hg rfl 3 (by decide) q406 (fun _ h9 => h9) rfl dX1_dimmerTold_43 ?_
        exact g_iret hx hb hr hlk hI hS dX1_dimmerTold_46 (Nat.le_of_ble_eq_true rfl) (Nat.le_of_ble_eq_true rfl) (⟨rfl, rfl⟩)
      · by_cases z3 : what = 3
        · subst z3
          refine lv_tableIn (tgt := 47) hx hb dX1_dimmerTold_1 (by decide) (by decide) rfl (by decide) ?_
          refine lv_aload_n hx hb dX1_dimmerTold_47 rfl (lv_at hl 0 rfl) ?_
          refine g_get (C := RX4) (T := TX4) (N := 5) (v := .int d.2.1) hx hb hts in_X4 hown hE hI hg rfl 1 (by decide) q401 (fun _ h9 => h9) rfl dX1_dimmerTold_48 ?_
          exact g_iret hx hb hr hlk hI hS dX1_dimmerTold_51 (Nat.le_of_ble_eq_true rfl) (Nat.le_of_ble_eq_true rfl) (⟨rfl, rfl⟩)
        · have ht9 : what.toInt < 0 ∨ 3 < what.toInt := by have := lv_neT z0 (a := 0) (by decide); have := lv_neT z1 (a := 1) (by decide); have := lv_neT z2 (a := 2) (by decide); have := lv_neT z3 (a := 3) (by decide); omega
          refine lv_tableOut (tgt := 52) hx hb dX1_dimmerTold_1 ht9 (by decide) ?_
          refine lv_aload_n hx hb dX1_dimmerTold_52 rfl (lv_at hl 0 rfl) ?_
          refine g_getN (C := RX4) (T := TX4) (N := 5) (v := .int d.2.2.2.2) hx hb hts in_X4 hown hE hI hg rfl 4 (by decide) q408 (fun _ h9 => h9) rfl dX1_dimmerTold_53 ?_
          exact g_iret hx hb hr hlk hI hS dX1_dimmerTold_56 (Nat.le_of_ble_eq_true rfl) (Nat.le_of_ble_eq_true rfl) (⟨((if_neg z0).trans ((if_neg z1).trans ((if_neg z2).trans (if_neg z3)))).symm, rfl⟩)
set_option maxHeartbeats 4000000 in
set_option maxRecDepth 100000 in
theorem m_sTold (l : Launch) (E : EnvT) (G : Gh) (x : Nat) (B : XA) (σ : Sy) (hXR : XRep E G x B σ) (h : Nat) (t : Tg) (s0 : Sm) (hs : G h = some (t, sOt s0)) (what : Int32) : Met l yX1_starTold (ws_ yX1_starTold cX1_starTold 3 (some .int)) ({ frames := 6, cells := 0, slots := 0, locals := 130 } : Room) (cP E G [.ref x, .ref h, .int what]) (cI E (fun r G' => r = sTold σ.1.2.1.2 σ.1.2.1.1 σ.1.1.2.2.2.1 s0 what ∧ G' = G)) 0 0 (eA E) := by
  obtain ⟨⟨con, ld, lc, dA, kA⟩, ⟨lu, uA⟩, ⟨lt, sA⟩⟩ := B
  obtain ⟨⟨⟨tk, ck, rn, an, sp, ln, lf⟩, ⟨nd, dm⟩, ⟨nc, km⟩⟩, ⟨nu, uq⟩, ⟨ns, st⟩⟩ := σ
  refine g_met (rm := ({ frames := 6, cells := 0, slots := 0, locals := 130 } : Room)) (av := [.ref x, .ref h, .int what]) (lv := [(0, .ref x), (1, .ref h), (2, .int what)]) (by decide) (Nat.le_of_ble_eq_true rfl) rfl ?_
  intro p e s m below meth c ls hx hb hr hlk hml hin hts hown hE hI hL hS hl
  have hXR0 := hXR
  obtain ⟨hX0, hR, ⟨eu, hU⟩, ⟨et, hlt0⟩, hst0⟩ := hXR0
  have hX0 : G x = some ((3, 0, 0), xO lu lt con) := hX0
  have hR : CRep E G 1 (con, ld, lc, dA, kA) ((tk, ck, rn, an, sp, ln, lf), (nd, dm), (nc, km)) := hR
  have hU : URep E G 3 lu eu nu uA uq := hU
  have hlt0 : LRep E G (3, 3, 0) (3, 4, 0) lt et ns sA := hlt0
  have hst0 : ∀ k, k < ns → G (sA k) = some ((3, 6, k), sOt (st k)) := hst0
  have hR0 := hR
  obtain ⟨hcon, ⟨ed, hld⟩, ⟨ec, hlc⟩, hd, hk⟩ := hR0
  have hcon : G con = some ((1, 0, 0), coO tk ck rn an sp ln lf ld lc) := hcon
  have hld : LRep E G (1, 1, 0) (1, 2, 0) ld ed nd dA := hld
  have hlc : LRep E G (1, 3, 0) (1, 4, 0) lc ec nc kA := hlc
  have hd : ∀ k, k < nd → G (dA k) = some ((1, 5, k), dOt (dm k)) := hd
  have hk : ∀ k, k < nc → G (kA k) = some ((1, 6, k), kOt (km k)) := hk
  have hn1 : nd ≤ 36 := hld.n36
  have hn2 : nc ≤ 36 := hlc.n36
  have hn3 : nu ≤ 36 := hU.1.n36
  have hn4 : ns ≤ 36 := hlt0.n36
  refine lv_iload_n hx hb dX1_starTold_0 rfl (lv_at hl 2 rfl) ?_
  refine lv_if_ne (tgt := 11) hx hb dX1_starTold_1 (by decide) (fun c0 => ?_) (fun c0 => ?_)
  · refine lv_iload_n hx hb dX1_starTold_11 rfl (lv_at hl 2 rfl) ?_
    refine lv_iconst (v := 1) hx hb dX1_starTold_12 (by decide) ?_
    refine lv_icmp_ne (tgt := 23) hx hb dX1_starTold_13 (by decide) (fun c1 => ?_) (fun c1 => ?_)
    · refine lv_iload_n hx hb dX1_starTold_23 rfl (lv_at hl 2 rfl) ?_
      refine lv_iconst (v := 2) hx hb dX1_starTold_24 (by decide) ?_
      refine lv_icmp_ne (tgt := 39) hx hb dX1_starTold_25 (by decide) (fun c2 => ?_) (fun c2 => ?_)
      · refine lv_aload_n hx hb dX1_starTold_39 rfl (lv_at hl 0 rfl) ?_
        refine g_get (C := RX1) (T := TX1) (N := 3) (v := .ref con) hx hb hts in_X1 hown hE hI hX0 rfl 2 (by decide) q145 (fun _ h9 => h9) rfl dX1_starTold_40 ?_
        refine lv_aload_n hx hb dX1_starTold_43 rfl (lv_at hl 1 rfl) ?_
        refine g_ci0 (G := G) (v := starV dm nd an s0) hS (va_runV (As := [.ref h]) (rest := []) ⟨hx, hb, hml, hown, hts⟩ (m_isSeenS l E G 1 (con, ld, lc, dA, kA) ((tk, ck, rn, an, sp, ln, lf), (nd, dm), (nc, km)) hR h t s0 hs) (cwV 1 hts (lw_V q219 q220 q221 q35 q222) rfl rfl rfl (by decide +kernel) ⟨Nat.le_of_ble_eq_true rfl, Nat.le_of_ble_eq_true rfl⟩) (g_preV hE hI (g_recv hE hI hcon rfl)) rfl rfl hl.1 rfl (lv_room (Nat.le_of_ble_eq_true rfl)) dX1_starTold_44 ⟨Nat.le_of_ble_eq_true rfl, Nat.le_of_ble_eq_true rfl⟩) (fun H locs hI hS => ?_)
        refine lv_if_eq (tgt := 54) hx hb dX1_starTold_47 (by decide) (fun c3 => ?_) (fun c3 => ?_)
        · refine lv_iconst (v := 0) hx hb dX1_starTold_54 (by decide) ?_
          exact g_iret hx hb hr hlk hI hS dX1_starTold_55 (Nat.le_of_ble_eq_true rfl) (Nat.le_of_ble_eq_true rfl) (⟨((if_neg c0).trans ((if_neg c1).trans ((if_neg c2).trans (if_pos c3)))).symm, rfl⟩)
        · refine lv_iconst (v := 1) hx hb dX1_starTold_50 (by decide) ?_
          refine lv_goto (tgt := 55) hx hb dX1_starTold_51 (by decide) ?_
          exact g_iret hx hb hr hlk hI hS dX1_starTold_55 (Nat.le_of_ble_eq_true rfl) (Nat.le_of_ble_eq_true rfl) (⟨((if_neg c0).trans ((if_neg c1).trans ((if_neg c2).trans (if_neg c3)))).symm, rfl⟩)
      · refine lv_aload_n hx hb dX1_starTold_28 rfl (lv_at hl 0 rfl) ?_
        refine g_get (C := RX1) (T := TX1) (N := 3) (v := .ref con) hx hb hts in_X1 hown hE hI hX0 rfl 2 (by decide) q145 (fun _ h9 => h9) rfl dX1_starTold_29 ?_
        refine lv_aload_n hx hb dX1_starTold_32 rfl (lv_at hl 1 rfl) ?_
        refine g_ci0 (G := G) (v := rnd (s0.1 + an)) hS (va_runV (As := [.ref h]) (rest := []) ⟨hx, hb, hml, hown, hts⟩ (m_placeOf l E G 1 (con, ld, lc, dA, kA) ((tk, ck, rn, an, sp, ln, lf), (nd, dm), (nc, km)) hR h t s0 hs) (cwV 1 hts (lw_V q265 q224 q225 q35 q226) rfl rfl rfl (by decide +kernel) ⟨Nat.le_of_ble_eq_true rfl, Nat.le_of_ble_eq_true rfl⟩) (g_preV hE hI (g_recv hE hI hcon rfl)) rfl rfl hl.1 rfl (lv_room (Nat.le_of_ble_eq_true rfl)) dX1_starTold_33 ⟨Nat.le_of_ble_eq_true rfl, Nat.le_of_ble_eq_true rfl⟩) (fun H locs hI hS => ?_)
        refine lv_goto (tgt := 55) hx hb dX1_starTold_36 (by decide) ?_
        exact g_iret hx hb hr hlk hI hS dX1_starTold_55 (Nat.le_of_ble_eq_true rfl) (Nat.le_of_ble_eq_true rfl) (⟨((if_neg c0).trans ((if_neg c1).trans (if_pos c2))).symm, rfl⟩)
    · refine lv_aload_n hx hb dX1_starTold_16 rfl (lv_at hl 1 rfl) ?_
      refine g_ci0 (G := G) (v := s0.2) hS (va_runV (As := []) (rest := []) ⟨hx, hb, hml, hown, hts⟩ (m_light l E G h t s0.1 s0.2 hs) (cwV 0 hts (lw_V q264 q235 q236 q53 q237) rfl rfl rfl (by decide +kernel) ⟨Nat.le_of_ble_eq_true rfl, Nat.le_of_ble_eq_true rfl⟩) (g_preV hE hI (g_recv hE hI hs rfl)) rfl rfl hl.1 rfl (lv_room (Nat.le_of_ble_eq_true rfl)) dX1_starTold_17 ⟨Nat.le_of_ble_eq_true rfl, Nat.le_of_ble_eq_true rfl⟩) (fun H locs hI hS => ?_)
      refine lv_goto (tgt := 55) hx hb dX1_starTold_20 (by decide) ?_
      exact g_iret hx hb hr hlk hI hS dX1_starTold_55 (Nat.le_of_ble_eq_true rfl) (Nat.le_of_ble_eq_true rfl) (⟨((if_neg c0).trans (if_pos c1)).symm, rfl⟩)
  · refine lv_aload_n hx hb dX1_starTold_4 rfl (lv_at hl 1 rfl) ?_
    refine g_ci0 (G := G) (v := s0.1) hS (va_runV (As := []) (rest := []) ⟨hx, hb, hml, hown, hts⟩ (m_degree l E G h t s0.1 s0.2 hs) (cwV 0 hts (lw_V q263 q228 q229 q53 q230) rfl rfl rfl (by decide +kernel) ⟨Nat.le_of_ble_eq_true rfl, Nat.le_of_ble_eq_true rfl⟩) (g_preV hE hI (g_recv hE hI hs rfl)) rfl rfl hl.1 rfl (lv_room (Nat.le_of_ble_eq_true rfl)) dX1_starTold_5 ⟨Nat.le_of_ble_eq_true rfl, Nat.le_of_ble_eq_true rfl⟩) (fun H locs hI hS => ?_)
    refine lv_goto (tgt := 55) hx hb dX1_starTold_8 (by decide) ?_
    exact g_iret hx hb hr hlk hI hS dX1_starTold_55 (Nat.le_of_ble_eq_true rfl) (Nat.le_of_ble_eq_true rfl) (⟨(if_pos c0).symm, rfl⟩)
set_option maxHeartbeats 4000000 in
set_option maxRecDepth 100000 in
theorem m_kTold (l : Launch) (E : EnvT) (G : Gh) (x : Nat) (B : XA) (σ : Sy) (hXR : XRep E G x B σ) (h : Nat) (t : Tg) (k0 : Km) (hs : G h = some (t, kOt k0)) (what : Int32) : Met l yX1_cometTold (ws_ yX1_cometTold cX1_cometTold 3 (some .int)) ({ frames := 6, cells := 0, slots := 0, locals := 130 } : Room) (cP E G [.ref x, .ref h, .int what]) (cI E (fun r G' => r = kTold σ.1.2.1.2 σ.1.2.1.1 k0 what ∧ G' = G)) 0 0 (eA E) := by
  obtain ⟨⟨con, ld, lc, dA, kA⟩, ⟨lu, uA⟩, ⟨lt, sA⟩⟩ := B
  obtain ⟨⟨⟨tk, ck, rn, an, sp, ln, lf⟩, ⟨nd, dm⟩, ⟨nc, km⟩⟩, ⟨nu, uq⟩, ⟨ns, st⟩⟩ := σ
  refine g_met (rm := ({ frames := 6, cells := 0, slots := 0, locals := 130 } : Room)) (av := [.ref x, .ref h, .int what]) (lv := [(0, .ref x), (1, .ref h), (2, .int what)]) (by decide) (Nat.le_of_ble_eq_true rfl) rfl ?_
  intro p e s m below meth c ls hx hb hr hlk hml hin hts hown hE hI hL hS hl
  have hXR0 := hXR
  obtain ⟨hX0, hR, ⟨eu, hU⟩, ⟨et, hlt0⟩, hst0⟩ := hXR0
  have hX0 : G x = some ((3, 0, 0), xO lu lt con) := hX0
  have hR : CRep E G 1 (con, ld, lc, dA, kA) ((tk, ck, rn, an, sp, ln, lf), (nd, dm), (nc, km)) := hR
  have hU : URep E G 3 lu eu nu uA uq := hU
  have hlt0 : LRep E G (3, 3, 0) (3, 4, 0) lt et ns sA := hlt0
  have hst0 : ∀ k, k < ns → G (sA k) = some ((3, 6, k), sOt (st k)) := hst0
  have hR0 := hR
  obtain ⟨hcon, ⟨ed, hld⟩, ⟨ec, hlc⟩, hd, hk⟩ := hR0
  have hcon : G con = some ((1, 0, 0), coO tk ck rn an sp ln lf ld lc) := hcon
  have hld : LRep E G (1, 1, 0) (1, 2, 0) ld ed nd dA := hld
  have hlc : LRep E G (1, 3, 0) (1, 4, 0) lc ec nc kA := hlc
  have hd : ∀ k, k < nd → G (dA k) = some ((1, 5, k), dOt (dm k)) := hd
  have hk : ∀ k, k < nc → G (kA k) = some ((1, 6, k), kOt (km k)) := hk
  have hn1 : nd ≤ 36 := hld.n36
  have hn2 : nc ≤ 36 := hlc.n36
  have hn3 : nu ≤ 36 := hU.1.n36
  have hn4 : ns ≤ 36 := hlt0.n36
  refine lv_iload_n hx hb dX1_cometTold_0 rfl (lv_at hl 2 rfl) ?_
  refine lv_if_ne (tgt := 11) hx hb dX1_cometTold_1 (by decide) (fun c0 => ?_) (fun c0 => ?_)
  · refine lv_iload_n hx hb dX1_cometTold_11 rfl (lv_at hl 2 rfl) ?_
    refine lv_iconst (v := 1) hx hb dX1_cometTold_12 (by decide) ?_
    refine lv_icmp_ne (tgt := 23) hx hb dX1_cometTold_13 (by decide) (fun c1 => ?_) (fun c1 => ?_)
    · refine lv_iload_n hx hb dX1_cometTold_23 rfl (lv_at hl 2 rfl) ?_
      refine lv_iconst (v := 2) hx hb dX1_cometTold_24 (by decide) ?_
      refine lv_icmp_ne (tgt := 35) hx hb dX1_cometTold_25 (by decide) (fun c2 => ?_) (fun c2 => ?_)
      · refine lv_aload_n hx hb dX1_cometTold_35 rfl (lv_at hl 0 rfl) ?_
        refine g_get (C := RX1) (T := TX1) (N := 3) (v := .ref con) hx hb hts in_X1 hown hE hI hX0 rfl 2 (by decide) q145 (fun _ h9 => h9) rfl dX1_cometTold_36 ?_
        refine lv_aload_n hx hb dX1_cometTold_39 rfl (lv_at hl 1 rfl) ?_
        refine g_ci0 (G := G) (v := comeV dm nd k0) hS (va_runV (As := [.ref h]) (rest := []) ⟨hx, hb, hml, hown, hts⟩ (m_isSeenK l E G 1 (con, ld, lc, dA, kA) ((tk, ck, rn, an, sp, ln, lf), (nd, dm), (nc, km)) hR h t k0 hs) (cwV 1 hts (lw_V q247 q248 q249 q35 q250) rfl rfl rfl (by decide +kernel) ⟨Nat.le_of_ble_eq_true rfl, Nat.le_of_ble_eq_true rfl⟩) (g_preV hE hI (g_recv hE hI hcon rfl)) rfl rfl hl.1 rfl (lv_room (Nat.le_of_ble_eq_true rfl)) dX1_cometTold_40 ⟨Nat.le_of_ble_eq_true rfl, Nat.le_of_ble_eq_true rfl⟩) (fun H locs hI hS => ?_)
        refine lv_if_eq (tgt := 50) hx hb dX1_cometTold_43 (by decide) (fun c3 => ?_) (fun c3 => ?_)
        · refine lv_iconst (v := 0) hx hb dX1_cometTold_50 (by decide) ?_
          exact g_iret hx hb hr hlk hI hS dX1_cometTold_51 (Nat.le_of_ble_eq_true rfl) (Nat.le_of_ble_eq_true rfl) (⟨((if_neg c0).trans ((if_neg c1).trans ((if_neg c2).trans (if_pos c3)))).symm, rfl⟩)
        · refine lv_iconst (v := 1) hx hb dX1_cometTold_46 (by decide) ?_
          refine lv_goto (tgt := 51) hx hb dX1_cometTold_47 (by decide) ?_
          exact g_iret hx hb hr hlk hI hS dX1_cometTold_51 (Nat.le_of_ble_eq_true rfl) (Nat.le_of_ble_eq_true rfl) (⟨((if_neg c0).trans ((if_neg c1).trans ((if_neg c2).trans (if_neg c3)))).symm, rfl⟩)
      · refine lv_aload_n hx hb dX1_cometTold_28 rfl (lv_at hl 1 rfl) ?_
        refine g_getN (C := RX8) (T := TX8) (N := 3) (v := .int k0.2.2) hx hb hts in_X8 hown hE hI hs rfl 2 (by decide) q720 (fun _ h9 => h9) rfl dX1_cometTold_29 ?_
        refine lv_goto (tgt := 51) hx hb dX1_cometTold_32 (by decide) ?_
        exact g_iret hx hb hr hlk hI hS dX1_cometTold_51 (Nat.le_of_ble_eq_true rfl) (Nat.le_of_ble_eq_true rfl) (⟨((if_neg c0).trans ((if_neg c1).trans (if_pos c2))).symm, rfl⟩)
    · refine lv_aload_n hx hb dX1_cometTold_16 rfl (lv_at hl 1 rfl) ?_
      refine g_get (C := RX8) (T := TX8) (N := 3) (v := .int k0.1) hx hb hts in_X8 hown hE hI hs rfl 0 (by decide) q715 (fun _ h9 => h9) rfl dX1_cometTold_17 ?_
      refine lv_goto (tgt := 51) hx hb dX1_cometTold_20 (by decide) ?_
      exact g_iret hx hb hr hlk hI hS dX1_cometTold_51 (Nat.le_of_ble_eq_true rfl) (Nat.le_of_ble_eq_true rfl) (⟨((if_neg c0).trans (if_pos c1)).symm, rfl⟩)
  · refine lv_aload_n hx hb dX1_cometTold_4 rfl (lv_at hl 1 rfl) ?_
    refine g_getN (C := RX8) (T := TX8) (N := 3) (v := .int k0.2.1) hx hb hts in_X8 hown hE hI hs rfl 1 (by decide) q718 (fun _ h9 => h9) rfl dX1_cometTold_5 ?_
    refine lv_goto (tgt := 51) hx hb dX1_cometTold_8 (by decide) ?_
    exact g_iret hx hb hr hlk hI hS dX1_cometTold_51 (Nat.le_of_ble_eq_true rfl) (Nat.le_of_ble_eq_true rfl) (⟨(if_pos c0).symm, rfl⟩)
set_option maxHeartbeats 4000000 in
set_option maxRecDepth 100000 in
theorem m_Xtold (l : Launch) (E : EnvT) (G : Gh) (hst : l.stackTraces = false) (x : Nat) (B : XA) (σ : Sy) (hXR : XRep E G x B σ) (i j : Int32) : vx_Met l yX1_told (ws_ yX1_told cX1_told 4 (some .int)) ({ frames := 8, cells := 2, slots := 12, locals := 123 } : Room) (cP E G [.ref x, .int i, .int j]) (cI E (fun r G' => idxR σ.1.2.1.1 i 5 j = 0 ∧ r = toldV (σ.1.2.1.2 i.toNatClampNeg) j ∧ G' = G)) (cX E (fun X G' => X = xIOB ∧ idxR σ.1.2.1.1 i 5 j = 1 ∧ G' = G)) 2 12 (eA E) := by
  obtain ⟨⟨con, ld, lc, dA, kA⟩, ⟨lu, uA⟩, ⟨lt, sA⟩⟩ := B
  obtain ⟨⟨⟨tk, ck, rn, an, sp, ln, lf⟩, ⟨nd, dm⟩, ⟨nc, km⟩⟩, ⟨nu, uq⟩, ⟨ns, st⟩⟩ := σ
  refine g_xmet (rm := ({ frames := 8, cells := 2, slots := 12, locals := 123 } : Room)) (av := [.ref x, .int i, .int j]) (lv := [(0, .ref x), (1, .int i), (2, .int j)]) (by decide) (Nat.le_of_ble_eq_true rfl) rfl ?_
  intro p e s m below meth c ls hx hb hr hlk hml hno hts hown hE hI hL hS hl
  have hXR0 := hXR
  obtain ⟨hX0, hR, ⟨eu, hU⟩, ⟨et, hlt0⟩, hst0⟩ := hXR0
  have hX0 : G x = some ((3, 0, 0), xO lu lt con) := hX0
  have hR : CRep E G 1 (con, ld, lc, dA, kA) ((tk, ck, rn, an, sp, ln, lf), (nd, dm), (nc, km)) := hR
  have hU : URep E G 3 lu eu nu uA uq := hU
  have hlt0 : LRep E G (3, 3, 0) (3, 4, 0) lt et ns sA := hlt0
  have hst0 : ∀ k, k < ns → G (sA k) = some ((3, 6, k), sOt (st k)) := hst0
  have hR0 := hR
  obtain ⟨hcon, ⟨ed, hld⟩, ⟨ec, hlc⟩, hd, hk⟩ := hR0
  have hcon : G con = some ((1, 0, 0), coO tk ck rn an sp ln lf ld lc) := hcon
  have hld : LRep E G (1, 1, 0) (1, 2, 0) ld ed nd dA := hld
  have hlc : LRep E G (1, 3, 0) (1, 4, 0) lc ec nc kA := hlc
  have hd : ∀ k, k < nd → G (dA k) = some ((1, 5, k), dOt (dm k)) := hd
  have hk : ∀ k, k < nc → G (kA k) = some ((1, 6, k), kOt (km k)) := hk
  have hn1 : nd ≤ 36 := hld.n36
  have hn2 : nc ≤ 36 := hlc.n36
  have hn3 : nu ≤ 36 := hU.1.n36
  have hn4 : ns ≤ 36 := hlt0.n36
  refine lv_aload_n hx hb dX1_told_0 rfl (lv_at hl 0 rfl) ?_
  refine g_get (C := RX1) (T := TX1) (N := 3) (v := .ref con) hx hb hts in_X1 hown hE hI hX0 rfl 2 (by decide) q145 (fun _ h9 => h9) rfl dX1_told_1 ?_
  refine g_getN (C := RX2) (T := TX2) (N := 9) (v := .ref ld) hx hb hts in_X2 hown hE hI hcon rfl 7 (by decide) q120 (fun _ h9 => h9) rfl dX1_told_4 ?_
  refine lv_iload_n hx hb dX1_told_7 rfl (lv_at hl 1 rfl) ?_
  refine g_xr hS (vx_runS (As := [.ref ld, .int i]) (rest := []) ⟨hx, hb, hml, hown, hts⟩ (m_known l E G hst (1, 1, 0) (1, 2, 0) ld ed nd dA hld i) (va_cwS 2 hts (lw_S q524 q525 q31 q526) rfl rfl rfl (by decide +kernel) ⟨Nat.le_of_ble_eq_true rfl, Nat.le_of_ble_eq_true rfl⟩) (g_preS hE hI) rfl rfl hl.1 rfl (lv_room (Nat.le_of_ble_eq_true rfl)) dX1_told_8 ⟨Nat.le_of_ble_eq_true rfl, Nat.le_of_ble_eq_true rfl⟩) (fun X ce q9 G1 H locs hp hI hS k1 k2 k3 => ?_) (fun r G1 H locs hp hI hS => ?_)
  · obtain ⟨rfl, hc, hG1⟩ := hp
    exact g_xout hno hlk hI hS k1 k2 k3 (Nat.le_of_ble_eq_true rfl) (Nat.le_of_ble_eq_true rfl) (⟨rfl, if_pos hc, hG1⟩)
  · obtain ⟨k, hkn, hik, rfl, hG1⟩ := hp
    rw [hG1] at hI
    have hno1 : ¬ outI i nd := by rw [hik]; exact fun z => z.elim (nI_pos (by omega)) (nI_ge hkn (by omega))
    have hcl : i.toNatClampNeg = k := by rw [hik]; exact nI_clamp (by omega)
    have hf := hd k hkn
    refine g_cast hx hb hts hown q255 hE hI hf rfl rfl dX1_told_11 ?_
    refine lv_astore_n (lv' := [(3, .ref (dA k)), (0, .ref x), (1, .int i), (2, .int j)]) hx hb dX1_told_14 rfl hl (by decide) rfl (fun ls hl => ?_)
    refine lv_iload_n hx hb dX1_told_15 rfl (lv_at hl 3 rfl) ?_
    refine lv_iconst (v := 5) hx hb dX1_told_16 (by decide) ?_
    refine g_xv hS (vx_runS (As := [.int j, .int 5]) (rest := []) ⟨hx, hb, hml, hown, hts⟩ (m_requireIndex l E G hst j 5) (va_cwS 2 hts (lw_S q535 q536 q31 q537) rfl rfl rfl (by decide +kernel) ⟨Nat.le_of_ble_eq_true rfl, Nat.le_of_ble_eq_true rfl⟩) (g_preS hE hI) rfl rfl hl.1 rfl (lv_room (Nat.le_of_ble_eq_true rfl)) dX1_told_17 ⟨Nat.le_of_ble_eq_true rfl, Nat.le_of_ble_eq_true rfl⟩) (fun X ce q9 G1 H locs hp hI hS k1 k2 k3 => ?_) (fun G1 H locs hp hI hS => ?_)
    · obtain ⟨rfl, hc, hG1⟩ := hp
      exact g_xout hno hlk hI hS k1 k2 k3 (Nat.le_of_ble_eq_true rfl) (Nat.le_of_ble_eq_true rfl) (⟨rfl, (if_neg hno1).trans (if_pos hc), hG1⟩)
    · obtain ⟨j1, j2, hG1⟩ := hp
      rw [hG1] at hI
      have hnoJ : ¬ outI j 5 := fun z => z.elim j1 (fun z => absurd j2 (Int32.not_lt.mpr z))
      refine lv_aload_n hx hb dX1_told_20 rfl (lv_at hl 0 rfl) ?_
      refine lv_iload_n hx hb dX1_told_21 rfl (lv_at hl 3 rfl) ?_
      refine g_ci0 (G := G) (v := toldV (dm k) j) hS (va_runS (As := [.ref (dA k), .int j]) (rest := []) ⟨hx, hb, hml, hown, hts⟩ (m_dTold l E G (dA k) (1, 5, k) (dm k) hf j) (va_cwS 2 hts (lw_S q256 q257 q31 q258) rfl rfl rfl (by decide +kernel) ⟨Nat.le_of_ble_eq_true rfl, Nat.le_of_ble_eq_true rfl⟩) (g_preS hE hI) rfl rfl hl.1 rfl (lv_room (Nat.le_of_ble_eq_true rfl)) dX1_told_22 ⟨Nat.le_of_ble_eq_true rfl, Nat.le_of_ble_eq_true rfl⟩) (fun H locs hI hS => ?_)
      refine vx_ret ?_
      exact g_iret hx hb hr hlk hI hS dX1_told_25 (Nat.le_of_ble_eq_true rfl) (Nat.le_of_ble_eq_true rfl) (⟨(if_neg hno1).trans (if_neg hnoJ), by rw [hcl], rfl⟩)
set_option maxHeartbeats 4000000 in
set_option maxRecDepth 100000 in
theorem m_Xabout (l : Launch) (E : EnvT) (G : Gh) (hst : l.stackTraces = false) (x : Nat) (B : XA) (σ : Sy) (hXR : XRep E G x B σ) (i j : Int32) : vx_Met l yX1_about (ws_ yX1_about cX1_about 4 (some .int)) ({ frames := 8, cells := 2, slots := 12, locals := 152 } : Room) (cP E G [.ref x, .int i, .int j]) (cI E (fun r G' => idxR σ.2.2.1 i 4 j = 0 ∧ r = sTold σ.1.2.1.2 σ.1.2.1.1 σ.1.1.2.2.2.1 (σ.2.2.2 i.toNatClampNeg) j ∧ G' = G)) (cX E (fun X G' => X = xIOB ∧ idxR σ.2.2.1 i 4 j = 1 ∧ G' = G)) 2 12 (eA E) := by
  obtain ⟨⟨con, ld, lc, dA, kA⟩, ⟨lu, uA⟩, ⟨lt, sA⟩⟩ := B
  obtain ⟨⟨⟨tk, ck, rn, an, sp, ln, lf⟩, ⟨nd, dm⟩, ⟨nc, km⟩⟩, ⟨nu, uq⟩, ⟨ns, st⟩⟩ := σ
  refine g_xmet (rm := ({ frames := 8, cells := 2, slots := 12, locals := 152 } : Room)) (av := [.ref x, .int i, .int j]) (lv := [(0, .ref x), (1, .int i), (2, .int j)]) (by decide) (Nat.le_of_ble_eq_true rfl) rfl ?_
  intro p e s m below meth c ls hx hb hr hlk hml hno hts hown hE hI hL hS hl
  have hXR0 := hXR
  obtain ⟨hX0, hR, ⟨eu, hU⟩, ⟨et, hlt0⟩, hst0⟩ := hXR0
  have hX0 : G x = some ((3, 0, 0), xO lu lt con) := hX0
  have hR : CRep E G 1 (con, ld, lc, dA, kA) ((tk, ck, rn, an, sp, ln, lf), (nd, dm), (nc, km)) := hR
  have hU : URep E G 3 lu eu nu uA uq := hU
  have hlt0 : LRep E G (3, 3, 0) (3, 4, 0) lt et ns sA := hlt0
  have hst0 : ∀ k, k < ns → G (sA k) = some ((3, 6, k), sOt (st k)) := hst0
  have hR0 := hR
  obtain ⟨hcon, ⟨ed, hld⟩, ⟨ec, hlc⟩, hd, hk⟩ := hR0
  have hcon : G con = some ((1, 0, 0), coO tk ck rn an sp ln lf ld lc) := hcon
  have hld : LRep E G (1, 1, 0) (1, 2, 0) ld ed nd dA := hld
  have hlc : LRep E G (1, 3, 0) (1, 4, 0) lc ec nc kA := hlc
  have hd : ∀ k, k < nd → G (dA k) = some ((1, 5, k), dOt (dm k)) := hd
  have hk : ∀ k, k < nc → G (kA k) = some ((1, 6, k), kOt (km k)) := hk
  have hn1 : nd ≤ 36 := hld.n36
  have hn2 : nc ≤ 36 := hlc.n36
  have hn3 : nu ≤ 36 := hU.1.n36
  have hn4 : ns ≤ 36 := hlt0.n36
  refine lv_aload_n hx hb dX1_about_0 rfl (lv_at hl 0 rfl) ?_
  refine g_get (C := RX1) (T := TX1) (N := 3) (v := .ref lt) hx hb hts in_X1 hown hE hI hX0 rfl 1 (by decide) q144 (fun _ h9 => h9) rfl dX1_about_1 ?_
  refine lv_iload_n hx hb dX1_about_4 rfl (lv_at hl 1 rfl) ?_
  refine g_xr hS (vx_runS (As := [.ref lt, .int i]) (rest := []) ⟨hx, hb, hml, hown, hts⟩ (m_known l E G hst (3, 3, 0) (3, 4, 0) lt et ns sA hlt0 i) (va_cwS 2 hts (lw_S q524 q525 q31 q526) rfl rfl rfl (by decide +kernel) ⟨Nat.le_of_ble_eq_true rfl, Nat.le_of_ble_eq_true rfl⟩) (g_preS hE hI) rfl rfl hl.1 rfl (lv_room (Nat.le_of_ble_eq_true rfl)) dX1_about_5 ⟨Nat.le_of_ble_eq_true rfl, Nat.le_of_ble_eq_true rfl⟩) (fun X ce q9 G1 H locs hp hI hS k1 k2 k3 => ?_) (fun r G1 H locs hp hI hS => ?_)
  · obtain ⟨rfl, hc, hG1⟩ := hp
    exact g_xout hno hlk hI hS k1 k2 k3 (Nat.le_of_ble_eq_true rfl) (Nat.le_of_ble_eq_true rfl) (⟨rfl, if_pos hc, hG1⟩)
  · obtain ⟨k, hkn, hik, rfl, hG1⟩ := hp
    rw [hG1] at hI
    have hno1 : ¬ outI i ns := by rw [hik]; exact fun z => z.elim (nI_pos (by omega)) (nI_ge hkn (by omega))
    have hcl : i.toNatClampNeg = k := by rw [hik]; exact nI_clamp (by omega)
    have hf := hst0 k hkn
    refine g_cast hx hb hts hown q218 hE hI hf rfl rfl dX1_about_8 ?_
    refine lv_astore_n (lv' := [(3, .ref (sA k)), (0, .ref x), (1, .int i), (2, .int j)]) hx hb dX1_about_11 rfl hl (by decide) rfl (fun ls hl => ?_)
    refine lv_iload_n hx hb dX1_about_12 rfl (lv_at hl 3 rfl) ?_
    refine lv_iconst (v := 4) hx hb dX1_about_13 (by decide) ?_
    refine g_xv hS (vx_runS (As := [.int j, .int 4]) (rest := []) ⟨hx, hb, hml, hown, hts⟩ (m_requireIndex l E G hst j 4) (va_cwS 2 hts (lw_S q535 q536 q31 q537) rfl rfl rfl (by decide +kernel) ⟨Nat.le_of_ble_eq_true rfl, Nat.le_of_ble_eq_true rfl⟩) (g_preS hE hI) rfl rfl hl.1 rfl (lv_room (Nat.le_of_ble_eq_true rfl)) dX1_about_14 ⟨Nat.le_of_ble_eq_true rfl, Nat.le_of_ble_eq_true rfl⟩) (fun X ce q9 G1 H locs hp hI hS k1 k2 k3 => ?_) (fun G1 H locs hp hI hS => ?_)
    · obtain ⟨rfl, hc, hG1⟩ := hp
      exact g_xout hno hlk hI hS k1 k2 k3 (Nat.le_of_ble_eq_true rfl) (Nat.le_of_ble_eq_true rfl) (⟨rfl, (if_neg hno1).trans (if_pos hc), hG1⟩)
    · obtain ⟨j1, j2, hG1⟩ := hp
      rw [hG1] at hI
      have hnoJ : ¬ outI j 4 := fun z => z.elim j1 (fun z => absurd j2 (Int32.not_lt.mpr z))
      refine lv_aload_n hx hb dX1_about_17 rfl (lv_at hl 1 rfl) ?_
      refine lv_aload_n hx hb dX1_about_18 rfl (lv_at hl 0 rfl) ?_
      refine lv_iload_n hx hb dX1_about_19 rfl (lv_at hl 3 rfl) ?_
      refine g_ci0 (G := G) (v := sTold dm nd an (st k) j) hS (va_runV (As := [.ref (sA k), .int j]) (rest := []) ⟨hx, hb, hml, hown, hts⟩ (m_sTold l E G x ((con, ld, lc, dA, kA), (lu, uA), (lt, sA)) ((((tk, ck, rn, an, sp, ln, lf), (nd, dm), (nc, km)), (nu, uq), (ns, st)) : Sy) hXR (sA k) (3, 6, k) (st k) hf j) (cwV 2 hts (lw_V q259 q261 qs2 q31 q262) rfl rfl rfl (by decide +kernel) ⟨Nat.le_of_ble_eq_true rfl, Nat.le_of_ble_eq_true rfl⟩) (g_preV hE hI (g_recv hE hI hX0 rfl)) rfl rfl hl.1 rfl (lv_room (Nat.le_of_ble_eq_true rfl)) dX1_about_20 ⟨Nat.le_of_ble_eq_true rfl, Nat.le_of_ble_eq_true rfl⟩) (fun H locs hI hS => ?_)
      refine vx_ret ?_
      exact g_iret hx hb hr hlk hI hS dX1_about_23 (Nat.le_of_ble_eq_true rfl) (Nat.le_of_ble_eq_true rfl) (⟨(if_neg hno1).trans (if_neg hnoJ), by rw [hcl], rfl⟩)
set_option maxHeartbeats 4000000 in
set_option maxRecDepth 100000 in
theorem m_Xcomet (l : Launch) (E : EnvT) (G : Gh) (hst : l.stackTraces = false) (x : Nat) (B : XA) (σ : Sy) (hXR : XRep E G x B σ) (i j : Int32) : vx_Met l yX1_comet (ws_ yX1_comet cX1_comet 4 (some .int)) ({ frames := 8, cells := 2, slots := 12, locals := 152 } : Room) (cP E G [.ref x, .int i, .int j]) (cI E (fun r G' => idxR σ.1.2.2.1 i 4 j = 0 ∧ r = kTold σ.1.2.1.2 σ.1.2.1.1 (σ.1.2.2.2 i.toNatClampNeg) j ∧ G' = G)) (cX E (fun X G' => X = xIOB ∧ idxR σ.1.2.2.1 i 4 j = 1 ∧ G' = G)) 2 12 (eA E) := by
  obtain ⟨⟨con, ld, lc, dA, kA⟩, ⟨lu, uA⟩, ⟨lt, sA⟩⟩ := B
  obtain ⟨⟨⟨tk, ck, rn, an, sp, ln, lf⟩, ⟨nd, dm⟩, ⟨nc, km⟩⟩, ⟨nu, uq⟩, ⟨ns, st⟩⟩ := σ
  refine g_xmet (rm := ({ frames := 8, cells := 2, slots := 12, locals := 152 } : Room)) (av := [.ref x, .int i, .int j]) (lv := [(0, .ref x), (1, .int i), (2, .int j)]) (by decide) (Nat.le_of_ble_eq_true rfl) rfl ?_
  intro p e s m below meth c ls hx hb hr hlk hml hno hts hown hE hI hL hS hl
  have hXR0 := hXR
  obtain ⟨hX0, hR, ⟨eu, hU⟩, ⟨et, hlt0⟩, hst0⟩ := hXR0
  have hX0 : G x = some ((3, 0, 0), xO lu lt con) := hX0
  have hR : CRep E G 1 (con, ld, lc, dA, kA) ((tk, ck, rn, an, sp, ln, lf), (nd, dm), (nc, km)) := hR
  have hU : URep E G 3 lu eu nu uA uq := hU
  have hlt0 : LRep E G (3, 3, 0) (3, 4, 0) lt et ns sA := hlt0
  have hst0 : ∀ k, k < ns → G (sA k) = some ((3, 6, k), sOt (st k)) := hst0
  have hR0 := hR
  obtain ⟨hcon, ⟨ed, hld⟩, ⟨ec, hlc⟩, hd, hk⟩ := hR0
  have hcon : G con = some ((1, 0, 0), coO tk ck rn an sp ln lf ld lc) := hcon
  have hld : LRep E G (1, 1, 0) (1, 2, 0) ld ed nd dA := hld
  have hlc : LRep E G (1, 3, 0) (1, 4, 0) lc ec nc kA := hlc
  have hd : ∀ k, k < nd → G (dA k) = some ((1, 5, k), dOt (dm k)) := hd
  have hk : ∀ k, k < nc → G (kA k) = some ((1, 6, k), kOt (km k)) := hk
  have hn1 : nd ≤ 36 := hld.n36
  have hn2 : nc ≤ 36 := hlc.n36
  have hn3 : nu ≤ 36 := hU.1.n36
  have hn4 : ns ≤ 36 := hlt0.n36
  refine lv_aload_n hx hb dX1_comet_0 rfl (lv_at hl 0 rfl) ?_
  refine g_get (C := RX1) (T := TX1) (N := 3) (v := .ref con) hx hb hts in_X1 hown hE hI hX0 rfl 2 (by decide) q145 (fun _ h9 => h9) rfl dX1_comet_1 ?_
  refine g_getN (C := RX2) (T := TX2) (N := 9) (v := .ref lc) hx hb hts in_X2 hown hE hI hcon rfl 8 (by decide) q123 (fun _ h9 => h9) rfl dX1_comet_4 ?_
  refine lv_iload_n hx hb dX1_comet_7 rfl (lv_at hl 1 rfl) ?_
  refine g_xr hS (vx_runS (As := [.ref lc, .int i]) (rest := []) ⟨hx, hb, hml, hown, hts⟩ (m_known l E G hst (1, 3, 0) (1, 4, 0) lc ec nc kA hlc i) (va_cwS 2 hts (lw_S q524 q525 q31 q526) rfl rfl rfl (by decide +kernel) ⟨Nat.le_of_ble_eq_true rfl, Nat.le_of_ble_eq_true rfl⟩) (g_preS hE hI) rfl rfl hl.1 rfl (lv_room (Nat.le_of_ble_eq_true rfl)) dX1_comet_8 ⟨Nat.le_of_ble_eq_true rfl, Nat.le_of_ble_eq_true rfl⟩) (fun X ce q9 G1 H locs hp hI hS k1 k2 k3 => ?_) (fun r G1 H locs hp hI hS => ?_)
  · obtain ⟨rfl, hc, hG1⟩ := hp
    exact g_xout hno hlk hI hS k1 k2 k3 (Nat.le_of_ble_eq_true rfl) (Nat.le_of_ble_eq_true rfl) (⟨rfl, if_pos hc, hG1⟩)
  · obtain ⟨k, hkn, hik, rfl, hG1⟩ := hp
    rw [hG1] at hI
    have hno1 : ¬ outI i nc := by rw [hik]; exact fun z => z.elim (nI_pos (by omega)) (nI_ge hkn (by omega))
    have hcl : i.toNatClampNeg = k := by rw [hik]; exact nI_clamp (by omega)
    have hf := hk k hkn
    refine g_cast hx hb hts hown q246 hE hI hf rfl rfl dX1_comet_11 ?_
    refine lv_astore_n (lv' := [(3, .ref (kA k)), (0, .ref x), (1, .int i), (2, .int j)]) hx hb dX1_comet_14 rfl hl (by decide) rfl (fun ls hl => ?_)
    refine lv_iload_n hx hb dX1_comet_15 rfl (lv_at hl 3 rfl) ?_
    refine lv_iconst (v := 4) hx hb dX1_comet_16 (by decide) ?_
    refine g_xv hS (vx_runS (As := [.int j, .int 4]) (rest := []) ⟨hx, hb, hml, hown, hts⟩ (m_requireIndex l E G hst j 4) (va_cwS 2 hts (lw_S q535 q536 q31 q537) rfl rfl rfl (by decide +kernel) ⟨Nat.le_of_ble_eq_true rfl, Nat.le_of_ble_eq_true rfl⟩) (g_preS hE hI) rfl rfl hl.1 rfl (lv_room (Nat.le_of_ble_eq_true rfl)) dX1_comet_17 ⟨Nat.le_of_ble_eq_true rfl, Nat.le_of_ble_eq_true rfl⟩) (fun X ce q9 G1 H locs hp hI hS k1 k2 k3 => ?_) (fun G1 H locs hp hI hS => ?_)
    · obtain ⟨rfl, hc, hG1⟩ := hp
      exact g_xout hno hlk hI hS k1 k2 k3 (Nat.le_of_ble_eq_true rfl) (Nat.le_of_ble_eq_true rfl) (⟨rfl, (if_neg hno1).trans (if_pos hc), hG1⟩)
    · obtain ⟨j1, j2, hG1⟩ := hp
      rw [hG1] at hI
      have hnoJ : ¬ outI j 4 := fun z => z.elim j1 (fun z => absurd j2 (Int32.not_lt.mpr z))
      refine lv_aload_n hx hb dX1_comet_20 rfl (lv_at hl 1 rfl) ?_
      refine lv_aload_n hx hb dX1_comet_21 rfl (lv_at hl 0 rfl) ?_
      refine lv_iload_n hx hb dX1_comet_22 rfl (lv_at hl 3 rfl) ?_
      refine g_ci0 (G := G) (v := kTold dm nd (km k) j) hS (va_runV (As := [.ref (kA k), .int j]) (rest := []) ⟨hx, hb, hml, hown, hts⟩ (m_kTold l E G x ((con, ld, lc, dA, kA), (lu, uA), (lt, sA)) ((((tk, ck, rn, an, sp, ln, lf), (nd, dm), (nc, km)), (nu, uq), (ns, st)) : Sy) hXR (kA k) (1, 6, k) (km k) hf j) (cwV 2 hts (lw_V q266 q268 qs3 q31 q269) rfl rfl rfl (by decide +kernel) ⟨Nat.le_of_ble_eq_true rfl, Nat.le_of_ble_eq_true rfl⟩) (g_preV hE hI (g_recv hE hI hX0 rfl)) rfl rfl hl.1 rfl (lv_room (Nat.le_of_ble_eq_true rfl)) dX1_comet_23 ⟨Nat.le_of_ble_eq_true rfl, Nat.le_of_ble_eq_true rfl⟩) (fun H locs hI hS => ?_)
      refine vx_ret ?_
      exact g_iret hx hb hr hlk hI hS dX1_comet_26 (Nat.le_of_ble_eq_true rfl) (Nat.le_of_ble_eq_true rfl) (⟨(if_neg hno1).trans (if_neg hnoJ), by rw [hcl], rfl⟩)
def oneR (n : Nat) (i : Int32) : Int32 := if outI i n then 1 else 0
set_option maxHeartbeats 4000000 in
set_option maxRecDepth 100000 in
theorem m_Xglare (l : Launch) (E : EnvT) (G : Gh) (hst : l.stackTraces = false) (x : Nat) (B : XA) (σ : Sy) (hXR : XRep E G x B σ) (i : Int32) : vx_Met l yX1_glare (ws_ yX1_glare cX1_glare 2 (some .int)) ({ frames := 7, cells := 1, slots := 6, locals := 102 } : Room) (cP E G [.ref x, .int i]) (cI E (fun r G' => oneR 12 i = 0 ∧ r = glS σ.1.2.1.2 i σ.1.2.1.1 ∧ G' = G)) (cX E (fun X G' => X = xIOB ∧ oneR 12 i = 1 ∧ G' = G)) 1 6 (eA E) := by
  obtain ⟨⟨con, ld, lc, dA, kA⟩, ⟨lu, uA⟩, ⟨lt, sA⟩⟩ := B
  obtain ⟨⟨⟨tk, ck, rn, an, sp, ln, lf⟩, ⟨nd, dm⟩, ⟨nc, km⟩⟩, ⟨nu, uq⟩, ⟨ns, st⟩⟩ := σ
  refine g_xmet (rm := ({ frames := 7, cells := 1, slots := 6, locals := 102 } : Room)) (av := [.ref x, .int i]) (lv := [(0, .ref x), (1, .int i)]) (by decide) (Nat.le_of_ble_eq_true rfl) rfl ?_
  intro p e s m below meth c ls hx hb hr hlk hml hno hts hown hE hI hL hS hl
  have hXR0 := hXR
  obtain ⟨hX0, hR, ⟨eu, hU⟩, ⟨et, hlt0⟩, hst0⟩ := hXR0
  have hX0 : G x = some ((3, 0, 0), xO lu lt con) := hX0
  have hR : CRep E G 1 (con, ld, lc, dA, kA) ((tk, ck, rn, an, sp, ln, lf), (nd, dm), (nc, km)) := hR
  have hU : URep E G 3 lu eu nu uA uq := hU
  have hlt0 : LRep E G (3, 3, 0) (3, 4, 0) lt et ns sA := hlt0
  have hst0 : ∀ k, k < ns → G (sA k) = some ((3, 6, k), sOt (st k)) := hst0
  have hR0 := hR
  obtain ⟨hcon, ⟨ed, hld⟩, ⟨ec, hlc⟩, hd, hk⟩ := hR0
  have hcon : G con = some ((1, 0, 0), coO tk ck rn an sp ln lf ld lc) := hcon
  have hld : LRep E G (1, 1, 0) (1, 2, 0) ld ed nd dA := hld
  have hlc : LRep E G (1, 3, 0) (1, 4, 0) lc ec nc kA := hlc
  have hd : ∀ k, k < nd → G (dA k) = some ((1, 5, k), dOt (dm k)) := hd
  have hk : ∀ k, k < nc → G (kA k) = some ((1, 6, k), kOt (km k)) := hk
  have hn1 : nd ≤ 36 := hld.n36
  have hn2 : nc ≤ 36 := hlc.n36
  have hn3 : nu ≤ 36 := hU.1.n36
  have hn4 : ns ≤ 36 := hlt0.n36
  refine lv_iload_n hx hb dX1_glare_0 rfl (lv_at hl 1 rfl) ?_
  refine lv_bipush (v := 12) hx hb dX1_glare_1 (by decide) ?_
  refine g_xv hS (vx_runS (As := [.int i, .int 12]) (rest := []) ⟨hx, hb, hml, hown, hts⟩ (m_requireIndex l E G hst i 12) (va_cwS 2 hts (lw_S q535 q536 q31 q537) rfl rfl rfl (by decide +kernel) ⟨Nat.le_of_ble_eq_true rfl, Nat.le_of_ble_eq_true rfl⟩) (g_preS hE hI) rfl rfl hl.1 rfl (lv_room (Nat.le_of_ble_eq_true rfl)) dX1_glare_3 ⟨Nat.le_of_ble_eq_true rfl, Nat.le_of_ble_eq_true rfl⟩) (fun X ce q9 G1 H locs hp hI hS k1 k2 k3 => ?_) (fun G1 H locs hp hI hS => ?_)
  · obtain ⟨rfl, hc, hG1⟩ := hp
    exact g_xout hno hlk hI hS k1 k2 k3 (Nat.le_of_ble_eq_true rfl) (Nat.le_of_ble_eq_true rfl) (⟨rfl, if_pos hc, hG1⟩)
  · obtain ⟨j1, j2, hG1⟩ := hp
    rw [hG1] at hI
    have hnoJ : ¬ outI i 12 := fun z => z.elim j1 (fun z => absurd j2 (Int32.not_lt.mpr z))
    refine lv_aload_n hx hb dX1_glare_6 rfl (lv_at hl 0 rfl) ?_
    refine g_get (C := RX1) (T := TX1) (N := 3) (v := .ref con) hx hb hts in_X1 hown hE hI hX0 rfl 2 (by decide) q145 (fun _ h9 => h9) rfl dX1_glare_7 ?_
    refine lv_iload_n hx hb dX1_glare_10 rfl (lv_at hl 1 rfl) ?_
    refine g_ci0 (G := G) (v := glS dm i nd) hS (va_runV (As := [.int i]) (rest := []) ⟨hx, hb, hml, hown, hts⟩ (m_glare l E G 1 (con, ld, lc, dA, kA) ((tk, ck, rn, an, sp, ln, lf), (nd, dm), (nc, km)) hR i) (cwV 1 hts (lw_V q188 q189 q190 q35 q191) rfl rfl rfl (by decide +kernel) ⟨Nat.le_of_ble_eq_true rfl, Nat.le_of_ble_eq_true rfl⟩) (g_preV hE hI (g_recv hE hI hcon rfl)) rfl rfl hl.1 rfl (lv_room (Nat.le_of_ble_eq_true rfl)) dX1_glare_11 ⟨Nat.le_of_ble_eq_true rfl, Nat.le_of_ble_eq_true rfl⟩) (fun H locs hI hS => ?_)
    refine vx_ret ?_
    exact g_iret hx hb hr hlk hI hS dX1_glare_14 (Nat.le_of_ble_eq_true rfl) (Nat.le_of_ble_eq_true rfl) (⟨if_neg hnoJ, rfl, rfl⟩)
