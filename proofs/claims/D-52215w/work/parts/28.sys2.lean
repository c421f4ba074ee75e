/-! CONTRACTS of StarConsole: run, jump, fade, lamp. Printed by gen/p28.py -/
set_option maxRecDepth 100000
set_option maxHeartbeats 4000000 in
set_option maxRecDepth 100000 in
theorem m_Xrun (l : Launch) (E : EnvT) (G : Gh) (x : Nat) (B : XA) (σ : Sy) (hXR : XRep E G x B σ) : Met l yX1_run (ws_ yX1_run cX1_run 1 (some .boolean)) ({ frames := 0, cells := 0, slots := 0, locals := 0 } : Room) (cP E G [.ref x]) (cI E (fun r G' => r = runV σ.1.1.2.2.1 ∧ ∃ B', XRep E G' x B' (runSy σ) ∧ Fr Sys G G')) 0 0 (eA E) := by
  obtain ⟨⟨con, ld, lc, dA, kA⟩, ⟨lu, uA⟩, ⟨lt, sA⟩⟩ := B
  obtain ⟨⟨⟨tk, ck, rn, an, sp, ln, lf⟩, ⟨nd, dm⟩, ⟨nc, km⟩⟩, ⟨nu, uq⟩, ⟨ns, st⟩⟩ := σ
  refine g_met (rm := ({ frames := 0, cells := 0, slots := 0, locals := 0 } : Room)) (av := [.ref x]) (lv := [(0, .ref x)]) (by decide) (Nat.le_of_ble_eq_true rfl) rfl ?_
  intro p e s m below meth c ls hx hb hr hlk hml hin hts hown hE hI hL hS hl
  have hXR0 := hXR
  obtain ⟨hX0, hR, ⟨eu, hU⟩, ⟨et, hlt0⟩, hst0⟩ := hXR0
  have hX0 : G x = some ((3, 0, 0), xO lu lt con) := hX0
  have hR : CRep E G 1 (con, ld, lc, dA, kA) ((tk, ck, rn, an, sp, ln, lf), (nd, dm), (nc, km)) := hR
  have hU : URep E G 3 lu eu nu uA uq := hU
  have hlt0 : LRep E G (3, 3, 0) (3, 4, 0) lt et ns sA := hlt0
  have hst0 : ∀ k, k < ns → G (sA k) = some ((3, 6, k), sOt (st k)) := hst0
  have hR0 := hR
  obtain ⟨hcon, ⟨ed, hld⟩, ⟨ec, hlc⟩, hd, hk⟩ := hR0
  have hcon : G con = some ((1, 0, 0), coO tk ck rn an sp ln lf ld lc) := hcon
  have hld : LRep E G (1, 1, 0) (1, 2, 0) ld ed nd dA := hld
  have hlc : LRep E G (1, 3, 0) (1, 4, 0) lc ec nc kA := hlc
  have hd : ∀ k, k < nd → G (dA k) = some ((1, 5, k), dOt (dm k)) := hd
  have hk : ∀ k, k < nc → G (kA k) = some ((1, 6, k), kOt (km k)) := hk
  have hn1 : nd ≤ 36 := hld.n36
  have hn2 : nc ≤ 36 := hlc.n36
  have hn3 : nu ≤ 36 := hU.1.n36
  have hn4 : ns ≤ 36 := hlt0.n36
  refine lv_aload_n hx hb dX1_run_0 rfl (lv_at hl 0 rfl) ?_
  refine g_get (C := RX1) (T := TX1) (N := 3) (v := .ref con) hx hb hts in_X1 hown hE hI hX0 rfl 2 (by decide) q145 (fun _ h9 => h9) rfl dX1_run_1 ?_
  refine lv_aload_n hx hb dX1_run_4 rfl (lv_at hl 0 rfl) ?_
  refine g_get (C := RX1) (T := TX1) (N := 3) (v := .ref con) hx hb hts in_X1 hown hE hI hX0 rfl 2 (by decide) q145 (fun _ h9 => h9) rfl dX1_run_5 ?_
  refine g_getN (C := RX2) (T := TX2) (N := 9) (v := .int rn) hx hb hts in_X2 hown hE hI hcon rfl 2 (by decide) q106 (fun _ h9 => h9) rfl dX1_run_8 ?_
  refine lv_if_ne (tgt := 18) hx hb dX1_run_11 (by decide) (fun c1 => ?_) (fun c1 => ?_)
  · have ev : runV rn = 0 := if_neg c1
    refine lv_iconst (v := 0) hx hb dX1_run_18 (by decide) ?_
    refine g_putN (C := RX2) (T := TX2) (N := 9) (v := .int 0) (ty := .boolean) (fs' := [.int tk, .int ck, .int 0, .int an, .int sp, .int ln, .int lf, .ref ld, .ref lc]) hx hb hts in_X2 tyX2 tyX2_ok nmX2 hown hE hI hS hL hcon rfl 2 (by decide) q106 (fun _ h9 => h9) rfl (by decide +kernel) rfl rfl (Nat.le_of_ble_eq_true rfl) rfl dX1_run_19 (fun H locs hI hS => ?_)
    have hX0 := gU_o (x := ((1, 0, 0), .inr (1, [.int tk, .int ck, .int 0, .int an, .int sp, .int ln, .int lf, .ref ld, .ref lc]))) hcon hX0 (by simp)
    have hcon : (gU G con ((1, 0, 0), .inr (1, [.int tk, .int ck, .int 0, .int an, .int sp, .int ln, .int lf, .ref ld, .ref lc]))) con = some ((1, 0, 0), .inr (1, [.int tk, .int ck, .int 0, .int an, .int sp, .int ln, .int lf, .ref ld, .ref lc])) := gU_self
    refine lv_aload_n hx hb dX1_run_22 rfl (lv_at hl 0 rfl) ?_
    refine g_get (C := RX1) (T := TX1) (N := 3) (v := .ref con) hx hb hts in_X1 hown hE hI hX0 rfl 2 (by decide) q145 (fun _ h9 => h9) rfl dX1_run_23 ?_
    refine g_getN (C := RX2) (T := TX2) (N := 9) (v := .int 0) hx hb hts in_X2 hown hE hI hcon rfl 2 (by decide) q106 (fun _ h9 => h9) rfl dX1_run_26 ?_
    have hz := hR.setC (tk, ck, runV rn, an, sp, ln, lf)
    rw [ev] at hz
    exact g_zret hx hb hr hlk hI hS dX1_run_29 (Nat.le_of_ble_eq_true rfl) (Nat.le_of_ble_eq_true rfl) rfl (⟨ev.symm, _, by unfold runSy; rw [show runV ((((tk, ck, rn, an, sp, ln, lf), (nd, dm), (nc, km)), (nu, uq), (ns, st)) : Sy).1.1.2.2.1 = 0 from ev]; exact hXR.con hz.2 hz.1 rfl, hz.2.sys1⟩)
  · have ev : runV rn = 1 := if_pos c1
    refine lv_iconst (v := 1) hx hb dX1_run_14 (by decide) ?_
    refine lv_goto (tgt := 19) hx hb dX1_run_15 (by decide) ?_
    refine g_putN (C := RX2) (T := TX2) (N := 9) (v := .int 1) (ty := .boolean) (fs' := [.int tk, .int ck, .int 1, .int an, .int sp, .int ln, .int lf, .ref ld, .ref lc]) hx hb hts in_X2 tyX2 tyX2_ok nmX2 hown hE hI hS hL hcon rfl 2 (by decide) q106 (fun _ h9 => h9) rfl (by decide +kernel) rfl rfl (Nat.le_of_ble_eq_true rfl) rfl dX1_run_19 (fun H locs hI hS => ?_)
    have hX0 := gU_o (x := ((1, 0, 0), .inr (1, [.int tk, .int ck, .int 1, .int an, .int sp, .int ln, .int lf, .ref ld, .ref lc]))) hcon hX0 (by simp)
    have hcon : (gU G con ((1, 0, 0), .inr (1, [.int tk, .int ck, .int 1, .int an, .int sp, .int ln, .int lf, .ref ld, .ref lc]))) con = some ((1, 0, 0), .inr (1, [.int tk, .int ck, .int 1, .int an, .int sp, .int ln, .int lf, .ref ld, .ref lc])) := gU_self
    refine lv_aload_n hx hb dX1_run_22 rfl (lv_at hl 0 rfl) ?_
    refine g_get (C := RX1) (T := TX1) (N := 3) (v := .ref con) hx hb hts in_X1 hown hE hI hX0 rfl 2 (by decide) q145 (fun _ h9 => h9) rfl dX1_run_23 ?_
    refine g_getN (C := RX2) (T := TX2) (N := 9) (v := .int 1) hx hb hts in_X2 hown hE hI hcon rfl 2 (by decide) q106 (fun _ h9 => h9) rfl dX1_run_26 ?_
    have hz := hR.setC (tk, ck, runV rn, an, sp, ln, lf)
    rw [ev] at hz
    exact g_zret hx hb hr hlk hI hS dX1_run_29 (Nat.le_of_ble_eq_true rfl) (Nat.le_of_ble_eq_true rfl) rfl (⟨ev.symm, _, by unfold runSy; rw [show runV ((((tk, ck, rn, an, sp, ln, lf), (nd, dm), (nc, km)), (nu, uq), (ns, st)) : Sy).1.1.2.2.1 = 1 from ev]; exact hXR.con hz.2 hz.1 rfl, hz.2.sys1⟩)
set_option maxHeartbeats 4000000 in
set_option maxRecDepth 100000 in
theorem m_Xjump (l : Launch) (E : EnvT) (G : Gh) (hst : l.stackTraces = false) (x : Nat) (B : XA) (σ : Sy) (hXR : XRep E G x B σ) (t : Int32) : vx_Met l yX1_jump (ws_ yX1_jump cX1_jump 3 (some .int)) ({ frames := 8, cells := 1, slots := 6, locals := 123 } : Room) (cP E G [.ref x, .int t]) (cI E (fun r G' => jumR t = 0 ∧ r = σ.1.1.2.1 ∧ ∃ B', XRep E G' x B' (jumS σ t) ∧ Fr Sys G G')) (cX E (fun X G' => X = xIAE ∧ jumR t = 1 ∧ G' = G)) 1 6 (eA E) := by
  obtain ⟨⟨con, ld, lc, dA, kA⟩, ⟨lu, uA⟩, ⟨lt, sA⟩⟩ := B
  obtain ⟨⟨⟨tk, ck, rn, an, sp, ln, lf⟩, ⟨nd, dm⟩, ⟨nc, km⟩⟩, ⟨nu, uq⟩, ⟨ns, st⟩⟩ := σ
  refine g_xmet (rm := ({ frames := 8, cells := 1, slots := 6, locals := 123 } : Room)) (av := [.ref x, .int t]) (lv := [(0, .ref x), (1, .int t)]) (by decide) (Nat.le_of_ble_eq_true rfl) rfl ?_
  intro p e s m below meth c ls hx hb hr hlk hml hno hts hown hE hI hL hS hl
  have hXR0 := hXR
  obtain ⟨hX0, hR, ⟨eu, hU⟩, ⟨et, hlt0⟩, hst0⟩ := hXR0
  have hX0 : G x = some ((3, 0, 0), xO lu lt con) := hX0
  have hR : CRep E G 1 (con, ld, lc, dA, kA) ((tk, ck, rn, an, sp, ln, lf), (nd, dm), (nc, km)) := hR
  have hU : URep E G 3 lu eu nu uA uq := hU
  have hlt0 : LRep E G (3, 3, 0) (3, 4, 0) lt et ns sA := hlt0
  have hst0 : ∀ k, k < ns → G (sA k) = some ((3, 6, k), sOt (st k)) := hst0
  have hR0 := hR
  obtain ⟨hcon, ⟨ed, hld⟩, ⟨ec, hlc⟩, hd, hk⟩ := hR0
  have hcon : G con = some ((1, 0, 0), coO tk ck rn an sp ln lf ld lc) := hcon
  have hld : LRep E G (1, 1, 0) (1, 2, 0) ld ed nd dA := hld
  have hlc : LRep E G (1, 3, 0) (1, 4, 0) lc ec nc kA := hlc
  have hd : ∀ k, k < nd → G (dA k) = some ((1, 5, k), dOt (dm k)) := hd
  have hk : ∀ k, k < nc → G (kA k) = some ((1, 6, k), kOt (km k)) := hk
  have hn1 : nd ≤ 36 := hld.n36
  have hn2 : nc ≤ 36 := hlc.n36
  have hn3 : nu ≤ 36 := hU.1.n36
  have hn4 : ns ≤ 36 := hlt0.n36
  refine lv_iconst (v := 0) hx hb dX1_jump_0 (by decide) ?_
  refine lv_sipush (v := 1000) hx hb dX1_jump_1 (by decide) ?_
  refine lv_iload_n hx hb dX1_jump_4 rfl (lv_at hl 1 rfl) ?_
  refine g_xv hS (vx_runS (As := [.int 0, .int 1000, .int t]) (rest := []) ⟨hx, hb, hml, hown, hts⟩ (m_requireFrom l E G hst 0 1000 t) (va_cwS 3 hts (lw_S q301 q302 q31 q303) rfl rfl rfl (by decide +kernel) ⟨Nat.le_of_ble_eq_true rfl, Nat.le_of_ble_eq_true rfl⟩) (g_preS hE hI) rfl rfl hl.1 rfl (lv_room (Nat.le_of_ble_eq_true rfl)) dX1_jump_5 ⟨Nat.le_of_ble_eq_true rfl, Nat.le_of_ble_eq_true rfl⟩) (fun X ce q9 G1 H locs hp hI hS k1 k2 k3 => ?_) (fun G1 H locs hp hI hS => ?_)
  · obtain ⟨rfl, hc, hG1⟩ := hp
    exact g_xout hno hlk hI hS k1 k2 k3 (Nat.le_of_ble_eq_true rfl) (Nat.le_of_ble_eq_true rfl) (⟨rfl, if_pos hc, hG1⟩)
  · obtain ⟨hc, hG1⟩ := hp
    rw [hG1] at hI
    refine lv_aload_n hx hb dX1_jump_8 rfl (lv_at hl 0 rfl) ?_
    refine g_get (C := RX1) (T := TX1) (N := 3) (v := .ref con) hx hb hts in_X1 hown hE hI hX0 rfl 2 (by decide) q145 (fun _ h9 => h9) rfl dX1_jump_9 ?_
    refine g_getN (C := RX2) (T := TX2) (N := 9) (v := .int ck) hx hb hts in_X2 hown hE hI hcon rfl 1 (by decide) q103 (fun _ h9 => h9) rfl dX1_jump_12 ?_
    refine lv_istore_n (lv' := [(2, .int ck), (0, .ref x), (1, .int t)]) hx hb dX1_jump_15 rfl hl (by decide) rfl (fun ls hl => ?_)
    refine lv_aload_n hx hb dX1_jump_16 rfl (lv_at hl 1 rfl) ?_
    refine g_get (C := RX1) (T := TX1) (N := 3) (v := .ref con) hx hb hts in_X1 hown hE hI hX0 rfl 2 (by decide) q145 (fun _ h9 => h9) rfl dX1_jump_17 ?_
    refine lv_iload_n hx hb dX1_jump_20 rfl (lv_at hl 2 rfl) ?_
    refine g_putN (C := RX2) (T := TX2) (N := 9) (v := .int t) (ty := .int) (fs' := [.int tk, .int t, .int rn, .int an, .int sp, .int ln, .int lf, .ref ld, .ref lc]) hx hb hts in_X2 tyX2 tyX2_ok nmX2 hown hE hI hS hL hcon rfl 1 (by decide) q103 (fun _ h9 => h9) rfl (by decide +kernel) rfl rfl (Nat.le_of_ble_eq_true rfl) rfl dX1_jump_21 (fun H locs hI hS => ?_)
    have hX0 := gU_o (x := ((1, 0, 0), .inr (1, [.int tk, .int t, .int rn, .int an, .int sp, .int ln, .int lf, .ref ld, .ref lc]))) hcon hX0 (by simp)
    have hcon : (gU G con ((1, 0, 0), .inr (1, [.int tk, .int t, .int rn, .int an, .int sp, .int ln, .int lf, .ref ld, .ref lc]))) con = some ((1, 0, 0), .inr (1, [.int tk, .int t, .int rn, .int an, .int sp, .int ln, .int lf, .ref ld, .ref lc])) := gU_self
    refine lv_iload_n hx hb dX1_jump_24 rfl (lv_at hl 0 rfl) ?_
    have hz := hR.setC (tk, t, rn, an, sp, ln, lf)
    refine vx_ret ?_
    exact g_iret hx hb hr hlk hI hS dX1_jump_25 (Nat.le_of_ble_eq_true rfl) (Nat.le_of_ble_eq_true rfl) (⟨if_neg hc, rfl, _, hXR.con hz.2 hz.1 rfl, hz.2.sys1⟩)
set_option maxHeartbeats 4000000 in
set_option maxRecDepth 100000 in
theorem m_Xfade (l : Launch) (E : EnvT) (G : Gh) (hst : l.stackTraces = false) (x : Nat) (B : XA) (σ : Sy) (hXR : XRep E G x B σ) (d z : Int32) : vx_Met l yX1_fade (ws_ yX1_fade cX1_fade 5 (some .int)) ({ frames := 8, cells := 2, slots := 12, locals := 123 } : Room) (cP E G [.ref x, .int d, .int z]) (cI E (fun r G' => fadR σ.1.2.1.1 d z = 0 ∧ r = (σ.1.2.1.2 d.toNatClampNeg).2.2.2.1 ∧ ∃ B', XRep E G' x B' (fadS σ d z) ∧ Fr Sys G G')) (cX E (fun X G' => ((X = xIOB ∧ fadR σ.1.2.1.1 d z = 1) ∨ (X = xIAE ∧ fadR σ.1.2.1.1 d z = 2)) ∧ G' = G)) 2 12 (eA E) := by
  obtain ⟨⟨con, ld, lc, dA, kA⟩, ⟨lu, uA⟩, ⟨lt, sA⟩⟩ := B
  obtain ⟨⟨⟨tk, ck, rn, an, sp, ln, lf⟩, ⟨nd, dm⟩, ⟨nc, km⟩⟩, ⟨nu, uq⟩, ⟨ns, st⟩⟩ := σ
  refine g_xmet (rm := ({ frames := 8, cells := 2, slots := 12, locals := 123 } : Room)) (av := [.ref x, .int d, .int z]) (lv := [(0, .ref x), (1, .int d), (2, .int z)]) (by decide) (Nat.le_of_ble_eq_true rfl) rfl ?_
  intro p e s m below meth c ls hx hb hr hlk hml hno hts hown hE hI hL hS hl
  have hXR0 := hXR
  obtain ⟨hX0, hR, ⟨eu, hU⟩, ⟨et, hlt0⟩, hst0⟩ := hXR0
  have hX0 : G x = some ((3, 0, 0), xO lu lt con) := hX0
  have hR : CRep E G 1 (con, ld, lc, dA, kA) ((tk, ck, rn, an, sp, ln, lf), (nd, dm), (nc, km)) := hR
  have hU : URep E G 3 lu eu nu uA uq := hU
  have hlt0 : LRep E G (3, 3, 0) (3, 4, 0) lt et ns sA := hlt0
  have hst0 : ∀ k, k < ns → G (sA k) = some ((3, 6, k), sOt (st k)) := hst0
  have hR0 := hR
  obtain ⟨hcon, ⟨ed, hld⟩, ⟨ec, hlc⟩, hd, hk⟩ := hR0
  have hcon : G con = some ((1, 0, 0), coO tk ck rn an sp ln lf ld lc) := hcon
  have hld : LRep E G (1, 1, 0) (1, 2, 0) ld ed nd dA := hld
  have hlc : LRep E G (1, 3, 0) (1, 4, 0) lc ec nc kA := hlc
  have hd : ∀ k, k < nd → G (dA k) = some ((1, 5, k), dOt (dm k)) := hd
  have hk : ∀ k, k < nc → G (kA k) = some ((1, 6, k), kOt (km k)) := hk
  have hn1 : nd ≤ 36 := hld.n36
  have hn2 : nc ≤ 36 := hlc.n36
  have hn3 : nu ≤ 36 := hU.1.n36
  have hn4 : ns ≤ 36 := hlt0.n36
  refine lv_aload_n hx hb dX1_fade_0 rfl (lv_at hl 0 rfl) ?_
  refine g_get (C := RX1) (T := TX1) (N := 3) (v := .ref con) hx hb hts in_X1 hown hE hI hX0 rfl 2 (by decide) q145 (fun _ h9 => h9) rfl dX1_fade_1 ?_
  refine g_getN (C := RX2) (T := TX2) (N := 9) (v := .ref ld) hx hb hts in_X2 hown hE hI hcon rfl 7 (by decide) q120 (fun _ h9 => h9) rfl dX1_fade_4 ?_
  refine lv_iload_n hx hb dX1_fade_7 rfl (lv_at hl 1 rfl) ?_
  refine g_xr hS (vx_runS (As := [.ref ld, .int d]) (rest := []) ⟨hx, hb, hml, hown, hts⟩ (m_known l E G hst (1, 1, 0) (1, 2, 0) ld ed nd dA hld d) (va_cwS 2 hts (lw_S q524 q525 q31 q526) rfl rfl rfl (by decide +kernel) ⟨Nat.le_of_ble_eq_true rfl, Nat.le_of_ble_eq_true rfl⟩) (g_preS hE hI) rfl rfl hl.1 rfl (lv_room (Nat.le_of_ble_eq_true rfl)) dX1_fade_8 ⟨Nat.le_of_ble_eq_true rfl, Nat.le_of_ble_eq_true rfl⟩) (fun X ce q9 G1 H locs hp hI hS k1 k2 k3 => ?_) (fun r G1 H locs hp hI hS => ?_)
  · obtain ⟨rfl, hc, hG1⟩ := hp
    exact g_xout hno hlk hI hS k1 k2 k3 (Nat.le_of_ble_eq_true rfl) (Nat.le_of_ble_eq_true rfl) (⟨Or.inl ⟨rfl, if_pos hc⟩, hG1⟩)
  · obtain ⟨k, hkn, hik, rfl, hG1⟩ := hp
    rw [hG1] at hI
    have hno1 : ¬ outI d nd := by rw [hik]; exact fun z => z.elim (nI_pos (by omega)) (nI_ge hkn (by omega))
    have hcl : d.toNatClampNeg = k := by rw [hik]; exact nI_clamp (by omega)
    have hdk := hd k hkn
    refine g_cast hx hb hts hown q255 hE hI hdk rfl rfl dX1_fade_11 ?_
    refine lv_astore_n (lv' := [(3, .ref (dA k)), (0, .ref x), (1, .int d), (2, .int z)]) hx hb dX1_fade_14 rfl hl (by decide) rfl (fun ls hl => ?_)
    refine lv_iconst (v := 0) hx hb dX1_fade_15 (by decide) ?_
    refine lv_bipush (v := 100) hx hb dX1_fade_16 (by decide) ?_
    refine lv_iload_n hx hb dX1_fade_18 rfl (lv_at hl 3 rfl) ?_
    refine g_xv hS (vx_runS (As := [.int 0, .int 100, .int z]) (rest := []) ⟨hx, hb, hml, hown, hts⟩ (m_requireFrom l E G hst 0 100 z) (va_cwS 3 hts (lw_S q301 q302 q31 q303) rfl rfl rfl (by decide +kernel) ⟨Nat.le_of_ble_eq_true rfl, Nat.le_of_ble_eq_true rfl⟩) (g_preS hE hI) rfl rfl hl.1 rfl (lv_room (Nat.le_of_ble_eq_true rfl)) dX1_fade_19 ⟨Nat.le_of_ble_eq_true rfl, Nat.le_of_ble_eq_true rfl⟩) (fun X ce q9 G1 H locs hp hI hS k1 k2 k3 => ?_) (fun G1 H locs hp hI hS => ?_)
    · obtain ⟨rfl, hc2, hG1⟩ := hp
      exact g_xout hno hlk hI hS k1 k2 k3 (Nat.le_of_ble_eq_true rfl) (Nat.le_of_ble_eq_true rfl) (⟨Or.inr ⟨rfl, (if_neg hno1).trans (if_pos hc2)⟩, hG1⟩)
    · obtain ⟨hc2, hG1⟩ := hp
      rw [hG1] at hI
      refine lv_aload_n hx hb dX1_fade_22 rfl (lv_at hl 0 rfl) ?_
      refine g_getN (C := RX4) (T := TX4) (N := 5) (v := .int ((dm k).2.2.2.1)) hx hb hts in_X4 hown hE hI hdk rfl 3 (by decide) q406 (fun _ h9 => h9) rfl dX1_fade_23 ?_
      refine lv_istore (lv' := [(4, .int ((dm k).2.2.2.1)), (3, .ref (dA k)), (0, .ref x), (1, .int d), (2, .int z)]) hx hb dX1_fade_26 hl (by decide) rfl (fun ls hl => ?_)
      refine lv_aload_n hx hb dX1_fade_28 rfl (lv_at hl 1 rfl) ?_
      refine lv_iload_n hx hb dX1_fade_29 rfl (lv_at hl 4 rfl) ?_
      refine g_putN (C := RX4) (T := TX4) (N := 5) (v := .int z) (ty := .int) (fs' := [.int ((dm k).1), .int ((dm k).2.1), .int ((dm k).2.2.1), .int z, .int ((dm k).2.2.2.2)]) hx hb hts in_X4 tyX4 tyX4_ok nmX4 hown hE hI hS hL hdk rfl 3 (by decide) q406 (fun _ h9 => h9) rfl (by decide +kernel) rfl rfl (Nat.le_of_ble_eq_true rfl) rfl dX1_fade_30 (fun H locs hI hS => ?_)
      have hX0 := gU_o (x := ((1, 5, k), .inr (2, [.int ((dm k).1), .int ((dm k).2.1), .int ((dm k).2.2.1), .int z, .int ((dm k).2.2.2.2)]))) hdk hX0 (by simp)
      have hcon := gU_o (x := ((1, 5, k), .inr (2, [.int ((dm k).1), .int ((dm k).2.1), .int ((dm k).2.2.1), .int z, .int ((dm k).2.2.2.2)]))) hdk hcon (by simp)
      have hdk : (gU G (dA k) ((1, 5, k), .inr (2, [.int ((dm k).1), .int ((dm k).2.1), .int ((dm k).2.2.1), .int z, .int ((dm k).2.2.2.2)]))) (dA k) = some ((1, 5, k), .inr (2, [.int ((dm k).1), .int ((dm k).2.1), .int ((dm k).2.2.1), .int z, .int ((dm k).2.2.2.2)])) := gU_self
      refine lv_iload hx hb dX1_fade_33 (lv_at hl 0 rfl) ?_
      have hz := hR.setD (j := k) hkn ((dm k).1, (dm k).2.1, (dm k).2.2.1, z, (dm k).2.2.2.2)
      refine vx_ret ?_
      exact g_iret hx hb hr hlk hI hS dX1_fade_35 (Nat.le_of_ble_eq_true rfl) (Nat.le_of_ble_eq_true rfl) (⟨(if_neg hno1).trans (if_neg hc2), by rw [hcl], _, by unfold fadS setDm; rw [hcl]; exact hXR.con hz.2 hz.1 rfl, hz.2.sys1⟩)
set_option maxHeartbeats 4000000 in
set_option maxRecDepth 100000 in
theorem m_Xlamp (l : Launch) (E : EnvT) (G : Gh) (hst : l.stackTraces = false) (x : Nat) (B : XA) (σ : Sy) (hXR : XRep E G x B σ) (d z : Int32) : vx_Met l yX1_lamp (ws_ yX1_lamp cX1_lamp 5 (some .int)) ({ frames := 8, cells := 2, slots := 12, locals := 123 } : Room) (cP E G [.ref x, .int d, .int z]) (cI E (fun r G' => lamR σ.1.2.1.1 d z = 0 ∧ r = (σ.1.2.1.2 d.toNatClampNeg).2.2.2.2 ∧ ∃ B', XRep E G' x B' (lamS σ d z) ∧ Fr Sys G G')) (cX E (fun X G' => ((X = xIOB ∧ lamR σ.1.2.1.1 d z = 1) ∨ (X = xIAE ∧ lamR σ.1.2.1.1 d z = 2)) ∧ G' = G)) 2 12 (eA E) := by
  obtain ⟨⟨con, ld, lc, dA, kA⟩, ⟨lu, uA⟩, ⟨lt, sA⟩⟩ := B
  obtain ⟨⟨⟨tk, ck, rn, an, sp, ln, lf⟩, ⟨nd, dm⟩, ⟨nc, km⟩⟩, ⟨nu, uq⟩, ⟨ns, st⟩⟩ := σ
  refine g_xmet (rm := ({ frames := 8, cells := 2, slots := 12, locals := 123 } : Room)) (av := [.ref x, .int d, .int z]) (lv := [(0, .ref x), (1, .int d), (2, .int z)]) (by decide) (Nat.le_of_ble_eq_true rfl) rfl ?_
  intro p e s m below meth c ls hx hb hr hlk hml hno hts hown hE hI hL hS hl
  have hXR0 := hXR
  obtain ⟨hX0, hR, ⟨eu, hU⟩, ⟨et, hlt0⟩, hst0⟩ := hXR0
  have hX0 : G x = some ((3, 0, 0), xO lu lt con) := hX0
  have hR : CRep E G 1 (con, ld, lc, dA, kA) ((tk, ck, rn, an, sp, ln, lf), (nd, dm), (nc, km)) := hR
  have hU : URep E G 3 lu eu nu uA uq := hU
  have hlt0 : LRep E G (3, 3, 0) (3, 4, 0) lt et ns sA := hlt0
  have hst0 : ∀ k, k < ns → G (sA k) = some ((3, 6, k), sOt (st k)) := hst0
  have hR0 := hR
  obtain ⟨hcon, ⟨ed, hld⟩, ⟨ec, hlc⟩, hd, hk⟩ := hR0
  have hcon : G con = some ((1, 0, 0), coO tk ck rn an sp ln lf ld lc) := hcon
  have hld : LRep E G (1, 1, 0) (1, 2, 0) ld ed nd dA := hld
  have hlc : LRep E G (1, 3, 0) (1, 4, 0) lc ec nc kA := hlc
  have hd : ∀ k, k < nd → G (dA k) = some ((1, 5, k), dOt (dm k)) := hd
  have hk : ∀ k, k < nc → G (kA k) = some ((1, 6, k), kOt (km k)) := hk
  have hn1 : nd ≤ 36 := hld.n36
  have hn2 : nc ≤ 36 := hlc.n36
  have hn3 : nu ≤ 36 := hU.1.n36
  have hn4 : ns ≤ 36 := hlt0.n36
  refine lv_aload_n hx hb dX1_lamp_0 rfl (lv_at hl 0 rfl) ?_
  refine g_get (C := RX1) (T := TX1) (N := 3) (v := .ref con) hx hb hts in_X1 hown hE hI hX0 rfl 2 (by decide) q145 (fun _ h9 => h9) rfl dX1_lamp_1 ?_
  refine g_getN (C := RX2) (T := TX2) (N := 9) (v := .ref ld) hx hb hts in_X2 hown hE hI hcon rfl 7 (by decide) q120 (fun _ h9 => h9) rfl dX1_lamp_4 ?_
  refine lv_iload_n hx hb dX1_lamp_7 rfl (lv_at hl 1 rfl) ?_
  refine g_xr hS (vx_runS (As := [.ref ld, .int d]) (rest := []) ⟨hx, hb, hml, hown, hts⟩ (m_known l E G hst (1, 1, 0) (1, 2, 0) ld ed nd dA hld d) (va_cwS 2 hts (lw_S q524 q525 q31 q526) rfl rfl rfl (by decide +kernel) ⟨Nat.le_of_ble_eq_true rfl, Nat.le_of_ble_eq_true rfl⟩) (g_preS hE hI) rfl rfl hl.1 rfl (lv_room (Nat.le_of_ble_eq_true rfl)) dX1_lamp_8 ⟨Nat.le_of_ble_eq_true rfl, Nat.le_of_ble_eq_true rfl⟩) (fun X ce q9 G1 H locs hp hI hS k1 k2 k3 => ?_) (fun r G1 H locs hp hI hS => ?_)
  · obtain ⟨rfl, hc, hG1⟩ := hp
    exact g_xout hno hlk hI hS k1 k2 k3 (Nat.le_of_ble_eq_true rfl) (Nat.le_of_ble_eq_true rfl) (⟨Or.inl ⟨rfl, if_pos hc⟩, hG1⟩)
  · obtain ⟨k, hkn, hik, rfl, hG1⟩ := hp
    rw [hG1] at hI
    have hno1 : ¬ outI d nd := by rw [hik]; exact fun z => z.elim (nI_pos (by omega)) (nI_ge hkn (by omega))
    have hcl : d.toNatClampNeg = k := by rw [hik]; exact nI_clamp (by omega)
    have hdk := hd k hkn
    refine g_cast hx hb hts hown q255 hE hI hdk rfl rfl dX1_lamp_11 ?_
    refine lv_astore_n (lv' := [(3, .ref (dA k)), (0, .ref x), (1, .int d), (2, .int z)]) hx hb dX1_lamp_14 rfl hl (by decide) rfl (fun ls hl => ?_)
    refine lv_iconst (v := 0) hx hb dX1_lamp_15 (by decide) ?_
    refine lv_sipush (v := 9999) hx hb dX1_lamp_16 (by decide) ?_
    refine lv_iload_n hx hb dX1_lamp_19 rfl (lv_at hl 3 rfl) ?_
    refine g_xv hS (vx_runS (As := [.int 0, .int 9999, .int z]) (rest := []) ⟨hx, hb, hml, hown, hts⟩ (m_requireFrom l E G hst 0 9999 z) (va_cwS 3 hts (lw_S q301 q302 q31 q303) rfl rfl rfl (by decide +kernel) ⟨Nat.le_of_ble_eq_true rfl, Nat.le_of_ble_eq_true rfl⟩) (g_preS hE hI) rfl rfl hl.1 rfl (lv_room (Nat.le_of_ble_eq_true rfl)) dX1_lamp_20 ⟨Nat.le_of_ble_eq_true rfl, Nat.le_of_ble_eq_true rfl⟩) (fun X ce q9 G1 H locs hp hI hS k1 k2 k3 => ?_) (fun G1 H locs hp hI hS => ?_)
    · obtain ⟨rfl, hc2, hG1⟩ := hp
      exact g_xout hno hlk hI hS k1 k2 k3 (Nat.le_of_ble_eq_true rfl) (Nat.le_of_ble_eq_true rfl) (⟨Or.inr ⟨rfl, (if_neg hno1).trans (if_pos hc2)⟩, hG1⟩)
    · obtain ⟨hc2, hG1⟩ := hp
      rw [hG1] at hI
      refine lv_aload_n hx hb dX1_lamp_23 rfl (lv_at hl 0 rfl) ?_
      refine g_getN (C := RX4) (T := TX4) (N := 5) (v := .int ((dm k).2.2.2.2)) hx hb hts in_X4 hown hE hI hdk rfl 4 (by decide) q408 (fun _ h9 => h9) rfl dX1_lamp_24 ?_
      refine lv_istore (lv' := [(4, .int ((dm k).2.2.2.2)), (3, .ref (dA k)), (0, .ref x), (1, .int d), (2, .int z)]) hx hb dX1_lamp_27 hl (by decide) rfl (fun ls hl => ?_)
      refine lv_aload_n hx hb dX1_lamp_29 rfl (lv_at hl 1 rfl) ?_
      refine lv_iload_n hx hb dX1_lamp_30 rfl (lv_at hl 4 rfl) ?_
      refine g_cv0 hS (va_runV (As := [.int z]) (rest := []) ⟨hx, hb, hml, hown, hts⟩ (m_change l E G (dA k) (1, 5, k) (dm k).1 (dm k).2.1 (dm k).2.2.1 (dm k).2.2.2.1 (dm k).2.2.2.2 hdk z) (cwV 1 hts (lw_V q560 q561 q562 q42 q563) rfl rfl rfl (by decide +kernel) ⟨Nat.le_of_ble_eq_true rfl, Nat.le_of_ble_eq_true rfl⟩) (g_preV hE hI (g_recv hE hI hdk rfl)) rfl rfl hl.1 rfl (lv_room (Nat.le_of_ble_eq_true rfl)) dX1_lamp_31 ⟨Nat.le_of_ble_eq_true rfl, Nat.le_of_ble_eq_true rfl⟩) (fun H locs hI hS => ?_)
      refine lv_iload hx hb dX1_lamp_34 (lv_at hl 0 rfl) ?_
      have hz := hR.setD (j := k) hkn ((dm k).1, (dm k).2.1, lvEnd (dm k).2.2.1 z, (dm k).2.2.2.1, z)
      refine vx_ret ?_
      exact g_iret hx hb hr hlk hI hS dX1_lamp_36 (Nat.le_of_ble_eq_true rfl) (Nat.le_of_ble_eq_true rfl) (⟨(if_neg hno1).trans (if_neg hc2), by rw [hcl], _, by unfold lamS setDm; rw [hcl]; exact hXR.con hz.2 hz.1 rfl, hz.2.sys1⟩)
